/-! java/lang/AbstractStringBuilder -/
set_option maxRecDepth 100000
def RJ8 : String := "java/lang/AbstractStringBuilder"
abbrev cJ8_init : ByteArray := prog_21_method_2_code
def yJ8_init : MethodName := ⟨RJ8, "<init>", "(I)V"⟩
def dkwJ8_init_1 : List UInt8 := [167, 0, 16, 42, 27, 184, 0, 26, 181, 0, 15, 42, 4, 181, 0, 22, 177]
abbrev dktJ8_init_1 : List UInt8 := dkwJ8_init_1 ++ []
def dkwJ8_init_0 : List UInt8 := [42, 183, 0, 3, 178, 0, 18, 153, 0, 18, 42, 27, 188, 8, 181, 0, 15, 42, 3, 181, 0, 22]
abbrev dktJ8_init_0 : List UInt8 := dkwJ8_init_0 ++ dktJ8_init_1
theorem dksJ8_init_0 : cJ8_init.data.toList.drop 0 = dktJ8_init_0 := by decide +kernel
theorem dksJ8_init_1 : cJ8_init.data.toList.drop 22 = dktJ8_init_1 := dk_seg dksJ8_init_0 22 rfl rfl
theorem dJ8_init_0 : decode cJ8_init 0 = .ok (.aload_n 0, 1) := dk_42 (dk_at dksJ8_init_0 0 rfl rfl)
theorem dJ8_init_1 : decode cJ8_init 1 = .ok (.invokespecial 3, 3) := dk_183 0 3 (dk_at dksJ8_init_0 1 rfl rfl)
theorem dJ8_init_4 : decode cJ8_init 4 = .ok (.getstatic 18, 3) := dk_178 0 18 (dk_at dksJ8_init_0 4 rfl rfl)
theorem dJ8_init_7 : decode cJ8_init 7 = .ok (.ifCond .eq 18, 3) := dk_153 0 18 (dk_at dksJ8_init_0 7 rfl rfl)
theorem dJ8_init_10 : decode cJ8_init 10 = .ok (.aload_n 0, 1) := dk_42 (dk_at dksJ8_init_0 10 rfl rfl)
theorem dJ8_init_11 : decode cJ8_init 11 = .ok (.iload_n 1, 1) := dk_27 (dk_at dksJ8_init_0 11 rfl rfl)
theorem dJ8_init_12 : decode cJ8_init 12 = .ok (.newarray .byte, 2) := dk_188_8 (dk_at dksJ8_init_0 12 rfl rfl)
theorem dJ8_init_14 : decode cJ8_init 14 = .ok (.putfield 15, 3) := dk_181 0 15 (dk_at dksJ8_init_0 14 rfl rfl)
theorem dJ8_init_17 : decode cJ8_init 17 = .ok (.aload_n 0, 1) := dk_42 (dk_at dksJ8_init_0 17 rfl rfl)
theorem dJ8_init_18 : decode cJ8_init 18 = .ok (.iconst 0, 1) := dk_3 (dk_at dksJ8_init_0 18 rfl rfl)
theorem dJ8_init_19 : decode cJ8_init 19 = .ok (.putfield 22, 3) := dk_181 0 22 (dk_at dksJ8_init_0 19 rfl rfl)
theorem dJ8_init_22 : decode cJ8_init 22 = .ok (.goto 16, 3) := dk_167 0 16 (dk_at dksJ8_init_1 0 rfl rfl)
theorem dJ8_init_25 : decode cJ8_init 25 = .ok (.aload_n 0, 1) := dk_42 (dk_at dksJ8_init_1 3 rfl rfl)
theorem dJ8_init_26 : decode cJ8_init 26 = .ok (.iload_n 1, 1) := dk_27 (dk_at dksJ8_init_1 4 rfl rfl)
theorem dJ8_init_27 : decode cJ8_init 27 = .ok (.invokestatic 26, 3) := dk_184 0 26 (dk_at dksJ8_init_1 5 rfl rfl)
theorem dJ8_init_30 : decode cJ8_init 30 = .ok (.putfield 15, 3) := dk_181 0 15 (dk_at dksJ8_init_1 8 rfl rfl)
theorem dJ8_init_33 : decode cJ8_init 33 = .ok (.aload_n 0, 1) := dk_42 (dk_at dksJ8_init_1 11 rfl rfl)
theorem dJ8_init_34 : decode cJ8_init 34 = .ok (.iconst 1, 1) := dk_4 (dk_at dksJ8_init_1 12 rfl rfl)
theorem dJ8_init_35 : decode cJ8_init 35 = .ok (.putfield 22, 3) := dk_181 0 22 (dk_at dksJ8_init_1 13 rfl rfl)
theorem dJ8_init_38 : decode cJ8_init 38 = .ok (.return_, 1) := dk_177 (dk_at dksJ8_init_1 16 rfl rfl)
abbrev cJ8_append : ByteArray := prog_21_method_22_code
def yJ8_append : MethodName := ⟨RJ8, "append", "(Ljava/lang/String;)Ljava/lang/AbstractStringBuilder;"⟩
def dkwJ8_append_1 : List UInt8 := [42, 42, 180, 0, 79, 43, 182, 0, 208, 42, 89, 180, 0, 79, 28, 96, 181, 0, 79, 42, 176]
abbrev dktJ8_append_1 : List UInt8 := dkwJ8_append_1 ++ []
def dkwJ8_append_0 : List UInt8 := [43, 199, 0, 8, 42, 182, 0, 204, 176, 43, 182, 0, 32, 61, 42, 42, 180, 0, 79, 28, 96, 182, 0, 100]
abbrev dktJ8_append_0 : List UInt8 := dkwJ8_append_0 ++ dktJ8_append_1
theorem dksJ8_append_0 : cJ8_append.data.toList.drop 0 = dktJ8_append_0 := by decide +kernel
theorem dksJ8_append_1 : cJ8_append.data.toList.drop 24 = dktJ8_append_1 := dk_seg dksJ8_append_0 24 rfl rfl
theorem dJ8_append_0 : decode cJ8_append 0 = .ok (.aload_n 1, 1) := dk_43 (dk_at dksJ8_append_0 0 rfl rfl)
theorem dJ8_append_1 : decode cJ8_append 1 = .ok (.ifnonnull 8, 3) := dk_199 0 8 (dk_at dksJ8_append_0 1 rfl rfl)
theorem dJ8_append_4 : decode cJ8_append 4 = .ok (.aload_n 0, 1) := dk_42 (dk_at dksJ8_append_0 4 rfl rfl)
theorem dJ8_append_5 : decode cJ8_append 5 = .ok (.invokevirtual 204, 3) := dk_182 0 204 (dk_at dksJ8_append_0 5 rfl rfl)
theorem dJ8_append_8 : decode cJ8_append 8 = .ok (.areturn, 1) := dk_176 (dk_at dksJ8_append_0 8 rfl rfl)
theorem dJ8_append_9 : decode cJ8_append 9 = .ok (.aload_n 1, 1) := dk_43 (dk_at dksJ8_append_0 9 rfl rfl)
theorem dJ8_append_10 : decode cJ8_append 10 = .ok (.invokevirtual 32, 3) := dk_182 0 32 (dk_at dksJ8_append_0 10 rfl rfl)
theorem dJ8_append_13 : decode cJ8_append 13 = .ok (.istore_n 2, 1) := dk_61 (dk_at dksJ8_append_0 13 rfl rfl)
theorem dJ8_append_14 : decode cJ8_append 14 = .ok (.aload_n 0, 1) := dk_42 (dk_at dksJ8_append_0 14 rfl rfl)
theorem dJ8_append_15 : decode cJ8_append 15 = .ok (.aload_n 0, 1) := dk_42 (dk_at dksJ8_append_0 15 rfl rfl)
theorem dJ8_append_16 : decode cJ8_append 16 = .ok (.getfield 79, 3) := dk_180 0 79 (dk_at dksJ8_append_0 16 rfl rfl)
theorem dJ8_append_19 : decode cJ8_append 19 = .ok (.iload_n 2, 1) := dk_28 (dk_at dksJ8_append_0 19 rfl rfl)
theorem dJ8_append_20 : decode cJ8_append 20 = .ok (.iadd, 1) := dk_96 (dk_at dksJ8_append_0 20 rfl rfl)
theorem dJ8_append_21 : decode cJ8_append 21 = .ok (.invokevirtual 100, 3) := dk_182 0 100 (dk_at dksJ8_append_0 21 rfl rfl)
theorem dJ8_append_24 : decode cJ8_append 24 = .ok (.aload_n 0, 1) := dk_42 (dk_at dksJ8_append_1 0 rfl rfl)
theorem dJ8_append_25 : decode cJ8_append 25 = .ok (.aload_n 0, 1) := dk_42 (dk_at dksJ8_append_1 1 rfl rfl)
theorem dJ8_append_26 : decode cJ8_append 26 = .ok (.getfield 79, 3) := dk_180 0 79 (dk_at dksJ8_append_1 2 rfl rfl)
theorem dJ8_append_29 : decode cJ8_append 29 = .ok (.aload_n 1, 1) := dk_43 (dk_at dksJ8_append_1 5 rfl rfl)
theorem dJ8_append_30 : decode cJ8_append 30 = .ok (.invokevirtual 208, 3) := dk_182 0 208 (dk_at dksJ8_append_1 6 rfl rfl)
theorem dJ8_append_33 : decode cJ8_append 33 = .ok (.aload_n 0, 1) := dk_42 (dk_at dksJ8_append_1 9 rfl rfl)
theorem dJ8_append_34 : decode cJ8_append 34 = .ok (.dup, 1) := dk_89 (dk_at dksJ8_append_1 10 rfl rfl)
theorem dJ8_append_35 : decode cJ8_append 35 = .ok (.getfield 79, 3) := dk_180 0 79 (dk_at dksJ8_append_1 11 rfl rfl)
theorem dJ8_append_38 : decode cJ8_append 38 = .ok (.iload_n 2, 1) := dk_28 (dk_at dksJ8_append_1 14 rfl rfl)
theorem dJ8_append_39 : decode cJ8_append 39 = .ok (.iadd, 1) := dk_96 (dk_at dksJ8_append_1 15 rfl rfl)
theorem dJ8_append_40 : decode cJ8_append 40 = .ok (.putfield 79, 3) := dk_181 0 79 (dk_at dksJ8_append_1 16 rfl rfl)
theorem dJ8_append_43 : decode cJ8_append 43 = .ok (.aload_n 0, 1) := dk_42 (dk_at dksJ8_append_1 19 rfl rfl)
theorem dJ8_append_44 : decode cJ8_append 44 = .ok (.areturn, 1) := dk_176 (dk_at dksJ8_append_1 20 rfl rfl)
abbrev cJ8_appendNull : ByteArray := prog_21_method_26_code
def yJ8_appendNull : MethodName := ⟨RJ8, "appendNull", "()Ljava/lang/AbstractStringBuilder;"⟩
def dkwJ8_appendNull_3 : List UInt8 := [184, 0, 226, 60, 42, 27, 181, 0, 79, 42, 176]
abbrev dktJ8_appendNull_3 : List UInt8 := dkwJ8_appendNull_3 ++ []
def dkwJ8_appendNull_2 : List UInt8 := [16, 108, 84, 44, 27, 132, 1, 1, 16, 108, 84, 167, 0, 17, 44, 27, 16, 110, 16, 117, 16, 108, 16, 108]
abbrev dktJ8_appendNull_2 : List UInt8 := dkwJ8_appendNull_2 ++ dktJ8_appendNull_3
def dkwJ8_appendNull_1 : List UInt8 := [153, 0, 38, 44, 27, 132, 1, 1, 16, 110, 84, 44, 27, 132, 1, 1, 16, 117, 84, 44, 27, 132, 1, 1]
abbrev dktJ8_appendNull_1 : List UInt8 := dkwJ8_appendNull_1 ++ dktJ8_appendNull_2
def dkwJ8_appendNull_0 : List UInt8 := [42, 42, 180, 0, 79, 7, 96, 182, 0, 100, 42, 180, 0, 79, 60, 42, 180, 0, 15, 77, 42, 182, 0, 83]
abbrev dktJ8_appendNull_0 : List UInt8 := dkwJ8_appendNull_0 ++ dktJ8_appendNull_1
theorem dksJ8_appendNull_0 : cJ8_appendNull.data.toList.drop 0 = dktJ8_appendNull_0 := by decide +kernel
theorem dksJ8_appendNull_1 : cJ8_appendNull.data.toList.drop 24 = dktJ8_appendNull_1 := dk_seg dksJ8_appendNull_0 24 rfl rfl
theorem dksJ8_appendNull_2 : cJ8_appendNull.data.toList.drop 48 = dktJ8_appendNull_2 := dk_seg dksJ8_appendNull_1 24 rfl rfl
theorem dksJ8_appendNull_3 : cJ8_appendNull.data.toList.drop 72 = dktJ8_appendNull_3 := dk_seg dksJ8_appendNull_2 24 rfl rfl
theorem dJ8_appendNull_0 : decode cJ8_appendNull 0 = .ok (.aload_n 0, 1) := dk_42 (dk_at dksJ8_appendNull_0 0 rfl rfl)
theorem dJ8_appendNull_1 : decode cJ8_appendNull 1 = .ok (.aload_n 0, 1) := dk_42 (dk_at dksJ8_appendNull_0 1 rfl rfl)
theorem dJ8_appendNull_2 : decode cJ8_appendNull 2 = .ok (.getfield 79, 3) := dk_180 0 79 (dk_at dksJ8_appendNull_0 2 rfl rfl)
theorem dJ8_appendNull_5 : decode cJ8_appendNull 5 = .ok (.iconst 4, 1) := dk_7 (dk_at dksJ8_appendNull_0 5 rfl rfl)
theorem dJ8_appendNull_6 : decode cJ8_appendNull 6 = .ok (.iadd, 1) := dk_96 (dk_at dksJ8_appendNull_0 6 rfl rfl)
theorem dJ8_appendNull_7 : decode cJ8_appendNull 7 = .ok (.invokevirtual 100, 3) := dk_182 0 100 (dk_at dksJ8_appendNull_0 7 rfl rfl)
theorem dJ8_appendNull_10 : decode cJ8_appendNull 10 = .ok (.aload_n 0, 1) := dk_42 (dk_at dksJ8_appendNull_0 10 rfl rfl)
theorem dJ8_appendNull_11 : decode cJ8_appendNull 11 = .ok (.getfield 79, 3) := dk_180 0 79 (dk_at dksJ8_appendNull_0 11 rfl rfl)
theorem dJ8_appendNull_14 : decode cJ8_appendNull 14 = .ok (.istore_n 1, 1) := dk_60 (dk_at dksJ8_appendNull_0 14 rfl rfl)
theorem dJ8_appendNull_15 : decode cJ8_appendNull 15 = .ok (.aload_n 0, 1) := dk_42 (dk_at dksJ8_appendNull_0 15 rfl rfl)
theorem dJ8_appendNull_16 : decode cJ8_appendNull 16 = .ok (.getfield 15, 3) := dk_180 0 15 (dk_at dksJ8_appendNull_0 16 rfl rfl)
theorem dJ8_appendNull_19 : decode cJ8_appendNull 19 = .ok (.astore_n 2, 1) := dk_77 (dk_at dksJ8_appendNull_0 19 rfl rfl)
theorem dJ8_appendNull_20 : decode cJ8_appendNull 20 = .ok (.aload_n 0, 1) := dk_42 (dk_at dksJ8_appendNull_0 20 rfl rfl)
theorem dJ8_appendNull_21 : decode cJ8_appendNull 21 = .ok (.invokevirtual 83, 3) := dk_182 0 83 (dk_at dksJ8_appendNull_0 21 rfl rfl)
theorem dJ8_appendNull_24 : decode cJ8_appendNull 24 = .ok (.ifCond .eq 38, 3) := dk_153 0 38 (dk_at dksJ8_appendNull_1 0 rfl rfl)
theorem dJ8_appendNull_27 : decode cJ8_appendNull 27 = .ok (.aload_n 2, 1) := dk_44 (dk_at dksJ8_appendNull_1 3 rfl rfl)
theorem dJ8_appendNull_28 : decode cJ8_appendNull 28 = .ok (.iload_n 1, 1) := dk_27 (dk_at dksJ8_appendNull_1 4 rfl rfl)
theorem dJ8_appendNull_29 : decode cJ8_appendNull 29 = .ok (.iinc 1 1, 3) := dk_132 1 1 (dk_at dksJ8_appendNull_1 5 rfl rfl)
theorem dJ8_appendNull_32 : decode cJ8_appendNull 32 = .ok (.bipush 110, 2) := dk_16 110 (dk_at dksJ8_appendNull_1 8 rfl rfl)
theorem dJ8_appendNull_34 : decode cJ8_appendNull 34 = .ok (.bastore, 1) := dk_84 (dk_at dksJ8_appendNull_1 10 rfl rfl)
theorem dJ8_appendNull_35 : decode cJ8_appendNull 35 = .ok (.aload_n 2, 1) := dk_44 (dk_at dksJ8_appendNull_1 11 rfl rfl)
theorem dJ8_appendNull_36 : decode cJ8_appendNull 36 = .ok (.iload_n 1, 1) := dk_27 (dk_at dksJ8_appendNull_1 12 rfl rfl)
theorem dJ8_appendNull_37 : decode cJ8_appendNull 37 = .ok (.iinc 1 1, 3) := dk_132 1 1 (dk_at dksJ8_appendNull_1 13 rfl rfl)
theorem dJ8_appendNull_40 : decode cJ8_appendNull 40 = .ok (.bipush 117, 2) := dk_16 117 (dk_at dksJ8_appendNull_1 16 rfl rfl)
theorem dJ8_appendNull_42 : decode cJ8_appendNull 42 = .ok (.bastore, 1) := dk_84 (dk_at dksJ8_appendNull_1 18 rfl rfl)
theorem dJ8_appendNull_43 : decode cJ8_appendNull 43 = .ok (.aload_n 2, 1) := dk_44 (dk_at dksJ8_appendNull_1 19 rfl rfl)
theorem dJ8_appendNull_44 : decode cJ8_appendNull 44 = .ok (.iload_n 1, 1) := dk_27 (dk_at dksJ8_appendNull_1 20 rfl rfl)
theorem dJ8_appendNull_45 : decode cJ8_appendNull 45 = .ok (.iinc 1 1, 3) := dk_132 1 1 (dk_at dksJ8_appendNull_1 21 rfl rfl)
theorem dJ8_appendNull_48 : decode cJ8_appendNull 48 = .ok (.bipush 108, 2) := dk_16 108 (dk_at dksJ8_appendNull_2 0 rfl rfl)
theorem dJ8_appendNull_50 : decode cJ8_appendNull 50 = .ok (.bastore, 1) := dk_84 (dk_at dksJ8_appendNull_2 2 rfl rfl)
theorem dJ8_appendNull_51 : decode cJ8_appendNull 51 = .ok (.aload_n 2, 1) := dk_44 (dk_at dksJ8_appendNull_2 3 rfl rfl)
theorem dJ8_appendNull_52 : decode cJ8_appendNull 52 = .ok (.iload_n 1, 1) := dk_27 (dk_at dksJ8_appendNull_2 4 rfl rfl)
theorem dJ8_appendNull_53 : decode cJ8_appendNull 53 = .ok (.iinc 1 1, 3) := dk_132 1 1 (dk_at dksJ8_appendNull_2 5 rfl rfl)
theorem dJ8_appendNull_56 : decode cJ8_appendNull 56 = .ok (.bipush 108, 2) := dk_16 108 (dk_at dksJ8_appendNull_2 8 rfl rfl)
theorem dJ8_appendNull_58 : decode cJ8_appendNull 58 = .ok (.bastore, 1) := dk_84 (dk_at dksJ8_appendNull_2 10 rfl rfl)
theorem dJ8_appendNull_59 : decode cJ8_appendNull 59 = .ok (.goto 17, 3) := dk_167 0 17 (dk_at dksJ8_appendNull_2 11 rfl rfl)
theorem dJ8_appendNull_62 : decode cJ8_appendNull 62 = .ok (.aload_n 2, 1) := dk_44 (dk_at dksJ8_appendNull_2 14 rfl rfl)
theorem dJ8_appendNull_63 : decode cJ8_appendNull 63 = .ok (.iload_n 1, 1) := dk_27 (dk_at dksJ8_appendNull_2 15 rfl rfl)
theorem dJ8_appendNull_64 : decode cJ8_appendNull 64 = .ok (.bipush 110, 2) := dk_16 110 (dk_at dksJ8_appendNull_2 16 rfl rfl)
theorem dJ8_appendNull_66 : decode cJ8_appendNull 66 = .ok (.bipush 117, 2) := dk_16 117 (dk_at dksJ8_appendNull_2 18 rfl rfl)
theorem dJ8_appendNull_68 : decode cJ8_appendNull 68 = .ok (.bipush 108, 2) := dk_16 108 (dk_at dksJ8_appendNull_2 20 rfl rfl)
theorem dJ8_appendNull_70 : decode cJ8_appendNull 70 = .ok (.bipush 108, 2) := dk_16 108 (dk_at dksJ8_appendNull_2 22 rfl rfl)
theorem dJ8_appendNull_72 : decode cJ8_appendNull 72 = .ok (.invokestatic 226, 3) := dk_184 0 226 (dk_at dksJ8_appendNull_3 0 rfl rfl)
theorem dJ8_appendNull_75 : decode cJ8_appendNull 75 = .ok (.istore_n 1, 1) := dk_60 (dk_at dksJ8_appendNull_3 3 rfl rfl)
theorem dJ8_appendNull_76 : decode cJ8_appendNull 76 = .ok (.aload_n 0, 1) := dk_42 (dk_at dksJ8_appendNull_3 4 rfl rfl)
theorem dJ8_appendNull_77 : decode cJ8_appendNull 77 = .ok (.iload_n 1, 1) := dk_27 (dk_at dksJ8_appendNull_3 5 rfl rfl)
theorem dJ8_appendNull_78 : decode cJ8_appendNull 78 = .ok (.putfield 79, 3) := dk_181 0 79 (dk_at dksJ8_appendNull_3 6 rfl rfl)
theorem dJ8_appendNull_81 : decode cJ8_appendNull 81 = .ok (.aload_n 0, 1) := dk_42 (dk_at dksJ8_appendNull_3 9 rfl rfl)
theorem dJ8_appendNull_82 : decode cJ8_appendNull 82 = .ok (.areturn, 1) := dk_176 (dk_at dksJ8_appendNull_3 10 rfl rfl)
abbrev cJ8_ensureCapacityInternal : ByteArray := prog_21_method_9_code
def yJ8_ensureCapacityInternal : MethodName := ⟨RJ8, "ensureCapacityInternal", "(I)V"⟩
def dkwJ8_ensureCapacityInternal_1 : List UInt8 := [182, 0, 104, 42, 180, 0, 22, 120, 184, 0, 108, 181, 0, 15, 177]
abbrev dktJ8_ensureCapacityInternal_1 : List UInt8 := dkwJ8_ensureCapacityInternal_1 ++ []
def dkwJ8_ensureCapacityInternal_0 : List UInt8 := [42, 180, 0, 15, 190, 42, 180, 0, 22, 122, 61, 27, 28, 100, 158, 0, 24, 42, 42, 180, 0, 15, 42, 27]
abbrev dktJ8_ensureCapacityInternal_0 : List UInt8 := dkwJ8_ensureCapacityInternal_0 ++ dktJ8_ensureCapacityInternal_1
theorem dksJ8_ensureCapacityInternal_0 : cJ8_ensureCapacityInternal.data.toList.drop 0 = dktJ8_ensureCapacityInternal_0 := by decide +kernel
theorem dksJ8_ensureCapacityInternal_1 : cJ8_ensureCapacityInternal.data.toList.drop 24 = dktJ8_ensureCapacityInternal_1 := dk_seg dksJ8_ensureCapacityInternal_0 24 rfl rfl
theorem dJ8_ensureCapacityInternal_0 : decode cJ8_ensureCapacityInternal 0 = .ok (.aload_n 0, 1) := dk_42 (dk_at dksJ8_ensureCapacityInternal_0 0 rfl rfl)
theorem dJ8_ensureCapacityInternal_1 : decode cJ8_ensureCapacityInternal 1 = .ok (.getfield 15, 3) := dk_180 0 15 (dk_at dksJ8_ensureCapacityInternal_0 1 rfl rfl)
theorem dJ8_ensureCapacityInternal_4 : decode cJ8_ensureCapacityInternal 4 = .ok (.arraylength, 1) := dk_190 (dk_at dksJ8_ensureCapacityInternal_0 4 rfl rfl)
theorem dJ8_ensureCapacityInternal_5 : decode cJ8_ensureCapacityInternal 5 = .ok (.aload_n 0, 1) := dk_42 (dk_at dksJ8_ensureCapacityInternal_0 5 rfl rfl)
theorem dJ8_ensureCapacityInternal_6 : decode cJ8_ensureCapacityInternal 6 = .ok (.getfield 22, 3) := dk_180 0 22 (dk_at dksJ8_ensureCapacityInternal_0 6 rfl rfl)
theorem dJ8_ensureCapacityInternal_9 : decode cJ8_ensureCapacityInternal 9 = .ok (.ishr, 1) := dk_122 (dk_at dksJ8_ensureCapacityInternal_0 9 rfl rfl)
theorem dJ8_ensureCapacityInternal_10 : decode cJ8_ensureCapacityInternal 10 = .ok (.istore_n 2, 1) := dk_61 (dk_at dksJ8_ensureCapacityInternal_0 10 rfl rfl)
theorem dJ8_ensureCapacityInternal_11 : decode cJ8_ensureCapacityInternal 11 = .ok (.iload_n 1, 1) := dk_27 (dk_at dksJ8_ensureCapacityInternal_0 11 rfl rfl)
theorem dJ8_ensureCapacityInternal_12 : decode cJ8_ensureCapacityInternal 12 = .ok (.iload_n 2, 1) := dk_28 (dk_at dksJ8_ensureCapacityInternal_0 12 rfl rfl)
theorem dJ8_ensureCapacityInternal_13 : decode cJ8_ensureCapacityInternal 13 = .ok (.isub, 1) := dk_100 (dk_at dksJ8_ensureCapacityInternal_0 13 rfl rfl)
theorem dJ8_ensureCapacityInternal_14 : decode cJ8_ensureCapacityInternal 14 = .ok (.ifCond .le 24, 3) := dk_158 0 24 (dk_at dksJ8_ensureCapacityInternal_0 14 rfl rfl)
theorem dJ8_ensureCapacityInternal_17 : decode cJ8_ensureCapacityInternal 17 = .ok (.aload_n 0, 1) := dk_42 (dk_at dksJ8_ensureCapacityInternal_0 17 rfl rfl)
theorem dJ8_ensureCapacityInternal_18 : decode cJ8_ensureCapacityInternal 18 = .ok (.aload_n 0, 1) := dk_42 (dk_at dksJ8_ensureCapacityInternal_0 18 rfl rfl)
theorem dJ8_ensureCapacityInternal_19 : decode cJ8_ensureCapacityInternal 19 = .ok (.getfield 15, 3) := dk_180 0 15 (dk_at dksJ8_ensureCapacityInternal_0 19 rfl rfl)
theorem dJ8_ensureCapacityInternal_22 : decode cJ8_ensureCapacityInternal 22 = .ok (.aload_n 0, 1) := dk_42 (dk_at dksJ8_ensureCapacityInternal_0 22 rfl rfl)
theorem dJ8_ensureCapacityInternal_23 : decode cJ8_ensureCapacityInternal 23 = .ok (.iload_n 1, 1) := dk_27 (dk_at dksJ8_ensureCapacityInternal_0 23 rfl rfl)
theorem dJ8_ensureCapacityInternal_24 : decode cJ8_ensureCapacityInternal 24 = .ok (.invokevirtual 104, 3) := dk_182 0 104 (dk_at dksJ8_ensureCapacityInternal_1 0 rfl rfl)
theorem dJ8_ensureCapacityInternal_27 : decode cJ8_ensureCapacityInternal 27 = .ok (.aload_n 0, 1) := dk_42 (dk_at dksJ8_ensureCapacityInternal_1 3 rfl rfl)
theorem dJ8_ensureCapacityInternal_28 : decode cJ8_ensureCapacityInternal 28 = .ok (.getfield 22, 3) := dk_180 0 22 (dk_at dksJ8_ensureCapacityInternal_1 4 rfl rfl)
theorem dJ8_ensureCapacityInternal_31 : decode cJ8_ensureCapacityInternal 31 = .ok (.ishl, 1) := dk_120 (dk_at dksJ8_ensureCapacityInternal_1 7 rfl rfl)
theorem dJ8_ensureCapacityInternal_32 : decode cJ8_ensureCapacityInternal 32 = .ok (.invokestatic 108, 3) := dk_184 0 108 (dk_at dksJ8_ensureCapacityInternal_1 8 rfl rfl)
theorem dJ8_ensureCapacityInternal_35 : decode cJ8_ensureCapacityInternal 35 = .ok (.putfield 15, 3) := dk_181 0 15 (dk_at dksJ8_ensureCapacityInternal_1 11 rfl rfl)
theorem dJ8_ensureCapacityInternal_38 : decode cJ8_ensureCapacityInternal 38 = .ok (.return_, 1) := dk_177 (dk_at dksJ8_ensureCapacityInternal_1 14 rfl rfl)
abbrev cJ8_newCapacity : ByteArray := prog_21_method_10_code
def yJ8_newCapacity : MethodName := ⟨RJ8, "newCapacity", "(I)I"⟩
def dkwJ8_newCapacity_2 : List UInt8 := [183, 0, 124, 191, 21, 5, 42, 180, 0, 22, 122, 172]
abbrev dktJ8_newCapacity_2 : List UInt8 := dkwJ8_newCapacity_2 ++ []
def dkwJ8_newCapacity_1 : List UInt8 := [180, 0, 22, 120, 96, 184, 0, 114, 54, 5, 21, 5, 18, 39, 160, 0, 13, 187, 0, 120, 89, 18, 122]
abbrev dktJ8_newCapacity_1 : List UInt8 := dkwJ8_newCapacity_1 ++ dktJ8_newCapacity_2
def dkwJ8_newCapacity_0 : List UInt8 := [42, 180, 0, 15, 190, 61, 27, 42, 180, 0, 22, 120, 62, 29, 28, 100, 54, 4, 28, 21, 4, 28, 5, 42]
abbrev dktJ8_newCapacity_0 : List UInt8 := dkwJ8_newCapacity_0 ++ dktJ8_newCapacity_1
theorem dksJ8_newCapacity_0 : cJ8_newCapacity.data.toList.drop 0 = dktJ8_newCapacity_0 := by decide +kernel
theorem dksJ8_newCapacity_1 : cJ8_newCapacity.data.toList.drop 24 = dktJ8_newCapacity_1 := dk_seg dksJ8_newCapacity_0 24 rfl rfl
theorem dksJ8_newCapacity_2 : cJ8_newCapacity.data.toList.drop 47 = dktJ8_newCapacity_2 := dk_seg dksJ8_newCapacity_1 23 rfl rfl
theorem dJ8_newCapacity_0 : decode cJ8_newCapacity 0 = .ok (.aload_n 0, 1) := dk_42 (dk_at dksJ8_newCapacity_0 0 rfl rfl)
theorem dJ8_newCapacity_1 : decode cJ8_newCapacity 1 = .ok (.getfield 15, 3) := dk_180 0 15 (dk_at dksJ8_newCapacity_0 1 rfl rfl)
theorem dJ8_newCapacity_4 : decode cJ8_newCapacity 4 = .ok (.arraylength, 1) := dk_190 (dk_at dksJ8_newCapacity_0 4 rfl rfl)
theorem dJ8_newCapacity_5 : decode cJ8_newCapacity 5 = .ok (.istore_n 2, 1) := dk_61 (dk_at dksJ8_newCapacity_0 5 rfl rfl)
theorem dJ8_newCapacity_6 : decode cJ8_newCapacity 6 = .ok (.iload_n 1, 1) := dk_27 (dk_at dksJ8_newCapacity_0 6 rfl rfl)
theorem dJ8_newCapacity_7 : decode cJ8_newCapacity 7 = .ok (.aload_n 0, 1) := dk_42 (dk_at dksJ8_newCapacity_0 7 rfl rfl)
theorem dJ8_newCapacity_8 : decode cJ8_newCapacity 8 = .ok (.getfield 22, 3) := dk_180 0 22 (dk_at dksJ8_newCapacity_0 8 rfl rfl)
theorem dJ8_newCapacity_11 : decode cJ8_newCapacity 11 = .ok (.ishl, 1) := dk_120 (dk_at dksJ8_newCapacity_0 11 rfl rfl)
theorem dJ8_newCapacity_12 : decode cJ8_newCapacity 12 = .ok (.istore_n 3, 1) := dk_62 (dk_at dksJ8_newCapacity_0 12 rfl rfl)
theorem dJ8_newCapacity_13 : decode cJ8_newCapacity 13 = .ok (.iload_n 3, 1) := dk_29 (dk_at dksJ8_newCapacity_0 13 rfl rfl)
theorem dJ8_newCapacity_14 : decode cJ8_newCapacity 14 = .ok (.iload_n 2, 1) := dk_28 (dk_at dksJ8_newCapacity_0 14 rfl rfl)
theorem dJ8_newCapacity_15 : decode cJ8_newCapacity 15 = .ok (.isub, 1) := dk_100 (dk_at dksJ8_newCapacity_0 15 rfl rfl)
theorem dJ8_newCapacity_16 : decode cJ8_newCapacity 16 = .ok (.istore 4, 2) := dk_54 4 (dk_at dksJ8_newCapacity_0 16 rfl rfl)
theorem dJ8_newCapacity_18 : decode cJ8_newCapacity 18 = .ok (.iload_n 2, 1) := dk_28 (dk_at dksJ8_newCapacity_0 18 rfl rfl)
theorem dJ8_newCapacity_19 : decode cJ8_newCapacity 19 = .ok (.iload 4, 2) := dk_21 4 (dk_at dksJ8_newCapacity_0 19 rfl rfl)
theorem dJ8_newCapacity_21 : decode cJ8_newCapacity 21 = .ok (.iload_n 2, 1) := dk_28 (dk_at dksJ8_newCapacity_0 21 rfl rfl)
theorem dJ8_newCapacity_22 : decode cJ8_newCapacity 22 = .ok (.iconst 2, 1) := dk_5 (dk_at dksJ8_newCapacity_0 22 rfl rfl)
theorem dJ8_newCapacity_23 : decode cJ8_newCapacity 23 = .ok (.aload_n 0, 1) := dk_42 (dk_at dksJ8_newCapacity_0 23 rfl rfl)
theorem dJ8_newCapacity_24 : decode cJ8_newCapacity 24 = .ok (.getfield 22, 3) := dk_180 0 22 (dk_at dksJ8_newCapacity_1 0 rfl rfl)
theorem dJ8_newCapacity_27 : decode cJ8_newCapacity 27 = .ok (.ishl, 1) := dk_120 (dk_at dksJ8_newCapacity_1 3 rfl rfl)
theorem dJ8_newCapacity_28 : decode cJ8_newCapacity 28 = .ok (.iadd, 1) := dk_96 (dk_at dksJ8_newCapacity_1 4 rfl rfl)
theorem dJ8_newCapacity_29 : decode cJ8_newCapacity 29 = .ok (.invokestatic 114, 3) := dk_184 0 114 (dk_at dksJ8_newCapacity_1 5 rfl rfl)
theorem dJ8_newCapacity_32 : decode cJ8_newCapacity 32 = .ok (.istore 5, 2) := dk_54 5 (dk_at dksJ8_newCapacity_1 8 rfl rfl)
theorem dJ8_newCapacity_34 : decode cJ8_newCapacity 34 = .ok (.iload 5, 2) := dk_21 5 (dk_at dksJ8_newCapacity_1 10 rfl rfl)
theorem dJ8_newCapacity_36 : decode cJ8_newCapacity 36 = .ok (.ldc 39, 2) := dk_18 39 (dk_at dksJ8_newCapacity_1 12 rfl rfl)
theorem dJ8_newCapacity_38 : decode cJ8_newCapacity 38 = .ok (.if_icmp .ne 13, 3) := dk_160 0 13 (dk_at dksJ8_newCapacity_1 14 rfl rfl)
theorem dJ8_newCapacity_41 : decode cJ8_newCapacity 41 = .ok (.new 120, 3) := dk_187 0 120 (dk_at dksJ8_newCapacity_1 17 rfl rfl)
theorem dJ8_newCapacity_44 : decode cJ8_newCapacity 44 = .ok (.dup, 1) := dk_89 (dk_at dksJ8_newCapacity_1 20 rfl rfl)
theorem dJ8_newCapacity_45 : decode cJ8_newCapacity 45 = .ok (.ldc 122, 2) := dk_18 122 (dk_at dksJ8_newCapacity_1 21 rfl rfl)
theorem dJ8_newCapacity_47 : decode cJ8_newCapacity 47 = .ok (.invokespecial 124, 3) := dk_183 0 124 (dk_at dksJ8_newCapacity_2 0 rfl rfl)
theorem dJ8_newCapacity_50 : decode cJ8_newCapacity 50 = .ok (.athrow, 1) := dk_191 (dk_at dksJ8_newCapacity_2 3 rfl rfl)
theorem dJ8_newCapacity_51 : decode cJ8_newCapacity 51 = .ok (.iload 5, 2) := dk_21 5 (dk_at dksJ8_newCapacity_2 4 rfl rfl)
theorem dJ8_newCapacity_53 : decode cJ8_newCapacity 53 = .ok (.aload_n 0, 1) := dk_42 (dk_at dksJ8_newCapacity_2 6 rfl rfl)
theorem dJ8_newCapacity_54 : decode cJ8_newCapacity 54 = .ok (.getfield 22, 3) := dk_180 0 22 (dk_at dksJ8_newCapacity_2 7 rfl rfl)
theorem dJ8_newCapacity_57 : decode cJ8_newCapacity 57 = .ok (.ishr, 1) := dk_122 (dk_at dksJ8_newCapacity_2 10 rfl rfl)
theorem dJ8_newCapacity_58 : decode cJ8_newCapacity 58 = .ok (.ireturn, 1) := dk_172 (dk_at dksJ8_newCapacity_2 11 rfl rfl)
abbrev cJ8_isLatin1 : ByteArray := prog_21_method_68_code
def yJ8_isLatin1 : MethodName := ⟨RJ8, "isLatin1", "()Z"⟩
def dkwJ8_isLatin1_0 : List UInt8 := [178, 0, 18, 153, 0, 14, 42, 180, 0, 22, 154, 0, 7, 4, 167, 0, 4, 3, 172]
abbrev dktJ8_isLatin1_0 : List UInt8 := dkwJ8_isLatin1_0 ++ []
theorem dksJ8_isLatin1_0 : cJ8_isLatin1.data.toList.drop 0 = dktJ8_isLatin1_0 := by decide +kernel
theorem dJ8_isLatin1_0 : decode cJ8_isLatin1 0 = .ok (.getstatic 18, 3) := dk_178 0 18 (dk_at dksJ8_isLatin1_0 0 rfl rfl)
theorem dJ8_isLatin1_3 : decode cJ8_isLatin1 3 = .ok (.ifCond .eq 14, 3) := dk_153 0 14 (dk_at dksJ8_isLatin1_0 3 rfl rfl)
theorem dJ8_isLatin1_6 : decode cJ8_isLatin1 6 = .ok (.aload_n 0, 1) := dk_42 (dk_at dksJ8_isLatin1_0 6 rfl rfl)
theorem dJ8_isLatin1_7 : decode cJ8_isLatin1 7 = .ok (.getfield 22, 3) := dk_180 0 22 (dk_at dksJ8_isLatin1_0 7 rfl rfl)
theorem dJ8_isLatin1_10 : decode cJ8_isLatin1 10 = .ok (.ifCond .ne 7, 3) := dk_154 0 7 (dk_at dksJ8_isLatin1_0 10 rfl rfl)
theorem dJ8_isLatin1_13 : decode cJ8_isLatin1 13 = .ok (.iconst 1, 1) := dk_4 (dk_at dksJ8_isLatin1_0 13 rfl rfl)
theorem dJ8_isLatin1_14 : decode cJ8_isLatin1 14 = .ok (.goto 4, 3) := dk_167 0 4 (dk_at dksJ8_isLatin1_0 14 rfl rfl)
theorem dJ8_isLatin1_17 : decode cJ8_isLatin1 17 = .ok (.iconst 0, 1) := dk_3 (dk_at dksJ8_isLatin1_0 17 rfl rfl)
theorem dJ8_isLatin1_18 : decode cJ8_isLatin1 18 = .ok (.ireturn, 1) := dk_172 (dk_at dksJ8_isLatin1_0 18 rfl rfl)
abbrev cJ8_putStringAt : ByteArray := prog_21_method_73_code
def yJ8_putStringAt : MethodName := ⟨RJ8, "putStringAt", "(ILjava/lang/String;)V"⟩
def dkwJ8_putStringAt_0 : List UInt8 := [42, 44, 182, 1, 141, 44, 42, 180, 0, 15, 27, 42, 180, 0, 22, 182, 1, 143, 177]
abbrev dktJ8_putStringAt_0 : List UInt8 := dkwJ8_putStringAt_0 ++ []
theorem dksJ8_putStringAt_0 : cJ8_putStringAt.data.toList.drop 0 = dktJ8_putStringAt_0 := by decide +kernel
theorem dJ8_putStringAt_0 : decode cJ8_putStringAt 0 = .ok (.aload_n 0, 1) := dk_42 (dk_at dksJ8_putStringAt_0 0 rfl rfl)
theorem dJ8_putStringAt_1 : decode cJ8_putStringAt 1 = .ok (.aload_n 2, 1) := dk_44 (dk_at dksJ8_putStringAt_0 1 rfl rfl)
theorem dJ8_putStringAt_2 : decode cJ8_putStringAt 2 = .ok (.invokevirtual 397, 3) := dk_182 1 141 (dk_at dksJ8_putStringAt_0 2 rfl rfl)
theorem dJ8_putStringAt_5 : decode cJ8_putStringAt 5 = .ok (.aload_n 2, 1) := dk_44 (dk_at dksJ8_putStringAt_0 5 rfl rfl)
theorem dJ8_putStringAt_6 : decode cJ8_putStringAt 6 = .ok (.aload_n 0, 1) := dk_42 (dk_at dksJ8_putStringAt_0 6 rfl rfl)
theorem dJ8_putStringAt_7 : decode cJ8_putStringAt 7 = .ok (.getfield 15, 3) := dk_180 0 15 (dk_at dksJ8_putStringAt_0 7 rfl rfl)
theorem dJ8_putStringAt_10 : decode cJ8_putStringAt 10 = .ok (.iload_n 1, 1) := dk_27 (dk_at dksJ8_putStringAt_0 10 rfl rfl)
theorem dJ8_putStringAt_11 : decode cJ8_putStringAt 11 = .ok (.aload_n 0, 1) := dk_42 (dk_at dksJ8_putStringAt_0 11 rfl rfl)
theorem dJ8_putStringAt_12 : decode cJ8_putStringAt 12 = .ok (.getfield 22, 3) := dk_180 0 22 (dk_at dksJ8_putStringAt_0 12 rfl rfl)
theorem dJ8_putStringAt_15 : decode cJ8_putStringAt 15 = .ok (.invokevirtual 399, 3) := dk_182 1 143 (dk_at dksJ8_putStringAt_0 15 rfl rfl)
theorem dJ8_putStringAt_18 : decode cJ8_putStringAt 18 = .ok (.return_, 1) := dk_177 (dk_at dksJ8_putStringAt_0 18 rfl rfl)
abbrev cJ8_inflateIfNeededFor : ByteArray := prog_21_method_71_code
def yJ8_inflateIfNeededFor : MethodName := ⟨RJ8, "inflateIfNeededFor", "(Ljava/lang/String;)V"⟩
def dkwJ8_inflateIfNeededFor_0 : List UInt8 := [178, 0, 18, 153, 0, 18, 42, 180, 0, 22, 43, 182, 0, 40, 159, 0, 7, 42, 182, 0, 195, 177]
abbrev dktJ8_inflateIfNeededFor_0 : List UInt8 := dkwJ8_inflateIfNeededFor_0 ++ []
theorem dksJ8_inflateIfNeededFor_0 : cJ8_inflateIfNeededFor.data.toList.drop 0 = dktJ8_inflateIfNeededFor_0 := by decide +kernel
theorem dJ8_inflateIfNeededFor_0 : decode cJ8_inflateIfNeededFor 0 = .ok (.getstatic 18, 3) := dk_178 0 18 (dk_at dksJ8_inflateIfNeededFor_0 0 rfl rfl)
theorem dJ8_inflateIfNeededFor_3 : decode cJ8_inflateIfNeededFor 3 = .ok (.ifCond .eq 18, 3) := dk_153 0 18 (dk_at dksJ8_inflateIfNeededFor_0 3 rfl rfl)
theorem dJ8_inflateIfNeededFor_6 : decode cJ8_inflateIfNeededFor 6 = .ok (.aload_n 0, 1) := dk_42 (dk_at dksJ8_inflateIfNeededFor_0 6 rfl rfl)
theorem dJ8_inflateIfNeededFor_7 : decode cJ8_inflateIfNeededFor 7 = .ok (.getfield 22, 3) := dk_180 0 22 (dk_at dksJ8_inflateIfNeededFor_0 7 rfl rfl)
theorem dJ8_inflateIfNeededFor_10 : decode cJ8_inflateIfNeededFor 10 = .ok (.aload_n 1, 1) := dk_43 (dk_at dksJ8_inflateIfNeededFor_0 10 rfl rfl)
theorem dJ8_inflateIfNeededFor_11 : decode cJ8_inflateIfNeededFor 11 = .ok (.invokevirtual 40, 3) := dk_182 0 40 (dk_at dksJ8_inflateIfNeededFor_0 11 rfl rfl)
theorem dJ8_inflateIfNeededFor_14 : decode cJ8_inflateIfNeededFor 14 = .ok (.if_icmp .eq 7, 3) := dk_159 0 7 (dk_at dksJ8_inflateIfNeededFor_0 14 rfl rfl)
theorem dJ8_inflateIfNeededFor_17 : decode cJ8_inflateIfNeededFor 17 = .ok (.aload_n 0, 1) := dk_42 (dk_at dksJ8_inflateIfNeededFor_0 17 rfl rfl)
theorem dJ8_inflateIfNeededFor_18 : decode cJ8_inflateIfNeededFor 18 = .ok (.invokevirtual 195, 3) := dk_182 0 195 (dk_at dksJ8_inflateIfNeededFor_0 18 rfl rfl)
theorem dJ8_inflateIfNeededFor_21 : decode cJ8_inflateIfNeededFor 21 = .ok (.return_, 1) := dk_177 (dk_at dksJ8_inflateIfNeededFor_0 21 rfl rfl)
abbrev cJ8_inflate : ByteArray := prog_21_method_11_code
def yJ8_inflate : MethodName := ⟨RJ8, "inflate", "()V"⟩
def dkwJ8_inflate_1 : List UInt8 := [42, 180, 0, 79, 184, 0, 125, 42, 43, 181, 0, 15, 42, 4, 181, 0, 22, 177]
abbrev dktJ8_inflate_1 : List UInt8 := dkwJ8_inflate_1 ++ []
def dkwJ8_inflate_0 : List UInt8 := [42, 182, 0, 83, 154, 0, 4, 177, 42, 180, 0, 15, 190, 184, 0, 26, 76, 42, 180, 0, 15, 3, 43, 3]
abbrev dktJ8_inflate_0 : List UInt8 := dkwJ8_inflate_0 ++ dktJ8_inflate_1
theorem dksJ8_inflate_0 : cJ8_inflate.data.toList.drop 0 = dktJ8_inflate_0 := by decide +kernel
theorem dksJ8_inflate_1 : cJ8_inflate.data.toList.drop 24 = dktJ8_inflate_1 := dk_seg dksJ8_inflate_0 24 rfl rfl
theorem dJ8_inflate_0 : decode cJ8_inflate 0 = .ok (.aload_n 0, 1) := dk_42 (dk_at dksJ8_inflate_0 0 rfl rfl)
theorem dJ8_inflate_1 : decode cJ8_inflate 1 = .ok (.invokevirtual 83, 3) := dk_182 0 83 (dk_at dksJ8_inflate_0 1 rfl rfl)
theorem dJ8_inflate_4 : decode cJ8_inflate 4 = .ok (.ifCond .ne 4, 3) := dk_154 0 4 (dk_at dksJ8_inflate_0 4 rfl rfl)
theorem dJ8_inflate_7 : decode cJ8_inflate 7 = .ok (.return_, 1) := dk_177 (dk_at dksJ8_inflate_0 7 rfl rfl)
theorem dJ8_inflate_8 : decode cJ8_inflate 8 = .ok (.aload_n 0, 1) := dk_42 (dk_at dksJ8_inflate_0 8 rfl rfl)
theorem dJ8_inflate_9 : decode cJ8_inflate 9 = .ok (.getfield 15, 3) := dk_180 0 15 (dk_at dksJ8_inflate_0 9 rfl rfl)
theorem dJ8_inflate_12 : decode cJ8_inflate 12 = .ok (.arraylength, 1) := dk_190 (dk_at dksJ8_inflate_0 12 rfl rfl)
theorem dJ8_inflate_13 : decode cJ8_inflate 13 = .ok (.invokestatic 26, 3) := dk_184 0 26 (dk_at dksJ8_inflate_0 13 rfl rfl)
theorem dJ8_inflate_16 : decode cJ8_inflate 16 = .ok (.astore_n 1, 1) := dk_76 (dk_at dksJ8_inflate_0 16 rfl rfl)
theorem dJ8_inflate_17 : decode cJ8_inflate 17 = .ok (.aload_n 0, 1) := dk_42 (dk_at dksJ8_inflate_0 17 rfl rfl)
theorem dJ8_inflate_18 : decode cJ8_inflate 18 = .ok (.getfield 15, 3) := dk_180 0 15 (dk_at dksJ8_inflate_0 18 rfl rfl)
theorem dJ8_inflate_21 : decode cJ8_inflate 21 = .ok (.iconst 0, 1) := dk_3 (dk_at dksJ8_inflate_0 21 rfl rfl)
theorem dJ8_inflate_22 : decode cJ8_inflate 22 = .ok (.aload_n 1, 1) := dk_43 (dk_at dksJ8_inflate_0 22 rfl rfl)
theorem dJ8_inflate_23 : decode cJ8_inflate 23 = .ok (.iconst 0, 1) := dk_3 (dk_at dksJ8_inflate_0 23 rfl rfl)
theorem dJ8_inflate_24 : decode cJ8_inflate 24 = .ok (.aload_n 0, 1) := dk_42 (dk_at dksJ8_inflate_1 0 rfl rfl)
theorem dJ8_inflate_25 : decode cJ8_inflate 25 = .ok (.getfield 79, 3) := dk_180 0 79 (dk_at dksJ8_inflate_1 1 rfl rfl)
theorem dJ8_inflate_28 : decode cJ8_inflate 28 = .ok (.invokestatic 125, 3) := dk_184 0 125 (dk_at dksJ8_inflate_1 4 rfl rfl)
theorem dJ8_inflate_31 : decode cJ8_inflate 31 = .ok (.aload_n 0, 1) := dk_42 (dk_at dksJ8_inflate_1 7 rfl rfl)
theorem dJ8_inflate_32 : decode cJ8_inflate 32 = .ok (.aload_n 1, 1) := dk_43 (dk_at dksJ8_inflate_1 8 rfl rfl)
theorem dJ8_inflate_33 : decode cJ8_inflate 33 = .ok (.putfield 15, 3) := dk_181 0 15 (dk_at dksJ8_inflate_1 9 rfl rfl)
theorem dJ8_inflate_36 : decode cJ8_inflate 36 = .ok (.aload_n 0, 1) := dk_42 (dk_at dksJ8_inflate_1 12 rfl rfl)
theorem dJ8_inflate_37 : decode cJ8_inflate 37 = .ok (.iconst 1, 1) := dk_4 (dk_at dksJ8_inflate_1 13 rfl rfl)
theorem dJ8_inflate_38 : decode cJ8_inflate 38 = .ok (.putfield 22, 3) := dk_181 0 22 (dk_at dksJ8_inflate_1 14 rfl rfl)
theorem dJ8_inflate_41 : decode cJ8_inflate 41 = .ok (.return_, 1) := dk_177 (dk_at dksJ8_inflate_1 17 rfl rfl)
abbrev cJ8_append_2 : ByteArray := prog_21_method_32_code
def yJ8_append_2 : MethodName := ⟨RJ8, "append", "(I)Ljava/lang/AbstractStringBuilder;"⟩
def dkwJ8_append_2_2 : List UInt8 := [42, 29, 181, 0, 79, 42, 176]
abbrev dktJ8_append_2_2 : List UInt8 := dkwJ8_append_2_2 ++ []
def dkwJ8_append_2_1 : List UInt8 := [27, 29, 42, 180, 0, 15, 184, 0, 248, 87, 167, 0, 14, 27, 28, 29, 42, 180, 0, 15, 184, 0, 251, 87]
abbrev dktJ8_append_2_1 : List UInt8 := dkwJ8_append_2_1 ++ dktJ8_append_2_2
def dkwJ8_append_2_0 : List UInt8 := [42, 180, 0, 79, 61, 28, 27, 184, 0, 245, 96, 62, 42, 29, 182, 0, 100, 42, 182, 0, 83, 153, 0, 16]
abbrev dktJ8_append_2_0 : List UInt8 := dkwJ8_append_2_0 ++ dktJ8_append_2_1
theorem dksJ8_append_2_0 : cJ8_append_2.data.toList.drop 0 = dktJ8_append_2_0 := by decide +kernel
theorem dksJ8_append_2_1 : cJ8_append_2.data.toList.drop 24 = dktJ8_append_2_1 := dk_seg dksJ8_append_2_0 24 rfl rfl
theorem dksJ8_append_2_2 : cJ8_append_2.data.toList.drop 48 = dktJ8_append_2_2 := dk_seg dksJ8_append_2_1 24 rfl rfl
theorem dJ8_append_2_0 : decode cJ8_append_2 0 = .ok (.aload_n 0, 1) := dk_42 (dk_at dksJ8_append_2_0 0 rfl rfl)
theorem dJ8_append_2_1 : decode cJ8_append_2 1 = .ok (.getfield 79, 3) := dk_180 0 79 (dk_at dksJ8_append_2_0 1 rfl rfl)
theorem dJ8_append_2_4 : decode cJ8_append_2 4 = .ok (.istore_n 2, 1) := dk_61 (dk_at dksJ8_append_2_0 4 rfl rfl)
theorem dJ8_append_2_5 : decode cJ8_append_2 5 = .ok (.iload_n 2, 1) := dk_28 (dk_at dksJ8_append_2_0 5 rfl rfl)
theorem dJ8_append_2_6 : decode cJ8_append_2 6 = .ok (.iload_n 1, 1) := dk_27 (dk_at dksJ8_append_2_0 6 rfl rfl)
theorem dJ8_append_2_7 : decode cJ8_append_2 7 = .ok (.invokestatic 245, 3) := dk_184 0 245 (dk_at dksJ8_append_2_0 7 rfl rfl)
theorem dJ8_append_2_10 : decode cJ8_append_2 10 = .ok (.iadd, 1) := dk_96 (dk_at dksJ8_append_2_0 10 rfl rfl)
theorem dJ8_append_2_11 : decode cJ8_append_2 11 = .ok (.istore_n 3, 1) := dk_62 (dk_at dksJ8_append_2_0 11 rfl rfl)
theorem dJ8_append_2_12 : decode cJ8_append_2 12 = .ok (.aload_n 0, 1) := dk_42 (dk_at dksJ8_append_2_0 12 rfl rfl)
theorem dJ8_append_2_13 : decode cJ8_append_2 13 = .ok (.iload_n 3, 1) := dk_29 (dk_at dksJ8_append_2_0 13 rfl rfl)
theorem dJ8_append_2_14 : decode cJ8_append_2 14 = .ok (.invokevirtual 100, 3) := dk_182 0 100 (dk_at dksJ8_append_2_0 14 rfl rfl)
theorem dJ8_append_2_17 : decode cJ8_append_2 17 = .ok (.aload_n 0, 1) := dk_42 (dk_at dksJ8_append_2_0 17 rfl rfl)
theorem dJ8_append_2_18 : decode cJ8_append_2 18 = .ok (.invokevirtual 83, 3) := dk_182 0 83 (dk_at dksJ8_append_2_0 18 rfl rfl)
theorem dJ8_append_2_21 : decode cJ8_append_2 21 = .ok (.ifCond .eq 16, 3) := dk_153 0 16 (dk_at dksJ8_append_2_0 21 rfl rfl)
theorem dJ8_append_2_24 : decode cJ8_append_2 24 = .ok (.iload_n 1, 1) := dk_27 (dk_at dksJ8_append_2_1 0 rfl rfl)
theorem dJ8_append_2_25 : decode cJ8_append_2 25 = .ok (.iload_n 3, 1) := dk_29 (dk_at dksJ8_append_2_1 1 rfl rfl)
theorem dJ8_append_2_26 : decode cJ8_append_2 26 = .ok (.aload_n 0, 1) := dk_42 (dk_at dksJ8_append_2_1 2 rfl rfl)
theorem dJ8_append_2_27 : decode cJ8_append_2 27 = .ok (.getfield 15, 3) := dk_180 0 15 (dk_at dksJ8_append_2_1 3 rfl rfl)
theorem dJ8_append_2_30 : decode cJ8_append_2 30 = .ok (.invokestatic 248, 3) := dk_184 0 248 (dk_at dksJ8_append_2_1 6 rfl rfl)
theorem dJ8_append_2_33 : decode cJ8_append_2 33 = .ok (.pop, 1) := dk_87 (dk_at dksJ8_append_2_1 9 rfl rfl)
theorem dJ8_append_2_34 : decode cJ8_append_2 34 = .ok (.goto 14, 3) := dk_167 0 14 (dk_at dksJ8_append_2_1 10 rfl rfl)
theorem dJ8_append_2_37 : decode cJ8_append_2 37 = .ok (.iload_n 1, 1) := dk_27 (dk_at dksJ8_append_2_1 13 rfl rfl)
theorem dJ8_append_2_38 : decode cJ8_append_2 38 = .ok (.iload_n 2, 1) := dk_28 (dk_at dksJ8_append_2_1 14 rfl rfl)
theorem dJ8_append_2_39 : decode cJ8_append_2 39 = .ok (.iload_n 3, 1) := dk_29 (dk_at dksJ8_append_2_1 15 rfl rfl)
theorem dJ8_append_2_40 : decode cJ8_append_2 40 = .ok (.aload_n 0, 1) := dk_42 (dk_at dksJ8_append_2_1 16 rfl rfl)
theorem dJ8_append_2_41 : decode cJ8_append_2 41 = .ok (.getfield 15, 3) := dk_180 0 15 (dk_at dksJ8_append_2_1 17 rfl rfl)
theorem dJ8_append_2_44 : decode cJ8_append_2 44 = .ok (.invokestatic 251, 3) := dk_184 0 251 (dk_at dksJ8_append_2_1 20 rfl rfl)
theorem dJ8_append_2_47 : decode cJ8_append_2 47 = .ok (.pop, 1) := dk_87 (dk_at dksJ8_append_2_1 23 rfl rfl)
theorem dJ8_append_2_48 : decode cJ8_append_2 48 = .ok (.aload_n 0, 1) := dk_42 (dk_at dksJ8_append_2_2 0 rfl rfl)
theorem dJ8_append_2_49 : decode cJ8_append_2 49 = .ok (.iload_n 3, 1) := dk_29 (dk_at dksJ8_append_2_2 1 rfl rfl)
theorem dJ8_append_2_50 : decode cJ8_append_2 50 = .ok (.putfield 79, 3) := dk_181 0 79 (dk_at dksJ8_append_2_2 2 rfl rfl)
theorem dJ8_append_2_53 : decode cJ8_append_2 53 = .ok (.aload_n 0, 1) := dk_42 (dk_at dksJ8_append_2_2 5 rfl rfl)
theorem dJ8_append_2_54 : decode cJ8_append_2 54 = .ok (.areturn, 1) := dk_176 (dk_at dksJ8_append_2_2 6 rfl rfl)
abbrev cJ8_getValue : ByteArray := prog_21_method_64_code
def yJ8_getValue : MethodName := ⟨RJ8, "getValue", "()[B"⟩
theorem dJ8_getValue_0 : decode cJ8_getValue 0 = .ok (.aload_n 0, 1) := by decide +kernel
theorem dJ8_getValue_1 : decode cJ8_getValue 1 = .ok (.getfield 15, 3) := by decide +kernel
theorem dJ8_getValue_4 : decode cJ8_getValue 4 = .ok (.areturn, 1) := by decide +kernel
abbrev cJ8_length : ByteArray := prog_21_method_6_code
def yJ8_length : MethodName := ⟨RJ8, "length", "()I"⟩
theorem dJ8_length_0 : decode cJ8_length 0 = .ok (.aload_n 0, 1) := by decide +kernel
theorem dJ8_length_1 : decode cJ8_length 1 = .ok (.getfield 79, 3) := by decide +kernel
theorem dJ8_length_4 : decode cJ8_length 4 = .ok (.ireturn, 1) := by decide +kernel
abbrev cJ8_append_3 : ByteArray := prog_21_method_34_code
def yJ8_append_3 : MethodName := ⟨RJ8, "append", "(F)Ljava/lang/AbstractStringBuilder;"⟩
def dkwJ8_append_3_0 : List UInt8 := [35, 42, 184, 1, 9, 87, 167, 0, 13, 77, 187, 1, 17, 89, 44, 183, 1, 19, 191, 42, 176]
abbrev dktJ8_append_3_0 : List UInt8 := dkwJ8_append_3_0 ++ []
theorem dksJ8_append_3_0 : cJ8_append_3.data.toList.drop 0 = dktJ8_append_3_0 := by decide +kernel
theorem dJ8_append_3_0 : decode cJ8_append_3 0 = .ok (.fload_n 1, 1) := dk_35 (dk_at dksJ8_append_3_0 0 rfl rfl)
theorem dJ8_append_3_1 : decode cJ8_append_3 1 = .ok (.aload_n 0, 1) := dk_42 (dk_at dksJ8_append_3_0 1 rfl rfl)
theorem dJ8_append_3_2 : decode cJ8_append_3 2 = .ok (.invokestatic 265, 3) := dk_184 1 9 (dk_at dksJ8_append_3_0 2 rfl rfl)
theorem dJ8_append_3_5 : decode cJ8_append_3 5 = .ok (.pop, 1) := dk_87 (dk_at dksJ8_append_3_0 5 rfl rfl)
theorem dJ8_append_3_6 : decode cJ8_append_3 6 = .ok (.goto 13, 3) := dk_167 0 13 (dk_at dksJ8_append_3_0 6 rfl rfl)
theorem dJ8_append_3_9 : decode cJ8_append_3 9 = .ok (.astore_n 2, 1) := dk_77 (dk_at dksJ8_append_3_0 9 rfl rfl)
theorem dJ8_append_3_10 : decode cJ8_append_3 10 = .ok (.new 273, 3) := dk_187 1 17 (dk_at dksJ8_append_3_0 10 rfl rfl)
theorem dJ8_append_3_13 : decode cJ8_append_3 13 = .ok (.dup, 1) := dk_89 (dk_at dksJ8_append_3_0 13 rfl rfl)
theorem dJ8_append_3_14 : decode cJ8_append_3 14 = .ok (.aload_n 2, 1) := dk_44 (dk_at dksJ8_append_3_0 14 rfl rfl)
theorem dJ8_append_3_15 : decode cJ8_append_3 15 = .ok (.invokespecial 275, 3) := dk_183 1 19 (dk_at dksJ8_append_3_0 15 rfl rfl)
theorem dJ8_append_3_18 : decode cJ8_append_3 18 = .ok (.athrow, 1) := dk_191 (dk_at dksJ8_append_3_0 18 rfl rfl)
theorem dJ8_append_3_19 : decode cJ8_append_3 19 = .ok (.aload_n 0, 1) := dk_42 (dk_at dksJ8_append_3_0 19 rfl rfl)
theorem dJ8_append_3_20 : decode cJ8_append_3 20 = .ok (.areturn, 1) := dk_176 (dk_at dksJ8_append_3_0 20 rfl rfl)
abbrev cJ8_append_4 : ByteArray := prog_21_method_28_code
def yJ8_append_4 : MethodName := ⟨RJ8, "append", "([C)Ljava/lang/AbstractStringBuilder;"⟩
def dkwJ8_append_4_0 : List UInt8 := [43, 190, 61, 42, 42, 180, 0, 79, 28, 96, 182, 0, 100, 42, 43, 3, 28, 182, 0, 239, 42, 176]
abbrev dktJ8_append_4_0 : List UInt8 := dkwJ8_append_4_0 ++ []
theorem dksJ8_append_4_0 : cJ8_append_4.data.toList.drop 0 = dktJ8_append_4_0 := by decide +kernel
theorem dJ8_append_4_0 : decode cJ8_append_4 0 = .ok (.aload_n 1, 1) := dk_43 (dk_at dksJ8_append_4_0 0 rfl rfl)
theorem dJ8_append_4_1 : decode cJ8_append_4 1 = .ok (.arraylength, 1) := dk_190 (dk_at dksJ8_append_4_0 1 rfl rfl)
theorem dJ8_append_4_2 : decode cJ8_append_4 2 = .ok (.istore_n 2, 1) := dk_61 (dk_at dksJ8_append_4_0 2 rfl rfl)
theorem dJ8_append_4_3 : decode cJ8_append_4 3 = .ok (.aload_n 0, 1) := dk_42 (dk_at dksJ8_append_4_0 3 rfl rfl)
theorem dJ8_append_4_4 : decode cJ8_append_4 4 = .ok (.aload_n 0, 1) := dk_42 (dk_at dksJ8_append_4_0 4 rfl rfl)
theorem dJ8_append_4_5 : decode cJ8_append_4 5 = .ok (.getfield 79, 3) := dk_180 0 79 (dk_at dksJ8_append_4_0 5 rfl rfl)
theorem dJ8_append_4_8 : decode cJ8_append_4 8 = .ok (.iload_n 2, 1) := dk_28 (dk_at dksJ8_append_4_0 8 rfl rfl)
theorem dJ8_append_4_9 : decode cJ8_append_4 9 = .ok (.iadd, 1) := dk_96 (dk_at dksJ8_append_4_0 9 rfl rfl)
theorem dJ8_append_4_10 : decode cJ8_append_4 10 = .ok (.invokevirtual 100, 3) := dk_182 0 100 (dk_at dksJ8_append_4_0 10 rfl rfl)
theorem dJ8_append_4_13 : decode cJ8_append_4 13 = .ok (.aload_n 0, 1) := dk_42 (dk_at dksJ8_append_4_0 13 rfl rfl)
theorem dJ8_append_4_14 : decode cJ8_append_4 14 = .ok (.aload_n 1, 1) := dk_43 (dk_at dksJ8_append_4_0 14 rfl rfl)
theorem dJ8_append_4_15 : decode cJ8_append_4 15 = .ok (.iconst 0, 1) := dk_3 (dk_at dksJ8_append_4_0 15 rfl rfl)
theorem dJ8_append_4_16 : decode cJ8_append_4 16 = .ok (.iload_n 2, 1) := dk_28 (dk_at dksJ8_append_4_0 16 rfl rfl)
theorem dJ8_append_4_17 : decode cJ8_append_4 17 = .ok (.invokevirtual 239, 3) := dk_182 0 239 (dk_at dksJ8_append_4_0 17 rfl rfl)
theorem dJ8_append_4_20 : decode cJ8_append_4 20 = .ok (.aload_n 0, 1) := dk_42 (dk_at dksJ8_append_4_0 20 rfl rfl)
theorem dJ8_append_4_21 : decode cJ8_append_4 21 = .ok (.areturn, 1) := dk_176 (dk_at dksJ8_append_4_0 21 rfl rfl)
abbrev cJ8_appendChars : ByteArray := prog_21_method_74_code
def yJ8_appendChars : MethodName := ⟨RJ8, "appendChars", "([CII)V"⟩
def dkwJ8_appendChars_5 : List UInt8 := [184, 1, 130, 42, 21, 4, 29, 96, 28, 100, 181, 0, 79, 177]
abbrev dktJ8_appendChars_5 : List UInt8 := dkwJ8_appendChars_5 ++ []
def dkwJ8_appendChars_4 : List UInt8 := [181, 0, 79, 177, 132, 6, 1, 167, 255, 181, 167, 0, 15, 42, 180, 0, 15, 21, 4, 43, 28, 29]
abbrev dktJ8_appendChars_4 : List UInt8 := dkwJ8_appendChars_4 ++ dktJ8_appendChars_5
def dkwJ8_appendChars_3 : List UInt8 := [182, 0, 195, 42, 180, 0, 15, 21, 7, 43, 21, 6, 29, 184, 1, 130, 42, 21, 4, 29, 96, 21, 6, 100]
abbrev dktJ8_appendChars_3 : List UInt8 := dkwJ8_appendChars_3 ++ dktJ8_appendChars_4
def dkwJ8_appendChars_2 : List UInt8 := [21, 7, 132, 7, 1, 21, 8, 145, 84, 167, 0, 41, 42, 21, 7, 89, 54, 4, 181, 0, 79, 42]
abbrev dktJ8_appendChars_2 : List UInt8 := dkwJ8_appendChars_2 ++ dktJ8_appendChars_3
def dkwJ8_appendChars_1 : List UInt8 := [54, 7, 21, 6, 29, 162, 0, 75, 43, 21, 6, 52, 54, 8, 21, 8, 184, 0, 191, 153, 0, 17, 25, 5]
abbrev dktJ8_appendChars_1 : List UInt8 := dkwJ8_appendChars_1 ++ dktJ8_appendChars_2
def dkwJ8_appendChars_0 : List UInt8 := [42, 180, 0, 79, 54, 4, 42, 182, 0, 83, 153, 0, 97, 42, 180, 0, 15, 58, 5, 28, 54, 6, 21, 4]
abbrev dktJ8_appendChars_0 : List UInt8 := dkwJ8_appendChars_0 ++ dktJ8_appendChars_1
theorem dksJ8_appendChars_0 : cJ8_appendChars.data.toList.drop 0 = dktJ8_appendChars_0 := by decide +kernel
theorem dksJ8_appendChars_1 : cJ8_appendChars.data.toList.drop 24 = dktJ8_appendChars_1 := dk_seg dksJ8_appendChars_0 24 rfl rfl
theorem dksJ8_appendChars_2 : cJ8_appendChars.data.toList.drop 48 = dktJ8_appendChars_2 := dk_seg dksJ8_appendChars_1 24 rfl rfl
theorem dksJ8_appendChars_3 : cJ8_appendChars.data.toList.drop 70 = dktJ8_appendChars_3 := dk_seg dksJ8_appendChars_2 22 rfl rfl
theorem dksJ8_appendChars_4 : cJ8_appendChars.data.toList.drop 94 = dktJ8_appendChars_4 := dk_seg dksJ8_appendChars_3 24 rfl rfl
theorem dksJ8_appendChars_5 : cJ8_appendChars.data.toList.drop 116 = dktJ8_appendChars_5 := dk_seg dksJ8_appendChars_4 22 rfl rfl
theorem dJ8_appendChars_0 : decode cJ8_appendChars 0 = .ok (.aload_n 0, 1) := dk_42 (dk_at dksJ8_appendChars_0 0 rfl rfl)
theorem dJ8_appendChars_1 : decode cJ8_appendChars 1 = .ok (.getfield 79, 3) := dk_180 0 79 (dk_at dksJ8_appendChars_0 1 rfl rfl)
theorem dJ8_appendChars_4 : decode cJ8_appendChars 4 = .ok (.istore 4, 2) := dk_54 4 (dk_at dksJ8_appendChars_0 4 rfl rfl)
theorem dJ8_appendChars_6 : decode cJ8_appendChars 6 = .ok (.aload_n 0, 1) := dk_42 (dk_at dksJ8_appendChars_0 6 rfl rfl)
theorem dJ8_appendChars_7 : decode cJ8_appendChars 7 = .ok (.invokevirtual 83, 3) := dk_182 0 83 (dk_at dksJ8_appendChars_0 7 rfl rfl)
theorem dJ8_appendChars_10 : decode cJ8_appendChars 10 = .ok (.ifCond .eq 97, 3) := dk_153 0 97 (dk_at dksJ8_appendChars_0 10 rfl rfl)
theorem dJ8_appendChars_13 : decode cJ8_appendChars 13 = .ok (.aload_n 0, 1) := dk_42 (dk_at dksJ8_appendChars_0 13 rfl rfl)
theorem dJ8_appendChars_14 : decode cJ8_appendChars 14 = .ok (.getfield 15, 3) := dk_180 0 15 (dk_at dksJ8_appendChars_0 14 rfl rfl)
theorem dJ8_appendChars_17 : decode cJ8_appendChars 17 = .ok (.astore 5, 2) := dk_58 5 (dk_at dksJ8_appendChars_0 17 rfl rfl)
theorem dJ8_appendChars_19 : decode cJ8_appendChars 19 = .ok (.iload_n 2, 1) := dk_28 (dk_at dksJ8_appendChars_0 19 rfl rfl)
theorem dJ8_appendChars_20 : decode cJ8_appendChars 20 = .ok (.istore 6, 2) := dk_54 6 (dk_at dksJ8_appendChars_0 20 rfl rfl)
theorem dJ8_appendChars_22 : decode cJ8_appendChars 22 = .ok (.iload 4, 2) := dk_21 4 (dk_at dksJ8_appendChars_0 22 rfl rfl)
theorem dJ8_appendChars_24 : decode cJ8_appendChars 24 = .ok (.istore 7, 2) := dk_54 7 (dk_at dksJ8_appendChars_1 0 rfl rfl)
theorem dJ8_appendChars_26 : decode cJ8_appendChars 26 = .ok (.iload 6, 2) := dk_21 6 (dk_at dksJ8_appendChars_1 2 rfl rfl)
theorem dJ8_appendChars_28 : decode cJ8_appendChars 28 = .ok (.iload_n 3, 1) := dk_29 (dk_at dksJ8_appendChars_1 4 rfl rfl)
theorem dJ8_appendChars_29 : decode cJ8_appendChars 29 = .ok (.if_icmp .ge 75, 3) := dk_162 0 75 (dk_at dksJ8_appendChars_1 5 rfl rfl)
theorem dJ8_appendChars_32 : decode cJ8_appendChars 32 = .ok (.aload_n 1, 1) := dk_43 (dk_at dksJ8_appendChars_1 8 rfl rfl)
theorem dJ8_appendChars_33 : decode cJ8_appendChars 33 = .ok (.iload 6, 2) := dk_21 6 (dk_at dksJ8_appendChars_1 9 rfl rfl)
theorem dJ8_appendChars_35 : decode cJ8_appendChars 35 = .ok (.caload, 1) := dk_52 (dk_at dksJ8_appendChars_1 11 rfl rfl)
theorem dJ8_appendChars_36 : decode cJ8_appendChars 36 = .ok (.istore 8, 2) := dk_54 8 (dk_at dksJ8_appendChars_1 12 rfl rfl)
theorem dJ8_appendChars_38 : decode cJ8_appendChars 38 = .ok (.iload 8, 2) := dk_21 8 (dk_at dksJ8_appendChars_1 14 rfl rfl)
theorem dJ8_appendChars_40 : decode cJ8_appendChars 40 = .ok (.invokestatic 191, 3) := dk_184 0 191 (dk_at dksJ8_appendChars_1 16 rfl rfl)
theorem dJ8_appendChars_43 : decode cJ8_appendChars 43 = .ok (.ifCond .eq 17, 3) := dk_153 0 17 (dk_at dksJ8_appendChars_1 19 rfl rfl)
theorem dJ8_appendChars_46 : decode cJ8_appendChars 46 = .ok (.aload 5, 2) := dk_25 5 (dk_at dksJ8_appendChars_1 22 rfl rfl)
theorem dJ8_appendChars_48 : decode cJ8_appendChars 48 = .ok (.iload 7, 2) := dk_21 7 (dk_at dksJ8_appendChars_2 0 rfl rfl)
theorem dJ8_appendChars_50 : decode cJ8_appendChars 50 = .ok (.iinc 7 1, 3) := dk_132 7 1 (dk_at dksJ8_appendChars_2 2 rfl rfl)
theorem dJ8_appendChars_53 : decode cJ8_appendChars 53 = .ok (.iload 8, 2) := dk_21 8 (dk_at dksJ8_appendChars_2 5 rfl rfl)
theorem dJ8_appendChars_55 : decode cJ8_appendChars 55 = .ok (.i2b, 1) := dk_145 (dk_at dksJ8_appendChars_2 7 rfl rfl)
theorem dJ8_appendChars_56 : decode cJ8_appendChars 56 = .ok (.bastore, 1) := dk_84 (dk_at dksJ8_appendChars_2 8 rfl rfl)
theorem dJ8_appendChars_57 : decode cJ8_appendChars 57 = .ok (.goto 41, 3) := dk_167 0 41 (dk_at dksJ8_appendChars_2 9 rfl rfl)
theorem dJ8_appendChars_60 : decode cJ8_appendChars 60 = .ok (.aload_n 0, 1) := dk_42 (dk_at dksJ8_appendChars_2 12 rfl rfl)
theorem dJ8_appendChars_61 : decode cJ8_appendChars 61 = .ok (.iload 7, 2) := dk_21 7 (dk_at dksJ8_appendChars_2 13 rfl rfl)
theorem dJ8_appendChars_63 : decode cJ8_appendChars 63 = .ok (.dup, 1) := dk_89 (dk_at dksJ8_appendChars_2 15 rfl rfl)
theorem dJ8_appendChars_64 : decode cJ8_appendChars 64 = .ok (.istore 4, 2) := dk_54 4 (dk_at dksJ8_appendChars_2 16 rfl rfl)
theorem dJ8_appendChars_66 : decode cJ8_appendChars 66 = .ok (.putfield 79, 3) := dk_181 0 79 (dk_at dksJ8_appendChars_2 18 rfl rfl)
theorem dJ8_appendChars_69 : decode cJ8_appendChars 69 = .ok (.aload_n 0, 1) := dk_42 (dk_at dksJ8_appendChars_2 21 rfl rfl)
theorem dJ8_appendChars_70 : decode cJ8_appendChars 70 = .ok (.invokevirtual 195, 3) := dk_182 0 195 (dk_at dksJ8_appendChars_3 0 rfl rfl)
theorem dJ8_appendChars_73 : decode cJ8_appendChars 73 = .ok (.aload_n 0, 1) := dk_42 (dk_at dksJ8_appendChars_3 3 rfl rfl)
theorem dJ8_appendChars_74 : decode cJ8_appendChars 74 = .ok (.getfield 15, 3) := dk_180 0 15 (dk_at dksJ8_appendChars_3 4 rfl rfl)
theorem dJ8_appendChars_77 : decode cJ8_appendChars 77 = .ok (.iload 7, 2) := dk_21 7 (dk_at dksJ8_appendChars_3 7 rfl rfl)
theorem dJ8_appendChars_79 : decode cJ8_appendChars 79 = .ok (.aload_n 1, 1) := dk_43 (dk_at dksJ8_appendChars_3 9 rfl rfl)
theorem dJ8_appendChars_80 : decode cJ8_appendChars 80 = .ok (.iload 6, 2) := dk_21 6 (dk_at dksJ8_appendChars_3 10 rfl rfl)
theorem dJ8_appendChars_82 : decode cJ8_appendChars 82 = .ok (.iload_n 3, 1) := dk_29 (dk_at dksJ8_appendChars_3 12 rfl rfl)
theorem dJ8_appendChars_83 : decode cJ8_appendChars 83 = .ok (.invokestatic 386, 3) := dk_184 1 130 (dk_at dksJ8_appendChars_3 13 rfl rfl)
theorem dJ8_appendChars_86 : decode cJ8_appendChars 86 = .ok (.aload_n 0, 1) := dk_42 (dk_at dksJ8_appendChars_3 16 rfl rfl)
theorem dJ8_appendChars_87 : decode cJ8_appendChars 87 = .ok (.iload 4, 2) := dk_21 4 (dk_at dksJ8_appendChars_3 17 rfl rfl)
theorem dJ8_appendChars_89 : decode cJ8_appendChars 89 = .ok (.iload_n 3, 1) := dk_29 (dk_at dksJ8_appendChars_3 19 rfl rfl)
theorem dJ8_appendChars_90 : decode cJ8_appendChars 90 = .ok (.iadd, 1) := dk_96 (dk_at dksJ8_appendChars_3 20 rfl rfl)
theorem dJ8_appendChars_91 : decode cJ8_appendChars 91 = .ok (.iload 6, 2) := dk_21 6 (dk_at dksJ8_appendChars_3 21 rfl rfl)
theorem dJ8_appendChars_93 : decode cJ8_appendChars 93 = .ok (.isub, 1) := dk_100 (dk_at dksJ8_appendChars_3 23 rfl rfl)
theorem dJ8_appendChars_94 : decode cJ8_appendChars 94 = .ok (.putfield 79, 3) := dk_181 0 79 (dk_at dksJ8_appendChars_4 0 rfl rfl)
theorem dJ8_appendChars_97 : decode cJ8_appendChars 97 = .ok (.return_, 1) := dk_177 (dk_at dksJ8_appendChars_4 3 rfl rfl)
theorem dJ8_appendChars_98 : decode cJ8_appendChars 98 = .ok (.iinc 6 1, 3) := dk_132 6 1 (dk_at dksJ8_appendChars_4 4 rfl rfl)
theorem dJ8_appendChars_101 : decode cJ8_appendChars 101 = .ok (.goto (-75), 3) := dk_167 255 181 (dk_at dksJ8_appendChars_4 7 rfl rfl)
theorem dJ8_appendChars_104 : decode cJ8_appendChars 104 = .ok (.goto 15, 3) := dk_167 0 15 (dk_at dksJ8_appendChars_4 10 rfl rfl)
theorem dJ8_appendChars_107 : decode cJ8_appendChars 107 = .ok (.aload_n 0, 1) := dk_42 (dk_at dksJ8_appendChars_4 13 rfl rfl)
theorem dJ8_appendChars_108 : decode cJ8_appendChars 108 = .ok (.getfield 15, 3) := dk_180 0 15 (dk_at dksJ8_appendChars_4 14 rfl rfl)
theorem dJ8_appendChars_111 : decode cJ8_appendChars 111 = .ok (.iload 4, 2) := dk_21 4 (dk_at dksJ8_appendChars_4 17 rfl rfl)
theorem dJ8_appendChars_113 : decode cJ8_appendChars 113 = .ok (.aload_n 1, 1) := dk_43 (dk_at dksJ8_appendChars_4 19 rfl rfl)
theorem dJ8_appendChars_114 : decode cJ8_appendChars 114 = .ok (.iload_n 2, 1) := dk_28 (dk_at dksJ8_appendChars_4 20 rfl rfl)
theorem dJ8_appendChars_115 : decode cJ8_appendChars 115 = .ok (.iload_n 3, 1) := dk_29 (dk_at dksJ8_appendChars_4 21 rfl rfl)
theorem dJ8_appendChars_116 : decode cJ8_appendChars 116 = .ok (.invokestatic 386, 3) := dk_184 1 130 (dk_at dksJ8_appendChars_5 0 rfl rfl)
theorem dJ8_appendChars_119 : decode cJ8_appendChars 119 = .ok (.aload_n 0, 1) := dk_42 (dk_at dksJ8_appendChars_5 3 rfl rfl)
theorem dJ8_appendChars_120 : decode cJ8_appendChars 120 = .ok (.iload 4, 2) := dk_21 4 (dk_at dksJ8_appendChars_5 4 rfl rfl)
theorem dJ8_appendChars_122 : decode cJ8_appendChars 122 = .ok (.iload_n 3, 1) := dk_29 (dk_at dksJ8_appendChars_5 6 rfl rfl)
theorem dJ8_appendChars_123 : decode cJ8_appendChars 123 = .ok (.iadd, 1) := dk_96 (dk_at dksJ8_appendChars_5 7 rfl rfl)
theorem dJ8_appendChars_124 : decode cJ8_appendChars 124 = .ok (.iload_n 2, 1) := dk_28 (dk_at dksJ8_appendChars_5 8 rfl rfl)
theorem dJ8_appendChars_125 : decode cJ8_appendChars 125 = .ok (.isub, 1) := dk_100 (dk_at dksJ8_appendChars_5 9 rfl rfl)
theorem dJ8_appendChars_126 : decode cJ8_appendChars 126 = .ok (.putfield 79, 3) := dk_181 0 79 (dk_at dksJ8_appendChars_5 10 rfl rfl)
theorem dJ8_appendChars_129 : decode cJ8_appendChars 129 = .ok (.return_, 1) := dk_177 (dk_at dksJ8_appendChars_5 13 rfl rfl)
abbrev cJ8_append_5 : ByteArray := prog_21_method_31_code
def yJ8_append_5 : MethodName := ⟨RJ8, "append", "(C)Ljava/lang/AbstractStringBuilder;"⟩
def dkwJ8_append_5_3 : List UInt8 := [181, 0, 79, 27, 184, 0, 197, 42, 176]
abbrev dktJ8_append_5_3 : List UInt8 := dkwJ8_append_5_3 ++ []
def dkwJ8_append_5_2 : List UInt8 := [182, 0, 83, 153, 0, 7, 42, 182, 0, 195, 42, 180, 0, 15, 42, 89, 180, 0, 79, 90, 4, 96]
abbrev dktJ8_append_5_2 : List UInt8 := dkwJ8_append_5_2 ++ dktJ8_append_5_3
def dkwJ8_append_5_1 : List UInt8 := [42, 180, 0, 15, 42, 89, 180, 0, 79, 90, 4, 96, 181, 0, 79, 27, 145, 84, 167, 0, 33, 42]
abbrev dktJ8_append_5_1 : List UInt8 := dkwJ8_append_5_1 ++ dktJ8_append_5_2
def dkwJ8_append_5_0 : List UInt8 := [42, 42, 180, 0, 79, 4, 96, 182, 0, 100, 42, 182, 0, 83, 153, 0, 31, 27, 184, 0, 191, 153, 0, 24]
abbrev dktJ8_append_5_0 : List UInt8 := dkwJ8_append_5_0 ++ dktJ8_append_5_1
theorem dksJ8_append_5_0 : cJ8_append_5.data.toList.drop 0 = dktJ8_append_5_0 := by decide +kernel
theorem dksJ8_append_5_1 : cJ8_append_5.data.toList.drop 24 = dktJ8_append_5_1 := dk_seg dksJ8_append_5_0 24 rfl rfl
theorem dksJ8_append_5_2 : cJ8_append_5.data.toList.drop 46 = dktJ8_append_5_2 := dk_seg dksJ8_append_5_1 22 rfl rfl
theorem dksJ8_append_5_3 : cJ8_append_5.data.toList.drop 68 = dktJ8_append_5_3 := dk_seg dksJ8_append_5_2 22 rfl rfl
theorem dJ8_append_5_0 : decode cJ8_append_5 0 = .ok (.aload_n 0, 1) := dk_42 (dk_at dksJ8_append_5_0 0 rfl rfl)
theorem dJ8_append_5_1 : decode cJ8_append_5 1 = .ok (.aload_n 0, 1) := dk_42 (dk_at dksJ8_append_5_0 1 rfl rfl)
theorem dJ8_append_5_2 : decode cJ8_append_5 2 = .ok (.getfield 79, 3) := dk_180 0 79 (dk_at dksJ8_append_5_0 2 rfl rfl)
theorem dJ8_append_5_5 : decode cJ8_append_5 5 = .ok (.iconst 1, 1) := dk_4 (dk_at dksJ8_append_5_0 5 rfl rfl)
theorem dJ8_append_5_6 : decode cJ8_append_5 6 = .ok (.iadd, 1) := dk_96 (dk_at dksJ8_append_5_0 6 rfl rfl)
theorem dJ8_append_5_7 : decode cJ8_append_5 7 = .ok (.invokevirtual 100, 3) := dk_182 0 100 (dk_at dksJ8_append_5_0 7 rfl rfl)
theorem dJ8_append_5_10 : decode cJ8_append_5 10 = .ok (.aload_n 0, 1) := dk_42 (dk_at dksJ8_append_5_0 10 rfl rfl)
theorem dJ8_append_5_11 : decode cJ8_append_5 11 = .ok (.invokevirtual 83, 3) := dk_182 0 83 (dk_at dksJ8_append_5_0 11 rfl rfl)
theorem dJ8_append_5_14 : decode cJ8_append_5 14 = .ok (.ifCond .eq 31, 3) := dk_153 0 31 (dk_at dksJ8_append_5_0 14 rfl rfl)
theorem dJ8_append_5_17 : decode cJ8_append_5 17 = .ok (.iload_n 1, 1) := dk_27 (dk_at dksJ8_append_5_0 17 rfl rfl)
theorem dJ8_append_5_18 : decode cJ8_append_5 18 = .ok (.invokestatic 191, 3) := dk_184 0 191 (dk_at dksJ8_append_5_0 18 rfl rfl)
theorem dJ8_append_5_21 : decode cJ8_append_5 21 = .ok (.ifCond .eq 24, 3) := dk_153 0 24 (dk_at dksJ8_append_5_0 21 rfl rfl)
theorem dJ8_append_5_24 : decode cJ8_append_5 24 = .ok (.aload_n 0, 1) := dk_42 (dk_at dksJ8_append_5_1 0 rfl rfl)
theorem dJ8_append_5_25 : decode cJ8_append_5 25 = .ok (.getfield 15, 3) := dk_180 0 15 (dk_at dksJ8_append_5_1 1 rfl rfl)
theorem dJ8_append_5_28 : decode cJ8_append_5 28 = .ok (.aload_n 0, 1) := dk_42 (dk_at dksJ8_append_5_1 4 rfl rfl)
theorem dJ8_append_5_29 : decode cJ8_append_5 29 = .ok (.dup, 1) := dk_89 (dk_at dksJ8_append_5_1 5 rfl rfl)
theorem dJ8_append_5_30 : decode cJ8_append_5 30 = .ok (.getfield 79, 3) := dk_180 0 79 (dk_at dksJ8_append_5_1 6 rfl rfl)
theorem dJ8_append_5_33 : decode cJ8_append_5 33 = .ok (.dup_x1, 1) := dk_90 (dk_at dksJ8_append_5_1 9 rfl rfl)
theorem dJ8_append_5_34 : decode cJ8_append_5 34 = .ok (.iconst 1, 1) := dk_4 (dk_at dksJ8_append_5_1 10 rfl rfl)
theorem dJ8_append_5_35 : decode cJ8_append_5 35 = .ok (.iadd, 1) := dk_96 (dk_at dksJ8_append_5_1 11 rfl rfl)
theorem dJ8_append_5_36 : decode cJ8_append_5 36 = .ok (.putfield 79, 3) := dk_181 0 79 (dk_at dksJ8_append_5_1 12 rfl rfl)
theorem dJ8_append_5_39 : decode cJ8_append_5 39 = .ok (.iload_n 1, 1) := dk_27 (dk_at dksJ8_append_5_1 15 rfl rfl)
theorem dJ8_append_5_40 : decode cJ8_append_5 40 = .ok (.i2b, 1) := dk_145 (dk_at dksJ8_append_5_1 16 rfl rfl)
theorem dJ8_append_5_41 : decode cJ8_append_5 41 = .ok (.bastore, 1) := dk_84 (dk_at dksJ8_append_5_1 17 rfl rfl)
theorem dJ8_append_5_42 : decode cJ8_append_5 42 = .ok (.goto 33, 3) := dk_167 0 33 (dk_at dksJ8_append_5_1 18 rfl rfl)
theorem dJ8_append_5_45 : decode cJ8_append_5 45 = .ok (.aload_n 0, 1) := dk_42 (dk_at dksJ8_append_5_1 21 rfl rfl)
theorem dJ8_append_5_46 : decode cJ8_append_5 46 = .ok (.invokevirtual 83, 3) := dk_182 0 83 (dk_at dksJ8_append_5_2 0 rfl rfl)
theorem dJ8_append_5_49 : decode cJ8_append_5 49 = .ok (.ifCond .eq 7, 3) := dk_153 0 7 (dk_at dksJ8_append_5_2 3 rfl rfl)
theorem dJ8_append_5_52 : decode cJ8_append_5 52 = .ok (.aload_n 0, 1) := dk_42 (dk_at dksJ8_append_5_2 6 rfl rfl)
theorem dJ8_append_5_53 : decode cJ8_append_5 53 = .ok (.invokevirtual 195, 3) := dk_182 0 195 (dk_at dksJ8_append_5_2 7 rfl rfl)
theorem dJ8_append_5_56 : decode cJ8_append_5 56 = .ok (.aload_n 0, 1) := dk_42 (dk_at dksJ8_append_5_2 10 rfl rfl)
theorem dJ8_append_5_57 : decode cJ8_append_5 57 = .ok (.getfield 15, 3) := dk_180 0 15 (dk_at dksJ8_append_5_2 11 rfl rfl)
theorem dJ8_append_5_60 : decode cJ8_append_5 60 = .ok (.aload_n 0, 1) := dk_42 (dk_at dksJ8_append_5_2 14 rfl rfl)
theorem dJ8_append_5_61 : decode cJ8_append_5 61 = .ok (.dup, 1) := dk_89 (dk_at dksJ8_append_5_2 15 rfl rfl)
theorem dJ8_append_5_62 : decode cJ8_append_5 62 = .ok (.getfield 79, 3) := dk_180 0 79 (dk_at dksJ8_append_5_2 16 rfl rfl)
theorem dJ8_append_5_65 : decode cJ8_append_5 65 = .ok (.dup_x1, 1) := dk_90 (dk_at dksJ8_append_5_2 19 rfl rfl)
theorem dJ8_append_5_66 : decode cJ8_append_5 66 = .ok (.iconst 1, 1) := dk_4 (dk_at dksJ8_append_5_2 20 rfl rfl)
theorem dJ8_append_5_67 : decode cJ8_append_5 67 = .ok (.iadd, 1) := dk_96 (dk_at dksJ8_append_5_2 21 rfl rfl)
theorem dJ8_append_5_68 : decode cJ8_append_5 68 = .ok (.putfield 79, 3) := dk_181 0 79 (dk_at dksJ8_append_5_3 0 rfl rfl)
theorem dJ8_append_5_71 : decode cJ8_append_5 71 = .ok (.iload_n 1, 1) := dk_27 (dk_at dksJ8_append_5_3 3 rfl rfl)
theorem dJ8_append_5_72 : decode cJ8_append_5 72 = .ok (.invokestatic 197, 3) := dk_184 0 197 (dk_at dksJ8_append_5_3 4 rfl rfl)
theorem dJ8_append_5_75 : decode cJ8_append_5 75 = .ok (.aload_n 0, 1) := dk_42 (dk_at dksJ8_append_5_3 7 rfl rfl)
theorem dJ8_append_5_76 : decode cJ8_append_5 76 = .ok (.areturn, 1) := dk_176 (dk_at dksJ8_append_5_3 8 rfl rfl)
abbrev cJ8_append_6 : ByteArray := prog_21_method_25_code
def yJ8_append_6 : MethodName := ⟨RJ8, "append", "(Ljava/lang/CharSequence;)Ljava/lang/AbstractStringBuilder;"⟩
def dkwJ8_append_6_2 : List UInt8 := [185, 0, 47, 1, 0, 182, 0, 223, 176]
abbrev dktJ8_append_6_2 : List UInt8 := dkwJ8_append_6_2 ++ []
def dkwJ8_append_6_1 : List UInt8 := [176, 43, 193, 0, 10, 153, 0, 12, 42, 43, 192, 0, 10, 182, 0, 212, 176, 42, 43, 3, 43]
abbrev dktJ8_append_6_1 : List UInt8 := dkwJ8_append_6_1 ++ dktJ8_append_6_2
def dkwJ8_append_6_0 : List UInt8 := [43, 199, 0, 8, 42, 182, 0, 204, 176, 43, 193, 0, 1, 153, 0, 12, 42, 43, 192, 0, 1, 182, 0, 43]
abbrev dktJ8_append_6_0 : List UInt8 := dkwJ8_append_6_0 ++ dktJ8_append_6_1
theorem dksJ8_append_6_0 : cJ8_append_6.data.toList.drop 0 = dktJ8_append_6_0 := by decide +kernel
theorem dksJ8_append_6_1 : cJ8_append_6.data.toList.drop 24 = dktJ8_append_6_1 := dk_seg dksJ8_append_6_0 24 rfl rfl
theorem dksJ8_append_6_2 : cJ8_append_6.data.toList.drop 45 = dktJ8_append_6_2 := dk_seg dksJ8_append_6_1 21 rfl rfl
theorem dJ8_append_6_0 : decode cJ8_append_6 0 = .ok (.aload_n 1, 1) := dk_43 (dk_at dksJ8_append_6_0 0 rfl rfl)
theorem dJ8_append_6_1 : decode cJ8_append_6 1 = .ok (.ifnonnull 8, 3) := dk_199 0 8 (dk_at dksJ8_append_6_0 1 rfl rfl)
theorem dJ8_append_6_4 : decode cJ8_append_6 4 = .ok (.aload_n 0, 1) := dk_42 (dk_at dksJ8_append_6_0 4 rfl rfl)
theorem dJ8_append_6_5 : decode cJ8_append_6 5 = .ok (.invokevirtual 204, 3) := dk_182 0 204 (dk_at dksJ8_append_6_0 5 rfl rfl)
theorem dJ8_append_6_8 : decode cJ8_append_6 8 = .ok (.areturn, 1) := dk_176 (dk_at dksJ8_append_6_0 8 rfl rfl)
theorem dJ8_append_6_9 : decode cJ8_append_6 9 = .ok (.aload_n 1, 1) := dk_43 (dk_at dksJ8_append_6_0 9 rfl rfl)
theorem dJ8_append_6_10 : decode cJ8_append_6 10 = .ok (.instanceof 1, 3) := dk_193 0 1 (dk_at dksJ8_append_6_0 10 rfl rfl)
theorem dJ8_append_6_13 : decode cJ8_append_6 13 = .ok (.ifCond .eq 12, 3) := dk_153 0 12 (dk_at dksJ8_append_6_0 13 rfl rfl)
theorem dJ8_append_6_16 : decode cJ8_append_6 16 = .ok (.aload_n 0, 1) := dk_42 (dk_at dksJ8_append_6_0 16 rfl rfl)
theorem dJ8_append_6_17 : decode cJ8_append_6 17 = .ok (.aload_n 1, 1) := dk_43 (dk_at dksJ8_append_6_0 17 rfl rfl)
theorem dJ8_append_6_18 : decode cJ8_append_6 18 = .ok (.checkcast 1, 3) := dk_192 0 1 (dk_at dksJ8_append_6_0 18 rfl rfl)
theorem dJ8_append_6_21 : decode cJ8_append_6 21 = .ok (.invokevirtual 43, 3) := dk_182 0 43 (dk_at dksJ8_append_6_0 21 rfl rfl)
theorem dJ8_append_6_24 : decode cJ8_append_6 24 = .ok (.areturn, 1) := dk_176 (dk_at dksJ8_append_6_1 0 rfl rfl)
theorem dJ8_append_6_25 : decode cJ8_append_6 25 = .ok (.aload_n 1, 1) := dk_43 (dk_at dksJ8_append_6_1 1 rfl rfl)
theorem dJ8_append_6_26 : decode cJ8_append_6 26 = .ok (.instanceof 10, 3) := dk_193 0 10 (dk_at dksJ8_append_6_1 2 rfl rfl)
theorem dJ8_append_6_29 : decode cJ8_append_6 29 = .ok (.ifCond .eq 12, 3) := dk_153 0 12 (dk_at dksJ8_append_6_1 5 rfl rfl)
theorem dJ8_append_6_32 : decode cJ8_append_6 32 = .ok (.aload_n 0, 1) := dk_42 (dk_at dksJ8_append_6_1 8 rfl rfl)
theorem dJ8_append_6_33 : decode cJ8_append_6 33 = .ok (.aload_n 1, 1) := dk_43 (dk_at dksJ8_append_6_1 9 rfl rfl)
theorem dJ8_append_6_34 : decode cJ8_append_6 34 = .ok (.checkcast 10, 3) := dk_192 0 10 (dk_at dksJ8_append_6_1 10 rfl rfl)
theorem dJ8_append_6_37 : decode cJ8_append_6 37 = .ok (.invokevirtual 212, 3) := dk_182 0 212 (dk_at dksJ8_append_6_1 13 rfl rfl)
theorem dJ8_append_6_40 : decode cJ8_append_6 40 = .ok (.areturn, 1) := dk_176 (dk_at dksJ8_append_6_1 16 rfl rfl)
theorem dJ8_append_6_41 : decode cJ8_append_6 41 = .ok (.aload_n 0, 1) := dk_42 (dk_at dksJ8_append_6_1 17 rfl rfl)
theorem dJ8_append_6_42 : decode cJ8_append_6 42 = .ok (.aload_n 1, 1) := dk_43 (dk_at dksJ8_append_6_1 18 rfl rfl)
theorem dJ8_append_6_43 : decode cJ8_append_6 43 = .ok (.iconst 0, 1) := dk_3 (dk_at dksJ8_append_6_1 19 rfl rfl)
theorem dJ8_append_6_44 : decode cJ8_append_6 44 = .ok (.aload_n 1, 1) := dk_43 (dk_at dksJ8_append_6_1 20 rfl rfl)
theorem dJ8_append_6_45 : decode cJ8_append_6 45 = .ok (.invokeinterface 47 1, 5) := by decide +kernel
theorem dJ8_append_6_50 : decode cJ8_append_6 50 = .ok (.invokevirtual 223, 3) := dk_182 0 223 (dk_at dksJ8_append_6_2 5 rfl rfl)
theorem dJ8_append_6_53 : decode cJ8_append_6 53 = .ok (.areturn, 1) := dk_176 (dk_at dksJ8_append_6_2 8 rfl rfl)
abbrev cJ8_append_7 : ByteArray := prog_21_method_24_code
def yJ8_append_7 : MethodName := ⟨RJ8, "append", "(Ljava/lang/AbstractStringBuilder;)Ljava/lang/AbstractStringBuilder;"⟩
def dkwJ8_append_7_2 : List UInt8 := [180, 0, 79, 28, 96, 181, 0, 79, 42, 89, 180, 0, 73, 43, 180, 0, 73, 128, 181, 0, 73, 42, 176]
abbrev dktJ8_append_7_2 : List UInt8 := dkwJ8_append_7_2 ++ []
def dkwJ8_append_7_1 : List UInt8 := [42, 43, 182, 0, 215, 43, 42, 180, 0, 15, 42, 180, 0, 79, 42, 180, 0, 22, 182, 0, 219, 42, 89]
abbrev dktJ8_append_7_1 : List UInt8 := dkwJ8_append_7_1 ++ dktJ8_append_7_2
def dkwJ8_append_7_0 : List UInt8 := [43, 199, 0, 8, 42, 182, 0, 204, 176, 43, 182, 0, 160, 61, 42, 42, 180, 0, 79, 28, 96, 182, 0, 100]
abbrev dktJ8_append_7_0 : List UInt8 := dkwJ8_append_7_0 ++ dktJ8_append_7_1
theorem dksJ8_append_7_0 : cJ8_append_7.data.toList.drop 0 = dktJ8_append_7_0 := by decide +kernel
theorem dksJ8_append_7_1 : cJ8_append_7.data.toList.drop 24 = dktJ8_append_7_1 := dk_seg dksJ8_append_7_0 24 rfl rfl
theorem dksJ8_append_7_2 : cJ8_append_7.data.toList.drop 47 = dktJ8_append_7_2 := dk_seg dksJ8_append_7_1 23 rfl rfl
theorem dJ8_append_7_0 : decode cJ8_append_7 0 = .ok (.aload_n 1, 1) := dk_43 (dk_at dksJ8_append_7_0 0 rfl rfl)
theorem dJ8_append_7_1 : decode cJ8_append_7 1 = .ok (.ifnonnull 8, 3) := dk_199 0 8 (dk_at dksJ8_append_7_0 1 rfl rfl)
theorem dJ8_append_7_4 : decode cJ8_append_7 4 = .ok (.aload_n 0, 1) := dk_42 (dk_at dksJ8_append_7_0 4 rfl rfl)
theorem dJ8_append_7_5 : decode cJ8_append_7 5 = .ok (.invokevirtual 204, 3) := dk_182 0 204 (dk_at dksJ8_append_7_0 5 rfl rfl)
theorem dJ8_append_7_8 : decode cJ8_append_7 8 = .ok (.areturn, 1) := dk_176 (dk_at dksJ8_append_7_0 8 rfl rfl)
theorem dJ8_append_7_9 : decode cJ8_append_7 9 = .ok (.aload_n 1, 1) := dk_43 (dk_at dksJ8_append_7_0 9 rfl rfl)
theorem dJ8_append_7_10 : decode cJ8_append_7 10 = .ok (.invokevirtual 160, 3) := dk_182 0 160 (dk_at dksJ8_append_7_0 10 rfl rfl)
theorem dJ8_append_7_13 : decode cJ8_append_7 13 = .ok (.istore_n 2, 1) := dk_61 (dk_at dksJ8_append_7_0 13 rfl rfl)
theorem dJ8_append_7_14 : decode cJ8_append_7 14 = .ok (.aload_n 0, 1) := dk_42 (dk_at dksJ8_append_7_0 14 rfl rfl)
theorem dJ8_append_7_15 : decode cJ8_append_7 15 = .ok (.aload_n 0, 1) := dk_42 (dk_at dksJ8_append_7_0 15 rfl rfl)
theorem dJ8_append_7_16 : decode cJ8_append_7 16 = .ok (.getfield 79, 3) := dk_180 0 79 (dk_at dksJ8_append_7_0 16 rfl rfl)
theorem dJ8_append_7_19 : decode cJ8_append_7 19 = .ok (.iload_n 2, 1) := dk_28 (dk_at dksJ8_append_7_0 19 rfl rfl)
theorem dJ8_append_7_20 : decode cJ8_append_7 20 = .ok (.iadd, 1) := dk_96 (dk_at dksJ8_append_7_0 20 rfl rfl)
theorem dJ8_append_7_21 : decode cJ8_append_7 21 = .ok (.invokevirtual 100, 3) := dk_182 0 100 (dk_at dksJ8_append_7_0 21 rfl rfl)
theorem dJ8_append_7_24 : decode cJ8_append_7 24 = .ok (.aload_n 0, 1) := dk_42 (dk_at dksJ8_append_7_1 0 rfl rfl)
theorem dJ8_append_7_25 : decode cJ8_append_7 25 = .ok (.aload_n 1, 1) := dk_43 (dk_at dksJ8_append_7_1 1 rfl rfl)
theorem dJ8_append_7_26 : decode cJ8_append_7 26 = .ok (.invokevirtual 215, 3) := dk_182 0 215 (dk_at dksJ8_append_7_1 2 rfl rfl)
theorem dJ8_append_7_29 : decode cJ8_append_7 29 = .ok (.aload_n 1, 1) := dk_43 (dk_at dksJ8_append_7_1 5 rfl rfl)
theorem dJ8_append_7_30 : decode cJ8_append_7 30 = .ok (.aload_n 0, 1) := dk_42 (dk_at dksJ8_append_7_1 6 rfl rfl)
theorem dJ8_append_7_31 : decode cJ8_append_7 31 = .ok (.getfield 15, 3) := dk_180 0 15 (dk_at dksJ8_append_7_1 7 rfl rfl)
theorem dJ8_append_7_34 : decode cJ8_append_7 34 = .ok (.aload_n 0, 1) := dk_42 (dk_at dksJ8_append_7_1 10 rfl rfl)
theorem dJ8_append_7_35 : decode cJ8_append_7 35 = .ok (.getfield 79, 3) := dk_180 0 79 (dk_at dksJ8_append_7_1 11 rfl rfl)
theorem dJ8_append_7_38 : decode cJ8_append_7 38 = .ok (.aload_n 0, 1) := dk_42 (dk_at dksJ8_append_7_1 14 rfl rfl)
theorem dJ8_append_7_39 : decode cJ8_append_7 39 = .ok (.getfield 22, 3) := dk_180 0 22 (dk_at dksJ8_append_7_1 15 rfl rfl)
theorem dJ8_append_7_42 : decode cJ8_append_7 42 = .ok (.invokevirtual 219, 3) := dk_182 0 219 (dk_at dksJ8_append_7_1 18 rfl rfl)
theorem dJ8_append_7_45 : decode cJ8_append_7 45 = .ok (.aload_n 0, 1) := dk_42 (dk_at dksJ8_append_7_1 21 rfl rfl)
theorem dJ8_append_7_46 : decode cJ8_append_7 46 = .ok (.dup, 1) := dk_89 (dk_at dksJ8_append_7_1 22 rfl rfl)
theorem dJ8_append_7_47 : decode cJ8_append_7 47 = .ok (.getfield 79, 3) := dk_180 0 79 (dk_at dksJ8_append_7_2 0 rfl rfl)
theorem dJ8_append_7_50 : decode cJ8_append_7 50 = .ok (.iload_n 2, 1) := dk_28 (dk_at dksJ8_append_7_2 3 rfl rfl)
theorem dJ8_append_7_51 : decode cJ8_append_7 51 = .ok (.iadd, 1) := dk_96 (dk_at dksJ8_append_7_2 4 rfl rfl)
theorem dJ8_append_7_52 : decode cJ8_append_7 52 = .ok (.putfield 79, 3) := dk_181 0 79 (dk_at dksJ8_append_7_2 5 rfl rfl)
theorem dJ8_append_7_55 : decode cJ8_append_7 55 = .ok (.aload_n 0, 1) := dk_42 (dk_at dksJ8_append_7_2 8 rfl rfl)
theorem dJ8_append_7_56 : decode cJ8_append_7 56 = .ok (.dup, 1) := dk_89 (dk_at dksJ8_append_7_2 9 rfl rfl)
theorem dJ8_append_7_57 : decode cJ8_append_7 57 = .ok (.getfield 73, 3) := dk_180 0 73 (dk_at dksJ8_append_7_2 10 rfl rfl)
theorem dJ8_append_7_60 : decode cJ8_append_7 60 = .ok (.aload_n 1, 1) := dk_43 (dk_at dksJ8_append_7_2 13 rfl rfl)
theorem dJ8_append_7_61 : decode cJ8_append_7 61 = .ok (.getfield 73, 3) := dk_180 0 73 (dk_at dksJ8_append_7_2 14 rfl rfl)
theorem dJ8_append_7_64 : decode cJ8_append_7 64 = .ok (.ior, 1) := dk_128 (dk_at dksJ8_append_7_2 17 rfl rfl)
theorem dJ8_append_7_65 : decode cJ8_append_7 65 = .ok (.putfield 73, 3) := dk_181 0 73 (dk_at dksJ8_append_7_2 18 rfl rfl)
theorem dJ8_append_7_68 : decode cJ8_append_7 68 = .ok (.aload_n 0, 1) := dk_42 (dk_at dksJ8_append_7_2 21 rfl rfl)
theorem dJ8_append_7_69 : decode cJ8_append_7 69 = .ok (.areturn, 1) := dk_176 (dk_at dksJ8_append_7_2 22 rfl rfl)
abbrev cJ8_inflateIfNeededFor_2 : ByteArray := prog_21_method_72_code
def yJ8_inflateIfNeededFor_2 : MethodName := ⟨RJ8, "inflateIfNeededFor", "(Ljava/lang/AbstractStringBuilder;)V"⟩
def dkwJ8_inflateIfNeededFor_2_0 : List UInt8 := [178, 0, 18, 153, 0, 18, 42, 180, 0, 22, 43, 182, 0, 70, 159, 0, 7, 42, 182, 0, 195, 177]
abbrev dktJ8_inflateIfNeededFor_2_0 : List UInt8 := dkwJ8_inflateIfNeededFor_2_0 ++ []
theorem dksJ8_inflateIfNeededFor_2_0 : cJ8_inflateIfNeededFor_2.data.toList.drop 0 = dktJ8_inflateIfNeededFor_2_0 := by decide +kernel
theorem dJ8_inflateIfNeededFor_2_0 : decode cJ8_inflateIfNeededFor_2 0 = .ok (.getstatic 18, 3) := dk_178 0 18 (dk_at dksJ8_inflateIfNeededFor_2_0 0 rfl rfl)
theorem dJ8_inflateIfNeededFor_2_3 : decode cJ8_inflateIfNeededFor_2 3 = .ok (.ifCond .eq 18, 3) := dk_153 0 18 (dk_at dksJ8_inflateIfNeededFor_2_0 3 rfl rfl)
theorem dJ8_inflateIfNeededFor_2_6 : decode cJ8_inflateIfNeededFor_2 6 = .ok (.aload_n 0, 1) := dk_42 (dk_at dksJ8_inflateIfNeededFor_2_0 6 rfl rfl)
theorem dJ8_inflateIfNeededFor_2_7 : decode cJ8_inflateIfNeededFor_2 7 = .ok (.getfield 22, 3) := dk_180 0 22 (dk_at dksJ8_inflateIfNeededFor_2_0 7 rfl rfl)
theorem dJ8_inflateIfNeededFor_2_10 : decode cJ8_inflateIfNeededFor_2 10 = .ok (.aload_n 1, 1) := dk_43 (dk_at dksJ8_inflateIfNeededFor_2_0 10 rfl rfl)
theorem dJ8_inflateIfNeededFor_2_11 : decode cJ8_inflateIfNeededFor_2 11 = .ok (.invokevirtual 70, 3) := dk_182 0 70 (dk_at dksJ8_inflateIfNeededFor_2_0 11 rfl rfl)
theorem dJ8_inflateIfNeededFor_2_14 : decode cJ8_inflateIfNeededFor_2 14 = .ok (.if_icmp .eq 7, 3) := dk_159 0 7 (dk_at dksJ8_inflateIfNeededFor_2_0 14 rfl rfl)
theorem dJ8_inflateIfNeededFor_2_17 : decode cJ8_inflateIfNeededFor_2 17 = .ok (.aload_n 0, 1) := dk_42 (dk_at dksJ8_inflateIfNeededFor_2_0 17 rfl rfl)
theorem dJ8_inflateIfNeededFor_2_18 : decode cJ8_inflateIfNeededFor_2 18 = .ok (.invokevirtual 195, 3) := dk_182 0 195 (dk_at dksJ8_inflateIfNeededFor_2_0 18 rfl rfl)
theorem dJ8_inflateIfNeededFor_2_21 : decode cJ8_inflateIfNeededFor_2 21 = .ok (.return_, 1) := dk_177 (dk_at dksJ8_inflateIfNeededFor_2_0 21 rfl rfl)
abbrev cJ8_getCoder : ByteArray := prog_21_method_67_code
def yJ8_getCoder : MethodName := ⟨RJ8, "getCoder", "()B"⟩
def dkwJ8_getCoder_0 : List UInt8 := [178, 0, 18, 153, 0, 10, 42, 180, 0, 22, 167, 0, 4, 4, 172]
abbrev dktJ8_getCoder_0 : List UInt8 := dkwJ8_getCoder_0 ++ []
theorem dksJ8_getCoder_0 : cJ8_getCoder.data.toList.drop 0 = dktJ8_getCoder_0 := by decide +kernel
theorem dJ8_getCoder_0 : decode cJ8_getCoder 0 = .ok (.getstatic 18, 3) := dk_178 0 18 (dk_at dksJ8_getCoder_0 0 rfl rfl)
theorem dJ8_getCoder_3 : decode cJ8_getCoder 3 = .ok (.ifCond .eq 10, 3) := dk_153 0 10 (dk_at dksJ8_getCoder_0 3 rfl rfl)
theorem dJ8_getCoder_6 : decode cJ8_getCoder 6 = .ok (.aload_n 0, 1) := dk_42 (dk_at dksJ8_getCoder_0 6 rfl rfl)
theorem dJ8_getCoder_7 : decode cJ8_getCoder 7 = .ok (.getfield 22, 3) := dk_180 0 22 (dk_at dksJ8_getCoder_0 7 rfl rfl)
theorem dJ8_getCoder_10 : decode cJ8_getCoder 10 = .ok (.goto 4, 3) := dk_167 0 4 (dk_at dksJ8_getCoder_0 10 rfl rfl)
theorem dJ8_getCoder_13 : decode cJ8_getCoder 13 = .ok (.iconst 1, 1) := dk_4 (dk_at dksJ8_getCoder_0 13 rfl rfl)
theorem dJ8_getCoder_14 : decode cJ8_getCoder 14 = .ok (.ireturn, 1) := dk_172 (dk_at dksJ8_getCoder_0 14 rfl rfl)
abbrev cJ8_getBytes : ByteArray := prog_21_method_65_code
def yJ8_getBytes : MethodName := ⟨RJ8, "getBytes", "([BIB)V"⟩
def dkwJ8_getBytes_1 : List UInt8 := [184, 1, 53, 167, 0, 17, 42, 180, 0, 15, 3, 43, 28, 42, 180, 0, 79, 184, 0, 125, 177]
abbrev dktJ8_getBytes_1 : List UInt8 := dkwJ8_getBytes_1 ++ []
def dkwJ8_getBytes_0 : List UInt8 := [42, 180, 0, 22, 29, 160, 0, 24, 42, 180, 0, 15, 3, 43, 28, 29, 120, 42, 180, 0, 79, 29, 120]
abbrev dktJ8_getBytes_0 : List UInt8 := dkwJ8_getBytes_0 ++ dktJ8_getBytes_1
theorem dksJ8_getBytes_0 : cJ8_getBytes.data.toList.drop 0 = dktJ8_getBytes_0 := by decide +kernel
theorem dksJ8_getBytes_1 : cJ8_getBytes.data.toList.drop 23 = dktJ8_getBytes_1 := dk_seg dksJ8_getBytes_0 23 rfl rfl
theorem dJ8_getBytes_0 : decode cJ8_getBytes 0 = .ok (.aload_n 0, 1) := dk_42 (dk_at dksJ8_getBytes_0 0 rfl rfl)
theorem dJ8_getBytes_1 : decode cJ8_getBytes 1 = .ok (.getfield 22, 3) := dk_180 0 22 (dk_at dksJ8_getBytes_0 1 rfl rfl)
theorem dJ8_getBytes_4 : decode cJ8_getBytes 4 = .ok (.iload_n 3, 1) := dk_29 (dk_at dksJ8_getBytes_0 4 rfl rfl)
theorem dJ8_getBytes_5 : decode cJ8_getBytes 5 = .ok (.if_icmp .ne 24, 3) := dk_160 0 24 (dk_at dksJ8_getBytes_0 5 rfl rfl)
theorem dJ8_getBytes_8 : decode cJ8_getBytes 8 = .ok (.aload_n 0, 1) := dk_42 (dk_at dksJ8_getBytes_0 8 rfl rfl)
theorem dJ8_getBytes_9 : decode cJ8_getBytes 9 = .ok (.getfield 15, 3) := dk_180 0 15 (dk_at dksJ8_getBytes_0 9 rfl rfl)
theorem dJ8_getBytes_12 : decode cJ8_getBytes 12 = .ok (.iconst 0, 1) := dk_3 (dk_at dksJ8_getBytes_0 12 rfl rfl)
theorem dJ8_getBytes_13 : decode cJ8_getBytes 13 = .ok (.aload_n 1, 1) := dk_43 (dk_at dksJ8_getBytes_0 13 rfl rfl)
theorem dJ8_getBytes_14 : decode cJ8_getBytes 14 = .ok (.iload_n 2, 1) := dk_28 (dk_at dksJ8_getBytes_0 14 rfl rfl)
theorem dJ8_getBytes_15 : decode cJ8_getBytes 15 = .ok (.iload_n 3, 1) := dk_29 (dk_at dksJ8_getBytes_0 15 rfl rfl)
theorem dJ8_getBytes_16 : decode cJ8_getBytes 16 = .ok (.ishl, 1) := dk_120 (dk_at dksJ8_getBytes_0 16 rfl rfl)
theorem dJ8_getBytes_17 : decode cJ8_getBytes 17 = .ok (.aload_n 0, 1) := dk_42 (dk_at dksJ8_getBytes_0 17 rfl rfl)
theorem dJ8_getBytes_18 : decode cJ8_getBytes 18 = .ok (.getfield 79, 3) := dk_180 0 79 (dk_at dksJ8_getBytes_0 18 rfl rfl)
theorem dJ8_getBytes_21 : decode cJ8_getBytes 21 = .ok (.iload_n 3, 1) := dk_29 (dk_at dksJ8_getBytes_0 21 rfl rfl)
theorem dJ8_getBytes_22 : decode cJ8_getBytes 22 = .ok (.ishl, 1) := dk_120 (dk_at dksJ8_getBytes_0 22 rfl rfl)
theorem dJ8_getBytes_23 : decode cJ8_getBytes 23 = .ok (.invokestatic 309, 3) := dk_184 1 53 (dk_at dksJ8_getBytes_1 0 rfl rfl)
theorem dJ8_getBytes_26 : decode cJ8_getBytes 26 = .ok (.goto 17, 3) := dk_167 0 17 (dk_at dksJ8_getBytes_1 3 rfl rfl)
theorem dJ8_getBytes_29 : decode cJ8_getBytes 29 = .ok (.aload_n 0, 1) := dk_42 (dk_at dksJ8_getBytes_1 6 rfl rfl)
theorem dJ8_getBytes_30 : decode cJ8_getBytes 30 = .ok (.getfield 15, 3) := dk_180 0 15 (dk_at dksJ8_getBytes_1 7 rfl rfl)
theorem dJ8_getBytes_33 : decode cJ8_getBytes 33 = .ok (.iconst 0, 1) := dk_3 (dk_at dksJ8_getBytes_1 10 rfl rfl)
theorem dJ8_getBytes_34 : decode cJ8_getBytes 34 = .ok (.aload_n 1, 1) := dk_43 (dk_at dksJ8_getBytes_1 11 rfl rfl)
theorem dJ8_getBytes_35 : decode cJ8_getBytes 35 = .ok (.iload_n 2, 1) := dk_28 (dk_at dksJ8_getBytes_1 12 rfl rfl)
theorem dJ8_getBytes_36 : decode cJ8_getBytes 36 = .ok (.aload_n 0, 1) := dk_42 (dk_at dksJ8_getBytes_1 13 rfl rfl)
theorem dJ8_getBytes_37 : decode cJ8_getBytes 37 = .ok (.getfield 79, 3) := dk_180 0 79 (dk_at dksJ8_getBytes_1 14 rfl rfl)
theorem dJ8_getBytes_40 : decode cJ8_getBytes 40 = .ok (.invokestatic 125, 3) := dk_184 0 125 (dk_at dksJ8_getBytes_1 17 rfl rfl)
theorem dJ8_getBytes_43 : decode cJ8_getBytes 43 = .ok (.return_, 1) := dk_177 (dk_at dksJ8_getBytes_1 20 rfl rfl)
abbrev cJ8_append_8 : ByteArray := prog_21_method_27_code
def yJ8_append_8 : MethodName := ⟨RJ8, "append", "(Ljava/lang/CharSequence;II)Ljava/lang/AbstractStringBuilder;"⟩
def dkwJ8_append_8_2 : List UInt8 := [192, 0, 1, 28, 29, 182, 0, 232, 167, 0, 10, 42, 43, 28, 29, 182, 0, 236, 42, 176]
abbrev dktJ8_append_8_2 : List UInt8 := dkwJ8_append_8_2 ++ []
def dkwJ8_append_8_1 : List UInt8 := [100, 54, 4, 42, 42, 180, 0, 79, 21, 4, 96, 182, 0, 100, 43, 193, 0, 1, 153, 0, 16, 42, 43]
abbrev dktJ8_append_8_1 : List UInt8 := dkwJ8_append_8_1 ++ dktJ8_append_8_2
def dkwJ8_append_8_0 : List UInt8 := [43, 199, 0, 6, 18, 230, 76, 28, 29, 43, 185, 0, 47, 1, 0, 178, 0, 183, 184, 0, 161, 87, 29, 28]
abbrev dktJ8_append_8_0 : List UInt8 := dkwJ8_append_8_0 ++ dktJ8_append_8_1
theorem dksJ8_append_8_0 : cJ8_append_8.data.toList.drop 0 = dktJ8_append_8_0 := by decide +kernel
theorem dksJ8_append_8_1 : cJ8_append_8.data.toList.drop 24 = dktJ8_append_8_1 := dk_seg dksJ8_append_8_0 24 rfl rfl
theorem dksJ8_append_8_2 : cJ8_append_8.data.toList.drop 47 = dktJ8_append_8_2 := dk_seg dksJ8_append_8_1 23 rfl rfl
theorem dJ8_append_8_0 : decode cJ8_append_8 0 = .ok (.aload_n 1, 1) := dk_43 (dk_at dksJ8_append_8_0 0 rfl rfl)
theorem dJ8_append_8_1 : decode cJ8_append_8 1 = .ok (.ifnonnull 6, 3) := dk_199 0 6 (dk_at dksJ8_append_8_0 1 rfl rfl)
theorem dJ8_append_8_4 : decode cJ8_append_8 4 = .ok (.ldc 230, 2) := dk_18 230 (dk_at dksJ8_append_8_0 4 rfl rfl)
theorem dJ8_append_8_6 : decode cJ8_append_8 6 = .ok (.astore_n 1, 1) := dk_76 (dk_at dksJ8_append_8_0 6 rfl rfl)
theorem dJ8_append_8_7 : decode cJ8_append_8 7 = .ok (.iload_n 2, 1) := dk_28 (dk_at dksJ8_append_8_0 7 rfl rfl)
theorem dJ8_append_8_8 : decode cJ8_append_8 8 = .ok (.iload_n 3, 1) := dk_29 (dk_at dksJ8_append_8_0 8 rfl rfl)
theorem dJ8_append_8_9 : decode cJ8_append_8 9 = .ok (.aload_n 1, 1) := dk_43 (dk_at dksJ8_append_8_0 9 rfl rfl)
theorem dJ8_append_8_10 : decode cJ8_append_8 10 = .ok (.invokeinterface 47 1, 5) := by decide +kernel
theorem dJ8_append_8_15 : decode cJ8_append_8 15 = .ok (.getstatic 183, 3) := dk_178 0 183 (dk_at dksJ8_append_8_0 15 rfl rfl)
theorem dJ8_append_8_18 : decode cJ8_append_8 18 = .ok (.invokestatic 161, 3) := dk_184 0 161 (dk_at dksJ8_append_8_0 18 rfl rfl)
theorem dJ8_append_8_21 : decode cJ8_append_8 21 = .ok (.pop, 1) := dk_87 (dk_at dksJ8_append_8_0 21 rfl rfl)
theorem dJ8_append_8_22 : decode cJ8_append_8 22 = .ok (.iload_n 3, 1) := dk_29 (dk_at dksJ8_append_8_0 22 rfl rfl)
theorem dJ8_append_8_23 : decode cJ8_append_8 23 = .ok (.iload_n 2, 1) := dk_28 (dk_at dksJ8_append_8_0 23 rfl rfl)
theorem dJ8_append_8_24 : decode cJ8_append_8 24 = .ok (.isub, 1) := dk_100 (dk_at dksJ8_append_8_1 0 rfl rfl)
theorem dJ8_append_8_25 : decode cJ8_append_8 25 = .ok (.istore 4, 2) := dk_54 4 (dk_at dksJ8_append_8_1 1 rfl rfl)
theorem dJ8_append_8_27 : decode cJ8_append_8 27 = .ok (.aload_n 0, 1) := dk_42 (dk_at dksJ8_append_8_1 3 rfl rfl)
theorem dJ8_append_8_28 : decode cJ8_append_8 28 = .ok (.aload_n 0, 1) := dk_42 (dk_at dksJ8_append_8_1 4 rfl rfl)
theorem dJ8_append_8_29 : decode cJ8_append_8 29 = .ok (.getfield 79, 3) := dk_180 0 79 (dk_at dksJ8_append_8_1 5 rfl rfl)
theorem dJ8_append_8_32 : decode cJ8_append_8 32 = .ok (.iload 4, 2) := dk_21 4 (dk_at dksJ8_append_8_1 8 rfl rfl)
theorem dJ8_append_8_34 : decode cJ8_append_8 34 = .ok (.iadd, 1) := dk_96 (dk_at dksJ8_append_8_1 10 rfl rfl)
theorem dJ8_append_8_35 : decode cJ8_append_8 35 = .ok (.invokevirtual 100, 3) := dk_182 0 100 (dk_at dksJ8_append_8_1 11 rfl rfl)
theorem dJ8_append_8_38 : decode cJ8_append_8 38 = .ok (.aload_n 1, 1) := dk_43 (dk_at dksJ8_append_8_1 14 rfl rfl)
theorem dJ8_append_8_39 : decode cJ8_append_8 39 = .ok (.instanceof 1, 3) := dk_193 0 1 (dk_at dksJ8_append_8_1 15 rfl rfl)
theorem dJ8_append_8_42 : decode cJ8_append_8 42 = .ok (.ifCond .eq 16, 3) := dk_153 0 16 (dk_at dksJ8_append_8_1 18 rfl rfl)
theorem dJ8_append_8_45 : decode cJ8_append_8 45 = .ok (.aload_n 0, 1) := dk_42 (dk_at dksJ8_append_8_1 21 rfl rfl)
theorem dJ8_append_8_46 : decode cJ8_append_8 46 = .ok (.aload_n 1, 1) := dk_43 (dk_at dksJ8_append_8_1 22 rfl rfl)
theorem dJ8_append_8_47 : decode cJ8_append_8 47 = .ok (.checkcast 1, 3) := dk_192 0 1 (dk_at dksJ8_append_8_2 0 rfl rfl)
theorem dJ8_append_8_50 : decode cJ8_append_8 50 = .ok (.iload_n 2, 1) := dk_28 (dk_at dksJ8_append_8_2 3 rfl rfl)
theorem dJ8_append_8_51 : decode cJ8_append_8 51 = .ok (.iload_n 3, 1) := dk_29 (dk_at dksJ8_append_8_2 4 rfl rfl)
theorem dJ8_append_8_52 : decode cJ8_append_8 52 = .ok (.invokevirtual 232, 3) := dk_182 0 232 (dk_at dksJ8_append_8_2 5 rfl rfl)
theorem dJ8_append_8_55 : decode cJ8_append_8 55 = .ok (.goto 10, 3) := dk_167 0 10 (dk_at dksJ8_append_8_2 8 rfl rfl)
theorem dJ8_append_8_58 : decode cJ8_append_8 58 = .ok (.aload_n 0, 1) := dk_42 (dk_at dksJ8_append_8_2 11 rfl rfl)
theorem dJ8_append_8_59 : decode cJ8_append_8 59 = .ok (.aload_n 1, 1) := dk_43 (dk_at dksJ8_append_8_2 12 rfl rfl)
theorem dJ8_append_8_60 : decode cJ8_append_8 60 = .ok (.iload_n 2, 1) := dk_28 (dk_at dksJ8_append_8_2 13 rfl rfl)
theorem dJ8_append_8_61 : decode cJ8_append_8 61 = .ok (.iload_n 3, 1) := dk_29 (dk_at dksJ8_append_8_2 14 rfl rfl)
theorem dJ8_append_8_62 : decode cJ8_append_8 62 = .ok (.invokevirtual 236, 3) := dk_182 0 236 (dk_at dksJ8_append_8_2 15 rfl rfl)
theorem dJ8_append_8_65 : decode cJ8_append_8 65 = .ok (.aload_n 0, 1) := dk_42 (dk_at dksJ8_append_8_2 18 rfl rfl)
theorem dJ8_append_8_66 : decode cJ8_append_8 66 = .ok (.areturn, 1) := dk_176 (dk_at dksJ8_append_8_2 19 rfl rfl)
abbrev cJ8_appendChars_2 : ByteArray := prog_21_method_75_code
def yJ8_appendChars_2 : MethodName := ⟨RJ8, "appendChars", "(Ljava/lang/String;II)V"⟩
def dkwJ8_appendChars_2_8 : List UInt8 := [120, 184, 1, 53, 42, 89, 180, 0, 79, 29, 28, 100, 96, 181, 0, 79, 177]
abbrev dktJ8_appendChars_2_8 : List UInt8 := dkwJ8_appendChars_2_8 ++ []
def dkwJ8_appendChars_2_7 : List UInt8 := [167, 0, 28, 43, 182, 1, 145, 28, 4, 120, 42, 180, 0, 15, 42, 180, 0, 79, 4, 120, 29, 28, 100, 4]
abbrev dktJ8_appendChars_2_7 : List UInt8 := dkwJ8_appendChars_2_7 ++ dktJ8_appendChars_2_8
def dkwJ8_appendChars_2_6 : List UInt8 := [167, 0, 52, 43, 182, 1, 144, 153, 0, 20, 42, 180, 0, 15, 42, 180, 0, 79, 43, 28, 29, 184, 1, 138]
abbrev dktJ8_appendChars_2_6 : List UInt8 := dkwJ8_appendChars_2_6 ++ dktJ8_appendChars_2_7
def dkwJ8_appendChars_2_5 : List UInt8 := [120, 184, 1, 53, 42, 89, 180, 0, 79, 29, 21, 5, 100, 96, 181, 0, 79, 177, 132, 5, 1, 167, 255, 168]
abbrev dktJ8_appendChars_2_5 : List UInt8 := dkwJ8_appendChars_2_5 ++ dktJ8_appendChars_2_6
def dkwJ8_appendChars_2_4 : List UInt8 := [182, 0, 195, 43, 182, 1, 145, 21, 5, 4, 120, 42, 180, 0, 15, 21, 6, 4, 120, 29, 21, 5, 100, 4]
abbrev dktJ8_appendChars_2_4 : List UInt8 := dkwJ8_appendChars_2_4 ++ dktJ8_appendChars_2_5
def dkwJ8_appendChars_2_3 : List UInt8 := [153, 0, 17, 25, 4, 21, 6, 132, 6, 1, 21, 7, 145, 84, 167, 0, 52, 42, 21, 6, 181, 0, 79, 42]
abbrev dktJ8_appendChars_2_3 : List UInt8 := dkwJ8_appendChars_2_3 ++ dktJ8_appendChars_2_4
def dkwJ8_appendChars_2_2 : List UInt8 := [180, 0, 79, 54, 6, 21, 5, 29, 162, 0, 88, 43, 21, 5, 182, 1, 148, 54, 7, 21, 7, 184, 0, 191]
abbrev dktJ8_appendChars_2_2 : List UInt8 := dkwJ8_appendChars_2_2 ++ dktJ8_appendChars_2_3
def dkwJ8_appendChars_2_1 : List UInt8 := [180, 0, 79, 29, 28, 100, 184, 1, 53, 167, 0, 161, 42, 180, 0, 15, 58, 4, 28, 54, 5, 42]
abbrev dktJ8_appendChars_2_1 : List UInt8 := dkwJ8_appendChars_2_1 ++ dktJ8_appendChars_2_2
def dkwJ8_appendChars_2_0 : List UInt8 := [42, 182, 0, 83, 153, 0, 141, 43, 182, 1, 144, 153, 0, 25, 43, 182, 1, 145, 28, 42, 180, 0, 15, 42]
abbrev dktJ8_appendChars_2_0 : List UInt8 := dkwJ8_appendChars_2_0 ++ dktJ8_appendChars_2_1
theorem dksJ8_appendChars_2_0 : cJ8_appendChars_2.data.toList.drop 0 = dktJ8_appendChars_2_0 := by decide +kernel
theorem dksJ8_appendChars_2_1 : cJ8_appendChars_2.data.toList.drop 24 = dktJ8_appendChars_2_1 := dk_seg dksJ8_appendChars_2_0 24 rfl rfl
theorem dksJ8_appendChars_2_2 : cJ8_appendChars_2.data.toList.drop 46 = dktJ8_appendChars_2_2 := dk_seg dksJ8_appendChars_2_1 22 rfl rfl
theorem dksJ8_appendChars_2_3 : cJ8_appendChars_2.data.toList.drop 70 = dktJ8_appendChars_2_3 := dk_seg dksJ8_appendChars_2_2 24 rfl rfl
theorem dksJ8_appendChars_2_4 : cJ8_appendChars_2.data.toList.drop 94 = dktJ8_appendChars_2_4 := dk_seg dksJ8_appendChars_2_3 24 rfl rfl
theorem dksJ8_appendChars_2_5 : cJ8_appendChars_2.data.toList.drop 118 = dktJ8_appendChars_2_5 := dk_seg dksJ8_appendChars_2_4 24 rfl rfl
theorem dksJ8_appendChars_2_6 : cJ8_appendChars_2.data.toList.drop 142 = dktJ8_appendChars_2_6 := dk_seg dksJ8_appendChars_2_5 24 rfl rfl
theorem dksJ8_appendChars_2_7 : cJ8_appendChars_2.data.toList.drop 166 = dktJ8_appendChars_2_7 := dk_seg dksJ8_appendChars_2_6 24 rfl rfl
theorem dksJ8_appendChars_2_8 : cJ8_appendChars_2.data.toList.drop 190 = dktJ8_appendChars_2_8 := dk_seg dksJ8_appendChars_2_7 24 rfl rfl
theorem dJ8_appendChars_2_0 : decode cJ8_appendChars_2 0 = .ok (.aload_n 0, 1) := dk_42 (dk_at dksJ8_appendChars_2_0 0 rfl rfl)
theorem dJ8_appendChars_2_1 : decode cJ8_appendChars_2 1 = .ok (.invokevirtual 83, 3) := dk_182 0 83 (dk_at dksJ8_appendChars_2_0 1 rfl rfl)
theorem dJ8_appendChars_2_4 : decode cJ8_appendChars_2 4 = .ok (.ifCond .eq 141, 3) := dk_153 0 141 (dk_at dksJ8_appendChars_2_0 4 rfl rfl)
theorem dJ8_appendChars_2_7 : decode cJ8_appendChars_2 7 = .ok (.aload_n 1, 1) := dk_43 (dk_at dksJ8_appendChars_2_0 7 rfl rfl)
theorem dJ8_appendChars_2_8 : decode cJ8_appendChars_2 8 = .ok (.invokevirtual 400, 3) := dk_182 1 144 (dk_at dksJ8_appendChars_2_0 8 rfl rfl)
theorem dJ8_appendChars_2_11 : decode cJ8_appendChars_2 11 = .ok (.ifCond .eq 25, 3) := dk_153 0 25 (dk_at dksJ8_appendChars_2_0 11 rfl rfl)
theorem dJ8_appendChars_2_14 : decode cJ8_appendChars_2 14 = .ok (.aload_n 1, 1) := dk_43 (dk_at dksJ8_appendChars_2_0 14 rfl rfl)
theorem dJ8_appendChars_2_15 : decode cJ8_appendChars_2 15 = .ok (.invokevirtual 401, 3) := dk_182 1 145 (dk_at dksJ8_appendChars_2_0 15 rfl rfl)
theorem dJ8_appendChars_2_18 : decode cJ8_appendChars_2 18 = .ok (.iload_n 2, 1) := dk_28 (dk_at dksJ8_appendChars_2_0 18 rfl rfl)
theorem dJ8_appendChars_2_19 : decode cJ8_appendChars_2 19 = .ok (.aload_n 0, 1) := dk_42 (dk_at dksJ8_appendChars_2_0 19 rfl rfl)
theorem dJ8_appendChars_2_20 : decode cJ8_appendChars_2 20 = .ok (.getfield 15, 3) := dk_180 0 15 (dk_at dksJ8_appendChars_2_0 20 rfl rfl)
theorem dJ8_appendChars_2_23 : decode cJ8_appendChars_2 23 = .ok (.aload_n 0, 1) := dk_42 (dk_at dksJ8_appendChars_2_0 23 rfl rfl)
theorem dJ8_appendChars_2_24 : decode cJ8_appendChars_2 24 = .ok (.getfield 79, 3) := dk_180 0 79 (dk_at dksJ8_appendChars_2_1 0 rfl rfl)
theorem dJ8_appendChars_2_27 : decode cJ8_appendChars_2 27 = .ok (.iload_n 3, 1) := dk_29 (dk_at dksJ8_appendChars_2_1 3 rfl rfl)
theorem dJ8_appendChars_2_28 : decode cJ8_appendChars_2 28 = .ok (.iload_n 2, 1) := dk_28 (dk_at dksJ8_appendChars_2_1 4 rfl rfl)
theorem dJ8_appendChars_2_29 : decode cJ8_appendChars_2 29 = .ok (.isub, 1) := dk_100 (dk_at dksJ8_appendChars_2_1 5 rfl rfl)
theorem dJ8_appendChars_2_30 : decode cJ8_appendChars_2 30 = .ok (.invokestatic 309, 3) := dk_184 1 53 (dk_at dksJ8_appendChars_2_1 6 rfl rfl)
theorem dJ8_appendChars_2_33 : decode cJ8_appendChars_2 33 = .ok (.goto 161, 3) := dk_167 0 161 (dk_at dksJ8_appendChars_2_1 9 rfl rfl)
theorem dJ8_appendChars_2_36 : decode cJ8_appendChars_2 36 = .ok (.aload_n 0, 1) := dk_42 (dk_at dksJ8_appendChars_2_1 12 rfl rfl)
theorem dJ8_appendChars_2_37 : decode cJ8_appendChars_2 37 = .ok (.getfield 15, 3) := dk_180 0 15 (dk_at dksJ8_appendChars_2_1 13 rfl rfl)
theorem dJ8_appendChars_2_40 : decode cJ8_appendChars_2 40 = .ok (.astore 4, 2) := dk_58 4 (dk_at dksJ8_appendChars_2_1 16 rfl rfl)
theorem dJ8_appendChars_2_42 : decode cJ8_appendChars_2 42 = .ok (.iload_n 2, 1) := dk_28 (dk_at dksJ8_appendChars_2_1 18 rfl rfl)
theorem dJ8_appendChars_2_43 : decode cJ8_appendChars_2 43 = .ok (.istore 5, 2) := dk_54 5 (dk_at dksJ8_appendChars_2_1 19 rfl rfl)
theorem dJ8_appendChars_2_45 : decode cJ8_appendChars_2 45 = .ok (.aload_n 0, 1) := dk_42 (dk_at dksJ8_appendChars_2_1 21 rfl rfl)
theorem dJ8_appendChars_2_46 : decode cJ8_appendChars_2 46 = .ok (.getfield 79, 3) := dk_180 0 79 (dk_at dksJ8_appendChars_2_2 0 rfl rfl)
theorem dJ8_appendChars_2_49 : decode cJ8_appendChars_2 49 = .ok (.istore 6, 2) := dk_54 6 (dk_at dksJ8_appendChars_2_2 3 rfl rfl)
theorem dJ8_appendChars_2_51 : decode cJ8_appendChars_2 51 = .ok (.iload 5, 2) := dk_21 5 (dk_at dksJ8_appendChars_2_2 5 rfl rfl)
theorem dJ8_appendChars_2_53 : decode cJ8_appendChars_2 53 = .ok (.iload_n 3, 1) := dk_29 (dk_at dksJ8_appendChars_2_2 7 rfl rfl)
theorem dJ8_appendChars_2_54 : decode cJ8_appendChars_2 54 = .ok (.if_icmp .ge 88, 3) := dk_162 0 88 (dk_at dksJ8_appendChars_2_2 8 rfl rfl)
theorem dJ8_appendChars_2_57 : decode cJ8_appendChars_2 57 = .ok (.aload_n 1, 1) := dk_43 (dk_at dksJ8_appendChars_2_2 11 rfl rfl)
theorem dJ8_appendChars_2_58 : decode cJ8_appendChars_2 58 = .ok (.iload 5, 2) := dk_21 5 (dk_at dksJ8_appendChars_2_2 12 rfl rfl)
theorem dJ8_appendChars_2_60 : decode cJ8_appendChars_2 60 = .ok (.invokevirtual 404, 3) := dk_182 1 148 (dk_at dksJ8_appendChars_2_2 14 rfl rfl)
theorem dJ8_appendChars_2_63 : decode cJ8_appendChars_2 63 = .ok (.istore 7, 2) := dk_54 7 (dk_at dksJ8_appendChars_2_2 17 rfl rfl)
theorem dJ8_appendChars_2_65 : decode cJ8_appendChars_2 65 = .ok (.iload 7, 2) := dk_21 7 (dk_at dksJ8_appendChars_2_2 19 rfl rfl)
theorem dJ8_appendChars_2_67 : decode cJ8_appendChars_2 67 = .ok (.invokestatic 191, 3) := dk_184 0 191 (dk_at dksJ8_appendChars_2_2 21 rfl rfl)
theorem dJ8_appendChars_2_70 : decode cJ8_appendChars_2 70 = .ok (.ifCond .eq 17, 3) := dk_153 0 17 (dk_at dksJ8_appendChars_2_3 0 rfl rfl)
theorem dJ8_appendChars_2_73 : decode cJ8_appendChars_2 73 = .ok (.aload 4, 2) := dk_25 4 (dk_at dksJ8_appendChars_2_3 3 rfl rfl)
theorem dJ8_appendChars_2_75 : decode cJ8_appendChars_2 75 = .ok (.iload 6, 2) := dk_21 6 (dk_at dksJ8_appendChars_2_3 5 rfl rfl)
theorem dJ8_appendChars_2_77 : decode cJ8_appendChars_2 77 = .ok (.iinc 6 1, 3) := dk_132 6 1 (dk_at dksJ8_appendChars_2_3 7 rfl rfl)
theorem dJ8_appendChars_2_80 : decode cJ8_appendChars_2 80 = .ok (.iload 7, 2) := dk_21 7 (dk_at dksJ8_appendChars_2_3 10 rfl rfl)
theorem dJ8_appendChars_2_82 : decode cJ8_appendChars_2 82 = .ok (.i2b, 1) := dk_145 (dk_at dksJ8_appendChars_2_3 12 rfl rfl)
theorem dJ8_appendChars_2_83 : decode cJ8_appendChars_2 83 = .ok (.bastore, 1) := dk_84 (dk_at dksJ8_appendChars_2_3 13 rfl rfl)
theorem dJ8_appendChars_2_84 : decode cJ8_appendChars_2 84 = .ok (.goto 52, 3) := dk_167 0 52 (dk_at dksJ8_appendChars_2_3 14 rfl rfl)
theorem dJ8_appendChars_2_87 : decode cJ8_appendChars_2 87 = .ok (.aload_n 0, 1) := dk_42 (dk_at dksJ8_appendChars_2_3 17 rfl rfl)
theorem dJ8_appendChars_2_88 : decode cJ8_appendChars_2 88 = .ok (.iload 6, 2) := dk_21 6 (dk_at dksJ8_appendChars_2_3 18 rfl rfl)
theorem dJ8_appendChars_2_90 : decode cJ8_appendChars_2 90 = .ok (.putfield 79, 3) := dk_181 0 79 (dk_at dksJ8_appendChars_2_3 20 rfl rfl)
theorem dJ8_appendChars_2_93 : decode cJ8_appendChars_2 93 = .ok (.aload_n 0, 1) := dk_42 (dk_at dksJ8_appendChars_2_3 23 rfl rfl)
theorem dJ8_appendChars_2_94 : decode cJ8_appendChars_2 94 = .ok (.invokevirtual 195, 3) := dk_182 0 195 (dk_at dksJ8_appendChars_2_4 0 rfl rfl)
theorem dJ8_appendChars_2_97 : decode cJ8_appendChars_2 97 = .ok (.aload_n 1, 1) := dk_43 (dk_at dksJ8_appendChars_2_4 3 rfl rfl)
theorem dJ8_appendChars_2_98 : decode cJ8_appendChars_2 98 = .ok (.invokevirtual 401, 3) := dk_182 1 145 (dk_at dksJ8_appendChars_2_4 4 rfl rfl)
theorem dJ8_appendChars_2_101 : decode cJ8_appendChars_2 101 = .ok (.iload 5, 2) := dk_21 5 (dk_at dksJ8_appendChars_2_4 7 rfl rfl)
theorem dJ8_appendChars_2_103 : decode cJ8_appendChars_2 103 = .ok (.iconst 1, 1) := dk_4 (dk_at dksJ8_appendChars_2_4 9 rfl rfl)
theorem dJ8_appendChars_2_104 : decode cJ8_appendChars_2 104 = .ok (.ishl, 1) := dk_120 (dk_at dksJ8_appendChars_2_4 10 rfl rfl)
theorem dJ8_appendChars_2_105 : decode cJ8_appendChars_2 105 = .ok (.aload_n 0, 1) := dk_42 (dk_at dksJ8_appendChars_2_4 11 rfl rfl)
theorem dJ8_appendChars_2_106 : decode cJ8_appendChars_2 106 = .ok (.getfield 15, 3) := dk_180 0 15 (dk_at dksJ8_appendChars_2_4 12 rfl rfl)
theorem dJ8_appendChars_2_109 : decode cJ8_appendChars_2 109 = .ok (.iload 6, 2) := dk_21 6 (dk_at dksJ8_appendChars_2_4 15 rfl rfl)
theorem dJ8_appendChars_2_111 : decode cJ8_appendChars_2 111 = .ok (.iconst 1, 1) := dk_4 (dk_at dksJ8_appendChars_2_4 17 rfl rfl)
theorem dJ8_appendChars_2_112 : decode cJ8_appendChars_2 112 = .ok (.ishl, 1) := dk_120 (dk_at dksJ8_appendChars_2_4 18 rfl rfl)
theorem dJ8_appendChars_2_113 : decode cJ8_appendChars_2 113 = .ok (.iload_n 3, 1) := dk_29 (dk_at dksJ8_appendChars_2_4 19 rfl rfl)
theorem dJ8_appendChars_2_114 : decode cJ8_appendChars_2 114 = .ok (.iload 5, 2) := dk_21 5 (dk_at dksJ8_appendChars_2_4 20 rfl rfl)
theorem dJ8_appendChars_2_116 : decode cJ8_appendChars_2 116 = .ok (.isub, 1) := dk_100 (dk_at dksJ8_appendChars_2_4 22 rfl rfl)
theorem dJ8_appendChars_2_117 : decode cJ8_appendChars_2 117 = .ok (.iconst 1, 1) := dk_4 (dk_at dksJ8_appendChars_2_4 23 rfl rfl)
theorem dJ8_appendChars_2_118 : decode cJ8_appendChars_2 118 = .ok (.ishl, 1) := dk_120 (dk_at dksJ8_appendChars_2_5 0 rfl rfl)
theorem dJ8_appendChars_2_119 : decode cJ8_appendChars_2 119 = .ok (.invokestatic 309, 3) := dk_184 1 53 (dk_at dksJ8_appendChars_2_5 1 rfl rfl)
theorem dJ8_appendChars_2_122 : decode cJ8_appendChars_2 122 = .ok (.aload_n 0, 1) := dk_42 (dk_at dksJ8_appendChars_2_5 4 rfl rfl)
theorem dJ8_appendChars_2_123 : decode cJ8_appendChars_2 123 = .ok (.dup, 1) := dk_89 (dk_at dksJ8_appendChars_2_5 5 rfl rfl)
theorem dJ8_appendChars_2_124 : decode cJ8_appendChars_2 124 = .ok (.getfield 79, 3) := dk_180 0 79 (dk_at dksJ8_appendChars_2_5 6 rfl rfl)
theorem dJ8_appendChars_2_127 : decode cJ8_appendChars_2 127 = .ok (.iload_n 3, 1) := dk_29 (dk_at dksJ8_appendChars_2_5 9 rfl rfl)
theorem dJ8_appendChars_2_128 : decode cJ8_appendChars_2 128 = .ok (.iload 5, 2) := dk_21 5 (dk_at dksJ8_appendChars_2_5 10 rfl rfl)
theorem dJ8_appendChars_2_130 : decode cJ8_appendChars_2 130 = .ok (.isub, 1) := dk_100 (dk_at dksJ8_appendChars_2_5 12 rfl rfl)
theorem dJ8_appendChars_2_131 : decode cJ8_appendChars_2 131 = .ok (.iadd, 1) := dk_96 (dk_at dksJ8_appendChars_2_5 13 rfl rfl)
theorem dJ8_appendChars_2_132 : decode cJ8_appendChars_2 132 = .ok (.putfield 79, 3) := dk_181 0 79 (dk_at dksJ8_appendChars_2_5 14 rfl rfl)
theorem dJ8_appendChars_2_135 : decode cJ8_appendChars_2 135 = .ok (.return_, 1) := dk_177 (dk_at dksJ8_appendChars_2_5 17 rfl rfl)
theorem dJ8_appendChars_2_136 : decode cJ8_appendChars_2 136 = .ok (.iinc 5 1, 3) := dk_132 5 1 (dk_at dksJ8_appendChars_2_5 18 rfl rfl)
theorem dJ8_appendChars_2_139 : decode cJ8_appendChars_2 139 = .ok (.goto (-88), 3) := dk_167 255 168 (dk_at dksJ8_appendChars_2_5 21 rfl rfl)
theorem dJ8_appendChars_2_142 : decode cJ8_appendChars_2 142 = .ok (.goto 52, 3) := dk_167 0 52 (dk_at dksJ8_appendChars_2_6 0 rfl rfl)
theorem dJ8_appendChars_2_145 : decode cJ8_appendChars_2 145 = .ok (.aload_n 1, 1) := dk_43 (dk_at dksJ8_appendChars_2_6 3 rfl rfl)
theorem dJ8_appendChars_2_146 : decode cJ8_appendChars_2 146 = .ok (.invokevirtual 400, 3) := dk_182 1 144 (dk_at dksJ8_appendChars_2_6 4 rfl rfl)
theorem dJ8_appendChars_2_149 : decode cJ8_appendChars_2 149 = .ok (.ifCond .eq 20, 3) := dk_153 0 20 (dk_at dksJ8_appendChars_2_6 7 rfl rfl)
theorem dJ8_appendChars_2_152 : decode cJ8_appendChars_2 152 = .ok (.aload_n 0, 1) := dk_42 (dk_at dksJ8_appendChars_2_6 10 rfl rfl)
theorem dJ8_appendChars_2_153 : decode cJ8_appendChars_2 153 = .ok (.getfield 15, 3) := dk_180 0 15 (dk_at dksJ8_appendChars_2_6 11 rfl rfl)
theorem dJ8_appendChars_2_156 : decode cJ8_appendChars_2 156 = .ok (.aload_n 0, 1) := dk_42 (dk_at dksJ8_appendChars_2_6 14 rfl rfl)
theorem dJ8_appendChars_2_157 : decode cJ8_appendChars_2 157 = .ok (.getfield 79, 3) := dk_180 0 79 (dk_at dksJ8_appendChars_2_6 15 rfl rfl)
theorem dJ8_appendChars_2_160 : decode cJ8_appendChars_2 160 = .ok (.aload_n 1, 1) := dk_43 (dk_at dksJ8_appendChars_2_6 18 rfl rfl)
theorem dJ8_appendChars_2_161 : decode cJ8_appendChars_2 161 = .ok (.iload_n 2, 1) := dk_28 (dk_at dksJ8_appendChars_2_6 19 rfl rfl)
theorem dJ8_appendChars_2_162 : decode cJ8_appendChars_2 162 = .ok (.iload_n 3, 1) := dk_29 (dk_at dksJ8_appendChars_2_6 20 rfl rfl)
theorem dJ8_appendChars_2_163 : decode cJ8_appendChars_2 163 = .ok (.invokestatic 394, 3) := dk_184 1 138 (dk_at dksJ8_appendChars_2_6 21 rfl rfl)
theorem dJ8_appendChars_2_166 : decode cJ8_appendChars_2 166 = .ok (.goto 28, 3) := dk_167 0 28 (dk_at dksJ8_appendChars_2_7 0 rfl rfl)
theorem dJ8_appendChars_2_169 : decode cJ8_appendChars_2 169 = .ok (.aload_n 1, 1) := dk_43 (dk_at dksJ8_appendChars_2_7 3 rfl rfl)
theorem dJ8_appendChars_2_170 : decode cJ8_appendChars_2 170 = .ok (.invokevirtual 401, 3) := dk_182 1 145 (dk_at dksJ8_appendChars_2_7 4 rfl rfl)
theorem dJ8_appendChars_2_173 : decode cJ8_appendChars_2 173 = .ok (.iload_n 2, 1) := dk_28 (dk_at dksJ8_appendChars_2_7 7 rfl rfl)
theorem dJ8_appendChars_2_174 : decode cJ8_appendChars_2 174 = .ok (.iconst 1, 1) := dk_4 (dk_at dksJ8_appendChars_2_7 8 rfl rfl)
theorem dJ8_appendChars_2_175 : decode cJ8_appendChars_2 175 = .ok (.ishl, 1) := dk_120 (dk_at dksJ8_appendChars_2_7 9 rfl rfl)
theorem dJ8_appendChars_2_176 : decode cJ8_appendChars_2 176 = .ok (.aload_n 0, 1) := dk_42 (dk_at dksJ8_appendChars_2_7 10 rfl rfl)
theorem dJ8_appendChars_2_177 : decode cJ8_appendChars_2 177 = .ok (.getfield 15, 3) := dk_180 0 15 (dk_at dksJ8_appendChars_2_7 11 rfl rfl)
theorem dJ8_appendChars_2_180 : decode cJ8_appendChars_2 180 = .ok (.aload_n 0, 1) := dk_42 (dk_at dksJ8_appendChars_2_7 14 rfl rfl)
theorem dJ8_appendChars_2_181 : decode cJ8_appendChars_2 181 = .ok (.getfield 79, 3) := dk_180 0 79 (dk_at dksJ8_appendChars_2_7 15 rfl rfl)
theorem dJ8_appendChars_2_184 : decode cJ8_appendChars_2 184 = .ok (.iconst 1, 1) := dk_4 (dk_at dksJ8_appendChars_2_7 18 rfl rfl)
theorem dJ8_appendChars_2_185 : decode cJ8_appendChars_2 185 = .ok (.ishl, 1) := dk_120 (dk_at dksJ8_appendChars_2_7 19 rfl rfl)
theorem dJ8_appendChars_2_186 : decode cJ8_appendChars_2 186 = .ok (.iload_n 3, 1) := dk_29 (dk_at dksJ8_appendChars_2_7 20 rfl rfl)
theorem dJ8_appendChars_2_187 : decode cJ8_appendChars_2 187 = .ok (.iload_n 2, 1) := dk_28 (dk_at dksJ8_appendChars_2_7 21 rfl rfl)
theorem dJ8_appendChars_2_188 : decode cJ8_appendChars_2 188 = .ok (.isub, 1) := dk_100 (dk_at dksJ8_appendChars_2_7 22 rfl rfl)
theorem dJ8_appendChars_2_189 : decode cJ8_appendChars_2 189 = .ok (.iconst 1, 1) := dk_4 (dk_at dksJ8_appendChars_2_7 23 rfl rfl)
theorem dJ8_appendChars_2_190 : decode cJ8_appendChars_2 190 = .ok (.ishl, 1) := dk_120 (dk_at dksJ8_appendChars_2_8 0 rfl rfl)
theorem dJ8_appendChars_2_191 : decode cJ8_appendChars_2 191 = .ok (.invokestatic 309, 3) := dk_184 1 53 (dk_at dksJ8_appendChars_2_8 1 rfl rfl)
theorem dJ8_appendChars_2_194 : decode cJ8_appendChars_2 194 = .ok (.aload_n 0, 1) := dk_42 (dk_at dksJ8_appendChars_2_8 4 rfl rfl)
theorem dJ8_appendChars_2_195 : decode cJ8_appendChars_2 195 = .ok (.dup, 1) := dk_89 (dk_at dksJ8_appendChars_2_8 5 rfl rfl)
theorem dJ8_appendChars_2_196 : decode cJ8_appendChars_2 196 = .ok (.getfield 79, 3) := dk_180 0 79 (dk_at dksJ8_appendChars_2_8 6 rfl rfl)
theorem dJ8_appendChars_2_199 : decode cJ8_appendChars_2 199 = .ok (.iload_n 3, 1) := dk_29 (dk_at dksJ8_appendChars_2_8 9 rfl rfl)
theorem dJ8_appendChars_2_200 : decode cJ8_appendChars_2 200 = .ok (.iload_n 2, 1) := dk_28 (dk_at dksJ8_appendChars_2_8 10 rfl rfl)
theorem dJ8_appendChars_2_201 : decode cJ8_appendChars_2 201 = .ok (.isub, 1) := dk_100 (dk_at dksJ8_appendChars_2_8 11 rfl rfl)
theorem dJ8_appendChars_2_202 : decode cJ8_appendChars_2 202 = .ok (.iadd, 1) := dk_96 (dk_at dksJ8_appendChars_2_8 12 rfl rfl)
theorem dJ8_appendChars_2_203 : decode cJ8_appendChars_2 203 = .ok (.putfield 79, 3) := dk_181 0 79 (dk_at dksJ8_appendChars_2_8 13 rfl rfl)
theorem dJ8_appendChars_2_206 : decode cJ8_appendChars_2 206 = .ok (.return_, 1) := dk_177 (dk_at dksJ8_appendChars_2_8 16 rfl rfl)
abbrev cJ8_charAt : ByteArray := prog_21_method_14_code
def yJ8_charAt : MethodName := ⟨RJ8, "charAt", "(I)C"⟩
def dkwJ8_charAt_1 : List UInt8 := [21, 4, 184, 0, 144, 28, 154, 0, 12, 45, 27, 51, 17, 0, 255, 126, 146, 172, 45, 27, 184, 0, 148, 172]
abbrev dktJ8_charAt_1 : List UInt8 := dkwJ8_charAt_1 ++ []
def dkwJ8_charAt_0 : List UInt8 := [42, 180, 0, 22, 61, 42, 180, 0, 15, 78, 42, 180, 0, 79, 45, 190, 28, 122, 184, 0, 138, 54, 4, 27]
abbrev dktJ8_charAt_0 : List UInt8 := dkwJ8_charAt_0 ++ dktJ8_charAt_1
theorem dksJ8_charAt_0 : cJ8_charAt.data.toList.drop 0 = dktJ8_charAt_0 := by decide +kernel
theorem dksJ8_charAt_1 : cJ8_charAt.data.toList.drop 24 = dktJ8_charAt_1 := dk_seg dksJ8_charAt_0 24 rfl rfl
theorem dJ8_charAt_0 : decode cJ8_charAt 0 = .ok (.aload_n 0, 1) := dk_42 (dk_at dksJ8_charAt_0 0 rfl rfl)
theorem dJ8_charAt_1 : decode cJ8_charAt 1 = .ok (.getfield 22, 3) := dk_180 0 22 (dk_at dksJ8_charAt_0 1 rfl rfl)
theorem dJ8_charAt_4 : decode cJ8_charAt 4 = .ok (.istore_n 2, 1) := dk_61 (dk_at dksJ8_charAt_0 4 rfl rfl)
theorem dJ8_charAt_5 : decode cJ8_charAt 5 = .ok (.aload_n 0, 1) := dk_42 (dk_at dksJ8_charAt_0 5 rfl rfl)
theorem dJ8_charAt_6 : decode cJ8_charAt 6 = .ok (.getfield 15, 3) := dk_180 0 15 (dk_at dksJ8_charAt_0 6 rfl rfl)
theorem dJ8_charAt_9 : decode cJ8_charAt 9 = .ok (.astore_n 3, 1) := dk_78 (dk_at dksJ8_charAt_0 9 rfl rfl)
theorem dJ8_charAt_10 : decode cJ8_charAt 10 = .ok (.aload_n 0, 1) := dk_42 (dk_at dksJ8_charAt_0 10 rfl rfl)
theorem dJ8_charAt_11 : decode cJ8_charAt 11 = .ok (.getfield 79, 3) := dk_180 0 79 (dk_at dksJ8_charAt_0 11 rfl rfl)
theorem dJ8_charAt_14 : decode cJ8_charAt 14 = .ok (.aload_n 3, 1) := dk_45 (dk_at dksJ8_charAt_0 14 rfl rfl)
theorem dJ8_charAt_15 : decode cJ8_charAt 15 = .ok (.arraylength, 1) := dk_190 (dk_at dksJ8_charAt_0 15 rfl rfl)
theorem dJ8_charAt_16 : decode cJ8_charAt 16 = .ok (.iload_n 2, 1) := dk_28 (dk_at dksJ8_charAt_0 16 rfl rfl)
theorem dJ8_charAt_17 : decode cJ8_charAt 17 = .ok (.ishr, 1) := dk_122 (dk_at dksJ8_charAt_0 17 rfl rfl)
theorem dJ8_charAt_18 : decode cJ8_charAt 18 = .ok (.invokestatic 138, 3) := dk_184 0 138 (dk_at dksJ8_charAt_0 18 rfl rfl)
theorem dJ8_charAt_21 : decode cJ8_charAt 21 = .ok (.istore 4, 2) := dk_54 4 (dk_at dksJ8_charAt_0 21 rfl rfl)
theorem dJ8_charAt_23 : decode cJ8_charAt 23 = .ok (.iload_n 1, 1) := dk_27 (dk_at dksJ8_charAt_0 23 rfl rfl)
theorem dJ8_charAt_24 : decode cJ8_charAt 24 = .ok (.iload 4, 2) := dk_21 4 (dk_at dksJ8_charAt_1 0 rfl rfl)
theorem dJ8_charAt_26 : decode cJ8_charAt 26 = .ok (.invokestatic 144, 3) := dk_184 0 144 (dk_at dksJ8_charAt_1 2 rfl rfl)
theorem dJ8_charAt_29 : decode cJ8_charAt 29 = .ok (.iload_n 2, 1) := dk_28 (dk_at dksJ8_charAt_1 5 rfl rfl)
theorem dJ8_charAt_30 : decode cJ8_charAt 30 = .ok (.ifCond .ne 12, 3) := dk_154 0 12 (dk_at dksJ8_charAt_1 6 rfl rfl)
theorem dJ8_charAt_33 : decode cJ8_charAt 33 = .ok (.aload_n 3, 1) := dk_45 (dk_at dksJ8_charAt_1 9 rfl rfl)
theorem dJ8_charAt_34 : decode cJ8_charAt 34 = .ok (.iload_n 1, 1) := dk_27 (dk_at dksJ8_charAt_1 10 rfl rfl)
theorem dJ8_charAt_35 : decode cJ8_charAt 35 = .ok (.baload, 1) := dk_51 (dk_at dksJ8_charAt_1 11 rfl rfl)
theorem dJ8_charAt_36 : decode cJ8_charAt 36 = .ok (.sipush 255, 3) := dk_17 0 255 (dk_at dksJ8_charAt_1 12 rfl rfl)
theorem dJ8_charAt_39 : decode cJ8_charAt 39 = .ok (.iand, 1) := dk_126 (dk_at dksJ8_charAt_1 15 rfl rfl)
theorem dJ8_charAt_40 : decode cJ8_charAt 40 = .ok (.i2c, 1) := dk_146 (dk_at dksJ8_charAt_1 16 rfl rfl)
theorem dJ8_charAt_41 : decode cJ8_charAt 41 = .ok (.ireturn, 1) := dk_172 (dk_at dksJ8_charAt_1 17 rfl rfl)
theorem dJ8_charAt_42 : decode cJ8_charAt 42 = .ok (.aload_n 3, 1) := dk_45 (dk_at dksJ8_charAt_1 18 rfl rfl)
theorem dJ8_charAt_43 : decode cJ8_charAt 43 = .ok (.iload_n 1, 1) := dk_27 (dk_at dksJ8_charAt_1 19 rfl rfl)
theorem dJ8_charAt_44 : decode cJ8_charAt 44 = .ok (.invokestatic 148, 3) := dk_184 0 148 (dk_at dksJ8_charAt_1 20 rfl rfl)
theorem dJ8_charAt_47 : decode cJ8_charAt 47 = .ok (.ireturn, 1) := dk_172 (dk_at dksJ8_charAt_1 23 rfl rfl)
abbrev cJ8_appendChars_3 : ByteArray := prog_21_method_76_code
def yJ8_appendChars_3 : MethodName := ⟨RJ8, "appendChars", "(Ljava/lang/CharSequence;II)V"⟩
def dkwJ8_appendChars_3_6 : List UInt8 := [184, 1, 138, 42, 89, 180, 0, 79, 29, 28, 100, 96, 181, 0, 79, 177]
abbrev dktJ8_appendChars_3_6 : List UInt8 := dkwJ8_appendChars_3_6 ++ []
def dkwJ8_appendChars_3_5 : List UInt8 := [181, 0, 79, 177, 132, 5, 1, 167, 255, 155, 167, 0, 17, 42, 180, 0, 15, 42, 180, 0, 79, 43, 28, 29]
abbrev dktJ8_appendChars_3_5 : List UInt8 := dkwJ8_appendChars_3_5 ++ dktJ8_appendChars_3_6
def dkwJ8_appendChars_3_4 : List UInt8 := [180, 0, 15, 21, 6, 43, 21, 5, 29, 184, 1, 138, 42, 89, 180, 0, 79, 29, 21, 5, 100, 96]
abbrev dktJ8_appendChars_3_4 : List UInt8 := dkwJ8_appendChars_3_4 ++ dktJ8_appendChars_3_5
def dkwJ8_appendChars_3_3 : List UInt8 := [180, 0, 15, 21, 6, 132, 6, 1, 21, 7, 184, 0, 197, 42, 21, 6, 181, 0, 79, 132, 5, 1, 42]
abbrev dktJ8_appendChars_3_3 : List UInt8 := dkwJ8_appendChars_3_3 ++ dktJ8_appendChars_3_4
def dkwJ8_appendChars_3_2 : List UInt8 := [21, 6, 132, 6, 1, 21, 7, 145, 84, 167, 0, 63, 42, 21, 6, 181, 0, 79, 42, 182, 0, 195, 42]
abbrev dktJ8_appendChars_3_2 : List UInt8 := dkwJ8_appendChars_3_2 ++ dktJ8_appendChars_3_3
def dkwJ8_appendChars_3_1 : List UInt8 := [29, 162, 0, 101, 43, 21, 5, 185, 1, 134, 2, 0, 54, 7, 21, 7, 184, 0, 191, 153, 0, 17, 25, 4]
abbrev dktJ8_appendChars_3_1 : List UInt8 := dkwJ8_appendChars_3_1 ++ dktJ8_appendChars_3_2
def dkwJ8_appendChars_3_0 : List UInt8 := [42, 182, 0, 83, 153, 0, 125, 42, 180, 0, 15, 58, 4, 28, 54, 5, 42, 180, 0, 79, 54, 6, 21, 5]
abbrev dktJ8_appendChars_3_0 : List UInt8 := dkwJ8_appendChars_3_0 ++ dktJ8_appendChars_3_1
theorem dksJ8_appendChars_3_0 : cJ8_appendChars_3.data.toList.drop 0 = dktJ8_appendChars_3_0 := by decide +kernel
theorem dksJ8_appendChars_3_1 : cJ8_appendChars_3.data.toList.drop 24 = dktJ8_appendChars_3_1 := dk_seg dksJ8_appendChars_3_0 24 rfl rfl
theorem dksJ8_appendChars_3_2 : cJ8_appendChars_3.data.toList.drop 48 = dktJ8_appendChars_3_2 := dk_seg dksJ8_appendChars_3_1 24 rfl rfl
theorem dksJ8_appendChars_3_3 : cJ8_appendChars_3.data.toList.drop 71 = dktJ8_appendChars_3_3 := dk_seg dksJ8_appendChars_3_2 23 rfl rfl
theorem dksJ8_appendChars_3_4 : cJ8_appendChars_3.data.toList.drop 94 = dktJ8_appendChars_3_4 := dk_seg dksJ8_appendChars_3_3 23 rfl rfl
theorem dksJ8_appendChars_3_5 : cJ8_appendChars_3.data.toList.drop 116 = dktJ8_appendChars_3_5 := dk_seg dksJ8_appendChars_3_4 22 rfl rfl
theorem dksJ8_appendChars_3_6 : cJ8_appendChars_3.data.toList.drop 140 = dktJ8_appendChars_3_6 := dk_seg dksJ8_appendChars_3_5 24 rfl rfl
theorem dJ8_appendChars_3_0 : decode cJ8_appendChars_3 0 = .ok (.aload_n 0, 1) := dk_42 (dk_at dksJ8_appendChars_3_0 0 rfl rfl)
theorem dJ8_appendChars_3_1 : decode cJ8_appendChars_3 1 = .ok (.invokevirtual 83, 3) := dk_182 0 83 (dk_at dksJ8_appendChars_3_0 1 rfl rfl)
theorem dJ8_appendChars_3_4 : decode cJ8_appendChars_3 4 = .ok (.ifCond .eq 125, 3) := dk_153 0 125 (dk_at dksJ8_appendChars_3_0 4 rfl rfl)
theorem dJ8_appendChars_3_7 : decode cJ8_appendChars_3 7 = .ok (.aload_n 0, 1) := dk_42 (dk_at dksJ8_appendChars_3_0 7 rfl rfl)
theorem dJ8_appendChars_3_8 : decode cJ8_appendChars_3 8 = .ok (.getfield 15, 3) := dk_180 0 15 (dk_at dksJ8_appendChars_3_0 8 rfl rfl)
theorem dJ8_appendChars_3_11 : decode cJ8_appendChars_3 11 = .ok (.astore 4, 2) := dk_58 4 (dk_at dksJ8_appendChars_3_0 11 rfl rfl)
theorem dJ8_appendChars_3_13 : decode cJ8_appendChars_3 13 = .ok (.iload_n 2, 1) := dk_28 (dk_at dksJ8_appendChars_3_0 13 rfl rfl)
theorem dJ8_appendChars_3_14 : decode cJ8_appendChars_3 14 = .ok (.istore 5, 2) := dk_54 5 (dk_at dksJ8_appendChars_3_0 14 rfl rfl)
theorem dJ8_appendChars_3_16 : decode cJ8_appendChars_3 16 = .ok (.aload_n 0, 1) := dk_42 (dk_at dksJ8_appendChars_3_0 16 rfl rfl)
theorem dJ8_appendChars_3_17 : decode cJ8_appendChars_3 17 = .ok (.getfield 79, 3) := dk_180 0 79 (dk_at dksJ8_appendChars_3_0 17 rfl rfl)
theorem dJ8_appendChars_3_20 : decode cJ8_appendChars_3 20 = .ok (.istore 6, 2) := dk_54 6 (dk_at dksJ8_appendChars_3_0 20 rfl rfl)
theorem dJ8_appendChars_3_22 : decode cJ8_appendChars_3 22 = .ok (.iload 5, 2) := dk_21 5 (dk_at dksJ8_appendChars_3_0 22 rfl rfl)
theorem dJ8_appendChars_3_24 : decode cJ8_appendChars_3 24 = .ok (.iload_n 3, 1) := dk_29 (dk_at dksJ8_appendChars_3_1 0 rfl rfl)
theorem dJ8_appendChars_3_25 : decode cJ8_appendChars_3 25 = .ok (.if_icmp .ge 101, 3) := dk_162 0 101 (dk_at dksJ8_appendChars_3_1 1 rfl rfl)
theorem dJ8_appendChars_3_28 : decode cJ8_appendChars_3 28 = .ok (.aload_n 1, 1) := dk_43 (dk_at dksJ8_appendChars_3_1 4 rfl rfl)
theorem dJ8_appendChars_3_29 : decode cJ8_appendChars_3 29 = .ok (.iload 5, 2) := dk_21 5 (dk_at dksJ8_appendChars_3_1 5 rfl rfl)
theorem dJ8_appendChars_3_31 : decode cJ8_appendChars_3 31 = .ok (.invokeinterface 390 2, 5) := by decide +kernel
theorem dJ8_appendChars_3_36 : decode cJ8_appendChars_3 36 = .ok (.istore 7, 2) := dk_54 7 (dk_at dksJ8_appendChars_3_1 12 rfl rfl)
theorem dJ8_appendChars_3_38 : decode cJ8_appendChars_3 38 = .ok (.iload 7, 2) := dk_21 7 (dk_at dksJ8_appendChars_3_1 14 rfl rfl)
theorem dJ8_appendChars_3_40 : decode cJ8_appendChars_3 40 = .ok (.invokestatic 191, 3) := dk_184 0 191 (dk_at dksJ8_appendChars_3_1 16 rfl rfl)
theorem dJ8_appendChars_3_43 : decode cJ8_appendChars_3 43 = .ok (.ifCond .eq 17, 3) := dk_153 0 17 (dk_at dksJ8_appendChars_3_1 19 rfl rfl)
theorem dJ8_appendChars_3_46 : decode cJ8_appendChars_3 46 = .ok (.aload 4, 2) := dk_25 4 (dk_at dksJ8_appendChars_3_1 22 rfl rfl)
theorem dJ8_appendChars_3_48 : decode cJ8_appendChars_3 48 = .ok (.iload 6, 2) := dk_21 6 (dk_at dksJ8_appendChars_3_2 0 rfl rfl)
theorem dJ8_appendChars_3_50 : decode cJ8_appendChars_3 50 = .ok (.iinc 6 1, 3) := dk_132 6 1 (dk_at dksJ8_appendChars_3_2 2 rfl rfl)
theorem dJ8_appendChars_3_53 : decode cJ8_appendChars_3 53 = .ok (.iload 7, 2) := dk_21 7 (dk_at dksJ8_appendChars_3_2 5 rfl rfl)
theorem dJ8_appendChars_3_55 : decode cJ8_appendChars_3 55 = .ok (.i2b, 1) := dk_145 (dk_at dksJ8_appendChars_3_2 7 rfl rfl)
theorem dJ8_appendChars_3_56 : decode cJ8_appendChars_3 56 = .ok (.bastore, 1) := dk_84 (dk_at dksJ8_appendChars_3_2 8 rfl rfl)
theorem dJ8_appendChars_3_57 : decode cJ8_appendChars_3 57 = .ok (.goto 63, 3) := dk_167 0 63 (dk_at dksJ8_appendChars_3_2 9 rfl rfl)
theorem dJ8_appendChars_3_60 : decode cJ8_appendChars_3 60 = .ok (.aload_n 0, 1) := dk_42 (dk_at dksJ8_appendChars_3_2 12 rfl rfl)
theorem dJ8_appendChars_3_61 : decode cJ8_appendChars_3 61 = .ok (.iload 6, 2) := dk_21 6 (dk_at dksJ8_appendChars_3_2 13 rfl rfl)
theorem dJ8_appendChars_3_63 : decode cJ8_appendChars_3 63 = .ok (.putfield 79, 3) := dk_181 0 79 (dk_at dksJ8_appendChars_3_2 15 rfl rfl)
theorem dJ8_appendChars_3_66 : decode cJ8_appendChars_3 66 = .ok (.aload_n 0, 1) := dk_42 (dk_at dksJ8_appendChars_3_2 18 rfl rfl)
theorem dJ8_appendChars_3_67 : decode cJ8_appendChars_3 67 = .ok (.invokevirtual 195, 3) := dk_182 0 195 (dk_at dksJ8_appendChars_3_2 19 rfl rfl)
theorem dJ8_appendChars_3_70 : decode cJ8_appendChars_3 70 = .ok (.aload_n 0, 1) := dk_42 (dk_at dksJ8_appendChars_3_2 22 rfl rfl)
theorem dJ8_appendChars_3_71 : decode cJ8_appendChars_3 71 = .ok (.getfield 15, 3) := dk_180 0 15 (dk_at dksJ8_appendChars_3_3 0 rfl rfl)
theorem dJ8_appendChars_3_74 : decode cJ8_appendChars_3 74 = .ok (.iload 6, 2) := dk_21 6 (dk_at dksJ8_appendChars_3_3 3 rfl rfl)
theorem dJ8_appendChars_3_76 : decode cJ8_appendChars_3 76 = .ok (.iinc 6 1, 3) := dk_132 6 1 (dk_at dksJ8_appendChars_3_3 5 rfl rfl)
theorem dJ8_appendChars_3_79 : decode cJ8_appendChars_3 79 = .ok (.iload 7, 2) := dk_21 7 (dk_at dksJ8_appendChars_3_3 8 rfl rfl)
theorem dJ8_appendChars_3_81 : decode cJ8_appendChars_3 81 = .ok (.invokestatic 197, 3) := dk_184 0 197 (dk_at dksJ8_appendChars_3_3 10 rfl rfl)
theorem dJ8_appendChars_3_84 : decode cJ8_appendChars_3 84 = .ok (.aload_n 0, 1) := dk_42 (dk_at dksJ8_appendChars_3_3 13 rfl rfl)
theorem dJ8_appendChars_3_85 : decode cJ8_appendChars_3 85 = .ok (.iload 6, 2) := dk_21 6 (dk_at dksJ8_appendChars_3_3 14 rfl rfl)
theorem dJ8_appendChars_3_87 : decode cJ8_appendChars_3 87 = .ok (.putfield 79, 3) := dk_181 0 79 (dk_at dksJ8_appendChars_3_3 16 rfl rfl)
theorem dJ8_appendChars_3_90 : decode cJ8_appendChars_3 90 = .ok (.iinc 5 1, 3) := dk_132 5 1 (dk_at dksJ8_appendChars_3_3 19 rfl rfl)
theorem dJ8_appendChars_3_93 : decode cJ8_appendChars_3 93 = .ok (.aload_n 0, 1) := dk_42 (dk_at dksJ8_appendChars_3_3 22 rfl rfl)
theorem dJ8_appendChars_3_94 : decode cJ8_appendChars_3 94 = .ok (.getfield 15, 3) := dk_180 0 15 (dk_at dksJ8_appendChars_3_4 0 rfl rfl)
theorem dJ8_appendChars_3_97 : decode cJ8_appendChars_3 97 = .ok (.iload 6, 2) := dk_21 6 (dk_at dksJ8_appendChars_3_4 3 rfl rfl)
theorem dJ8_appendChars_3_99 : decode cJ8_appendChars_3 99 = .ok (.aload_n 1, 1) := dk_43 (dk_at dksJ8_appendChars_3_4 5 rfl rfl)
theorem dJ8_appendChars_3_100 : decode cJ8_appendChars_3 100 = .ok (.iload 5, 2) := dk_21 5 (dk_at dksJ8_appendChars_3_4 6 rfl rfl)
theorem dJ8_appendChars_3_102 : decode cJ8_appendChars_3 102 = .ok (.iload_n 3, 1) := dk_29 (dk_at dksJ8_appendChars_3_4 8 rfl rfl)
theorem dJ8_appendChars_3_103 : decode cJ8_appendChars_3 103 = .ok (.invokestatic 394, 3) := dk_184 1 138 (dk_at dksJ8_appendChars_3_4 9 rfl rfl)
theorem dJ8_appendChars_3_106 : decode cJ8_appendChars_3 106 = .ok (.aload_n 0, 1) := dk_42 (dk_at dksJ8_appendChars_3_4 12 rfl rfl)
theorem dJ8_appendChars_3_107 : decode cJ8_appendChars_3 107 = .ok (.dup, 1) := dk_89 (dk_at dksJ8_appendChars_3_4 13 rfl rfl)
theorem dJ8_appendChars_3_108 : decode cJ8_appendChars_3 108 = .ok (.getfield 79, 3) := dk_180 0 79 (dk_at dksJ8_appendChars_3_4 14 rfl rfl)
theorem dJ8_appendChars_3_111 : decode cJ8_appendChars_3 111 = .ok (.iload_n 3, 1) := dk_29 (dk_at dksJ8_appendChars_3_4 17 rfl rfl)
theorem dJ8_appendChars_3_112 : decode cJ8_appendChars_3 112 = .ok (.iload 5, 2) := dk_21 5 (dk_at dksJ8_appendChars_3_4 18 rfl rfl)
theorem dJ8_appendChars_3_114 : decode cJ8_appendChars_3 114 = .ok (.isub, 1) := dk_100 (dk_at dksJ8_appendChars_3_4 20 rfl rfl)
theorem dJ8_appendChars_3_115 : decode cJ8_appendChars_3 115 = .ok (.iadd, 1) := dk_96 (dk_at dksJ8_appendChars_3_4 21 rfl rfl)
theorem dJ8_appendChars_3_116 : decode cJ8_appendChars_3 116 = .ok (.putfield 79, 3) := dk_181 0 79 (dk_at dksJ8_appendChars_3_5 0 rfl rfl)
theorem dJ8_appendChars_3_119 : decode cJ8_appendChars_3 119 = .ok (.return_, 1) := dk_177 (dk_at dksJ8_appendChars_3_5 3 rfl rfl)
theorem dJ8_appendChars_3_120 : decode cJ8_appendChars_3 120 = .ok (.iinc 5 1, 3) := dk_132 5 1 (dk_at dksJ8_appendChars_3_5 4 rfl rfl)
theorem dJ8_appendChars_3_123 : decode cJ8_appendChars_3 123 = .ok (.goto (-101), 3) := dk_167 255 155 (dk_at dksJ8_appendChars_3_5 7 rfl rfl)
theorem dJ8_appendChars_3_126 : decode cJ8_appendChars_3 126 = .ok (.goto 17, 3) := dk_167 0 17 (dk_at dksJ8_appendChars_3_5 10 rfl rfl)
theorem dJ8_appendChars_3_129 : decode cJ8_appendChars_3 129 = .ok (.aload_n 0, 1) := dk_42 (dk_at dksJ8_appendChars_3_5 13 rfl rfl)
theorem dJ8_appendChars_3_130 : decode cJ8_appendChars_3 130 = .ok (.getfield 15, 3) := dk_180 0 15 (dk_at dksJ8_appendChars_3_5 14 rfl rfl)
theorem dJ8_appendChars_3_133 : decode cJ8_appendChars_3 133 = .ok (.aload_n 0, 1) := dk_42 (dk_at dksJ8_appendChars_3_5 17 rfl rfl)
theorem dJ8_appendChars_3_134 : decode cJ8_appendChars_3 134 = .ok (.getfield 79, 3) := dk_180 0 79 (dk_at dksJ8_appendChars_3_5 18 rfl rfl)
theorem dJ8_appendChars_3_137 : decode cJ8_appendChars_3 137 = .ok (.aload_n 1, 1) := dk_43 (dk_at dksJ8_appendChars_3_5 21 rfl rfl)
theorem dJ8_appendChars_3_138 : decode cJ8_appendChars_3 138 = .ok (.iload_n 2, 1) := dk_28 (dk_at dksJ8_appendChars_3_5 22 rfl rfl)
theorem dJ8_appendChars_3_139 : decode cJ8_appendChars_3 139 = .ok (.iload_n 3, 1) := dk_29 (dk_at dksJ8_appendChars_3_5 23 rfl rfl)
theorem dJ8_appendChars_3_140 : decode cJ8_appendChars_3 140 = .ok (.invokestatic 394, 3) := dk_184 1 138 (dk_at dksJ8_appendChars_3_6 0 rfl rfl)
theorem dJ8_appendChars_3_143 : decode cJ8_appendChars_3 143 = .ok (.aload_n 0, 1) := dk_42 (dk_at dksJ8_appendChars_3_6 3 rfl rfl)
theorem dJ8_appendChars_3_144 : decode cJ8_appendChars_3 144 = .ok (.dup, 1) := dk_89 (dk_at dksJ8_appendChars_3_6 4 rfl rfl)
theorem dJ8_appendChars_3_145 : decode cJ8_appendChars_3 145 = .ok (.getfield 79, 3) := dk_180 0 79 (dk_at dksJ8_appendChars_3_6 5 rfl rfl)
theorem dJ8_appendChars_3_148 : decode cJ8_appendChars_3 148 = .ok (.iload_n 3, 1) := dk_29 (dk_at dksJ8_appendChars_3_6 8 rfl rfl)
theorem dJ8_appendChars_3_149 : decode cJ8_appendChars_3 149 = .ok (.iload_n 2, 1) := dk_28 (dk_at dksJ8_appendChars_3_6 9 rfl rfl)
theorem dJ8_appendChars_3_150 : decode cJ8_appendChars_3 150 = .ok (.isub, 1) := dk_100 (dk_at dksJ8_appendChars_3_6 10 rfl rfl)
theorem dJ8_appendChars_3_151 : decode cJ8_appendChars_3 151 = .ok (.iadd, 1) := dk_96 (dk_at dksJ8_appendChars_3_6 11 rfl rfl)
theorem dJ8_appendChars_3_152 : decode cJ8_appendChars_3 152 = .ok (.putfield 79, 3) := dk_181 0 79 (dk_at dksJ8_appendChars_3_6 12 rfl rfl)
theorem dJ8_appendChars_3_155 : decode cJ8_appendChars_3 155 = .ok (.return_, 1) := dk_177 (dk_at dksJ8_appendChars_3_6 15 rfl rfl)
abbrev cJ8_compareTo : ByteArray := prog_21_method_5_code
def yJ8_compareTo : MethodName := ⟨RJ8, "compareTo", "(Ljava/lang/AbstractStringBuilder;)I"⟩
def dkwJ8_compareTo_4 : List UInt8 := [184, 0, 97, 172]
abbrev dktJ8_compareTo_4 : List UInt8 := dkwJ8_compareTo_4 ++ []
def dkwJ8_compareTo_3 : List UInt8 := [182, 0, 83, 153, 0, 15, 44, 45, 21, 4, 21, 5, 184, 0, 94, 167, 0, 12, 44, 45, 21, 4, 21, 5]
abbrev dktJ8_compareTo_3 : List UInt8 := dkwJ8_compareTo_3 ++ dktJ8_compareTo_4
def dkwJ8_compareTo_2 : List UInt8 := [45, 21, 4, 21, 5, 184, 0, 87, 167, 0, 12, 44, 45, 21, 4, 21, 5, 184, 0, 93, 172, 42]
abbrev dktJ8_compareTo_2 : List UInt8 := dkwJ8_compareTo_2 ++ dktJ8_compareTo_3
def dkwJ8_compareTo_1 : List UInt8 := [180, 0, 79, 54, 5, 42, 180, 0, 22, 43, 180, 0, 22, 160, 0, 32, 42, 182, 0, 83, 153, 0, 15, 44]
abbrev dktJ8_compareTo_1 : List UInt8 := dkwJ8_compareTo_1 ++ dktJ8_compareTo_2
def dkwJ8_compareTo_0 : List UInt8 := [42, 43, 166, 0, 5, 3, 172, 42, 180, 0, 15, 77, 43, 180, 0, 15, 78, 42, 180, 0, 79, 54, 4, 43]
abbrev dktJ8_compareTo_0 : List UInt8 := dkwJ8_compareTo_0 ++ dktJ8_compareTo_1
theorem dksJ8_compareTo_0 : cJ8_compareTo.data.toList.drop 0 = dktJ8_compareTo_0 := by decide +kernel
theorem dksJ8_compareTo_1 : cJ8_compareTo.data.toList.drop 24 = dktJ8_compareTo_1 := dk_seg dksJ8_compareTo_0 24 rfl rfl
theorem dksJ8_compareTo_2 : cJ8_compareTo.data.toList.drop 48 = dktJ8_compareTo_2 := dk_seg dksJ8_compareTo_1 24 rfl rfl
theorem dksJ8_compareTo_3 : cJ8_compareTo.data.toList.drop 70 = dktJ8_compareTo_3 := dk_seg dksJ8_compareTo_2 22 rfl rfl
theorem dksJ8_compareTo_4 : cJ8_compareTo.data.toList.drop 94 = dktJ8_compareTo_4 := dk_seg dksJ8_compareTo_3 24 rfl rfl
theorem dJ8_compareTo_0 : decode cJ8_compareTo 0 = .ok (.aload_n 0, 1) := dk_42 (dk_at dksJ8_compareTo_0 0 rfl rfl)
theorem dJ8_compareTo_1 : decode cJ8_compareTo 1 = .ok (.aload_n 1, 1) := dk_43 (dk_at dksJ8_compareTo_0 1 rfl rfl)
theorem dJ8_compareTo_2 : decode cJ8_compareTo 2 = .ok (.if_acmp .ne 5, 3) := dk_166 0 5 (dk_at dksJ8_compareTo_0 2 rfl rfl)
theorem dJ8_compareTo_5 : decode cJ8_compareTo 5 = .ok (.iconst 0, 1) := dk_3 (dk_at dksJ8_compareTo_0 5 rfl rfl)
theorem dJ8_compareTo_6 : decode cJ8_compareTo 6 = .ok (.ireturn, 1) := dk_172 (dk_at dksJ8_compareTo_0 6 rfl rfl)
theorem dJ8_compareTo_7 : decode cJ8_compareTo 7 = .ok (.aload_n 0, 1) := dk_42 (dk_at dksJ8_compareTo_0 7 rfl rfl)
theorem dJ8_compareTo_8 : decode cJ8_compareTo 8 = .ok (.getfield 15, 3) := dk_180 0 15 (dk_at dksJ8_compareTo_0 8 rfl rfl)
theorem dJ8_compareTo_11 : decode cJ8_compareTo 11 = .ok (.astore_n 2, 1) := dk_77 (dk_at dksJ8_compareTo_0 11 rfl rfl)
theorem dJ8_compareTo_12 : decode cJ8_compareTo 12 = .ok (.aload_n 1, 1) := dk_43 (dk_at dksJ8_compareTo_0 12 rfl rfl)
theorem dJ8_compareTo_13 : decode cJ8_compareTo 13 = .ok (.getfield 15, 3) := dk_180 0 15 (dk_at dksJ8_compareTo_0 13 rfl rfl)
theorem dJ8_compareTo_16 : decode cJ8_compareTo 16 = .ok (.astore_n 3, 1) := dk_78 (dk_at dksJ8_compareTo_0 16 rfl rfl)
theorem dJ8_compareTo_17 : decode cJ8_compareTo 17 = .ok (.aload_n 0, 1) := dk_42 (dk_at dksJ8_compareTo_0 17 rfl rfl)
theorem dJ8_compareTo_18 : decode cJ8_compareTo 18 = .ok (.getfield 79, 3) := dk_180 0 79 (dk_at dksJ8_compareTo_0 18 rfl rfl)
theorem dJ8_compareTo_21 : decode cJ8_compareTo 21 = .ok (.istore 4, 2) := dk_54 4 (dk_at dksJ8_compareTo_0 21 rfl rfl)
theorem dJ8_compareTo_23 : decode cJ8_compareTo 23 = .ok (.aload_n 1, 1) := dk_43 (dk_at dksJ8_compareTo_0 23 rfl rfl)
theorem dJ8_compareTo_24 : decode cJ8_compareTo 24 = .ok (.getfield 79, 3) := dk_180 0 79 (dk_at dksJ8_compareTo_1 0 rfl rfl)
theorem dJ8_compareTo_27 : decode cJ8_compareTo 27 = .ok (.istore 5, 2) := dk_54 5 (dk_at dksJ8_compareTo_1 3 rfl rfl)
theorem dJ8_compareTo_29 : decode cJ8_compareTo 29 = .ok (.aload_n 0, 1) := dk_42 (dk_at dksJ8_compareTo_1 5 rfl rfl)
theorem dJ8_compareTo_30 : decode cJ8_compareTo 30 = .ok (.getfield 22, 3) := dk_180 0 22 (dk_at dksJ8_compareTo_1 6 rfl rfl)
theorem dJ8_compareTo_33 : decode cJ8_compareTo 33 = .ok (.aload_n 1, 1) := dk_43 (dk_at dksJ8_compareTo_1 9 rfl rfl)
theorem dJ8_compareTo_34 : decode cJ8_compareTo 34 = .ok (.getfield 22, 3) := dk_180 0 22 (dk_at dksJ8_compareTo_1 10 rfl rfl)
theorem dJ8_compareTo_37 : decode cJ8_compareTo 37 = .ok (.if_icmp .ne 32, 3) := dk_160 0 32 (dk_at dksJ8_compareTo_1 13 rfl rfl)
theorem dJ8_compareTo_40 : decode cJ8_compareTo 40 = .ok (.aload_n 0, 1) := dk_42 (dk_at dksJ8_compareTo_1 16 rfl rfl)
theorem dJ8_compareTo_41 : decode cJ8_compareTo 41 = .ok (.invokevirtual 83, 3) := dk_182 0 83 (dk_at dksJ8_compareTo_1 17 rfl rfl)
theorem dJ8_compareTo_44 : decode cJ8_compareTo 44 = .ok (.ifCond .eq 15, 3) := dk_153 0 15 (dk_at dksJ8_compareTo_1 20 rfl rfl)
theorem dJ8_compareTo_47 : decode cJ8_compareTo 47 = .ok (.aload_n 2, 1) := dk_44 (dk_at dksJ8_compareTo_1 23 rfl rfl)
theorem dJ8_compareTo_48 : decode cJ8_compareTo 48 = .ok (.aload_n 3, 1) := dk_45 (dk_at dksJ8_compareTo_2 0 rfl rfl)
theorem dJ8_compareTo_49 : decode cJ8_compareTo 49 = .ok (.iload 4, 2) := dk_21 4 (dk_at dksJ8_compareTo_2 1 rfl rfl)
theorem dJ8_compareTo_51 : decode cJ8_compareTo 51 = .ok (.iload 5, 2) := dk_21 5 (dk_at dksJ8_compareTo_2 3 rfl rfl)
theorem dJ8_compareTo_53 : decode cJ8_compareTo 53 = .ok (.invokestatic 87, 3) := dk_184 0 87 (dk_at dksJ8_compareTo_2 5 rfl rfl)
theorem dJ8_compareTo_56 : decode cJ8_compareTo 56 = .ok (.goto 12, 3) := dk_167 0 12 (dk_at dksJ8_compareTo_2 8 rfl rfl)
theorem dJ8_compareTo_59 : decode cJ8_compareTo 59 = .ok (.aload_n 2, 1) := dk_44 (dk_at dksJ8_compareTo_2 11 rfl rfl)
theorem dJ8_compareTo_60 : decode cJ8_compareTo 60 = .ok (.aload_n 3, 1) := dk_45 (dk_at dksJ8_compareTo_2 12 rfl rfl)
theorem dJ8_compareTo_61 : decode cJ8_compareTo 61 = .ok (.iload 4, 2) := dk_21 4 (dk_at dksJ8_compareTo_2 13 rfl rfl)
theorem dJ8_compareTo_63 : decode cJ8_compareTo 63 = .ok (.iload 5, 2) := dk_21 5 (dk_at dksJ8_compareTo_2 15 rfl rfl)
theorem dJ8_compareTo_65 : decode cJ8_compareTo 65 = .ok (.invokestatic 93, 3) := dk_184 0 93 (dk_at dksJ8_compareTo_2 17 rfl rfl)
theorem dJ8_compareTo_68 : decode cJ8_compareTo 68 = .ok (.ireturn, 1) := dk_172 (dk_at dksJ8_compareTo_2 20 rfl rfl)
theorem dJ8_compareTo_69 : decode cJ8_compareTo 69 = .ok (.aload_n 0, 1) := dk_42 (dk_at dksJ8_compareTo_2 21 rfl rfl)
theorem dJ8_compareTo_70 : decode cJ8_compareTo 70 = .ok (.invokevirtual 83, 3) := dk_182 0 83 (dk_at dksJ8_compareTo_3 0 rfl rfl)
theorem dJ8_compareTo_73 : decode cJ8_compareTo 73 = .ok (.ifCond .eq 15, 3) := dk_153 0 15 (dk_at dksJ8_compareTo_3 3 rfl rfl)
theorem dJ8_compareTo_76 : decode cJ8_compareTo 76 = .ok (.aload_n 2, 1) := dk_44 (dk_at dksJ8_compareTo_3 6 rfl rfl)
theorem dJ8_compareTo_77 : decode cJ8_compareTo 77 = .ok (.aload_n 3, 1) := dk_45 (dk_at dksJ8_compareTo_3 7 rfl rfl)
theorem dJ8_compareTo_78 : decode cJ8_compareTo 78 = .ok (.iload 4, 2) := dk_21 4 (dk_at dksJ8_compareTo_3 8 rfl rfl)
theorem dJ8_compareTo_80 : decode cJ8_compareTo 80 = .ok (.iload 5, 2) := dk_21 5 (dk_at dksJ8_compareTo_3 10 rfl rfl)
theorem dJ8_compareTo_82 : decode cJ8_compareTo 82 = .ok (.invokestatic 94, 3) := dk_184 0 94 (dk_at dksJ8_compareTo_3 12 rfl rfl)
theorem dJ8_compareTo_85 : decode cJ8_compareTo 85 = .ok (.goto 12, 3) := dk_167 0 12 (dk_at dksJ8_compareTo_3 15 rfl rfl)
theorem dJ8_compareTo_88 : decode cJ8_compareTo 88 = .ok (.aload_n 2, 1) := dk_44 (dk_at dksJ8_compareTo_3 18 rfl rfl)
theorem dJ8_compareTo_89 : decode cJ8_compareTo 89 = .ok (.aload_n 3, 1) := dk_45 (dk_at dksJ8_compareTo_3 19 rfl rfl)
theorem dJ8_compareTo_90 : decode cJ8_compareTo 90 = .ok (.iload 4, 2) := dk_21 4 (dk_at dksJ8_compareTo_3 20 rfl rfl)
theorem dJ8_compareTo_92 : decode cJ8_compareTo 92 = .ok (.iload 5, 2) := dk_21 5 (dk_at dksJ8_compareTo_3 22 rfl rfl)
theorem dJ8_compareTo_94 : decode cJ8_compareTo 94 = .ok (.invokestatic 97, 3) := dk_184 0 97 (dk_at dksJ8_compareTo_4 0 rfl rfl)
theorem dJ8_compareTo_97 : decode cJ8_compareTo 97 = .ok (.ireturn, 1) := dk_172 (dk_at dksJ8_compareTo_4 3 rfl rfl)
theorem q159 : (Jvm.Cond.initialized "java/lang/AbstractStringBuilder") ∈ lw_all := lw_g (lw_at lw_m1 11 rfl) rfl
theorem q310 : (Jvm.Cond.instanceMethod ({ cls := "java/lang/AbstractStringBuilder", name := "<init>", desc := "(I)V" } : Jvm.MethodName)) ∈ lw_all := lw_g (lw_at lw_m1 162 rfl) rfl
theorem q311 : (Jvm.Cond.code ({ cls := "java/lang/AbstractStringBuilder", name := "<init>", desc := "(I)V" } : Jvm.MethodName) prog_21_method_2_code (2 : Nat) (Option.none : Option Jvm.ClassFile.FieldType)) ∈ lw_all := lw_g (lw_at lw_m1 163 rfl) rfl
theorem q312 : (Jvm.Cond.methodLink "java/lang/AbstractStringBuilder" (3 : Nat) ({ cls := "java/lang/Object", name := "<init>", desc := "()V" } : Jvm.MethodName)) ∈ lw_all := lw_g (lw_at lw_m1 164 rfl) rfl
theorem q313 : (Jvm.Cond.fieldLink "java/lang/AbstractStringBuilder" (18 : Nat) "java/lang/String" "COMPACT_STRINGS" "Z") ∈ lw_all := lw_g (lw_at lw_m1 165 rfl) rfl
theorem q315 : (Jvm.Cond.methodLink "java/lang/AbstractStringBuilder" (26 : Nat) ({ cls := "java/lang/StringUTF16", name := "newBytesFor", desc := "(I)[B" } : Jvm.MethodName)) ∈ lw_all := lw_g (lw_at lw_m1 167 rfl) rfl
theorem q322 : (Jvm.Cond.fieldLink "java/lang/AbstractStringBuilder" (15 : Nat) "java/lang/AbstractStringBuilder" "value" "[B") ∈ lw_all := lw_g (lw_at lw_m1 174 rfl) rfl
theorem q323 : (Jvm.Cond.fieldLink "java/lang/AbstractStringBuilder" (22 : Nat) "java/lang/AbstractStringBuilder" "coder" "B") ∈ lw_all := lw_g (lw_at lw_m1 175 rfl) rfl
theorem q324 : (Jvm.Cond.fieldLink "java/lang/AbstractStringBuilder" (73 : Nat) "java/lang/AbstractStringBuilder" "maybeLatin1" "Z") ∈ lw_all := lw_g (lw_at lw_m1 176 rfl) rfl
theorem q326 : (Jvm.Cond.fieldLink "java/lang/AbstractStringBuilder" (79 : Nat) "java/lang/AbstractStringBuilder" "count" "I") ∈ lw_all := lw_g (lw_at lw_m1 178 rfl) rfl
theorem q328 : (Jvm.Cond.soleField "java/lang/AbstractStringBuilder" "value") ∈ lw_all := lw_g (lw_at lw_m1 180 rfl) rfl
theorem q330 : (Jvm.Cond.soleField "java/lang/AbstractStringBuilder" "coder") ∈ lw_all := lw_g (lw_at lw_m1 182 rfl) rfl
theorem q332 : (Jvm.Cond.soleField "java/lang/AbstractStringBuilder" "maybeLatin1") ∈ lw_all := lw_g (lw_at lw_m1 184 rfl) rfl
theorem q334 : (Jvm.Cond.soleField "java/lang/AbstractStringBuilder" "count") ∈ lw_all := lw_g (lw_at lw_m1 186 rfl) rfl
theorem q343 : (Jvm.Cond.instanceMethod ({ cls := "java/lang/AbstractStringBuilder", name := "append", desc := "(Ljava/lang/String;)Ljava/lang/AbstractStringBuilder;" } : Jvm.MethodName)) ∈ lw_all := lw_g (lw_at lw_m1 195 rfl) rfl
theorem q344 : (Jvm.Cond.code ({ cls := "java/lang/AbstractStringBuilder", name := "append", desc := "(Ljava/lang/String;)Ljava/lang/AbstractStringBuilder;" } : Jvm.MethodName) prog_21_method_22_code (3 : Nat) (Option.some (Jvm.ClassFile.FieldType.object "java/lang/AbstractStringBuilder"))) ∈ lw_all := lw_g (lw_at lw_m1 196 rfl) rfl
theorem q345 : (Jvm.Cond.methodLink "java/lang/AbstractStringBuilder" (204 : Nat) ({ cls := "java/lang/AbstractStringBuilder", name := "appendNull", desc := "()Ljava/lang/AbstractStringBuilder;" } : Jvm.MethodName)) ∈ lw_all := lw_g (lw_at lw_m1 197 rfl) rfl
theorem q346 : (Jvm.Cond.privateMethod ({ cls := "java/lang/AbstractStringBuilder", name := "appendNull", desc := "()Ljava/lang/AbstractStringBuilder;" } : Jvm.MethodName)) ∈ lw_tbl := lw_at lw_m1 198 rfl
theorem q347 : (Jvm.Cond.instanceMethod ({ cls := "java/lang/AbstractStringBuilder", name := "appendNull", desc := "()Ljava/lang/AbstractStringBuilder;" } : Jvm.MethodName)) ∈ lw_all := lw_g (lw_at lw_m1 199 rfl) rfl
theorem q348 : (Jvm.Cond.code ({ cls := "java/lang/AbstractStringBuilder", name := "appendNull", desc := "()Ljava/lang/AbstractStringBuilder;" } : Jvm.MethodName) prog_21_method_26_code (3 : Nat) (Option.some (Jvm.ClassFile.FieldType.object "java/lang/AbstractStringBuilder"))) ∈ lw_all := lw_g (lw_at lw_m1 200 rfl) rfl
theorem q349 : (Jvm.Cond.methodLink "java/lang/AbstractStringBuilder" (100 : Nat) ({ cls := "java/lang/AbstractStringBuilder", name := "ensureCapacityInternal", desc := "(I)V" } : Jvm.MethodName)) ∈ lw_all := lw_g (lw_at lw_m1 201 rfl) rfl
theorem q350 : (Jvm.Cond.privateMethod ({ cls := "java/lang/AbstractStringBuilder", name := "ensureCapacityInternal", desc := "(I)V" } : Jvm.MethodName)) ∈ lw_tbl := lw_at lw_m1 202 rfl
theorem q351 : (Jvm.Cond.instanceMethod ({ cls := "java/lang/AbstractStringBuilder", name := "ensureCapacityInternal", desc := "(I)V" } : Jvm.MethodName)) ∈ lw_all := lw_g (lw_at lw_m1 203 rfl) rfl
theorem q352 : (Jvm.Cond.code ({ cls := "java/lang/AbstractStringBuilder", name := "ensureCapacityInternal", desc := "(I)V" } : Jvm.MethodName) prog_21_method_9_code (3 : Nat) (Option.none : Option Jvm.ClassFile.FieldType)) ∈ lw_all := lw_g (lw_at lw_m1 204 rfl) rfl
theorem q353 : (Jvm.Cond.methodLink "java/lang/AbstractStringBuilder" (104 : Nat) ({ cls := "java/lang/AbstractStringBuilder", name := "newCapacity", desc := "(I)I" } : Jvm.MethodName)) ∈ lw_all := lw_g (lw_at lw_m1 205 rfl) rfl
theorem q354 : (Jvm.Cond.privateMethod ({ cls := "java/lang/AbstractStringBuilder", name := "newCapacity", desc := "(I)I" } : Jvm.MethodName)) ∈ lw_tbl := lw_at lw_m1 206 rfl
theorem q355 : (Jvm.Cond.instanceMethod ({ cls := "java/lang/AbstractStringBuilder", name := "newCapacity", desc := "(I)I" } : Jvm.MethodName)) ∈ lw_all := lw_g (lw_at lw_m1 207 rfl) rfl
theorem q356 : (Jvm.Cond.code ({ cls := "java/lang/AbstractStringBuilder", name := "newCapacity", desc := "(I)I" } : Jvm.MethodName) prog_21_method_10_code (6 : Nat) (Option.some Jvm.ClassFile.FieldType.int)) ∈ lw_all := lw_g (lw_at lw_m1 208 rfl) rfl
theorem q357 : (Jvm.Cond.methodLink "java/lang/AbstractStringBuilder" (114 : Nat) ({ cls := "jdk/internal/util/ArraysSupport", name := "newLength", desc := "(III)I" } : Jvm.MethodName)) ∈ lw_all := lw_g (lw_at lw_m1 209 rfl) rfl
theorem q367 : (Jvm.Cond.constant "java/lang/AbstractStringBuilder" (39 : Nat) (2147483647 : Int32)) ∈ lw_all := lw_g (lw_at lw_m1 219 rfl) rfl
theorem q368 : (Jvm.Cond.methodLink "java/lang/AbstractStringBuilder" (108 : Nat) ({ cls := "java/util/Arrays", name := "copyOf", desc := "([BI)[B" } : Jvm.MethodName)) ∈ lw_all := lw_g (lw_at lw_m1 220 rfl) rfl
theorem q384 : (Jvm.Cond.methodLink "java/lang/AbstractStringBuilder" (83 : Nat) ({ cls := "java/lang/AbstractStringBuilder", name := "isLatin1", desc := "()Z" } : Jvm.MethodName)) ∈ lw_all := lw_g (lw_at lw_m1 236 rfl) rfl
theorem q385 : (Jvm.Cond.instanceMethod ({ cls := "java/lang/AbstractStringBuilder", name := "isLatin1", desc := "()Z" } : Jvm.MethodName)) ∈ lw_all := lw_g (lw_at lw_m1 237 rfl) rfl
theorem q386 : (Jvm.Cond.sameMethod "java/lang/AbstractStringBuilder" "java/lang/AbstractStringBuilder" "isLatin1" "()Z") ∈ lw_all := lw_g (lw_at lw_m1 238 rfl) rfl
theorem q388 : (Jvm.Cond.code ({ cls := "java/lang/AbstractStringBuilder", name := "isLatin1", desc := "()Z" } : Jvm.MethodName) prog_21_method_68_code (1 : Nat) (Option.some Jvm.ClassFile.FieldType.boolean)) ∈ lw_all := lw_g (lw_at lw_m2 0 rfl) rfl
theorem q389 : (Jvm.Cond.methodLink "java/lang/AbstractStringBuilder" (226 : Nat) ({ cls := "java/lang/StringUTF16", name := "putCharsAt", desc := "([BICCCC)I" } : Jvm.MethodName)) ∈ lw_all := lw_g (lw_at lw_m2 1 rfl) rfl
theorem q415 : (Jvm.Cond.methodLink "java/lang/AbstractStringBuilder" (32 : Nat) ({ cls := "java/lang/String", name := "length", desc := "()I" } : Jvm.MethodName)) ∈ lw_all := lw_g (lw_at lw_m2 27 rfl) rfl
theorem q424 : (Jvm.Cond.methodLink "java/lang/AbstractStringBuilder" (208 : Nat) ({ cls := "java/lang/AbstractStringBuilder", name := "putStringAt", desc := "(ILjava/lang/String;)V" } : Jvm.MethodName)) ∈ lw_all := lw_g (lw_at lw_m2 36 rfl) rfl
theorem q425 : (Jvm.Cond.privateMethod ({ cls := "java/lang/AbstractStringBuilder", name := "putStringAt", desc := "(ILjava/lang/String;)V" } : Jvm.MethodName)) ∈ lw_tbl := lw_at lw_m2 37 rfl
theorem q426 : (Jvm.Cond.instanceMethod ({ cls := "java/lang/AbstractStringBuilder", name := "putStringAt", desc := "(ILjava/lang/String;)V" } : Jvm.MethodName)) ∈ lw_all := lw_g (lw_at lw_m2 38 rfl) rfl
theorem q427 : (Jvm.Cond.code ({ cls := "java/lang/AbstractStringBuilder", name := "putStringAt", desc := "(ILjava/lang/String;)V" } : Jvm.MethodName) prog_21_method_73_code (3 : Nat) (Option.none : Option Jvm.ClassFile.FieldType)) ∈ lw_all := lw_g (lw_at lw_m2 39 rfl) rfl
theorem q428 : (Jvm.Cond.methodLink "java/lang/AbstractStringBuilder" (397 : Nat) ({ cls := "java/lang/AbstractStringBuilder", name := "inflateIfNeededFor", desc := "(Ljava/lang/String;)V" } : Jvm.MethodName)) ∈ lw_all := lw_g (lw_at lw_m2 40 rfl) rfl
theorem q429 : (Jvm.Cond.privateMethod ({ cls := "java/lang/AbstractStringBuilder", name := "inflateIfNeededFor", desc := "(Ljava/lang/String;)V" } : Jvm.MethodName)) ∈ lw_tbl := lw_at lw_m2 41 rfl
theorem q430 : (Jvm.Cond.instanceMethod ({ cls := "java/lang/AbstractStringBuilder", name := "inflateIfNeededFor", desc := "(Ljava/lang/String;)V" } : Jvm.MethodName)) ∈ lw_all := lw_g (lw_at lw_m2 42 rfl) rfl
theorem q431 : (Jvm.Cond.code ({ cls := "java/lang/AbstractStringBuilder", name := "inflateIfNeededFor", desc := "(Ljava/lang/String;)V" } : Jvm.MethodName) prog_21_method_71_code (2 : Nat) (Option.none : Option Jvm.ClassFile.FieldType)) ∈ lw_all := lw_g (lw_at lw_m2 43 rfl) rfl
theorem q432 : (Jvm.Cond.methodLink "java/lang/AbstractStringBuilder" (40 : Nat) ({ cls := "java/lang/String", name := "coder", desc := "()B" } : Jvm.MethodName)) ∈ lw_all := lw_g (lw_at lw_m2 44 rfl) rfl
theorem q433 : (Jvm.Cond.methodLink "java/lang/AbstractStringBuilder" (195 : Nat) ({ cls := "java/lang/AbstractStringBuilder", name := "inflate", desc := "()V" } : Jvm.MethodName)) ∈ lw_all := lw_g (lw_at lw_m2 45 rfl) rfl
theorem q434 : (Jvm.Cond.privateMethod ({ cls := "java/lang/AbstractStringBuilder", name := "inflate", desc := "()V" } : Jvm.MethodName)) ∈ lw_tbl := lw_at lw_m2 46 rfl
theorem q435 : (Jvm.Cond.instanceMethod ({ cls := "java/lang/AbstractStringBuilder", name := "inflate", desc := "()V" } : Jvm.MethodName)) ∈ lw_all := lw_g (lw_at lw_m2 47 rfl) rfl
theorem q436 : (Jvm.Cond.code ({ cls := "java/lang/AbstractStringBuilder", name := "inflate", desc := "()V" } : Jvm.MethodName) prog_21_method_11_code (2 : Nat) (Option.none : Option Jvm.ClassFile.FieldType)) ∈ lw_all := lw_g (lw_at lw_m2 48 rfl) rfl
theorem q437 : (Jvm.Cond.methodLink "java/lang/AbstractStringBuilder" (125 : Nat) ({ cls := "java/lang/StringLatin1", name := "inflate", desc := "([BI[BII)V" } : Jvm.MethodName)) ∈ lw_all := lw_g (lw_at lw_m2 49 rfl) rfl
theorem q452 : (Jvm.Cond.methodLink "java/lang/AbstractStringBuilder" (399 : Nat) ({ cls := "java/lang/String", name := "getBytes", desc := "([BIB)V" } : Jvm.MethodName)) ∈ lw_all := lw_g (lw_at lw_m2 64 rfl) rfl
theorem q463 : (Jvm.Cond.instanceMethod ({ cls := "java/lang/AbstractStringBuilder", name := "append", desc := "(I)Ljava/lang/AbstractStringBuilder;" } : Jvm.MethodName)) ∈ lw_all := lw_g (lw_at lw_m2 75 rfl) rfl
theorem q464 : (Jvm.Cond.code ({ cls := "java/lang/AbstractStringBuilder", name := "append", desc := "(I)Ljava/lang/AbstractStringBuilder;" } : Jvm.MethodName) prog_21_method_32_code (4 : Nat) (Option.some (Jvm.ClassFile.FieldType.object "java/lang/AbstractStringBuilder"))) ∈ lw_all := lw_g (lw_at lw_m2 76 rfl) rfl
theorem q465 : (Jvm.Cond.methodLink "java/lang/AbstractStringBuilder" (245 : Nat) ({ cls := "java/lang/Integer", name := "stringSize", desc := "(I)I" } : Jvm.MethodName)) ∈ lw_all := lw_g (lw_at lw_m2 77 rfl) rfl
theorem q468 : (Jvm.Cond.methodLink "java/lang/AbstractStringBuilder" (248 : Nat) ({ cls := "java/lang/Integer", name := "getChars", desc := "(II[B)I" } : Jvm.MethodName)) ∈ lw_all := lw_g (lw_at lw_m2 80 rfl) rfl
theorem q475 : (Jvm.Cond.methodLink "java/lang/AbstractStringBuilder" (251 : Nat) ({ cls := "java/lang/StringUTF16", name := "getChars", desc := "(III[B)I" } : Jvm.MethodName)) ∈ lw_all := lw_g (lw_at lw_m2 87 rfl) rfl
theorem q497 : (Jvm.Cond.instanceMethod ({ cls := "java/lang/AbstractStringBuilder", name := "getValue", desc := "()[B" } : Jvm.MethodName)) ∈ lw_all := lw_g (lw_at lw_m2 109 rfl) rfl
theorem q498 : (Jvm.Cond.sameMethod "java/lang/AbstractStringBuilder" "java/lang/AbstractStringBuilder" "getValue" "()[B") ∈ lw_all := lw_g (lw_at lw_m2 110 rfl) rfl
theorem q500 : (Jvm.Cond.code ({ cls := "java/lang/AbstractStringBuilder", name := "getValue", desc := "()[B" } : Jvm.MethodName) prog_21_method_64_code (1 : Nat) (Option.some (Jvm.ClassFile.FieldType.array Jvm.ClassFile.FieldType.byte))) ∈ lw_all := lw_g (lw_at lw_m2 112 rfl) rfl
theorem q502 : (Jvm.Cond.instanceMethod ({ cls := "java/lang/AbstractStringBuilder", name := "length", desc := "()I" } : Jvm.MethodName)) ∈ lw_all := lw_g (lw_at lw_m2 114 rfl) rfl
theorem q503 : (Jvm.Cond.sameMethod "java/lang/AbstractStringBuilder" "java/lang/AbstractStringBuilder" "length" "()I") ∈ lw_all := lw_g (lw_at lw_m2 115 rfl) rfl
theorem q508 : (Jvm.Cond.code ({ cls := "java/lang/AbstractStringBuilder", name := "length", desc := "()I" } : Jvm.MethodName) prog_21_method_6_code (1 : Nat) (Option.some Jvm.ClassFile.FieldType.int)) ∈ lw_all := lw_g (lw_at lw_m2 120 rfl) rfl
theorem q687 : (Jvm.Cond.instanceMethod ({ cls := "java/lang/AbstractStringBuilder", name := "append", desc := "(F)Ljava/lang/AbstractStringBuilder;" } : Jvm.MethodName)) ∈ lw_all := lw_g (lw_at lw_m3 59 rfl) rfl
theorem q688 : (Jvm.Cond.codeWith ({ cls := "java/lang/AbstractStringBuilder", name := "append", desc := "(F)Ljava/lang/AbstractStringBuilder;" } : Jvm.MethodName) prog_21_method_34_code (3 : Nat) (Option.some (Jvm.ClassFile.FieldType.object "java/lang/AbstractStringBuilder")) [((0 : Nat), (6 : Nat), (9 : Nat), (271 : Nat))]) ∈ lw_all := lw_g (lw_at lw_m3 60 rfl) rfl
theorem q689 : (Jvm.Cond.methodLink "java/lang/AbstractStringBuilder" (265 : Nat) ({ cls := "jdk/internal/math/FloatToDecimal", name := "appendTo", desc := "(FLjava/lang/Appendable;)Ljava/lang/Appendable;" } : Jvm.MethodName)) ∈ lw_all := lw_g (lw_at lw_m3 61 rfl) rfl
theorem q808 : (Jvm.Cond.instanceMethod ({ cls := "java/lang/AbstractStringBuilder", name := "append", desc := "([C)Ljava/lang/AbstractStringBuilder;" } : Jvm.MethodName)) ∈ lw_all := lw_g (lw_at lw_m3 180 rfl) rfl
theorem q809 : (Jvm.Cond.code ({ cls := "java/lang/AbstractStringBuilder", name := "append", desc := "([C)Ljava/lang/AbstractStringBuilder;" } : Jvm.MethodName) prog_21_method_28_code (3 : Nat) (Option.some (Jvm.ClassFile.FieldType.object "java/lang/AbstractStringBuilder"))) ∈ lw_all := lw_g (lw_at lw_m3 181 rfl) rfl
theorem q810 : (Jvm.Cond.methodLink "java/lang/AbstractStringBuilder" (239 : Nat) ({ cls := "java/lang/AbstractStringBuilder", name := "appendChars", desc := "([CII)V" } : Jvm.MethodName)) ∈ lw_all := lw_g (lw_at lw_m3 182 rfl) rfl
theorem q811 : (Jvm.Cond.privateMethod ({ cls := "java/lang/AbstractStringBuilder", name := "appendChars", desc := "([CII)V" } : Jvm.MethodName)) ∈ lw_tbl := lw_at lw_m3 183 rfl
theorem q812 : (Jvm.Cond.instanceMethod ({ cls := "java/lang/AbstractStringBuilder", name := "appendChars", desc := "([CII)V" } : Jvm.MethodName)) ∈ lw_all := lw_g (lw_at lw_m3 184 rfl) rfl
theorem q813 : (Jvm.Cond.code ({ cls := "java/lang/AbstractStringBuilder", name := "appendChars", desc := "([CII)V" } : Jvm.MethodName) prog_21_method_74_code (9 : Nat) (Option.none : Option Jvm.ClassFile.FieldType)) ∈ lw_all := lw_g (lw_at lw_m3 185 rfl) rfl
theorem q814 : (Jvm.Cond.methodLink "java/lang/AbstractStringBuilder" (191 : Nat) ({ cls := "java/lang/StringLatin1", name := "canEncode", desc := "(C)Z" } : Jvm.MethodName)) ∈ lw_all := lw_g (lw_at lw_m3 186 rfl) rfl
theorem q817 : (Jvm.Cond.methodLink "java/lang/AbstractStringBuilder" (386 : Nat) ({ cls := "java/lang/StringUTF16", name := "putCharsSB", desc := "([BI[CII)V" } : Jvm.MethodName)) ∈ lw_all := lw_g (lw_at lw_m3 189 rfl) rfl
theorem q845 : (Jvm.Cond.instanceMethod ({ cls := "java/lang/AbstractStringBuilder", name := "append", desc := "(C)Ljava/lang/AbstractStringBuilder;" } : Jvm.MethodName)) ∈ lw_all := lw_g (lw_at lw_m3 217 rfl) rfl
theorem q846 : (Jvm.Cond.code ({ cls := "java/lang/AbstractStringBuilder", name := "append", desc := "(C)Ljava/lang/AbstractStringBuilder;" } : Jvm.MethodName) prog_21_method_31_code (2 : Nat) (Option.some (Jvm.ClassFile.FieldType.object "java/lang/AbstractStringBuilder"))) ∈ lw_all := lw_g (lw_at lw_m3 218 rfl) rfl
theorem q847 : (Jvm.Cond.methodLink "java/lang/AbstractStringBuilder" (197 : Nat) ({ cls := "java/lang/StringUTF16", name := "putCharSB", desc := "([BII)V" } : Jvm.MethodName)) ∈ lw_all := lw_g (lw_at lw_m3 219 rfl) rfl
theorem q874 : (Jvm.Cond.instanceMethod ({ cls := "java/lang/AbstractStringBuilder", name := "append", desc := "(Ljava/lang/CharSequence;)Ljava/lang/AbstractStringBuilder;" } : Jvm.MethodName)) ∈ lw_all := lw_g (lw_at lw_m4 6 rfl) rfl
theorem q875 : (Jvm.Cond.code ({ cls := "java/lang/AbstractStringBuilder", name := "append", desc := "(Ljava/lang/CharSequence;)Ljava/lang/AbstractStringBuilder;" } : Jvm.MethodName) prog_21_method_25_code (2 : Nat) (Option.some (Jvm.ClassFile.FieldType.object "java/lang/AbstractStringBuilder"))) ∈ lw_all := lw_g (lw_at lw_m4 7 rfl) rfl
theorem q876 : (Jvm.Cond.classLink "java/lang/AbstractStringBuilder" (1 : Nat) "java/lang/String") ∈ lw_all := lw_g (lw_at lw_m4 8 rfl) rfl
theorem q877 : (Jvm.Cond.methodLink "java/lang/AbstractStringBuilder" (43 : Nat) ({ cls := "java/lang/AbstractStringBuilder", name := "append", desc := "(Ljava/lang/String;)Ljava/lang/AbstractStringBuilder;" } : Jvm.MethodName)) ∈ lw_all := lw_g (lw_at lw_m4 9 rfl) rfl
theorem q881 : (Jvm.Cond.classLink "java/lang/AbstractStringBuilder" (10 : Nat) "java/lang/AbstractStringBuilder") ∈ lw_all := lw_g (lw_at lw_m4 13 rfl) rfl
theorem q882 : (Jvm.Cond.methodLink "java/lang/AbstractStringBuilder" (212 : Nat) ({ cls := "java/lang/AbstractStringBuilder", name := "append", desc := "(Ljava/lang/AbstractStringBuilder;)Ljava/lang/AbstractStringBuilder;" } : Jvm.MethodName)) ∈ lw_all := lw_g (lw_at lw_m4 14 rfl) rfl
theorem q883 : (Jvm.Cond.instanceMethod ({ cls := "java/lang/AbstractStringBuilder", name := "append", desc := "(Ljava/lang/AbstractStringBuilder;)Ljava/lang/AbstractStringBuilder;" } : Jvm.MethodName)) ∈ lw_all := lw_g (lw_at lw_m4 15 rfl) rfl
theorem q884 : (Jvm.Cond.sameMethod "java/lang/AbstractStringBuilder" "java/lang/AbstractStringBuilder" "append" "(Ljava/lang/AbstractStringBuilder;)Ljava/lang/AbstractStringBuilder;") ∈ lw_all := lw_g (lw_at lw_m4 16 rfl) rfl
theorem q886 : (Jvm.Cond.code ({ cls := "java/lang/AbstractStringBuilder", name := "append", desc := "(Ljava/lang/AbstractStringBuilder;)Ljava/lang/AbstractStringBuilder;" } : Jvm.MethodName) prog_21_method_24_code (3 : Nat) (Option.some (Jvm.ClassFile.FieldType.object "java/lang/AbstractStringBuilder"))) ∈ lw_all := lw_g (lw_at lw_m4 18 rfl) rfl
theorem q887 : (Jvm.Cond.methodLink "java/lang/AbstractStringBuilder" (160 : Nat) ({ cls := "java/lang/AbstractStringBuilder", name := "length", desc := "()I" } : Jvm.MethodName)) ∈ lw_all := lw_g (lw_at lw_m4 19 rfl) rfl
theorem q888 : (Jvm.Cond.methodLink "java/lang/AbstractStringBuilder" (215 : Nat) ({ cls := "java/lang/AbstractStringBuilder", name := "inflateIfNeededFor", desc := "(Ljava/lang/AbstractStringBuilder;)V" } : Jvm.MethodName)) ∈ lw_all := lw_g (lw_at lw_m4 20 rfl) rfl
theorem q889 : (Jvm.Cond.privateMethod ({ cls := "java/lang/AbstractStringBuilder", name := "inflateIfNeededFor", desc := "(Ljava/lang/AbstractStringBuilder;)V" } : Jvm.MethodName)) ∈ lw_tbl := lw_at lw_m4 21 rfl
theorem q890 : (Jvm.Cond.instanceMethod ({ cls := "java/lang/AbstractStringBuilder", name := "inflateIfNeededFor", desc := "(Ljava/lang/AbstractStringBuilder;)V" } : Jvm.MethodName)) ∈ lw_all := lw_g (lw_at lw_m4 22 rfl) rfl
theorem q891 : (Jvm.Cond.code ({ cls := "java/lang/AbstractStringBuilder", name := "inflateIfNeededFor", desc := "(Ljava/lang/AbstractStringBuilder;)V" } : Jvm.MethodName) prog_21_method_72_code (2 : Nat) (Option.none : Option Jvm.ClassFile.FieldType)) ∈ lw_all := lw_g (lw_at lw_m4 23 rfl) rfl
theorem q892 : (Jvm.Cond.methodLink "java/lang/AbstractStringBuilder" (70 : Nat) ({ cls := "java/lang/AbstractStringBuilder", name := "getCoder", desc := "()B" } : Jvm.MethodName)) ∈ lw_all := lw_g (lw_at lw_m4 24 rfl) rfl
theorem q893 : (Jvm.Cond.instanceMethod ({ cls := "java/lang/AbstractStringBuilder", name := "getCoder", desc := "()B" } : Jvm.MethodName)) ∈ lw_all := lw_g (lw_at lw_m4 25 rfl) rfl
theorem q894 : (Jvm.Cond.sameMethod "java/lang/AbstractStringBuilder" "java/lang/AbstractStringBuilder" "getCoder" "()B") ∈ lw_all := lw_g (lw_at lw_m4 26 rfl) rfl
theorem q896 : (Jvm.Cond.code ({ cls := "java/lang/AbstractStringBuilder", name := "getCoder", desc := "()B" } : Jvm.MethodName) prog_21_method_67_code (1 : Nat) (Option.some Jvm.ClassFile.FieldType.byte)) ∈ lw_all := lw_g (lw_at lw_m4 28 rfl) rfl
theorem q897 : (Jvm.Cond.methodLink "java/lang/AbstractStringBuilder" (219 : Nat) ({ cls := "java/lang/AbstractStringBuilder", name := "getBytes", desc := "([BIB)V" } : Jvm.MethodName)) ∈ lw_all := lw_g (lw_at lw_m4 29 rfl) rfl
theorem q898 : (Jvm.Cond.instanceMethod ({ cls := "java/lang/AbstractStringBuilder", name := "getBytes", desc := "([BIB)V" } : Jvm.MethodName)) ∈ lw_all := lw_g (lw_at lw_m4 30 rfl) rfl
theorem q899 : (Jvm.Cond.sameMethod "java/lang/AbstractStringBuilder" "java/lang/AbstractStringBuilder" "getBytes" "([BIB)V") ∈ lw_all := lw_g (lw_at lw_m4 31 rfl) rfl
theorem q901 : (Jvm.Cond.code ({ cls := "java/lang/AbstractStringBuilder", name := "getBytes", desc := "([BIB)V" } : Jvm.MethodName) prog_21_method_65_code (4 : Nat) (Option.none : Option Jvm.ClassFile.FieldType)) ∈ lw_all := lw_g (lw_at lw_m4 33 rfl) rfl
theorem q902 : (Jvm.Cond.methodLink "java/lang/AbstractStringBuilder" (309 : Nat) ({ cls := "java/lang/System", name := "arraycopy", desc := "(Ljava/lang/Object;ILjava/lang/Object;II)V" } : Jvm.MethodName)) ∈ lw_all := lw_g (lw_at lw_m4 34 rfl) rfl
theorem q903 : (Jvm.Cond.interfaceEntry "java/lang/AbstractStringBuilder" (47 : Nat)) ∈ lw_tbl := lw_at lw_m4 35 rfl
theorem q904 : (Jvm.Cond.methodLink "java/lang/AbstractStringBuilder" (47 : Nat) ({ cls := "java/lang/CharSequence", name := "length", desc := "()I" } : Jvm.MethodName)) ∈ lw_all := lw_g (lw_at lw_m4 36 rfl) rfl
theorem q915 : (Jvm.Cond.methodLink "java/lang/AbstractStringBuilder" (223 : Nat) ({ cls := "java/lang/AbstractStringBuilder", name := "append", desc := "(Ljava/lang/CharSequence;II)Ljava/lang/AbstractStringBuilder;" } : Jvm.MethodName)) ∈ lw_all := lw_g (lw_at lw_m4 47 rfl) rfl
theorem q916 : (Jvm.Cond.instanceMethod ({ cls := "java/lang/AbstractStringBuilder", name := "append", desc := "(Ljava/lang/CharSequence;II)Ljava/lang/AbstractStringBuilder;" } : Jvm.MethodName)) ∈ lw_all := lw_g (lw_at lw_m4 48 rfl) rfl
theorem q917 : (Jvm.Cond.sameMethod "java/lang/AbstractStringBuilder" "java/lang/AbstractStringBuilder" "append" "(Ljava/lang/CharSequence;II)Ljava/lang/AbstractStringBuilder;") ∈ lw_all := lw_g (lw_at lw_m4 49 rfl) rfl
theorem q926 : (Jvm.Cond.code ({ cls := "java/lang/AbstractStringBuilder", name := "append", desc := "(Ljava/lang/CharSequence;II)Ljava/lang/AbstractStringBuilder;" } : Jvm.MethodName) prog_21_method_27_code (5 : Nat) (Option.some (Jvm.ClassFile.FieldType.object "java/lang/AbstractStringBuilder"))) ∈ lw_all := lw_g (lw_at lw_m4 58 rfl) rfl
theorem q927 : (Jvm.Cond.stringRef "java/lang/AbstractStringBuilder" (230 : Nat) "null") ∈ lw_tbl := lw_at lw_m4 59 rfl
theorem q928 : (Jvm.Cond.fieldLink "java/lang/AbstractStringBuilder" (183 : Nat) "jdk/internal/util/Preconditions" "IOOBE_FORMATTER" "Ljava/util/function/BiFunction;") ∈ lw_all := lw_g (lw_at lw_m4 60 rfl) rfl
theorem q930 : (Jvm.Cond.methodLink "java/lang/AbstractStringBuilder" (161 : Nat) ({ cls := "jdk/internal/util/Preconditions", name := "checkFromToIndex", desc := "(IIILjava/util/function/BiFunction;)I" } : Jvm.MethodName)) ∈ lw_all := lw_g (lw_at lw_m4 62 rfl) rfl
theorem q931 : (Jvm.Cond.methodLink "java/lang/AbstractStringBuilder" (232 : Nat) ({ cls := "java/lang/AbstractStringBuilder", name := "appendChars", desc := "(Ljava/lang/String;II)V" } : Jvm.MethodName)) ∈ lw_all := lw_g (lw_at lw_m4 63 rfl) rfl
theorem q932 : (Jvm.Cond.privateMethod ({ cls := "java/lang/AbstractStringBuilder", name := "appendChars", desc := "(Ljava/lang/String;II)V" } : Jvm.MethodName)) ∈ lw_tbl := lw_at lw_m4 64 rfl
theorem q933 : (Jvm.Cond.instanceMethod ({ cls := "java/lang/AbstractStringBuilder", name := "appendChars", desc := "(Ljava/lang/String;II)V" } : Jvm.MethodName)) ∈ lw_all := lw_g (lw_at lw_m4 65 rfl) rfl
theorem q934 : (Jvm.Cond.code ({ cls := "java/lang/AbstractStringBuilder", name := "appendChars", desc := "(Ljava/lang/String;II)V" } : Jvm.MethodName) prog_21_method_75_code (8 : Nat) (Option.none : Option Jvm.ClassFile.FieldType)) ∈ lw_all := lw_g (lw_at lw_m4 66 rfl) rfl
theorem q935 : (Jvm.Cond.methodLink "java/lang/AbstractStringBuilder" (400 : Nat) ({ cls := "java/lang/String", name := "isLatin1", desc := "()Z" } : Jvm.MethodName)) ∈ lw_all := lw_g (lw_at lw_m4 67 rfl) rfl
theorem q939 : (Jvm.Cond.methodLink "java/lang/AbstractStringBuilder" (401 : Nat) ({ cls := "java/lang/String", name := "value", desc := "()[B" } : Jvm.MethodName)) ∈ lw_all := lw_g (lw_at lw_m4 71 rfl) rfl
theorem q943 : (Jvm.Cond.methodLink "java/lang/AbstractStringBuilder" (404 : Nat) ({ cls := "java/lang/String", name := "charAt", desc := "(I)C" } : Jvm.MethodName)) ∈ lw_all := lw_g (lw_at lw_m4 75 rfl) rfl
theorem q955 : (Jvm.Cond.methodLink "java/lang/AbstractStringBuilder" (394 : Nat) ({ cls := "java/lang/StringUTF16", name := "putCharsSB", desc := "([BILjava/lang/CharSequence;II)V" } : Jvm.MethodName)) ∈ lw_all := lw_g (lw_at lw_m4 87 rfl) rfl
theorem q971 : (Jvm.Cond.instanceMethod ({ cls := "java/lang/AbstractStringBuilder", name := "charAt", desc := "(I)C" } : Jvm.MethodName)) ∈ lw_all := lw_g (lw_at lw_m4 103 rfl) rfl
theorem q972 : (Jvm.Cond.code ({ cls := "java/lang/AbstractStringBuilder", name := "charAt", desc := "(I)C" } : Jvm.MethodName) prog_21_method_14_code (5 : Nat) (Option.some Jvm.ClassFile.FieldType.char)) ∈ lw_all := lw_g (lw_at lw_m4 104 rfl) rfl
theorem q973 : (Jvm.Cond.methodLink "java/lang/AbstractStringBuilder" (138 : Nat) ({ cls := "java/lang/Math", name := "min", desc := "(II)I" } : Jvm.MethodName)) ∈ lw_all := lw_g (lw_at lw_m4 105 rfl) rfl
theorem q974 : (Jvm.Cond.methodLink "java/lang/AbstractStringBuilder" (144 : Nat) ({ cls := "java/lang/String", name := "checkIndex", desc := "(II)V" } : Jvm.MethodName)) ∈ lw_all := lw_g (lw_at lw_m4 106 rfl) rfl
theorem q975 : (Jvm.Cond.methodLink "java/lang/AbstractStringBuilder" (148 : Nat) ({ cls := "java/lang/StringUTF16", name := "getChar", desc := "([BI)C" } : Jvm.MethodName)) ∈ lw_all := lw_g (lw_at lw_m4 107 rfl) rfl
theorem q976 : (Jvm.Cond.methodLink "java/lang/AbstractStringBuilder" (236 : Nat) ({ cls := "java/lang/AbstractStringBuilder", name := "appendChars", desc := "(Ljava/lang/CharSequence;II)V" } : Jvm.MethodName)) ∈ lw_all := lw_g (lw_at lw_m4 108 rfl) rfl
theorem q977 : (Jvm.Cond.privateMethod ({ cls := "java/lang/AbstractStringBuilder", name := "appendChars", desc := "(Ljava/lang/CharSequence;II)V" } : Jvm.MethodName)) ∈ lw_tbl := lw_at lw_m4 109 rfl
theorem q978 : (Jvm.Cond.instanceMethod ({ cls := "java/lang/AbstractStringBuilder", name := "appendChars", desc := "(Ljava/lang/CharSequence;II)V" } : Jvm.MethodName)) ∈ lw_all := lw_g (lw_at lw_m4 110 rfl) rfl
theorem q979 : (Jvm.Cond.code ({ cls := "java/lang/AbstractStringBuilder", name := "appendChars", desc := "(Ljava/lang/CharSequence;II)V" } : Jvm.MethodName) prog_21_method_76_code (8 : Nat) (Option.none : Option Jvm.ClassFile.FieldType)) ∈ lw_all := lw_g (lw_at lw_m4 111 rfl) rfl
theorem q980 : (Jvm.Cond.interfaceEntry "java/lang/AbstractStringBuilder" (390 : Nat)) ∈ lw_tbl := lw_at lw_m4 112 rfl
theorem q981 : (Jvm.Cond.methodLink "java/lang/AbstractStringBuilder" (390 : Nat) ({ cls := "java/lang/CharSequence", name := "charAt", desc := "(I)C" } : Jvm.MethodName)) ∈ lw_all := lw_g (lw_at lw_m4 113 rfl) rfl
theorem q986 : (Jvm.Cond.classLink "java/lang/AbstractStringBuilder" (273 : Nat) "java/lang/AssertionError") ∈ lw_all := lw_g (lw_at lw_m4 118 rfl) rfl
theorem q997 : (Jvm.Cond.methodLink "java/lang/AbstractStringBuilder" (275 : Nat) ({ cls := "java/lang/AssertionError", name := "<init>", desc := "(Ljava/lang/Object;)V" } : Jvm.MethodName)) ∈ lw_all := lw_g (lw_at lw_m4 129 rfl) rfl
theorem q1684 : (Jvm.Cond.instanceMethod ({ cls := "java/lang/AbstractStringBuilder", name := "compareTo", desc := "(Ljava/lang/AbstractStringBuilder;)I" } : Jvm.MethodName)) ∈ lw_all := lw_g (lw_at lw_m7 96 rfl) rfl
theorem q1685 : (Jvm.Cond.code ({ cls := "java/lang/AbstractStringBuilder", name := "compareTo", desc := "(Ljava/lang/AbstractStringBuilder;)I" } : Jvm.MethodName) prog_21_method_5_code (6 : Nat) (Option.some Jvm.ClassFile.FieldType.int)) ∈ lw_all := lw_g (lw_at lw_m7 97 rfl) rfl
theorem q1686 : (Jvm.Cond.methodLink "java/lang/AbstractStringBuilder" (87 : Nat) ({ cls := "java/lang/StringLatin1", name := "compareTo", desc := "([B[BII)I" } : Jvm.MethodName)) ∈ lw_all := lw_g (lw_at lw_m7 98 rfl) rfl
theorem q1687 : (Jvm.Cond.methodLink "java/lang/AbstractStringBuilder" (93 : Nat) ({ cls := "java/lang/StringUTF16", name := "compareTo", desc := "([B[BII)I" } : Jvm.MethodName)) ∈ lw_all := lw_g (lw_at lw_m7 99 rfl) rfl
theorem q1696 : (Jvm.Cond.methodLink "java/lang/AbstractStringBuilder" (94 : Nat) ({ cls := "java/lang/StringLatin1", name := "compareToUTF16", desc := "([B[BII)I" } : Jvm.MethodName)) ∈ lw_all := lw_g (lw_at lw_m7 108 rfl) rfl
theorem q1700 : (Jvm.Cond.methodLink "java/lang/AbstractStringBuilder" (97 : Nat) ({ cls := "java/lang/StringUTF16", name := "compareToLatin1", desc := "([B[BII)I" } : Jvm.MethodName)) ∈ lw_all := lw_g (lw_at lw_m7 112 rfl) rfl
theorem q4041 : (Jvm.Cond.sameMethod "java/lang/AbstractStringBuilder" "java/lang/AbstractStringBuilder" "append" "(Ljava/lang/String;)Ljava/lang/AbstractStringBuilder;") ∈ lw_all := lw_g (lw_at lw_m17 53 rfl) rfl
theorem q4042 : (Jvm.Cond.sameMethod "java/lang/AbstractStringBuilder" "java/lang/AbstractStringBuilder" "appendNull" "()Ljava/lang/AbstractStringBuilder;") ∈ lw_all := lw_g (lw_at lw_m17 54 rfl) rfl
theorem q4043 : (Jvm.Cond.sameMethod "java/lang/AbstractStringBuilder" "java/lang/AbstractStringBuilder" "ensureCapacityInternal" "(I)V") ∈ lw_all := lw_g (lw_at lw_m17 55 rfl) rfl
theorem q4044 : (Jvm.Cond.sameMethod "java/lang/AbstractStringBuilder" "java/lang/AbstractStringBuilder" "newCapacity" "(I)I") ∈ lw_all := lw_g (lw_at lw_m17 56 rfl) rfl
theorem q4045 : (Jvm.Cond.sameMethod "java/lang/AbstractStringBuilder" "java/lang/AbstractStringBuilder" "putStringAt" "(ILjava/lang/String;)V") ∈ lw_all := lw_g (lw_at lw_m17 57 rfl) rfl
theorem q4046 : (Jvm.Cond.sameMethod "java/lang/AbstractStringBuilder" "java/lang/AbstractStringBuilder" "inflateIfNeededFor" "(Ljava/lang/String;)V") ∈ lw_all := lw_g (lw_at lw_m17 58 rfl) rfl
theorem q4047 : (Jvm.Cond.sameMethod "java/lang/AbstractStringBuilder" "java/lang/AbstractStringBuilder" "inflate" "()V") ∈ lw_all := lw_g (lw_at lw_m17 59 rfl) rfl
theorem q4048 : (Jvm.Cond.sameMethod "java/lang/AbstractStringBuilder" "java/lang/AbstractStringBuilder" "append" "(I)Ljava/lang/AbstractStringBuilder;") ∈ lw_all := lw_g (lw_at lw_m17 60 rfl) rfl
theorem q4049 : (Jvm.Cond.sameMethod "java/lang/AbstractStringBuilder" "java/lang/AbstractStringBuilder" "append" "(F)Ljava/lang/AbstractStringBuilder;") ∈ lw_all := lw_g (lw_at lw_m17 61 rfl) rfl
theorem q4050 : (Jvm.Cond.sameMethod "java/lang/AbstractStringBuilder" "java/lang/AbstractStringBuilder" "append" "([C)Ljava/lang/AbstractStringBuilder;") ∈ lw_all := lw_g (lw_at lw_m17 62 rfl) rfl
theorem q4051 : (Jvm.Cond.sameMethod "java/lang/AbstractStringBuilder" "java/lang/AbstractStringBuilder" "appendChars" "([CII)V") ∈ lw_all := lw_g (lw_at lw_m17 63 rfl) rfl
theorem q4052 : (Jvm.Cond.sameMethod "java/lang/AbstractStringBuilder" "java/lang/AbstractStringBuilder" "append" "(C)Ljava/lang/AbstractStringBuilder;") ∈ lw_all := lw_g (lw_at lw_m17 64 rfl) rfl
theorem q4053 : (Jvm.Cond.sameMethod "java/lang/AbstractStringBuilder" "java/lang/AbstractStringBuilder" "append" "(Ljava/lang/CharSequence;)Ljava/lang/AbstractStringBuilder;") ∈ lw_all := lw_g (lw_at lw_m17 65 rfl) rfl
theorem q4055 : (Jvm.Cond.sameMethod "java/lang/AbstractStringBuilder" "java/lang/AbstractStringBuilder" "inflateIfNeededFor" "(Ljava/lang/AbstractStringBuilder;)V") ∈ lw_all := lw_g (lw_at lw_m17 67 rfl) rfl
theorem q4056 : (Jvm.Cond.sameMethod "java/lang/AbstractStringBuilder" "java/lang/AbstractStringBuilder" "appendChars" "(Ljava/lang/String;II)V") ∈ lw_all := lw_g (lw_at lw_m17 68 rfl) rfl
theorem q4057 : (Jvm.Cond.sameMethod "java/lang/AbstractStringBuilder" "java/lang/AbstractStringBuilder" "charAt" "(I)C") ∈ lw_all := lw_g (lw_at lw_m17 69 rfl) rfl
theorem q4058 : (Jvm.Cond.sameMethod "java/lang/AbstractStringBuilder" "java/lang/AbstractStringBuilder" "appendChars" "(Ljava/lang/CharSequence;II)V") ∈ lw_all := lw_g (lw_at lw_m17 70 rfl) rfl
theorem q4059 : (Jvm.Cond.sameMethod "java/lang/AbstractStringBuilder" "java/lang/AbstractStringBuilder" "compareTo" "(Ljava/lang/AbstractStringBuilder;)I") ∈ lw_all := lw_g (lw_at lw_m17 71 rfl) rfl

/-! java/lang/StringBuilder -/
set_option maxRecDepth 100000
def RJ9 : String := "java/lang/StringBuilder"
def TJ9 : u_T := fun k => match k with
  | 0 => ("java/lang/AbstractStringBuilder", "value", "[B", false)
  | 1 => ("java/lang/AbstractStringBuilder", "coder", "B", false)
  | 2 => ("java/lang/AbstractStringBuilder", "maybeLatin1", "Z", false)
  | _ => ("java/lang/AbstractStringBuilder", "count", "I", false)
def tyJ9 : Nat → FieldType := fun k => match k with
  | 0 => .array .byte
  | 1 => .byte
  | 2 => .boolean
  | _ => .int
abbrev wsJ90 : List Cond := u_ws RJ9 TJ9 4
theorem nmJ9 : ∀ a, a < 4 → ∀ b, b < 4 → a ≠ b → (TJ9 a).2.1 ≠ (TJ9 b).2.1 := by decide +kernel
theorem tyJ9_ok : ∀ k, k < 4 → parseFieldDescriptor (TJ9 k).2.2.1 = some (tyJ9 k) := by decide +kernel
abbrev cJ9_init : ByteArray := prog_41_method_1_code
def yJ9_init : MethodName := ⟨RJ9, "<init>", "()V"⟩
def dkwJ9_init_0 : List UInt8 := [42, 16, 16, 183, 0, 1, 177]
abbrev dktJ9_init_0 : List UInt8 := dkwJ9_init_0 ++ []
theorem dksJ9_init_0 : cJ9_init.data.toList.drop 0 = dktJ9_init_0 := by decide +kernel
theorem dJ9_init_0 : decode cJ9_init 0 = .ok (.aload_n 0, 1) := dk_42 (dk_at dksJ9_init_0 0 rfl rfl)
theorem dJ9_init_1 : decode cJ9_init 1 = .ok (.bipush 16, 2) := dk_16 16 (dk_at dksJ9_init_0 1 rfl rfl)
theorem dJ9_init_3 : decode cJ9_init 3 = .ok (.invokespecial 1, 3) := dk_183 0 1 (dk_at dksJ9_init_0 3 rfl rfl)
theorem dJ9_init_6 : decode cJ9_init 6 = .ok (.return_, 1) := dk_177 (dk_at dksJ9_init_0 6 rfl rfl)
abbrev cJ9_append : ByteArray := prog_41_method_7_code
def yJ9_append : MethodName := ⟨RJ9, "append", "(Ljava/lang/String;)Ljava/lang/StringBuilder;"⟩
def dkwJ9_append_0 : List UInt8 := [42, 43, 183, 0, 29, 87, 42, 176]
abbrev dktJ9_append_0 : List UInt8 := dkwJ9_append_0 ++ []
theorem dksJ9_append_0 : cJ9_append.data.toList.drop 0 = dktJ9_append_0 := by decide +kernel
theorem dJ9_append_0 : decode cJ9_append 0 = .ok (.aload_n 0, 1) := dk_42 (dk_at dksJ9_append_0 0 rfl rfl)
theorem dJ9_append_1 : decode cJ9_append 1 = .ok (.aload_n 1, 1) := dk_43 (dk_at dksJ9_append_0 1 rfl rfl)
theorem dJ9_append_2 : decode cJ9_append 2 = .ok (.invokespecial 29, 3) := dk_183 0 29 (dk_at dksJ9_append_0 2 rfl rfl)
theorem dJ9_append_5 : decode cJ9_append 5 = .ok (.pop, 1) := dk_87 (dk_at dksJ9_append_0 5 rfl rfl)
theorem dJ9_append_6 : decode cJ9_append 6 = .ok (.aload_n 0, 1) := dk_42 (dk_at dksJ9_append_0 6 rfl rfl)
theorem dJ9_append_7 : decode cJ9_append 7 = .ok (.areturn, 1) := dk_176 (dk_at dksJ9_append_0 7 rfl rfl)
abbrev cJ9_append_2 : ByteArray := prog_41_method_15_code
def yJ9_append_2 : MethodName := ⟨RJ9, "append", "(I)Ljava/lang/StringBuilder;"⟩
def dkwJ9_append_2_0 : List UInt8 := [42, 27, 183, 0, 53, 87, 42, 176]
abbrev dktJ9_append_2_0 : List UInt8 := dkwJ9_append_2_0 ++ []
theorem dksJ9_append_2_0 : cJ9_append_2.data.toList.drop 0 = dktJ9_append_2_0 := by decide +kernel
theorem dJ9_append_2_0 : decode cJ9_append_2 0 = .ok (.aload_n 0, 1) := dk_42 (dk_at dksJ9_append_2_0 0 rfl rfl)
theorem dJ9_append_2_1 : decode cJ9_append_2 1 = .ok (.iload_n 1, 1) := dk_27 (dk_at dksJ9_append_2_0 1 rfl rfl)
theorem dJ9_append_2_2 : decode cJ9_append_2 2 = .ok (.invokespecial 53, 3) := dk_183 0 53 (dk_at dksJ9_append_2_0 2 rfl rfl)
theorem dJ9_append_2_5 : decode cJ9_append_2 5 = .ok (.pop, 1) := dk_87 (dk_at dksJ9_append_2_0 5 rfl rfl)
theorem dJ9_append_2_6 : decode cJ9_append_2 6 = .ok (.aload_n 0, 1) := dk_42 (dk_at dksJ9_append_2_0 6 rfl rfl)
theorem dJ9_append_2_7 : decode cJ9_append_2 7 = .ok (.areturn, 1) := dk_176 (dk_at dksJ9_append_2_0 7 rfl rfl)
abbrev cJ9_toString : ByteArray := prog_41_method_42_code
def yJ9_toString : MethodName := ⟨RJ9, "toString", "()Ljava/lang/String;"⟩
def dkwJ9_toString_0 : List UInt8 := [187, 0, 18, 89, 42, 183, 0, 137, 176]
abbrev dktJ9_toString_0 : List UInt8 := dkwJ9_toString_0 ++ []
theorem dksJ9_toString_0 : cJ9_toString.data.toList.drop 0 = dktJ9_toString_0 := by decide +kernel
theorem dJ9_toString_0 : decode cJ9_toString 0 = .ok (.new 18, 3) := dk_187 0 18 (dk_at dksJ9_toString_0 0 rfl rfl)
theorem dJ9_toString_3 : decode cJ9_toString 3 = .ok (.dup, 1) := dk_89 (dk_at dksJ9_toString_0 3 rfl rfl)
theorem dJ9_toString_4 : decode cJ9_toString 4 = .ok (.aload_n 0, 1) := dk_42 (dk_at dksJ9_toString_0 4 rfl rfl)
theorem dJ9_toString_5 : decode cJ9_toString 5 = .ok (.invokespecial 137, 3) := dk_183 0 137 (dk_at dksJ9_toString_0 5 rfl rfl)
theorem dJ9_toString_8 : decode cJ9_toString 8 = .ok (.areturn, 1) := dk_176 (dk_at dksJ9_toString_0 8 rfl rfl)
abbrev cJ9_length : ByteArray := prog_41_method_93_code
def yJ9_length : MethodName := ⟨RJ9, "length", "()I"⟩
theorem dJ9_length_0 : decode cJ9_length 0 = .ok (.aload_n 0, 1) := by decide +kernel
theorem dJ9_length_1 : decode cJ9_length 1 = .ok (.invokespecial 343, 3) := by decide +kernel
theorem dJ9_length_4 : decode cJ9_length 4 = .ok (.ireturn, 1) := by decide +kernel
abbrev cJ9_append_3 : ByteArray := prog_41_method_17_code
def yJ9_append_3 : MethodName := ⟨RJ9, "append", "(F)Ljava/lang/StringBuilder;"⟩
def dkwJ9_append_3_0 : List UInt8 := [42, 35, 183, 0, 59, 87, 42, 176]
abbrev dktJ9_append_3_0 : List UInt8 := dkwJ9_append_3_0 ++ []
theorem dksJ9_append_3_0 : cJ9_append_3.data.toList.drop 0 = dktJ9_append_3_0 := by decide +kernel
theorem dJ9_append_3_0 : decode cJ9_append_3 0 = .ok (.aload_n 0, 1) := dk_42 (dk_at dksJ9_append_3_0 0 rfl rfl)
theorem dJ9_append_3_1 : decode cJ9_append_3 1 = .ok (.fload_n 1, 1) := dk_35 (dk_at dksJ9_append_3_0 1 rfl rfl)
theorem dJ9_append_3_2 : decode cJ9_append_3 2 = .ok (.invokespecial 59, 3) := dk_183 0 59 (dk_at dksJ9_append_3_0 2 rfl rfl)
theorem dJ9_append_3_5 : decode cJ9_append_3 5 = .ok (.pop, 1) := dk_87 (dk_at dksJ9_append_3_0 5 rfl rfl)
theorem dJ9_append_3_6 : decode cJ9_append_3 6 = .ok (.aload_n 0, 1) := dk_42 (dk_at dksJ9_append_3_0 6 rfl rfl)
theorem dJ9_append_3_7 : decode cJ9_append_3 7 = .ok (.areturn, 1) := dk_176 (dk_at dksJ9_append_3_0 7 rfl rfl)
abbrev cJ9_append_4 : ByteArray := prog_41_method_11_code
def yJ9_append_4 : MethodName := ⟨RJ9, "append", "([C)Ljava/lang/StringBuilder;"⟩
def dkwJ9_append_4_0 : List UInt8 := [42, 43, 183, 0, 41, 87, 42, 176]
abbrev dktJ9_append_4_0 : List UInt8 := dkwJ9_append_4_0 ++ []
theorem dksJ9_append_4_0 : cJ9_append_4.data.toList.drop 0 = dktJ9_append_4_0 := by decide +kernel
theorem dJ9_append_4_0 : decode cJ9_append_4 0 = .ok (.aload_n 0, 1) := dk_42 (dk_at dksJ9_append_4_0 0 rfl rfl)
theorem dJ9_append_4_1 : decode cJ9_append_4 1 = .ok (.aload_n 1, 1) := dk_43 (dk_at dksJ9_append_4_0 1 rfl rfl)
theorem dJ9_append_4_2 : decode cJ9_append_4 2 = .ok (.invokespecial 41, 3) := dk_183 0 41 (dk_at dksJ9_append_4_0 2 rfl rfl)
theorem dJ9_append_4_5 : decode cJ9_append_4 5 = .ok (.pop, 1) := dk_87 (dk_at dksJ9_append_4_0 5 rfl rfl)
theorem dJ9_append_4_6 : decode cJ9_append_4 6 = .ok (.aload_n 0, 1) := dk_42 (dk_at dksJ9_append_4_0 6 rfl rfl)
theorem dJ9_append_4_7 : decode cJ9_append_4 7 = .ok (.areturn, 1) := dk_176 (dk_at dksJ9_append_4_0 7 rfl rfl)
abbrev cJ9_append_5 : ByteArray := prog_41_method_94_code
def yJ9_append_5 : MethodName := ⟨RJ9, "append", "(C)Ljava/lang/Appendable;"⟩
def dkwJ9_append_5_0 : List UInt8 := [42, 27, 182, 1, 28, 176]
abbrev dktJ9_append_5_0 : List UInt8 := dkwJ9_append_5_0 ++ []
theorem dksJ9_append_5_0 : cJ9_append_5.data.toList.drop 0 = dktJ9_append_5_0 := by decide +kernel
theorem dJ9_append_5_0 : decode cJ9_append_5 0 = .ok (.aload_n 0, 1) := dk_42 (dk_at dksJ9_append_5_0 0 rfl rfl)
theorem dJ9_append_5_1 : decode cJ9_append_5 1 = .ok (.iload_n 1, 1) := dk_27 (dk_at dksJ9_append_5_0 1 rfl rfl)
theorem dJ9_append_5_2 : decode cJ9_append_5 2 = .ok (.invokevirtual 284, 3) := dk_182 1 28 (dk_at dksJ9_append_5_0 2 rfl rfl)
theorem dJ9_append_5_5 : decode cJ9_append_5 5 = .ok (.areturn, 1) := dk_176 (dk_at dksJ9_append_5_0 5 rfl rfl)
abbrev cJ9_append_6 : ByteArray := prog_41_method_14_code
def yJ9_append_6 : MethodName := ⟨RJ9, "append", "(C)Ljava/lang/StringBuilder;"⟩
def dkwJ9_append_6_0 : List UInt8 := [42, 27, 183, 0, 50, 87, 42, 176]
abbrev dktJ9_append_6_0 : List UInt8 := dkwJ9_append_6_0 ++ []
theorem dksJ9_append_6_0 : cJ9_append_6.data.toList.drop 0 = dktJ9_append_6_0 := by decide +kernel
theorem dJ9_append_6_0 : decode cJ9_append_6 0 = .ok (.aload_n 0, 1) := dk_42 (dk_at dksJ9_append_6_0 0 rfl rfl)
theorem dJ9_append_6_1 : decode cJ9_append_6 1 = .ok (.iload_n 1, 1) := dk_27 (dk_at dksJ9_append_6_0 1 rfl rfl)
theorem dJ9_append_6_2 : decode cJ9_append_6 2 = .ok (.invokespecial 50, 3) := dk_183 0 50 (dk_at dksJ9_append_6_0 2 rfl rfl)
theorem dJ9_append_6_5 : decode cJ9_append_6 5 = .ok (.pop, 1) := dk_87 (dk_at dksJ9_append_6_0 5 rfl rfl)
theorem dJ9_append_6_6 : decode cJ9_append_6 6 = .ok (.aload_n 0, 1) := dk_42 (dk_at dksJ9_append_6_0 6 rfl rfl)
theorem dJ9_append_6_7 : decode cJ9_append_6 7 = .ok (.areturn, 1) := dk_176 (dk_at dksJ9_append_6_0 7 rfl rfl)
abbrev cJ9_append_7 : ByteArray := prog_41_method_96_code
def yJ9_append_7 : MethodName := ⟨RJ9, "append", "(Ljava/lang/CharSequence;)Ljava/lang/Appendable;"⟩
def dkwJ9_append_7_0 : List UInt8 := [42, 43, 182, 1, 43, 176]
abbrev dktJ9_append_7_0 : List UInt8 := dkwJ9_append_7_0 ++ []
theorem dksJ9_append_7_0 : cJ9_append_7.data.toList.drop 0 = dktJ9_append_7_0 := by decide +kernel
theorem dJ9_append_7_0 : decode cJ9_append_7 0 = .ok (.aload_n 0, 1) := dk_42 (dk_at dksJ9_append_7_0 0 rfl rfl)
theorem dJ9_append_7_1 : decode cJ9_append_7 1 = .ok (.aload_n 1, 1) := dk_43 (dk_at dksJ9_append_7_0 1 rfl rfl)
theorem dJ9_append_7_2 : decode cJ9_append_7 2 = .ok (.invokevirtual 299, 3) := dk_182 1 43 (dk_at dksJ9_append_7_0 2 rfl rfl)
theorem dJ9_append_7_5 : decode cJ9_append_7 5 = .ok (.areturn, 1) := dk_176 (dk_at dksJ9_append_7_0 5 rfl rfl)
abbrev cJ9_append_8 : ByteArray := prog_41_method_9_code
def yJ9_append_8 : MethodName := ⟨RJ9, "append", "(Ljava/lang/CharSequence;)Ljava/lang/StringBuilder;"⟩
def dkwJ9_append_8_0 : List UInt8 := [42, 43, 183, 0, 35, 87, 42, 176]
abbrev dktJ9_append_8_0 : List UInt8 := dkwJ9_append_8_0 ++ []
theorem dksJ9_append_8_0 : cJ9_append_8.data.toList.drop 0 = dktJ9_append_8_0 := by decide +kernel
theorem dJ9_append_8_0 : decode cJ9_append_8 0 = .ok (.aload_n 0, 1) := dk_42 (dk_at dksJ9_append_8_0 0 rfl rfl)
theorem dJ9_append_8_1 : decode cJ9_append_8 1 = .ok (.aload_n 1, 1) := dk_43 (dk_at dksJ9_append_8_0 1 rfl rfl)
theorem dJ9_append_8_2 : decode cJ9_append_8 2 = .ok (.invokespecial 35, 3) := dk_183 0 35 (dk_at dksJ9_append_8_0 2 rfl rfl)
theorem dJ9_append_8_5 : decode cJ9_append_8 5 = .ok (.pop, 1) := dk_87 (dk_at dksJ9_append_8_0 5 rfl rfl)
theorem dJ9_append_8_6 : decode cJ9_append_8 6 = .ok (.aload_n 0, 1) := dk_42 (dk_at dksJ9_append_8_0 6 rfl rfl)
theorem dJ9_append_8_7 : decode cJ9_append_8 7 = .ok (.areturn, 1) := dk_176 (dk_at dksJ9_append_8_0 7 rfl rfl)
abbrev cJ9_append_9 : ByteArray := prog_41_method_80_code
def yJ9_append_9 : MethodName := ⟨RJ9, "append", "(Ljava/lang/String;)Ljava/lang/AbstractStringBuilder;"⟩
def dkwJ9_append_9_0 : List UInt8 := [42, 43, 182, 0, 23, 176]
abbrev dktJ9_append_9_0 : List UInt8 := dkwJ9_append_9_0 ++ []
theorem dksJ9_append_9_0 : cJ9_append_9.data.toList.drop 0 = dktJ9_append_9_0 := by decide +kernel
theorem dJ9_append_9_0 : decode cJ9_append_9 0 = .ok (.aload_n 0, 1) := dk_42 (dk_at dksJ9_append_9_0 0 rfl rfl)
theorem dJ9_append_9_1 : decode cJ9_append_9 1 = .ok (.aload_n 1, 1) := dk_43 (dk_at dksJ9_append_9_0 1 rfl rfl)
theorem dJ9_append_9_2 : decode cJ9_append_9 2 = .ok (.invokevirtual 23, 3) := dk_182 0 23 (dk_at dksJ9_append_9_0 2 rfl rfl)
theorem dJ9_append_9_5 : decode cJ9_append_9 5 = .ok (.areturn, 1) := dk_176 (dk_at dksJ9_append_9_0 5 rfl rfl)
abbrev cJ9_append_10 : ByteArray := prog_41_method_77_code
def yJ9_append_10 : MethodName := ⟨RJ9, "append", "(Ljava/lang/CharSequence;II)Ljava/lang/AbstractStringBuilder;"⟩
def dkwJ9_append_10_0 : List UInt8 := [42, 43, 28, 29, 182, 1, 40, 176]
abbrev dktJ9_append_10_0 : List UInt8 := dkwJ9_append_10_0 ++ []
theorem dksJ9_append_10_0 : cJ9_append_10.data.toList.drop 0 = dktJ9_append_10_0 := by decide +kernel
theorem dJ9_append_10_0 : decode cJ9_append_10 0 = .ok (.aload_n 0, 1) := dk_42 (dk_at dksJ9_append_10_0 0 rfl rfl)
theorem dJ9_append_10_1 : decode cJ9_append_10 1 = .ok (.aload_n 1, 1) := dk_43 (dk_at dksJ9_append_10_0 1 rfl rfl)
theorem dJ9_append_10_2 : decode cJ9_append_10 2 = .ok (.iload_n 2, 1) := dk_28 (dk_at dksJ9_append_10_0 2 rfl rfl)
theorem dJ9_append_10_3 : decode cJ9_append_10 3 = .ok (.iload_n 3, 1) := dk_29 (dk_at dksJ9_append_10_0 3 rfl rfl)
theorem dJ9_append_10_4 : decode cJ9_append_10 4 = .ok (.invokevirtual 296, 3) := dk_182 1 40 (dk_at dksJ9_append_10_0 4 rfl rfl)
theorem dJ9_append_10_7 : decode cJ9_append_10 7 = .ok (.areturn, 1) := dk_176 (dk_at dksJ9_append_10_0 7 rfl rfl)
abbrev cJ9_append_11 : ByteArray := prog_41_method_10_code
def yJ9_append_11 : MethodName := ⟨RJ9, "append", "(Ljava/lang/CharSequence;II)Ljava/lang/StringBuilder;"⟩
def dkwJ9_append_11_0 : List UInt8 := [42, 43, 28, 29, 183, 0, 38, 87, 42, 176]
abbrev dktJ9_append_11_0 : List UInt8 := dkwJ9_append_11_0 ++ []
theorem dksJ9_append_11_0 : cJ9_append_11.data.toList.drop 0 = dktJ9_append_11_0 := by decide +kernel
theorem dJ9_append_11_0 : decode cJ9_append_11 0 = .ok (.aload_n 0, 1) := dk_42 (dk_at dksJ9_append_11_0 0 rfl rfl)
theorem dJ9_append_11_1 : decode cJ9_append_11 1 = .ok (.aload_n 1, 1) := dk_43 (dk_at dksJ9_append_11_0 1 rfl rfl)
theorem dJ9_append_11_2 : decode cJ9_append_11 2 = .ok (.iload_n 2, 1) := dk_28 (dk_at dksJ9_append_11_0 2 rfl rfl)
theorem dJ9_append_11_3 : decode cJ9_append_11 3 = .ok (.iload_n 3, 1) := dk_29 (dk_at dksJ9_append_11_0 3 rfl rfl)
theorem dJ9_append_11_4 : decode cJ9_append_11 4 = .ok (.invokespecial 38, 3) := dk_183 0 38 (dk_at dksJ9_append_11_0 4 rfl rfl)
theorem dJ9_append_11_7 : decode cJ9_append_11 7 = .ok (.pop, 1) := dk_87 (dk_at dksJ9_append_11_0 7 rfl rfl)
theorem dJ9_append_11_8 : decode cJ9_append_11 8 = .ok (.aload_n 0, 1) := dk_42 (dk_at dksJ9_append_11_0 8 rfl rfl)
theorem dJ9_append_11_9 : decode cJ9_append_11 9 = .ok (.areturn, 1) := dk_176 (dk_at dksJ9_append_11_0 9 rfl rfl)
abbrev cJ9_charAt : ByteArray := prog_41_method_88_code
def yJ9_charAt : MethodName := ⟨RJ9, "charAt", "(I)C"⟩
def dkwJ9_charAt_0 : List UInt8 := [42, 27, 183, 1, 73, 172]
abbrev dktJ9_charAt_0 : List UInt8 := dkwJ9_charAt_0 ++ []
theorem dksJ9_charAt_0 : cJ9_charAt.data.toList.drop 0 = dktJ9_charAt_0 := by decide +kernel
theorem dJ9_charAt_0 : decode cJ9_charAt 0 = .ok (.aload_n 0, 1) := dk_42 (dk_at dksJ9_charAt_0 0 rfl rfl)
theorem dJ9_charAt_1 : decode cJ9_charAt 1 = .ok (.iload_n 1, 1) := dk_27 (dk_at dksJ9_charAt_0 1 rfl rfl)
theorem dJ9_charAt_2 : decode cJ9_charAt 2 = .ok (.invokespecial 329, 3) := dk_183 1 73 (dk_at dksJ9_charAt_0 2 rfl rfl)
theorem dJ9_charAt_5 : decode cJ9_charAt 5 = .ok (.ireturn, 1) := dk_172 (dk_at dksJ9_charAt_0 5 rfl rfl)
abbrev cJ9_compareTo : ByteArray := prog_41_method_97_code
def yJ9_compareTo : MethodName := ⟨RJ9, "compareTo", "(Ljava/lang/Object;)I"⟩
def dkwJ9_compareTo_0 : List UInt8 := [42, 43, 192, 0, 24, 182, 1, 90, 172]
abbrev dktJ9_compareTo_0 : List UInt8 := dkwJ9_compareTo_0 ++ []
theorem dksJ9_compareTo_0 : cJ9_compareTo.data.toList.drop 0 = dktJ9_compareTo_0 := by decide +kernel
theorem dJ9_compareTo_0 : decode cJ9_compareTo 0 = .ok (.aload_n 0, 1) := dk_42 (dk_at dksJ9_compareTo_0 0 rfl rfl)
theorem dJ9_compareTo_1 : decode cJ9_compareTo 1 = .ok (.aload_n 1, 1) := dk_43 (dk_at dksJ9_compareTo_0 1 rfl rfl)
theorem dJ9_compareTo_2 : decode cJ9_compareTo 2 = .ok (.checkcast 24, 3) := dk_192 0 24 (dk_at dksJ9_compareTo_0 2 rfl rfl)
theorem dJ9_compareTo_5 : decode cJ9_compareTo 5 = .ok (.invokevirtual 346, 3) := dk_182 1 90 (dk_at dksJ9_compareTo_0 5 rfl rfl)
theorem dJ9_compareTo_8 : decode cJ9_compareTo 8 = .ok (.ireturn, 1) := dk_172 (dk_at dksJ9_compareTo_0 8 rfl rfl)
abbrev cJ9_compareTo_2 : ByteArray := prog_41_method_5_code
def yJ9_compareTo_2 : MethodName := ⟨RJ9, "compareTo", "(Ljava/lang/StringBuilder;)I"⟩
def dkwJ9_compareTo_2_0 : List UInt8 := [42, 43, 183, 0, 13, 172]
abbrev dktJ9_compareTo_2_0 : List UInt8 := dkwJ9_compareTo_2_0 ++ []
theorem dksJ9_compareTo_2_0 : cJ9_compareTo_2.data.toList.drop 0 = dktJ9_compareTo_2_0 := by decide +kernel
theorem dJ9_compareTo_2_0 : decode cJ9_compareTo_2 0 = .ok (.aload_n 0, 1) := dk_42 (dk_at dksJ9_compareTo_2_0 0 rfl rfl)
theorem dJ9_compareTo_2_1 : decode cJ9_compareTo_2 1 = .ok (.aload_n 1, 1) := dk_43 (dk_at dksJ9_compareTo_2_0 1 rfl rfl)
theorem dJ9_compareTo_2_2 : decode cJ9_compareTo_2 2 = .ok (.invokespecial 13, 3) := dk_183 0 13 (dk_at dksJ9_compareTo_2_0 2 rfl rfl)
theorem dJ9_compareTo_2_5 : decode cJ9_compareTo_2 5 = .ok (.ireturn, 1) := dk_172 (dk_at dksJ9_compareTo_2_0 5 rfl rfl)
theorem q160 : (Jvm.Cond.initialized "java/lang/StringBuilder") ∈ lw_all := lw_g (lw_at lw_m1 12 rfl) rfl
theorem q305 : (Jvm.Cond.instantiable "java/lang/StringBuilder" (4 : Nat)) ∈ lw_all := lw_g (lw_at lw_m1 157 rfl) rfl
theorem q307 : (Jvm.Cond.instanceMethod ({ cls := "java/lang/StringBuilder", name := "<init>", desc := "()V" } : Jvm.MethodName)) ∈ lw_all := lw_g (lw_at lw_m1 159 rfl) rfl
theorem q308 : (Jvm.Cond.code ({ cls := "java/lang/StringBuilder", name := "<init>", desc := "()V" } : Jvm.MethodName) prog_41_method_1_code (1 : Nat) (Option.none : Option Jvm.ClassFile.FieldType)) ∈ lw_all := lw_g (lw_at lw_m1 160 rfl) rfl
theorem q309 : (Jvm.Cond.methodLink "java/lang/StringBuilder" (1 : Nat) ({ cls := "java/lang/AbstractStringBuilder", name := "<init>", desc := "(I)V" } : Jvm.MethodName)) ∈ lw_all := lw_g (lw_at lw_m1 161 rfl) rfl
theorem q327 : (Jvm.Cond.lays "java/lang/StringBuilder" "java/lang/AbstractStringBuilder" "value" "[B") ∈ lw_all := lw_g (lw_at lw_m1 179 rfl) rfl
theorem q329 : (Jvm.Cond.lays "java/lang/StringBuilder" "java/lang/AbstractStringBuilder" "coder" "B") ∈ lw_all := lw_g (lw_at lw_m1 181 rfl) rfl
theorem q331 : (Jvm.Cond.lays "java/lang/StringBuilder" "java/lang/AbstractStringBuilder" "maybeLatin1" "Z") ∈ lw_all := lw_g (lw_at lw_m1 183 rfl) rfl
theorem q333 : (Jvm.Cond.lays "java/lang/StringBuilder" "java/lang/AbstractStringBuilder" "count" "I") ∈ lw_all := lw_g (lw_at lw_m1 185 rfl) rfl
theorem q335 : (Jvm.Cond.superclass "java/lang/StringBuilder" "java/lang/AbstractStringBuilder") ∈ lw_all := lw_g (lw_at lw_m1 187 rfl) rfl
theorem q339 : (Jvm.Cond.instanceMethod ({ cls := "java/lang/StringBuilder", name := "append", desc := "(Ljava/lang/String;)Ljava/lang/StringBuilder;" } : Jvm.MethodName)) ∈ lw_all := lw_g (lw_at lw_m1 191 rfl) rfl
theorem q340 : (Jvm.Cond.selects "java/lang/StringBuilder" ({ cls := "java/lang/StringBuilder", name := "append", desc := "(Ljava/lang/String;)Ljava/lang/StringBuilder;" } : Jvm.MethodName) ({ cls := "java/lang/StringBuilder", name := "append", desc := "(Ljava/lang/String;)Ljava/lang/StringBuilder;" } : Jvm.MethodName)) ∈ lw_all := lw_g (lw_at lw_m1 192 rfl) rfl
theorem q341 : (Jvm.Cond.code ({ cls := "java/lang/StringBuilder", name := "append", desc := "(Ljava/lang/String;)Ljava/lang/StringBuilder;" } : Jvm.MethodName) prog_41_method_7_code (2 : Nat) (Option.some (Jvm.ClassFile.FieldType.object "java/lang/StringBuilder"))) ∈ lw_all := lw_g (lw_at lw_m1 193 rfl) rfl
theorem q342 : (Jvm.Cond.methodLink "java/lang/StringBuilder" (29 : Nat) ({ cls := "java/lang/AbstractStringBuilder", name := "append", desc := "(Ljava/lang/String;)Ljava/lang/AbstractStringBuilder;" } : Jvm.MethodName)) ∈ lw_all := lw_g (lw_at lw_m1 194 rfl) rfl
theorem q387 : (Jvm.Cond.selects "java/lang/StringBuilder" ({ cls := "java/lang/AbstractStringBuilder", name := "isLatin1", desc := "()Z" } : Jvm.MethodName) ({ cls := "java/lang/AbstractStringBuilder", name := "isLatin1", desc := "()Z" } : Jvm.MethodName)) ∈ lw_all := lw_g (lw_at lw_m1 239 rfl) rfl
theorem q459 : (Jvm.Cond.instanceMethod ({ cls := "java/lang/StringBuilder", name := "append", desc := "(I)Ljava/lang/StringBuilder;" } : Jvm.MethodName)) ∈ lw_all := lw_g (lw_at lw_m2 71 rfl) rfl
theorem q460 : (Jvm.Cond.selects "java/lang/StringBuilder" ({ cls := "java/lang/StringBuilder", name := "append", desc := "(I)Ljava/lang/StringBuilder;" } : Jvm.MethodName) ({ cls := "java/lang/StringBuilder", name := "append", desc := "(I)Ljava/lang/StringBuilder;" } : Jvm.MethodName)) ∈ lw_all := lw_g (lw_at lw_m2 72 rfl) rfl
theorem q461 : (Jvm.Cond.code ({ cls := "java/lang/StringBuilder", name := "append", desc := "(I)Ljava/lang/StringBuilder;" } : Jvm.MethodName) prog_41_method_15_code (2 : Nat) (Option.some (Jvm.ClassFile.FieldType.object "java/lang/StringBuilder"))) ∈ lw_all := lw_g (lw_at lw_m2 73 rfl) rfl
theorem q462 : (Jvm.Cond.methodLink "java/lang/StringBuilder" (53 : Nat) ({ cls := "java/lang/AbstractStringBuilder", name := "append", desc := "(I)Ljava/lang/AbstractStringBuilder;" } : Jvm.MethodName)) ∈ lw_all := lw_g (lw_at lw_m2 74 rfl) rfl
theorem q484 : (Jvm.Cond.instanceMethod ({ cls := "java/lang/StringBuilder", name := "toString", desc := "()Ljava/lang/String;" } : Jvm.MethodName)) ∈ lw_all := lw_g (lw_at lw_m2 96 rfl) rfl
theorem q485 : (Jvm.Cond.selects "java/lang/StringBuilder" ({ cls := "java/lang/StringBuilder", name := "toString", desc := "()Ljava/lang/String;" } : Jvm.MethodName) ({ cls := "java/lang/StringBuilder", name := "toString", desc := "()Ljava/lang/String;" } : Jvm.MethodName)) ∈ lw_all := lw_g (lw_at lw_m2 97 rfl) rfl
theorem q486 : (Jvm.Cond.code ({ cls := "java/lang/StringBuilder", name := "toString", desc := "()Ljava/lang/String;" } : Jvm.MethodName) prog_41_method_42_code (1 : Nat) (Option.some (Jvm.ClassFile.FieldType.object "java/lang/String"))) ∈ lw_all := lw_g (lw_at lw_m2 98 rfl) rfl
theorem q487 : (Jvm.Cond.classLink "java/lang/StringBuilder" (18 : Nat) "java/lang/String") ∈ lw_all := lw_g (lw_at lw_m2 99 rfl) rfl
theorem q489 : (Jvm.Cond.methodLink "java/lang/StringBuilder" (137 : Nat) ({ cls := "java/lang/String", name := "<init>", desc := "(Ljava/lang/StringBuilder;)V" } : Jvm.MethodName)) ∈ lw_all := lw_g (lw_at lw_m2 101 rfl) rfl
theorem q499 : (Jvm.Cond.selects "java/lang/StringBuilder" ({ cls := "java/lang/AbstractStringBuilder", name := "getValue", desc := "()[B" } : Jvm.MethodName) ({ cls := "java/lang/AbstractStringBuilder", name := "getValue", desc := "()[B" } : Jvm.MethodName)) ∈ lw_all := lw_g (lw_at lw_m2 111 rfl) rfl
theorem q504 : (Jvm.Cond.selects "java/lang/StringBuilder" ({ cls := "java/lang/AbstractStringBuilder", name := "length", desc := "()I" } : Jvm.MethodName) ({ cls := "java/lang/StringBuilder", name := "length", desc := "()I" } : Jvm.MethodName)) ∈ lw_all := lw_g (lw_at lw_m2 116 rfl) rfl
theorem q505 : (Jvm.Cond.instanceMethod ({ cls := "java/lang/StringBuilder", name := "length", desc := "()I" } : Jvm.MethodName)) ∈ lw_all := lw_g (lw_at lw_m2 117 rfl) rfl
theorem q506 : (Jvm.Cond.code ({ cls := "java/lang/StringBuilder", name := "length", desc := "()I" } : Jvm.MethodName) prog_41_method_93_code (1 : Nat) (Option.some Jvm.ClassFile.FieldType.int)) ∈ lw_all := lw_g (lw_at lw_m2 118 rfl) rfl
theorem q507 : (Jvm.Cond.methodLink "java/lang/StringBuilder" (343 : Nat) ({ cls := "java/lang/AbstractStringBuilder", name := "length", desc := "()I" } : Jvm.MethodName)) ∈ lw_all := lw_g (lw_at lw_m2 119 rfl) rfl
theorem q683 : (Jvm.Cond.instanceMethod ({ cls := "java/lang/StringBuilder", name := "append", desc := "(F)Ljava/lang/StringBuilder;" } : Jvm.MethodName)) ∈ lw_all := lw_g (lw_at lw_m3 55 rfl) rfl
theorem q684 : (Jvm.Cond.selects "java/lang/StringBuilder" ({ cls := "java/lang/StringBuilder", name := "append", desc := "(F)Ljava/lang/StringBuilder;" } : Jvm.MethodName) ({ cls := "java/lang/StringBuilder", name := "append", desc := "(F)Ljava/lang/StringBuilder;" } : Jvm.MethodName)) ∈ lw_all := lw_g (lw_at lw_m3 56 rfl) rfl
theorem q685 : (Jvm.Cond.code ({ cls := "java/lang/StringBuilder", name := "append", desc := "(F)Ljava/lang/StringBuilder;" } : Jvm.MethodName) prog_41_method_17_code (2 : Nat) (Option.some (Jvm.ClassFile.FieldType.object "java/lang/StringBuilder"))) ∈ lw_all := lw_g (lw_at lw_m3 57 rfl) rfl
theorem q686 : (Jvm.Cond.methodLink "java/lang/StringBuilder" (59 : Nat) ({ cls := "java/lang/AbstractStringBuilder", name := "append", desc := "(F)Ljava/lang/AbstractStringBuilder;" } : Jvm.MethodName)) ∈ lw_all := lw_g (lw_at lw_m3 58 rfl) rfl
theorem q804 : (Jvm.Cond.instanceMethod ({ cls := "java/lang/StringBuilder", name := "append", desc := "([C)Ljava/lang/StringBuilder;" } : Jvm.MethodName)) ∈ lw_all := lw_g (lw_at lw_m3 176 rfl) rfl
theorem q805 : (Jvm.Cond.selects "java/lang/StringBuilder" ({ cls := "java/lang/StringBuilder", name := "append", desc := "([C)Ljava/lang/StringBuilder;" } : Jvm.MethodName) ({ cls := "java/lang/StringBuilder", name := "append", desc := "([C)Ljava/lang/StringBuilder;" } : Jvm.MethodName)) ∈ lw_all := lw_g (lw_at lw_m3 177 rfl) rfl
theorem q806 : (Jvm.Cond.code ({ cls := "java/lang/StringBuilder", name := "append", desc := "([C)Ljava/lang/StringBuilder;" } : Jvm.MethodName) prog_41_method_11_code (2 : Nat) (Option.some (Jvm.ClassFile.FieldType.object "java/lang/StringBuilder"))) ∈ lw_all := lw_g (lw_at lw_m3 178 rfl) rfl
theorem q807 : (Jvm.Cond.methodLink "java/lang/StringBuilder" (41 : Nat) ({ cls := "java/lang/AbstractStringBuilder", name := "append", desc := "([C)Ljava/lang/AbstractStringBuilder;" } : Jvm.MethodName)) ∈ lw_all := lw_g (lw_at lw_m3 179 rfl) rfl
theorem q834 : (Jvm.Cond.castable "java/lang/StringBuilder" "java/lang/Appendable") ∈ lw_tbl := lw_at lw_m3 206 rfl
theorem q835 : (Jvm.Cond.selects "java/lang/StringBuilder" ({ cls := "java/lang/Appendable", name := "append", desc := "(C)Ljava/lang/Appendable;" } : Jvm.MethodName) ({ cls := "java/lang/StringBuilder", name := "append", desc := "(C)Ljava/lang/Appendable;" } : Jvm.MethodName)) ∈ lw_all := lw_g (lw_at lw_m3 207 rfl) rfl
theorem q836 : (Jvm.Cond.unhidden "java/lang/StringBuilder" "append" "(C)Ljava/lang/Appendable;") ∈ lw_tbl := lw_at lw_m3 208 rfl
theorem q837 : (Jvm.Cond.instanceMethod ({ cls := "java/lang/StringBuilder", name := "append", desc := "(C)Ljava/lang/Appendable;" } : Jvm.MethodName)) ∈ lw_all := lw_g (lw_at lw_m3 209 rfl) rfl
theorem q838 : (Jvm.Cond.publicMethod ({ cls := "java/lang/StringBuilder", name := "append", desc := "(C)Ljava/lang/Appendable;" } : Jvm.MethodName)) ∈ lw_tbl := lw_at lw_m3 210 rfl
theorem q839 : (Jvm.Cond.code ({ cls := "java/lang/StringBuilder", name := "append", desc := "(C)Ljava/lang/Appendable;" } : Jvm.MethodName) prog_41_method_94_code (2 : Nat) (Option.some (Jvm.ClassFile.FieldType.object "java/lang/Appendable"))) ∈ lw_all := lw_g (lw_at lw_m3 211 rfl) rfl
theorem q840 : (Jvm.Cond.methodLink "java/lang/StringBuilder" (284 : Nat) ({ cls := "java/lang/StringBuilder", name := "append", desc := "(C)Ljava/lang/StringBuilder;" } : Jvm.MethodName)) ∈ lw_all := lw_g (lw_at lw_m3 212 rfl) rfl
theorem q841 : (Jvm.Cond.instanceMethod ({ cls := "java/lang/StringBuilder", name := "append", desc := "(C)Ljava/lang/StringBuilder;" } : Jvm.MethodName)) ∈ lw_all := lw_g (lw_at lw_m3 213 rfl) rfl
theorem q842 : (Jvm.Cond.selects "java/lang/StringBuilder" ({ cls := "java/lang/StringBuilder", name := "append", desc := "(C)Ljava/lang/StringBuilder;" } : Jvm.MethodName) ({ cls := "java/lang/StringBuilder", name := "append", desc := "(C)Ljava/lang/StringBuilder;" } : Jvm.MethodName)) ∈ lw_all := lw_g (lw_at lw_m3 214 rfl) rfl
theorem q843 : (Jvm.Cond.code ({ cls := "java/lang/StringBuilder", name := "append", desc := "(C)Ljava/lang/StringBuilder;" } : Jvm.MethodName) prog_41_method_14_code (2 : Nat) (Option.some (Jvm.ClassFile.FieldType.object "java/lang/StringBuilder"))) ∈ lw_all := lw_g (lw_at lw_m3 215 rfl) rfl
theorem q844 : (Jvm.Cond.methodLink "java/lang/StringBuilder" (50 : Nat) ({ cls := "java/lang/AbstractStringBuilder", name := "append", desc := "(C)Ljava/lang/AbstractStringBuilder;" } : Jvm.MethodName)) ∈ lw_all := lw_g (lw_at lw_m3 216 rfl) rfl
theorem q864 : (Jvm.Cond.selects "java/lang/StringBuilder" ({ cls := "java/lang/Appendable", name := "append", desc := "(Ljava/lang/CharSequence;)Ljava/lang/Appendable;" } : Jvm.MethodName) ({ cls := "java/lang/StringBuilder", name := "append", desc := "(Ljava/lang/CharSequence;)Ljava/lang/Appendable;" } : Jvm.MethodName)) ∈ lw_all := lw_g (lw_at lw_m3 236 rfl) rfl
theorem q865 : (Jvm.Cond.unhidden "java/lang/StringBuilder" "append" "(Ljava/lang/CharSequence;)Ljava/lang/Appendable;") ∈ lw_tbl := lw_at lw_m3 237 rfl
theorem q866 : (Jvm.Cond.instanceMethod ({ cls := "java/lang/StringBuilder", name := "append", desc := "(Ljava/lang/CharSequence;)Ljava/lang/Appendable;" } : Jvm.MethodName)) ∈ lw_all := lw_g (lw_at lw_m3 238 rfl) rfl
theorem q867 : (Jvm.Cond.publicMethod ({ cls := "java/lang/StringBuilder", name := "append", desc := "(Ljava/lang/CharSequence;)Ljava/lang/Appendable;" } : Jvm.MethodName)) ∈ lw_tbl := lw_at lw_m3 239 rfl
theorem q868 : (Jvm.Cond.code ({ cls := "java/lang/StringBuilder", name := "append", desc := "(Ljava/lang/CharSequence;)Ljava/lang/Appendable;" } : Jvm.MethodName) prog_41_method_96_code (2 : Nat) (Option.some (Jvm.ClassFile.FieldType.object "java/lang/Appendable"))) ∈ lw_all := lw_g (lw_at lw_m4 0 rfl) rfl
theorem q869 : (Jvm.Cond.methodLink "java/lang/StringBuilder" (299 : Nat) ({ cls := "java/lang/StringBuilder", name := "append", desc := "(Ljava/lang/CharSequence;)Ljava/lang/StringBuilder;" } : Jvm.MethodName)) ∈ lw_all := lw_g (lw_at lw_m4 1 rfl) rfl
theorem q870 : (Jvm.Cond.instanceMethod ({ cls := "java/lang/StringBuilder", name := "append", desc := "(Ljava/lang/CharSequence;)Ljava/lang/StringBuilder;" } : Jvm.MethodName)) ∈ lw_all := lw_g (lw_at lw_m4 2 rfl) rfl
theorem q871 : (Jvm.Cond.selects "java/lang/StringBuilder" ({ cls := "java/lang/StringBuilder", name := "append", desc := "(Ljava/lang/CharSequence;)Ljava/lang/StringBuilder;" } : Jvm.MethodName) ({ cls := "java/lang/StringBuilder", name := "append", desc := "(Ljava/lang/CharSequence;)Ljava/lang/StringBuilder;" } : Jvm.MethodName)) ∈ lw_all := lw_g (lw_at lw_m4 3 rfl) rfl
theorem q872 : (Jvm.Cond.code ({ cls := "java/lang/StringBuilder", name := "append", desc := "(Ljava/lang/CharSequence;)Ljava/lang/StringBuilder;" } : Jvm.MethodName) prog_41_method_9_code (2 : Nat) (Option.some (Jvm.ClassFile.FieldType.object "java/lang/StringBuilder"))) ∈ lw_all := lw_g (lw_at lw_m4 4 rfl) rfl
theorem q873 : (Jvm.Cond.methodLink "java/lang/StringBuilder" (35 : Nat) ({ cls := "java/lang/AbstractStringBuilder", name := "append", desc := "(Ljava/lang/CharSequence;)Ljava/lang/AbstractStringBuilder;" } : Jvm.MethodName)) ∈ lw_all := lw_g (lw_at lw_m4 5 rfl) rfl
theorem q878 : (Jvm.Cond.instanceMethod ({ cls := "java/lang/StringBuilder", name := "append", desc := "(Ljava/lang/String;)Ljava/lang/AbstractStringBuilder;" } : Jvm.MethodName)) ∈ lw_all := lw_g (lw_at lw_m4 10 rfl) rfl
theorem q879 : (Jvm.Cond.code ({ cls := "java/lang/StringBuilder", name := "append", desc := "(Ljava/lang/String;)Ljava/lang/AbstractStringBuilder;" } : Jvm.MethodName) prog_41_method_80_code (2 : Nat) (Option.some (Jvm.ClassFile.FieldType.object "java/lang/AbstractStringBuilder"))) ∈ lw_all := lw_g (lw_at lw_m4 11 rfl) rfl
theorem q880 : (Jvm.Cond.methodLink "java/lang/StringBuilder" (23 : Nat) ({ cls := "java/lang/StringBuilder", name := "append", desc := "(Ljava/lang/String;)Ljava/lang/StringBuilder;" } : Jvm.MethodName)) ∈ lw_all := lw_g (lw_at lw_m4 12 rfl) rfl
theorem q885 : (Jvm.Cond.selects "java/lang/StringBuilder" ({ cls := "java/lang/AbstractStringBuilder", name := "append", desc := "(Ljava/lang/AbstractStringBuilder;)Ljava/lang/AbstractStringBuilder;" } : Jvm.MethodName) ({ cls := "java/lang/AbstractStringBuilder", name := "append", desc := "(Ljava/lang/AbstractStringBuilder;)Ljava/lang/AbstractStringBuilder;" } : Jvm.MethodName)) ∈ lw_all := lw_g (lw_at lw_m4 17 rfl) rfl
theorem q895 : (Jvm.Cond.selects "java/lang/StringBuilder" ({ cls := "java/lang/AbstractStringBuilder", name := "getCoder", desc := "()B" } : Jvm.MethodName) ({ cls := "java/lang/AbstractStringBuilder", name := "getCoder", desc := "()B" } : Jvm.MethodName)) ∈ lw_all := lw_g (lw_at lw_m4 27 rfl) rfl
theorem q900 : (Jvm.Cond.selects "java/lang/StringBuilder" ({ cls := "java/lang/AbstractStringBuilder", name := "getBytes", desc := "([BIB)V" } : Jvm.MethodName) ({ cls := "java/lang/AbstractStringBuilder", name := "getBytes", desc := "([BIB)V" } : Jvm.MethodName)) ∈ lw_all := lw_g (lw_at lw_m4 32 rfl) rfl
theorem q911 : (Jvm.Cond.castable "java/lang/StringBuilder" "java/lang/CharSequence") ∈ lw_tbl := lw_at lw_m4 43 rfl
theorem q912 : (Jvm.Cond.selects "java/lang/StringBuilder" ({ cls := "java/lang/CharSequence", name := "length", desc := "()I" } : Jvm.MethodName) ({ cls := "java/lang/StringBuilder", name := "length", desc := "()I" } : Jvm.MethodName)) ∈ lw_all := lw_g (lw_at lw_m4 44 rfl) rfl
theorem q913 : (Jvm.Cond.unhidden "java/lang/StringBuilder" "length" "()I") ∈ lw_tbl := lw_at lw_m4 45 rfl
theorem q914 : (Jvm.Cond.publicMethod ({ cls := "java/lang/StringBuilder", name := "length", desc := "()I" } : Jvm.MethodName)) ∈ lw_tbl := lw_at lw_m4 46 rfl
theorem q918 : (Jvm.Cond.selects "java/lang/StringBuilder" ({ cls := "java/lang/AbstractStringBuilder", name := "append", desc := "(Ljava/lang/CharSequence;II)Ljava/lang/AbstractStringBuilder;" } : Jvm.MethodName) ({ cls := "java/lang/StringBuilder", name := "append", desc := "(Ljava/lang/CharSequence;II)Ljava/lang/AbstractStringBuilder;" } : Jvm.MethodName)) ∈ lw_all := lw_g (lw_at lw_m4 50 rfl) rfl
theorem q919 : (Jvm.Cond.instanceMethod ({ cls := "java/lang/StringBuilder", name := "append", desc := "(Ljava/lang/CharSequence;II)Ljava/lang/AbstractStringBuilder;" } : Jvm.MethodName)) ∈ lw_all := lw_g (lw_at lw_m4 51 rfl) rfl
theorem q920 : (Jvm.Cond.code ({ cls := "java/lang/StringBuilder", name := "append", desc := "(Ljava/lang/CharSequence;II)Ljava/lang/AbstractStringBuilder;" } : Jvm.MethodName) prog_41_method_77_code (4 : Nat) (Option.some (Jvm.ClassFile.FieldType.object "java/lang/AbstractStringBuilder"))) ∈ lw_all := lw_g (lw_at lw_m4 52 rfl) rfl
theorem q921 : (Jvm.Cond.methodLink "java/lang/StringBuilder" (296 : Nat) ({ cls := "java/lang/StringBuilder", name := "append", desc := "(Ljava/lang/CharSequence;II)Ljava/lang/StringBuilder;" } : Jvm.MethodName)) ∈ lw_all := lw_g (lw_at lw_m4 53 rfl) rfl
theorem q922 : (Jvm.Cond.instanceMethod ({ cls := "java/lang/StringBuilder", name := "append", desc := "(Ljava/lang/CharSequence;II)Ljava/lang/StringBuilder;" } : Jvm.MethodName)) ∈ lw_all := lw_g (lw_at lw_m4 54 rfl) rfl
theorem q923 : (Jvm.Cond.selects "java/lang/StringBuilder" ({ cls := "java/lang/StringBuilder", name := "append", desc := "(Ljava/lang/CharSequence;II)Ljava/lang/StringBuilder;" } : Jvm.MethodName) ({ cls := "java/lang/StringBuilder", name := "append", desc := "(Ljava/lang/CharSequence;II)Ljava/lang/StringBuilder;" } : Jvm.MethodName)) ∈ lw_all := lw_g (lw_at lw_m4 55 rfl) rfl
theorem q924 : (Jvm.Cond.code ({ cls := "java/lang/StringBuilder", name := "append", desc := "(Ljava/lang/CharSequence;II)Ljava/lang/StringBuilder;" } : Jvm.MethodName) prog_41_method_10_code (4 : Nat) (Option.some (Jvm.ClassFile.FieldType.object "java/lang/StringBuilder"))) ∈ lw_all := lw_g (lw_at lw_m4 56 rfl) rfl
theorem q925 : (Jvm.Cond.methodLink "java/lang/StringBuilder" (38 : Nat) ({ cls := "java/lang/AbstractStringBuilder", name := "append", desc := "(Ljava/lang/CharSequence;II)Ljava/lang/AbstractStringBuilder;" } : Jvm.MethodName)) ∈ lw_all := lw_g (lw_at lw_m4 57 rfl) rfl
theorem q965 : (Jvm.Cond.selects "java/lang/StringBuilder" ({ cls := "java/lang/CharSequence", name := "charAt", desc := "(I)C" } : Jvm.MethodName) ({ cls := "java/lang/StringBuilder", name := "charAt", desc := "(I)C" } : Jvm.MethodName)) ∈ lw_all := lw_g (lw_at lw_m4 97 rfl) rfl
theorem q966 : (Jvm.Cond.unhidden "java/lang/StringBuilder" "charAt" "(I)C") ∈ lw_tbl := lw_at lw_m4 98 rfl
theorem q967 : (Jvm.Cond.instanceMethod ({ cls := "java/lang/StringBuilder", name := "charAt", desc := "(I)C" } : Jvm.MethodName)) ∈ lw_all := lw_g (lw_at lw_m4 99 rfl) rfl
theorem q968 : (Jvm.Cond.publicMethod ({ cls := "java/lang/StringBuilder", name := "charAt", desc := "(I)C" } : Jvm.MethodName)) ∈ lw_tbl := lw_at lw_m4 100 rfl
theorem q969 : (Jvm.Cond.code ({ cls := "java/lang/StringBuilder", name := "charAt", desc := "(I)C" } : Jvm.MethodName) prog_41_method_88_code (2 : Nat) (Option.some Jvm.ClassFile.FieldType.char)) ∈ lw_all := lw_g (lw_at lw_m4 101 rfl) rfl
theorem q970 : (Jvm.Cond.methodLink "java/lang/StringBuilder" (329 : Nat) ({ cls := "java/lang/AbstractStringBuilder", name := "charAt", desc := "(I)C" } : Jvm.MethodName)) ∈ lw_all := lw_g (lw_at lw_m4 102 rfl) rfl
theorem q1044 : (Jvm.Cond.selects "java/lang/StringBuilder" ({ cls := "java/lang/Object", name := "getClass", desc := "()Ljava/lang/Class;" } : Jvm.MethodName) ({ cls := "java/lang/Object", name := "getClass", desc := "()Ljava/lang/Class;" } : Jvm.MethodName)) ∈ lw_all := lw_g (lw_at lw_m4 176 rfl) rfl
theorem q1103 : (Jvm.Cond.selects "java/lang/StringBuilder" ({ cls := "java/lang/Object", name := "toString", desc := "()Ljava/lang/String;" } : Jvm.MethodName) ({ cls := "java/lang/StringBuilder", name := "toString", desc := "()Ljava/lang/String;" } : Jvm.MethodName)) ∈ lw_all := lw_g (lw_at lw_m4 235 rfl) rfl
theorem q1389 : (Jvm.Cond.selects "java/lang/StringBuilder" ({ cls := "java/lang/Object", name := "hashCode", desc := "()I" } : Jvm.MethodName) ({ cls := "java/lang/Object", name := "hashCode", desc := "()I" } : Jvm.MethodName)) ∈ lw_all := lw_g (lw_at lw_m6 41 rfl) rfl
theorem q1672 : (Jvm.Cond.castable "java/lang/StringBuilder" "java/lang/Comparable") ∈ lw_tbl := lw_at lw_m7 84 rfl
theorem q1673 : (Jvm.Cond.selects "java/lang/StringBuilder" ({ cls := "java/lang/Comparable", name := "compareTo", desc := "(Ljava/lang/Object;)I" } : Jvm.MethodName) ({ cls := "java/lang/StringBuilder", name := "compareTo", desc := "(Ljava/lang/Object;)I" } : Jvm.MethodName)) ∈ lw_all := lw_g (lw_at lw_m7 85 rfl) rfl
theorem q1674 : (Jvm.Cond.unhidden "java/lang/StringBuilder" "compareTo" "(Ljava/lang/Object;)I") ∈ lw_tbl := lw_at lw_m7 86 rfl
theorem q1675 : (Jvm.Cond.instanceMethod ({ cls := "java/lang/StringBuilder", name := "compareTo", desc := "(Ljava/lang/Object;)I" } : Jvm.MethodName)) ∈ lw_all := lw_g (lw_at lw_m7 87 rfl) rfl
theorem q1676 : (Jvm.Cond.publicMethod ({ cls := "java/lang/StringBuilder", name := "compareTo", desc := "(Ljava/lang/Object;)I" } : Jvm.MethodName)) ∈ lw_tbl := lw_at lw_m7 88 rfl
theorem q1677 : (Jvm.Cond.code ({ cls := "java/lang/StringBuilder", name := "compareTo", desc := "(Ljava/lang/Object;)I" } : Jvm.MethodName) prog_41_method_97_code (2 : Nat) (Option.some Jvm.ClassFile.FieldType.int)) ∈ lw_all := lw_g (lw_at lw_m7 89 rfl) rfl
theorem q1678 : (Jvm.Cond.classLink "java/lang/StringBuilder" (24 : Nat) "java/lang/StringBuilder") ∈ lw_all := lw_g (lw_at lw_m7 90 rfl) rfl
theorem q1679 : (Jvm.Cond.methodLink "java/lang/StringBuilder" (346 : Nat) ({ cls := "java/lang/StringBuilder", name := "compareTo", desc := "(Ljava/lang/StringBuilder;)I" } : Jvm.MethodName)) ∈ lw_all := lw_g (lw_at lw_m7 91 rfl) rfl
theorem q1680 : (Jvm.Cond.instanceMethod ({ cls := "java/lang/StringBuilder", name := "compareTo", desc := "(Ljava/lang/StringBuilder;)I" } : Jvm.MethodName)) ∈ lw_all := lw_g (lw_at lw_m7 92 rfl) rfl
theorem q1681 : (Jvm.Cond.selects "java/lang/StringBuilder" ({ cls := "java/lang/StringBuilder", name := "compareTo", desc := "(Ljava/lang/StringBuilder;)I" } : Jvm.MethodName) ({ cls := "java/lang/StringBuilder", name := "compareTo", desc := "(Ljava/lang/StringBuilder;)I" } : Jvm.MethodName)) ∈ lw_all := lw_g (lw_at lw_m7 93 rfl) rfl
theorem q1682 : (Jvm.Cond.code ({ cls := "java/lang/StringBuilder", name := "compareTo", desc := "(Ljava/lang/StringBuilder;)I" } : Jvm.MethodName) prog_41_method_5_code (2 : Nat) (Option.some Jvm.ClassFile.FieldType.int)) ∈ lw_all := lw_g (lw_at lw_m7 94 rfl) rfl
theorem q1683 : (Jvm.Cond.methodLink "java/lang/StringBuilder" (13 : Nat) ({ cls := "java/lang/AbstractStringBuilder", name := "compareTo", desc := "(Ljava/lang/AbstractStringBuilder;)I" } : Jvm.MethodName)) ∈ lw_all := lw_g (lw_at lw_m7 95 rfl) rfl
theorem q1766 : (Jvm.Cond.selects "java/lang/StringBuilder" ({ cls := "java/lang/Object", name := "equals", desc := "(Ljava/lang/Object;)Z" } : Jvm.MethodName) ({ cls := "java/lang/Object", name := "equals", desc := "(Ljava/lang/Object;)Z" } : Jvm.MethodName)) ∈ lw_all := lw_g (lw_at lw_m7 178 rfl) rfl
theorem q4054 : (Jvm.Cond.selects "java/lang/StringBuilder" ({ cls := "java/lang/AbstractStringBuilder", name := "append", desc := "(Ljava/lang/String;)Ljava/lang/AbstractStringBuilder;" } : Jvm.MethodName) ({ cls := "java/lang/StringBuilder", name := "append", desc := "(Ljava/lang/String;)Ljava/lang/AbstractStringBuilder;" } : Jvm.MethodName)) ∈ lw_all := lw_g (lw_at lw_m17 66 rfl) rfl
theorem q4078 : (Jvm.Cond.castable "java/lang/StringBuilder" "java/lang/AbstractStringBuilder") ∈ lw_tbl := lw_at lw_m17 90 rfl
theorem q4095 : (Jvm.Cond.castable "java/lang/StringBuilder" "java/lang/Object") ∈ lw_tbl := lw_at lw_m17 107 rfl
theorem in_J9 : ∀ w ∈ wsJ90, w ∈ lw_all := lw_in wsJ90 [327, 329, 331, 333] (by decide +kernel) (by decide +kernel)

