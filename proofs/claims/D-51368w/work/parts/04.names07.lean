/-! LoopSignals -/
set_option maxRecDepth 100000
def RX1 : String := "LoopSignals"
def TX1 : u_T := fun k => match k with
  | 0 => ("LoopSignals", "now", "LLoopSignals$Junction;", false)
  | 1 => ("LoopSignals", "past", "Ljava/util/ArrayDeque;", true)
  | 2 => ("LoopSignals", "slots", "[LLoopSignals$Junction;", true)
  | 3 => ("LoopSignals", "refusals", "I", false)
  | 4 => ("LoopSignals", "buffer", "[B", true)
  | 5 => ("LoopSignals", "length", "I", false)
  | 6 => ("LoopSignals", "errorPosition", "I", false)
  | 7 => ("LoopSignals", "done", "I", false)
  | _ => ("LoopSignals", "report", "Ljava/lang/String;", false)
def tyX1 : Nat → FieldType := fun k => match k with
  | 0 => .object "LoopSignals$Junction"
  | 1 => .object "java/util/ArrayDeque"
  | 2 => .array (.object "LoopSignals$Junction")
  | 3 => .int
  | 4 => .array .byte
  | 5 => .int
  | 6 => .int
  | 7 => .int
  | _ => .object "java/lang/String"
abbrev wsX10 : List Cond := u_ws RX1 TX1 9
theorem nmX1 : ∀ a, a < 9 → ∀ b, b < 9 → a ≠ b → (TX1 a).2.1 ≠ (TX1 b).2.1 := by decide +kernel
theorem tyX1_ok : ∀ k, k < 9 → parseFieldDescriptor (TX1 k).2.2.1 = some (tyX1 k) := by decide +kernel
abbrev cX1_init : ByteArray := prog_1_method_3_code
def yX1_init : MethodName := ⟨RX1, "<init>", "()V"⟩
def dkwX1_init_11 : List UInt8 := [16, 8, 5, 188, 10, 89, 3, 7, 79, 89, 4, 3, 79, 182, 0, 73, 177]
abbrev dktX1_init_11 : List UInt8 := dkwX1_init_11 ++ []
def dkwX1_init_10 : List UInt8 := [182, 0, 73, 42, 7, 16, 15, 5, 188, 10, 89, 3, 5, 79, 89, 4, 6, 79, 182, 0, 73, 42, 6]
abbrev dktX1_init_10 : List UInt8 := dkwX1_init_10 ++ dktX1_init_11
def dkwX1_init_9 : List UInt8 := [16, 13, 6, 79, 182, 0, 69, 42, 8, 16, 20, 5, 188, 10, 89, 3, 3, 79, 89, 4, 4, 79]
abbrev dktX1_init_9 : List UInt8 := dkwX1_init_9 ++ dktX1_init_10
def dkwX1_init_8 : List UInt8 := [7, 79, 89, 16, 9, 4, 79, 89, 16, 10, 7, 79, 89, 16, 11, 5, 79, 89, 16, 12, 7, 79, 89]
abbrev dktX1_init_8 : List UInt8 := dkwX1_init_8 ++ dktX1_init_9
def dkwX1_init_7 : List UInt8 := [6, 6, 79, 89, 7, 4, 79, 89, 8, 5, 79, 89, 16, 6, 4, 79, 89, 16, 7, 6, 79, 89, 16, 8]
abbrev dktX1_init_7 : List UInt8 := dkwX1_init_7 ++ dktX1_init_8
def dkwX1_init_6 : List UInt8 := [132, 3, 1, 167, 255, 220, 42, 16, 14, 188, 10, 89, 3, 3, 79, 89, 4, 5, 79, 89, 5, 3, 79, 89]
abbrev dktX1_init_6 : List UInt8 := dkwX1_init_6 ++ dktX1_init_7
def dkwX1_init_5 : List UInt8 := [42, 180, 0, 37, 187, 0, 57, 89, 25, 4, 187, 0, 59, 89, 183, 0, 61, 183, 0, 62, 182, 0, 65]
abbrev dktX1_init_5 : List UInt8 := dkwX1_init_5 ++ dktX1_init_6
def dkwX1_init_4 : List UInt8 := [18, 53, 83, 89, 7, 18, 55, 83, 76, 43, 190, 61, 3, 62, 29, 28, 162, 0, 37, 43, 29, 50, 58, 4]
abbrev dktX1_init_4 : List UInt8 := dkwX1_init_4 ++ dktX1_init_5
def dkwX1_init_3 : List UInt8 := [5, 79, 8, 189, 0, 45, 89, 3, 18, 47, 83, 89, 4, 18, 49, 83, 89, 5, 18, 51, 83, 89, 6]
abbrev dktX1_init_3 : List UInt8 := dkwX1_init_3 ++ dktX1_init_4
def dkwX1_init_2 : List UInt8 := [183, 0, 36, 181, 0, 37, 42, 180, 0, 37, 180, 0, 41, 3, 6, 79, 42, 180, 0, 37, 180, 0, 41, 4]
abbrev dktX1_init_2 : List UInt8 := dkwX1_init_2 ++ dktX1_init_3
def dkwX1_init_1 : List UInt8 := [17, 2, 88, 188, 8, 181, 0, 22, 42, 2, 181, 0, 26, 42, 18, 30, 181, 0, 32, 42, 187, 0, 16, 89]
abbrev dktX1_init_1 : List UInt8 := dkwX1_init_1 ++ dktX1_init_2
def dkwX1_init_0 : List UInt8 := [42, 183, 0, 1, 42, 187, 0, 7, 89, 183, 0, 9, 181, 0, 10, 42, 5, 189, 0, 16, 181, 0, 18, 42]
abbrev dktX1_init_0 : List UInt8 := dkwX1_init_0 ++ dktX1_init_1
theorem dksX1_init_0 : cX1_init.data.toList.drop 0 = dktX1_init_0 := by decide +kernel
theorem dksX1_init_1 : cX1_init.data.toList.drop 24 = dktX1_init_1 := dk_seg dksX1_init_0 24 rfl rfl
theorem dksX1_init_2 : cX1_init.data.toList.drop 48 = dktX1_init_2 := dk_seg dksX1_init_1 24 rfl rfl
theorem dksX1_init_3 : cX1_init.data.toList.drop 72 = dktX1_init_3 := dk_seg dksX1_init_2 24 rfl rfl
theorem dksX1_init_4 : cX1_init.data.toList.drop 95 = dktX1_init_4 := dk_seg dksX1_init_3 23 rfl rfl
theorem dksX1_init_5 : cX1_init.data.toList.drop 119 = dktX1_init_5 := dk_seg dksX1_init_4 24 rfl rfl
theorem dksX1_init_6 : cX1_init.data.toList.drop 142 = dktX1_init_6 := dk_seg dksX1_init_5 23 rfl rfl
theorem dksX1_init_7 : cX1_init.data.toList.drop 166 = dktX1_init_7 := dk_seg dksX1_init_6 24 rfl rfl
theorem dksX1_init_8 : cX1_init.data.toList.drop 190 = dktX1_init_8 := dk_seg dksX1_init_7 24 rfl rfl
theorem dksX1_init_9 : cX1_init.data.toList.drop 213 = dktX1_init_9 := dk_seg dksX1_init_8 23 rfl rfl
theorem dksX1_init_10 : cX1_init.data.toList.drop 235 = dktX1_init_10 := dk_seg dksX1_init_9 22 rfl rfl
theorem dksX1_init_11 : cX1_init.data.toList.drop 258 = dktX1_init_11 := dk_seg dksX1_init_10 23 rfl rfl
theorem dX1_init_0 : decode cX1_init 0 = .ok (.aload_n 0, 1) := dk_42 (dk_at dksX1_init_0 0 rfl rfl)
theorem dX1_init_1 : decode cX1_init 1 = .ok (.invokespecial 1, 3) := dk_183 0 1 (dk_at dksX1_init_0 1 rfl rfl)
theorem dX1_init_4 : decode cX1_init 4 = .ok (.aload_n 0, 1) := dk_42 (dk_at dksX1_init_0 4 rfl rfl)
theorem dX1_init_5 : decode cX1_init 5 = .ok (.new 7, 3) := dk_187 0 7 (dk_at dksX1_init_0 5 rfl rfl)
theorem dX1_init_8 : decode cX1_init 8 = .ok (.dup, 1) := dk_89 (dk_at dksX1_init_0 8 rfl rfl)
theorem dX1_init_9 : decode cX1_init 9 = .ok (.invokespecial 9, 3) := dk_183 0 9 (dk_at dksX1_init_0 9 rfl rfl)
theorem dX1_init_12 : decode cX1_init 12 = .ok (.putfield 10, 3) := dk_181 0 10 (dk_at dksX1_init_0 12 rfl rfl)
theorem dX1_init_15 : decode cX1_init 15 = .ok (.aload_n 0, 1) := dk_42 (dk_at dksX1_init_0 15 rfl rfl)
theorem dX1_init_16 : decode cX1_init 16 = .ok (.iconst 2, 1) := dk_5 (dk_at dksX1_init_0 16 rfl rfl)
theorem dX1_init_17 : decode cX1_init 17 = .ok (.anewarray 16, 3) := dk_189 0 16 (dk_at dksX1_init_0 17 rfl rfl)
theorem dX1_init_20 : decode cX1_init 20 = .ok (.putfield 18, 3) := dk_181 0 18 (dk_at dksX1_init_0 20 rfl rfl)
theorem dX1_init_23 : decode cX1_init 23 = .ok (.aload_n 0, 1) := dk_42 (dk_at dksX1_init_0 23 rfl rfl)
theorem dX1_init_24 : decode cX1_init 24 = .ok (.sipush 600, 3) := dk_17 2 88 (dk_at dksX1_init_1 0 rfl rfl)
theorem dX1_init_27 : decode cX1_init 27 = .ok (.newarray .byte, 2) := dk_188_8 (dk_at dksX1_init_1 3 rfl rfl)
theorem dX1_init_29 : decode cX1_init 29 = .ok (.putfield 22, 3) := dk_181 0 22 (dk_at dksX1_init_1 5 rfl rfl)
theorem dX1_init_32 : decode cX1_init 32 = .ok (.aload_n 0, 1) := dk_42 (dk_at dksX1_init_1 8 rfl rfl)
theorem dX1_init_33 : decode cX1_init 33 = .ok (.iconst (-1), 1) := dk_2 (dk_at dksX1_init_1 9 rfl rfl)
theorem dX1_init_34 : decode cX1_init 34 = .ok (.putfield 26, 3) := dk_181 0 26 (dk_at dksX1_init_1 10 rfl rfl)
theorem dX1_init_37 : decode cX1_init 37 = .ok (.aload_n 0, 1) := dk_42 (dk_at dksX1_init_1 13 rfl rfl)
theorem dX1_init_38 : decode cX1_init 38 = .ok (.ldc 30, 2) := dk_18 30 (dk_at dksX1_init_1 14 rfl rfl)
theorem dX1_init_40 : decode cX1_init 40 = .ok (.putfield 32, 3) := dk_181 0 32 (dk_at dksX1_init_1 16 rfl rfl)
theorem dX1_init_43 : decode cX1_init 43 = .ok (.aload_n 0, 1) := dk_42 (dk_at dksX1_init_1 19 rfl rfl)
theorem dX1_init_44 : decode cX1_init 44 = .ok (.new 16, 3) := dk_187 0 16 (dk_at dksX1_init_1 20 rfl rfl)
theorem dX1_init_47 : decode cX1_init 47 = .ok (.dup, 1) := dk_89 (dk_at dksX1_init_1 23 rfl rfl)
theorem dX1_init_48 : decode cX1_init 48 = .ok (.invokespecial 36, 3) := dk_183 0 36 (dk_at dksX1_init_2 0 rfl rfl)
theorem dX1_init_51 : decode cX1_init 51 = .ok (.putfield 37, 3) := dk_181 0 37 (dk_at dksX1_init_2 3 rfl rfl)
theorem dX1_init_54 : decode cX1_init 54 = .ok (.aload_n 0, 1) := dk_42 (dk_at dksX1_init_2 6 rfl rfl)
theorem dX1_init_55 : decode cX1_init 55 = .ok (.getfield 37, 3) := dk_180 0 37 (dk_at dksX1_init_2 7 rfl rfl)
theorem dX1_init_58 : decode cX1_init 58 = .ok (.getfield 41, 3) := dk_180 0 41 (dk_at dksX1_init_2 10 rfl rfl)
theorem dX1_init_61 : decode cX1_init 61 = .ok (.iconst 0, 1) := dk_3 (dk_at dksX1_init_2 13 rfl rfl)
theorem dX1_init_62 : decode cX1_init 62 = .ok (.iconst 3, 1) := dk_6 (dk_at dksX1_init_2 14 rfl rfl)
theorem dX1_init_63 : decode cX1_init 63 = .ok (.iastore, 1) := dk_79 (dk_at dksX1_init_2 15 rfl rfl)
theorem dX1_init_64 : decode cX1_init 64 = .ok (.aload_n 0, 1) := dk_42 (dk_at dksX1_init_2 16 rfl rfl)
theorem dX1_init_65 : decode cX1_init 65 = .ok (.getfield 37, 3) := dk_180 0 37 (dk_at dksX1_init_2 17 rfl rfl)
theorem dX1_init_68 : decode cX1_init 68 = .ok (.getfield 41, 3) := dk_180 0 41 (dk_at dksX1_init_2 20 rfl rfl)
theorem dX1_init_71 : decode cX1_init 71 = .ok (.iconst 1, 1) := dk_4 (dk_at dksX1_init_2 23 rfl rfl)
theorem dX1_init_72 : decode cX1_init 72 = .ok (.iconst 2, 1) := dk_5 (dk_at dksX1_init_3 0 rfl rfl)
theorem dX1_init_73 : decode cX1_init 73 = .ok (.iastore, 1) := dk_79 (dk_at dksX1_init_3 1 rfl rfl)
theorem dX1_init_74 : decode cX1_init 74 = .ok (.iconst 5, 1) := dk_8 (dk_at dksX1_init_3 2 rfl rfl)
theorem dX1_init_75 : decode cX1_init 75 = .ok (.anewarray 45, 3) := dk_189 0 45 (dk_at dksX1_init_3 3 rfl rfl)
theorem dX1_init_78 : decode cX1_init 78 = .ok (.dup, 1) := dk_89 (dk_at dksX1_init_3 6 rfl rfl)
theorem dX1_init_79 : decode cX1_init 79 = .ok (.iconst 0, 1) := dk_3 (dk_at dksX1_init_3 7 rfl rfl)
theorem dX1_init_80 : decode cX1_init 80 = .ok (.ldc 47, 2) := dk_18 47 (dk_at dksX1_init_3 8 rfl rfl)
theorem dX1_init_82 : decode cX1_init 82 = .ok (.aastore, 1) := dk_83 (dk_at dksX1_init_3 10 rfl rfl)
theorem dX1_init_83 : decode cX1_init 83 = .ok (.dup, 1) := dk_89 (dk_at dksX1_init_3 11 rfl rfl)
theorem dX1_init_84 : decode cX1_init 84 = .ok (.iconst 1, 1) := dk_4 (dk_at dksX1_init_3 12 rfl rfl)
theorem dX1_init_85 : decode cX1_init 85 = .ok (.ldc 49, 2) := dk_18 49 (dk_at dksX1_init_3 13 rfl rfl)
theorem dX1_init_87 : decode cX1_init 87 = .ok (.aastore, 1) := dk_83 (dk_at dksX1_init_3 15 rfl rfl)
theorem dX1_init_88 : decode cX1_init 88 = .ok (.dup, 1) := dk_89 (dk_at dksX1_init_3 16 rfl rfl)
theorem dX1_init_89 : decode cX1_init 89 = .ok (.iconst 2, 1) := dk_5 (dk_at dksX1_init_3 17 rfl rfl)
theorem dX1_init_90 : decode cX1_init 90 = .ok (.ldc 51, 2) := dk_18 51 (dk_at dksX1_init_3 18 rfl rfl)
theorem dX1_init_92 : decode cX1_init 92 = .ok (.aastore, 1) := dk_83 (dk_at dksX1_init_3 20 rfl rfl)
theorem dX1_init_93 : decode cX1_init 93 = .ok (.dup, 1) := dk_89 (dk_at dksX1_init_3 21 rfl rfl)
theorem dX1_init_94 : decode cX1_init 94 = .ok (.iconst 3, 1) := dk_6 (dk_at dksX1_init_3 22 rfl rfl)
theorem dX1_init_95 : decode cX1_init 95 = .ok (.ldc 53, 2) := dk_18 53 (dk_at dksX1_init_4 0 rfl rfl)
theorem dX1_init_97 : decode cX1_init 97 = .ok (.aastore, 1) := dk_83 (dk_at dksX1_init_4 2 rfl rfl)
theorem dX1_init_98 : decode cX1_init 98 = .ok (.dup, 1) := dk_89 (dk_at dksX1_init_4 3 rfl rfl)
theorem dX1_init_99 : decode cX1_init 99 = .ok (.iconst 4, 1) := dk_7 (dk_at dksX1_init_4 4 rfl rfl)
theorem dX1_init_100 : decode cX1_init 100 = .ok (.ldc 55, 2) := dk_18 55 (dk_at dksX1_init_4 5 rfl rfl)
theorem dX1_init_102 : decode cX1_init 102 = .ok (.aastore, 1) := dk_83 (dk_at dksX1_init_4 7 rfl rfl)
theorem dX1_init_103 : decode cX1_init 103 = .ok (.astore_n 1, 1) := dk_76 (dk_at dksX1_init_4 8 rfl rfl)
theorem dX1_init_104 : decode cX1_init 104 = .ok (.aload_n 1, 1) := dk_43 (dk_at dksX1_init_4 9 rfl rfl)
theorem dX1_init_105 : decode cX1_init 105 = .ok (.arraylength, 1) := dk_190 (dk_at dksX1_init_4 10 rfl rfl)
theorem dX1_init_106 : decode cX1_init 106 = .ok (.istore_n 2, 1) := dk_61 (dk_at dksX1_init_4 11 rfl rfl)
theorem dX1_init_107 : decode cX1_init 107 = .ok (.iconst 0, 1) := dk_3 (dk_at dksX1_init_4 12 rfl rfl)
theorem dX1_init_108 : decode cX1_init 108 = .ok (.istore_n 3, 1) := dk_62 (dk_at dksX1_init_4 13 rfl rfl)
theorem dX1_init_109 : decode cX1_init 109 = .ok (.iload_n 3, 1) := dk_29 (dk_at dksX1_init_4 14 rfl rfl)
theorem dX1_init_110 : decode cX1_init 110 = .ok (.iload_n 2, 1) := dk_28 (dk_at dksX1_init_4 15 rfl rfl)
theorem dX1_init_111 : decode cX1_init 111 = .ok (.if_icmp .ge 37, 3) := dk_162 0 37 (dk_at dksX1_init_4 16 rfl rfl)
theorem dX1_init_114 : decode cX1_init 114 = .ok (.aload_n 1, 1) := dk_43 (dk_at dksX1_init_4 19 rfl rfl)
theorem dX1_init_115 : decode cX1_init 115 = .ok (.iload_n 3, 1) := dk_29 (dk_at dksX1_init_4 20 rfl rfl)
theorem dX1_init_116 : decode cX1_init 116 = .ok (.aaload, 1) := dk_50 (dk_at dksX1_init_4 21 rfl rfl)
theorem dX1_init_117 : decode cX1_init 117 = .ok (.astore 4, 2) := dk_58 4 (dk_at dksX1_init_4 22 rfl rfl)
theorem dX1_init_119 : decode cX1_init 119 = .ok (.aload_n 0, 1) := dk_42 (dk_at dksX1_init_5 0 rfl rfl)
theorem dX1_init_120 : decode cX1_init 120 = .ok (.getfield 37, 3) := dk_180 0 37 (dk_at dksX1_init_5 1 rfl rfl)
theorem dX1_init_123 : decode cX1_init 123 = .ok (.new 57, 3) := dk_187 0 57 (dk_at dksX1_init_5 4 rfl rfl)
theorem dX1_init_126 : decode cX1_init 126 = .ok (.dup, 1) := dk_89 (dk_at dksX1_init_5 7 rfl rfl)
theorem dX1_init_127 : decode cX1_init 127 = .ok (.aload 4, 2) := dk_25 4 (dk_at dksX1_init_5 8 rfl rfl)
theorem dX1_init_129 : decode cX1_init 129 = .ok (.new 59, 3) := dk_187 0 59 (dk_at dksX1_init_5 10 rfl rfl)
theorem dX1_init_132 : decode cX1_init 132 = .ok (.dup, 1) := dk_89 (dk_at dksX1_init_5 13 rfl rfl)
theorem dX1_init_133 : decode cX1_init 133 = .ok (.invokespecial 61, 3) := dk_183 0 61 (dk_at dksX1_init_5 14 rfl rfl)
theorem dX1_init_136 : decode cX1_init 136 = .ok (.invokespecial 62, 3) := dk_183 0 62 (dk_at dksX1_init_5 17 rfl rfl)
theorem dX1_init_139 : decode cX1_init 139 = .ok (.invokevirtual 65, 3) := dk_182 0 65 (dk_at dksX1_init_5 20 rfl rfl)
theorem dX1_init_142 : decode cX1_init 142 = .ok (.iinc 3 1, 3) := dk_132 3 1 (dk_at dksX1_init_6 0 rfl rfl)
theorem dX1_init_145 : decode cX1_init 145 = .ok (.goto (-36), 3) := dk_167 255 220 (dk_at dksX1_init_6 3 rfl rfl)
theorem dX1_init_148 : decode cX1_init 148 = .ok (.aload_n 0, 1) := dk_42 (dk_at dksX1_init_6 6 rfl rfl)
theorem dX1_init_149 : decode cX1_init 149 = .ok (.bipush 14, 2) := dk_16 14 (dk_at dksX1_init_6 7 rfl rfl)
theorem dX1_init_151 : decode cX1_init 151 = .ok (.newarray .int, 2) := dk_188_10 (dk_at dksX1_init_6 9 rfl rfl)
theorem dX1_init_153 : decode cX1_init 153 = .ok (.dup, 1) := dk_89 (dk_at dksX1_init_6 11 rfl rfl)
theorem dX1_init_154 : decode cX1_init 154 = .ok (.iconst 0, 1) := dk_3 (dk_at dksX1_init_6 12 rfl rfl)
theorem dX1_init_155 : decode cX1_init 155 = .ok (.iconst 0, 1) := dk_3 (dk_at dksX1_init_6 13 rfl rfl)
theorem dX1_init_156 : decode cX1_init 156 = .ok (.iastore, 1) := dk_79 (dk_at dksX1_init_6 14 rfl rfl)
theorem dX1_init_157 : decode cX1_init 157 = .ok (.dup, 1) := dk_89 (dk_at dksX1_init_6 15 rfl rfl)
theorem dX1_init_158 : decode cX1_init 158 = .ok (.iconst 1, 1) := dk_4 (dk_at dksX1_init_6 16 rfl rfl)
theorem dX1_init_159 : decode cX1_init 159 = .ok (.iconst 2, 1) := dk_5 (dk_at dksX1_init_6 17 rfl rfl)
theorem dX1_init_160 : decode cX1_init 160 = .ok (.iastore, 1) := dk_79 (dk_at dksX1_init_6 18 rfl rfl)
theorem dX1_init_161 : decode cX1_init 161 = .ok (.dup, 1) := dk_89 (dk_at dksX1_init_6 19 rfl rfl)
theorem dX1_init_162 : decode cX1_init 162 = .ok (.iconst 2, 1) := dk_5 (dk_at dksX1_init_6 20 rfl rfl)
theorem dX1_init_163 : decode cX1_init 163 = .ok (.iconst 0, 1) := dk_3 (dk_at dksX1_init_6 21 rfl rfl)
theorem dX1_init_164 : decode cX1_init 164 = .ok (.iastore, 1) := dk_79 (dk_at dksX1_init_6 22 rfl rfl)
theorem dX1_init_165 : decode cX1_init 165 = .ok (.dup, 1) := dk_89 (dk_at dksX1_init_6 23 rfl rfl)
theorem dX1_init_166 : decode cX1_init 166 = .ok (.iconst 3, 1) := dk_6 (dk_at dksX1_init_7 0 rfl rfl)
theorem dX1_init_167 : decode cX1_init 167 = .ok (.iconst 3, 1) := dk_6 (dk_at dksX1_init_7 1 rfl rfl)
theorem dX1_init_168 : decode cX1_init 168 = .ok (.iastore, 1) := dk_79 (dk_at dksX1_init_7 2 rfl rfl)
theorem dX1_init_169 : decode cX1_init 169 = .ok (.dup, 1) := dk_89 (dk_at dksX1_init_7 3 rfl rfl)
theorem dX1_init_170 : decode cX1_init 170 = .ok (.iconst 4, 1) := dk_7 (dk_at dksX1_init_7 4 rfl rfl)
theorem dX1_init_171 : decode cX1_init 171 = .ok (.iconst 1, 1) := dk_4 (dk_at dksX1_init_7 5 rfl rfl)
theorem dX1_init_172 : decode cX1_init 172 = .ok (.iastore, 1) := dk_79 (dk_at dksX1_init_7 6 rfl rfl)
theorem dX1_init_173 : decode cX1_init 173 = .ok (.dup, 1) := dk_89 (dk_at dksX1_init_7 7 rfl rfl)
theorem dX1_init_174 : decode cX1_init 174 = .ok (.iconst 5, 1) := dk_8 (dk_at dksX1_init_7 8 rfl rfl)
theorem dX1_init_175 : decode cX1_init 175 = .ok (.iconst 2, 1) := dk_5 (dk_at dksX1_init_7 9 rfl rfl)
theorem dX1_init_176 : decode cX1_init 176 = .ok (.iastore, 1) := dk_79 (dk_at dksX1_init_7 10 rfl rfl)
theorem dX1_init_177 : decode cX1_init 177 = .ok (.dup, 1) := dk_89 (dk_at dksX1_init_7 11 rfl rfl)
theorem dX1_init_178 : decode cX1_init 178 = .ok (.bipush 6, 2) := dk_16 6 (dk_at dksX1_init_7 12 rfl rfl)
theorem dX1_init_180 : decode cX1_init 180 = .ok (.iconst 1, 1) := dk_4 (dk_at dksX1_init_7 14 rfl rfl)
theorem dX1_init_181 : decode cX1_init 181 = .ok (.iastore, 1) := dk_79 (dk_at dksX1_init_7 15 rfl rfl)
theorem dX1_init_182 : decode cX1_init 182 = .ok (.dup, 1) := dk_89 (dk_at dksX1_init_7 16 rfl rfl)
theorem dX1_init_183 : decode cX1_init 183 = .ok (.bipush 7, 2) := dk_16 7 (dk_at dksX1_init_7 17 rfl rfl)
theorem dX1_init_185 : decode cX1_init 185 = .ok (.iconst 3, 1) := dk_6 (dk_at dksX1_init_7 19 rfl rfl)
theorem dX1_init_186 : decode cX1_init 186 = .ok (.iastore, 1) := dk_79 (dk_at dksX1_init_7 20 rfl rfl)
theorem dX1_init_187 : decode cX1_init 187 = .ok (.dup, 1) := dk_89 (dk_at dksX1_init_7 21 rfl rfl)
theorem dX1_init_188 : decode cX1_init 188 = .ok (.bipush 8, 2) := dk_16 8 (dk_at dksX1_init_7 22 rfl rfl)
theorem dX1_init_190 : decode cX1_init 190 = .ok (.iconst 4, 1) := dk_7 (dk_at dksX1_init_8 0 rfl rfl)
theorem dX1_init_191 : decode cX1_init 191 = .ok (.iastore, 1) := dk_79 (dk_at dksX1_init_8 1 rfl rfl)
theorem dX1_init_192 : decode cX1_init 192 = .ok (.dup, 1) := dk_89 (dk_at dksX1_init_8 2 rfl rfl)
theorem dX1_init_193 : decode cX1_init 193 = .ok (.bipush 9, 2) := dk_16 9 (dk_at dksX1_init_8 3 rfl rfl)
theorem dX1_init_195 : decode cX1_init 195 = .ok (.iconst 1, 1) := dk_4 (dk_at dksX1_init_8 5 rfl rfl)
theorem dX1_init_196 : decode cX1_init 196 = .ok (.iastore, 1) := dk_79 (dk_at dksX1_init_8 6 rfl rfl)
theorem dX1_init_197 : decode cX1_init 197 = .ok (.dup, 1) := dk_89 (dk_at dksX1_init_8 7 rfl rfl)
theorem dX1_init_198 : decode cX1_init 198 = .ok (.bipush 10, 2) := dk_16 10 (dk_at dksX1_init_8 8 rfl rfl)
theorem dX1_init_200 : decode cX1_init 200 = .ok (.iconst 4, 1) := dk_7 (dk_at dksX1_init_8 10 rfl rfl)
theorem dX1_init_201 : decode cX1_init 201 = .ok (.iastore, 1) := dk_79 (dk_at dksX1_init_8 11 rfl rfl)
theorem dX1_init_202 : decode cX1_init 202 = .ok (.dup, 1) := dk_89 (dk_at dksX1_init_8 12 rfl rfl)
theorem dX1_init_203 : decode cX1_init 203 = .ok (.bipush 11, 2) := dk_16 11 (dk_at dksX1_init_8 13 rfl rfl)
theorem dX1_init_205 : decode cX1_init 205 = .ok (.iconst 2, 1) := dk_5 (dk_at dksX1_init_8 15 rfl rfl)
theorem dX1_init_206 : decode cX1_init 206 = .ok (.iastore, 1) := dk_79 (dk_at dksX1_init_8 16 rfl rfl)
theorem dX1_init_207 : decode cX1_init 207 = .ok (.dup, 1) := dk_89 (dk_at dksX1_init_8 17 rfl rfl)
theorem dX1_init_208 : decode cX1_init 208 = .ok (.bipush 12, 2) := dk_16 12 (dk_at dksX1_init_8 18 rfl rfl)
theorem dX1_init_210 : decode cX1_init 210 = .ok (.iconst 4, 1) := dk_7 (dk_at dksX1_init_8 20 rfl rfl)
theorem dX1_init_211 : decode cX1_init 211 = .ok (.iastore, 1) := dk_79 (dk_at dksX1_init_8 21 rfl rfl)
theorem dX1_init_212 : decode cX1_init 212 = .ok (.dup, 1) := dk_89 (dk_at dksX1_init_8 22 rfl rfl)
theorem dX1_init_213 : decode cX1_init 213 = .ok (.bipush 13, 2) := dk_16 13 (dk_at dksX1_init_9 0 rfl rfl)
theorem dX1_init_215 : decode cX1_init 215 = .ok (.iconst 3, 1) := dk_6 (dk_at dksX1_init_9 2 rfl rfl)
theorem dX1_init_216 : decode cX1_init 216 = .ok (.iastore, 1) := dk_79 (dk_at dksX1_init_9 3 rfl rfl)
theorem dX1_init_217 : decode cX1_init 217 = .ok (.invokevirtual 69, 3) := dk_182 0 69 (dk_at dksX1_init_9 4 rfl rfl)
theorem dX1_init_220 : decode cX1_init 220 = .ok (.aload_n 0, 1) := dk_42 (dk_at dksX1_init_9 7 rfl rfl)
theorem dX1_init_221 : decode cX1_init 221 = .ok (.iconst 5, 1) := dk_8 (dk_at dksX1_init_9 8 rfl rfl)
theorem dX1_init_222 : decode cX1_init 222 = .ok (.bipush 20, 2) := dk_16 20 (dk_at dksX1_init_9 9 rfl rfl)
theorem dX1_init_224 : decode cX1_init 224 = .ok (.iconst 2, 1) := dk_5 (dk_at dksX1_init_9 11 rfl rfl)
theorem dX1_init_225 : decode cX1_init 225 = .ok (.newarray .int, 2) := dk_188_10 (dk_at dksX1_init_9 12 rfl rfl)
theorem dX1_init_227 : decode cX1_init 227 = .ok (.dup, 1) := dk_89 (dk_at dksX1_init_9 14 rfl rfl)
theorem dX1_init_228 : decode cX1_init 228 = .ok (.iconst 0, 1) := dk_3 (dk_at dksX1_init_9 15 rfl rfl)
theorem dX1_init_229 : decode cX1_init 229 = .ok (.iconst 0, 1) := dk_3 (dk_at dksX1_init_9 16 rfl rfl)
theorem dX1_init_230 : decode cX1_init 230 = .ok (.iastore, 1) := dk_79 (dk_at dksX1_init_9 17 rfl rfl)
theorem dX1_init_231 : decode cX1_init 231 = .ok (.dup, 1) := dk_89 (dk_at dksX1_init_9 18 rfl rfl)
theorem dX1_init_232 : decode cX1_init 232 = .ok (.iconst 1, 1) := dk_4 (dk_at dksX1_init_9 19 rfl rfl)
theorem dX1_init_233 : decode cX1_init 233 = .ok (.iconst 1, 1) := dk_4 (dk_at dksX1_init_9 20 rfl rfl)
theorem dX1_init_234 : decode cX1_init 234 = .ok (.iastore, 1) := dk_79 (dk_at dksX1_init_9 21 rfl rfl)
theorem dX1_init_235 : decode cX1_init 235 = .ok (.invokevirtual 73, 3) := dk_182 0 73 (dk_at dksX1_init_10 0 rfl rfl)
theorem dX1_init_238 : decode cX1_init 238 = .ok (.aload_n 0, 1) := dk_42 (dk_at dksX1_init_10 3 rfl rfl)
theorem dX1_init_239 : decode cX1_init 239 = .ok (.iconst 4, 1) := dk_7 (dk_at dksX1_init_10 4 rfl rfl)
theorem dX1_init_240 : decode cX1_init 240 = .ok (.bipush 15, 2) := dk_16 15 (dk_at dksX1_init_10 5 rfl rfl)
theorem dX1_init_242 : decode cX1_init 242 = .ok (.iconst 2, 1) := dk_5 (dk_at dksX1_init_10 7 rfl rfl)
theorem dX1_init_243 : decode cX1_init 243 = .ok (.newarray .int, 2) := dk_188_10 (dk_at dksX1_init_10 8 rfl rfl)
theorem dX1_init_245 : decode cX1_init 245 = .ok (.dup, 1) := dk_89 (dk_at dksX1_init_10 10 rfl rfl)
theorem dX1_init_246 : decode cX1_init 246 = .ok (.iconst 0, 1) := dk_3 (dk_at dksX1_init_10 11 rfl rfl)
theorem dX1_init_247 : decode cX1_init 247 = .ok (.iconst 2, 1) := dk_5 (dk_at dksX1_init_10 12 rfl rfl)
theorem dX1_init_248 : decode cX1_init 248 = .ok (.iastore, 1) := dk_79 (dk_at dksX1_init_10 13 rfl rfl)
theorem dX1_init_249 : decode cX1_init 249 = .ok (.dup, 1) := dk_89 (dk_at dksX1_init_10 14 rfl rfl)
theorem dX1_init_250 : decode cX1_init 250 = .ok (.iconst 1, 1) := dk_4 (dk_at dksX1_init_10 15 rfl rfl)
theorem dX1_init_251 : decode cX1_init 251 = .ok (.iconst 3, 1) := dk_6 (dk_at dksX1_init_10 16 rfl rfl)
theorem dX1_init_252 : decode cX1_init 252 = .ok (.iastore, 1) := dk_79 (dk_at dksX1_init_10 17 rfl rfl)
theorem dX1_init_253 : decode cX1_init 253 = .ok (.invokevirtual 73, 3) := dk_182 0 73 (dk_at dksX1_init_10 18 rfl rfl)
theorem dX1_init_256 : decode cX1_init 256 = .ok (.aload_n 0, 1) := dk_42 (dk_at dksX1_init_10 21 rfl rfl)
theorem dX1_init_257 : decode cX1_init 257 = .ok (.iconst 3, 1) := dk_6 (dk_at dksX1_init_10 22 rfl rfl)
theorem dX1_init_258 : decode cX1_init 258 = .ok (.bipush 8, 2) := dk_16 8 (dk_at dksX1_init_11 0 rfl rfl)
theorem dX1_init_260 : decode cX1_init 260 = .ok (.iconst 2, 1) := dk_5 (dk_at dksX1_init_11 2 rfl rfl)
theorem dX1_init_261 : decode cX1_init 261 = .ok (.newarray .int, 2) := dk_188_10 (dk_at dksX1_init_11 3 rfl rfl)
theorem dX1_init_263 : decode cX1_init 263 = .ok (.dup, 1) := dk_89 (dk_at dksX1_init_11 5 rfl rfl)
theorem dX1_init_264 : decode cX1_init 264 = .ok (.iconst 0, 1) := dk_3 (dk_at dksX1_init_11 6 rfl rfl)
theorem dX1_init_265 : decode cX1_init 265 = .ok (.iconst 4, 1) := dk_7 (dk_at dksX1_init_11 7 rfl rfl)
theorem dX1_init_266 : decode cX1_init 266 = .ok (.iastore, 1) := dk_79 (dk_at dksX1_init_11 8 rfl rfl)
theorem dX1_init_267 : decode cX1_init 267 = .ok (.dup, 1) := dk_89 (dk_at dksX1_init_11 9 rfl rfl)
theorem dX1_init_268 : decode cX1_init 268 = .ok (.iconst 1, 1) := dk_4 (dk_at dksX1_init_11 10 rfl rfl)
theorem dX1_init_269 : decode cX1_init 269 = .ok (.iconst 0, 1) := dk_3 (dk_at dksX1_init_11 11 rfl rfl)
theorem dX1_init_270 : decode cX1_init 270 = .ok (.iastore, 1) := dk_79 (dk_at dksX1_init_11 12 rfl rfl)
theorem dX1_init_271 : decode cX1_init 271 = .ok (.invokevirtual 73, 3) := dk_182 0 73 (dk_at dksX1_init_11 13 rfl rfl)
theorem dX1_init_274 : decode cX1_init 274 = .ok (.return_, 1) := dk_177 (dk_at dksX1_init_11 16 rfl rfl)
abbrev cX1_clashes : ByteArray := prog_1_method_4_code
def yX1_clashes : MethodName := ⟨RX1, "clashes", "([I)V"⟩
def dkwX1_clashes_1 : List UInt8 := [183, 0, 79, 182, 0, 82, 132, 2, 2, 167, 255, 225, 177]
abbrev dktX1_clashes_1 : List UInt8 := dkwX1_clashes_1 ++ []
def dkwX1_clashes_0 : List UInt8 := [3, 61, 28, 43, 190, 162, 0, 31, 42, 180, 0, 37, 187, 0, 77, 89, 43, 28, 46, 43, 28, 4, 96, 46]
abbrev dktX1_clashes_0 : List UInt8 := dkwX1_clashes_0 ++ dktX1_clashes_1
theorem dksX1_clashes_0 : cX1_clashes.data.toList.drop 0 = dktX1_clashes_0 := by decide +kernel
theorem dksX1_clashes_1 : cX1_clashes.data.toList.drop 24 = dktX1_clashes_1 := dk_seg dksX1_clashes_0 24 rfl rfl
theorem dX1_clashes_0 : decode cX1_clashes 0 = .ok (.iconst 0, 1) := dk_3 (dk_at dksX1_clashes_0 0 rfl rfl)
theorem dX1_clashes_1 : decode cX1_clashes 1 = .ok (.istore_n 2, 1) := dk_61 (dk_at dksX1_clashes_0 1 rfl rfl)
theorem dX1_clashes_2 : decode cX1_clashes 2 = .ok (.iload_n 2, 1) := dk_28 (dk_at dksX1_clashes_0 2 rfl rfl)
theorem dX1_clashes_3 : decode cX1_clashes 3 = .ok (.aload_n 1, 1) := dk_43 (dk_at dksX1_clashes_0 3 rfl rfl)
theorem dX1_clashes_4 : decode cX1_clashes 4 = .ok (.arraylength, 1) := dk_190 (dk_at dksX1_clashes_0 4 rfl rfl)
theorem dX1_clashes_5 : decode cX1_clashes 5 = .ok (.if_icmp .ge 31, 3) := dk_162 0 31 (dk_at dksX1_clashes_0 5 rfl rfl)
theorem dX1_clashes_8 : decode cX1_clashes 8 = .ok (.aload_n 0, 1) := dk_42 (dk_at dksX1_clashes_0 8 rfl rfl)
theorem dX1_clashes_9 : decode cX1_clashes 9 = .ok (.getfield 37, 3) := dk_180 0 37 (dk_at dksX1_clashes_0 9 rfl rfl)
theorem dX1_clashes_12 : decode cX1_clashes 12 = .ok (.new 77, 3) := dk_187 0 77 (dk_at dksX1_clashes_0 12 rfl rfl)
theorem dX1_clashes_15 : decode cX1_clashes 15 = .ok (.dup, 1) := dk_89 (dk_at dksX1_clashes_0 15 rfl rfl)
theorem dX1_clashes_16 : decode cX1_clashes 16 = .ok (.aload_n 1, 1) := dk_43 (dk_at dksX1_clashes_0 16 rfl rfl)
theorem dX1_clashes_17 : decode cX1_clashes 17 = .ok (.iload_n 2, 1) := dk_28 (dk_at dksX1_clashes_0 17 rfl rfl)
theorem dX1_clashes_18 : decode cX1_clashes 18 = .ok (.iaload, 1) := dk_46 (dk_at dksX1_clashes_0 18 rfl rfl)
theorem dX1_clashes_19 : decode cX1_clashes 19 = .ok (.aload_n 1, 1) := dk_43 (dk_at dksX1_clashes_0 19 rfl rfl)
theorem dX1_clashes_20 : decode cX1_clashes 20 = .ok (.iload_n 2, 1) := dk_28 (dk_at dksX1_clashes_0 20 rfl rfl)
theorem dX1_clashes_21 : decode cX1_clashes 21 = .ok (.iconst 1, 1) := dk_4 (dk_at dksX1_clashes_0 21 rfl rfl)
theorem dX1_clashes_22 : decode cX1_clashes 22 = .ok (.iadd, 1) := dk_96 (dk_at dksX1_clashes_0 22 rfl rfl)
theorem dX1_clashes_23 : decode cX1_clashes 23 = .ok (.iaload, 1) := dk_46 (dk_at dksX1_clashes_0 23 rfl rfl)
theorem dX1_clashes_24 : decode cX1_clashes 24 = .ok (.invokespecial 79, 3) := dk_183 0 79 (dk_at dksX1_clashes_1 0 rfl rfl)
theorem dX1_clashes_27 : decode cX1_clashes 27 = .ok (.invokevirtual 82, 3) := dk_182 0 82 (dk_at dksX1_clashes_1 3 rfl rfl)
theorem dX1_clashes_30 : decode cX1_clashes 30 = .ok (.iinc 2 2, 3) := dk_132 2 2 (dk_at dksX1_clashes_1 6 rfl rfl)
theorem dX1_clashes_33 : decode cX1_clashes 33 = .ok (.goto (-31), 3) := dk_167 255 225 (dk_at dksX1_clashes_1 9 rfl rfl)
theorem dX1_clashes_36 : decode cX1_clashes 36 = .ok (.return_, 1) := dk_177 (dk_at dksX1_clashes_1 12 rfl rfl)
abbrev cX1_phase : ByteArray := prog_1_method_5_code
def yX1_phase : MethodName := ⟨RX1, "phase", "(II[I)V"⟩
def dkwX1_phase_2 : List UInt8 := [180, 0, 95, 21, 8, 182, 0, 99, 132, 7, 1, 167, 255, 229, 42, 180, 0, 37, 25, 4, 182, 0, 105, 177]
abbrev dktX1_phase_2 : List UInt8 := dkwX1_phase_2 ++ []
def dkwX1_phase_1 : List UInt8 := [25, 5, 190, 54, 6, 3, 54, 7, 21, 7, 21, 6, 162, 0, 26, 25, 5, 21, 7, 46, 54, 8, 25, 4]
abbrev dktX1_phase_1 : List UInt8 := dkwX1_phase_1 ++ dktX1_phase_2
def dkwX1_phase_0 : List UInt8 := [187, 0, 86, 89, 183, 0, 88, 58, 4, 25, 4, 27, 181, 0, 89, 25, 4, 28, 181, 0, 92, 45, 58, 5]
abbrev dktX1_phase_0 : List UInt8 := dkwX1_phase_0 ++ dktX1_phase_1
theorem dksX1_phase_0 : cX1_phase.data.toList.drop 0 = dktX1_phase_0 := by decide +kernel
theorem dksX1_phase_1 : cX1_phase.data.toList.drop 24 = dktX1_phase_1 := dk_seg dksX1_phase_0 24 rfl rfl
theorem dksX1_phase_2 : cX1_phase.data.toList.drop 48 = dktX1_phase_2 := dk_seg dksX1_phase_1 24 rfl rfl
theorem dX1_phase_0 : decode cX1_phase 0 = .ok (.new 86, 3) := dk_187 0 86 (dk_at dksX1_phase_0 0 rfl rfl)
theorem dX1_phase_3 : decode cX1_phase 3 = .ok (.dup, 1) := dk_89 (dk_at dksX1_phase_0 3 rfl rfl)
theorem dX1_phase_4 : decode cX1_phase 4 = .ok (.invokespecial 88, 3) := dk_183 0 88 (dk_at dksX1_phase_0 4 rfl rfl)
theorem dX1_phase_7 : decode cX1_phase 7 = .ok (.astore 4, 2) := dk_58 4 (dk_at dksX1_phase_0 7 rfl rfl)
theorem dX1_phase_9 : decode cX1_phase 9 = .ok (.aload 4, 2) := dk_25 4 (dk_at dksX1_phase_0 9 rfl rfl)
theorem dX1_phase_11 : decode cX1_phase 11 = .ok (.iload_n 1, 1) := dk_27 (dk_at dksX1_phase_0 11 rfl rfl)
theorem dX1_phase_12 : decode cX1_phase 12 = .ok (.putfield 89, 3) := dk_181 0 89 (dk_at dksX1_phase_0 12 rfl rfl)
theorem dX1_phase_15 : decode cX1_phase 15 = .ok (.aload 4, 2) := dk_25 4 (dk_at dksX1_phase_0 15 rfl rfl)
theorem dX1_phase_17 : decode cX1_phase 17 = .ok (.iload_n 2, 1) := dk_28 (dk_at dksX1_phase_0 17 rfl rfl)
theorem dX1_phase_18 : decode cX1_phase 18 = .ok (.putfield 92, 3) := dk_181 0 92 (dk_at dksX1_phase_0 18 rfl rfl)
theorem dX1_phase_21 : decode cX1_phase 21 = .ok (.aload_n 3, 1) := dk_45 (dk_at dksX1_phase_0 21 rfl rfl)
theorem dX1_phase_22 : decode cX1_phase 22 = .ok (.astore 5, 2) := dk_58 5 (dk_at dksX1_phase_0 22 rfl rfl)
theorem dX1_phase_24 : decode cX1_phase 24 = .ok (.aload 5, 2) := dk_25 5 (dk_at dksX1_phase_1 0 rfl rfl)
theorem dX1_phase_26 : decode cX1_phase 26 = .ok (.arraylength, 1) := dk_190 (dk_at dksX1_phase_1 2 rfl rfl)
theorem dX1_phase_27 : decode cX1_phase 27 = .ok (.istore 6, 2) := dk_54 6 (dk_at dksX1_phase_1 3 rfl rfl)
theorem dX1_phase_29 : decode cX1_phase 29 = .ok (.iconst 0, 1) := dk_3 (dk_at dksX1_phase_1 5 rfl rfl)
theorem dX1_phase_30 : decode cX1_phase 30 = .ok (.istore 7, 2) := dk_54 7 (dk_at dksX1_phase_1 6 rfl rfl)
theorem dX1_phase_32 : decode cX1_phase 32 = .ok (.iload 7, 2) := dk_21 7 (dk_at dksX1_phase_1 8 rfl rfl)
theorem dX1_phase_34 : decode cX1_phase 34 = .ok (.iload 6, 2) := dk_21 6 (dk_at dksX1_phase_1 10 rfl rfl)
theorem dX1_phase_36 : decode cX1_phase 36 = .ok (.if_icmp .ge 26, 3) := dk_162 0 26 (dk_at dksX1_phase_1 12 rfl rfl)
theorem dX1_phase_39 : decode cX1_phase 39 = .ok (.aload 5, 2) := dk_25 5 (dk_at dksX1_phase_1 15 rfl rfl)
theorem dX1_phase_41 : decode cX1_phase 41 = .ok (.iload 7, 2) := dk_21 7 (dk_at dksX1_phase_1 17 rfl rfl)
theorem dX1_phase_43 : decode cX1_phase 43 = .ok (.iaload, 1) := dk_46 (dk_at dksX1_phase_1 19 rfl rfl)
theorem dX1_phase_44 : decode cX1_phase 44 = .ok (.istore 8, 2) := dk_54 8 (dk_at dksX1_phase_1 20 rfl rfl)
theorem dX1_phase_46 : decode cX1_phase 46 = .ok (.aload 4, 2) := dk_25 4 (dk_at dksX1_phase_1 22 rfl rfl)
theorem dX1_phase_48 : decode cX1_phase 48 = .ok (.getfield 95, 3) := dk_180 0 95 (dk_at dksX1_phase_2 0 rfl rfl)
theorem dX1_phase_51 : decode cX1_phase 51 = .ok (.iload 8, 2) := dk_21 8 (dk_at dksX1_phase_2 3 rfl rfl)
theorem dX1_phase_53 : decode cX1_phase 53 = .ok (.invokevirtual 99, 3) := dk_182 0 99 (dk_at dksX1_phase_2 5 rfl rfl)
theorem dX1_phase_56 : decode cX1_phase 56 = .ok (.iinc 7 1, 3) := dk_132 7 1 (dk_at dksX1_phase_2 8 rfl rfl)
theorem dX1_phase_59 : decode cX1_phase 59 = .ok (.goto (-27), 3) := dk_167 255 229 (dk_at dksX1_phase_2 11 rfl rfl)
theorem dX1_phase_62 : decode cX1_phase 62 = .ok (.aload_n 0, 1) := dk_42 (dk_at dksX1_phase_2 14 rfl rfl)
theorem dX1_phase_63 : decode cX1_phase 63 = .ok (.getfield 37, 3) := dk_180 0 37 (dk_at dksX1_phase_2 15 rfl rfl)
theorem dX1_phase_66 : decode cX1_phase 66 = .ok (.aload 4, 2) := dk_25 4 (dk_at dksX1_phase_2 18 rfl rfl)
theorem dX1_phase_68 : decode cX1_phase 68 = .ok (.invokevirtual 105, 3) := dk_182 0 105 (dk_at dksX1_phase_2 20 rfl rfl)
theorem dX1_phase_71 : decode cX1_phase 71 = .ok (.return_, 1) := dk_177 (dk_at dksX1_phase_2 23 rfl rfl)
abbrev cX1_feed : ByteArray := prog_1_method_15_code
def yX1_feed : MethodName := ⟨RX1, "feed", "(IIIII)I"⟩
def dkwX1_feed_3 : List UInt8 := [180, 0, 177, 172]
abbrev dktX1_feed_3 : List UInt8 := dkwX1_feed_3 ++ []
def dkwX1_feed_2 : List UInt8 := [79, 89, 4, 28, 79, 89, 5, 29, 79, 89, 6, 21, 4, 79, 89, 7, 21, 5, 79, 182, 0, 184, 42]
abbrev dktX1_feed_2 : List UInt8 := dkwX1_feed_2 ++ dktX1_feed_3
def dkwX1_feed_1 : List UInt8 := [89, 7, 21, 5, 79, 184, 0, 180, 96, 17, 2, 88, 164, 0, 5, 2, 172, 42, 8, 188, 10, 89, 3, 27]
abbrev dktX1_feed_1 : List UInt8 := dkwX1_feed_1 ++ dktX1_feed_2
def dkwX1_feed_0 : List UInt8 := [42, 180, 0, 177, 8, 188, 10, 89, 3, 27, 79, 89, 4, 28, 79, 89, 5, 29, 79, 89, 6, 21, 4, 79]
abbrev dktX1_feed_0 : List UInt8 := dkwX1_feed_0 ++ dktX1_feed_1
theorem dksX1_feed_0 : cX1_feed.data.toList.drop 0 = dktX1_feed_0 := by decide +kernel
theorem dksX1_feed_1 : cX1_feed.data.toList.drop 24 = dktX1_feed_1 := dk_seg dksX1_feed_0 24 rfl rfl
theorem dksX1_feed_2 : cX1_feed.data.toList.drop 48 = dktX1_feed_2 := dk_seg dksX1_feed_1 24 rfl rfl
theorem dksX1_feed_3 : cX1_feed.data.toList.drop 71 = dktX1_feed_3 := dk_seg dksX1_feed_2 23 rfl rfl
theorem dX1_feed_0 : decode cX1_feed 0 = .ok (.aload_n 0, 1) := dk_42 (dk_at dksX1_feed_0 0 rfl rfl)
theorem dX1_feed_1 : decode cX1_feed 1 = .ok (.getfield 177, 3) := dk_180 0 177 (dk_at dksX1_feed_0 1 rfl rfl)
theorem dX1_feed_4 : decode cX1_feed 4 = .ok (.iconst 5, 1) := dk_8 (dk_at dksX1_feed_0 4 rfl rfl)
theorem dX1_feed_5 : decode cX1_feed 5 = .ok (.newarray .int, 2) := dk_188_10 (dk_at dksX1_feed_0 5 rfl rfl)
theorem dX1_feed_7 : decode cX1_feed 7 = .ok (.dup, 1) := dk_89 (dk_at dksX1_feed_0 7 rfl rfl)
theorem dX1_feed_8 : decode cX1_feed 8 = .ok (.iconst 0, 1) := dk_3 (dk_at dksX1_feed_0 8 rfl rfl)
theorem dX1_feed_9 : decode cX1_feed 9 = .ok (.iload_n 1, 1) := dk_27 (dk_at dksX1_feed_0 9 rfl rfl)
theorem dX1_feed_10 : decode cX1_feed 10 = .ok (.iastore, 1) := dk_79 (dk_at dksX1_feed_0 10 rfl rfl)
theorem dX1_feed_11 : decode cX1_feed 11 = .ok (.dup, 1) := dk_89 (dk_at dksX1_feed_0 11 rfl rfl)
theorem dX1_feed_12 : decode cX1_feed 12 = .ok (.iconst 1, 1) := dk_4 (dk_at dksX1_feed_0 12 rfl rfl)
theorem dX1_feed_13 : decode cX1_feed 13 = .ok (.iload_n 2, 1) := dk_28 (dk_at dksX1_feed_0 13 rfl rfl)
theorem dX1_feed_14 : decode cX1_feed 14 = .ok (.iastore, 1) := dk_79 (dk_at dksX1_feed_0 14 rfl rfl)
theorem dX1_feed_15 : decode cX1_feed 15 = .ok (.dup, 1) := dk_89 (dk_at dksX1_feed_0 15 rfl rfl)
theorem dX1_feed_16 : decode cX1_feed 16 = .ok (.iconst 2, 1) := dk_5 (dk_at dksX1_feed_0 16 rfl rfl)
theorem dX1_feed_17 : decode cX1_feed 17 = .ok (.iload_n 3, 1) := dk_29 (dk_at dksX1_feed_0 17 rfl rfl)
theorem dX1_feed_18 : decode cX1_feed 18 = .ok (.iastore, 1) := dk_79 (dk_at dksX1_feed_0 18 rfl rfl)
theorem dX1_feed_19 : decode cX1_feed 19 = .ok (.dup, 1) := dk_89 (dk_at dksX1_feed_0 19 rfl rfl)
theorem dX1_feed_20 : decode cX1_feed 20 = .ok (.iconst 3, 1) := dk_6 (dk_at dksX1_feed_0 20 rfl rfl)
theorem dX1_feed_21 : decode cX1_feed 21 = .ok (.iload 4, 2) := dk_21 4 (dk_at dksX1_feed_0 21 rfl rfl)
theorem dX1_feed_23 : decode cX1_feed 23 = .ok (.iastore, 1) := dk_79 (dk_at dksX1_feed_0 23 rfl rfl)
theorem dX1_feed_24 : decode cX1_feed 24 = .ok (.dup, 1) := dk_89 (dk_at dksX1_feed_1 0 rfl rfl)
theorem dX1_feed_25 : decode cX1_feed 25 = .ok (.iconst 4, 1) := dk_7 (dk_at dksX1_feed_1 1 rfl rfl)
theorem dX1_feed_26 : decode cX1_feed 26 = .ok (.iload 5, 2) := dk_21 5 (dk_at dksX1_feed_1 2 rfl rfl)
theorem dX1_feed_28 : decode cX1_feed 28 = .ok (.iastore, 1) := dk_79 (dk_at dksX1_feed_1 4 rfl rfl)
theorem dX1_feed_29 : decode cX1_feed 29 = .ok (.invokestatic 180, 3) := dk_184 0 180 (dk_at dksX1_feed_1 5 rfl rfl)
theorem dX1_feed_32 : decode cX1_feed 32 = .ok (.iadd, 1) := dk_96 (dk_at dksX1_feed_1 8 rfl rfl)
theorem dX1_feed_33 : decode cX1_feed 33 = .ok (.sipush 600, 3) := dk_17 2 88 (dk_at dksX1_feed_1 9 rfl rfl)
theorem dX1_feed_36 : decode cX1_feed 36 = .ok (.if_icmp .le 5, 3) := dk_164 0 5 (dk_at dksX1_feed_1 12 rfl rfl)
theorem dX1_feed_39 : decode cX1_feed 39 = .ok (.iconst (-1), 1) := dk_2 (dk_at dksX1_feed_1 15 rfl rfl)
theorem dX1_feed_40 : decode cX1_feed 40 = .ok (.ireturn, 1) := dk_172 (dk_at dksX1_feed_1 16 rfl rfl)
theorem dX1_feed_41 : decode cX1_feed 41 = .ok (.aload_n 0, 1) := dk_42 (dk_at dksX1_feed_1 17 rfl rfl)
theorem dX1_feed_42 : decode cX1_feed 42 = .ok (.iconst 5, 1) := dk_8 (dk_at dksX1_feed_1 18 rfl rfl)
theorem dX1_feed_43 : decode cX1_feed 43 = .ok (.newarray .int, 2) := dk_188_10 (dk_at dksX1_feed_1 19 rfl rfl)
theorem dX1_feed_45 : decode cX1_feed 45 = .ok (.dup, 1) := dk_89 (dk_at dksX1_feed_1 21 rfl rfl)
theorem dX1_feed_46 : decode cX1_feed 46 = .ok (.iconst 0, 1) := dk_3 (dk_at dksX1_feed_1 22 rfl rfl)
theorem dX1_feed_47 : decode cX1_feed 47 = .ok (.iload_n 1, 1) := dk_27 (dk_at dksX1_feed_1 23 rfl rfl)
theorem dX1_feed_48 : decode cX1_feed 48 = .ok (.iastore, 1) := dk_79 (dk_at dksX1_feed_2 0 rfl rfl)
theorem dX1_feed_49 : decode cX1_feed 49 = .ok (.dup, 1) := dk_89 (dk_at dksX1_feed_2 1 rfl rfl)
theorem dX1_feed_50 : decode cX1_feed 50 = .ok (.iconst 1, 1) := dk_4 (dk_at dksX1_feed_2 2 rfl rfl)
theorem dX1_feed_51 : decode cX1_feed 51 = .ok (.iload_n 2, 1) := dk_28 (dk_at dksX1_feed_2 3 rfl rfl)
theorem dX1_feed_52 : decode cX1_feed 52 = .ok (.iastore, 1) := dk_79 (dk_at dksX1_feed_2 4 rfl rfl)
theorem dX1_feed_53 : decode cX1_feed 53 = .ok (.dup, 1) := dk_89 (dk_at dksX1_feed_2 5 rfl rfl)
theorem dX1_feed_54 : decode cX1_feed 54 = .ok (.iconst 2, 1) := dk_5 (dk_at dksX1_feed_2 6 rfl rfl)
theorem dX1_feed_55 : decode cX1_feed 55 = .ok (.iload_n 3, 1) := dk_29 (dk_at dksX1_feed_2 7 rfl rfl)
theorem dX1_feed_56 : decode cX1_feed 56 = .ok (.iastore, 1) := dk_79 (dk_at dksX1_feed_2 8 rfl rfl)
theorem dX1_feed_57 : decode cX1_feed 57 = .ok (.dup, 1) := dk_89 (dk_at dksX1_feed_2 9 rfl rfl)
theorem dX1_feed_58 : decode cX1_feed 58 = .ok (.iconst 3, 1) := dk_6 (dk_at dksX1_feed_2 10 rfl rfl)
theorem dX1_feed_59 : decode cX1_feed 59 = .ok (.iload 4, 2) := dk_21 4 (dk_at dksX1_feed_2 11 rfl rfl)
theorem dX1_feed_61 : decode cX1_feed 61 = .ok (.iastore, 1) := dk_79 (dk_at dksX1_feed_2 13 rfl rfl)
theorem dX1_feed_62 : decode cX1_feed 62 = .ok (.dup, 1) := dk_89 (dk_at dksX1_feed_2 14 rfl rfl)
theorem dX1_feed_63 : decode cX1_feed 63 = .ok (.iconst 4, 1) := dk_7 (dk_at dksX1_feed_2 15 rfl rfl)
theorem dX1_feed_64 : decode cX1_feed 64 = .ok (.iload 5, 2) := dk_21 5 (dk_at dksX1_feed_2 16 rfl rfl)
theorem dX1_feed_66 : decode cX1_feed 66 = .ok (.iastore, 1) := dk_79 (dk_at dksX1_feed_2 18 rfl rfl)
theorem dX1_feed_67 : decode cX1_feed 67 = .ok (.invokevirtual 184, 3) := dk_182 0 184 (dk_at dksX1_feed_2 19 rfl rfl)
theorem dX1_feed_70 : decode cX1_feed 70 = .ok (.aload_n 0, 1) := dk_42 (dk_at dksX1_feed_2 22 rfl rfl)
theorem dX1_feed_71 : decode cX1_feed 71 = .ok (.getfield 177, 3) := dk_180 0 177 (dk_at dksX1_feed_3 0 rfl rfl)
theorem dX1_feed_74 : decode cX1_feed 74 = .ok (.ireturn, 1) := dk_172 (dk_at dksX1_feed_3 3 rfl rfl)
abbrev cX1_bytesIn : ByteArray := prog_1_method_16_code
def yX1_bytesIn : MethodName := ⟨RX1, "bytesIn", "([I)I"⟩
def dkwX1_bytesIn_2 : List UInt8 := [3, 184, 0, 187, 96, 60, 132, 6, 248, 167, 255, 225, 132, 4, 1, 167, 255, 203, 27, 172]
abbrev dktX1_bytesIn_2 : List UInt8 := dkwX1_bytesIn_2 ++ []
def dkwX1_bytesIn_1 : List UInt8 := [54, 6, 21, 6, 155, 0, 32, 27, 21, 5, 21, 6, 122, 17, 0, 255, 126, 153, 0, 7, 4, 167, 0, 4]
abbrev dktX1_bytesIn_1 : List UInt8 := dkwX1_bytesIn_1 ++ dktX1_bytesIn_2
def dkwX1_bytesIn_0 : List UInt8 := [3, 60, 42, 77, 44, 190, 62, 3, 54, 4, 21, 4, 29, 162, 0, 53, 44, 21, 4, 46, 54, 5, 16, 24]
abbrev dktX1_bytesIn_0 : List UInt8 := dkwX1_bytesIn_0 ++ dktX1_bytesIn_1
theorem dksX1_bytesIn_0 : cX1_bytesIn.data.toList.drop 0 = dktX1_bytesIn_0 := by decide +kernel
theorem dksX1_bytesIn_1 : cX1_bytesIn.data.toList.drop 24 = dktX1_bytesIn_1 := dk_seg dksX1_bytesIn_0 24 rfl rfl
theorem dksX1_bytesIn_2 : cX1_bytesIn.data.toList.drop 48 = dktX1_bytesIn_2 := dk_seg dksX1_bytesIn_1 24 rfl rfl
theorem dX1_bytesIn_0 : decode cX1_bytesIn 0 = .ok (.iconst 0, 1) := dk_3 (dk_at dksX1_bytesIn_0 0 rfl rfl)
theorem dX1_bytesIn_1 : decode cX1_bytesIn 1 = .ok (.istore_n 1, 1) := dk_60 (dk_at dksX1_bytesIn_0 1 rfl rfl)
theorem dX1_bytesIn_2 : decode cX1_bytesIn 2 = .ok (.aload_n 0, 1) := dk_42 (dk_at dksX1_bytesIn_0 2 rfl rfl)
theorem dX1_bytesIn_3 : decode cX1_bytesIn 3 = .ok (.astore_n 2, 1) := dk_77 (dk_at dksX1_bytesIn_0 3 rfl rfl)
theorem dX1_bytesIn_4 : decode cX1_bytesIn 4 = .ok (.aload_n 2, 1) := dk_44 (dk_at dksX1_bytesIn_0 4 rfl rfl)
theorem dX1_bytesIn_5 : decode cX1_bytesIn 5 = .ok (.arraylength, 1) := dk_190 (dk_at dksX1_bytesIn_0 5 rfl rfl)
theorem dX1_bytesIn_6 : decode cX1_bytesIn 6 = .ok (.istore_n 3, 1) := dk_62 (dk_at dksX1_bytesIn_0 6 rfl rfl)
theorem dX1_bytesIn_7 : decode cX1_bytesIn 7 = .ok (.iconst 0, 1) := dk_3 (dk_at dksX1_bytesIn_0 7 rfl rfl)
theorem dX1_bytesIn_8 : decode cX1_bytesIn 8 = .ok (.istore 4, 2) := dk_54 4 (dk_at dksX1_bytesIn_0 8 rfl rfl)
theorem dX1_bytesIn_10 : decode cX1_bytesIn 10 = .ok (.iload 4, 2) := dk_21 4 (dk_at dksX1_bytesIn_0 10 rfl rfl)
theorem dX1_bytesIn_12 : decode cX1_bytesIn 12 = .ok (.iload_n 3, 1) := dk_29 (dk_at dksX1_bytesIn_0 12 rfl rfl)
theorem dX1_bytesIn_13 : decode cX1_bytesIn 13 = .ok (.if_icmp .ge 53, 3) := dk_162 0 53 (dk_at dksX1_bytesIn_0 13 rfl rfl)
theorem dX1_bytesIn_16 : decode cX1_bytesIn 16 = .ok (.aload_n 2, 1) := dk_44 (dk_at dksX1_bytesIn_0 16 rfl rfl)
theorem dX1_bytesIn_17 : decode cX1_bytesIn 17 = .ok (.iload 4, 2) := dk_21 4 (dk_at dksX1_bytesIn_0 17 rfl rfl)
theorem dX1_bytesIn_19 : decode cX1_bytesIn 19 = .ok (.iaload, 1) := dk_46 (dk_at dksX1_bytesIn_0 19 rfl rfl)
theorem dX1_bytesIn_20 : decode cX1_bytesIn 20 = .ok (.istore 5, 2) := dk_54 5 (dk_at dksX1_bytesIn_0 20 rfl rfl)
theorem dX1_bytesIn_22 : decode cX1_bytesIn 22 = .ok (.bipush 24, 2) := dk_16 24 (dk_at dksX1_bytesIn_0 22 rfl rfl)
theorem dX1_bytesIn_24 : decode cX1_bytesIn 24 = .ok (.istore 6, 2) := dk_54 6 (dk_at dksX1_bytesIn_1 0 rfl rfl)
theorem dX1_bytesIn_26 : decode cX1_bytesIn 26 = .ok (.iload 6, 2) := dk_21 6 (dk_at dksX1_bytesIn_1 2 rfl rfl)
theorem dX1_bytesIn_28 : decode cX1_bytesIn 28 = .ok (.ifCond .lt 32, 3) := dk_155 0 32 (dk_at dksX1_bytesIn_1 4 rfl rfl)
theorem dX1_bytesIn_31 : decode cX1_bytesIn 31 = .ok (.iload_n 1, 1) := dk_27 (dk_at dksX1_bytesIn_1 7 rfl rfl)
theorem dX1_bytesIn_32 : decode cX1_bytesIn 32 = .ok (.iload 5, 2) := dk_21 5 (dk_at dksX1_bytesIn_1 8 rfl rfl)
theorem dX1_bytesIn_34 : decode cX1_bytesIn 34 = .ok (.iload 6, 2) := dk_21 6 (dk_at dksX1_bytesIn_1 10 rfl rfl)
theorem dX1_bytesIn_36 : decode cX1_bytesIn 36 = .ok (.ishr, 1) := dk_122 (dk_at dksX1_bytesIn_1 12 rfl rfl)
theorem dX1_bytesIn_37 : decode cX1_bytesIn 37 = .ok (.sipush 255, 3) := dk_17 0 255 (dk_at dksX1_bytesIn_1 13 rfl rfl)
theorem dX1_bytesIn_40 : decode cX1_bytesIn 40 = .ok (.iand, 1) := dk_126 (dk_at dksX1_bytesIn_1 16 rfl rfl)
theorem dX1_bytesIn_41 : decode cX1_bytesIn 41 = .ok (.ifCond .eq 7, 3) := dk_153 0 7 (dk_at dksX1_bytesIn_1 17 rfl rfl)
theorem dX1_bytesIn_44 : decode cX1_bytesIn 44 = .ok (.iconst 1, 1) := dk_4 (dk_at dksX1_bytesIn_1 20 rfl rfl)
theorem dX1_bytesIn_45 : decode cX1_bytesIn 45 = .ok (.goto 4, 3) := dk_167 0 4 (dk_at dksX1_bytesIn_1 21 rfl rfl)
theorem dX1_bytesIn_48 : decode cX1_bytesIn 48 = .ok (.iconst 0, 1) := dk_3 (dk_at dksX1_bytesIn_2 0 rfl rfl)
theorem dX1_bytesIn_49 : decode cX1_bytesIn 49 = .ok (.invokestatic 187, 3) := dk_184 0 187 (dk_at dksX1_bytesIn_2 1 rfl rfl)
theorem dX1_bytesIn_52 : decode cX1_bytesIn 52 = .ok (.iadd, 1) := dk_96 (dk_at dksX1_bytesIn_2 4 rfl rfl)
theorem dX1_bytesIn_53 : decode cX1_bytesIn 53 = .ok (.istore_n 1, 1) := dk_60 (dk_at dksX1_bytesIn_2 5 rfl rfl)
theorem dX1_bytesIn_54 : decode cX1_bytesIn 54 = .ok (.iinc 6 (-8), 3) := dk_132 6 248 (dk_at dksX1_bytesIn_2 6 rfl rfl)
theorem dX1_bytesIn_57 : decode cX1_bytesIn 57 = .ok (.goto (-31), 3) := dk_167 255 225 (dk_at dksX1_bytesIn_2 9 rfl rfl)
theorem dX1_bytesIn_60 : decode cX1_bytesIn 60 = .ok (.iinc 4 1, 3) := dk_132 4 1 (dk_at dksX1_bytesIn_2 12 rfl rfl)
theorem dX1_bytesIn_63 : decode cX1_bytesIn 63 = .ok (.goto (-53), 3) := dk_167 255 203 (dk_at dksX1_bytesIn_2 15 rfl rfl)
theorem dX1_bytesIn_66 : decode cX1_bytesIn 66 = .ok (.iload_n 1, 1) := dk_27 (dk_at dksX1_bytesIn_2 18 rfl rfl)
theorem dX1_bytesIn_67 : decode cX1_bytesIn 67 = .ok (.ireturn, 1) := dk_172 (dk_at dksX1_bytesIn_2 19 rfl rfl)
abbrev cX1_one : ByteArray := prog_1_method_2_code
def yX1_one : MethodName := ⟨RX1, "one", "(Z)I"⟩
def dkwX1_one_0 : List UInt8 := [26, 153, 0, 7, 4, 167, 0, 4, 3, 172]
abbrev dktX1_one_0 : List UInt8 := dkwX1_one_0 ++ []
theorem dksX1_one_0 : cX1_one.data.toList.drop 0 = dktX1_one_0 := by decide +kernel
theorem dX1_one_0 : decode cX1_one 0 = .ok (.iload_n 0, 1) := dk_26 (dk_at dksX1_one_0 0 rfl rfl)
theorem dX1_one_1 : decode cX1_one 1 = .ok (.ifCond .eq 7, 3) := dk_153 0 7 (dk_at dksX1_one_0 1 rfl rfl)
theorem dX1_one_4 : decode cX1_one 4 = .ok (.iconst 1, 1) := dk_4 (dk_at dksX1_one_0 4 rfl rfl)
theorem dX1_one_5 : decode cX1_one 5 = .ok (.goto 4, 3) := dk_167 0 4 (dk_at dksX1_one_0 5 rfl rfl)
theorem dX1_one_8 : decode cX1_one 8 = .ok (.iconst 0, 1) := dk_3 (dk_at dksX1_one_0 8 rfl rfl)
theorem dX1_one_9 : decode cX1_one 9 = .ok (.ireturn, 1) := dk_172 (dk_at dksX1_one_0 9 rfl rfl)
abbrev cX1_puts : ByteArray := prog_1_method_17_code
def yX1_puts : MethodName := ⟨RX1, "puts", "([I)V"⟩
def dkwX1_puts_3 : List UInt8 := [132, 6, 248, 167, 255, 207, 132, 4, 1, 167, 255, 185, 177]
abbrev dktX1_puts_3 : List UInt8 := dkwX1_puts_3 ++ []
def dkwX1_puts_2 : List UInt8 := [42, 180, 0, 22, 42, 180, 0, 177, 21, 7, 145, 84, 42, 89, 180, 0, 177, 4, 96, 181, 0, 177]
abbrev dktX1_puts_2 : List UInt8 := dkwX1_puts_2 ++ dktX1_puts_3
def dkwX1_puts_1 : List UInt8 := [21, 6, 155, 0, 50, 21, 5, 21, 6, 122, 17, 0, 255, 126, 54, 7, 21, 7, 154, 0, 6, 167, 0, 25]
abbrev dktX1_puts_1 : List UInt8 := dkwX1_puts_1 ++ dktX1_puts_2
def dkwX1_puts_0 : List UInt8 := [43, 77, 44, 190, 62, 3, 54, 4, 21, 4, 29, 162, 0, 71, 44, 21, 4, 46, 54, 5, 16, 24, 54, 6]
abbrev dktX1_puts_0 : List UInt8 := dkwX1_puts_0 ++ dktX1_puts_1
theorem dksX1_puts_0 : cX1_puts.data.toList.drop 0 = dktX1_puts_0 := by decide +kernel
theorem dksX1_puts_1 : cX1_puts.data.toList.drop 24 = dktX1_puts_1 := dk_seg dksX1_puts_0 24 rfl rfl
theorem dksX1_puts_2 : cX1_puts.data.toList.drop 48 = dktX1_puts_2 := dk_seg dksX1_puts_1 24 rfl rfl
theorem dksX1_puts_3 : cX1_puts.data.toList.drop 70 = dktX1_puts_3 := dk_seg dksX1_puts_2 22 rfl rfl
theorem dX1_puts_0 : decode cX1_puts 0 = .ok (.aload_n 1, 1) := dk_43 (dk_at dksX1_puts_0 0 rfl rfl)
theorem dX1_puts_1 : decode cX1_puts 1 = .ok (.astore_n 2, 1) := dk_77 (dk_at dksX1_puts_0 1 rfl rfl)
theorem dX1_puts_2 : decode cX1_puts 2 = .ok (.aload_n 2, 1) := dk_44 (dk_at dksX1_puts_0 2 rfl rfl)
theorem dX1_puts_3 : decode cX1_puts 3 = .ok (.arraylength, 1) := dk_190 (dk_at dksX1_puts_0 3 rfl rfl)
theorem dX1_puts_4 : decode cX1_puts 4 = .ok (.istore_n 3, 1) := dk_62 (dk_at dksX1_puts_0 4 rfl rfl)
theorem dX1_puts_5 : decode cX1_puts 5 = .ok (.iconst 0, 1) := dk_3 (dk_at dksX1_puts_0 5 rfl rfl)
theorem dX1_puts_6 : decode cX1_puts 6 = .ok (.istore 4, 2) := dk_54 4 (dk_at dksX1_puts_0 6 rfl rfl)
theorem dX1_puts_8 : decode cX1_puts 8 = .ok (.iload 4, 2) := dk_21 4 (dk_at dksX1_puts_0 8 rfl rfl)
theorem dX1_puts_10 : decode cX1_puts 10 = .ok (.iload_n 3, 1) := dk_29 (dk_at dksX1_puts_0 10 rfl rfl)
theorem dX1_puts_11 : decode cX1_puts 11 = .ok (.if_icmp .ge 71, 3) := dk_162 0 71 (dk_at dksX1_puts_0 11 rfl rfl)
theorem dX1_puts_14 : decode cX1_puts 14 = .ok (.aload_n 2, 1) := dk_44 (dk_at dksX1_puts_0 14 rfl rfl)
theorem dX1_puts_15 : decode cX1_puts 15 = .ok (.iload 4, 2) := dk_21 4 (dk_at dksX1_puts_0 15 rfl rfl)
theorem dX1_puts_17 : decode cX1_puts 17 = .ok (.iaload, 1) := dk_46 (dk_at dksX1_puts_0 17 rfl rfl)
theorem dX1_puts_18 : decode cX1_puts 18 = .ok (.istore 5, 2) := dk_54 5 (dk_at dksX1_puts_0 18 rfl rfl)
theorem dX1_puts_20 : decode cX1_puts 20 = .ok (.bipush 24, 2) := dk_16 24 (dk_at dksX1_puts_0 20 rfl rfl)
theorem dX1_puts_22 : decode cX1_puts 22 = .ok (.istore 6, 2) := dk_54 6 (dk_at dksX1_puts_0 22 rfl rfl)
theorem dX1_puts_24 : decode cX1_puts 24 = .ok (.iload 6, 2) := dk_21 6 (dk_at dksX1_puts_1 0 rfl rfl)
theorem dX1_puts_26 : decode cX1_puts 26 = .ok (.ifCond .lt 50, 3) := dk_155 0 50 (dk_at dksX1_puts_1 2 rfl rfl)
theorem dX1_puts_29 : decode cX1_puts 29 = .ok (.iload 5, 2) := dk_21 5 (dk_at dksX1_puts_1 5 rfl rfl)
theorem dX1_puts_31 : decode cX1_puts 31 = .ok (.iload 6, 2) := dk_21 6 (dk_at dksX1_puts_1 7 rfl rfl)
theorem dX1_puts_33 : decode cX1_puts 33 = .ok (.ishr, 1) := dk_122 (dk_at dksX1_puts_1 9 rfl rfl)
theorem dX1_puts_34 : decode cX1_puts 34 = .ok (.sipush 255, 3) := dk_17 0 255 (dk_at dksX1_puts_1 10 rfl rfl)
theorem dX1_puts_37 : decode cX1_puts 37 = .ok (.iand, 1) := dk_126 (dk_at dksX1_puts_1 13 rfl rfl)
theorem dX1_puts_38 : decode cX1_puts 38 = .ok (.istore 7, 2) := dk_54 7 (dk_at dksX1_puts_1 14 rfl rfl)
theorem dX1_puts_40 : decode cX1_puts 40 = .ok (.iload 7, 2) := dk_21 7 (dk_at dksX1_puts_1 16 rfl rfl)
theorem dX1_puts_42 : decode cX1_puts 42 = .ok (.ifCond .ne 6, 3) := dk_154 0 6 (dk_at dksX1_puts_1 18 rfl rfl)
theorem dX1_puts_45 : decode cX1_puts 45 = .ok (.goto 25, 3) := dk_167 0 25 (dk_at dksX1_puts_1 21 rfl rfl)
theorem dX1_puts_48 : decode cX1_puts 48 = .ok (.aload_n 0, 1) := dk_42 (dk_at dksX1_puts_2 0 rfl rfl)
theorem dX1_puts_49 : decode cX1_puts 49 = .ok (.getfield 22, 3) := dk_180 0 22 (dk_at dksX1_puts_2 1 rfl rfl)
theorem dX1_puts_52 : decode cX1_puts 52 = .ok (.aload_n 0, 1) := dk_42 (dk_at dksX1_puts_2 4 rfl rfl)
theorem dX1_puts_53 : decode cX1_puts 53 = .ok (.getfield 177, 3) := dk_180 0 177 (dk_at dksX1_puts_2 5 rfl rfl)
theorem dX1_puts_56 : decode cX1_puts 56 = .ok (.iload 7, 2) := dk_21 7 (dk_at dksX1_puts_2 8 rfl rfl)
theorem dX1_puts_58 : decode cX1_puts 58 = .ok (.i2b, 1) := dk_145 (dk_at dksX1_puts_2 10 rfl rfl)
theorem dX1_puts_59 : decode cX1_puts 59 = .ok (.bastore, 1) := dk_84 (dk_at dksX1_puts_2 11 rfl rfl)
theorem dX1_puts_60 : decode cX1_puts 60 = .ok (.aload_n 0, 1) := dk_42 (dk_at dksX1_puts_2 12 rfl rfl)
theorem dX1_puts_61 : decode cX1_puts 61 = .ok (.dup, 1) := dk_89 (dk_at dksX1_puts_2 13 rfl rfl)
theorem dX1_puts_62 : decode cX1_puts 62 = .ok (.getfield 177, 3) := dk_180 0 177 (dk_at dksX1_puts_2 14 rfl rfl)
theorem dX1_puts_65 : decode cX1_puts 65 = .ok (.iconst 1, 1) := dk_4 (dk_at dksX1_puts_2 17 rfl rfl)
theorem dX1_puts_66 : decode cX1_puts 66 = .ok (.iadd, 1) := dk_96 (dk_at dksX1_puts_2 18 rfl rfl)
theorem dX1_puts_67 : decode cX1_puts 67 = .ok (.putfield 177, 3) := dk_181 0 177 (dk_at dksX1_puts_2 19 rfl rfl)
theorem dX1_puts_70 : decode cX1_puts 70 = .ok (.iinc 6 (-8), 3) := dk_132 6 248 (dk_at dksX1_puts_3 0 rfl rfl)
theorem dX1_puts_73 : decode cX1_puts 73 = .ok (.goto (-49), 3) := dk_167 255 207 (dk_at dksX1_puts_3 3 rfl rfl)
theorem dX1_puts_76 : decode cX1_puts 76 = .ok (.iinc 4 1, 3) := dk_132 4 1 (dk_at dksX1_puts_3 6 rfl rfl)
theorem dX1_puts_79 : decode cX1_puts 79 = .ok (.goto (-71), 3) := dk_167 255 185 (dk_at dksX1_puts_3 9 rfl rfl)
theorem dX1_puts_82 : decode cX1_puts 82 = .ok (.return_, 1) := dk_177 (dk_at dksX1_puts_3 12 rfl rfl)
abbrev cX1_load : ByteArray := prog_1_method_19_code
def yX1_load : MethodName := ⟨RX1, "load", "()I"⟩
def dkwX1_load_4 : List UInt8 := [185, 0, 162, 1, 0, 172]
abbrev dktX1_load_4 : List UInt8 := dkwX1_load_4 ++ []
def dkwX1_load_3 : List UInt8 := [42, 180, 0, 18, 27, 1, 83, 132, 1, 1, 167, 255, 241, 42, 180, 0, 37, 180, 0, 169]
abbrev dktX1_load_3 : List UInt8 := dkwX1_load_3 ++ dktX1_load_4
def dkwX1_load_2 : List UInt8 := [181, 0, 177, 45, 191, 42, 180, 0, 10, 182, 0, 211, 42, 3, 181, 0, 120, 3, 60, 27, 5, 162, 0, 16]
abbrev dktX1_load_2 : List UInt8 := dkwX1_load_2 ++ dktX1_load_3
def dkwX1_load_1 : List UInt8 := [181, 0, 177, 167, 0, 25, 76, 42, 43, 182, 0, 207, 61, 42, 3, 181, 0, 177, 28, 172, 78, 42, 3]
abbrev dktX1_load_1 : List UInt8 := dkwX1_load_1 ++ dktX1_load_2
def dkwX1_load_0 : List UInt8 := [42, 2, 181, 0, 26, 42, 187, 0, 199, 89, 42, 183, 0, 201, 182, 0, 204, 181, 0, 37, 42, 3]
abbrev dktX1_load_0 : List UInt8 := dkwX1_load_0 ++ dktX1_load_1
theorem dksX1_load_0 : cX1_load.data.toList.drop 0 = dktX1_load_0 := by decide +kernel
theorem dksX1_load_1 : cX1_load.data.toList.drop 22 = dktX1_load_1 := dk_seg dksX1_load_0 22 rfl rfl
theorem dksX1_load_2 : cX1_load.data.toList.drop 45 = dktX1_load_2 := dk_seg dksX1_load_1 23 rfl rfl
theorem dksX1_load_3 : cX1_load.data.toList.drop 69 = dktX1_load_3 := dk_seg dksX1_load_2 24 rfl rfl
theorem dksX1_load_4 : cX1_load.data.toList.drop 89 = dktX1_load_4 := dk_seg dksX1_load_3 20 rfl rfl
theorem dX1_load_0 : decode cX1_load 0 = .ok (.aload_n 0, 1) := dk_42 (dk_at dksX1_load_0 0 rfl rfl)
theorem dX1_load_1 : decode cX1_load 1 = .ok (.iconst (-1), 1) := dk_2 (dk_at dksX1_load_0 1 rfl rfl)
theorem dX1_load_2 : decode cX1_load 2 = .ok (.putfield 26, 3) := dk_181 0 26 (dk_at dksX1_load_0 2 rfl rfl)
theorem dX1_load_5 : decode cX1_load 5 = .ok (.aload_n 0, 1) := dk_42 (dk_at dksX1_load_0 5 rfl rfl)
theorem dX1_load_6 : decode cX1_load 6 = .ok (.new 199, 3) := dk_187 0 199 (dk_at dksX1_load_0 6 rfl rfl)
theorem dX1_load_9 : decode cX1_load 9 = .ok (.dup, 1) := dk_89 (dk_at dksX1_load_0 9 rfl rfl)
theorem dX1_load_10 : decode cX1_load 10 = .ok (.aload_n 0, 1) := dk_42 (dk_at dksX1_load_0 10 rfl rfl)
theorem dX1_load_11 : decode cX1_load 11 = .ok (.invokespecial 201, 3) := dk_183 0 201 (dk_at dksX1_load_0 11 rfl rfl)
theorem dX1_load_14 : decode cX1_load 14 = .ok (.invokevirtual 204, 3) := dk_182 0 204 (dk_at dksX1_load_0 14 rfl rfl)
theorem dX1_load_17 : decode cX1_load 17 = .ok (.putfield 37, 3) := dk_181 0 37 (dk_at dksX1_load_0 17 rfl rfl)
theorem dX1_load_20 : decode cX1_load 20 = .ok (.aload_n 0, 1) := dk_42 (dk_at dksX1_load_0 20 rfl rfl)
theorem dX1_load_21 : decode cX1_load 21 = .ok (.iconst 0, 1) := dk_3 (dk_at dksX1_load_0 21 rfl rfl)
theorem dX1_load_22 : decode cX1_load 22 = .ok (.putfield 177, 3) := dk_181 0 177 (dk_at dksX1_load_1 0 rfl rfl)
theorem dX1_load_25 : decode cX1_load 25 = .ok (.goto 25, 3) := dk_167 0 25 (dk_at dksX1_load_1 3 rfl rfl)
theorem dX1_load_28 : decode cX1_load 28 = .ok (.astore_n 1, 1) := dk_76 (dk_at dksX1_load_1 6 rfl rfl)
theorem dX1_load_29 : decode cX1_load 29 = .ok (.aload_n 0, 1) := dk_42 (dk_at dksX1_load_1 7 rfl rfl)
theorem dX1_load_30 : decode cX1_load 30 = .ok (.aload_n 1, 1) := dk_43 (dk_at dksX1_load_1 8 rfl rfl)
theorem dX1_load_31 : decode cX1_load 31 = .ok (.invokevirtual 207, 3) := dk_182 0 207 (dk_at dksX1_load_1 9 rfl rfl)
theorem dX1_load_34 : decode cX1_load 34 = .ok (.istore_n 2, 1) := dk_61 (dk_at dksX1_load_1 12 rfl rfl)
theorem dX1_load_35 : decode cX1_load 35 = .ok (.aload_n 0, 1) := dk_42 (dk_at dksX1_load_1 13 rfl rfl)
theorem dX1_load_36 : decode cX1_load 36 = .ok (.iconst 0, 1) := dk_3 (dk_at dksX1_load_1 14 rfl rfl)
theorem dX1_load_37 : decode cX1_load 37 = .ok (.putfield 177, 3) := dk_181 0 177 (dk_at dksX1_load_1 15 rfl rfl)
theorem dX1_load_40 : decode cX1_load 40 = .ok (.iload_n 2, 1) := dk_28 (dk_at dksX1_load_1 18 rfl rfl)
theorem dX1_load_41 : decode cX1_load 41 = .ok (.ireturn, 1) := dk_172 (dk_at dksX1_load_1 19 rfl rfl)
theorem dX1_load_42 : decode cX1_load 42 = .ok (.astore_n 3, 1) := dk_78 (dk_at dksX1_load_1 20 rfl rfl)
theorem dX1_load_43 : decode cX1_load 43 = .ok (.aload_n 0, 1) := dk_42 (dk_at dksX1_load_1 21 rfl rfl)
theorem dX1_load_44 : decode cX1_load 44 = .ok (.iconst 0, 1) := dk_3 (dk_at dksX1_load_1 22 rfl rfl)
theorem dX1_load_45 : decode cX1_load 45 = .ok (.putfield 177, 3) := dk_181 0 177 (dk_at dksX1_load_2 0 rfl rfl)
theorem dX1_load_48 : decode cX1_load 48 = .ok (.aload_n 3, 1) := dk_45 (dk_at dksX1_load_2 3 rfl rfl)
theorem dX1_load_49 : decode cX1_load 49 = .ok (.athrow, 1) := dk_191 (dk_at dksX1_load_2 4 rfl rfl)
theorem dX1_load_50 : decode cX1_load 50 = .ok (.aload_n 0, 1) := dk_42 (dk_at dksX1_load_2 5 rfl rfl)
theorem dX1_load_51 : decode cX1_load 51 = .ok (.getfield 10, 3) := dk_180 0 10 (dk_at dksX1_load_2 6 rfl rfl)
theorem dX1_load_54 : decode cX1_load 54 = .ok (.invokevirtual 211, 3) := dk_182 0 211 (dk_at dksX1_load_2 9 rfl rfl)
theorem dX1_load_57 : decode cX1_load 57 = .ok (.aload_n 0, 1) := dk_42 (dk_at dksX1_load_2 12 rfl rfl)
theorem dX1_load_58 : decode cX1_load 58 = .ok (.iconst 0, 1) := dk_3 (dk_at dksX1_load_2 13 rfl rfl)
theorem dX1_load_59 : decode cX1_load 59 = .ok (.putfield 120, 3) := dk_181 0 120 (dk_at dksX1_load_2 14 rfl rfl)
theorem dX1_load_62 : decode cX1_load 62 = .ok (.iconst 0, 1) := dk_3 (dk_at dksX1_load_2 17 rfl rfl)
theorem dX1_load_63 : decode cX1_load 63 = .ok (.istore_n 1, 1) := dk_60 (dk_at dksX1_load_2 18 rfl rfl)
theorem dX1_load_64 : decode cX1_load 64 = .ok (.iload_n 1, 1) := dk_27 (dk_at dksX1_load_2 19 rfl rfl)
theorem dX1_load_65 : decode cX1_load 65 = .ok (.iconst 2, 1) := dk_5 (dk_at dksX1_load_2 20 rfl rfl)
theorem dX1_load_66 : decode cX1_load 66 = .ok (.if_icmp .ge 16, 3) := dk_162 0 16 (dk_at dksX1_load_2 21 rfl rfl)
theorem dX1_load_69 : decode cX1_load 69 = .ok (.aload_n 0, 1) := dk_42 (dk_at dksX1_load_3 0 rfl rfl)
theorem dX1_load_70 : decode cX1_load 70 = .ok (.getfield 18, 3) := dk_180 0 18 (dk_at dksX1_load_3 1 rfl rfl)
theorem dX1_load_73 : decode cX1_load 73 = .ok (.iload_n 1, 1) := dk_27 (dk_at dksX1_load_3 4 rfl rfl)
theorem dX1_load_74 : decode cX1_load 74 = .ok (.aconst_null, 1) := dk_1 (dk_at dksX1_load_3 5 rfl rfl)
theorem dX1_load_75 : decode cX1_load 75 = .ok (.aastore, 1) := dk_83 (dk_at dksX1_load_3 6 rfl rfl)
theorem dX1_load_76 : decode cX1_load 76 = .ok (.iinc 1 1, 3) := dk_132 1 1 (dk_at dksX1_load_3 7 rfl rfl)
theorem dX1_load_79 : decode cX1_load 79 = .ok (.goto (-15), 3) := dk_167 255 241 (dk_at dksX1_load_3 10 rfl rfl)
theorem dX1_load_82 : decode cX1_load 82 = .ok (.aload_n 0, 1) := dk_42 (dk_at dksX1_load_3 13 rfl rfl)
theorem dX1_load_83 : decode cX1_load 83 = .ok (.getfield 37, 3) := dk_180 0 37 (dk_at dksX1_load_3 14 rfl rfl)
theorem dX1_load_86 : decode cX1_load 86 = .ok (.getfield 169, 3) := dk_180 0 169 (dk_at dksX1_load_3 17 rfl rfl)
theorem dX1_load_89 : decode cX1_load 89 = .ok (.invokeinterface 162 1, 5) := by decide +kernel
theorem dX1_load_94 : decode cX1_load 94 = .ok (.ireturn, 1) := dk_172 (dk_at dksX1_load_4 5 rfl rfl)
abbrev cX1_in : ByteArray := prog_1_method_1_code
def yX1_in : MethodName := ⟨RX1, "in", "(JJJ)Z"⟩
def dkwX1_in_0 : List UInt8 := [30, 32, 148, 155, 0, 14, 30, 22, 4, 148, 157, 0, 7, 4, 167, 0, 4, 3, 172]
abbrev dktX1_in_0 : List UInt8 := dkwX1_in_0 ++ []
theorem dksX1_in_0 : cX1_in.data.toList.drop 0 = dktX1_in_0 := by decide +kernel
theorem dX1_in_0 : decode cX1_in 0 = .ok (.lload_n 0, 1) := dk_30 (dk_at dksX1_in_0 0 rfl rfl)
theorem dX1_in_1 : decode cX1_in 1 = .ok (.lload_n 2, 1) := dk_32 (dk_at dksX1_in_0 1 rfl rfl)
theorem dX1_in_2 : decode cX1_in 2 = .ok (.lcmp, 1) := dk_148 (dk_at dksX1_in_0 2 rfl rfl)
theorem dX1_in_3 : decode cX1_in 3 = .ok (.ifCond .lt 14, 3) := dk_155 0 14 (dk_at dksX1_in_0 3 rfl rfl)
theorem dX1_in_6 : decode cX1_in 6 = .ok (.lload_n 0, 1) := dk_30 (dk_at dksX1_in_0 6 rfl rfl)
theorem dX1_in_7 : decode cX1_in 7 = .ok (.lload 4, 2) := dk_22 4 (dk_at dksX1_in_0 7 rfl rfl)
theorem dX1_in_9 : decode cX1_in 9 = .ok (.lcmp, 1) := dk_148 (dk_at dksX1_in_0 9 rfl rfl)
theorem dX1_in_10 : decode cX1_in 10 = .ok (.ifCond .gt 7, 3) := dk_157 0 7 (dk_at dksX1_in_0 10 rfl rfl)
theorem dX1_in_13 : decode cX1_in 13 = .ok (.iconst 1, 1) := dk_4 (dk_at dksX1_in_0 13 rfl rfl)
theorem dX1_in_14 : decode cX1_in 14 = .ok (.goto 4, 3) := dk_167 0 4 (dk_at dksX1_in_0 14 rfl rfl)
theorem dX1_in_17 : decode cX1_in 17 = .ok (.iconst 0, 1) := dk_3 (dk_at dksX1_in_0 17 rfl rfl)
theorem dX1_in_18 : decode cX1_in 18 = .ok (.ireturn, 1) := dk_172 (dk_at dksX1_in_0 18 rfl rfl)
abbrev cX1_failed : ByteArray := prog_1_method_18_code
def yX1_failed : MethodName := ⟨RX1, "failed", "(LLoopSignals$Unreadable;)I"⟩
def dkwX1_failed_0 : List UInt8 := [42, 43, 180, 0, 191, 181, 0, 26, 16, 236, 43, 180, 0, 196, 100, 172]
abbrev dktX1_failed_0 : List UInt8 := dkwX1_failed_0 ++ []
theorem dksX1_failed_0 : cX1_failed.data.toList.drop 0 = dktX1_failed_0 := by decide +kernel
theorem dX1_failed_0 : decode cX1_failed 0 = .ok (.aload_n 0, 1) := dk_42 (dk_at dksX1_failed_0 0 rfl rfl)
theorem dX1_failed_1 : decode cX1_failed 1 = .ok (.aload_n 1, 1) := dk_43 (dk_at dksX1_failed_0 1 rfl rfl)
theorem dX1_failed_2 : decode cX1_failed 2 = .ok (.getfield 191, 3) := dk_180 0 191 (dk_at dksX1_failed_0 2 rfl rfl)
theorem dX1_failed_5 : decode cX1_failed 5 = .ok (.putfield 26, 3) := dk_181 0 26 (dk_at dksX1_failed_0 5 rfl rfl)
theorem dX1_failed_8 : decode cX1_failed 8 = .ok (.bipush (-20), 2) := dk_16 236 (dk_at dksX1_failed_0 8 rfl rfl)
theorem dX1_failed_10 : decode cX1_failed 10 = .ok (.aload_n 1, 1) := dk_43 (dk_at dksX1_failed_0 10 rfl rfl)
theorem dX1_failed_11 : decode cX1_failed 11 = .ok (.getfield 196, 3) := dk_180 0 196 (dk_at dksX1_failed_0 11 rfl rfl)
theorem dX1_failed_14 : decode cX1_failed 14 = .ok (.isub, 1) := dk_100 (dk_at dksX1_failed_0 14 rfl rfl)
theorem dX1_failed_15 : decode cX1_failed 15 = .ok (.ireturn, 1) := dk_172 (dk_at dksX1_failed_0 15 rfl rfl)
abbrev cX1_play : ByteArray := prog_1_method_20_code
def yX1_play : MethodName := ⟨RX1, "play", "()I"⟩
def dkwX1_play_3 : List UInt8 := [42, 180, 0, 220, 172]
abbrev dktX1_play_3 : List UInt8 := dkwX1_play_3 ++ []
def dkwX1_play_2 : List UInt8 := [25, 4, 191, 42, 42, 180, 0, 37, 182, 0, 123, 182, 0, 133, 42, 3, 181, 0, 220, 43, 182, 0, 223, 61]
abbrev dktX1_play_2 : List UInt8 := dkwX1_play_2 ++ dktX1_play_3
def dkwX1_play_1 : List UInt8 := [167, 0, 27, 77, 42, 44, 182, 0, 207, 62, 42, 3, 181, 0, 177, 29, 172, 58, 4, 42, 3, 181, 0, 177]
abbrev dktX1_play_1 : List UInt8 := dkwX1_play_1 ++ dktX1_play_2
def dkwX1_play_0 : List UInt8 := [42, 2, 181, 0, 26, 187, 0, 214, 89, 42, 183, 0, 216, 182, 0, 217, 76, 42, 3, 181, 0, 177]
abbrev dktX1_play_0 : List UInt8 := dkwX1_play_0 ++ dktX1_play_1
theorem dksX1_play_0 : cX1_play.data.toList.drop 0 = dktX1_play_0 := by decide +kernel
theorem dksX1_play_1 : cX1_play.data.toList.drop 22 = dktX1_play_1 := dk_seg dksX1_play_0 22 rfl rfl
theorem dksX1_play_2 : cX1_play.data.toList.drop 46 = dktX1_play_2 := dk_seg dksX1_play_1 24 rfl rfl
theorem dksX1_play_3 : cX1_play.data.toList.drop 70 = dktX1_play_3 := dk_seg dksX1_play_2 24 rfl rfl
theorem dX1_play_0 : decode cX1_play 0 = .ok (.aload_n 0, 1) := dk_42 (dk_at dksX1_play_0 0 rfl rfl)
theorem dX1_play_1 : decode cX1_play 1 = .ok (.iconst (-1), 1) := dk_2 (dk_at dksX1_play_0 1 rfl rfl)
theorem dX1_play_2 : decode cX1_play 2 = .ok (.putfield 26, 3) := dk_181 0 26 (dk_at dksX1_play_0 2 rfl rfl)
theorem dX1_play_5 : decode cX1_play 5 = .ok (.new 214, 3) := dk_187 0 214 (dk_at dksX1_play_0 5 rfl rfl)
theorem dX1_play_8 : decode cX1_play 8 = .ok (.dup, 1) := dk_89 (dk_at dksX1_play_0 8 rfl rfl)
theorem dX1_play_9 : decode cX1_play 9 = .ok (.aload_n 0, 1) := dk_42 (dk_at dksX1_play_0 9 rfl rfl)
theorem dX1_play_10 : decode cX1_play 10 = .ok (.invokespecial 216, 3) := dk_183 0 216 (dk_at dksX1_play_0 10 rfl rfl)
theorem dX1_play_13 : decode cX1_play 13 = .ok (.invokevirtual 217, 3) := dk_182 0 217 (dk_at dksX1_play_0 13 rfl rfl)
theorem dX1_play_16 : decode cX1_play 16 = .ok (.astore_n 1, 1) := dk_76 (dk_at dksX1_play_0 16 rfl rfl)
theorem dX1_play_17 : decode cX1_play 17 = .ok (.aload_n 0, 1) := dk_42 (dk_at dksX1_play_0 17 rfl rfl)
theorem dX1_play_18 : decode cX1_play 18 = .ok (.iconst 0, 1) := dk_3 (dk_at dksX1_play_0 18 rfl rfl)
theorem dX1_play_19 : decode cX1_play 19 = .ok (.putfield 177, 3) := dk_181 0 177 (dk_at dksX1_play_0 19 rfl rfl)
theorem dX1_play_22 : decode cX1_play 22 = .ok (.goto 27, 3) := dk_167 0 27 (dk_at dksX1_play_1 0 rfl rfl)
theorem dX1_play_25 : decode cX1_play 25 = .ok (.astore_n 2, 1) := dk_77 (dk_at dksX1_play_1 3 rfl rfl)
theorem dX1_play_26 : decode cX1_play 26 = .ok (.aload_n 0, 1) := dk_42 (dk_at dksX1_play_1 4 rfl rfl)
theorem dX1_play_27 : decode cX1_play 27 = .ok (.aload_n 2, 1) := dk_44 (dk_at dksX1_play_1 5 rfl rfl)
theorem dX1_play_28 : decode cX1_play 28 = .ok (.invokevirtual 207, 3) := dk_182 0 207 (dk_at dksX1_play_1 6 rfl rfl)
theorem dX1_play_31 : decode cX1_play 31 = .ok (.istore_n 3, 1) := dk_62 (dk_at dksX1_play_1 9 rfl rfl)
theorem dX1_play_32 : decode cX1_play 32 = .ok (.aload_n 0, 1) := dk_42 (dk_at dksX1_play_1 10 rfl rfl)
theorem dX1_play_33 : decode cX1_play 33 = .ok (.iconst 0, 1) := dk_3 (dk_at dksX1_play_1 11 rfl rfl)
theorem dX1_play_34 : decode cX1_play 34 = .ok (.putfield 177, 3) := dk_181 0 177 (dk_at dksX1_play_1 12 rfl rfl)
theorem dX1_play_37 : decode cX1_play 37 = .ok (.iload_n 3, 1) := dk_29 (dk_at dksX1_play_1 15 rfl rfl)
theorem dX1_play_38 : decode cX1_play 38 = .ok (.ireturn, 1) := dk_172 (dk_at dksX1_play_1 16 rfl rfl)
theorem dX1_play_39 : decode cX1_play 39 = .ok (.astore 4, 2) := dk_58 4 (dk_at dksX1_play_1 17 rfl rfl)
theorem dX1_play_41 : decode cX1_play 41 = .ok (.aload_n 0, 1) := dk_42 (dk_at dksX1_play_1 19 rfl rfl)
theorem dX1_play_42 : decode cX1_play 42 = .ok (.iconst 0, 1) := dk_3 (dk_at dksX1_play_1 20 rfl rfl)
theorem dX1_play_43 : decode cX1_play 43 = .ok (.putfield 177, 3) := dk_181 0 177 (dk_at dksX1_play_1 21 rfl rfl)
theorem dX1_play_46 : decode cX1_play 46 = .ok (.aload 4, 2) := dk_25 4 (dk_at dksX1_play_2 0 rfl rfl)
theorem dX1_play_48 : decode cX1_play 48 = .ok (.athrow, 1) := dk_191 (dk_at dksX1_play_2 2 rfl rfl)
theorem dX1_play_49 : decode cX1_play 49 = .ok (.aload_n 0, 1) := dk_42 (dk_at dksX1_play_2 3 rfl rfl)
theorem dX1_play_50 : decode cX1_play 50 = .ok (.aload_n 0, 1) := dk_42 (dk_at dksX1_play_2 4 rfl rfl)
theorem dX1_play_51 : decode cX1_play 51 = .ok (.getfield 37, 3) := dk_180 0 37 (dk_at dksX1_play_2 5 rfl rfl)
theorem dX1_play_54 : decode cX1_play 54 = .ok (.invokevirtual 123, 3) := dk_182 0 123 (dk_at dksX1_play_2 8 rfl rfl)
theorem dX1_play_57 : decode cX1_play 57 = .ok (.invokevirtual 133, 3) := dk_182 0 133 (dk_at dksX1_play_2 11 rfl rfl)
theorem dX1_play_60 : decode cX1_play 60 = .ok (.aload_n 0, 1) := dk_42 (dk_at dksX1_play_2 14 rfl rfl)
theorem dX1_play_61 : decode cX1_play 61 = .ok (.iconst 0, 1) := dk_3 (dk_at dksX1_play_2 15 rfl rfl)
theorem dX1_play_62 : decode cX1_play 62 = .ok (.putfield 220, 3) := dk_181 0 220 (dk_at dksX1_play_2 16 rfl rfl)
theorem dX1_play_65 : decode cX1_play 65 = .ok (.aload_n 1, 1) := dk_43 (dk_at dksX1_play_2 19 rfl rfl)
theorem dX1_play_66 : decode cX1_play 66 = .ok (.invokevirtual 223, 3) := dk_182 0 223 (dk_at dksX1_play_2 20 rfl rfl)
theorem dX1_play_69 : decode cX1_play 69 = .ok (.istore_n 2, 1) := dk_61 (dk_at dksX1_play_2 23 rfl rfl)
theorem dX1_play_70 : decode cX1_play 70 = .ok (.aload_n 0, 1) := dk_42 (dk_at dksX1_play_3 0 rfl rfl)
theorem dX1_play_71 : decode cX1_play 71 = .ok (.getfield 220, 3) := dk_180 0 220 (dk_at dksX1_play_3 1 rfl rfl)
theorem dX1_play_74 : decode cX1_play 74 = .ok (.ireturn, 1) := dk_172 (dk_at dksX1_play_3 4 rfl rfl)
abbrev cX1_act : ByteArray := prog_1_method_6_code
def yX1_act : MethodName := ⟨RX1, "act", "(LLoopSignals$Junction;)V"⟩
def dkwX1_act_1 : List UInt8 := [182, 0, 116, 192, 0, 16, 77, 177]
abbrev dktX1_act_1 : List UInt8 := dkwX1_act_1 ++ []
def dkwX1_act_0 : List UInt8 := [42, 180, 0, 10, 43, 182, 0, 108, 42, 180, 0, 10, 182, 0, 112, 16, 8, 164, 0, 14, 42, 180, 0, 10]
abbrev dktX1_act_0 : List UInt8 := dkwX1_act_0 ++ dktX1_act_1
theorem dksX1_act_0 : cX1_act.data.toList.drop 0 = dktX1_act_0 := by decide +kernel
theorem dksX1_act_1 : cX1_act.data.toList.drop 24 = dktX1_act_1 := dk_seg dksX1_act_0 24 rfl rfl
theorem dX1_act_0 : decode cX1_act 0 = .ok (.aload_n 0, 1) := dk_42 (dk_at dksX1_act_0 0 rfl rfl)
theorem dX1_act_1 : decode cX1_act 1 = .ok (.getfield 10, 3) := dk_180 0 10 (dk_at dksX1_act_0 1 rfl rfl)
theorem dX1_act_4 : decode cX1_act 4 = .ok (.aload_n 1, 1) := dk_43 (dk_at dksX1_act_0 4 rfl rfl)
theorem dX1_act_5 : decode cX1_act 5 = .ok (.invokevirtual 108, 3) := dk_182 0 108 (dk_at dksX1_act_0 5 rfl rfl)
theorem dX1_act_8 : decode cX1_act 8 = .ok (.aload_n 0, 1) := dk_42 (dk_at dksX1_act_0 8 rfl rfl)
theorem dX1_act_9 : decode cX1_act 9 = .ok (.getfield 10, 3) := dk_180 0 10 (dk_at dksX1_act_0 9 rfl rfl)
theorem dX1_act_12 : decode cX1_act 12 = .ok (.invokevirtual 112, 3) := dk_182 0 112 (dk_at dksX1_act_0 12 rfl rfl)
theorem dX1_act_15 : decode cX1_act 15 = .ok (.bipush 8, 2) := dk_16 8 (dk_at dksX1_act_0 15 rfl rfl)
theorem dX1_act_17 : decode cX1_act 17 = .ok (.if_icmp .le 14, 3) := dk_164 0 14 (dk_at dksX1_act_0 17 rfl rfl)
theorem dX1_act_20 : decode cX1_act 20 = .ok (.aload_n 0, 1) := dk_42 (dk_at dksX1_act_0 20 rfl rfl)
theorem dX1_act_21 : decode cX1_act 21 = .ok (.getfield 10, 3) := dk_180 0 10 (dk_at dksX1_act_0 21 rfl rfl)
theorem dX1_act_24 : decode cX1_act 24 = .ok (.invokevirtual 116, 3) := dk_182 0 116 (dk_at dksX1_act_1 0 rfl rfl)
theorem dX1_act_27 : decode cX1_act 27 = .ok (.checkcast 16, 3) := dk_192 0 16 (dk_at dksX1_act_1 3 rfl rfl)
theorem dX1_act_30 : decode cX1_act 30 = .ok (.astore_n 2, 1) := dk_77 (dk_at dksX1_act_1 6 rfl rfl)
theorem dX1_act_31 : decode cX1_act 31 = .ok (.return_, 1) := dk_177 (dk_at dksX1_act_1 7 rfl rfl)
abbrev cX1_refuses : ByteArray := prog_1_method_7_code
def yX1_refuses : MethodName := ⟨RX1, "refuses", "(I)I"⟩
def dkwX1_refuses_0 : List UInt8 := [27, 156, 0, 13, 42, 89, 180, 0, 120, 4, 96, 181, 0, 120, 27, 172]
abbrev dktX1_refuses_0 : List UInt8 := dkwX1_refuses_0 ++ []
theorem dksX1_refuses_0 : cX1_refuses.data.toList.drop 0 = dktX1_refuses_0 := by decide +kernel
theorem dX1_refuses_0 : decode cX1_refuses 0 = .ok (.iload_n 1, 1) := dk_27 (dk_at dksX1_refuses_0 0 rfl rfl)
theorem dX1_refuses_1 : decode cX1_refuses 1 = .ok (.ifCond .ge 13, 3) := dk_156 0 13 (dk_at dksX1_refuses_0 1 rfl rfl)
theorem dX1_refuses_4 : decode cX1_refuses 4 = .ok (.aload_n 0, 1) := dk_42 (dk_at dksX1_refuses_0 4 rfl rfl)
theorem dX1_refuses_5 : decode cX1_refuses 5 = .ok (.dup, 1) := dk_89 (dk_at dksX1_refuses_0 5 rfl rfl)
theorem dX1_refuses_6 : decode cX1_refuses 6 = .ok (.getfield 120, 3) := dk_180 0 120 (dk_at dksX1_refuses_0 6 rfl rfl)
theorem dX1_refuses_9 : decode cX1_refuses 9 = .ok (.iconst 1, 1) := dk_4 (dk_at dksX1_refuses_0 9 rfl rfl)
theorem dX1_refuses_10 : decode cX1_refuses 10 = .ok (.iadd, 1) := dk_96 (dk_at dksX1_refuses_0 10 rfl rfl)
theorem dX1_refuses_11 : decode cX1_refuses 11 = .ok (.putfield 120, 3) := dk_181 0 120 (dk_at dksX1_refuses_0 11 rfl rfl)
theorem dX1_refuses_14 : decode cX1_refuses 14 = .ok (.iload_n 1, 1) := dk_27 (dk_at dksX1_refuses_0 14 rfl rfl)
theorem dX1_refuses_15 : decode cX1_refuses 15 = .ok (.ireturn, 1) := dk_172 (dk_at dksX1_refuses_0 15 rfl rfl)
abbrev cX1_errorPosition : ByteArray := prog_1_method_21_code
def yX1_errorPosition : MethodName := ⟨RX1, "errorPosition", "()I"⟩
theorem dX1_errorPosition_0 : decode cX1_errorPosition 0 = .ok (.aload_n 0, 1) := by decide +kernel
theorem dX1_errorPosition_1 : decode cX1_errorPosition 1 = .ok (.getfield 26, 3) := by decide +kernel
theorem dX1_errorPosition_4 : decode cX1_errorPosition 4 = .ok (.ireturn, 1) := by decide +kernel
abbrev cX1_find : ByteArray := prog_1_method_29_code
def yX1_find : MethodName := ⟨RX1, "find", "()I"⟩
def dkwX1_find_2 : List UInt8 := [182, 1, 61, 172]
abbrev dktX1_find_2 : List UInt8 := dkwX1_find_2 ++ []
def dkwX1_find_1 : List UInt8 := [51, 17, 0, 255, 126, 146, 182, 1, 53, 87, 132, 2, 1, 167, 255, 229, 42, 180, 0, 37, 43, 182, 1, 57]
abbrev dktX1_find_1 : List UInt8 := dkwX1_find_1 ++ dktX1_find_2
def dkwX1_find_0 : List UInt8 := [187, 1, 50, 89, 183, 1, 52, 76, 3, 61, 28, 42, 180, 0, 177, 162, 0, 25, 43, 42, 180, 0, 22, 28]
abbrev dktX1_find_0 : List UInt8 := dkwX1_find_0 ++ dktX1_find_1
theorem dksX1_find_0 : cX1_find.data.toList.drop 0 = dktX1_find_0 := by decide +kernel
theorem dksX1_find_1 : cX1_find.data.toList.drop 24 = dktX1_find_1 := dk_seg dksX1_find_0 24 rfl rfl
theorem dksX1_find_2 : cX1_find.data.toList.drop 48 = dktX1_find_2 := dk_seg dksX1_find_1 24 rfl rfl
theorem dX1_find_0 : decode cX1_find 0 = .ok (.new 306, 3) := dk_187 1 50 (dk_at dksX1_find_0 0 rfl rfl)
theorem dX1_find_3 : decode cX1_find 3 = .ok (.dup, 1) := dk_89 (dk_at dksX1_find_0 3 rfl rfl)
theorem dX1_find_4 : decode cX1_find 4 = .ok (.invokespecial 308, 3) := dk_183 1 52 (dk_at dksX1_find_0 4 rfl rfl)
theorem dX1_find_7 : decode cX1_find 7 = .ok (.astore_n 1, 1) := dk_76 (dk_at dksX1_find_0 7 rfl rfl)
theorem dX1_find_8 : decode cX1_find 8 = .ok (.iconst 0, 1) := dk_3 (dk_at dksX1_find_0 8 rfl rfl)
theorem dX1_find_9 : decode cX1_find 9 = .ok (.istore_n 2, 1) := dk_61 (dk_at dksX1_find_0 9 rfl rfl)
theorem dX1_find_10 : decode cX1_find 10 = .ok (.iload_n 2, 1) := dk_28 (dk_at dksX1_find_0 10 rfl rfl)
theorem dX1_find_11 : decode cX1_find 11 = .ok (.aload_n 0, 1) := dk_42 (dk_at dksX1_find_0 11 rfl rfl)
theorem dX1_find_12 : decode cX1_find 12 = .ok (.getfield 177, 3) := dk_180 0 177 (dk_at dksX1_find_0 12 rfl rfl)
theorem dX1_find_15 : decode cX1_find 15 = .ok (.if_icmp .ge 25, 3) := dk_162 0 25 (dk_at dksX1_find_0 15 rfl rfl)
theorem dX1_find_18 : decode cX1_find 18 = .ok (.aload_n 1, 1) := dk_43 (dk_at dksX1_find_0 18 rfl rfl)
theorem dX1_find_19 : decode cX1_find 19 = .ok (.aload_n 0, 1) := dk_42 (dk_at dksX1_find_0 19 rfl rfl)
theorem dX1_find_20 : decode cX1_find 20 = .ok (.getfield 22, 3) := dk_180 0 22 (dk_at dksX1_find_0 20 rfl rfl)
theorem dX1_find_23 : decode cX1_find 23 = .ok (.iload_n 2, 1) := dk_28 (dk_at dksX1_find_0 23 rfl rfl)
theorem dX1_find_24 : decode cX1_find 24 = .ok (.baload, 1) := dk_51 (dk_at dksX1_find_1 0 rfl rfl)
theorem dX1_find_25 : decode cX1_find 25 = .ok (.sipush 255, 3) := dk_17 0 255 (dk_at dksX1_find_1 1 rfl rfl)
theorem dX1_find_28 : decode cX1_find 28 = .ok (.iand, 1) := dk_126 (dk_at dksX1_find_1 4 rfl rfl)
theorem dX1_find_29 : decode cX1_find 29 = .ok (.i2c, 1) := dk_146 (dk_at dksX1_find_1 5 rfl rfl)
theorem dX1_find_30 : decode cX1_find 30 = .ok (.invokevirtual 309, 3) := dk_182 1 53 (dk_at dksX1_find_1 6 rfl rfl)
theorem dX1_find_33 : decode cX1_find 33 = .ok (.pop, 1) := dk_87 (dk_at dksX1_find_1 9 rfl rfl)
theorem dX1_find_34 : decode cX1_find 34 = .ok (.iinc 2 1, 3) := dk_132 2 1 (dk_at dksX1_find_1 10 rfl rfl)
theorem dX1_find_37 : decode cX1_find 37 = .ok (.goto (-27), 3) := dk_167 255 229 (dk_at dksX1_find_1 13 rfl rfl)
theorem dX1_find_40 : decode cX1_find 40 = .ok (.aload_n 0, 1) := dk_42 (dk_at dksX1_find_1 16 rfl rfl)
theorem dX1_find_41 : decode cX1_find 41 = .ok (.getfield 37, 3) := dk_180 0 37 (dk_at dksX1_find_1 17 rfl rfl)
theorem dX1_find_44 : decode cX1_find 44 = .ok (.aload_n 1, 1) := dk_43 (dk_at dksX1_find_1 20 rfl rfl)
theorem dX1_find_45 : decode cX1_find 45 = .ok (.invokevirtual 313, 3) := dk_182 1 57 (dk_at dksX1_find_1 21 rfl rfl)
theorem dX1_find_48 : decode cX1_find 48 = .ok (.invokevirtual 317, 3) := dk_182 1 61 (dk_at dksX1_find_2 0 rfl rfl)
theorem dX1_find_51 : decode cX1_find 51 = .ok (.ireturn, 1) := dk_172 (dk_at dksX1_find_2 3 rfl rfl)
abbrev cX1_gap : ByteArray := prog_1_method_32_code
def yX1_gap : MethodName := ⟨RX1, "gap", "()I"⟩
def dkwX1_gap_0 : List UInt8 := [42, 180, 0, 37, 182, 1, 76, 172]
abbrev dktX1_gap_0 : List UInt8 := dkwX1_gap_0 ++ []
theorem dksX1_gap_0 : cX1_gap.data.toList.drop 0 = dktX1_gap_0 := by decide +kernel
theorem dX1_gap_0 : decode cX1_gap 0 = .ok (.aload_n 0, 1) := dk_42 (dk_at dksX1_gap_0 0 rfl rfl)
theorem dX1_gap_1 : decode cX1_gap 1 = .ok (.getfield 37, 3) := dk_180 0 37 (dk_at dksX1_gap_0 1 rfl rfl)
theorem dX1_gap_4 : decode cX1_gap 4 = .ok (.invokevirtual 332, 3) := dk_182 1 76 (dk_at dksX1_gap_0 4 rfl rfl)
theorem dX1_gap_7 : decode cX1_gap 7 = .ok (.ireturn, 1) := dk_172 (dk_at dksX1_gap_0 7 rfl rfl)
abbrev cX1_meanWait : ByteArray := prog_1_method_33_code
def yX1_meanWait : MethodName := ⟨RX1, "meanWait", "()D"⟩
def dkwX1_meanWait_1 : List UInt8 := [46, 135, 42, 180, 0, 37, 180, 1, 73, 4, 46, 135, 111, 175]
abbrev dktX1_meanWait_1 : List UInt8 := dkwX1_meanWait_1 ++ []
def dkwX1_meanWait_0 : List UInt8 := [42, 180, 0, 37, 180, 1, 73, 4, 46, 154, 0, 7, 14, 167, 0, 24, 42, 180, 0, 37, 180, 1, 73, 5]
abbrev dktX1_meanWait_0 : List UInt8 := dkwX1_meanWait_0 ++ dktX1_meanWait_1
theorem dksX1_meanWait_0 : cX1_meanWait.data.toList.drop 0 = dktX1_meanWait_0 := by decide +kernel
theorem dksX1_meanWait_1 : cX1_meanWait.data.toList.drop 24 = dktX1_meanWait_1 := dk_seg dksX1_meanWait_0 24 rfl rfl
theorem dX1_meanWait_0 : decode cX1_meanWait 0 = .ok (.aload_n 0, 1) := dk_42 (dk_at dksX1_meanWait_0 0 rfl rfl)
theorem dX1_meanWait_1 : decode cX1_meanWait 1 = .ok (.getfield 37, 3) := dk_180 0 37 (dk_at dksX1_meanWait_0 1 rfl rfl)
theorem dX1_meanWait_4 : decode cX1_meanWait 4 = .ok (.getfield 329, 3) := dk_180 1 73 (dk_at dksX1_meanWait_0 4 rfl rfl)
theorem dX1_meanWait_7 : decode cX1_meanWait 7 = .ok (.iconst 1, 1) := dk_4 (dk_at dksX1_meanWait_0 7 rfl rfl)
theorem dX1_meanWait_8 : decode cX1_meanWait 8 = .ok (.iaload, 1) := dk_46 (dk_at dksX1_meanWait_0 8 rfl rfl)
theorem dX1_meanWait_9 : decode cX1_meanWait 9 = .ok (.ifCond .ne 7, 3) := dk_154 0 7 (dk_at dksX1_meanWait_0 9 rfl rfl)
theorem dX1_meanWait_12 : decode cX1_meanWait 12 = .ok (.dconst 0, 1) := dk_14 (dk_at dksX1_meanWait_0 12 rfl rfl)
theorem dX1_meanWait_13 : decode cX1_meanWait 13 = .ok (.goto 24, 3) := dk_167 0 24 (dk_at dksX1_meanWait_0 13 rfl rfl)
theorem dX1_meanWait_16 : decode cX1_meanWait 16 = .ok (.aload_n 0, 1) := dk_42 (dk_at dksX1_meanWait_0 16 rfl rfl)
theorem dX1_meanWait_17 : decode cX1_meanWait 17 = .ok (.getfield 37, 3) := dk_180 0 37 (dk_at dksX1_meanWait_0 17 rfl rfl)
theorem dX1_meanWait_20 : decode cX1_meanWait 20 = .ok (.getfield 329, 3) := dk_180 1 73 (dk_at dksX1_meanWait_0 20 rfl rfl)
theorem dX1_meanWait_23 : decode cX1_meanWait 23 = .ok (.iconst 2, 1) := dk_5 (dk_at dksX1_meanWait_0 23 rfl rfl)
theorem dX1_meanWait_24 : decode cX1_meanWait 24 = .ok (.iaload, 1) := dk_46 (dk_at dksX1_meanWait_1 0 rfl rfl)
theorem dX1_meanWait_25 : decode cX1_meanWait 25 = .ok (.i2d, 1) := dk_135 (dk_at dksX1_meanWait_1 1 rfl rfl)
theorem dX1_meanWait_26 : decode cX1_meanWait 26 = .ok (.aload_n 0, 1) := dk_42 (dk_at dksX1_meanWait_1 2 rfl rfl)
theorem dX1_meanWait_27 : decode cX1_meanWait 27 = .ok (.getfield 37, 3) := dk_180 0 37 (dk_at dksX1_meanWait_1 3 rfl rfl)
theorem dX1_meanWait_30 : decode cX1_meanWait 30 = .ok (.getfield 329, 3) := dk_180 1 73 (dk_at dksX1_meanWait_1 6 rfl rfl)
theorem dX1_meanWait_33 : decode cX1_meanWait 33 = .ok (.iconst 1, 1) := dk_4 (dk_at dksX1_meanWait_1 9 rfl rfl)
theorem dX1_meanWait_34 : decode cX1_meanWait 34 = .ok (.iaload, 1) := dk_46 (dk_at dksX1_meanWait_1 10 rfl rfl)
theorem dX1_meanWait_35 : decode cX1_meanWait 35 = .ok (.i2d, 1) := dk_135 (dk_at dksX1_meanWait_1 11 rfl rfl)
theorem dX1_meanWait_36 : decode cX1_meanWait 36 = .ok (.ddiv, 1) := dk_111 (dk_at dksX1_meanWait_1 12 rfl rfl)
theorem dX1_meanWait_37 : decode cX1_meanWait 37 = .ok (.dreturn, 1) := dk_175 (dk_at dksX1_meanWait_1 13 rfl rfl)
abbrev cX1_emptyIn : ByteArray := prog_1_method_36_code
def yX1_emptyIn : MethodName := ⟨RX1, "emptyIn", "()I"⟩
def dkwX1_emptyIn_1 : List UInt8 := [28, 172, 43, 182, 1, 94, 132, 2, 1, 167, 255, 233, 2, 172]
abbrev dktX1_emptyIn_1 : List UInt8 := dkwX1_emptyIn_1 ++ []
def dkwX1_emptyIn_0 : List UInt8 := [42, 180, 0, 37, 182, 0, 123, 76, 3, 61, 28, 17, 7, 208, 163, 0, 22, 43, 182, 1, 97, 154, 0, 5]
abbrev dktX1_emptyIn_0 : List UInt8 := dkwX1_emptyIn_0 ++ dktX1_emptyIn_1
theorem dksX1_emptyIn_0 : cX1_emptyIn.data.toList.drop 0 = dktX1_emptyIn_0 := by decide +kernel
theorem dksX1_emptyIn_1 : cX1_emptyIn.data.toList.drop 24 = dktX1_emptyIn_1 := dk_seg dksX1_emptyIn_0 24 rfl rfl
theorem dX1_emptyIn_0 : decode cX1_emptyIn 0 = .ok (.aload_n 0, 1) := dk_42 (dk_at dksX1_emptyIn_0 0 rfl rfl)
theorem dX1_emptyIn_1 : decode cX1_emptyIn 1 = .ok (.getfield 37, 3) := dk_180 0 37 (dk_at dksX1_emptyIn_0 1 rfl rfl)
theorem dX1_emptyIn_4 : decode cX1_emptyIn 4 = .ok (.invokevirtual 123, 3) := dk_182 0 123 (dk_at dksX1_emptyIn_0 4 rfl rfl)
theorem dX1_emptyIn_7 : decode cX1_emptyIn 7 = .ok (.astore_n 1, 1) := dk_76 (dk_at dksX1_emptyIn_0 7 rfl rfl)
theorem dX1_emptyIn_8 : decode cX1_emptyIn 8 = .ok (.iconst 0, 1) := dk_3 (dk_at dksX1_emptyIn_0 8 rfl rfl)
theorem dX1_emptyIn_9 : decode cX1_emptyIn 9 = .ok (.istore_n 2, 1) := dk_61 (dk_at dksX1_emptyIn_0 9 rfl rfl)
theorem dX1_emptyIn_10 : decode cX1_emptyIn 10 = .ok (.iload_n 2, 1) := dk_28 (dk_at dksX1_emptyIn_0 10 rfl rfl)
theorem dX1_emptyIn_11 : decode cX1_emptyIn 11 = .ok (.sipush 2000, 3) := dk_17 7 208 (dk_at dksX1_emptyIn_0 11 rfl rfl)
theorem dX1_emptyIn_14 : decode cX1_emptyIn 14 = .ok (.if_icmp .gt 22, 3) := dk_163 0 22 (dk_at dksX1_emptyIn_0 14 rfl rfl)
theorem dX1_emptyIn_17 : decode cX1_emptyIn 17 = .ok (.aload_n 1, 1) := dk_43 (dk_at dksX1_emptyIn_0 17 rfl rfl)
theorem dX1_emptyIn_18 : decode cX1_emptyIn 18 = .ok (.invokevirtual 353, 3) := dk_182 1 97 (dk_at dksX1_emptyIn_0 18 rfl rfl)
theorem dX1_emptyIn_21 : decode cX1_emptyIn 21 = .ok (.ifCond .ne 5, 3) := dk_154 0 5 (dk_at dksX1_emptyIn_0 21 rfl rfl)
theorem dX1_emptyIn_24 : decode cX1_emptyIn 24 = .ok (.iload_n 2, 1) := dk_28 (dk_at dksX1_emptyIn_1 0 rfl rfl)
theorem dX1_emptyIn_25 : decode cX1_emptyIn 25 = .ok (.ireturn, 1) := dk_172 (dk_at dksX1_emptyIn_1 1 rfl rfl)
theorem dX1_emptyIn_26 : decode cX1_emptyIn 26 = .ok (.aload_n 1, 1) := dk_43 (dk_at dksX1_emptyIn_1 2 rfl rfl)
theorem dX1_emptyIn_27 : decode cX1_emptyIn 27 = .ok (.invokevirtual 350, 3) := dk_182 1 94 (dk_at dksX1_emptyIn_1 3 rfl rfl)
theorem dX1_emptyIn_30 : decode cX1_emptyIn 30 = .ok (.iinc 2 1, 3) := dk_132 2 1 (dk_at dksX1_emptyIn_1 6 rfl rfl)
theorem dX1_emptyIn_33 : decode cX1_emptyIn 33 = .ok (.goto (-23), 3) := dk_167 255 233 (dk_at dksX1_emptyIn_1 9 rfl rfl)
theorem dX1_emptyIn_36 : decode cX1_emptyIn 36 = .ok (.iconst (-1), 1) := dk_2 (dk_at dksX1_emptyIn_1 12 rfl rfl)
theorem dX1_emptyIn_37 : decode cX1_emptyIn 37 = .ok (.ireturn, 1) := dk_172 (dk_at dksX1_emptyIn_1 13 rfl rfl)
abbrev cX1_report : ByteArray := prog_1_method_49_code
def yX1_report : MethodName := ⟨RX1, "report", "()I"⟩
def dkwX1_report_0 : List UInt8 := [42, 42, 180, 0, 37, 182, 1, 160, 181, 0, 32, 42, 180, 0, 32, 182, 1, 44, 172]
abbrev dktX1_report_0 : List UInt8 := dkwX1_report_0 ++ []
theorem dksX1_report_0 : cX1_report.data.toList.drop 0 = dktX1_report_0 := by decide +kernel
theorem dX1_report_0 : decode cX1_report 0 = .ok (.aload_n 0, 1) := dk_42 (dk_at dksX1_report_0 0 rfl rfl)
theorem dX1_report_1 : decode cX1_report 1 = .ok (.aload_n 0, 1) := dk_42 (dk_at dksX1_report_0 1 rfl rfl)
theorem dX1_report_2 : decode cX1_report 2 = .ok (.getfield 37, 3) := dk_180 0 37 (dk_at dksX1_report_0 2 rfl rfl)
theorem dX1_report_5 : decode cX1_report 5 = .ok (.invokevirtual 416, 3) := dk_182 1 160 (dk_at dksX1_report_0 5 rfl rfl)
theorem dX1_report_8 : decode cX1_report 8 = .ok (.putfield 32, 3) := dk_181 0 32 (dk_at dksX1_report_0 8 rfl rfl)
theorem dX1_report_11 : decode cX1_report 11 = .ok (.aload_n 0, 1) := dk_42 (dk_at dksX1_report_0 11 rfl rfl)
theorem dX1_report_12 : decode cX1_report 12 = .ok (.getfield 32, 3) := dk_180 0 32 (dk_at dksX1_report_0 12 rfl rfl)
theorem dX1_report_15 : decode cX1_report 15 = .ok (.invokevirtual 300, 3) := dk_182 1 44 (dk_at dksX1_report_0 15 rfl rfl)
theorem dX1_report_18 : decode cX1_report 18 = .ok (.ireturn, 1) := dk_172 (dk_at dksX1_report_0 18 rfl rfl)
abbrev cX1_phases : ByteArray := prog_1_method_50_code
def yX1_phases : MethodName := ⟨RX1, "phases", "()I"⟩
def dkwX1_phases_0 : List UInt8 := [42, 42, 180, 0, 37, 182, 1, 162, 181, 0, 32, 42, 180, 0, 32, 182, 1, 44, 172]
abbrev dktX1_phases_0 : List UInt8 := dkwX1_phases_0 ++ []
theorem dksX1_phases_0 : cX1_phases.data.toList.drop 0 = dktX1_phases_0 := by decide +kernel
theorem dX1_phases_0 : decode cX1_phases 0 = .ok (.aload_n 0, 1) := dk_42 (dk_at dksX1_phases_0 0 rfl rfl)
theorem dX1_phases_1 : decode cX1_phases 1 = .ok (.aload_n 0, 1) := dk_42 (dk_at dksX1_phases_0 1 rfl rfl)
theorem dX1_phases_2 : decode cX1_phases 2 = .ok (.getfield 37, 3) := dk_180 0 37 (dk_at dksX1_phases_0 2 rfl rfl)
theorem dX1_phases_5 : decode cX1_phases 5 = .ok (.invokevirtual 418, 3) := dk_182 1 162 (dk_at dksX1_phases_0 5 rfl rfl)
theorem dX1_phases_8 : decode cX1_phases 8 = .ok (.putfield 32, 3) := dk_181 0 32 (dk_at dksX1_phases_0 8 rfl rfl)
theorem dX1_phases_11 : decode cX1_phases 11 = .ok (.aload_n 0, 1) := dk_42 (dk_at dksX1_phases_0 11 rfl rfl)
theorem dX1_phases_12 : decode cX1_phases 12 = .ok (.getfield 32, 3) := dk_180 0 32 (dk_at dksX1_phases_0 12 rfl rfl)
theorem dX1_phases_15 : decode cX1_phases 15 = .ok (.invokevirtual 300, 3) := dk_182 1 44 (dk_at dksX1_phases_0 15 rfl rfl)
theorem dX1_phases_18 : decode cX1_phases 18 = .ok (.ireturn, 1) := dk_172 (dk_at dksX1_phases_0 18 rfl rfl)
abbrev cX1_reportByte : ByteArray := prog_1_method_51_code
def yX1_reportByte : MethodName := ⟨RX1, "reportByte", "(I)I"⟩
def dkwX1_reportByte_1 : List UInt8 := [182, 1, 46, 167, 0, 4, 2, 172]
abbrev dktX1_reportByte_1 : List UInt8 := dkwX1_reportByte_1 ++ []
def dkwX1_reportByte_0 : List UInt8 := [27, 133, 9, 42, 180, 0, 32, 182, 1, 44, 4, 100, 133, 184, 0, 147, 153, 0, 14, 42, 180, 0, 32, 27]
abbrev dktX1_reportByte_0 : List UInt8 := dkwX1_reportByte_0 ++ dktX1_reportByte_1
theorem dksX1_reportByte_0 : cX1_reportByte.data.toList.drop 0 = dktX1_reportByte_0 := by decide +kernel
theorem dksX1_reportByte_1 : cX1_reportByte.data.toList.drop 24 = dktX1_reportByte_1 := dk_seg dksX1_reportByte_0 24 rfl rfl
theorem dX1_reportByte_0 : decode cX1_reportByte 0 = .ok (.iload_n 1, 1) := dk_27 (dk_at dksX1_reportByte_0 0 rfl rfl)
theorem dX1_reportByte_1 : decode cX1_reportByte 1 = .ok (.i2l, 1) := dk_133 (dk_at dksX1_reportByte_0 1 rfl rfl)
theorem dX1_reportByte_2 : decode cX1_reportByte 2 = .ok (.lconst 0, 1) := dk_9 (dk_at dksX1_reportByte_0 2 rfl rfl)
theorem dX1_reportByte_3 : decode cX1_reportByte 3 = .ok (.aload_n 0, 1) := dk_42 (dk_at dksX1_reportByte_0 3 rfl rfl)
theorem dX1_reportByte_4 : decode cX1_reportByte 4 = .ok (.getfield 32, 3) := dk_180 0 32 (dk_at dksX1_reportByte_0 4 rfl rfl)
theorem dX1_reportByte_7 : decode cX1_reportByte 7 = .ok (.invokevirtual 300, 3) := dk_182 1 44 (dk_at dksX1_reportByte_0 7 rfl rfl)
theorem dX1_reportByte_10 : decode cX1_reportByte 10 = .ok (.iconst 1, 1) := dk_4 (dk_at dksX1_reportByte_0 10 rfl rfl)
theorem dX1_reportByte_11 : decode cX1_reportByte 11 = .ok (.isub, 1) := dk_100 (dk_at dksX1_reportByte_0 11 rfl rfl)
theorem dX1_reportByte_12 : decode cX1_reportByte 12 = .ok (.i2l, 1) := dk_133 (dk_at dksX1_reportByte_0 12 rfl rfl)
theorem dX1_reportByte_13 : decode cX1_reportByte 13 = .ok (.invokestatic 147, 3) := dk_184 0 147 (dk_at dksX1_reportByte_0 13 rfl rfl)
theorem dX1_reportByte_16 : decode cX1_reportByte 16 = .ok (.ifCond .eq 14, 3) := dk_153 0 14 (dk_at dksX1_reportByte_0 16 rfl rfl)
theorem dX1_reportByte_19 : decode cX1_reportByte 19 = .ok (.aload_n 0, 1) := dk_42 (dk_at dksX1_reportByte_0 19 rfl rfl)
theorem dX1_reportByte_20 : decode cX1_reportByte 20 = .ok (.getfield 32, 3) := dk_180 0 32 (dk_at dksX1_reportByte_0 20 rfl rfl)
theorem dX1_reportByte_23 : decode cX1_reportByte 23 = .ok (.iload_n 1, 1) := dk_27 (dk_at dksX1_reportByte_0 23 rfl rfl)
theorem dX1_reportByte_24 : decode cX1_reportByte 24 = .ok (.invokevirtual 302, 3) := dk_182 1 46 (dk_at dksX1_reportByte_1 0 rfl rfl)
theorem dX1_reportByte_27 : decode cX1_reportByte 27 = .ok (.goto 4, 3) := dk_167 0 4 (dk_at dksX1_reportByte_1 3 rfl rfl)
theorem dX1_reportByte_30 : decode cX1_reportByte 30 = .ok (.iconst (-1), 1) := dk_2 (dk_at dksX1_reportByte_1 6 rfl rfl)
theorem dX1_reportByte_31 : decode cX1_reportByte 31 = .ok (.ireturn, 1) := dk_172 (dk_at dksX1_reportByte_1 7 rfl rfl)
abbrev cX1_undo : ByteArray := prog_1_method_52_code
def yX1_undo : MethodName := ⟨RX1, "undo", "()I"⟩
def dkwX1_undo_1 : List UInt8 := [181, 0, 37, 42, 180, 0, 10, 182, 0, 112, 172]
abbrev dktX1_undo_1 : List UInt8 := dkwX1_undo_1 ++ []
def dkwX1_undo_0 : List UInt8 := [42, 180, 0, 10, 182, 1, 165, 153, 0, 5, 2, 172, 42, 42, 180, 0, 10, 182, 1, 168, 192, 0, 16]
abbrev dktX1_undo_0 : List UInt8 := dkwX1_undo_0 ++ dktX1_undo_1
theorem dksX1_undo_0 : cX1_undo.data.toList.drop 0 = dktX1_undo_0 := by decide +kernel
theorem dksX1_undo_1 : cX1_undo.data.toList.drop 23 = dktX1_undo_1 := dk_seg dksX1_undo_0 23 rfl rfl
theorem dX1_undo_0 : decode cX1_undo 0 = .ok (.aload_n 0, 1) := dk_42 (dk_at dksX1_undo_0 0 rfl rfl)
theorem dX1_undo_1 : decode cX1_undo 1 = .ok (.getfield 10, 3) := dk_180 0 10 (dk_at dksX1_undo_0 1 rfl rfl)
theorem dX1_undo_4 : decode cX1_undo 4 = .ok (.invokevirtual 421, 3) := dk_182 1 165 (dk_at dksX1_undo_0 4 rfl rfl)
theorem dX1_undo_7 : decode cX1_undo 7 = .ok (.ifCond .eq 5, 3) := dk_153 0 5 (dk_at dksX1_undo_0 7 rfl rfl)
theorem dX1_undo_10 : decode cX1_undo 10 = .ok (.iconst (-1), 1) := dk_2 (dk_at dksX1_undo_0 10 rfl rfl)
theorem dX1_undo_11 : decode cX1_undo 11 = .ok (.ireturn, 1) := dk_172 (dk_at dksX1_undo_0 11 rfl rfl)
theorem dX1_undo_12 : decode cX1_undo 12 = .ok (.aload_n 0, 1) := dk_42 (dk_at dksX1_undo_0 12 rfl rfl)
theorem dX1_undo_13 : decode cX1_undo 13 = .ok (.aload_n 0, 1) := dk_42 (dk_at dksX1_undo_0 13 rfl rfl)
theorem dX1_undo_14 : decode cX1_undo 14 = .ok (.getfield 10, 3) := dk_180 0 10 (dk_at dksX1_undo_0 14 rfl rfl)
theorem dX1_undo_17 : decode cX1_undo 17 = .ok (.invokevirtual 424, 3) := dk_182 1 168 (dk_at dksX1_undo_0 17 rfl rfl)
theorem dX1_undo_20 : decode cX1_undo 20 = .ok (.checkcast 16, 3) := dk_192 0 16 (dk_at dksX1_undo_0 20 rfl rfl)
theorem dX1_undo_23 : decode cX1_undo 23 = .ok (.putfield 37, 3) := dk_181 0 37 (dk_at dksX1_undo_1 0 rfl rfl)
theorem dX1_undo_26 : decode cX1_undo 26 = .ok (.aload_n 0, 1) := dk_42 (dk_at dksX1_undo_1 3 rfl rfl)
theorem dX1_undo_27 : decode cX1_undo 27 = .ok (.getfield 10, 3) := dk_180 0 10 (dk_at dksX1_undo_1 4 rfl rfl)
theorem dX1_undo_30 : decode cX1_undo 30 = .ok (.invokevirtual 112, 3) := dk_182 0 112 (dk_at dksX1_undo_1 7 rfl rfl)
theorem dX1_undo_33 : decode cX1_undo 33 = .ok (.ireturn, 1) := dk_172 (dk_at dksX1_undo_1 10 rfl rfl)
abbrev cX1_size : ByteArray := prog_1_method_22_code
def yX1_size : MethodName := ⟨RX1, "size", "(I)I"⟩
def dkwX1_size_7 : List UInt8 := [186, 0, 244, 0, 0, 83, 184, 0, 247, 172]
abbrev dktX1_size_7 : List UInt8 := dkwX1_size_7 ++ []
def dkwX1_size_6 : List UInt8 := [186, 0, 242, 0, 0, 83, 89, 16, 12, 44, 186, 0, 243, 0, 0, 83, 89, 16, 13, 29]
abbrev dktX1_size_6 : List UInt8 := dkwX1_size_6 ++ dktX1_size_7
def dkwX1_size_5 : List UInt8 := [186, 0, 240, 0, 0, 83, 89, 16, 10, 44, 186, 0, 241, 0, 0, 83, 89, 16, 11, 44]
abbrev dktX1_size_5 : List UInt8 := dkwX1_size_5 ++ dktX1_size_6
def dkwX1_size_4 : List UInt8 := [186, 0, 238, 0, 0, 83, 89, 16, 8, 44, 186, 0, 239, 0, 0, 83, 89, 16, 9, 44]
abbrev dktX1_size_4 : List UInt8 := dkwX1_size_4 ++ dktX1_size_5
def dkwX1_size_3 : List UInt8 := [186, 0, 236, 0, 0, 83, 89, 16, 6, 44, 186, 0, 237, 0, 0, 83, 89, 16, 7, 44]
abbrev dktX1_size_3 : List UInt8 := dkwX1_size_3 ++ dktX1_size_4
def dkwX1_size_2 : List UInt8 := [89, 6, 44, 186, 0, 234, 0, 0, 83, 89, 7, 44, 186, 0, 235, 0, 0, 83, 89, 8, 44]
abbrev dktX1_size_2 : List UInt8 := dkwX1_size_2 ++ dktX1_size_3
def dkwX1_size_1 : List UInt8 := [186, 0, 229, 0, 0, 83, 89, 4, 44, 186, 0, 232, 0, 0, 83, 89, 5, 44, 186, 0, 233, 0, 0, 83]
abbrev dktX1_size_1 : List UInt8 := dkwX1_size_1 ++ dktX1_size_2
def dkwX1_size_0 : List UInt8 := [42, 180, 0, 37, 77, 42, 180, 0, 10, 182, 0, 112, 62, 27, 16, 14, 189, 0, 156, 89, 3, 44]
abbrev dktX1_size_0 : List UInt8 := dkwX1_size_0 ++ dktX1_size_1
theorem dksX1_size_0 : cX1_size.data.toList.drop 0 = dktX1_size_0 := by decide +kernel
theorem dksX1_size_1 : cX1_size.data.toList.drop 22 = dktX1_size_1 := dk_seg dksX1_size_0 22 rfl rfl
theorem dksX1_size_2 : cX1_size.data.toList.drop 46 = dktX1_size_2 := dk_seg dksX1_size_1 24 rfl rfl
theorem dksX1_size_3 : cX1_size.data.toList.drop 67 = dktX1_size_3 := dk_seg dksX1_size_2 21 rfl rfl
theorem dksX1_size_4 : cX1_size.data.toList.drop 87 = dktX1_size_4 := dk_seg dksX1_size_3 20 rfl rfl
theorem dksX1_size_5 : cX1_size.data.toList.drop 107 = dktX1_size_5 := dk_seg dksX1_size_4 20 rfl rfl
theorem dksX1_size_6 : cX1_size.data.toList.drop 127 = dktX1_size_6 := dk_seg dksX1_size_5 20 rfl rfl
theorem dksX1_size_7 : cX1_size.data.toList.drop 147 = dktX1_size_7 := dk_seg dksX1_size_6 20 rfl rfl
theorem dX1_size_0 : decode cX1_size 0 = .ok (.aload_n 0, 1) := dk_42 (dk_at dksX1_size_0 0 rfl rfl)
theorem dX1_size_1 : decode cX1_size 1 = .ok (.getfield 37, 3) := dk_180 0 37 (dk_at dksX1_size_0 1 rfl rfl)
theorem dX1_size_4 : decode cX1_size 4 = .ok (.astore_n 2, 1) := dk_77 (dk_at dksX1_size_0 4 rfl rfl)
theorem dX1_size_5 : decode cX1_size 5 = .ok (.aload_n 0, 1) := dk_42 (dk_at dksX1_size_0 5 rfl rfl)
theorem dX1_size_6 : decode cX1_size 6 = .ok (.getfield 10, 3) := dk_180 0 10 (dk_at dksX1_size_0 6 rfl rfl)
theorem dX1_size_9 : decode cX1_size 9 = .ok (.invokevirtual 112, 3) := dk_182 0 112 (dk_at dksX1_size_0 9 rfl rfl)
theorem dX1_size_12 : decode cX1_size 12 = .ok (.istore_n 3, 1) := dk_62 (dk_at dksX1_size_0 12 rfl rfl)
theorem dX1_size_13 : decode cX1_size 13 = .ok (.iload_n 1, 1) := dk_27 (dk_at dksX1_size_0 13 rfl rfl)
theorem dX1_size_14 : decode cX1_size 14 = .ok (.bipush 14, 2) := dk_16 14 (dk_at dksX1_size_0 14 rfl rfl)
theorem dX1_size_16 : decode cX1_size 16 = .ok (.anewarray 156, 3) := dk_189 0 156 (dk_at dksX1_size_0 16 rfl rfl)
theorem dX1_size_19 : decode cX1_size 19 = .ok (.dup, 1) := dk_89 (dk_at dksX1_size_0 19 rfl rfl)
theorem dX1_size_20 : decode cX1_size 20 = .ok (.iconst 0, 1) := dk_3 (dk_at dksX1_size_0 20 rfl rfl)
theorem dX1_size_21 : decode cX1_size 21 = .ok (.aload_n 2, 1) := dk_44 (dk_at dksX1_size_0 21 rfl rfl)
theorem dX1_size_22 : decode cX1_size 22 = .ok (.invokedynamic 229, 5) := by decide +kernel
theorem dX1_size_27 : decode cX1_size 27 = .ok (.aastore, 1) := dk_83 (dk_at dksX1_size_1 5 rfl rfl)
theorem dX1_size_28 : decode cX1_size 28 = .ok (.dup, 1) := dk_89 (dk_at dksX1_size_1 6 rfl rfl)
theorem dX1_size_29 : decode cX1_size 29 = .ok (.iconst 1, 1) := dk_4 (dk_at dksX1_size_1 7 rfl rfl)
theorem dX1_size_30 : decode cX1_size 30 = .ok (.aload_n 2, 1) := dk_44 (dk_at dksX1_size_1 8 rfl rfl)
theorem dX1_size_31 : decode cX1_size 31 = .ok (.invokedynamic 232, 5) := by decide +kernel
theorem dX1_size_36 : decode cX1_size 36 = .ok (.aastore, 1) := dk_83 (dk_at dksX1_size_1 14 rfl rfl)
theorem dX1_size_37 : decode cX1_size 37 = .ok (.dup, 1) := dk_89 (dk_at dksX1_size_1 15 rfl rfl)
theorem dX1_size_38 : decode cX1_size 38 = .ok (.iconst 2, 1) := dk_5 (dk_at dksX1_size_1 16 rfl rfl)
theorem dX1_size_39 : decode cX1_size 39 = .ok (.aload_n 2, 1) := dk_44 (dk_at dksX1_size_1 17 rfl rfl)
theorem dX1_size_40 : decode cX1_size 40 = .ok (.invokedynamic 233, 5) := by decide +kernel
theorem dX1_size_45 : decode cX1_size 45 = .ok (.aastore, 1) := dk_83 (dk_at dksX1_size_1 23 rfl rfl)
theorem dX1_size_46 : decode cX1_size 46 = .ok (.dup, 1) := dk_89 (dk_at dksX1_size_2 0 rfl rfl)
theorem dX1_size_47 : decode cX1_size 47 = .ok (.iconst 3, 1) := dk_6 (dk_at dksX1_size_2 1 rfl rfl)
theorem dX1_size_48 : decode cX1_size 48 = .ok (.aload_n 2, 1) := dk_44 (dk_at dksX1_size_2 2 rfl rfl)
theorem dX1_size_49 : decode cX1_size 49 = .ok (.invokedynamic 234, 5) := by decide +kernel
theorem dX1_size_54 : decode cX1_size 54 = .ok (.aastore, 1) := dk_83 (dk_at dksX1_size_2 8 rfl rfl)
theorem dX1_size_55 : decode cX1_size 55 = .ok (.dup, 1) := dk_89 (dk_at dksX1_size_2 9 rfl rfl)
theorem dX1_size_56 : decode cX1_size 56 = .ok (.iconst 4, 1) := dk_7 (dk_at dksX1_size_2 10 rfl rfl)
theorem dX1_size_57 : decode cX1_size 57 = .ok (.aload_n 2, 1) := dk_44 (dk_at dksX1_size_2 11 rfl rfl)
theorem dX1_size_58 : decode cX1_size 58 = .ok (.invokedynamic 235, 5) := by decide +kernel
theorem dX1_size_63 : decode cX1_size 63 = .ok (.aastore, 1) := dk_83 (dk_at dksX1_size_2 17 rfl rfl)
theorem dX1_size_64 : decode cX1_size 64 = .ok (.dup, 1) := dk_89 (dk_at dksX1_size_2 18 rfl rfl)
theorem dX1_size_65 : decode cX1_size 65 = .ok (.iconst 5, 1) := dk_8 (dk_at dksX1_size_2 19 rfl rfl)
theorem dX1_size_66 : decode cX1_size 66 = .ok (.aload_n 2, 1) := dk_44 (dk_at dksX1_size_2 20 rfl rfl)
theorem dX1_size_67 : decode cX1_size 67 = .ok (.invokedynamic 236, 5) := by decide +kernel
theorem dX1_size_72 : decode cX1_size 72 = .ok (.aastore, 1) := dk_83 (dk_at dksX1_size_3 5 rfl rfl)
theorem dX1_size_73 : decode cX1_size 73 = .ok (.dup, 1) := dk_89 (dk_at dksX1_size_3 6 rfl rfl)
theorem dX1_size_74 : decode cX1_size 74 = .ok (.bipush 6, 2) := dk_16 6 (dk_at dksX1_size_3 7 rfl rfl)
theorem dX1_size_76 : decode cX1_size 76 = .ok (.aload_n 2, 1) := dk_44 (dk_at dksX1_size_3 9 rfl rfl)
theorem dX1_size_77 : decode cX1_size 77 = .ok (.invokedynamic 237, 5) := by decide +kernel
theorem dX1_size_82 : decode cX1_size 82 = .ok (.aastore, 1) := dk_83 (dk_at dksX1_size_3 15 rfl rfl)
theorem dX1_size_83 : decode cX1_size 83 = .ok (.dup, 1) := dk_89 (dk_at dksX1_size_3 16 rfl rfl)
theorem dX1_size_84 : decode cX1_size 84 = .ok (.bipush 7, 2) := dk_16 7 (dk_at dksX1_size_3 17 rfl rfl)
theorem dX1_size_86 : decode cX1_size 86 = .ok (.aload_n 2, 1) := dk_44 (dk_at dksX1_size_3 19 rfl rfl)
theorem dX1_size_87 : decode cX1_size 87 = .ok (.invokedynamic 238, 5) := by decide +kernel
theorem dX1_size_92 : decode cX1_size 92 = .ok (.aastore, 1) := dk_83 (dk_at dksX1_size_4 5 rfl rfl)
theorem dX1_size_93 : decode cX1_size 93 = .ok (.dup, 1) := dk_89 (dk_at dksX1_size_4 6 rfl rfl)
theorem dX1_size_94 : decode cX1_size 94 = .ok (.bipush 8, 2) := dk_16 8 (dk_at dksX1_size_4 7 rfl rfl)
theorem dX1_size_96 : decode cX1_size 96 = .ok (.aload_n 2, 1) := dk_44 (dk_at dksX1_size_4 9 rfl rfl)
theorem dX1_size_97 : decode cX1_size 97 = .ok (.invokedynamic 239, 5) := by decide +kernel
theorem dX1_size_102 : decode cX1_size 102 = .ok (.aastore, 1) := dk_83 (dk_at dksX1_size_4 15 rfl rfl)
theorem dX1_size_103 : decode cX1_size 103 = .ok (.dup, 1) := dk_89 (dk_at dksX1_size_4 16 rfl rfl)
theorem dX1_size_104 : decode cX1_size 104 = .ok (.bipush 9, 2) := dk_16 9 (dk_at dksX1_size_4 17 rfl rfl)
theorem dX1_size_106 : decode cX1_size 106 = .ok (.aload_n 2, 1) := dk_44 (dk_at dksX1_size_4 19 rfl rfl)
theorem dX1_size_107 : decode cX1_size 107 = .ok (.invokedynamic 240, 5) := by decide +kernel
theorem dX1_size_112 : decode cX1_size 112 = .ok (.aastore, 1) := dk_83 (dk_at dksX1_size_5 5 rfl rfl)
theorem dX1_size_113 : decode cX1_size 113 = .ok (.dup, 1) := dk_89 (dk_at dksX1_size_5 6 rfl rfl)
theorem dX1_size_114 : decode cX1_size 114 = .ok (.bipush 10, 2) := dk_16 10 (dk_at dksX1_size_5 7 rfl rfl)
theorem dX1_size_116 : decode cX1_size 116 = .ok (.aload_n 2, 1) := dk_44 (dk_at dksX1_size_5 9 rfl rfl)
theorem dX1_size_117 : decode cX1_size 117 = .ok (.invokedynamic 241, 5) := by decide +kernel
theorem dX1_size_122 : decode cX1_size 122 = .ok (.aastore, 1) := dk_83 (dk_at dksX1_size_5 15 rfl rfl)
theorem dX1_size_123 : decode cX1_size 123 = .ok (.dup, 1) := dk_89 (dk_at dksX1_size_5 16 rfl rfl)
theorem dX1_size_124 : decode cX1_size 124 = .ok (.bipush 11, 2) := dk_16 11 (dk_at dksX1_size_5 17 rfl rfl)
theorem dX1_size_126 : decode cX1_size 126 = .ok (.aload_n 2, 1) := dk_44 (dk_at dksX1_size_5 19 rfl rfl)
theorem dX1_size_127 : decode cX1_size 127 = .ok (.invokedynamic 242, 5) := by decide +kernel
theorem dX1_size_132 : decode cX1_size 132 = .ok (.aastore, 1) := dk_83 (dk_at dksX1_size_6 5 rfl rfl)
theorem dX1_size_133 : decode cX1_size 133 = .ok (.dup, 1) := dk_89 (dk_at dksX1_size_6 6 rfl rfl)
theorem dX1_size_134 : decode cX1_size 134 = .ok (.bipush 12, 2) := dk_16 12 (dk_at dksX1_size_6 7 rfl rfl)
theorem dX1_size_136 : decode cX1_size 136 = .ok (.aload_n 2, 1) := dk_44 (dk_at dksX1_size_6 9 rfl rfl)
theorem dX1_size_137 : decode cX1_size 137 = .ok (.invokedynamic 243, 5) := by decide +kernel
theorem dX1_size_142 : decode cX1_size 142 = .ok (.aastore, 1) := dk_83 (dk_at dksX1_size_6 15 rfl rfl)
theorem dX1_size_143 : decode cX1_size 143 = .ok (.dup, 1) := dk_89 (dk_at dksX1_size_6 16 rfl rfl)
theorem dX1_size_144 : decode cX1_size 144 = .ok (.bipush 13, 2) := dk_16 13 (dk_at dksX1_size_6 17 rfl rfl)
theorem dX1_size_146 : decode cX1_size 146 = .ok (.iload_n 3, 1) := dk_29 (dk_at dksX1_size_6 19 rfl rfl)
theorem dX1_size_147 : decode cX1_size 147 = .ok (.invokedynamic 244, 5) := by decide +kernel
theorem dX1_size_152 : decode cX1_size 152 = .ok (.aastore, 1) := dk_83 (dk_at dksX1_size_7 5 rfl rfl)
theorem dX1_size_153 : decode cX1_size 153 = .ok (.invokestatic 247, 3) := dk_184 0 247 (dk_at dksX1_size_7 6 rfl rfl)
theorem dX1_size_156 : decode cX1_size 156 = .ok (.ireturn, 1) := dk_172 (dk_at dksX1_size_7 9 rfl rfl)
abbrev cX1_lambda_size_0 : ByteArray := prog_1_method_94_code
def yX1_lambda_size_0 : MethodName := ⟨RX1, "lambda$size$0", "(LLoopSignals$Junction;)I"⟩
def dkwX1_lambda_size_0_0 : List UInt8 := [42, 180, 0, 159, 185, 0, 162, 1, 0, 172]
abbrev dktX1_lambda_size_0_0 : List UInt8 := dkwX1_lambda_size_0_0 ++ []
theorem dksX1_lambda_size_0_0 : cX1_lambda_size_0.data.toList.drop 0 = dktX1_lambda_size_0_0 := by decide +kernel
theorem dX1_lambda_size_0_0 : decode cX1_lambda_size_0 0 = .ok (.aload_n 0, 1) := dk_42 (dk_at dksX1_lambda_size_0_0 0 rfl rfl)
theorem dX1_lambda_size_0_1 : decode cX1_lambda_size_0 1 = .ok (.getfield 159, 3) := dk_180 0 159 (dk_at dksX1_lambda_size_0_0 1 rfl rfl)
theorem dX1_lambda_size_0_4 : decode cX1_lambda_size_0 4 = .ok (.invokeinterface 162 1, 5) := by decide +kernel
theorem dX1_lambda_size_0_9 : decode cX1_lambda_size_0 9 = .ok (.ireturn, 1) := dk_172 (dk_at dksX1_lambda_size_0_0 9 rfl rfl)
abbrev cX1_lambda_size_1 : ByteArray := prog_1_method_93_code
def yX1_lambda_size_1 : MethodName := ⟨RX1, "lambda$size$1", "(LLoopSignals$Junction;)I"⟩
def dkwX1_lambda_size_1_0 : List UInt8 := [42, 180, 0, 169, 185, 0, 162, 1, 0, 172]
abbrev dktX1_lambda_size_1_0 : List UInt8 := dkwX1_lambda_size_1_0 ++ []
theorem dksX1_lambda_size_1_0 : cX1_lambda_size_1.data.toList.drop 0 = dktX1_lambda_size_1_0 := by decide +kernel
theorem dX1_lambda_size_1_0 : decode cX1_lambda_size_1 0 = .ok (.aload_n 0, 1) := dk_42 (dk_at dksX1_lambda_size_1_0 0 rfl rfl)
theorem dX1_lambda_size_1_1 : decode cX1_lambda_size_1 1 = .ok (.getfield 169, 3) := dk_180 0 169 (dk_at dksX1_lambda_size_1_0 1 rfl rfl)
theorem dX1_lambda_size_1_4 : decode cX1_lambda_size_1 4 = .ok (.invokeinterface 162 1, 5) := by decide +kernel
theorem dX1_lambda_size_1_9 : decode cX1_lambda_size_1 9 = .ok (.ireturn, 1) := dk_172 (dk_at dksX1_lambda_size_1_0 9 rfl rfl)
abbrev cX1_lambda_size_2 : ByteArray := prog_1_method_92_code
def yX1_lambda_size_2 : MethodName := ⟨RX1, "lambda$size$2", "(LLoopSignals$Junction;)I"⟩
theorem dX1_lambda_size_2_0 : decode cX1_lambda_size_2 0 = .ok (.aload_n 0, 1) := by decide +kernel
theorem dX1_lambda_size_2_1 : decode cX1_lambda_size_2 1 = .ok (.getfield 335, 3) := by decide +kernel
theorem dX1_lambda_size_2_4 : decode cX1_lambda_size_2 4 = .ok (.ireturn, 1) := by decide +kernel
abbrev cX1_lambda_size_3 : ByteArray := prog_1_method_91_code
def yX1_lambda_size_3 : MethodName := ⟨RX1, "lambda$size$3", "(LLoopSignals$Junction;)I"⟩
def dkwX1_lambda_size_3_0 : List UInt8 := [42, 180, 0, 41, 3, 46, 172]
abbrev dktX1_lambda_size_3_0 : List UInt8 := dkwX1_lambda_size_3_0 ++ []
theorem dksX1_lambda_size_3_0 : cX1_lambda_size_3.data.toList.drop 0 = dktX1_lambda_size_3_0 := by decide +kernel
theorem dX1_lambda_size_3_0 : decode cX1_lambda_size_3 0 = .ok (.aload_n 0, 1) := dk_42 (dk_at dksX1_lambda_size_3_0 0 rfl rfl)
theorem dX1_lambda_size_3_1 : decode cX1_lambda_size_3 1 = .ok (.getfield 41, 3) := dk_180 0 41 (dk_at dksX1_lambda_size_3_0 1 rfl rfl)
theorem dX1_lambda_size_3_4 : decode cX1_lambda_size_3 4 = .ok (.iconst 0, 1) := dk_3 (dk_at dksX1_lambda_size_3_0 4 rfl rfl)
theorem dX1_lambda_size_3_5 : decode cX1_lambda_size_3 5 = .ok (.iaload, 1) := dk_46 (dk_at dksX1_lambda_size_3_0 5 rfl rfl)
theorem dX1_lambda_size_3_6 : decode cX1_lambda_size_3 6 = .ok (.ireturn, 1) := dk_172 (dk_at dksX1_lambda_size_3_0 6 rfl rfl)
abbrev cX1_lambda_size_4 : ByteArray := prog_1_method_90_code
def yX1_lambda_size_4 : MethodName := ⟨RX1, "lambda$size$4", "(LLoopSignals$Junction;)I"⟩
def dkwX1_lambda_size_4_0 : List UInt8 := [42, 180, 0, 41, 4, 46, 172]
abbrev dktX1_lambda_size_4_0 : List UInt8 := dkwX1_lambda_size_4_0 ++ []
theorem dksX1_lambda_size_4_0 : cX1_lambda_size_4.data.toList.drop 0 = dktX1_lambda_size_4_0 := by decide +kernel
theorem dX1_lambda_size_4_0 : decode cX1_lambda_size_4 0 = .ok (.aload_n 0, 1) := dk_42 (dk_at dksX1_lambda_size_4_0 0 rfl rfl)
theorem dX1_lambda_size_4_1 : decode cX1_lambda_size_4 1 = .ok (.getfield 41, 3) := dk_180 0 41 (dk_at dksX1_lambda_size_4_0 1 rfl rfl)
theorem dX1_lambda_size_4_4 : decode cX1_lambda_size_4 4 = .ok (.iconst 1, 1) := dk_4 (dk_at dksX1_lambda_size_4_0 4 rfl rfl)
theorem dX1_lambda_size_4_5 : decode cX1_lambda_size_4 5 = .ok (.iaload, 1) := dk_46 (dk_at dksX1_lambda_size_4_0 5 rfl rfl)
theorem dX1_lambda_size_4_6 : decode cX1_lambda_size_4 6 = .ok (.ireturn, 1) := dk_172 (dk_at dksX1_lambda_size_4_0 6 rfl rfl)
abbrev cX1_lambda_size_5 : ByteArray := prog_1_method_89_code
def yX1_lambda_size_5 : MethodName := ⟨RX1, "lambda$size$5", "(LLoopSignals$Junction;)I"⟩
def dkwX1_lambda_size_5_0 : List UInt8 := [42, 180, 0, 41, 5, 46, 172]
abbrev dktX1_lambda_size_5_0 : List UInt8 := dkwX1_lambda_size_5_0 ++ []
theorem dksX1_lambda_size_5_0 : cX1_lambda_size_5.data.toList.drop 0 = dktX1_lambda_size_5_0 := by decide +kernel
theorem dX1_lambda_size_5_0 : decode cX1_lambda_size_5 0 = .ok (.aload_n 0, 1) := dk_42 (dk_at dksX1_lambda_size_5_0 0 rfl rfl)
theorem dX1_lambda_size_5_1 : decode cX1_lambda_size_5 1 = .ok (.getfield 41, 3) := dk_180 0 41 (dk_at dksX1_lambda_size_5_0 1 rfl rfl)
theorem dX1_lambda_size_5_4 : decode cX1_lambda_size_5 4 = .ok (.iconst 2, 1) := dk_5 (dk_at dksX1_lambda_size_5_0 4 rfl rfl)
theorem dX1_lambda_size_5_5 : decode cX1_lambda_size_5 5 = .ok (.iaload, 1) := dk_46 (dk_at dksX1_lambda_size_5_0 5 rfl rfl)
theorem dX1_lambda_size_5_6 : decode cX1_lambda_size_5 6 = .ok (.ireturn, 1) := dk_172 (dk_at dksX1_lambda_size_5_0 6 rfl rfl)
abbrev cX1_lambda_size_6 : ByteArray := prog_1_method_88_code
def yX1_lambda_size_6 : MethodName := ⟨RX1, "lambda$size$6", "(LLoopSignals$Junction;)I"⟩
theorem dX1_lambda_size_6_0 : decode cX1_lambda_size_6 0 = .ok (.aload_n 0, 1) := by decide +kernel
theorem dX1_lambda_size_6_1 : decode cX1_lambda_size_6 1 = .ok (.getfield 507, 3) := by decide +kernel
theorem dX1_lambda_size_6_4 : decode cX1_lambda_size_6 4 = .ok (.ireturn, 1) := by decide +kernel
abbrev cX1_lambda_size_7 : ByteArray := prog_1_method_87_code
def yX1_lambda_size_7 : MethodName := ⟨RX1, "lambda$size$7", "(LLoopSignals$Junction;)I"⟩
theorem dX1_lambda_size_7_0 : decode cX1_lambda_size_7 0 = .ok (.aload_n 0, 1) := by decide +kernel
theorem dX1_lambda_size_7_1 : decode cX1_lambda_size_7 1 = .ok (.getfield 504, 3) := by decide +kernel
theorem dX1_lambda_size_7_4 : decode cX1_lambda_size_7 4 = .ok (.ireturn, 1) := by decide +kernel
abbrev cX1_lambda_size_8 : ByteArray := prog_1_method_86_code
def yX1_lambda_size_8 : MethodName := ⟨RX1, "lambda$size$8", "(LLoopSignals$Junction;)I"⟩
theorem dX1_lambda_size_8_0 : decode cX1_lambda_size_8 0 = .ok (.aload_n 0, 1) := by decide +kernel
theorem dX1_lambda_size_8_1 : decode cX1_lambda_size_8 1 = .ok (.getfield 501, 3) := by decide +kernel
theorem dX1_lambda_size_8_4 : decode cX1_lambda_size_8 4 = .ok (.ireturn, 1) := by decide +kernel
abbrev cX1_lambda_size_9 : ByteArray := prog_1_method_85_code
def yX1_lambda_size_9 : MethodName := ⟨RX1, "lambda$size$9", "(LLoopSignals$Junction;)I"⟩
theorem dX1_lambda_size_9_0 : decode cX1_lambda_size_9 0 = .ok (.aload_n 0, 1) := by decide +kernel
theorem dX1_lambda_size_9_1 : decode cX1_lambda_size_9 1 = .ok (.getfield 498, 3) := by decide +kernel
theorem dX1_lambda_size_9_4 : decode cX1_lambda_size_9 4 = .ok (.ireturn, 1) := by decide +kernel
abbrev cX1_lambda_size_10 : ByteArray := prog_1_method_84_code
def yX1_lambda_size_10 : MethodName := ⟨RX1, "lambda$size$10", "(LLoopSignals$Junction;)I"⟩
theorem dX1_lambda_size_10_0 : decode cX1_lambda_size_10 0 = .ok (.aload_n 0, 1) := by decide +kernel
theorem dX1_lambda_size_10_1 : decode cX1_lambda_size_10 1 = .ok (.invokevirtual 495, 3) := by decide +kernel
theorem dX1_lambda_size_10_4 : decode cX1_lambda_size_10 4 = .ok (.ireturn, 1) := by decide +kernel
abbrev cX1_lambda_size_11 : ByteArray := prog_1_method_83_code
def yX1_lambda_size_11 : MethodName := ⟨RX1, "lambda$size$11", "(LLoopSignals$Junction;)I"⟩
def dkwX1_lambda_size_11_0 : List UInt8 := [42, 182, 1, 236, 2, 159, 0, 7, 4, 167, 0, 4, 3, 184, 0, 187, 172]
abbrev dktX1_lambda_size_11_0 : List UInt8 := dkwX1_lambda_size_11_0 ++ []
theorem dksX1_lambda_size_11_0 : cX1_lambda_size_11.data.toList.drop 0 = dktX1_lambda_size_11_0 := by decide +kernel
theorem dX1_lambda_size_11_0 : decode cX1_lambda_size_11 0 = .ok (.aload_n 0, 1) := dk_42 (dk_at dksX1_lambda_size_11_0 0 rfl rfl)
theorem dX1_lambda_size_11_1 : decode cX1_lambda_size_11 1 = .ok (.invokevirtual 492, 3) := dk_182 1 236 (dk_at dksX1_lambda_size_11_0 1 rfl rfl)
theorem dX1_lambda_size_11_4 : decode cX1_lambda_size_11 4 = .ok (.iconst (-1), 1) := dk_2 (dk_at dksX1_lambda_size_11_0 4 rfl rfl)
theorem dX1_lambda_size_11_5 : decode cX1_lambda_size_11 5 = .ok (.if_icmp .eq 7, 3) := dk_159 0 7 (dk_at dksX1_lambda_size_11_0 5 rfl rfl)
theorem dX1_lambda_size_11_8 : decode cX1_lambda_size_11 8 = .ok (.iconst 1, 1) := dk_4 (dk_at dksX1_lambda_size_11_0 8 rfl rfl)
theorem dX1_lambda_size_11_9 : decode cX1_lambda_size_11 9 = .ok (.goto 4, 3) := dk_167 0 4 (dk_at dksX1_lambda_size_11_0 9 rfl rfl)
theorem dX1_lambda_size_11_12 : decode cX1_lambda_size_11 12 = .ok (.iconst 0, 1) := dk_3 (dk_at dksX1_lambda_size_11_0 12 rfl rfl)
theorem dX1_lambda_size_11_13 : decode cX1_lambda_size_11 13 = .ok (.invokestatic 187, 3) := dk_184 0 187 (dk_at dksX1_lambda_size_11_0 13 rfl rfl)
theorem dX1_lambda_size_11_16 : decode cX1_lambda_size_11 16 = .ok (.ireturn, 1) := dk_172 (dk_at dksX1_lambda_size_11_0 16 rfl rfl)
abbrev cX1_lambda_size_12 : ByteArray := prog_1_method_82_code
def yX1_lambda_size_12 : MethodName := ⟨RX1, "lambda$size$12", "(LLoopSignals$Junction;)I"⟩
theorem dX1_lambda_size_12_0 : decode cX1_lambda_size_12 0 = .ok (.aload_n 0, 1) := by decide +kernel
theorem dX1_lambda_size_12_1 : decode cX1_lambda_size_12 1 = .ok (.invokevirtual 353, 3) := by decide +kernel
theorem dX1_lambda_size_12_4 : decode cX1_lambda_size_12 4 = .ok (.ireturn, 1) := by decide +kernel
abbrev cX1_lambda_size_13 : ByteArray := prog_1_method_81_code
def yX1_lambda_size_13 : MethodName := ⟨RX1, "lambda$size$13", "(I)I"⟩
theorem dX1_lambda_size_13_0 : decode cX1_lambda_size_13 0 = .ok (.iload_n 0, 1) := by decide +kernel
theorem dX1_lambda_size_13_1 : decode cX1_lambda_size_13 1 = .ok (.ireturn, 1) := by decide +kernel
abbrev cX1_told : ByteArray := prog_1_method_11_code
def yX1_told : MethodName := ⟨RX1, "told", "(I[LLoopSignals$Told;)I"⟩
def dkwX1_told_0 : List UInt8 := [26, 133, 9, 43, 190, 4, 100, 133, 184, 0, 147, 184, 0, 151, 43, 26, 50, 185, 0, 155, 1, 0, 172]
abbrev dktX1_told_0 : List UInt8 := dkwX1_told_0 ++ []
theorem dksX1_told_0 : cX1_told.data.toList.drop 0 = dktX1_told_0 := by decide +kernel
theorem dX1_told_0 : decode cX1_told 0 = .ok (.iload_n 0, 1) := dk_26 (dk_at dksX1_told_0 0 rfl rfl)
theorem dX1_told_1 : decode cX1_told 1 = .ok (.i2l, 1) := dk_133 (dk_at dksX1_told_0 1 rfl rfl)
theorem dX1_told_2 : decode cX1_told 2 = .ok (.lconst 0, 1) := dk_9 (dk_at dksX1_told_0 2 rfl rfl)
theorem dX1_told_3 : decode cX1_told 3 = .ok (.aload_n 1, 1) := dk_43 (dk_at dksX1_told_0 3 rfl rfl)
theorem dX1_told_4 : decode cX1_told 4 = .ok (.arraylength, 1) := dk_190 (dk_at dksX1_told_0 4 rfl rfl)
theorem dX1_told_5 : decode cX1_told 5 = .ok (.iconst 1, 1) := dk_4 (dk_at dksX1_told_0 5 rfl rfl)
theorem dX1_told_6 : decode cX1_told 6 = .ok (.isub, 1) := dk_100 (dk_at dksX1_told_0 6 rfl rfl)
theorem dX1_told_7 : decode cX1_told 7 = .ok (.i2l, 1) := dk_133 (dk_at dksX1_told_0 7 rfl rfl)
theorem dX1_told_8 : decode cX1_told 8 = .ok (.invokestatic 147, 3) := dk_184 0 147 (dk_at dksX1_told_0 8 rfl rfl)
theorem dX1_told_11 : decode cX1_told 11 = .ok (.invokestatic 151, 3) := dk_184 0 151 (dk_at dksX1_told_0 11 rfl rfl)
theorem dX1_told_14 : decode cX1_told 14 = .ok (.aload_n 1, 1) := dk_43 (dk_at dksX1_told_0 14 rfl rfl)
theorem dX1_told_15 : decode cX1_told 15 = .ok (.iload_n 0, 1) := dk_26 (dk_at dksX1_told_0 15 rfl rfl)
theorem dX1_told_16 : decode cX1_told 16 = .ok (.aaload, 1) := dk_50 (dk_at dksX1_told_0 16 rfl rfl)
theorem dX1_told_17 : decode cX1_told 17 = .ok (.invokeinterface 155 1, 5) := by decide +kernel
theorem dX1_told_22 : decode cX1_told 22 = .ok (.ireturn, 1) := dk_172 (dk_at dksX1_told_0 22 rfl rfl)
abbrev cX1_argument : ByteArray := prog_1_method_9_code
def yX1_argument : MethodName := ⟨RX1, "argument", "(Z)V"⟩
def dkwX1_argument_0 : List UInt8 := [26, 154, 0, 11, 187, 0, 141, 89, 183, 0, 143, 191, 177]
abbrev dktX1_argument_0 : List UInt8 := dkwX1_argument_0 ++ []
theorem dksX1_argument_0 : cX1_argument.data.toList.drop 0 = dktX1_argument_0 := by decide +kernel
theorem dX1_argument_0 : decode cX1_argument 0 = .ok (.iload_n 0, 1) := dk_26 (dk_at dksX1_argument_0 0 rfl rfl)
theorem dX1_argument_1 : decode cX1_argument 1 = .ok (.ifCond .ne 11, 3) := dk_154 0 11 (dk_at dksX1_argument_0 1 rfl rfl)
theorem dX1_argument_4 : decode cX1_argument 4 = .ok (.new 141, 3) := dk_187 0 141 (dk_at dksX1_argument_0 4 rfl rfl)
theorem dX1_argument_7 : decode cX1_argument 7 = .ok (.dup, 1) := dk_89 (dk_at dksX1_argument_0 7 rfl rfl)
theorem dX1_argument_8 : decode cX1_argument 8 = .ok (.invokespecial 143, 3) := dk_183 0 143 (dk_at dksX1_argument_0 8 rfl rfl)
theorem dX1_argument_11 : decode cX1_argument 11 = .ok (.athrow, 1) := dk_191 (dk_at dksX1_argument_0 11 rfl rfl)
theorem dX1_argument_12 : decode cX1_argument 12 = .ok (.return_, 1) := dk_177 (dk_at dksX1_argument_0 12 rfl rfl)
abbrev cX1_arm : ByteArray := prog_1_method_23_code
def yX1_arm : MethodName := ⟨RX1, "arm", "(II)I"⟩
def dkwX1_arm_5 : List UInt8 := [186, 1, 13, 0, 0, 83, 184, 0, 247, 172]
abbrev dktX1_arm_5 : List UInt8 := dkwX1_arm_5 ++ []
def dkwX1_arm_4 : List UInt8 := [186, 1, 9, 0, 0, 83, 89, 16, 8, 45, 25, 4, 186, 1, 10, 0, 0, 83, 89, 16, 9, 45]
abbrev dktX1_arm_4 : List UInt8 := dkwX1_arm_4 ++ dktX1_arm_5
def dkwX1_arm_3 : List UInt8 := [186, 1, 7, 0, 0, 83, 89, 16, 6, 25, 4, 27, 186, 1, 8, 0, 0, 83, 89, 16, 7, 45]
abbrev dktX1_arm_3 : List UInt8 := dkwX1_arm_3 ++ dktX1_arm_4
def dkwX1_arm_2 : List UInt8 := [89, 6, 45, 186, 1, 5, 0, 0, 83, 89, 7, 45, 186, 1, 6, 0, 0, 83, 89, 8, 25, 4, 27]
abbrev dktX1_arm_2 : List UInt8 := dkwX1_arm_2 ++ dktX1_arm_3
def dkwX1_arm_1 : List UInt8 := [186, 0, 254, 0, 0, 83, 89, 4, 45, 186, 1, 1, 0, 0, 83, 89, 5, 45, 186, 1, 4, 0, 0, 83]
abbrev dktX1_arm_1 : List UInt8 := dkwX1_arm_1 ++ dktX1_arm_2
def dkwX1_arm_0 : List UInt8 := [42, 27, 182, 0, 251, 78, 42, 180, 0, 37, 58, 4, 28, 16, 10, 189, 0, 156, 89, 3, 25, 4, 27]
abbrev dktX1_arm_0 : List UInt8 := dkwX1_arm_0 ++ dktX1_arm_1
theorem dksX1_arm_0 : cX1_arm.data.toList.drop 0 = dktX1_arm_0 := by decide +kernel
theorem dksX1_arm_1 : cX1_arm.data.toList.drop 23 = dktX1_arm_1 := dk_seg dksX1_arm_0 23 rfl rfl
theorem dksX1_arm_2 : cX1_arm.data.toList.drop 47 = dktX1_arm_2 := dk_seg dksX1_arm_1 24 rfl rfl
theorem dksX1_arm_3 : cX1_arm.data.toList.drop 70 = dktX1_arm_3 := dk_seg dksX1_arm_2 23 rfl rfl
theorem dksX1_arm_4 : cX1_arm.data.toList.drop 92 = dktX1_arm_4 := dk_seg dksX1_arm_3 22 rfl rfl
theorem dksX1_arm_5 : cX1_arm.data.toList.drop 114 = dktX1_arm_5 := dk_seg dksX1_arm_4 22 rfl rfl
theorem dX1_arm_0 : decode cX1_arm 0 = .ok (.aload_n 0, 1) := dk_42 (dk_at dksX1_arm_0 0 rfl rfl)
theorem dX1_arm_1 : decode cX1_arm 1 = .ok (.iload_n 1, 1) := dk_27 (dk_at dksX1_arm_0 1 rfl rfl)
theorem dX1_arm_2 : decode cX1_arm 2 = .ok (.invokevirtual 251, 3) := dk_182 0 251 (dk_at dksX1_arm_0 2 rfl rfl)
theorem dX1_arm_5 : decode cX1_arm 5 = .ok (.astore_n 3, 1) := dk_78 (dk_at dksX1_arm_0 5 rfl rfl)
theorem dX1_arm_6 : decode cX1_arm 6 = .ok (.aload_n 0, 1) := dk_42 (dk_at dksX1_arm_0 6 rfl rfl)
theorem dX1_arm_7 : decode cX1_arm 7 = .ok (.getfield 37, 3) := dk_180 0 37 (dk_at dksX1_arm_0 7 rfl rfl)
theorem dX1_arm_10 : decode cX1_arm 10 = .ok (.astore 4, 2) := dk_58 4 (dk_at dksX1_arm_0 10 rfl rfl)
theorem dX1_arm_12 : decode cX1_arm 12 = .ok (.iload_n 2, 1) := dk_28 (dk_at dksX1_arm_0 12 rfl rfl)
theorem dX1_arm_13 : decode cX1_arm 13 = .ok (.bipush 10, 2) := dk_16 10 (dk_at dksX1_arm_0 13 rfl rfl)
theorem dX1_arm_15 : decode cX1_arm 15 = .ok (.anewarray 156, 3) := dk_189 0 156 (dk_at dksX1_arm_0 15 rfl rfl)
theorem dX1_arm_18 : decode cX1_arm 18 = .ok (.dup, 1) := dk_89 (dk_at dksX1_arm_0 18 rfl rfl)
theorem dX1_arm_19 : decode cX1_arm 19 = .ok (.iconst 0, 1) := dk_3 (dk_at dksX1_arm_0 19 rfl rfl)
theorem dX1_arm_20 : decode cX1_arm 20 = .ok (.aload 4, 2) := dk_25 4 (dk_at dksX1_arm_0 20 rfl rfl)
theorem dX1_arm_22 : decode cX1_arm 22 = .ok (.iload_n 1, 1) := dk_27 (dk_at dksX1_arm_0 22 rfl rfl)
theorem dX1_arm_23 : decode cX1_arm 23 = .ok (.invokedynamic 254, 5) := by decide +kernel
theorem dX1_arm_28 : decode cX1_arm 28 = .ok (.aastore, 1) := dk_83 (dk_at dksX1_arm_1 5 rfl rfl)
theorem dX1_arm_29 : decode cX1_arm 29 = .ok (.dup, 1) := dk_89 (dk_at dksX1_arm_1 6 rfl rfl)
theorem dX1_arm_30 : decode cX1_arm 30 = .ok (.iconst 1, 1) := dk_4 (dk_at dksX1_arm_1 7 rfl rfl)
theorem dX1_arm_31 : decode cX1_arm 31 = .ok (.aload_n 3, 1) := dk_45 (dk_at dksX1_arm_1 8 rfl rfl)
theorem dX1_arm_32 : decode cX1_arm 32 = .ok (.invokedynamic 257, 5) := by decide +kernel
theorem dX1_arm_37 : decode cX1_arm 37 = .ok (.aastore, 1) := dk_83 (dk_at dksX1_arm_1 14 rfl rfl)
theorem dX1_arm_38 : decode cX1_arm 38 = .ok (.dup, 1) := dk_89 (dk_at dksX1_arm_1 15 rfl rfl)
theorem dX1_arm_39 : decode cX1_arm 39 = .ok (.iconst 2, 1) := dk_5 (dk_at dksX1_arm_1 16 rfl rfl)
theorem dX1_arm_40 : decode cX1_arm 40 = .ok (.aload_n 3, 1) := dk_45 (dk_at dksX1_arm_1 17 rfl rfl)
theorem dX1_arm_41 : decode cX1_arm 41 = .ok (.invokedynamic 260, 5) := by decide +kernel
theorem dX1_arm_46 : decode cX1_arm 46 = .ok (.aastore, 1) := dk_83 (dk_at dksX1_arm_1 23 rfl rfl)
theorem dX1_arm_47 : decode cX1_arm 47 = .ok (.dup, 1) := dk_89 (dk_at dksX1_arm_2 0 rfl rfl)
theorem dX1_arm_48 : decode cX1_arm 48 = .ok (.iconst 3, 1) := dk_6 (dk_at dksX1_arm_2 1 rfl rfl)
theorem dX1_arm_49 : decode cX1_arm 49 = .ok (.aload_n 3, 1) := dk_45 (dk_at dksX1_arm_2 2 rfl rfl)
theorem dX1_arm_50 : decode cX1_arm 50 = .ok (.invokedynamic 261, 5) := by decide +kernel
theorem dX1_arm_55 : decode cX1_arm 55 = .ok (.aastore, 1) := dk_83 (dk_at dksX1_arm_2 8 rfl rfl)
theorem dX1_arm_56 : decode cX1_arm 56 = .ok (.dup, 1) := dk_89 (dk_at dksX1_arm_2 9 rfl rfl)
theorem dX1_arm_57 : decode cX1_arm 57 = .ok (.iconst 4, 1) := dk_7 (dk_at dksX1_arm_2 10 rfl rfl)
theorem dX1_arm_58 : decode cX1_arm 58 = .ok (.aload_n 3, 1) := dk_45 (dk_at dksX1_arm_2 11 rfl rfl)
theorem dX1_arm_59 : decode cX1_arm 59 = .ok (.invokedynamic 262, 5) := by decide +kernel
theorem dX1_arm_64 : decode cX1_arm 64 = .ok (.aastore, 1) := dk_83 (dk_at dksX1_arm_2 17 rfl rfl)
theorem dX1_arm_65 : decode cX1_arm 65 = .ok (.dup, 1) := dk_89 (dk_at dksX1_arm_2 18 rfl rfl)
theorem dX1_arm_66 : decode cX1_arm 66 = .ok (.iconst 5, 1) := dk_8 (dk_at dksX1_arm_2 19 rfl rfl)
theorem dX1_arm_67 : decode cX1_arm 67 = .ok (.aload 4, 2) := dk_25 4 (dk_at dksX1_arm_2 20 rfl rfl)
theorem dX1_arm_69 : decode cX1_arm 69 = .ok (.iload_n 1, 1) := dk_27 (dk_at dksX1_arm_2 22 rfl rfl)
theorem dX1_arm_70 : decode cX1_arm 70 = .ok (.invokedynamic 263, 5) := by decide +kernel
theorem dX1_arm_75 : decode cX1_arm 75 = .ok (.aastore, 1) := dk_83 (dk_at dksX1_arm_3 5 rfl rfl)
theorem dX1_arm_76 : decode cX1_arm 76 = .ok (.dup, 1) := dk_89 (dk_at dksX1_arm_3 6 rfl rfl)
theorem dX1_arm_77 : decode cX1_arm 77 = .ok (.bipush 6, 2) := dk_16 6 (dk_at dksX1_arm_3 7 rfl rfl)
theorem dX1_arm_79 : decode cX1_arm 79 = .ok (.aload 4, 2) := dk_25 4 (dk_at dksX1_arm_3 9 rfl rfl)
theorem dX1_arm_81 : decode cX1_arm 81 = .ok (.iload_n 1, 1) := dk_27 (dk_at dksX1_arm_3 11 rfl rfl)
theorem dX1_arm_82 : decode cX1_arm 82 = .ok (.invokedynamic 264, 5) := by decide +kernel
theorem dX1_arm_87 : decode cX1_arm 87 = .ok (.aastore, 1) := dk_83 (dk_at dksX1_arm_3 17 rfl rfl)
theorem dX1_arm_88 : decode cX1_arm 88 = .ok (.dup, 1) := dk_89 (dk_at dksX1_arm_3 18 rfl rfl)
theorem dX1_arm_89 : decode cX1_arm 89 = .ok (.bipush 7, 2) := dk_16 7 (dk_at dksX1_arm_3 19 rfl rfl)
theorem dX1_arm_91 : decode cX1_arm 91 = .ok (.aload_n 3, 1) := dk_45 (dk_at dksX1_arm_3 21 rfl rfl)
theorem dX1_arm_92 : decode cX1_arm 92 = .ok (.invokedynamic 265, 5) := by decide +kernel
theorem dX1_arm_97 : decode cX1_arm 97 = .ok (.aastore, 1) := dk_83 (dk_at dksX1_arm_4 5 rfl rfl)
theorem dX1_arm_98 : decode cX1_arm 98 = .ok (.dup, 1) := dk_89 (dk_at dksX1_arm_4 6 rfl rfl)
theorem dX1_arm_99 : decode cX1_arm 99 = .ok (.bipush 8, 2) := dk_16 8 (dk_at dksX1_arm_4 7 rfl rfl)
theorem dX1_arm_101 : decode cX1_arm 101 = .ok (.aload_n 3, 1) := dk_45 (dk_at dksX1_arm_4 9 rfl rfl)
theorem dX1_arm_102 : decode cX1_arm 102 = .ok (.aload 4, 2) := dk_25 4 (dk_at dksX1_arm_4 10 rfl rfl)
theorem dX1_arm_104 : decode cX1_arm 104 = .ok (.invokedynamic 266, 5) := by decide +kernel
theorem dX1_arm_109 : decode cX1_arm 109 = .ok (.aastore, 1) := dk_83 (dk_at dksX1_arm_4 17 rfl rfl)
theorem dX1_arm_110 : decode cX1_arm 110 = .ok (.dup, 1) := dk_89 (dk_at dksX1_arm_4 18 rfl rfl)
theorem dX1_arm_111 : decode cX1_arm 111 = .ok (.bipush 9, 2) := dk_16 9 (dk_at dksX1_arm_4 19 rfl rfl)
theorem dX1_arm_113 : decode cX1_arm 113 = .ok (.aload_n 3, 1) := dk_45 (dk_at dksX1_arm_4 21 rfl rfl)
theorem dX1_arm_114 : decode cX1_arm 114 = .ok (.invokedynamic 269, 5) := by decide +kernel
theorem dX1_arm_119 : decode cX1_arm 119 = .ok (.aastore, 1) := dk_83 (dk_at dksX1_arm_5 5 rfl rfl)
theorem dX1_arm_120 : decode cX1_arm 120 = .ok (.invokestatic 247, 3) := dk_184 0 247 (dk_at dksX1_arm_5 6 rfl rfl)
theorem dX1_arm_123 : decode cX1_arm 123 = .ok (.ireturn, 1) := dk_172 (dk_at dksX1_arm_5 9 rfl rfl)
abbrev cX1_armAt : ByteArray := prog_1_method_12_code
def yX1_armAt : MethodName := ⟨RX1, "armAt", "(I)LLoopSignals$Arm;"⟩
def dkwX1_armAt_1 : List UInt8 := [42, 180, 0, 37, 27, 182, 0, 165, 176]
abbrev dktX1_armAt_1 : List UInt8 := dkwX1_armAt_1 ++ []
def dkwX1_armAt_0 : List UInt8 := [27, 133, 9, 42, 180, 0, 37, 180, 0, 159, 185, 0, 162, 1, 0, 4, 100, 133, 184, 0, 147, 184, 0, 151]
abbrev dktX1_armAt_0 : List UInt8 := dkwX1_armAt_0 ++ dktX1_armAt_1
theorem dksX1_armAt_0 : cX1_armAt.data.toList.drop 0 = dktX1_armAt_0 := by decide +kernel
theorem dksX1_armAt_1 : cX1_armAt.data.toList.drop 24 = dktX1_armAt_1 := dk_seg dksX1_armAt_0 24 rfl rfl
theorem dX1_armAt_0 : decode cX1_armAt 0 = .ok (.iload_n 1, 1) := dk_27 (dk_at dksX1_armAt_0 0 rfl rfl)
theorem dX1_armAt_1 : decode cX1_armAt 1 = .ok (.i2l, 1) := dk_133 (dk_at dksX1_armAt_0 1 rfl rfl)
theorem dX1_armAt_2 : decode cX1_armAt 2 = .ok (.lconst 0, 1) := dk_9 (dk_at dksX1_armAt_0 2 rfl rfl)
theorem dX1_armAt_3 : decode cX1_armAt 3 = .ok (.aload_n 0, 1) := dk_42 (dk_at dksX1_armAt_0 3 rfl rfl)
theorem dX1_armAt_4 : decode cX1_armAt 4 = .ok (.getfield 37, 3) := dk_180 0 37 (dk_at dksX1_armAt_0 4 rfl rfl)
theorem dX1_armAt_7 : decode cX1_armAt 7 = .ok (.getfield 159, 3) := dk_180 0 159 (dk_at dksX1_armAt_0 7 rfl rfl)
theorem dX1_armAt_10 : decode cX1_armAt 10 = .ok (.invokeinterface 162 1, 5) := by decide +kernel
theorem dX1_armAt_15 : decode cX1_armAt 15 = .ok (.iconst 1, 1) := dk_4 (dk_at dksX1_armAt_0 15 rfl rfl)
theorem dX1_armAt_16 : decode cX1_armAt 16 = .ok (.isub, 1) := dk_100 (dk_at dksX1_armAt_0 16 rfl rfl)
theorem dX1_armAt_17 : decode cX1_armAt 17 = .ok (.i2l, 1) := dk_133 (dk_at dksX1_armAt_0 17 rfl rfl)
theorem dX1_armAt_18 : decode cX1_armAt 18 = .ok (.invokestatic 147, 3) := dk_184 0 147 (dk_at dksX1_armAt_0 18 rfl rfl)
theorem dX1_armAt_21 : decode cX1_armAt 21 = .ok (.invokestatic 151, 3) := dk_184 0 151 (dk_at dksX1_armAt_0 21 rfl rfl)
theorem dX1_armAt_24 : decode cX1_armAt 24 = .ok (.aload_n 0, 1) := dk_42 (dk_at dksX1_armAt_1 0 rfl rfl)
theorem dX1_armAt_25 : decode cX1_armAt 25 = .ok (.getfield 37, 3) := dk_180 0 37 (dk_at dksX1_armAt_1 1 rfl rfl)
theorem dX1_armAt_28 : decode cX1_armAt 28 = .ok (.iload_n 1, 1) := dk_27 (dk_at dksX1_armAt_1 4 rfl rfl)
theorem dX1_armAt_29 : decode cX1_armAt 29 = .ok (.invokevirtual 165, 3) := dk_182 0 165 (dk_at dksX1_armAt_1 5 rfl rfl)
theorem dX1_armAt_32 : decode cX1_armAt 32 = .ok (.areturn, 1) := dk_176 (dk_at dksX1_armAt_1 8 rfl rfl)
abbrev cX1_lambda_arm_14 : ByteArray := prog_1_method_80_code
def yX1_lambda_arm_14 : MethodName := ⟨RX1, "lambda$arm$14", "(LLoopSignals$Junction;I)I"⟩
def dkwX1_lambda_arm_14_0 : List UInt8 := [42, 27, 182, 1, 91, 172]
abbrev dktX1_lambda_arm_14_0 : List UInt8 := dkwX1_lambda_arm_14_0 ++ []
theorem dksX1_lambda_arm_14_0 : cX1_lambda_arm_14.data.toList.drop 0 = dktX1_lambda_arm_14_0 := by decide +kernel
theorem dX1_lambda_arm_14_0 : decode cX1_lambda_arm_14 0 = .ok (.aload_n 0, 1) := dk_42 (dk_at dksX1_lambda_arm_14_0 0 rfl rfl)
theorem dX1_lambda_arm_14_1 : decode cX1_lambda_arm_14 1 = .ok (.iload_n 1, 1) := dk_27 (dk_at dksX1_lambda_arm_14_0 1 rfl rfl)
theorem dX1_lambda_arm_14_2 : decode cX1_lambda_arm_14 2 = .ok (.invokevirtual 347, 3) := dk_182 1 91 (dk_at dksX1_lambda_arm_14_0 2 rfl rfl)
theorem dX1_lambda_arm_14_5 : decode cX1_lambda_arm_14 5 = .ok (.ireturn, 1) := dk_172 (dk_at dksX1_lambda_arm_14_0 5 rfl rfl)
abbrev cX1_lambda_arm_15 : ByteArray := prog_1_method_79_code
def yX1_lambda_arm_15 : MethodName := ⟨RX1, "lambda$arm$15", "(LLoopSignals$Arm;)I"⟩
def dkwX1_lambda_arm_15_0 : List UInt8 := [42, 180, 1, 34, 180, 1, 215, 172]
abbrev dktX1_lambda_arm_15_0 : List UInt8 := dkwX1_lambda_arm_15_0 ++ []
theorem dksX1_lambda_arm_15_0 : cX1_lambda_arm_15.data.toList.drop 0 = dktX1_lambda_arm_15_0 := by decide +kernel
theorem dX1_lambda_arm_15_0 : decode cX1_lambda_arm_15 0 = .ok (.aload_n 0, 1) := dk_42 (dk_at dksX1_lambda_arm_15_0 0 rfl rfl)
theorem dX1_lambda_arm_15_1 : decode cX1_lambda_arm_15 1 = .ok (.getfield 290, 3) := dk_180 1 34 (dk_at dksX1_lambda_arm_15_0 1 rfl rfl)
theorem dX1_lambda_arm_15_4 : decode cX1_lambda_arm_15 4 = .ok (.getfield 471, 3) := dk_180 1 215 (dk_at dksX1_lambda_arm_15_0 4 rfl rfl)
theorem dX1_lambda_arm_15_7 : decode cX1_lambda_arm_15 7 = .ok (.ireturn, 1) := dk_172 (dk_at dksX1_lambda_arm_15_0 7 rfl rfl)
abbrev cX1_lambda_arm_16 : ByteArray := prog_1_method_78_code
def yX1_lambda_arm_16 : MethodName := ⟨RX1, "lambda$arm$16", "(LLoopSignals$Arm;)I"⟩
theorem dX1_lambda_arm_16_0 : decode cX1_lambda_arm_16 0 = .ok (.aload_n 0, 1) := by decide +kernel
theorem dX1_lambda_arm_16_1 : decode cX1_lambda_arm_16 1 = .ok (.getfield 489, 3) := by decide +kernel
theorem dX1_lambda_arm_16_4 : decode cX1_lambda_arm_16 4 = .ok (.ireturn, 1) := by decide +kernel
abbrev cX1_lambda_arm_17 : ByteArray := prog_1_method_77_code
def yX1_lambda_arm_17 : MethodName := ⟨RX1, "lambda$arm$17", "(LLoopSignals$Arm;)I"⟩
def dkwX1_lambda_arm_17_0 : List UInt8 := [42, 180, 1, 230, 184, 0, 187, 172]
abbrev dktX1_lambda_arm_17_0 : List UInt8 := dkwX1_lambda_arm_17_0 ++ []
theorem dksX1_lambda_arm_17_0 : cX1_lambda_arm_17.data.toList.drop 0 = dktX1_lambda_arm_17_0 := by decide +kernel
theorem dX1_lambda_arm_17_0 : decode cX1_lambda_arm_17 0 = .ok (.aload_n 0, 1) := dk_42 (dk_at dksX1_lambda_arm_17_0 0 rfl rfl)
theorem dX1_lambda_arm_17_1 : decode cX1_lambda_arm_17 1 = .ok (.getfield 486, 3) := dk_180 1 230 (dk_at dksX1_lambda_arm_17_0 1 rfl rfl)
theorem dX1_lambda_arm_17_4 : decode cX1_lambda_arm_17 4 = .ok (.invokestatic 187, 3) := dk_184 0 187 (dk_at dksX1_lambda_arm_17_0 4 rfl rfl)
theorem dX1_lambda_arm_17_7 : decode cX1_lambda_arm_17 7 = .ok (.ireturn, 1) := dk_172 (dk_at dksX1_lambda_arm_17_0 7 rfl rfl)
abbrev cX1_lambda_arm_18 : ByteArray := prog_1_method_76_code
def yX1_lambda_arm_18 : MethodName := ⟨RX1, "lambda$arm$18", "(LLoopSignals$Arm;)I"⟩
def dkwX1_lambda_arm_18_0 : List UInt8 := [42, 182, 1, 227, 184, 0, 187, 172]
abbrev dktX1_lambda_arm_18_0 : List UInt8 := dkwX1_lambda_arm_18_0 ++ []
theorem dksX1_lambda_arm_18_0 : cX1_lambda_arm_18.data.toList.drop 0 = dktX1_lambda_arm_18_0 := by decide +kernel
theorem dX1_lambda_arm_18_0 : decode cX1_lambda_arm_18 0 = .ok (.aload_n 0, 1) := dk_42 (dk_at dksX1_lambda_arm_18_0 0 rfl rfl)
theorem dX1_lambda_arm_18_1 : decode cX1_lambda_arm_18 1 = .ok (.invokevirtual 483, 3) := dk_182 1 227 (dk_at dksX1_lambda_arm_18_0 1 rfl rfl)
theorem dX1_lambda_arm_18_4 : decode cX1_lambda_arm_18 4 = .ok (.invokestatic 187, 3) := dk_184 0 187 (dk_at dksX1_lambda_arm_18_0 4 rfl rfl)
theorem dX1_lambda_arm_18_7 : decode cX1_lambda_arm_18 7 = .ok (.ireturn, 1) := dk_172 (dk_at dksX1_lambda_arm_18_0 7 rfl rfl)
abbrev cX1_lambda_arm_19 : ByteArray := prog_1_method_75_code
def yX1_lambda_arm_19 : MethodName := ⟨RX1, "lambda$arm$19", "(LLoopSignals$Junction;I)I"⟩
def dkwX1_lambda_arm_19_0 : List UInt8 := [42, 27, 182, 1, 224, 172]
abbrev dktX1_lambda_arm_19_0 : List UInt8 := dkwX1_lambda_arm_19_0 ++ []
theorem dksX1_lambda_arm_19_0 : cX1_lambda_arm_19.data.toList.drop 0 = dktX1_lambda_arm_19_0 := by decide +kernel
theorem dX1_lambda_arm_19_0 : decode cX1_lambda_arm_19 0 = .ok (.aload_n 0, 1) := dk_42 (dk_at dksX1_lambda_arm_19_0 0 rfl rfl)
theorem dX1_lambda_arm_19_1 : decode cX1_lambda_arm_19 1 = .ok (.iload_n 1, 1) := dk_27 (dk_at dksX1_lambda_arm_19_0 1 rfl rfl)
theorem dX1_lambda_arm_19_2 : decode cX1_lambda_arm_19 2 = .ok (.invokevirtual 480, 3) := dk_182 1 224 (dk_at dksX1_lambda_arm_19_0 2 rfl rfl)
theorem dX1_lambda_arm_19_5 : decode cX1_lambda_arm_19 5 = .ok (.ireturn, 1) := dk_172 (dk_at dksX1_lambda_arm_19_0 5 rfl rfl)
abbrev cX1_lambda_arm_20 : ByteArray := prog_1_method_74_code
def yX1_lambda_arm_20 : MethodName := ⟨RX1, "lambda$arm$20", "(LLoopSignals$Junction;I)I"⟩
def dkwX1_lambda_arm_20_0 : List UInt8 := [42, 27, 182, 1, 221, 172]
abbrev dktX1_lambda_arm_20_0 : List UInt8 := dkwX1_lambda_arm_20_0 ++ []
theorem dksX1_lambda_arm_20_0 : cX1_lambda_arm_20.data.toList.drop 0 = dktX1_lambda_arm_20_0 := by decide +kernel
theorem dX1_lambda_arm_20_0 : decode cX1_lambda_arm_20 0 = .ok (.aload_n 0, 1) := dk_42 (dk_at dksX1_lambda_arm_20_0 0 rfl rfl)
theorem dX1_lambda_arm_20_1 : decode cX1_lambda_arm_20 1 = .ok (.iload_n 1, 1) := dk_27 (dk_at dksX1_lambda_arm_20_0 1 rfl rfl)
theorem dX1_lambda_arm_20_2 : decode cX1_lambda_arm_20 2 = .ok (.invokevirtual 477, 3) := dk_182 1 221 (dk_at dksX1_lambda_arm_20_0 2 rfl rfl)
theorem dX1_lambda_arm_20_5 : decode cX1_lambda_arm_20 5 = .ok (.ireturn, 1) := dk_172 (dk_at dksX1_lambda_arm_20_0 5 rfl rfl)
abbrev cX1_lambda_arm_21 : ByteArray := prog_1_method_73_code
def yX1_lambda_arm_21 : MethodName := ⟨RX1, "lambda$arm$21", "(LLoopSignals$Arm;)I"⟩
theorem dX1_lambda_arm_21_0 : decode cX1_lambda_arm_21 0 = .ok (.aload_n 0, 1) := by decide +kernel
theorem dX1_lambda_arm_21_1 : decode cX1_lambda_arm_21 1 = .ok (.getfield 474, 3) := by decide +kernel
theorem dX1_lambda_arm_21_4 : decode cX1_lambda_arm_21 4 = .ok (.ireturn, 1) := by decide +kernel
abbrev cX1_lambda_arm_22 : ByteArray := prog_1_method_72_code
def yX1_lambda_arm_22 : MethodName := ⟨RX1, "lambda$arm$22", "(LLoopSignals$Arm;LLoopSignals$Junction;)I"⟩
def dkwX1_lambda_arm_22_1 : List UInt8 := [182, 1, 38, 100, 172]
abbrev dktX1_lambda_arm_22_1 : List UInt8 := dkwX1_lambda_arm_22_1 ++ []
def dkwX1_lambda_arm_22_0 : List UInt8 := [42, 180, 1, 34, 180, 1, 215, 154, 0, 7, 3, 167, 0, 16, 43, 180, 1, 79, 42, 180, 1, 34, 3]
abbrev dktX1_lambda_arm_22_0 : List UInt8 := dkwX1_lambda_arm_22_0 ++ dktX1_lambda_arm_22_1
theorem dksX1_lambda_arm_22_0 : cX1_lambda_arm_22.data.toList.drop 0 = dktX1_lambda_arm_22_0 := by decide +kernel
theorem dksX1_lambda_arm_22_1 : cX1_lambda_arm_22.data.toList.drop 23 = dktX1_lambda_arm_22_1 := dk_seg dksX1_lambda_arm_22_0 23 rfl rfl
theorem dX1_lambda_arm_22_0 : decode cX1_lambda_arm_22 0 = .ok (.aload_n 0, 1) := dk_42 (dk_at dksX1_lambda_arm_22_0 0 rfl rfl)
theorem dX1_lambda_arm_22_1 : decode cX1_lambda_arm_22 1 = .ok (.getfield 290, 3) := dk_180 1 34 (dk_at dksX1_lambda_arm_22_0 1 rfl rfl)
theorem dX1_lambda_arm_22_4 : decode cX1_lambda_arm_22 4 = .ok (.getfield 471, 3) := dk_180 1 215 (dk_at dksX1_lambda_arm_22_0 4 rfl rfl)
theorem dX1_lambda_arm_22_7 : decode cX1_lambda_arm_22 7 = .ok (.ifCond .ne 7, 3) := dk_154 0 7 (dk_at dksX1_lambda_arm_22_0 7 rfl rfl)
theorem dX1_lambda_arm_22_10 : decode cX1_lambda_arm_22 10 = .ok (.iconst 0, 1) := dk_3 (dk_at dksX1_lambda_arm_22_0 10 rfl rfl)
theorem dX1_lambda_arm_22_11 : decode cX1_lambda_arm_22 11 = .ok (.goto 16, 3) := dk_167 0 16 (dk_at dksX1_lambda_arm_22_0 11 rfl rfl)
theorem dX1_lambda_arm_22_14 : decode cX1_lambda_arm_22 14 = .ok (.aload_n 1, 1) := dk_43 (dk_at dksX1_lambda_arm_22_0 14 rfl rfl)
theorem dX1_lambda_arm_22_15 : decode cX1_lambda_arm_22 15 = .ok (.getfield 335, 3) := dk_180 1 79 (dk_at dksX1_lambda_arm_22_0 15 rfl rfl)
theorem dX1_lambda_arm_22_18 : decode cX1_lambda_arm_22 18 = .ok (.aload_n 0, 1) := dk_42 (dk_at dksX1_lambda_arm_22_0 18 rfl rfl)
theorem dX1_lambda_arm_22_19 : decode cX1_lambda_arm_22 19 = .ok (.getfield 290, 3) := dk_180 1 34 (dk_at dksX1_lambda_arm_22_0 19 rfl rfl)
theorem dX1_lambda_arm_22_22 : decode cX1_lambda_arm_22 22 = .ok (.iconst 0, 1) := dk_3 (dk_at dksX1_lambda_arm_22_0 22 rfl rfl)
theorem dX1_lambda_arm_22_23 : decode cX1_lambda_arm_22 23 = .ok (.invokevirtual 294, 3) := dk_182 1 38 (dk_at dksX1_lambda_arm_22_1 0 rfl rfl)
theorem dX1_lambda_arm_22_26 : decode cX1_lambda_arm_22 26 = .ok (.isub, 1) := dk_100 (dk_at dksX1_lambda_arm_22_1 3 rfl rfl)
theorem dX1_lambda_arm_22_27 : decode cX1_lambda_arm_22 27 = .ok (.ireturn, 1) := dk_172 (dk_at dksX1_lambda_arm_22_1 4 rfl rfl)
abbrev cX1_lambda_arm_23 : ByteArray := prog_1_method_71_code
def yX1_lambda_arm_23 : MethodName := ⟨RX1, "lambda$arm$23", "(LLoopSignals$Arm;)I"⟩
theorem dX1_lambda_arm_23_0 : decode cX1_lambda_arm_23 0 = .ok (.aload_n 0, 1) := by decide +kernel
theorem dX1_lambda_arm_23_1 : decode cX1_lambda_arm_23 1 = .ok (.getfield 338, 3) := by decide +kernel
theorem dX1_lambda_arm_23_4 : decode cX1_lambda_arm_23 4 = .ok (.ireturn, 1) := by decide +kernel
abbrev cX1_phase_2 : ByteArray := prog_1_method_24_code
def yX1_phase_2 : MethodName := ⟨RX1, "phase", "(II)I"⟩
def dkwX1_phase_2_3 : List UInt8 := [27, 186, 1, 24, 0, 0, 83, 89, 16, 6, 45, 186, 1, 25, 0, 0, 83, 184, 0, 247, 172]
abbrev dktX1_phase_2_3 : List UInt8 := dkwX1_phase_2_3 ++ []
def dkwX1_phase_2_2 : List UInt8 := [89, 6, 45, 186, 1, 22, 0, 0, 83, 89, 7, 25, 4, 27, 186, 1, 23, 0, 0, 83, 89, 8, 25, 4]
abbrev dktX1_phase_2_2 : List UInt8 := dkwX1_phase_2_2 ++ dktX1_phase_2_3
def dkwX1_phase_2_1 : List UInt8 := [186, 1, 17, 0, 0, 83, 89, 4, 45, 186, 1, 20, 0, 0, 83, 89, 5, 45, 186, 1, 21, 0, 0, 83]
abbrev dktX1_phase_2_1 : List UInt8 := dkwX1_phase_2_1 ++ dktX1_phase_2_2
def dkwX1_phase_2_0 : List UInt8 := [42, 27, 182, 1, 14, 78, 42, 180, 0, 37, 58, 4, 28, 16, 7, 189, 0, 156, 89, 3, 45]
abbrev dktX1_phase_2_0 : List UInt8 := dkwX1_phase_2_0 ++ dktX1_phase_2_1
theorem dksX1_phase_2_0 : cX1_phase_2.data.toList.drop 0 = dktX1_phase_2_0 := by decide +kernel
theorem dksX1_phase_2_1 : cX1_phase_2.data.toList.drop 21 = dktX1_phase_2_1 := dk_seg dksX1_phase_2_0 21 rfl rfl
theorem dksX1_phase_2_2 : cX1_phase_2.data.toList.drop 45 = dktX1_phase_2_2 := dk_seg dksX1_phase_2_1 24 rfl rfl
theorem dksX1_phase_2_3 : cX1_phase_2.data.toList.drop 69 = dktX1_phase_2_3 := dk_seg dksX1_phase_2_2 24 rfl rfl
theorem dX1_phase_2_0 : decode cX1_phase_2 0 = .ok (.aload_n 0, 1) := dk_42 (dk_at dksX1_phase_2_0 0 rfl rfl)
theorem dX1_phase_2_1 : decode cX1_phase_2 1 = .ok (.iload_n 1, 1) := dk_27 (dk_at dksX1_phase_2_0 1 rfl rfl)
theorem dX1_phase_2_2 : decode cX1_phase_2 2 = .ok (.invokevirtual 270, 3) := dk_182 1 14 (dk_at dksX1_phase_2_0 2 rfl rfl)
theorem dX1_phase_2_5 : decode cX1_phase_2 5 = .ok (.astore_n 3, 1) := dk_78 (dk_at dksX1_phase_2_0 5 rfl rfl)
theorem dX1_phase_2_6 : decode cX1_phase_2 6 = .ok (.aload_n 0, 1) := dk_42 (dk_at dksX1_phase_2_0 6 rfl rfl)
theorem dX1_phase_2_7 : decode cX1_phase_2 7 = .ok (.getfield 37, 3) := dk_180 0 37 (dk_at dksX1_phase_2_0 7 rfl rfl)
theorem dX1_phase_2_10 : decode cX1_phase_2 10 = .ok (.astore 4, 2) := dk_58 4 (dk_at dksX1_phase_2_0 10 rfl rfl)
theorem dX1_phase_2_12 : decode cX1_phase_2 12 = .ok (.iload_n 2, 1) := dk_28 (dk_at dksX1_phase_2_0 12 rfl rfl)
theorem dX1_phase_2_13 : decode cX1_phase_2 13 = .ok (.bipush 7, 2) := dk_16 7 (dk_at dksX1_phase_2_0 13 rfl rfl)
theorem dX1_phase_2_15 : decode cX1_phase_2 15 = .ok (.anewarray 156, 3) := dk_189 0 156 (dk_at dksX1_phase_2_0 15 rfl rfl)
theorem dX1_phase_2_18 : decode cX1_phase_2 18 = .ok (.dup, 1) := dk_89 (dk_at dksX1_phase_2_0 18 rfl rfl)
theorem dX1_phase_2_19 : decode cX1_phase_2 19 = .ok (.iconst 0, 1) := dk_3 (dk_at dksX1_phase_2_0 19 rfl rfl)
theorem dX1_phase_2_20 : decode cX1_phase_2 20 = .ok (.aload_n 3, 1) := dk_45 (dk_at dksX1_phase_2_0 20 rfl rfl)
theorem dX1_phase_2_21 : decode cX1_phase_2 21 = .ok (.invokedynamic 273, 5) := by decide +kernel
theorem dX1_phase_2_26 : decode cX1_phase_2 26 = .ok (.aastore, 1) := dk_83 (dk_at dksX1_phase_2_1 5 rfl rfl)
theorem dX1_phase_2_27 : decode cX1_phase_2 27 = .ok (.dup, 1) := dk_89 (dk_at dksX1_phase_2_1 6 rfl rfl)
theorem dX1_phase_2_28 : decode cX1_phase_2 28 = .ok (.iconst 1, 1) := dk_4 (dk_at dksX1_phase_2_1 7 rfl rfl)
theorem dX1_phase_2_29 : decode cX1_phase_2 29 = .ok (.aload_n 3, 1) := dk_45 (dk_at dksX1_phase_2_1 8 rfl rfl)
theorem dX1_phase_2_30 : decode cX1_phase_2 30 = .ok (.invokedynamic 276, 5) := by decide +kernel
theorem dX1_phase_2_35 : decode cX1_phase_2 35 = .ok (.aastore, 1) := dk_83 (dk_at dksX1_phase_2_1 14 rfl rfl)
theorem dX1_phase_2_36 : decode cX1_phase_2 36 = .ok (.dup, 1) := dk_89 (dk_at dksX1_phase_2_1 15 rfl rfl)
theorem dX1_phase_2_37 : decode cX1_phase_2 37 = .ok (.iconst 2, 1) := dk_5 (dk_at dksX1_phase_2_1 16 rfl rfl)
theorem dX1_phase_2_38 : decode cX1_phase_2 38 = .ok (.aload_n 3, 1) := dk_45 (dk_at dksX1_phase_2_1 17 rfl rfl)
theorem dX1_phase_2_39 : decode cX1_phase_2 39 = .ok (.invokedynamic 277, 5) := by decide +kernel
theorem dX1_phase_2_44 : decode cX1_phase_2 44 = .ok (.aastore, 1) := dk_83 (dk_at dksX1_phase_2_1 23 rfl rfl)
theorem dX1_phase_2_45 : decode cX1_phase_2 45 = .ok (.dup, 1) := dk_89 (dk_at dksX1_phase_2_2 0 rfl rfl)
theorem dX1_phase_2_46 : decode cX1_phase_2 46 = .ok (.iconst 3, 1) := dk_6 (dk_at dksX1_phase_2_2 1 rfl rfl)
theorem dX1_phase_2_47 : decode cX1_phase_2 47 = .ok (.aload_n 3, 1) := dk_45 (dk_at dksX1_phase_2_2 2 rfl rfl)
theorem dX1_phase_2_48 : decode cX1_phase_2 48 = .ok (.invokedynamic 278, 5) := by decide +kernel
theorem dX1_phase_2_53 : decode cX1_phase_2 53 = .ok (.aastore, 1) := dk_83 (dk_at dksX1_phase_2_2 8 rfl rfl)
theorem dX1_phase_2_54 : decode cX1_phase_2 54 = .ok (.dup, 1) := dk_89 (dk_at dksX1_phase_2_2 9 rfl rfl)
theorem dX1_phase_2_55 : decode cX1_phase_2 55 = .ok (.iconst 4, 1) := dk_7 (dk_at dksX1_phase_2_2 10 rfl rfl)
theorem dX1_phase_2_56 : decode cX1_phase_2 56 = .ok (.aload 4, 2) := dk_25 4 (dk_at dksX1_phase_2_2 11 rfl rfl)
theorem dX1_phase_2_58 : decode cX1_phase_2 58 = .ok (.iload_n 1, 1) := dk_27 (dk_at dksX1_phase_2_2 13 rfl rfl)
theorem dX1_phase_2_59 : decode cX1_phase_2 59 = .ok (.invokedynamic 279, 5) := by decide +kernel
theorem dX1_phase_2_64 : decode cX1_phase_2 64 = .ok (.aastore, 1) := dk_83 (dk_at dksX1_phase_2_2 19 rfl rfl)
theorem dX1_phase_2_65 : decode cX1_phase_2 65 = .ok (.dup, 1) := dk_89 (dk_at dksX1_phase_2_2 20 rfl rfl)
theorem dX1_phase_2_66 : decode cX1_phase_2 66 = .ok (.iconst 5, 1) := dk_8 (dk_at dksX1_phase_2_2 21 rfl rfl)
theorem dX1_phase_2_67 : decode cX1_phase_2 67 = .ok (.aload 4, 2) := dk_25 4 (dk_at dksX1_phase_2_2 22 rfl rfl)
theorem dX1_phase_2_69 : decode cX1_phase_2 69 = .ok (.iload_n 1, 1) := dk_27 (dk_at dksX1_phase_2_3 0 rfl rfl)
theorem dX1_phase_2_70 : decode cX1_phase_2 70 = .ok (.invokedynamic 280, 5) := by decide +kernel
theorem dX1_phase_2_75 : decode cX1_phase_2 75 = .ok (.aastore, 1) := dk_83 (dk_at dksX1_phase_2_3 6 rfl rfl)
theorem dX1_phase_2_76 : decode cX1_phase_2 76 = .ok (.dup, 1) := dk_89 (dk_at dksX1_phase_2_3 7 rfl rfl)
theorem dX1_phase_2_77 : decode cX1_phase_2 77 = .ok (.bipush 6, 2) := dk_16 6 (dk_at dksX1_phase_2_3 8 rfl rfl)
theorem dX1_phase_2_79 : decode cX1_phase_2 79 = .ok (.aload_n 3, 1) := dk_45 (dk_at dksX1_phase_2_3 10 rfl rfl)
theorem dX1_phase_2_80 : decode cX1_phase_2 80 = .ok (.invokedynamic 281, 5) := by decide +kernel
theorem dX1_phase_2_85 : decode cX1_phase_2 85 = .ok (.aastore, 1) := dk_83 (dk_at dksX1_phase_2_3 16 rfl rfl)
theorem dX1_phase_2_86 : decode cX1_phase_2 86 = .ok (.invokestatic 247, 3) := dk_184 0 247 (dk_at dksX1_phase_2_3 17 rfl rfl)
theorem dX1_phase_2_89 : decode cX1_phase_2 89 = .ok (.ireturn, 1) := dk_172 (dk_at dksX1_phase_2_3 20 rfl rfl)
abbrev cX1_phaseAt : ByteArray := prog_1_method_13_code
def yX1_phaseAt : MethodName := ⟨RX1, "phaseAt", "(I)LLoopSignals$Phase;"⟩
def dkwX1_phaseAt_1 : List UInt8 := [42, 180, 0, 37, 27, 182, 0, 172, 176]
abbrev dktX1_phaseAt_1 : List UInt8 := dkwX1_phaseAt_1 ++ []
def dkwX1_phaseAt_0 : List UInt8 := [27, 133, 9, 42, 180, 0, 37, 180, 0, 169, 185, 0, 162, 1, 0, 4, 100, 133, 184, 0, 147, 184, 0, 151]
abbrev dktX1_phaseAt_0 : List UInt8 := dkwX1_phaseAt_0 ++ dktX1_phaseAt_1
theorem dksX1_phaseAt_0 : cX1_phaseAt.data.toList.drop 0 = dktX1_phaseAt_0 := by decide +kernel
theorem dksX1_phaseAt_1 : cX1_phaseAt.data.toList.drop 24 = dktX1_phaseAt_1 := dk_seg dksX1_phaseAt_0 24 rfl rfl
theorem dX1_phaseAt_0 : decode cX1_phaseAt 0 = .ok (.iload_n 1, 1) := dk_27 (dk_at dksX1_phaseAt_0 0 rfl rfl)
theorem dX1_phaseAt_1 : decode cX1_phaseAt 1 = .ok (.i2l, 1) := dk_133 (dk_at dksX1_phaseAt_0 1 rfl rfl)
theorem dX1_phaseAt_2 : decode cX1_phaseAt 2 = .ok (.lconst 0, 1) := dk_9 (dk_at dksX1_phaseAt_0 2 rfl rfl)
theorem dX1_phaseAt_3 : decode cX1_phaseAt 3 = .ok (.aload_n 0, 1) := dk_42 (dk_at dksX1_phaseAt_0 3 rfl rfl)
theorem dX1_phaseAt_4 : decode cX1_phaseAt 4 = .ok (.getfield 37, 3) := dk_180 0 37 (dk_at dksX1_phaseAt_0 4 rfl rfl)
theorem dX1_phaseAt_7 : decode cX1_phaseAt 7 = .ok (.getfield 169, 3) := dk_180 0 169 (dk_at dksX1_phaseAt_0 7 rfl rfl)
theorem dX1_phaseAt_10 : decode cX1_phaseAt 10 = .ok (.invokeinterface 162 1, 5) := by decide +kernel
theorem dX1_phaseAt_15 : decode cX1_phaseAt 15 = .ok (.iconst 1, 1) := dk_4 (dk_at dksX1_phaseAt_0 15 rfl rfl)
theorem dX1_phaseAt_16 : decode cX1_phaseAt 16 = .ok (.isub, 1) := dk_100 (dk_at dksX1_phaseAt_0 16 rfl rfl)
theorem dX1_phaseAt_17 : decode cX1_phaseAt 17 = .ok (.i2l, 1) := dk_133 (dk_at dksX1_phaseAt_0 17 rfl rfl)
theorem dX1_phaseAt_18 : decode cX1_phaseAt 18 = .ok (.invokestatic 147, 3) := dk_184 0 147 (dk_at dksX1_phaseAt_0 18 rfl rfl)
theorem dX1_phaseAt_21 : decode cX1_phaseAt 21 = .ok (.invokestatic 151, 3) := dk_184 0 151 (dk_at dksX1_phaseAt_0 21 rfl rfl)
theorem dX1_phaseAt_24 : decode cX1_phaseAt 24 = .ok (.aload_n 0, 1) := dk_42 (dk_at dksX1_phaseAt_1 0 rfl rfl)
theorem dX1_phaseAt_25 : decode cX1_phaseAt 25 = .ok (.getfield 37, 3) := dk_180 0 37 (dk_at dksX1_phaseAt_1 1 rfl rfl)
theorem dX1_phaseAt_28 : decode cX1_phaseAt 28 = .ok (.iload_n 1, 1) := dk_27 (dk_at dksX1_phaseAt_1 4 rfl rfl)
theorem dX1_phaseAt_29 : decode cX1_phaseAt 29 = .ok (.invokevirtual 172, 3) := dk_182 0 172 (dk_at dksX1_phaseAt_1 5 rfl rfl)
theorem dX1_phaseAt_32 : decode cX1_phaseAt 32 = .ok (.areturn, 1) := dk_176 (dk_at dksX1_phaseAt_1 8 rfl rfl)
abbrev cX1_lambda_phase_24 : ByteArray := prog_1_method_70_code
def yX1_lambda_phase_24 : MethodName := ⟨RX1, "lambda$phase$24", "(LLoopSignals$Phase;)I"⟩
theorem dX1_lambda_phase_24_0 : decode cX1_lambda_phase_24 0 = .ok (.aload_n 0, 1) := by decide +kernel
theorem dX1_lambda_phase_24_1 : decode cX1_lambda_phase_24 1 = .ok (.getfield 89, 3) := by decide +kernel
theorem dX1_lambda_phase_24_4 : decode cX1_lambda_phase_24 4 = .ok (.ireturn, 1) := by decide +kernel
abbrev cX1_lambda_phase_25 : ByteArray := prog_1_method_69_code
def yX1_lambda_phase_25 : MethodName := ⟨RX1, "lambda$phase$25", "(LLoopSignals$Phase;)I"⟩
theorem dX1_lambda_phase_25_0 : decode cX1_lambda_phase_25 0 = .ok (.aload_n 0, 1) := by decide +kernel
theorem dX1_lambda_phase_25_1 : decode cX1_lambda_phase_25 1 = .ok (.getfield 92, 3) := by decide +kernel
theorem dX1_lambda_phase_25_4 : decode cX1_lambda_phase_25 4 = .ok (.ireturn, 1) := by decide +kernel
abbrev cX1_lambda_phase_26 : ByteArray := prog_1_method_68_code
def yX1_lambda_phase_26 : MethodName := ⟨RX1, "lambda$phase$26", "(LLoopSignals$Phase;)I"⟩
def dkwX1_lambda_phase_26_0 : List UInt8 := [42, 180, 0, 95, 182, 1, 212, 172]
abbrev dktX1_lambda_phase_26_0 : List UInt8 := dkwX1_lambda_phase_26_0 ++ []
theorem dksX1_lambda_phase_26_0 : cX1_lambda_phase_26.data.toList.drop 0 = dktX1_lambda_phase_26_0 := by decide +kernel
theorem dX1_lambda_phase_26_0 : decode cX1_lambda_phase_26 0 = .ok (.aload_n 0, 1) := dk_42 (dk_at dksX1_lambda_phase_26_0 0 rfl rfl)
theorem dX1_lambda_phase_26_1 : decode cX1_lambda_phase_26 1 = .ok (.getfield 95, 3) := dk_180 0 95 (dk_at dksX1_lambda_phase_26_0 1 rfl rfl)
theorem dX1_lambda_phase_26_4 : decode cX1_lambda_phase_26 4 = .ok (.invokevirtual 468, 3) := dk_182 1 212 (dk_at dksX1_lambda_phase_26_0 4 rfl rfl)
theorem dX1_lambda_phase_26_7 : decode cX1_lambda_phase_26 7 = .ok (.ireturn, 1) := dk_172 (dk_at dksX1_lambda_phase_26_0 7 rfl rfl)
abbrev cX1_lambda_phase_27 : ByteArray := prog_1_method_67_code
def yX1_lambda_phase_27 : MethodName := ⟨RX1, "lambda$phase$27", "(LLoopSignals$Phase;)I"⟩
def dkwX1_lambda_phase_27_0 : List UInt8 := [42, 180, 1, 208, 184, 0, 187, 172]
abbrev dktX1_lambda_phase_27_0 : List UInt8 := dkwX1_lambda_phase_27_0 ++ []
theorem dksX1_lambda_phase_27_0 : cX1_lambda_phase_27.data.toList.drop 0 = dktX1_lambda_phase_27_0 := by decide +kernel
theorem dX1_lambda_phase_27_0 : decode cX1_lambda_phase_27 0 = .ok (.aload_n 0, 1) := dk_42 (dk_at dksX1_lambda_phase_27_0 0 rfl rfl)
theorem dX1_lambda_phase_27_1 : decode cX1_lambda_phase_27 1 = .ok (.getfield 464, 3) := dk_180 1 208 (dk_at dksX1_lambda_phase_27_0 1 rfl rfl)
theorem dX1_lambda_phase_27_4 : decode cX1_lambda_phase_27 4 = .ok (.invokestatic 187, 3) := dk_184 0 187 (dk_at dksX1_lambda_phase_27_0 4 rfl rfl)
theorem dX1_lambda_phase_27_7 : decode cX1_lambda_phase_27 7 = .ok (.ireturn, 1) := dk_172 (dk_at dksX1_lambda_phase_27_0 7 rfl rfl)
abbrev cX1_lambda_phase_28 : ByteArray := prog_1_method_66_code
def yX1_lambda_phase_28 : MethodName := ⟨RX1, "lambda$phase$28", "(LLoopSignals$Junction;I)I"⟩
def dkwX1_lambda_phase_28_0 : List UInt8 := [42, 27, 182, 1, 205, 184, 0, 187, 172]
abbrev dktX1_lambda_phase_28_0 : List UInt8 := dkwX1_lambda_phase_28_0 ++ []
theorem dksX1_lambda_phase_28_0 : cX1_lambda_phase_28.data.toList.drop 0 = dktX1_lambda_phase_28_0 := by decide +kernel
theorem dX1_lambda_phase_28_0 : decode cX1_lambda_phase_28 0 = .ok (.aload_n 0, 1) := dk_42 (dk_at dksX1_lambda_phase_28_0 0 rfl rfl)
theorem dX1_lambda_phase_28_1 : decode cX1_lambda_phase_28 1 = .ok (.iload_n 1, 1) := dk_27 (dk_at dksX1_lambda_phase_28_0 1 rfl rfl)
theorem dX1_lambda_phase_28_2 : decode cX1_lambda_phase_28 2 = .ok (.invokevirtual 461, 3) := dk_182 1 205 (dk_at dksX1_lambda_phase_28_0 2 rfl rfl)
theorem dX1_lambda_phase_28_5 : decode cX1_lambda_phase_28 5 = .ok (.invokestatic 187, 3) := dk_184 0 187 (dk_at dksX1_lambda_phase_28_0 5 rfl rfl)
theorem dX1_lambda_phase_28_8 : decode cX1_lambda_phase_28 8 = .ok (.ireturn, 1) := dk_172 (dk_at dksX1_lambda_phase_28_0 8 rfl rfl)
abbrev cX1_lambda_phase_29 : ByteArray := prog_1_method_65_code
def yX1_lambda_phase_29 : MethodName := ⟨RX1, "lambda$phase$29", "(LLoopSignals$Junction;I)I"⟩
def dkwX1_lambda_phase_29_0 : List UInt8 := [42, 27, 182, 1, 202, 172]
abbrev dktX1_lambda_phase_29_0 : List UInt8 := dkwX1_lambda_phase_29_0 ++ []
theorem dksX1_lambda_phase_29_0 : cX1_lambda_phase_29.data.toList.drop 0 = dktX1_lambda_phase_29_0 := by decide +kernel
theorem dX1_lambda_phase_29_0 : decode cX1_lambda_phase_29 0 = .ok (.aload_n 0, 1) := dk_42 (dk_at dksX1_lambda_phase_29_0 0 rfl rfl)
theorem dX1_lambda_phase_29_1 : decode cX1_lambda_phase_29 1 = .ok (.iload_n 1, 1) := dk_27 (dk_at dksX1_lambda_phase_29_0 1 rfl rfl)
theorem dX1_lambda_phase_29_2 : decode cX1_lambda_phase_29 2 = .ok (.invokevirtual 458, 3) := dk_182 1 202 (dk_at dksX1_lambda_phase_29_0 2 rfl rfl)
theorem dX1_lambda_phase_29_5 : decode cX1_lambda_phase_29 5 = .ok (.ireturn, 1) := dk_172 (dk_at dksX1_lambda_phase_29_0 5 rfl rfl)
abbrev cX1_lambda_phase_30 : ByteArray := prog_1_method_64_code
def yX1_lambda_phase_30 : MethodName := ⟨RX1, "lambda$phase$30", "(LLoopSignals$Phase;)I"⟩
theorem dX1_lambda_phase_30_0 : decode cX1_lambda_phase_30 0 = .ok (.aload_n 0, 1) := by decide +kernel
theorem dX1_lambda_phase_30_1 : decode cX1_lambda_phase_30 1 = .ok (.getfield 455, 3) := by decide +kernel
theorem dX1_lambda_phase_30_4 : decode cX1_lambda_phase_30 4 = .ok (.ireturn, 1) := by decide +kernel
abbrev cX1_has : ByteArray := prog_1_method_25_code
def yX1_has : MethodName := ⟨RX1, "has", "(II)Z"⟩
def dkwX1_has_0 : List UInt8 := [42, 27, 182, 1, 14, 78, 42, 28, 182, 0, 251, 58, 4, 45, 28, 182, 1, 26, 172]
abbrev dktX1_has_0 : List UInt8 := dkwX1_has_0 ++ []
theorem dksX1_has_0 : cX1_has.data.toList.drop 0 = dktX1_has_0 := by decide +kernel
theorem dX1_has_0 : decode cX1_has 0 = .ok (.aload_n 0, 1) := dk_42 (dk_at dksX1_has_0 0 rfl rfl)
theorem dX1_has_1 : decode cX1_has 1 = .ok (.iload_n 1, 1) := dk_27 (dk_at dksX1_has_0 1 rfl rfl)
theorem dX1_has_2 : decode cX1_has 2 = .ok (.invokevirtual 270, 3) := dk_182 1 14 (dk_at dksX1_has_0 2 rfl rfl)
theorem dX1_has_5 : decode cX1_has 5 = .ok (.astore_n 3, 1) := dk_78 (dk_at dksX1_has_0 5 rfl rfl)
theorem dX1_has_6 : decode cX1_has 6 = .ok (.aload_n 0, 1) := dk_42 (dk_at dksX1_has_0 6 rfl rfl)
theorem dX1_has_7 : decode cX1_has 7 = .ok (.iload_n 2, 1) := dk_28 (dk_at dksX1_has_0 7 rfl rfl)
theorem dX1_has_8 : decode cX1_has 8 = .ok (.invokevirtual 251, 3) := dk_182 0 251 (dk_at dksX1_has_0 8 rfl rfl)
theorem dX1_has_11 : decode cX1_has 11 = .ok (.astore 4, 2) := dk_58 4 (dk_at dksX1_has_0 11 rfl rfl)
theorem dX1_has_13 : decode cX1_has 13 = .ok (.aload_n 3, 1) := dk_45 (dk_at dksX1_has_0 13 rfl rfl)
theorem dX1_has_14 : decode cX1_has 14 = .ok (.iload_n 2, 1) := dk_28 (dk_at dksX1_has_0 14 rfl rfl)
theorem dX1_has_15 : decode cX1_has 15 = .ok (.invokevirtual 282, 3) := dk_182 1 26 (dk_at dksX1_has_0 15 rfl rfl)
theorem dX1_has_18 : decode cX1_has 18 = .ok (.ireturn, 1) := dk_172 (dk_at dksX1_has_0 18 rfl rfl)
abbrev cX1_doClash : ByteArray := prog_1_method_26_code
def yX1_doClash : MethodName := ⟨RX1, "doClash", "(II)Z"⟩
def dkwX1_doClash_0 : List UInt8 := [42, 27, 182, 0, 251, 78, 42, 28, 182, 0, 251, 58, 4, 42, 180, 0, 37, 27, 28, 182, 1, 30, 172]
abbrev dktX1_doClash_0 : List UInt8 := dkwX1_doClash_0 ++ []
theorem dksX1_doClash_0 : cX1_doClash.data.toList.drop 0 = dktX1_doClash_0 := by decide +kernel
theorem dX1_doClash_0 : decode cX1_doClash 0 = .ok (.aload_n 0, 1) := dk_42 (dk_at dksX1_doClash_0 0 rfl rfl)
theorem dX1_doClash_1 : decode cX1_doClash 1 = .ok (.iload_n 1, 1) := dk_27 (dk_at dksX1_doClash_0 1 rfl rfl)
theorem dX1_doClash_2 : decode cX1_doClash 2 = .ok (.invokevirtual 251, 3) := dk_182 0 251 (dk_at dksX1_doClash_0 2 rfl rfl)
theorem dX1_doClash_5 : decode cX1_doClash 5 = .ok (.astore_n 3, 1) := dk_78 (dk_at dksX1_doClash_0 5 rfl rfl)
theorem dX1_doClash_6 : decode cX1_doClash 6 = .ok (.aload_n 0, 1) := dk_42 (dk_at dksX1_doClash_0 6 rfl rfl)
theorem dX1_doClash_7 : decode cX1_doClash 7 = .ok (.iload_n 2, 1) := dk_28 (dk_at dksX1_doClash_0 7 rfl rfl)
theorem dX1_doClash_8 : decode cX1_doClash 8 = .ok (.invokevirtual 251, 3) := dk_182 0 251 (dk_at dksX1_doClash_0 8 rfl rfl)
theorem dX1_doClash_11 : decode cX1_doClash 11 = .ok (.astore 4, 2) := dk_58 4 (dk_at dksX1_doClash_0 11 rfl rfl)
theorem dX1_doClash_13 : decode cX1_doClash 13 = .ok (.aload_n 0, 1) := dk_42 (dk_at dksX1_doClash_0 13 rfl rfl)
theorem dX1_doClash_14 : decode cX1_doClash 14 = .ok (.getfield 37, 3) := dk_180 0 37 (dk_at dksX1_doClash_0 14 rfl rfl)
theorem dX1_doClash_17 : decode cX1_doClash 17 = .ok (.iload_n 1, 1) := dk_27 (dk_at dksX1_doClash_0 17 rfl rfl)
theorem dX1_doClash_18 : decode cX1_doClash 18 = .ok (.iload_n 2, 1) := dk_28 (dk_at dksX1_doClash_0 18 rfl rfl)
theorem dX1_doClash_19 : decode cX1_doClash 19 = .ok (.invokevirtual 286, 3) := dk_182 1 30 (dk_at dksX1_doClash_0 19 rfl rfl)
theorem dX1_doClash_22 : decode cX1_doClash 22 = .ok (.ireturn, 1) := dk_172 (dk_at dksX1_doClash_0 22 rfl rfl)
abbrev cX1_car : ByteArray := prog_1_method_27_code
def yX1_car : MethodName := ⟨RX1, "car", "(II)I"⟩
def dkwX1_car_0 : List UInt8 := [42, 27, 182, 0, 251, 180, 1, 34, 28, 182, 1, 38, 172]
abbrev dktX1_car_0 : List UInt8 := dkwX1_car_0 ++ []
theorem dksX1_car_0 : cX1_car.data.toList.drop 0 = dktX1_car_0 := by decide +kernel
theorem dX1_car_0 : decode cX1_car 0 = .ok (.aload_n 0, 1) := dk_42 (dk_at dksX1_car_0 0 rfl rfl)
theorem dX1_car_1 : decode cX1_car 1 = .ok (.iload_n 1, 1) := dk_27 (dk_at dksX1_car_0 1 rfl rfl)
theorem dX1_car_2 : decode cX1_car 2 = .ok (.invokevirtual 251, 3) := dk_182 0 251 (dk_at dksX1_car_0 2 rfl rfl)
theorem dX1_car_5 : decode cX1_car 5 = .ok (.getfield 290, 3) := dk_180 1 34 (dk_at dksX1_car_0 5 rfl rfl)
theorem dX1_car_8 : decode cX1_car 8 = .ok (.iload_n 2, 1) := dk_28 (dk_at dksX1_car_0 8 rfl rfl)
theorem dX1_car_9 : decode cX1_car 9 = .ok (.invokevirtual 294, 3) := dk_182 1 38 (dk_at dksX1_car_0 9 rfl rfl)
theorem dX1_car_12 : decode cX1_car 12 = .ok (.ireturn, 1) := dk_172 (dk_at dksX1_car_0 12 rfl rfl)
abbrev cX1_letter : ByteArray := prog_1_method_28_code
def yX1_letter : MethodName := ⟨RX1, "letter", "(II)I"⟩
def dkwX1_letter_1 : List UInt8 := [153, 0, 11, 45, 28, 182, 1, 46, 167, 0, 4, 2, 172]
abbrev dktX1_letter_1 : List UInt8 := dkwX1_letter_1 ++ []
def dkwX1_letter_0 : List UInt8 := [42, 27, 182, 0, 251, 180, 1, 41, 78, 28, 133, 9, 45, 182, 1, 44, 4, 100, 133, 184, 0, 147]
abbrev dktX1_letter_0 : List UInt8 := dkwX1_letter_0 ++ dktX1_letter_1
theorem dksX1_letter_0 : cX1_letter.data.toList.drop 0 = dktX1_letter_0 := by decide +kernel
theorem dksX1_letter_1 : cX1_letter.data.toList.drop 22 = dktX1_letter_1 := dk_seg dksX1_letter_0 22 rfl rfl
theorem dX1_letter_0 : decode cX1_letter 0 = .ok (.aload_n 0, 1) := dk_42 (dk_at dksX1_letter_0 0 rfl rfl)
theorem dX1_letter_1 : decode cX1_letter 1 = .ok (.iload_n 1, 1) := dk_27 (dk_at dksX1_letter_0 1 rfl rfl)
theorem dX1_letter_2 : decode cX1_letter 2 = .ok (.invokevirtual 251, 3) := dk_182 0 251 (dk_at dksX1_letter_0 2 rfl rfl)
theorem dX1_letter_5 : decode cX1_letter 5 = .ok (.getfield 297, 3) := dk_180 1 41 (dk_at dksX1_letter_0 5 rfl rfl)
theorem dX1_letter_8 : decode cX1_letter 8 = .ok (.astore_n 3, 1) := dk_78 (dk_at dksX1_letter_0 8 rfl rfl)
theorem dX1_letter_9 : decode cX1_letter 9 = .ok (.iload_n 2, 1) := dk_28 (dk_at dksX1_letter_0 9 rfl rfl)
theorem dX1_letter_10 : decode cX1_letter 10 = .ok (.i2l, 1) := dk_133 (dk_at dksX1_letter_0 10 rfl rfl)
theorem dX1_letter_11 : decode cX1_letter 11 = .ok (.lconst 0, 1) := dk_9 (dk_at dksX1_letter_0 11 rfl rfl)
theorem dX1_letter_12 : decode cX1_letter 12 = .ok (.aload_n 3, 1) := dk_45 (dk_at dksX1_letter_0 12 rfl rfl)
theorem dX1_letter_13 : decode cX1_letter 13 = .ok (.invokevirtual 300, 3) := dk_182 1 44 (dk_at dksX1_letter_0 13 rfl rfl)
theorem dX1_letter_16 : decode cX1_letter 16 = .ok (.iconst 1, 1) := dk_4 (dk_at dksX1_letter_0 16 rfl rfl)
theorem dX1_letter_17 : decode cX1_letter 17 = .ok (.isub, 1) := dk_100 (dk_at dksX1_letter_0 17 rfl rfl)
theorem dX1_letter_18 : decode cX1_letter 18 = .ok (.i2l, 1) := dk_133 (dk_at dksX1_letter_0 18 rfl rfl)
theorem dX1_letter_19 : decode cX1_letter 19 = .ok (.invokestatic 147, 3) := dk_184 0 147 (dk_at dksX1_letter_0 19 rfl rfl)
theorem dX1_letter_22 : decode cX1_letter 22 = .ok (.ifCond .eq 11, 3) := dk_153 0 11 (dk_at dksX1_letter_1 0 rfl rfl)
theorem dX1_letter_25 : decode cX1_letter 25 = .ok (.aload_n 3, 1) := dk_45 (dk_at dksX1_letter_1 3 rfl rfl)
theorem dX1_letter_26 : decode cX1_letter 26 = .ok (.iload_n 2, 1) := dk_28 (dk_at dksX1_letter_1 4 rfl rfl)
theorem dX1_letter_27 : decode cX1_letter 27 = .ok (.invokevirtual 302, 3) := dk_182 1 46 (dk_at dksX1_letter_1 5 rfl rfl)
theorem dX1_letter_30 : decode cX1_letter 30 = .ok (.goto 4, 3) := dk_167 0 4 (dk_at dksX1_letter_1 8 rfl rfl)
theorem dX1_letter_33 : decode cX1_letter 33 = .ok (.iconst (-1), 1) := dk_2 (dk_at dksX1_letter_1 11 rfl rfl)
theorem dX1_letter_34 : decode cX1_letter 34 = .ok (.ireturn, 1) := dk_172 (dk_at dksX1_letter_1 12 rfl rfl)
abbrev cX1_why : ByteArray := prog_1_method_30_code
def yX1_why : MethodName := ⟨RX1, "why", "(II)I"⟩
def dkwX1_why_1 : List UInt8 := [27, 182, 1, 65, 167, 0, 11, 42, 180, 0, 37, 27, 182, 1, 68, 172]
abbrev dktX1_why_1 : List UInt8 := dkwX1_why_1 ++ []
def dkwX1_why_0 : List UInt8 := [42, 27, 182, 0, 251, 78, 28, 133, 9, 10, 184, 0, 147, 184, 0, 151, 28, 154, 0, 14, 42, 180, 0, 37]
abbrev dktX1_why_0 : List UInt8 := dkwX1_why_0 ++ dktX1_why_1
theorem dksX1_why_0 : cX1_why.data.toList.drop 0 = dktX1_why_0 := by decide +kernel
theorem dksX1_why_1 : cX1_why.data.toList.drop 24 = dktX1_why_1 := dk_seg dksX1_why_0 24 rfl rfl
theorem dX1_why_0 : decode cX1_why 0 = .ok (.aload_n 0, 1) := dk_42 (dk_at dksX1_why_0 0 rfl rfl)
theorem dX1_why_1 : decode cX1_why 1 = .ok (.iload_n 1, 1) := dk_27 (dk_at dksX1_why_0 1 rfl rfl)
theorem dX1_why_2 : decode cX1_why 2 = .ok (.invokevirtual 251, 3) := dk_182 0 251 (dk_at dksX1_why_0 2 rfl rfl)
theorem dX1_why_5 : decode cX1_why 5 = .ok (.astore_n 3, 1) := dk_78 (dk_at dksX1_why_0 5 rfl rfl)
theorem dX1_why_6 : decode cX1_why 6 = .ok (.iload_n 2, 1) := dk_28 (dk_at dksX1_why_0 6 rfl rfl)
theorem dX1_why_7 : decode cX1_why 7 = .ok (.i2l, 1) := dk_133 (dk_at dksX1_why_0 7 rfl rfl)
theorem dX1_why_8 : decode cX1_why 8 = .ok (.lconst 0, 1) := dk_9 (dk_at dksX1_why_0 8 rfl rfl)
theorem dX1_why_9 : decode cX1_why 9 = .ok (.lconst 1, 1) := dk_10 (dk_at dksX1_why_0 9 rfl rfl)
theorem dX1_why_10 : decode cX1_why 10 = .ok (.invokestatic 147, 3) := dk_184 0 147 (dk_at dksX1_why_0 10 rfl rfl)
theorem dX1_why_13 : decode cX1_why 13 = .ok (.invokestatic 151, 3) := dk_184 0 151 (dk_at dksX1_why_0 13 rfl rfl)
theorem dX1_why_16 : decode cX1_why 16 = .ok (.iload_n 2, 1) := dk_28 (dk_at dksX1_why_0 16 rfl rfl)
theorem dX1_why_17 : decode cX1_why 17 = .ok (.ifCond .ne 14, 3) := dk_154 0 14 (dk_at dksX1_why_0 17 rfl rfl)
theorem dX1_why_20 : decode cX1_why 20 = .ok (.aload_n 0, 1) := dk_42 (dk_at dksX1_why_0 20 rfl rfl)
theorem dX1_why_21 : decode cX1_why 21 = .ok (.getfield 37, 3) := dk_180 0 37 (dk_at dksX1_why_0 21 rfl rfl)
theorem dX1_why_24 : decode cX1_why 24 = .ok (.iload_n 1, 1) := dk_27 (dk_at dksX1_why_1 0 rfl rfl)
theorem dX1_why_25 : decode cX1_why 25 = .ok (.invokevirtual 321, 3) := dk_182 1 65 (dk_at dksX1_why_1 1 rfl rfl)
theorem dX1_why_28 : decode cX1_why 28 = .ok (.goto 11, 3) := dk_167 0 11 (dk_at dksX1_why_1 4 rfl rfl)
theorem dX1_why_31 : decode cX1_why 31 = .ok (.aload_n 0, 1) := dk_42 (dk_at dksX1_why_1 7 rfl rfl)
theorem dX1_why_32 : decode cX1_why 32 = .ok (.getfield 37, 3) := dk_180 0 37 (dk_at dksX1_why_1 8 rfl rfl)
theorem dX1_why_35 : decode cX1_why 35 = .ok (.iload_n 1, 1) := dk_27 (dk_at dksX1_why_1 11 rfl rfl)
theorem dX1_why_36 : decode cX1_why 36 = .ok (.invokevirtual 324, 3) := dk_182 1 68 (dk_at dksX1_why_1 12 rfl rfl)
theorem dX1_why_39 : decode cX1_why 39 = .ok (.ireturn, 1) := dk_172 (dk_at dksX1_why_1 15 rfl rfl)
abbrev cX1_account : ByteArray := prog_1_method_31_code
def yX1_account : MethodName := ⟨RX1, "account", "(I)I"⟩
def dkwX1_account_1 : List UInt8 := [167, 0, 12, 42, 180, 0, 37, 180, 1, 73, 27, 46, 172]
abbrev dktX1_account_1 : List UInt8 := dkwX1_account_1 ++ []
def dkwX1_account_0 : List UInt8 := [27, 133, 9, 20, 1, 71, 184, 0, 147, 184, 0, 151, 27, 16, 7, 160, 0, 10, 42, 180, 0, 120]
abbrev dktX1_account_0 : List UInt8 := dkwX1_account_0 ++ dktX1_account_1
theorem dksX1_account_0 : cX1_account.data.toList.drop 0 = dktX1_account_0 := by decide +kernel
theorem dksX1_account_1 : cX1_account.data.toList.drop 22 = dktX1_account_1 := dk_seg dksX1_account_0 22 rfl rfl
theorem dX1_account_0 : decode cX1_account 0 = .ok (.iload_n 1, 1) := dk_27 (dk_at dksX1_account_0 0 rfl rfl)
theorem dX1_account_1 : decode cX1_account 1 = .ok (.i2l, 1) := dk_133 (dk_at dksX1_account_0 1 rfl rfl)
theorem dX1_account_2 : decode cX1_account 2 = .ok (.lconst 0, 1) := dk_9 (dk_at dksX1_account_0 2 rfl rfl)
theorem dX1_account_3 : decode cX1_account 3 = .ok (.ldc2_w 327, 3) := dk_20 1 71 (dk_at dksX1_account_0 3 rfl rfl)
theorem dX1_account_6 : decode cX1_account 6 = .ok (.invokestatic 147, 3) := dk_184 0 147 (dk_at dksX1_account_0 6 rfl rfl)
theorem dX1_account_9 : decode cX1_account 9 = .ok (.invokestatic 151, 3) := dk_184 0 151 (dk_at dksX1_account_0 9 rfl rfl)
theorem dX1_account_12 : decode cX1_account 12 = .ok (.iload_n 1, 1) := dk_27 (dk_at dksX1_account_0 12 rfl rfl)
theorem dX1_account_13 : decode cX1_account 13 = .ok (.bipush 7, 2) := dk_16 7 (dk_at dksX1_account_0 13 rfl rfl)
theorem dX1_account_15 : decode cX1_account 15 = .ok (.if_icmp .ne 10, 3) := dk_160 0 10 (dk_at dksX1_account_0 15 rfl rfl)
theorem dX1_account_18 : decode cX1_account 18 = .ok (.aload_n 0, 1) := dk_42 (dk_at dksX1_account_0 18 rfl rfl)
theorem dX1_account_19 : decode cX1_account 19 = .ok (.getfield 120, 3) := dk_180 0 120 (dk_at dksX1_account_0 19 rfl rfl)
theorem dX1_account_22 : decode cX1_account 22 = .ok (.goto 12, 3) := dk_167 0 12 (dk_at dksX1_account_1 0 rfl rfl)
theorem dX1_account_25 : decode cX1_account 25 = .ok (.aload_n 0, 1) := dk_42 (dk_at dksX1_account_1 3 rfl rfl)
theorem dX1_account_26 : decode cX1_account 26 = .ok (.getfield 37, 3) := dk_180 0 37 (dk_at dksX1_account_1 4 rfl rfl)
theorem dX1_account_29 : decode cX1_account 29 = .ok (.getfield 329, 3) := dk_180 1 73 (dk_at dksX1_account_1 7 rfl rfl)
theorem dX1_account_32 : decode cX1_account 32 = .ok (.iload_n 1, 1) := dk_27 (dk_at dksX1_account_1 10 rfl rfl)
theorem dX1_account_33 : decode cX1_account 33 = .ok (.iaload, 1) := dk_46 (dk_at dksX1_account_1 11 rfl rfl)
theorem dX1_account_34 : decode cX1_account 34 = .ok (.ireturn, 1) := dk_172 (dk_at dksX1_account_1 12 rfl rfl)
abbrev cX1_greenBits : ByteArray := prog_1_method_34_code
def yX1_greenBits : MethodName := ⟨RX1, "greenBits", "(I)I"⟩
def dkwX1_greenBits_1 : List UInt8 := [134, 42, 180, 0, 37, 180, 1, 79, 134, 110, 184, 1, 85, 172]
abbrev dktX1_greenBits_1 : List UInt8 := dkwX1_greenBits_1 ++ []
def dkwX1_greenBits_0 : List UInt8 := [42, 27, 182, 0, 251, 77, 42, 180, 0, 37, 180, 1, 79, 154, 0, 7, 3, 167, 0, 20, 44, 180, 1, 82]
abbrev dktX1_greenBits_0 : List UInt8 := dkwX1_greenBits_0 ++ dktX1_greenBits_1
theorem dksX1_greenBits_0 : cX1_greenBits.data.toList.drop 0 = dktX1_greenBits_0 := by decide +kernel
theorem dksX1_greenBits_1 : cX1_greenBits.data.toList.drop 24 = dktX1_greenBits_1 := dk_seg dksX1_greenBits_0 24 rfl rfl
theorem dX1_greenBits_0 : decode cX1_greenBits 0 = .ok (.aload_n 0, 1) := dk_42 (dk_at dksX1_greenBits_0 0 rfl rfl)
theorem dX1_greenBits_1 : decode cX1_greenBits 1 = .ok (.iload_n 1, 1) := dk_27 (dk_at dksX1_greenBits_0 1 rfl rfl)
theorem dX1_greenBits_2 : decode cX1_greenBits 2 = .ok (.invokevirtual 251, 3) := dk_182 0 251 (dk_at dksX1_greenBits_0 2 rfl rfl)
theorem dX1_greenBits_5 : decode cX1_greenBits 5 = .ok (.astore_n 2, 1) := dk_77 (dk_at dksX1_greenBits_0 5 rfl rfl)
theorem dX1_greenBits_6 : decode cX1_greenBits 6 = .ok (.aload_n 0, 1) := dk_42 (dk_at dksX1_greenBits_0 6 rfl rfl)
theorem dX1_greenBits_7 : decode cX1_greenBits 7 = .ok (.getfield 37, 3) := dk_180 0 37 (dk_at dksX1_greenBits_0 7 rfl rfl)
theorem dX1_greenBits_10 : decode cX1_greenBits 10 = .ok (.getfield 335, 3) := dk_180 1 79 (dk_at dksX1_greenBits_0 10 rfl rfl)
theorem dX1_greenBits_13 : decode cX1_greenBits 13 = .ok (.ifCond .ne 7, 3) := dk_154 0 7 (dk_at dksX1_greenBits_0 13 rfl rfl)
theorem dX1_greenBits_16 : decode cX1_greenBits 16 = .ok (.iconst 0, 1) := dk_3 (dk_at dksX1_greenBits_0 16 rfl rfl)
theorem dX1_greenBits_17 : decode cX1_greenBits 17 = .ok (.goto 20, 3) := dk_167 0 20 (dk_at dksX1_greenBits_0 17 rfl rfl)
theorem dX1_greenBits_20 : decode cX1_greenBits 20 = .ok (.aload_n 2, 1) := dk_44 (dk_at dksX1_greenBits_0 20 rfl rfl)
theorem dX1_greenBits_21 : decode cX1_greenBits 21 = .ok (.getfield 338, 3) := dk_180 1 82 (dk_at dksX1_greenBits_0 21 rfl rfl)
theorem dX1_greenBits_24 : decode cX1_greenBits 24 = .ok (.i2f, 1) := dk_134 (dk_at dksX1_greenBits_1 0 rfl rfl)
theorem dX1_greenBits_25 : decode cX1_greenBits 25 = .ok (.aload_n 0, 1) := dk_42 (dk_at dksX1_greenBits_1 1 rfl rfl)
theorem dX1_greenBits_26 : decode cX1_greenBits 26 = .ok (.getfield 37, 3) := dk_180 0 37 (dk_at dksX1_greenBits_1 2 rfl rfl)
theorem dX1_greenBits_29 : decode cX1_greenBits 29 = .ok (.getfield 335, 3) := dk_180 1 79 (dk_at dksX1_greenBits_1 5 rfl rfl)
theorem dX1_greenBits_32 : decode cX1_greenBits 32 = .ok (.i2f, 1) := dk_134 (dk_at dksX1_greenBits_1 8 rfl rfl)
theorem dX1_greenBits_33 : decode cX1_greenBits 33 = .ok (.fdiv, 1) := dk_110 (dk_at dksX1_greenBits_1 9 rfl rfl)
theorem dX1_greenBits_34 : decode cX1_greenBits 34 = .ok (.invokestatic 341, 3) := dk_184 1 85 (dk_at dksX1_greenBits_1 10 rfl rfl)
theorem dX1_greenBits_37 : decode cX1_greenBits 37 = .ok (.ireturn, 1) := dk_172 (dk_at dksX1_greenBits_1 13 rfl rfl)
abbrev cX1_greenIn : ByteArray := prog_1_method_35_code
def yX1_greenIn : MethodName := ⟨RX1, "greenIn", "(I)I"⟩
def dkwX1_greenIn_2 : List UInt8 := [2, 172]
abbrev dktX1_greenIn_2 : List UInt8 := dkwX1_greenIn_2 ++ []
def dkwX1_greenIn_1 : List UInt8 := [163, 0, 24, 45, 27, 182, 1, 91, 154, 0, 6, 21, 4, 172, 45, 182, 1, 94, 132, 4, 1, 167, 255, 230]
abbrev dktX1_greenIn_1 : List UInt8 := dkwX1_greenIn_1 ++ dktX1_greenIn_2
def dkwX1_greenIn_0 : List UInt8 := [42, 27, 182, 0, 251, 77, 42, 180, 0, 37, 182, 0, 123, 78, 3, 54, 4, 21, 4, 17, 1, 244]
abbrev dktX1_greenIn_0 : List UInt8 := dkwX1_greenIn_0 ++ dktX1_greenIn_1
theorem dksX1_greenIn_0 : cX1_greenIn.data.toList.drop 0 = dktX1_greenIn_0 := by decide +kernel
theorem dksX1_greenIn_1 : cX1_greenIn.data.toList.drop 22 = dktX1_greenIn_1 := dk_seg dksX1_greenIn_0 22 rfl rfl
theorem dksX1_greenIn_2 : cX1_greenIn.data.toList.drop 46 = dktX1_greenIn_2 := dk_seg dksX1_greenIn_1 24 rfl rfl
theorem dX1_greenIn_0 : decode cX1_greenIn 0 = .ok (.aload_n 0, 1) := dk_42 (dk_at dksX1_greenIn_0 0 rfl rfl)
theorem dX1_greenIn_1 : decode cX1_greenIn 1 = .ok (.iload_n 1, 1) := dk_27 (dk_at dksX1_greenIn_0 1 rfl rfl)
theorem dX1_greenIn_2 : decode cX1_greenIn 2 = .ok (.invokevirtual 251, 3) := dk_182 0 251 (dk_at dksX1_greenIn_0 2 rfl rfl)
theorem dX1_greenIn_5 : decode cX1_greenIn 5 = .ok (.astore_n 2, 1) := dk_77 (dk_at dksX1_greenIn_0 5 rfl rfl)
theorem dX1_greenIn_6 : decode cX1_greenIn 6 = .ok (.aload_n 0, 1) := dk_42 (dk_at dksX1_greenIn_0 6 rfl rfl)
theorem dX1_greenIn_7 : decode cX1_greenIn 7 = .ok (.getfield 37, 3) := dk_180 0 37 (dk_at dksX1_greenIn_0 7 rfl rfl)
theorem dX1_greenIn_10 : decode cX1_greenIn 10 = .ok (.invokevirtual 123, 3) := dk_182 0 123 (dk_at dksX1_greenIn_0 10 rfl rfl)
theorem dX1_greenIn_13 : decode cX1_greenIn 13 = .ok (.astore_n 3, 1) := dk_78 (dk_at dksX1_greenIn_0 13 rfl rfl)
theorem dX1_greenIn_14 : decode cX1_greenIn 14 = .ok (.iconst 0, 1) := dk_3 (dk_at dksX1_greenIn_0 14 rfl rfl)
theorem dX1_greenIn_15 : decode cX1_greenIn 15 = .ok (.istore 4, 2) := dk_54 4 (dk_at dksX1_greenIn_0 15 rfl rfl)
theorem dX1_greenIn_17 : decode cX1_greenIn 17 = .ok (.iload 4, 2) := dk_21 4 (dk_at dksX1_greenIn_0 17 rfl rfl)
theorem dX1_greenIn_19 : decode cX1_greenIn 19 = .ok (.sipush 500, 3) := dk_17 1 244 (dk_at dksX1_greenIn_0 19 rfl rfl)
theorem dX1_greenIn_22 : decode cX1_greenIn 22 = .ok (.if_icmp .gt 24, 3) := dk_163 0 24 (dk_at dksX1_greenIn_1 0 rfl rfl)
theorem dX1_greenIn_25 : decode cX1_greenIn 25 = .ok (.aload_n 3, 1) := dk_45 (dk_at dksX1_greenIn_1 3 rfl rfl)
theorem dX1_greenIn_26 : decode cX1_greenIn 26 = .ok (.iload_n 1, 1) := dk_27 (dk_at dksX1_greenIn_1 4 rfl rfl)
theorem dX1_greenIn_27 : decode cX1_greenIn 27 = .ok (.invokevirtual 347, 3) := dk_182 1 91 (dk_at dksX1_greenIn_1 5 rfl rfl)
theorem dX1_greenIn_30 : decode cX1_greenIn 30 = .ok (.ifCond .ne 6, 3) := dk_154 0 6 (dk_at dksX1_greenIn_1 8 rfl rfl)
theorem dX1_greenIn_33 : decode cX1_greenIn 33 = .ok (.iload 4, 2) := dk_21 4 (dk_at dksX1_greenIn_1 11 rfl rfl)
theorem dX1_greenIn_35 : decode cX1_greenIn 35 = .ok (.ireturn, 1) := dk_172 (dk_at dksX1_greenIn_1 13 rfl rfl)
theorem dX1_greenIn_36 : decode cX1_greenIn 36 = .ok (.aload_n 3, 1) := dk_45 (dk_at dksX1_greenIn_1 14 rfl rfl)
theorem dX1_greenIn_37 : decode cX1_greenIn 37 = .ok (.invokevirtual 350, 3) := dk_182 1 94 (dk_at dksX1_greenIn_1 15 rfl rfl)
theorem dX1_greenIn_40 : decode cX1_greenIn 40 = .ok (.iinc 4 1, 3) := dk_132 4 1 (dk_at dksX1_greenIn_1 18 rfl rfl)
theorem dX1_greenIn_43 : decode cX1_greenIn 43 = .ok (.goto (-26), 3) := dk_167 255 230 (dk_at dksX1_greenIn_1 21 rfl rfl)
theorem dX1_greenIn_46 : decode cX1_greenIn 46 = .ok (.iconst (-1), 1) := dk_2 (dk_at dksX1_greenIn_2 0 rfl rfl)
theorem dX1_greenIn_47 : decode cX1_greenIn 47 = .ok (.ireturn, 1) := dk_172 (dk_at dksX1_greenIn_2 1 rfl rfl)
abbrev cX1_ifRule : ByteArray := prog_1_method_38_code
def yX1_ifRule : MethodName := ⟨RX1, "ifRule", "(III)I"⟩
def dkwX1_ifRule_2 : List UInt8 := [180, 1, 73, 29, 46, 42, 180, 0, 37, 180, 1, 73, 29, 46, 100, 172]
abbrev dktX1_ifRule_2 : List UInt8 := dkwX1_ifRule_2 ++ []
def dkwX1_ifRule_1 : List UInt8 := [184, 0, 147, 184, 0, 151, 29, 16, 7, 160, 0, 7, 3, 167, 0, 24, 42, 27, 28, 182, 1, 113]
abbrev dktX1_ifRule_1 : List UInt8 := dkwX1_ifRule_1 ++ dktX1_ifRule_2
def dkwX1_ifRule_0 : List UInt8 := [27, 133, 9, 20, 1, 108, 184, 0, 147, 184, 0, 151, 28, 184, 1, 110, 29, 133, 9, 20, 1, 71]
abbrev dktX1_ifRule_0 : List UInt8 := dkwX1_ifRule_0 ++ dktX1_ifRule_1
theorem dksX1_ifRule_0 : cX1_ifRule.data.toList.drop 0 = dktX1_ifRule_0 := by decide +kernel
theorem dksX1_ifRule_1 : cX1_ifRule.data.toList.drop 22 = dktX1_ifRule_1 := dk_seg dksX1_ifRule_0 22 rfl rfl
theorem dksX1_ifRule_2 : cX1_ifRule.data.toList.drop 44 = dktX1_ifRule_2 := dk_seg dksX1_ifRule_1 22 rfl rfl
theorem dX1_ifRule_0 : decode cX1_ifRule 0 = .ok (.iload_n 1, 1) := dk_27 (dk_at dksX1_ifRule_0 0 rfl rfl)
theorem dX1_ifRule_1 : decode cX1_ifRule 1 = .ok (.i2l, 1) := dk_133 (dk_at dksX1_ifRule_0 1 rfl rfl)
theorem dX1_ifRule_2 : decode cX1_ifRule 2 = .ok (.lconst 0, 1) := dk_9 (dk_at dksX1_ifRule_0 2 rfl rfl)
theorem dX1_ifRule_3 : decode cX1_ifRule 3 = .ok (.ldc2_w 364, 3) := dk_20 1 108 (dk_at dksX1_ifRule_0 3 rfl rfl)
theorem dX1_ifRule_6 : decode cX1_ifRule 6 = .ok (.invokestatic 147, 3) := dk_184 0 147 (dk_at dksX1_ifRule_0 6 rfl rfl)
theorem dX1_ifRule_9 : decode cX1_ifRule 9 = .ok (.invokestatic 151, 3) := dk_184 0 151 (dk_at dksX1_ifRule_0 9 rfl rfl)
theorem dX1_ifRule_12 : decode cX1_ifRule 12 = .ok (.iload_n 2, 1) := dk_28 (dk_at dksX1_ifRule_0 12 rfl rfl)
theorem dX1_ifRule_13 : decode cX1_ifRule 13 = .ok (.invokestatic 366, 3) := dk_184 1 110 (dk_at dksX1_ifRule_0 13 rfl rfl)
theorem dX1_ifRule_16 : decode cX1_ifRule 16 = .ok (.iload_n 3, 1) := dk_29 (dk_at dksX1_ifRule_0 16 rfl rfl)
theorem dX1_ifRule_17 : decode cX1_ifRule 17 = .ok (.i2l, 1) := dk_133 (dk_at dksX1_ifRule_0 17 rfl rfl)
theorem dX1_ifRule_18 : decode cX1_ifRule 18 = .ok (.lconst 0, 1) := dk_9 (dk_at dksX1_ifRule_0 18 rfl rfl)
theorem dX1_ifRule_19 : decode cX1_ifRule 19 = .ok (.ldc2_w 327, 3) := dk_20 1 71 (dk_at dksX1_ifRule_0 19 rfl rfl)
theorem dX1_ifRule_22 : decode cX1_ifRule 22 = .ok (.invokestatic 147, 3) := dk_184 0 147 (dk_at dksX1_ifRule_1 0 rfl rfl)
theorem dX1_ifRule_25 : decode cX1_ifRule 25 = .ok (.invokestatic 151, 3) := dk_184 0 151 (dk_at dksX1_ifRule_1 3 rfl rfl)
theorem dX1_ifRule_28 : decode cX1_ifRule 28 = .ok (.iload_n 3, 1) := dk_29 (dk_at dksX1_ifRule_1 6 rfl rfl)
theorem dX1_ifRule_29 : decode cX1_ifRule 29 = .ok (.bipush 7, 2) := dk_16 7 (dk_at dksX1_ifRule_1 7 rfl rfl)
theorem dX1_ifRule_31 : decode cX1_ifRule 31 = .ok (.if_icmp .ne 7, 3) := dk_160 0 7 (dk_at dksX1_ifRule_1 9 rfl rfl)
theorem dX1_ifRule_34 : decode cX1_ifRule 34 = .ok (.iconst 0, 1) := dk_3 (dk_at dksX1_ifRule_1 12 rfl rfl)
theorem dX1_ifRule_35 : decode cX1_ifRule 35 = .ok (.goto 24, 3) := dk_167 0 24 (dk_at dksX1_ifRule_1 13 rfl rfl)
theorem dX1_ifRule_38 : decode cX1_ifRule 38 = .ok (.aload_n 0, 1) := dk_42 (dk_at dksX1_ifRule_1 16 rfl rfl)
theorem dX1_ifRule_39 : decode cX1_ifRule 39 = .ok (.iload_n 1, 1) := dk_27 (dk_at dksX1_ifRule_1 17 rfl rfl)
theorem dX1_ifRule_40 : decode cX1_ifRule 40 = .ok (.iload_n 2, 1) := dk_28 (dk_at dksX1_ifRule_1 18 rfl rfl)
theorem dX1_ifRule_41 : decode cX1_ifRule 41 = .ok (.invokevirtual 369, 3) := dk_182 1 113 (dk_at dksX1_ifRule_1 19 rfl rfl)
theorem dX1_ifRule_44 : decode cX1_ifRule 44 = .ok (.getfield 329, 3) := dk_180 1 73 (dk_at dksX1_ifRule_2 0 rfl rfl)
theorem dX1_ifRule_47 : decode cX1_ifRule 47 = .ok (.iload_n 3, 1) := dk_29 (dk_at dksX1_ifRule_2 3 rfl rfl)
theorem dX1_ifRule_48 : decode cX1_ifRule 48 = .ok (.iaload, 1) := dk_46 (dk_at dksX1_ifRule_2 4 rfl rfl)
theorem dX1_ifRule_49 : decode cX1_ifRule 49 = .ok (.aload_n 0, 1) := dk_42 (dk_at dksX1_ifRule_2 5 rfl rfl)
theorem dX1_ifRule_50 : decode cX1_ifRule 50 = .ok (.getfield 37, 3) := dk_180 0 37 (dk_at dksX1_ifRule_2 6 rfl rfl)
theorem dX1_ifRule_53 : decode cX1_ifRule 53 = .ok (.getfield 329, 3) := dk_180 1 73 (dk_at dksX1_ifRule_2 9 rfl rfl)
theorem dX1_ifRule_56 : decode cX1_ifRule 56 = .ok (.iload_n 3, 1) := dk_29 (dk_at dksX1_ifRule_2 12 rfl rfl)
theorem dX1_ifRule_57 : decode cX1_ifRule 57 = .ok (.iaload, 1) := dk_46 (dk_at dksX1_ifRule_2 13 rfl rfl)
theorem dX1_ifRule_58 : decode cX1_ifRule 58 = .ok (.isub, 1) := dk_100 (dk_at dksX1_ifRule_2 14 rfl rfl)
theorem dX1_ifRule_59 : decode cX1_ifRule 59 = .ok (.ireturn, 1) := dk_172 (dk_at dksX1_ifRule_2 15 rfl rfl)
abbrev cX1_aheadIs : ByteArray := prog_1_method_14_code
def yX1_aheadIs : MethodName := ⟨RX1, "aheadIs", "(I)V"⟩
def dkwX1_aheadIs_0 : List UInt8 := [26, 133, 9, 20, 0, 175, 184, 0, 147, 184, 0, 151, 177]
abbrev dktX1_aheadIs_0 : List UInt8 := dkwX1_aheadIs_0 ++ []
theorem dksX1_aheadIs_0 : cX1_aheadIs.data.toList.drop 0 = dktX1_aheadIs_0 := by decide +kernel
theorem dX1_aheadIs_0 : decode cX1_aheadIs 0 = .ok (.iload_n 0, 1) := dk_26 (dk_at dksX1_aheadIs_0 0 rfl rfl)
theorem dX1_aheadIs_1 : decode cX1_aheadIs 1 = .ok (.i2l, 1) := dk_133 (dk_at dksX1_aheadIs_0 1 rfl rfl)
theorem dX1_aheadIs_2 : decode cX1_aheadIs 2 = .ok (.lconst 0, 1) := dk_9 (dk_at dksX1_aheadIs_0 2 rfl rfl)
theorem dX1_aheadIs_3 : decode cX1_aheadIs 3 = .ok (.ldc2_w 175, 3) := dk_20 0 175 (dk_at dksX1_aheadIs_0 3 rfl rfl)
theorem dX1_aheadIs_6 : decode cX1_aheadIs 6 = .ok (.invokestatic 147, 3) := dk_184 0 147 (dk_at dksX1_aheadIs_0 6 rfl rfl)
theorem dX1_aheadIs_9 : decode cX1_aheadIs 9 = .ok (.invokestatic 151, 3) := dk_184 0 151 (dk_at dksX1_aheadIs_0 9 rfl rfl)
theorem dX1_aheadIs_12 : decode cX1_aheadIs 12 = .ok (.return_, 1) := dk_177 (dk_at dksX1_aheadIs_0 12 rfl rfl)
abbrev cX1_byRule : ByteArray := prog_1_method_37_code
def yX1_byRule : MethodName := ⟨RX1, "byRule", "(II)LLoopSignals$Junction;"⟩
def dkwX1_byRule_0 : List UInt8 := [42, 180, 0, 37, 182, 0, 123, 78, 45, 5, 27, 182, 1, 100, 54, 4, 45, 28, 182, 1, 104, 176]
abbrev dktX1_byRule_0 : List UInt8 := dkwX1_byRule_0 ++ []
theorem dksX1_byRule_0 : cX1_byRule.data.toList.drop 0 = dktX1_byRule_0 := by decide +kernel
theorem dX1_byRule_0 : decode cX1_byRule 0 = .ok (.aload_n 0, 1) := dk_42 (dk_at dksX1_byRule_0 0 rfl rfl)
theorem dX1_byRule_1 : decode cX1_byRule 1 = .ok (.getfield 37, 3) := dk_180 0 37 (dk_at dksX1_byRule_0 1 rfl rfl)
theorem dX1_byRule_4 : decode cX1_byRule 4 = .ok (.invokevirtual 123, 3) := dk_182 0 123 (dk_at dksX1_byRule_0 4 rfl rfl)
theorem dX1_byRule_7 : decode cX1_byRule 7 = .ok (.astore_n 3, 1) := dk_78 (dk_at dksX1_byRule_0 7 rfl rfl)
theorem dX1_byRule_8 : decode cX1_byRule 8 = .ok (.aload_n 3, 1) := dk_45 (dk_at dksX1_byRule_0 8 rfl rfl)
theorem dX1_byRule_9 : decode cX1_byRule 9 = .ok (.iconst 2, 1) := dk_5 (dk_at dksX1_byRule_0 9 rfl rfl)
theorem dX1_byRule_10 : decode cX1_byRule 10 = .ok (.iload_n 1, 1) := dk_27 (dk_at dksX1_byRule_0 10 rfl rfl)
theorem dX1_byRule_11 : decode cX1_byRule 11 = .ok (.invokevirtual 356, 3) := dk_182 1 100 (dk_at dksX1_byRule_0 11 rfl rfl)
theorem dX1_byRule_14 : decode cX1_byRule 14 = .ok (.istore 4, 2) := dk_54 4 (dk_at dksX1_byRule_0 14 rfl rfl)
theorem dX1_byRule_16 : decode cX1_byRule 16 = .ok (.aload_n 3, 1) := dk_45 (dk_at dksX1_byRule_0 16 rfl rfl)
theorem dX1_byRule_17 : decode cX1_byRule 17 = .ok (.iload_n 2, 1) := dk_28 (dk_at dksX1_byRule_0 17 rfl rfl)
theorem dX1_byRule_18 : decode cX1_byRule 18 = .ok (.invokevirtual 360, 3) := dk_182 1 104 (dk_at dksX1_byRule_0 18 rfl rfl)
theorem dX1_byRule_21 : decode cX1_byRule 21 = .ok (.areturn, 1) := dk_176 (dk_at dksX1_byRule_0 21 rfl rfl)
abbrev cX1_bestRule : ByteArray := prog_1_method_39_code
def yX1_bestRule : MethodName := ⟨RX1, "bestRule", "(I)I"⟩
def dkwX1_bestRule_2 : List UInt8 := [167, 0, 9, 21, 4, 61, 21, 5, 62, 132, 4, 1, 167, 255, 218, 28, 172]
abbrev dktX1_bestRule_2 : List UInt8 := dkwX1_bestRule_2 ++ []
def dkwX1_bestRule_1 : List UInt8 := [163, 0, 38, 42, 21, 4, 27, 182, 1, 113, 180, 1, 73, 5, 46, 54, 5, 21, 5, 29, 161, 0, 6]
abbrev dktX1_bestRule_1 : List UInt8 := dkwX1_bestRule_1 ++ dktX1_bestRule_2
def dkwX1_bestRule_0 : List UInt8 := [27, 184, 1, 110, 3, 61, 42, 3, 27, 182, 1, 113, 180, 1, 73, 5, 46, 62, 4, 54, 4, 21, 4, 5]
abbrev dktX1_bestRule_0 : List UInt8 := dkwX1_bestRule_0 ++ dktX1_bestRule_1
theorem dksX1_bestRule_0 : cX1_bestRule.data.toList.drop 0 = dktX1_bestRule_0 := by decide +kernel
theorem dksX1_bestRule_1 : cX1_bestRule.data.toList.drop 24 = dktX1_bestRule_1 := dk_seg dksX1_bestRule_0 24 rfl rfl
theorem dksX1_bestRule_2 : cX1_bestRule.data.toList.drop 47 = dktX1_bestRule_2 := dk_seg dksX1_bestRule_1 23 rfl rfl
theorem dX1_bestRule_0 : decode cX1_bestRule 0 = .ok (.iload_n 1, 1) := dk_27 (dk_at dksX1_bestRule_0 0 rfl rfl)
theorem dX1_bestRule_1 : decode cX1_bestRule 1 = .ok (.invokestatic 366, 3) := dk_184 1 110 (dk_at dksX1_bestRule_0 1 rfl rfl)
theorem dX1_bestRule_4 : decode cX1_bestRule 4 = .ok (.iconst 0, 1) := dk_3 (dk_at dksX1_bestRule_0 4 rfl rfl)
theorem dX1_bestRule_5 : decode cX1_bestRule 5 = .ok (.istore_n 2, 1) := dk_61 (dk_at dksX1_bestRule_0 5 rfl rfl)
theorem dX1_bestRule_6 : decode cX1_bestRule 6 = .ok (.aload_n 0, 1) := dk_42 (dk_at dksX1_bestRule_0 6 rfl rfl)
theorem dX1_bestRule_7 : decode cX1_bestRule 7 = .ok (.iconst 0, 1) := dk_3 (dk_at dksX1_bestRule_0 7 rfl rfl)
theorem dX1_bestRule_8 : decode cX1_bestRule 8 = .ok (.iload_n 1, 1) := dk_27 (dk_at dksX1_bestRule_0 8 rfl rfl)
theorem dX1_bestRule_9 : decode cX1_bestRule 9 = .ok (.invokevirtual 369, 3) := dk_182 1 113 (dk_at dksX1_bestRule_0 9 rfl rfl)
theorem dX1_bestRule_12 : decode cX1_bestRule 12 = .ok (.getfield 329, 3) := dk_180 1 73 (dk_at dksX1_bestRule_0 12 rfl rfl)
theorem dX1_bestRule_15 : decode cX1_bestRule 15 = .ok (.iconst 2, 1) := dk_5 (dk_at dksX1_bestRule_0 15 rfl rfl)
theorem dX1_bestRule_16 : decode cX1_bestRule 16 = .ok (.iaload, 1) := dk_46 (dk_at dksX1_bestRule_0 16 rfl rfl)
theorem dX1_bestRule_17 : decode cX1_bestRule 17 = .ok (.istore_n 3, 1) := dk_62 (dk_at dksX1_bestRule_0 17 rfl rfl)
theorem dX1_bestRule_18 : decode cX1_bestRule 18 = .ok (.iconst 1, 1) := dk_4 (dk_at dksX1_bestRule_0 18 rfl rfl)
theorem dX1_bestRule_19 : decode cX1_bestRule 19 = .ok (.istore 4, 2) := dk_54 4 (dk_at dksX1_bestRule_0 19 rfl rfl)
theorem dX1_bestRule_21 : decode cX1_bestRule 21 = .ok (.iload 4, 2) := dk_21 4 (dk_at dksX1_bestRule_0 21 rfl rfl)
theorem dX1_bestRule_23 : decode cX1_bestRule 23 = .ok (.iconst 2, 1) := dk_5 (dk_at dksX1_bestRule_0 23 rfl rfl)
theorem dX1_bestRule_24 : decode cX1_bestRule 24 = .ok (.if_icmp .gt 38, 3) := dk_163 0 38 (dk_at dksX1_bestRule_1 0 rfl rfl)
theorem dX1_bestRule_27 : decode cX1_bestRule 27 = .ok (.aload_n 0, 1) := dk_42 (dk_at dksX1_bestRule_1 3 rfl rfl)
theorem dX1_bestRule_28 : decode cX1_bestRule 28 = .ok (.iload 4, 2) := dk_21 4 (dk_at dksX1_bestRule_1 4 rfl rfl)
theorem dX1_bestRule_30 : decode cX1_bestRule 30 = .ok (.iload_n 1, 1) := dk_27 (dk_at dksX1_bestRule_1 6 rfl rfl)
theorem dX1_bestRule_31 : decode cX1_bestRule 31 = .ok (.invokevirtual 369, 3) := dk_182 1 113 (dk_at dksX1_bestRule_1 7 rfl rfl)
theorem dX1_bestRule_34 : decode cX1_bestRule 34 = .ok (.getfield 329, 3) := dk_180 1 73 (dk_at dksX1_bestRule_1 10 rfl rfl)
theorem dX1_bestRule_37 : decode cX1_bestRule 37 = .ok (.iconst 2, 1) := dk_5 (dk_at dksX1_bestRule_1 13 rfl rfl)
theorem dX1_bestRule_38 : decode cX1_bestRule 38 = .ok (.iaload, 1) := dk_46 (dk_at dksX1_bestRule_1 14 rfl rfl)
theorem dX1_bestRule_39 : decode cX1_bestRule 39 = .ok (.istore 5, 2) := dk_54 5 (dk_at dksX1_bestRule_1 15 rfl rfl)
theorem dX1_bestRule_41 : decode cX1_bestRule 41 = .ok (.iload 5, 2) := dk_21 5 (dk_at dksX1_bestRule_1 17 rfl rfl)
theorem dX1_bestRule_43 : decode cX1_bestRule 43 = .ok (.iload_n 3, 1) := dk_29 (dk_at dksX1_bestRule_1 19 rfl rfl)
theorem dX1_bestRule_44 : decode cX1_bestRule 44 = .ok (.if_icmp .lt 6, 3) := dk_161 0 6 (dk_at dksX1_bestRule_1 20 rfl rfl)
theorem dX1_bestRule_47 : decode cX1_bestRule 47 = .ok (.goto 9, 3) := dk_167 0 9 (dk_at dksX1_bestRule_2 0 rfl rfl)
theorem dX1_bestRule_50 : decode cX1_bestRule 50 = .ok (.iload 4, 2) := dk_21 4 (dk_at dksX1_bestRule_2 3 rfl rfl)
theorem dX1_bestRule_52 : decode cX1_bestRule 52 = .ok (.istore_n 2, 1) := dk_61 (dk_at dksX1_bestRule_2 5 rfl rfl)
theorem dX1_bestRule_53 : decode cX1_bestRule 53 = .ok (.iload 5, 2) := dk_21 5 (dk_at dksX1_bestRule_2 6 rfl rfl)
theorem dX1_bestRule_55 : decode cX1_bestRule 55 = .ok (.istore_n 3, 1) := dk_62 (dk_at dksX1_bestRule_2 8 rfl rfl)
theorem dX1_bestRule_56 : decode cX1_bestRule 56 = .ok (.iinc 4 1, 3) := dk_132 4 1 (dk_at dksX1_bestRule_2 9 rfl rfl)
theorem dX1_bestRule_59 : decode cX1_bestRule 59 = .ok (.goto (-38), 3) := dk_167 255 218 (dk_at dksX1_bestRule_2 12 rfl rfl)
theorem dX1_bestRule_62 : decode cX1_bestRule 62 = .ok (.iload_n 2, 1) := dk_28 (dk_at dksX1_bestRule_2 15 rfl rfl)
theorem dX1_bestRule_63 : decode cX1_bestRule 63 = .ok (.ireturn, 1) := dk_172 (dk_at dksX1_bestRule_2 16 rfl rfl)
abbrev cX1_lightIn : ByteArray := prog_1_method_40_code
def yX1_lightIn : MethodName := ⟨RX1, "lightIn", "(II)I"⟩
def dkwX1_lightIn_1 : List UInt8 := [182, 1, 91, 172]
abbrev dktX1_lightIn_1 : List UInt8 := dkwX1_lightIn_1 ++ []
def dkwX1_lightIn_0 : List UInt8 := [42, 27, 182, 0, 251, 78, 28, 184, 1, 110, 42, 180, 0, 37, 182, 0, 123, 28, 182, 1, 104, 27]
abbrev dktX1_lightIn_0 : List UInt8 := dkwX1_lightIn_0 ++ dktX1_lightIn_1
theorem dksX1_lightIn_0 : cX1_lightIn.data.toList.drop 0 = dktX1_lightIn_0 := by decide +kernel
theorem dksX1_lightIn_1 : cX1_lightIn.data.toList.drop 22 = dktX1_lightIn_1 := dk_seg dksX1_lightIn_0 22 rfl rfl
theorem dX1_lightIn_0 : decode cX1_lightIn 0 = .ok (.aload_n 0, 1) := dk_42 (dk_at dksX1_lightIn_0 0 rfl rfl)
theorem dX1_lightIn_1 : decode cX1_lightIn 1 = .ok (.iload_n 1, 1) := dk_27 (dk_at dksX1_lightIn_0 1 rfl rfl)
theorem dX1_lightIn_2 : decode cX1_lightIn 2 = .ok (.invokevirtual 251, 3) := dk_182 0 251 (dk_at dksX1_lightIn_0 2 rfl rfl)
theorem dX1_lightIn_5 : decode cX1_lightIn 5 = .ok (.astore_n 3, 1) := dk_78 (dk_at dksX1_lightIn_0 5 rfl rfl)
theorem dX1_lightIn_6 : decode cX1_lightIn 6 = .ok (.iload_n 2, 1) := dk_28 (dk_at dksX1_lightIn_0 6 rfl rfl)
theorem dX1_lightIn_7 : decode cX1_lightIn 7 = .ok (.invokestatic 366, 3) := dk_184 1 110 (dk_at dksX1_lightIn_0 7 rfl rfl)
theorem dX1_lightIn_10 : decode cX1_lightIn 10 = .ok (.aload_n 0, 1) := dk_42 (dk_at dksX1_lightIn_0 10 rfl rfl)
theorem dX1_lightIn_11 : decode cX1_lightIn 11 = .ok (.getfield 37, 3) := dk_180 0 37 (dk_at dksX1_lightIn_0 11 rfl rfl)
theorem dX1_lightIn_14 : decode cX1_lightIn 14 = .ok (.invokevirtual 123, 3) := dk_182 0 123 (dk_at dksX1_lightIn_0 14 rfl rfl)
theorem dX1_lightIn_17 : decode cX1_lightIn 17 = .ok (.iload_n 2, 1) := dk_28 (dk_at dksX1_lightIn_0 17 rfl rfl)
theorem dX1_lightIn_18 : decode cX1_lightIn 18 = .ok (.invokevirtual 360, 3) := dk_182 1 104 (dk_at dksX1_lightIn_0 18 rfl rfl)
theorem dX1_lightIn_21 : decode cX1_lightIn 21 = .ok (.iload_n 1, 1) := dk_27 (dk_at dksX1_lightIn_0 21 rfl rfl)
theorem dX1_lightIn_22 : decode cX1_lightIn 22 = .ok (.invokevirtual 347, 3) := dk_182 1 91 (dk_at dksX1_lightIn_1 0 rfl rfl)
theorem dX1_lightIn_25 : decode cX1_lightIn 25 = .ok (.ireturn, 1) := dk_172 (dk_at dksX1_lightIn_1 3 rfl rfl)
abbrev cX1_couldJoin : ByteArray := prog_1_method_41_code
def yX1_couldJoin : MethodName := ⟨RX1, "couldJoin", "(I)I"⟩
def dkwX1_couldJoin_1 : List UInt8 := [186, 1, 117, 0, 0, 184, 1, 121, 172]
abbrev dktX1_couldJoin_1 : List UInt8 := dkwX1_couldJoin_1 ++ []
def dkwX1_couldJoin_0 : List UInt8 := [42, 27, 182, 1, 14, 77, 42, 180, 0, 37, 78, 45, 180, 0, 159, 185, 0, 162, 1, 0, 45, 27]
abbrev dktX1_couldJoin_0 : List UInt8 := dkwX1_couldJoin_0 ++ dktX1_couldJoin_1
theorem dksX1_couldJoin_0 : cX1_couldJoin.data.toList.drop 0 = dktX1_couldJoin_0 := by decide +kernel
theorem dksX1_couldJoin_1 : cX1_couldJoin.data.toList.drop 22 = dktX1_couldJoin_1 := dk_seg dksX1_couldJoin_0 22 rfl rfl
theorem dX1_couldJoin_0 : decode cX1_couldJoin 0 = .ok (.aload_n 0, 1) := dk_42 (dk_at dksX1_couldJoin_0 0 rfl rfl)
theorem dX1_couldJoin_1 : decode cX1_couldJoin 1 = .ok (.iload_n 1, 1) := dk_27 (dk_at dksX1_couldJoin_0 1 rfl rfl)
theorem dX1_couldJoin_2 : decode cX1_couldJoin 2 = .ok (.invokevirtual 270, 3) := dk_182 1 14 (dk_at dksX1_couldJoin_0 2 rfl rfl)
theorem dX1_couldJoin_5 : decode cX1_couldJoin 5 = .ok (.astore_n 2, 1) := dk_77 (dk_at dksX1_couldJoin_0 5 rfl rfl)
theorem dX1_couldJoin_6 : decode cX1_couldJoin 6 = .ok (.aload_n 0, 1) := dk_42 (dk_at dksX1_couldJoin_0 6 rfl rfl)
theorem dX1_couldJoin_7 : decode cX1_couldJoin 7 = .ok (.getfield 37, 3) := dk_180 0 37 (dk_at dksX1_couldJoin_0 7 rfl rfl)
theorem dX1_couldJoin_10 : decode cX1_couldJoin 10 = .ok (.astore_n 3, 1) := dk_78 (dk_at dksX1_couldJoin_0 10 rfl rfl)
theorem dX1_couldJoin_11 : decode cX1_couldJoin 11 = .ok (.aload_n 3, 1) := dk_45 (dk_at dksX1_couldJoin_0 11 rfl rfl)
theorem dX1_couldJoin_12 : decode cX1_couldJoin 12 = .ok (.getfield 159, 3) := dk_180 0 159 (dk_at dksX1_couldJoin_0 12 rfl rfl)
theorem dX1_couldJoin_15 : decode cX1_couldJoin 15 = .ok (.invokeinterface 162 1, 5) := by decide +kernel
theorem dX1_couldJoin_20 : decode cX1_couldJoin 20 = .ok (.aload_n 3, 1) := dk_45 (dk_at dksX1_couldJoin_0 20 rfl rfl)
theorem dX1_couldJoin_21 : decode cX1_couldJoin 21 = .ok (.iload_n 1, 1) := dk_27 (dk_at dksX1_couldJoin_0 21 rfl rfl)
theorem dX1_couldJoin_22 : decode cX1_couldJoin 22 = .ok (.invokedynamic 373, 5) := by decide +kernel
theorem dX1_couldJoin_27 : decode cX1_couldJoin 27 = .ok (.invokestatic 377, 3) := dk_184 1 121 (dk_at dksX1_couldJoin_1 5 rfl rfl)
theorem dX1_couldJoin_30 : decode cX1_couldJoin 30 = .ok (.ireturn, 1) := dk_172 (dk_at dksX1_couldJoin_1 8 rfl rfl)
abbrev cX1_lambda_couldJoin_31 : ByteArray := prog_1_method_63_code
def yX1_lambda_couldJoin_31 : MethodName := ⟨RX1, "lambda$couldJoin$31", "(LLoopSignals$Junction;II)Z"⟩
def dkwX1_lambda_couldJoin_31_0 : List UInt8 := [42, 27, 28, 182, 1, 196, 172]
abbrev dktX1_lambda_couldJoin_31_0 : List UInt8 := dkwX1_lambda_couldJoin_31_0 ++ []
theorem dksX1_lambda_couldJoin_31_0 : cX1_lambda_couldJoin_31.data.toList.drop 0 = dktX1_lambda_couldJoin_31_0 := by decide +kernel
theorem dX1_lambda_couldJoin_31_0 : decode cX1_lambda_couldJoin_31 0 = .ok (.aload_n 0, 1) := dk_42 (dk_at dksX1_lambda_couldJoin_31_0 0 rfl rfl)
theorem dX1_lambda_couldJoin_31_1 : decode cX1_lambda_couldJoin_31 1 = .ok (.iload_n 1, 1) := dk_27 (dk_at dksX1_lambda_couldJoin_31_0 1 rfl rfl)
theorem dX1_lambda_couldJoin_31_2 : decode cX1_lambda_couldJoin_31 2 = .ok (.iload_n 2, 1) := dk_28 (dk_at dksX1_lambda_couldJoin_31_0 2 rfl rfl)
theorem dX1_lambda_couldJoin_31_3 : decode cX1_lambda_couldJoin_31 3 = .ok (.invokevirtual 452, 3) := dk_182 1 196 (dk_at dksX1_lambda_couldJoin_31_0 3 rfl rfl)
theorem dX1_lambda_couldJoin_31_6 : decode cX1_lambda_couldJoin_31 6 = .ok (.ireturn, 1) := dk_172 (dk_at dksX1_lambda_couldJoin_31_0 6 rfl rfl)
abbrev cX1_come : ByteArray := prog_1_method_42_code
def yX1_come : MethodName := ⟨RX1, "come", "(II)I"⟩
def dkwX1_come_1 : List UInt8 := [186, 1, 129, 0, 0, 182, 1, 132, 172]
abbrev dktX1_come_1 : List UInt8 := dkwX1_come_1 ++ []
def dkwX1_come_0 : List UInt8 := [42, 27, 182, 0, 251, 78, 28, 133, 10, 20, 1, 127, 184, 0, 147, 184, 0, 151, 42, 27, 28]
abbrev dktX1_come_0 : List UInt8 := dkwX1_come_0 ++ dktX1_come_1
theorem dksX1_come_0 : cX1_come.data.toList.drop 0 = dktX1_come_0 := by decide +kernel
theorem dksX1_come_1 : cX1_come.data.toList.drop 21 = dktX1_come_1 := dk_seg dksX1_come_0 21 rfl rfl
theorem dX1_come_0 : decode cX1_come 0 = .ok (.aload_n 0, 1) := dk_42 (dk_at dksX1_come_0 0 rfl rfl)
theorem dX1_come_1 : decode cX1_come 1 = .ok (.iload_n 1, 1) := dk_27 (dk_at dksX1_come_0 1 rfl rfl)
theorem dX1_come_2 : decode cX1_come 2 = .ok (.invokevirtual 251, 3) := dk_182 0 251 (dk_at dksX1_come_0 2 rfl rfl)
theorem dX1_come_5 : decode cX1_come 5 = .ok (.astore_n 3, 1) := dk_78 (dk_at dksX1_come_0 5 rfl rfl)
theorem dX1_come_6 : decode cX1_come 6 = .ok (.iload_n 2, 1) := dk_28 (dk_at dksX1_come_0 6 rfl rfl)
theorem dX1_come_7 : decode cX1_come 7 = .ok (.i2l, 1) := dk_133 (dk_at dksX1_come_0 7 rfl rfl)
theorem dX1_come_8 : decode cX1_come 8 = .ok (.lconst 1, 1) := dk_10 (dk_at dksX1_come_0 8 rfl rfl)
theorem dX1_come_9 : decode cX1_come 9 = .ok (.ldc2_w 383, 3) := dk_20 1 127 (dk_at dksX1_come_0 9 rfl rfl)
theorem dX1_come_12 : decode cX1_come 12 = .ok (.invokestatic 147, 3) := dk_184 0 147 (dk_at dksX1_come_0 12 rfl rfl)
theorem dX1_come_15 : decode cX1_come 15 = .ok (.invokestatic 151, 3) := dk_184 0 151 (dk_at dksX1_come_0 15 rfl rfl)
theorem dX1_come_18 : decode cX1_come 18 = .ok (.aload_n 0, 1) := dk_42 (dk_at dksX1_come_0 18 rfl rfl)
theorem dX1_come_19 : decode cX1_come 19 = .ok (.iload_n 1, 1) := dk_27 (dk_at dksX1_come_0 19 rfl rfl)
theorem dX1_come_20 : decode cX1_come 20 = .ok (.iload_n 2, 1) := dk_28 (dk_at dksX1_come_0 20 rfl rfl)
theorem dX1_come_21 : decode cX1_come 21 = .ok (.invokedynamic 385, 5) := by decide +kernel
theorem dX1_come_26 : decode cX1_come 26 = .ok (.invokevirtual 388, 3) := dk_182 1 132 (dk_at dksX1_come_1 5 rfl rfl)
theorem dX1_come_29 : decode cX1_come 29 = .ok (.ireturn, 1) := dk_172 (dk_at dksX1_come_1 8 rfl rfl)
abbrev cX1_lambda_come_32 : ByteArray := prog_1_method_62_code
def yX1_lambda_come_32 : MethodName := ⟨RX1, "lambda$come$32", "(IILLoopSignals$Junction;)I"⟩
def dkwX1_lambda_come_32_0 : List UInt8 := [44, 26, 27, 182, 1, 193, 172]
abbrev dktX1_lambda_come_32_0 : List UInt8 := dkwX1_lambda_come_32_0 ++ []
theorem dksX1_lambda_come_32_0 : cX1_lambda_come_32.data.toList.drop 0 = dktX1_lambda_come_32_0 := by decide +kernel
theorem dX1_lambda_come_32_0 : decode cX1_lambda_come_32 0 = .ok (.aload_n 2, 1) := dk_44 (dk_at dksX1_lambda_come_32_0 0 rfl rfl)
theorem dX1_lambda_come_32_1 : decode cX1_lambda_come_32 1 = .ok (.iload_n 0, 1) := dk_26 (dk_at dksX1_lambda_come_32_0 1 rfl rfl)
theorem dX1_lambda_come_32_2 : decode cX1_lambda_come_32 2 = .ok (.iload_n 1, 1) := dk_27 (dk_at dksX1_lambda_come_32_0 2 rfl rfl)
theorem dX1_lambda_come_32_3 : decode cX1_lambda_come_32 3 = .ok (.invokevirtual 449, 3) := dk_182 1 193 (dk_at dksX1_lambda_come_32_0 3 rfl rfl)
theorem dX1_lambda_come_32_6 : decode cX1_lambda_come_32 6 = .ok (.ireturn, 1) := dk_172 (dk_at dksX1_lambda_come_32_0 6 rfl rfl)
abbrev cX1_changed : ByteArray := prog_1_method_8_code
def yX1_changed : MethodName := ⟨RX1, "changed", "(LLoopSignals$Act;)I"⟩
def dkwX1_changed_1 : List UInt8 := [44, 182, 0, 133, 42, 29, 182, 0, 137, 172]
abbrev dktX1_changed_1 : List UInt8 := dkwX1_changed_1 ++ []
def dkwX1_changed_0 : List UInt8 := [42, 180, 0, 37, 182, 0, 123, 77, 43, 42, 180, 0, 37, 185, 0, 127, 2, 0, 62, 29, 155, 0, 8, 42]
abbrev dktX1_changed_0 : List UInt8 := dkwX1_changed_0 ++ dktX1_changed_1
theorem dksX1_changed_0 : cX1_changed.data.toList.drop 0 = dktX1_changed_0 := by decide +kernel
theorem dksX1_changed_1 : cX1_changed.data.toList.drop 24 = dktX1_changed_1 := dk_seg dksX1_changed_0 24 rfl rfl
theorem dX1_changed_0 : decode cX1_changed 0 = .ok (.aload_n 0, 1) := dk_42 (dk_at dksX1_changed_0 0 rfl rfl)
theorem dX1_changed_1 : decode cX1_changed 1 = .ok (.getfield 37, 3) := dk_180 0 37 (dk_at dksX1_changed_0 1 rfl rfl)
theorem dX1_changed_4 : decode cX1_changed 4 = .ok (.invokevirtual 123, 3) := dk_182 0 123 (dk_at dksX1_changed_0 4 rfl rfl)
theorem dX1_changed_7 : decode cX1_changed 7 = .ok (.astore_n 2, 1) := dk_77 (dk_at dksX1_changed_0 7 rfl rfl)
theorem dX1_changed_8 : decode cX1_changed 8 = .ok (.aload_n 1, 1) := dk_43 (dk_at dksX1_changed_0 8 rfl rfl)
theorem dX1_changed_9 : decode cX1_changed 9 = .ok (.aload_n 0, 1) := dk_42 (dk_at dksX1_changed_0 9 rfl rfl)
theorem dX1_changed_10 : decode cX1_changed 10 = .ok (.getfield 37, 3) := dk_180 0 37 (dk_at dksX1_changed_0 10 rfl rfl)
theorem dX1_changed_13 : decode cX1_changed 13 = .ok (.invokeinterface 127 2, 5) := by decide +kernel
theorem dX1_changed_18 : decode cX1_changed 18 = .ok (.istore_n 3, 1) := dk_62 (dk_at dksX1_changed_0 18 rfl rfl)
theorem dX1_changed_19 : decode cX1_changed 19 = .ok (.iload_n 3, 1) := dk_29 (dk_at dksX1_changed_0 19 rfl rfl)
theorem dX1_changed_20 : decode cX1_changed 20 = .ok (.ifCond .lt 8, 3) := dk_155 0 8 (dk_at dksX1_changed_0 20 rfl rfl)
theorem dX1_changed_23 : decode cX1_changed 23 = .ok (.aload_n 0, 1) := dk_42 (dk_at dksX1_changed_0 23 rfl rfl)
theorem dX1_changed_24 : decode cX1_changed 24 = .ok (.aload_n 2, 1) := dk_44 (dk_at dksX1_changed_1 0 rfl rfl)
theorem dX1_changed_25 : decode cX1_changed 25 = .ok (.invokevirtual 133, 3) := dk_182 0 133 (dk_at dksX1_changed_1 1 rfl rfl)
theorem dX1_changed_28 : decode cX1_changed 28 = .ok (.aload_n 0, 1) := dk_42 (dk_at dksX1_changed_1 4 rfl rfl)
theorem dX1_changed_29 : decode cX1_changed 29 = .ok (.iload_n 3, 1) := dk_29 (dk_at dksX1_changed_1 5 rfl rfl)
theorem dX1_changed_30 : decode cX1_changed 30 = .ok (.invokevirtual 137, 3) := dk_182 0 137 (dk_at dksX1_changed_1 6 rfl rfl)
theorem dX1_changed_33 : decode cX1_changed 33 = .ok (.ireturn, 1) := dk_172 (dk_at dksX1_changed_1 9 rfl rfl)
abbrev cX1_pass : ByteArray := prog_1_method_43_code
def yX1_pass : MethodName := ⟨RX1, "pass", "(I)I"⟩
def dkwX1_pass_0 : List UInt8 := [27, 133, 10, 20, 1, 136, 184, 0, 147, 184, 0, 151, 42, 27, 186, 1, 138, 0, 0, 182, 1, 132, 172]
abbrev dktX1_pass_0 : List UInt8 := dkwX1_pass_0 ++ []
theorem dksX1_pass_0 : cX1_pass.data.toList.drop 0 = dktX1_pass_0 := by decide +kernel
theorem dX1_pass_0 : decode cX1_pass 0 = .ok (.iload_n 1, 1) := dk_27 (dk_at dksX1_pass_0 0 rfl rfl)
theorem dX1_pass_1 : decode cX1_pass 1 = .ok (.i2l, 1) := dk_133 (dk_at dksX1_pass_0 1 rfl rfl)
theorem dX1_pass_2 : decode cX1_pass 2 = .ok (.lconst 1, 1) := dk_10 (dk_at dksX1_pass_0 2 rfl rfl)
theorem dX1_pass_3 : decode cX1_pass 3 = .ok (.ldc2_w 392, 3) := dk_20 1 136 (dk_at dksX1_pass_0 3 rfl rfl)
theorem dX1_pass_6 : decode cX1_pass 6 = .ok (.invokestatic 147, 3) := dk_184 0 147 (dk_at dksX1_pass_0 6 rfl rfl)
theorem dX1_pass_9 : decode cX1_pass 9 = .ok (.invokestatic 151, 3) := dk_184 0 151 (dk_at dksX1_pass_0 9 rfl rfl)
theorem dX1_pass_12 : decode cX1_pass 12 = .ok (.aload_n 0, 1) := dk_42 (dk_at dksX1_pass_0 12 rfl rfl)
theorem dX1_pass_13 : decode cX1_pass 13 = .ok (.iload_n 1, 1) := dk_27 (dk_at dksX1_pass_0 13 rfl rfl)
theorem dX1_pass_14 : decode cX1_pass 14 = .ok (.invokedynamic 394, 5) := by decide +kernel
theorem dX1_pass_19 : decode cX1_pass 19 = .ok (.invokevirtual 388, 3) := dk_182 1 132 (dk_at dksX1_pass_0 19 rfl rfl)
theorem dX1_pass_22 : decode cX1_pass 22 = .ok (.ireturn, 1) := dk_172 (dk_at dksX1_pass_0 22 rfl rfl)
abbrev cX1_lambda_pass_33 : ByteArray := prog_1_method_61_code
def yX1_lambda_pass_33 : MethodName := ⟨RX1, "lambda$pass$33", "(ILLoopSignals$Junction;)I"⟩
def dkwX1_lambda_pass_33_0 : List UInt8 := [43, 26, 182, 1, 190, 172]
abbrev dktX1_lambda_pass_33_0 : List UInt8 := dkwX1_lambda_pass_33_0 ++ []
theorem dksX1_lambda_pass_33_0 : cX1_lambda_pass_33.data.toList.drop 0 = dktX1_lambda_pass_33_0 := by decide +kernel
theorem dX1_lambda_pass_33_0 : decode cX1_lambda_pass_33 0 = .ok (.aload_n 1, 1) := dk_43 (dk_at dksX1_lambda_pass_33_0 0 rfl rfl)
theorem dX1_lambda_pass_33_1 : decode cX1_lambda_pass_33 1 = .ok (.iload_n 0, 1) := dk_26 (dk_at dksX1_lambda_pass_33_0 1 rfl rfl)
theorem dX1_lambda_pass_33_2 : decode cX1_lambda_pass_33 2 = .ok (.invokevirtual 446, 3) := dk_182 1 190 (dk_at dksX1_lambda_pass_33_0 2 rfl rfl)
theorem dX1_lambda_pass_33_5 : decode cX1_lambda_pass_33 5 = .ok (.ireturn, 1) := dk_172 (dk_at dksX1_lambda_pass_33_0 5 rfl rfl)
abbrev cX1_call : ByteArray := prog_1_method_44_code
def yX1_call : MethodName := ⟨RX1, "call", "(I)I"⟩
def dkwX1_call_0 : List UInt8 := [42, 27, 182, 1, 14, 77, 42, 27, 186, 1, 141, 0, 0, 182, 1, 132, 172]
abbrev dktX1_call_0 : List UInt8 := dkwX1_call_0 ++ []
theorem dksX1_call_0 : cX1_call.data.toList.drop 0 = dktX1_call_0 := by decide +kernel
theorem dX1_call_0 : decode cX1_call 0 = .ok (.aload_n 0, 1) := dk_42 (dk_at dksX1_call_0 0 rfl rfl)
theorem dX1_call_1 : decode cX1_call 1 = .ok (.iload_n 1, 1) := dk_27 (dk_at dksX1_call_0 1 rfl rfl)
theorem dX1_call_2 : decode cX1_call 2 = .ok (.invokevirtual 270, 3) := dk_182 1 14 (dk_at dksX1_call_0 2 rfl rfl)
theorem dX1_call_5 : decode cX1_call 5 = .ok (.astore_n 2, 1) := dk_77 (dk_at dksX1_call_0 5 rfl rfl)
theorem dX1_call_6 : decode cX1_call 6 = .ok (.aload_n 0, 1) := dk_42 (dk_at dksX1_call_0 6 rfl rfl)
theorem dX1_call_7 : decode cX1_call 7 = .ok (.iload_n 1, 1) := dk_27 (dk_at dksX1_call_0 7 rfl rfl)
theorem dX1_call_8 : decode cX1_call 8 = .ok (.invokedynamic 397, 5) := by decide +kernel
theorem dX1_call_13 : decode cX1_call 13 = .ok (.invokevirtual 388, 3) := dk_182 1 132 (dk_at dksX1_call_0 13 rfl rfl)
theorem dX1_call_16 : decode cX1_call 16 = .ok (.ireturn, 1) := dk_172 (dk_at dksX1_call_0 16 rfl rfl)
abbrev cX1_lambda_call_34 : ByteArray := prog_1_method_60_code
def yX1_lambda_call_34 : MethodName := ⟨RX1, "lambda$call$34", "(ILLoopSignals$Junction;)I"⟩
def dkwX1_lambda_call_34_0 : List UInt8 := [43, 26, 182, 1, 187, 172]
abbrev dktX1_lambda_call_34_0 : List UInt8 := dkwX1_lambda_call_34_0 ++ []
theorem dksX1_lambda_call_34_0 : cX1_lambda_call_34.data.toList.drop 0 = dktX1_lambda_call_34_0 := by decide +kernel
theorem dX1_lambda_call_34_0 : decode cX1_lambda_call_34 0 = .ok (.aload_n 1, 1) := dk_43 (dk_at dksX1_lambda_call_34_0 0 rfl rfl)
theorem dX1_lambda_call_34_1 : decode cX1_lambda_call_34 1 = .ok (.iload_n 0, 1) := dk_26 (dk_at dksX1_lambda_call_34_0 1 rfl rfl)
theorem dX1_lambda_call_34_2 : decode cX1_lambda_call_34 2 = .ok (.invokevirtual 443, 3) := dk_182 1 187 (dk_at dksX1_lambda_call_34_0 2 rfl rfl)
theorem dX1_lambda_call_34_5 : decode cX1_lambda_call_34 5 = .ok (.ireturn, 1) := dk_172 (dk_at dksX1_lambda_call_34_0 5 rfl rfl)
abbrev cX1_setBroken : ByteArray := prog_1_method_45_code
def yX1_setBroken : MethodName := ⟨RX1, "setBroken", "(IZ)I"⟩
def dkwX1_setBroken_0 : List UInt8 := [42, 27, 182, 0, 251, 78, 42, 27, 28, 186, 1, 142, 0, 0, 182, 1, 132, 172]
abbrev dktX1_setBroken_0 : List UInt8 := dkwX1_setBroken_0 ++ []
theorem dksX1_setBroken_0 : cX1_setBroken.data.toList.drop 0 = dktX1_setBroken_0 := by decide +kernel
theorem dX1_setBroken_0 : decode cX1_setBroken 0 = .ok (.aload_n 0, 1) := dk_42 (dk_at dksX1_setBroken_0 0 rfl rfl)
theorem dX1_setBroken_1 : decode cX1_setBroken 1 = .ok (.iload_n 1, 1) := dk_27 (dk_at dksX1_setBroken_0 1 rfl rfl)
theorem dX1_setBroken_2 : decode cX1_setBroken 2 = .ok (.invokevirtual 251, 3) := dk_182 0 251 (dk_at dksX1_setBroken_0 2 rfl rfl)
theorem dX1_setBroken_5 : decode cX1_setBroken 5 = .ok (.astore_n 3, 1) := dk_78 (dk_at dksX1_setBroken_0 5 rfl rfl)
theorem dX1_setBroken_6 : decode cX1_setBroken 6 = .ok (.aload_n 0, 1) := dk_42 (dk_at dksX1_setBroken_0 6 rfl rfl)
theorem dX1_setBroken_7 : decode cX1_setBroken 7 = .ok (.iload_n 1, 1) := dk_27 (dk_at dksX1_setBroken_0 7 rfl rfl)
theorem dX1_setBroken_8 : decode cX1_setBroken 8 = .ok (.iload_n 2, 1) := dk_28 (dk_at dksX1_setBroken_0 8 rfl rfl)
theorem dX1_setBroken_9 : decode cX1_setBroken 9 = .ok (.invokedynamic 398, 5) := by decide +kernel
theorem dX1_setBroken_14 : decode cX1_setBroken 14 = .ok (.invokevirtual 388, 3) := dk_182 1 132 (dk_at dksX1_setBroken_0 14 rfl rfl)
theorem dX1_setBroken_17 : decode cX1_setBroken 17 = .ok (.ireturn, 1) := dk_172 (dk_at dksX1_setBroken_0 17 rfl rfl)
abbrev cX1_lambda_setBroken_35 : ByteArray := prog_1_method_59_code
def yX1_lambda_setBroken_35 : MethodName := ⟨RX1, "lambda$setBroken$35", "(IZLLoopSignals$Junction;)I"⟩
def dkwX1_lambda_setBroken_35_0 : List UInt8 := [44, 26, 27, 182, 1, 183, 172]
abbrev dktX1_lambda_setBroken_35_0 : List UInt8 := dkwX1_lambda_setBroken_35_0 ++ []
theorem dksX1_lambda_setBroken_35_0 : cX1_lambda_setBroken_35.data.toList.drop 0 = dktX1_lambda_setBroken_35_0 := by decide +kernel
theorem dX1_lambda_setBroken_35_0 : decode cX1_lambda_setBroken_35 0 = .ok (.aload_n 2, 1) := dk_44 (dk_at dksX1_lambda_setBroken_35_0 0 rfl rfl)
theorem dX1_lambda_setBroken_35_1 : decode cX1_lambda_setBroken_35 1 = .ok (.iload_n 0, 1) := dk_26 (dk_at dksX1_lambda_setBroken_35_0 1 rfl rfl)
theorem dX1_lambda_setBroken_35_2 : decode cX1_lambda_setBroken_35 2 = .ok (.iload_n 1, 1) := dk_27 (dk_at dksX1_lambda_setBroken_35_0 2 rfl rfl)
theorem dX1_lambda_setBroken_35_3 : decode cX1_lambda_setBroken_35 3 = .ok (.invokevirtual 439, 3) := dk_182 1 183 (dk_at dksX1_lambda_setBroken_35_0 3 rfl rfl)
theorem dX1_lambda_setBroken_35_6 : decode cX1_lambda_setBroken_35 6 = .ok (.ireturn, 1) := dk_172 (dk_at dksX1_lambda_setBroken_35_0 6 rfl rfl)
abbrev cX1_clash : ByteArray := prog_1_method_46_code
def yX1_clash : MethodName := ⟨RX1, "clash", "(IIZ)I"⟩
def dkwX1_clash_1 : List UInt8 := [184, 0, 151, 42, 27, 28, 29, 186, 1, 145, 0, 0, 182, 1, 132, 172]
abbrev dktX1_clash_1 : List UInt8 := dkwX1_clash_1 ++ []
def dkwX1_clash_0 : List UInt8 := [42, 27, 182, 0, 251, 58, 4, 42, 28, 182, 0, 251, 58, 5, 27, 28, 159, 0, 7, 4, 167, 0, 4, 3]
abbrev dktX1_clash_0 : List UInt8 := dkwX1_clash_0 ++ dktX1_clash_1
theorem dksX1_clash_0 : cX1_clash.data.toList.drop 0 = dktX1_clash_0 := by decide +kernel
theorem dksX1_clash_1 : cX1_clash.data.toList.drop 24 = dktX1_clash_1 := dk_seg dksX1_clash_0 24 rfl rfl
theorem dX1_clash_0 : decode cX1_clash 0 = .ok (.aload_n 0, 1) := dk_42 (dk_at dksX1_clash_0 0 rfl rfl)
theorem dX1_clash_1 : decode cX1_clash 1 = .ok (.iload_n 1, 1) := dk_27 (dk_at dksX1_clash_0 1 rfl rfl)
theorem dX1_clash_2 : decode cX1_clash 2 = .ok (.invokevirtual 251, 3) := dk_182 0 251 (dk_at dksX1_clash_0 2 rfl rfl)
theorem dX1_clash_5 : decode cX1_clash 5 = .ok (.astore 4, 2) := dk_58 4 (dk_at dksX1_clash_0 5 rfl rfl)
theorem dX1_clash_7 : decode cX1_clash 7 = .ok (.aload_n 0, 1) := dk_42 (dk_at dksX1_clash_0 7 rfl rfl)
theorem dX1_clash_8 : decode cX1_clash 8 = .ok (.iload_n 2, 1) := dk_28 (dk_at dksX1_clash_0 8 rfl rfl)
theorem dX1_clash_9 : decode cX1_clash 9 = .ok (.invokevirtual 251, 3) := dk_182 0 251 (dk_at dksX1_clash_0 9 rfl rfl)
theorem dX1_clash_12 : decode cX1_clash 12 = .ok (.astore 5, 2) := dk_58 5 (dk_at dksX1_clash_0 12 rfl rfl)
theorem dX1_clash_14 : decode cX1_clash 14 = .ok (.iload_n 1, 1) := dk_27 (dk_at dksX1_clash_0 14 rfl rfl)
theorem dX1_clash_15 : decode cX1_clash 15 = .ok (.iload_n 2, 1) := dk_28 (dk_at dksX1_clash_0 15 rfl rfl)
theorem dX1_clash_16 : decode cX1_clash 16 = .ok (.if_icmp .eq 7, 3) := dk_159 0 7 (dk_at dksX1_clash_0 16 rfl rfl)
theorem dX1_clash_19 : decode cX1_clash 19 = .ok (.iconst 1, 1) := dk_4 (dk_at dksX1_clash_0 19 rfl rfl)
theorem dX1_clash_20 : decode cX1_clash 20 = .ok (.goto 4, 3) := dk_167 0 4 (dk_at dksX1_clash_0 20 rfl rfl)
theorem dX1_clash_23 : decode cX1_clash 23 = .ok (.iconst 0, 1) := dk_3 (dk_at dksX1_clash_0 23 rfl rfl)
theorem dX1_clash_24 : decode cX1_clash 24 = .ok (.invokestatic 151, 3) := dk_184 0 151 (dk_at dksX1_clash_1 0 rfl rfl)
theorem dX1_clash_27 : decode cX1_clash 27 = .ok (.aload_n 0, 1) := dk_42 (dk_at dksX1_clash_1 3 rfl rfl)
theorem dX1_clash_28 : decode cX1_clash 28 = .ok (.iload_n 1, 1) := dk_27 (dk_at dksX1_clash_1 4 rfl rfl)
theorem dX1_clash_29 : decode cX1_clash 29 = .ok (.iload_n 2, 1) := dk_28 (dk_at dksX1_clash_1 5 rfl rfl)
theorem dX1_clash_30 : decode cX1_clash 30 = .ok (.iload_n 3, 1) := dk_29 (dk_at dksX1_clash_1 6 rfl rfl)
theorem dX1_clash_31 : decode cX1_clash 31 = .ok (.invokedynamic 401, 5) := by decide +kernel
theorem dX1_clash_36 : decode cX1_clash 36 = .ok (.invokevirtual 388, 3) := dk_182 1 132 (dk_at dksX1_clash_1 12 rfl rfl)
theorem dX1_clash_39 : decode cX1_clash 39 = .ok (.ireturn, 1) := dk_172 (dk_at dksX1_clash_1 15 rfl rfl)
abbrev cX1_lambda_clash_36 : ByteArray := prog_1_method_58_code
def yX1_lambda_clash_36 : MethodName := ⟨RX1, "lambda$clash$36", "(IIZLLoopSignals$Junction;)I"⟩
def dkwX1_lambda_clash_36_0 : List UInt8 := [45, 26, 27, 28, 182, 1, 180, 172]
abbrev dktX1_lambda_clash_36_0 : List UInt8 := dkwX1_lambda_clash_36_0 ++ []
theorem dksX1_lambda_clash_36_0 : cX1_lambda_clash_36.data.toList.drop 0 = dktX1_lambda_clash_36_0 := by decide +kernel
theorem dX1_lambda_clash_36_0 : decode cX1_lambda_clash_36 0 = .ok (.aload_n 3, 1) := dk_45 (dk_at dksX1_lambda_clash_36_0 0 rfl rfl)
theorem dX1_lambda_clash_36_1 : decode cX1_lambda_clash_36 1 = .ok (.iload_n 0, 1) := dk_26 (dk_at dksX1_lambda_clash_36_0 1 rfl rfl)
theorem dX1_lambda_clash_36_2 : decode cX1_lambda_clash_36 2 = .ok (.iload_n 1, 1) := dk_27 (dk_at dksX1_lambda_clash_36_0 2 rfl rfl)
theorem dX1_lambda_clash_36_3 : decode cX1_lambda_clash_36 3 = .ok (.iload_n 2, 1) := dk_28 (dk_at dksX1_lambda_clash_36_0 3 rfl rfl)
theorem dX1_lambda_clash_36_4 : decode cX1_lambda_clash_36 4 = .ok (.invokevirtual 436, 3) := dk_182 1 180 (dk_at dksX1_lambda_clash_36_0 4 rfl rfl)
theorem dX1_lambda_clash_36_7 : decode cX1_lambda_clash_36 7 = .ok (.ireturn, 1) := dk_172 (dk_at dksX1_lambda_clash_36_0 7 rfl rfl)
abbrev cX1_setPhase : ByteArray := prog_1_method_47_code
def yX1_setPhase : MethodName := ⟨RX1, "setPhase", "(IZI)I"⟩
def dkwX1_setPhase_1 : List UInt8 := [184, 0, 147, 184, 0, 151, 42, 27, 28, 29, 186, 1, 148, 0, 0, 182, 1, 132, 172]
abbrev dktX1_setPhase_1 : List UInt8 := dkwX1_setPhase_1 ++ []
def dkwX1_setPhase_0 : List UInt8 := [42, 27, 182, 1, 14, 58, 4, 29, 133, 10, 28, 153, 0, 9, 20, 1, 136, 167, 0, 6, 20, 1, 127]
abbrev dktX1_setPhase_0 : List UInt8 := dkwX1_setPhase_0 ++ dktX1_setPhase_1
theorem dksX1_setPhase_0 : cX1_setPhase.data.toList.drop 0 = dktX1_setPhase_0 := by decide +kernel
theorem dksX1_setPhase_1 : cX1_setPhase.data.toList.drop 23 = dktX1_setPhase_1 := dk_seg dksX1_setPhase_0 23 rfl rfl
theorem dX1_setPhase_0 : decode cX1_setPhase 0 = .ok (.aload_n 0, 1) := dk_42 (dk_at dksX1_setPhase_0 0 rfl rfl)
theorem dX1_setPhase_1 : decode cX1_setPhase 1 = .ok (.iload_n 1, 1) := dk_27 (dk_at dksX1_setPhase_0 1 rfl rfl)
theorem dX1_setPhase_2 : decode cX1_setPhase 2 = .ok (.invokevirtual 270, 3) := dk_182 1 14 (dk_at dksX1_setPhase_0 2 rfl rfl)
theorem dX1_setPhase_5 : decode cX1_setPhase 5 = .ok (.astore 4, 2) := dk_58 4 (dk_at dksX1_setPhase_0 5 rfl rfl)
theorem dX1_setPhase_7 : decode cX1_setPhase 7 = .ok (.iload_n 3, 1) := dk_29 (dk_at dksX1_setPhase_0 7 rfl rfl)
theorem dX1_setPhase_8 : decode cX1_setPhase 8 = .ok (.i2l, 1) := dk_133 (dk_at dksX1_setPhase_0 8 rfl rfl)
theorem dX1_setPhase_9 : decode cX1_setPhase 9 = .ok (.lconst 1, 1) := dk_10 (dk_at dksX1_setPhase_0 9 rfl rfl)
theorem dX1_setPhase_10 : decode cX1_setPhase 10 = .ok (.iload_n 2, 1) := dk_28 (dk_at dksX1_setPhase_0 10 rfl rfl)
theorem dX1_setPhase_11 : decode cX1_setPhase 11 = .ok (.ifCond .eq 9, 3) := dk_153 0 9 (dk_at dksX1_setPhase_0 11 rfl rfl)
theorem dX1_setPhase_14 : decode cX1_setPhase 14 = .ok (.ldc2_w 392, 3) := dk_20 1 136 (dk_at dksX1_setPhase_0 14 rfl rfl)
theorem dX1_setPhase_17 : decode cX1_setPhase 17 = .ok (.goto 6, 3) := dk_167 0 6 (dk_at dksX1_setPhase_0 17 rfl rfl)
theorem dX1_setPhase_20 : decode cX1_setPhase 20 = .ok (.ldc2_w 383, 3) := dk_20 1 127 (dk_at dksX1_setPhase_0 20 rfl rfl)
theorem dX1_setPhase_23 : decode cX1_setPhase 23 = .ok (.invokestatic 147, 3) := dk_184 0 147 (dk_at dksX1_setPhase_1 0 rfl rfl)
theorem dX1_setPhase_26 : decode cX1_setPhase 26 = .ok (.invokestatic 151, 3) := dk_184 0 151 (dk_at dksX1_setPhase_1 3 rfl rfl)
theorem dX1_setPhase_29 : decode cX1_setPhase 29 = .ok (.aload_n 0, 1) := dk_42 (dk_at dksX1_setPhase_1 6 rfl rfl)
theorem dX1_setPhase_30 : decode cX1_setPhase 30 = .ok (.iload_n 1, 1) := dk_27 (dk_at dksX1_setPhase_1 7 rfl rfl)
theorem dX1_setPhase_31 : decode cX1_setPhase 31 = .ok (.iload_n 2, 1) := dk_28 (dk_at dksX1_setPhase_1 8 rfl rfl)
theorem dX1_setPhase_32 : decode cX1_setPhase 32 = .ok (.iload_n 3, 1) := dk_29 (dk_at dksX1_setPhase_1 9 rfl rfl)
theorem dX1_setPhase_33 : decode cX1_setPhase 33 = .ok (.invokedynamic 404, 5) := by decide +kernel
theorem dX1_setPhase_38 : decode cX1_setPhase 38 = .ok (.invokevirtual 388, 3) := dk_182 1 132 (dk_at dksX1_setPhase_1 15 rfl rfl)
theorem dX1_setPhase_41 : decode cX1_setPhase 41 = .ok (.ireturn, 1) := dk_172 (dk_at dksX1_setPhase_1 18 rfl rfl)
abbrev cX1_lambda_setPhase_37 : ByteArray := prog_1_method_57_code
def yX1_lambda_setPhase_37 : MethodName := ⟨RX1, "lambda$setPhase$37", "(IZILLoopSignals$Junction;)I"⟩
def dkwX1_lambda_setPhase_37_0 : List UInt8 := [45, 26, 27, 28, 182, 1, 177, 172]
abbrev dktX1_lambda_setPhase_37_0 : List UInt8 := dkwX1_lambda_setPhase_37_0 ++ []
theorem dksX1_lambda_setPhase_37_0 : cX1_lambda_setPhase_37.data.toList.drop 0 = dktX1_lambda_setPhase_37_0 := by decide +kernel
theorem dX1_lambda_setPhase_37_0 : decode cX1_lambda_setPhase_37 0 = .ok (.aload_n 3, 1) := dk_45 (dk_at dksX1_lambda_setPhase_37_0 0 rfl rfl)
theorem dX1_lambda_setPhase_37_1 : decode cX1_lambda_setPhase_37 1 = .ok (.iload_n 0, 1) := dk_26 (dk_at dksX1_lambda_setPhase_37_0 1 rfl rfl)
theorem dX1_lambda_setPhase_37_2 : decode cX1_lambda_setPhase_37 2 = .ok (.iload_n 1, 1) := dk_27 (dk_at dksX1_lambda_setPhase_37_0 2 rfl rfl)
theorem dX1_lambda_setPhase_37_3 : decode cX1_lambda_setPhase_37 3 = .ok (.iload_n 2, 1) := dk_28 (dk_at dksX1_lambda_setPhase_37_0 3 rfl rfl)
theorem dX1_lambda_setPhase_37_4 : decode cX1_lambda_setPhase_37 4 = .ok (.invokevirtual 433, 3) := dk_182 1 177 (dk_at dksX1_lambda_setPhase_37_0 4 rfl rfl)
theorem dX1_lambda_setPhase_37_7 : decode cX1_lambda_setPhase_37 7 = .ok (.ireturn, 1) := dk_172 (dk_at dksX1_lambda_setPhase_37_0 7 rfl rfl)
abbrev cX1_set : ByteArray := prog_1_method_48_code
def yX1_set : MethodName := ⟨RX1, "set", "(II)I"⟩
def dkwX1_set_2 : List UInt8 := [167, 0, 6, 20, 1, 108, 184, 0, 147, 184, 0, 151, 42, 27, 28, 186, 1, 159, 0, 0, 182, 1, 132, 172]
abbrev dktX1_set_2 : List UInt8 := dkwX1_set_2 ++ []
def dkwX1_set_1 : List UInt8 := [167, 0, 4, 9, 27, 6, 160, 0, 9, 20, 1, 155, 167, 0, 17, 27, 7, 160, 0, 9, 20, 1, 157]
abbrev dktX1_set_1 : List UInt8 := dkwX1_set_1 ++ dktX1_set_2
def dkwX1_set_0 : List UInt8 := [27, 133, 20, 1, 151, 20, 1, 153, 184, 0, 147, 184, 0, 151, 28, 133, 27, 6, 160, 0, 7, 10]
abbrev dktX1_set_0 : List UInt8 := dkwX1_set_0 ++ dktX1_set_1
theorem dksX1_set_0 : cX1_set.data.toList.drop 0 = dktX1_set_0 := by decide +kernel
theorem dksX1_set_1 : cX1_set.data.toList.drop 22 = dktX1_set_1 := dk_seg dksX1_set_0 22 rfl rfl
theorem dksX1_set_2 : cX1_set.data.toList.drop 45 = dktX1_set_2 := dk_seg dksX1_set_1 23 rfl rfl
theorem dX1_set_0 : decode cX1_set 0 = .ok (.iload_n 1, 1) := dk_27 (dk_at dksX1_set_0 0 rfl rfl)
theorem dX1_set_1 : decode cX1_set 1 = .ok (.i2l, 1) := dk_133 (dk_at dksX1_set_0 1 rfl rfl)
theorem dX1_set_2 : decode cX1_set 2 = .ok (.ldc2_w 407, 3) := dk_20 1 151 (dk_at dksX1_set_0 2 rfl rfl)
theorem dX1_set_5 : decode cX1_set 5 = .ok (.ldc2_w 409, 3) := dk_20 1 153 (dk_at dksX1_set_0 5 rfl rfl)
theorem dX1_set_8 : decode cX1_set 8 = .ok (.invokestatic 147, 3) := dk_184 0 147 (dk_at dksX1_set_0 8 rfl rfl)
theorem dX1_set_11 : decode cX1_set 11 = .ok (.invokestatic 151, 3) := dk_184 0 151 (dk_at dksX1_set_0 11 rfl rfl)
theorem dX1_set_14 : decode cX1_set 14 = .ok (.iload_n 2, 1) := dk_28 (dk_at dksX1_set_0 14 rfl rfl)
theorem dX1_set_15 : decode cX1_set 15 = .ok (.i2l, 1) := dk_133 (dk_at dksX1_set_0 15 rfl rfl)
theorem dX1_set_16 : decode cX1_set 16 = .ok (.iload_n 1, 1) := dk_27 (dk_at dksX1_set_0 16 rfl rfl)
theorem dX1_set_17 : decode cX1_set 17 = .ok (.iconst 3, 1) := dk_6 (dk_at dksX1_set_0 17 rfl rfl)
theorem dX1_set_18 : decode cX1_set 18 = .ok (.if_icmp .ne 7, 3) := dk_160 0 7 (dk_at dksX1_set_0 18 rfl rfl)
theorem dX1_set_21 : decode cX1_set 21 = .ok (.lconst 1, 1) := dk_10 (dk_at dksX1_set_0 21 rfl rfl)
theorem dX1_set_22 : decode cX1_set 22 = .ok (.goto 4, 3) := dk_167 0 4 (dk_at dksX1_set_1 0 rfl rfl)
theorem dX1_set_25 : decode cX1_set 25 = .ok (.lconst 0, 1) := dk_9 (dk_at dksX1_set_1 3 rfl rfl)
theorem dX1_set_26 : decode cX1_set 26 = .ok (.iload_n 1, 1) := dk_27 (dk_at dksX1_set_1 4 rfl rfl)
theorem dX1_set_27 : decode cX1_set 27 = .ok (.iconst 3, 1) := dk_6 (dk_at dksX1_set_1 5 rfl rfl)
theorem dX1_set_28 : decode cX1_set 28 = .ok (.if_icmp .ne 9, 3) := dk_160 0 9 (dk_at dksX1_set_1 6 rfl rfl)
theorem dX1_set_31 : decode cX1_set 31 = .ok (.ldc2_w 411, 3) := dk_20 1 155 (dk_at dksX1_set_1 9 rfl rfl)
theorem dX1_set_34 : decode cX1_set 34 = .ok (.goto 17, 3) := dk_167 0 17 (dk_at dksX1_set_1 12 rfl rfl)
theorem dX1_set_37 : decode cX1_set 37 = .ok (.iload_n 1, 1) := dk_27 (dk_at dksX1_set_1 15 rfl rfl)
theorem dX1_set_38 : decode cX1_set 38 = .ok (.iconst 4, 1) := dk_7 (dk_at dksX1_set_1 16 rfl rfl)
theorem dX1_set_39 : decode cX1_set 39 = .ok (.if_icmp .ne 9, 3) := dk_160 0 9 (dk_at dksX1_set_1 17 rfl rfl)
theorem dX1_set_42 : decode cX1_set 42 = .ok (.ldc2_w 413, 3) := dk_20 1 157 (dk_at dksX1_set_1 20 rfl rfl)
theorem dX1_set_45 : decode cX1_set 45 = .ok (.goto 6, 3) := dk_167 0 6 (dk_at dksX1_set_2 0 rfl rfl)
theorem dX1_set_48 : decode cX1_set 48 = .ok (.ldc2_w 364, 3) := dk_20 1 108 (dk_at dksX1_set_2 3 rfl rfl)
theorem dX1_set_51 : decode cX1_set 51 = .ok (.invokestatic 147, 3) := dk_184 0 147 (dk_at dksX1_set_2 6 rfl rfl)
theorem dX1_set_54 : decode cX1_set 54 = .ok (.invokestatic 151, 3) := dk_184 0 151 (dk_at dksX1_set_2 9 rfl rfl)
theorem dX1_set_57 : decode cX1_set 57 = .ok (.aload_n 0, 1) := dk_42 (dk_at dksX1_set_2 12 rfl rfl)
theorem dX1_set_58 : decode cX1_set 58 = .ok (.iload_n 1, 1) := dk_27 (dk_at dksX1_set_2 13 rfl rfl)
theorem dX1_set_59 : decode cX1_set 59 = .ok (.iload_n 2, 1) := dk_28 (dk_at dksX1_set_2 14 rfl rfl)
theorem dX1_set_60 : decode cX1_set 60 = .ok (.invokedynamic 415, 5) := by decide +kernel
theorem dX1_set_65 : decode cX1_set 65 = .ok (.invokevirtual 388, 3) := dk_182 1 132 (dk_at dksX1_set_2 20 rfl rfl)
theorem dX1_set_68 : decode cX1_set 68 = .ok (.ireturn, 1) := dk_172 (dk_at dksX1_set_2 23 rfl rfl)
abbrev cX1_lambda_set_38 : ByteArray := prog_1_method_56_code
def yX1_lambda_set_38 : MethodName := ⟨RX1, "lambda$set$38", "(IILLoopSignals$Junction;)I"⟩
def dkwX1_lambda_set_38_0 : List UInt8 := [44, 26, 6, 100, 27, 182, 1, 100, 172]
abbrev dktX1_lambda_set_38_0 : List UInt8 := dkwX1_lambda_set_38_0 ++ []
theorem dksX1_lambda_set_38_0 : cX1_lambda_set_38.data.toList.drop 0 = dktX1_lambda_set_38_0 := by decide +kernel
theorem dX1_lambda_set_38_0 : decode cX1_lambda_set_38 0 = .ok (.aload_n 2, 1) := dk_44 (dk_at dksX1_lambda_set_38_0 0 rfl rfl)
theorem dX1_lambda_set_38_1 : decode cX1_lambda_set_38 1 = .ok (.iload_n 0, 1) := dk_26 (dk_at dksX1_lambda_set_38_0 1 rfl rfl)
theorem dX1_lambda_set_38_2 : decode cX1_lambda_set_38 2 = .ok (.iconst 3, 1) := dk_6 (dk_at dksX1_lambda_set_38_0 2 rfl rfl)
theorem dX1_lambda_set_38_3 : decode cX1_lambda_set_38 3 = .ok (.isub, 1) := dk_100 (dk_at dksX1_lambda_set_38_0 3 rfl rfl)
theorem dX1_lambda_set_38_4 : decode cX1_lambda_set_38 4 = .ok (.iload_n 1, 1) := dk_27 (dk_at dksX1_lambda_set_38_0 4 rfl rfl)
theorem dX1_lambda_set_38_5 : decode cX1_lambda_set_38 5 = .ok (.invokevirtual 356, 3) := dk_182 1 100 (dk_at dksX1_lambda_set_38_0 5 rfl rfl)
theorem dX1_lambda_set_38_8 : decode cX1_lambda_set_38 8 = .ok (.ireturn, 1) := dk_172 (dk_at dksX1_lambda_set_38_0 8 rfl rfl)
abbrev cX1_save : ByteArray := prog_1_method_54_code
def yX1_save : MethodName := ⟨RX1, "save", "(I)I"⟩
def dkwX1_save_1 : List UInt8 := [172]
abbrev dktX1_save_1 : List UInt8 := dkwX1_save_1 ++ []
def dkwX1_save_0 : List UInt8 := [27, 184, 1, 171, 42, 180, 0, 18, 27, 42, 180, 0, 37, 182, 0, 123, 83, 42, 180, 0, 37, 180, 1, 79]
abbrev dktX1_save_0 : List UInt8 := dkwX1_save_0 ++ dktX1_save_1
theorem dksX1_save_0 : cX1_save.data.toList.drop 0 = dktX1_save_0 := by decide +kernel
theorem dksX1_save_1 : cX1_save.data.toList.drop 24 = dktX1_save_1 := dk_seg dksX1_save_0 24 rfl rfl
theorem dX1_save_0 : decode cX1_save 0 = .ok (.iload_n 1, 1) := dk_27 (dk_at dksX1_save_0 0 rfl rfl)
theorem dX1_save_1 : decode cX1_save 1 = .ok (.invokestatic 427, 3) := dk_184 1 171 (dk_at dksX1_save_0 1 rfl rfl)
theorem dX1_save_4 : decode cX1_save 4 = .ok (.aload_n 0, 1) := dk_42 (dk_at dksX1_save_0 4 rfl rfl)
theorem dX1_save_5 : decode cX1_save 5 = .ok (.getfield 18, 3) := dk_180 0 18 (dk_at dksX1_save_0 5 rfl rfl)
theorem dX1_save_8 : decode cX1_save 8 = .ok (.iload_n 1, 1) := dk_27 (dk_at dksX1_save_0 8 rfl rfl)
theorem dX1_save_9 : decode cX1_save 9 = .ok (.aload_n 0, 1) := dk_42 (dk_at dksX1_save_0 9 rfl rfl)
theorem dX1_save_10 : decode cX1_save 10 = .ok (.getfield 37, 3) := dk_180 0 37 (dk_at dksX1_save_0 10 rfl rfl)
theorem dX1_save_13 : decode cX1_save 13 = .ok (.invokevirtual 123, 3) := dk_182 0 123 (dk_at dksX1_save_0 13 rfl rfl)
theorem dX1_save_16 : decode cX1_save 16 = .ok (.aastore, 1) := dk_83 (dk_at dksX1_save_0 16 rfl rfl)
theorem dX1_save_17 : decode cX1_save 17 = .ok (.aload_n 0, 1) := dk_42 (dk_at dksX1_save_0 17 rfl rfl)
theorem dX1_save_18 : decode cX1_save 18 = .ok (.getfield 37, 3) := dk_180 0 37 (dk_at dksX1_save_0 18 rfl rfl)
theorem dX1_save_21 : decode cX1_save 21 = .ok (.getfield 335, 3) := dk_180 1 79 (dk_at dksX1_save_0 21 rfl rfl)
theorem dX1_save_24 : decode cX1_save 24 = .ok (.ireturn, 1) := dk_172 (dk_at dksX1_save_1 0 rfl rfl)
abbrev cX1_slot : ByteArray := prog_1_method_53_code
def yX1_slot : MethodName := ⟨RX1, "slot", "(I)V"⟩
def dkwX1_slot_0 : List UInt8 := [26, 133, 9, 10, 184, 0, 147, 184, 0, 151, 177]
abbrev dktX1_slot_0 : List UInt8 := dkwX1_slot_0 ++ []
theorem dksX1_slot_0 : cX1_slot.data.toList.drop 0 = dktX1_slot_0 := by decide +kernel
theorem dX1_slot_0 : decode cX1_slot 0 = .ok (.iload_n 0, 1) := dk_26 (dk_at dksX1_slot_0 0 rfl rfl)
theorem dX1_slot_1 : decode cX1_slot 1 = .ok (.i2l, 1) := dk_133 (dk_at dksX1_slot_0 1 rfl rfl)
theorem dX1_slot_2 : decode cX1_slot 2 = .ok (.lconst 0, 1) := dk_9 (dk_at dksX1_slot_0 2 rfl rfl)
theorem dX1_slot_3 : decode cX1_slot 3 = .ok (.lconst 1, 1) := dk_10 (dk_at dksX1_slot_0 3 rfl rfl)
theorem dX1_slot_4 : decode cX1_slot 4 = .ok (.invokestatic 147, 3) := dk_184 0 147 (dk_at dksX1_slot_0 4 rfl rfl)
theorem dX1_slot_7 : decode cX1_slot 7 = .ok (.invokestatic 151, 3) := dk_184 0 151 (dk_at dksX1_slot_0 7 rfl rfl)
theorem dX1_slot_10 : decode cX1_slot 10 = .ok (.return_, 1) := dk_177 (dk_at dksX1_slot_0 10 rfl rfl)
abbrev cX1_restore : ByteArray := prog_1_method_55_code
def yX1_restore : MethodName := ⟨RX1, "restore", "(I)I"⟩
def dkwX1_restore_2 : List UInt8 := [180, 1, 79, 172]
abbrev dktX1_restore_2 : List UInt8 := dkwX1_restore_2 ++ []
def dkwX1_restore_1 : List UInt8 := [180, 0, 18, 27, 50, 182, 0, 123, 181, 0, 37, 42, 180, 0, 10, 182, 0, 211, 42, 180, 0, 37]
abbrev dktX1_restore_1 : List UInt8 := dkwX1_restore_1 ++ dktX1_restore_2
def dkwX1_restore_0 : List UInt8 := [27, 184, 1, 171, 42, 180, 0, 18, 27, 50, 198, 0, 7, 4, 167, 0, 4, 3, 184, 1, 174, 42, 42]
abbrev dktX1_restore_0 : List UInt8 := dkwX1_restore_0 ++ dktX1_restore_1
theorem dksX1_restore_0 : cX1_restore.data.toList.drop 0 = dktX1_restore_0 := by decide +kernel
theorem dksX1_restore_1 : cX1_restore.data.toList.drop 23 = dktX1_restore_1 := dk_seg dksX1_restore_0 23 rfl rfl
theorem dksX1_restore_2 : cX1_restore.data.toList.drop 45 = dktX1_restore_2 := dk_seg dksX1_restore_1 22 rfl rfl
theorem dX1_restore_0 : decode cX1_restore 0 = .ok (.iload_n 1, 1) := dk_27 (dk_at dksX1_restore_0 0 rfl rfl)
theorem dX1_restore_1 : decode cX1_restore 1 = .ok (.invokestatic 427, 3) := dk_184 1 171 (dk_at dksX1_restore_0 1 rfl rfl)
theorem dX1_restore_4 : decode cX1_restore 4 = .ok (.aload_n 0, 1) := dk_42 (dk_at dksX1_restore_0 4 rfl rfl)
theorem dX1_restore_5 : decode cX1_restore 5 = .ok (.getfield 18, 3) := dk_180 0 18 (dk_at dksX1_restore_0 5 rfl rfl)
theorem dX1_restore_8 : decode cX1_restore 8 = .ok (.iload_n 1, 1) := dk_27 (dk_at dksX1_restore_0 8 rfl rfl)
theorem dX1_restore_9 : decode cX1_restore 9 = .ok (.aaload, 1) := dk_50 (dk_at dksX1_restore_0 9 rfl rfl)
theorem dX1_restore_10 : decode cX1_restore 10 = .ok (.ifnull 7, 3) := dk_198 0 7 (dk_at dksX1_restore_0 10 rfl rfl)
theorem dX1_restore_13 : decode cX1_restore 13 = .ok (.iconst 1, 1) := dk_4 (dk_at dksX1_restore_0 13 rfl rfl)
theorem dX1_restore_14 : decode cX1_restore 14 = .ok (.goto 4, 3) := dk_167 0 4 (dk_at dksX1_restore_0 14 rfl rfl)
theorem dX1_restore_17 : decode cX1_restore 17 = .ok (.iconst 0, 1) := dk_3 (dk_at dksX1_restore_0 17 rfl rfl)
theorem dX1_restore_18 : decode cX1_restore 18 = .ok (.invokestatic 430, 3) := dk_184 1 174 (dk_at dksX1_restore_0 18 rfl rfl)
theorem dX1_restore_21 : decode cX1_restore 21 = .ok (.aload_n 0, 1) := dk_42 (dk_at dksX1_restore_0 21 rfl rfl)
theorem dX1_restore_22 : decode cX1_restore 22 = .ok (.aload_n 0, 1) := dk_42 (dk_at dksX1_restore_0 22 rfl rfl)
theorem dX1_restore_23 : decode cX1_restore 23 = .ok (.getfield 18, 3) := dk_180 0 18 (dk_at dksX1_restore_1 0 rfl rfl)
theorem dX1_restore_26 : decode cX1_restore 26 = .ok (.iload_n 1, 1) := dk_27 (dk_at dksX1_restore_1 3 rfl rfl)
theorem dX1_restore_27 : decode cX1_restore 27 = .ok (.aaload, 1) := dk_50 (dk_at dksX1_restore_1 4 rfl rfl)
theorem dX1_restore_28 : decode cX1_restore 28 = .ok (.invokevirtual 123, 3) := dk_182 0 123 (dk_at dksX1_restore_1 5 rfl rfl)
theorem dX1_restore_31 : decode cX1_restore 31 = .ok (.putfield 37, 3) := dk_181 0 37 (dk_at dksX1_restore_1 8 rfl rfl)
theorem dX1_restore_34 : decode cX1_restore 34 = .ok (.aload_n 0, 1) := dk_42 (dk_at dksX1_restore_1 11 rfl rfl)
theorem dX1_restore_35 : decode cX1_restore 35 = .ok (.getfield 10, 3) := dk_180 0 10 (dk_at dksX1_restore_1 12 rfl rfl)
theorem dX1_restore_38 : decode cX1_restore 38 = .ok (.invokevirtual 211, 3) := dk_182 0 211 (dk_at dksX1_restore_1 15 rfl rfl)
theorem dX1_restore_41 : decode cX1_restore 41 = .ok (.aload_n 0, 1) := dk_42 (dk_at dksX1_restore_1 18 rfl rfl)
theorem dX1_restore_42 : decode cX1_restore 42 = .ok (.getfield 37, 3) := dk_180 0 37 (dk_at dksX1_restore_1 19 rfl rfl)
theorem dX1_restore_45 : decode cX1_restore 45 = .ok (.getfield 335, 3) := dk_180 1 79 (dk_at dksX1_restore_2 0 rfl rfl)
theorem dX1_restore_48 : decode cX1_restore 48 = .ok (.ireturn, 1) := dk_172 (dk_at dksX1_restore_2 3 rfl rfl)
abbrev cX1_element : ByteArray := prog_1_method_10_code
def yX1_element : MethodName := ⟨RX1, "element", "(Z)V"⟩
def dkwX1_element_0 : List UInt8 := [26, 154, 0, 11, 187, 0, 144, 89, 183, 0, 146, 191, 177]
abbrev dktX1_element_0 : List UInt8 := dkwX1_element_0 ++ []
theorem dksX1_element_0 : cX1_element.data.toList.drop 0 = dktX1_element_0 := by decide +kernel
theorem dX1_element_0 : decode cX1_element 0 = .ok (.iload_n 0, 1) := dk_26 (dk_at dksX1_element_0 0 rfl rfl)
theorem dX1_element_1 : decode cX1_element 1 = .ok (.ifCond .ne 11, 3) := dk_154 0 11 (dk_at dksX1_element_0 1 rfl rfl)
theorem dX1_element_4 : decode cX1_element 4 = .ok (.new 144, 3) := dk_187 0 144 (dk_at dksX1_element_0 4 rfl rfl)
theorem dX1_element_7 : decode cX1_element 7 = .ok (.dup, 1) := dk_89 (dk_at dksX1_element_0 7 rfl rfl)
theorem dX1_element_8 : decode cX1_element 8 = .ok (.invokespecial 146, 3) := dk_183 0 146 (dk_at dksX1_element_0 8 rfl rfl)
theorem dX1_element_11 : decode cX1_element 11 = .ok (.athrow, 1) := dk_191 (dk_at dksX1_element_0 11 rfl rfl)
theorem dX1_element_12 : decode cX1_element 12 = .ok (.return_, 1) := dk_177 (dk_at dksX1_element_0 12 rfl rfl)
theorem q149 : (Jvm.Cond.initialized "LoopSignals") ∈ lw_all := lw_g (lw_at lw_m1 1 rfl) rfl
theorem q214 : (Jvm.Cond.instantiable "LoopSignals" (9 : Nat)) ∈ lw_all := lw_g (lw_at lw_m1 66 rfl) rfl
theorem q216 : (Jvm.Cond.instanceMethod ({ cls := "LoopSignals", name := "<init>", desc := "()V" } : Jvm.MethodName)) ∈ lw_all := lw_g (lw_at lw_m1 68 rfl) rfl
theorem q217 : (Jvm.Cond.code ({ cls := "LoopSignals", name := "<init>", desc := "()V" } : Jvm.MethodName) prog_1_method_3_code (5 : Nat) (Option.none : Option Jvm.ClassFile.FieldType)) ∈ lw_all := lw_g (lw_at lw_m1 69 rfl) rfl
theorem q218 : (Jvm.Cond.methodLink "LoopSignals" (1 : Nat) ({ cls := "java/lang/Object", name := "<init>", desc := "()V" } : Jvm.MethodName)) ∈ lw_all := lw_g (lw_at lw_m1 70 rfl) rfl
theorem q221 : (Jvm.Cond.classLink "LoopSignals" (7 : Nat) "java/util/ArrayDeque") ∈ lw_all := lw_g (lw_at lw_m1 73 rfl) rfl
theorem q223 : (Jvm.Cond.methodLink "LoopSignals" (9 : Nat) ({ cls := "java/util/ArrayDeque", name := "<init>", desc := "()V" } : Jvm.MethodName)) ∈ lw_all := lw_g (lw_at lw_m1 75 rfl) rfl
theorem q242 : (Jvm.Cond.classLink "LoopSignals" (16 : Nat) "LoopSignals$Junction") ∈ lw_all := lw_g (lw_at lw_m1 94 rfl) rfl
theorem q244 : (Jvm.Cond.stringRef "LoopSignals" (30 : Nat) "") ∈ lw_tbl := lw_at lw_m1 96 rfl
theorem q246 : (Jvm.Cond.methodLinkNest "LoopSignals" (36 : Nat) ({ cls := "LoopSignals$Junction", name := "<init>", desc := "()V" } : Jvm.MethodName) "LoopSignals") ∈ lw_tbl := lw_at lw_m1 98 rfl
theorem q1008 : (Jvm.Cond.selects "LoopSignals" ({ cls := "java/lang/Object", name := "toString", desc := "()Ljava/lang/String;" } : Jvm.MethodName) ({ cls := "java/lang/Object", name := "toString", desc := "()Ljava/lang/String;" } : Jvm.MethodName)) ∈ lw_all := lw_g (lw_at lw_m4 140 rfl) rfl
theorem q1027 : (Jvm.Cond.selects "LoopSignals" ({ cls := "java/lang/Object", name := "getClass", desc := "()Ljava/lang/Class;" } : Jvm.MethodName) ({ cls := "java/lang/Object", name := "getClass", desc := "()Ljava/lang/Class;" } : Jvm.MethodName)) ∈ lw_all := lw_g (lw_at lw_m4 159 rfl) rfl
theorem q1148 : (Jvm.Cond.fieldLinkNest "LoopSignals" (159 : Nat) "LoopSignals$Junction" "arms" "Ljava/util/List;" "LoopSignals") ∈ lw_tbl := lw_at lw_m5 40 rfl
theorem q1151 : (Jvm.Cond.fieldLinkNest "LoopSignals" (169 : Nat) "LoopSignals$Junction" "phases" "Ljava/util/List;" "LoopSignals") ∈ lw_tbl := lw_at lw_m5 43 rfl
theorem q1158 : (Jvm.Cond.fieldLinkNest "LoopSignals" (41 : Nat) "LoopSignals$Junction" "settings" "[I" "LoopSignals") ∈ lw_tbl := lw_at lw_m5 50 rfl
theorem q1160 : (Jvm.Cond.fieldLinkNest "LoopSignals" (329 : Nat) "LoopSignals$Junction" "accounts" "[I" "LoopSignals") ∈ lw_tbl := lw_at lw_m5 52 rfl
theorem q1162 : (Jvm.Cond.fieldLinkNest "LoopSignals" (335 : Nat) "LoopSignals$Junction" "tick" "I" "LoopSignals") ∈ lw_tbl := lw_at lw_m5 54 rfl
theorem q1164 : (Jvm.Cond.fieldLinkNest "LoopSignals" (507 : Nat) "LoopSignals$Junction" "on" "I" "LoopSignals") ∈ lw_tbl := lw_at lw_m5 56 rfl
theorem q1166 : (Jvm.Cond.fieldLinkNest "LoopSignals" (504 : Nat) "LoopSignals$Junction" "next" "I" "LoopSignals") ∈ lw_tbl := lw_at lw_m5 58 rfl
theorem q1168 : (Jvm.Cond.fieldLinkNest "LoopSignals" (501 : Nat) "LoopSignals$Junction" "mode" "I" "LoopSignals") ∈ lw_tbl := lw_at lw_m5 60 rfl
theorem q1170 : (Jvm.Cond.fieldLinkNest "LoopSignals" (498 : Nat) "LoopSignals$Junction" "age" "I" "LoopSignals") ∈ lw_tbl := lw_at lw_m5 62 rfl
theorem q1195 : (Jvm.Cond.classLink "LoopSignals" (45 : Nat) "java/lang/String") ∈ lw_all := lw_g (lw_at lw_m5 87 rfl) rfl
theorem q1197 : (Jvm.Cond.stringRef "LoopSignals" (47 : Nat) "north") ∈ lw_tbl := lw_at lw_m5 89 rfl
theorem q1198 : (Jvm.Cond.stringRef "LoopSignals" (49 : Nat) "south") ∈ lw_tbl := lw_at lw_m5 90 rfl
theorem q1199 : (Jvm.Cond.stringRef "LoopSignals" (51 : Nat) "east") ∈ lw_tbl := lw_at lw_m5 91 rfl
theorem q1200 : (Jvm.Cond.stringRef "LoopSignals" (53 : Nat) "west") ∈ lw_tbl := lw_at lw_m5 92 rfl
theorem q1201 : (Jvm.Cond.stringRef "LoopSignals" (55 : Nat) "turn") ∈ lw_tbl := lw_at lw_m5 93 rfl
theorem q1202 : (Jvm.Cond.classLink "LoopSignals" (57 : Nat) "LoopSignals$Arm") ∈ lw_all := lw_g (lw_at lw_m5 94 rfl) rfl
theorem q1204 : (Jvm.Cond.classLink "LoopSignals" (59 : Nat) "LoopSignals$Line") ∈ lw_all := lw_g (lw_at lw_m5 96 rfl) rfl
theorem q1206 : (Jvm.Cond.methodLinkNest "LoopSignals" (61 : Nat) ({ cls := "LoopSignals$Line", name := "<init>", desc := "()V" } : Jvm.MethodName) "LoopSignals") ∈ lw_tbl := lw_at lw_m5 98 rfl
theorem q1215 : (Jvm.Cond.fieldLinkNest "LoopSignals" (471 : Nat) "LoopSignals$Line" "many" "I" "LoopSignals") ∈ lw_tbl := lw_at lw_m5 107 rfl
theorem q1223 : (Jvm.Cond.methodLink "LoopSignals" (62 : Nat) ({ cls := "LoopSignals$Arm", name := "<init>", desc := "(Ljava/lang/String;LLoopSignals$Line;)V" } : Jvm.MethodName)) ∈ lw_all := lw_g (lw_at lw_m5 115 rfl) rfl
theorem q1229 : (Jvm.Cond.fieldLinkNest "LoopSignals" (297 : Nat) "LoopSignals$Arm" "name" "Ljava/lang/String;" "LoopSignals") ∈ lw_tbl := lw_at lw_m5 121 rfl
theorem q1232 : (Jvm.Cond.fieldLinkNest "LoopSignals" (290 : Nat) "LoopSignals$Arm" "line" "LLoopSignals$Line;" "LoopSignals") ∈ lw_tbl := lw_at lw_m5 124 rfl
theorem q1235 : (Jvm.Cond.fieldLinkNest "LoopSignals" (489 : Nat) "LoopSignals$Arm" "seen" "I" "LoopSignals") ∈ lw_tbl := lw_at lw_m5 127 rfl
theorem q1238 : (Jvm.Cond.fieldLinkNest "LoopSignals" (474 : Nat) "LoopSignals$Arm" "went" "I" "LoopSignals") ∈ lw_tbl := lw_at lw_m5 130 rfl
theorem q1241 : (Jvm.Cond.fieldLinkNest "LoopSignals" (338 : Nat) "LoopSignals$Arm" "greens" "I" "LoopSignals") ∈ lw_tbl := lw_at lw_m5 133 rfl
theorem q1244 : (Jvm.Cond.fieldLinkNest "LoopSignals" (486 : Nat) "LoopSignals$Arm" "isBroken" "Z" "LoopSignals") ∈ lw_tbl := lw_at lw_m5 136 rfl
theorem q1258 : (Jvm.Cond.methodLink "LoopSignals" (65 : Nat) ({ cls := "LoopSignals$Junction", name := "adds", desc := "(LLoopSignals$Arm;)V" } : Jvm.MethodName)) ∈ lw_all := lw_g (lw_at lw_m5 150 rfl) rfl
theorem q1305 : (Jvm.Cond.selects "LoopSignals" ({ cls := "java/lang/Object", name := "hashCode", desc := "()I" } : Jvm.MethodName) ({ cls := "java/lang/Object", name := "hashCode", desc := "()I" } : Jvm.MethodName)) ∈ lw_all := lw_g (lw_at lw_m5 197 rfl) rfl
theorem q1733 : (Jvm.Cond.selects "LoopSignals" ({ cls := "java/lang/Object", name := "equals", desc := "(Ljava/lang/Object;)Z" } : Jvm.MethodName) ({ cls := "java/lang/Object", name := "equals", desc := "(Ljava/lang/Object;)Z" } : Jvm.MethodName)) ∈ lw_all := lw_g (lw_at lw_m7 145 rfl) rfl
theorem q1886 : (Jvm.Cond.methodLink "LoopSignals" (69 : Nat) ({ cls := "LoopSignals", name := "clashes", desc := "([I)V" } : Jvm.MethodName)) ∈ lw_all := lw_g (lw_at lw_m8 58 rfl) rfl
theorem q1887 : (Jvm.Cond.privateMethod ({ cls := "LoopSignals", name := "clashes", desc := "([I)V" } : Jvm.MethodName)) ∈ lw_tbl := lw_at lw_m8 59 rfl
theorem q1888 : (Jvm.Cond.instanceMethod ({ cls := "LoopSignals", name := "clashes", desc := "([I)V" } : Jvm.MethodName)) ∈ lw_all := lw_g (lw_at lw_m8 60 rfl) rfl
theorem q1889 : (Jvm.Cond.code ({ cls := "LoopSignals", name := "clashes", desc := "([I)V" } : Jvm.MethodName) prog_1_method_4_code (3 : Nat) (Option.none : Option Jvm.ClassFile.FieldType)) ∈ lw_all := lw_g (lw_at lw_m8 61 rfl) rfl
theorem q1890 : (Jvm.Cond.classLink "LoopSignals" (77 : Nat) "LoopSignals$Couple") ∈ lw_all := lw_g (lw_at lw_m8 62 rfl) rfl
theorem q1892 : (Jvm.Cond.methodLink "LoopSignals" (79 : Nat) ({ cls := "LoopSignals$Couple", name := "<init>", desc := "(II)V" } : Jvm.MethodName)) ∈ lw_all := lw_g (lw_at lw_m8 64 rfl) rfl
theorem q1907 : (Jvm.Cond.methodLink "LoopSignals" (82 : Nat) ({ cls := "LoopSignals$Junction", name := "clash", desc := "(LLoopSignals$Couple;)V" } : Jvm.MethodName)) ∈ lw_all := lw_g (lw_at lw_m8 79 rfl) rfl
theorem q1920 : (Jvm.Cond.methodLink "LoopSignals" (73 : Nat) ({ cls := "LoopSignals", name := "phase", desc := "(II[I)V" } : Jvm.MethodName)) ∈ lw_all := lw_g (lw_at lw_m8 92 rfl) rfl
theorem q1921 : (Jvm.Cond.privateMethod ({ cls := "LoopSignals", name := "phase", desc := "(II[I)V" } : Jvm.MethodName)) ∈ lw_tbl := lw_at lw_m8 93 rfl
theorem q1922 : (Jvm.Cond.instanceMethod ({ cls := "LoopSignals", name := "phase", desc := "(II[I)V" } : Jvm.MethodName)) ∈ lw_all := lw_g (lw_at lw_m8 94 rfl) rfl
theorem q1923 : (Jvm.Cond.code ({ cls := "LoopSignals", name := "phase", desc := "(II[I)V" } : Jvm.MethodName) prog_1_method_5_code (9 : Nat) (Option.none : Option Jvm.ClassFile.FieldType)) ∈ lw_all := lw_g (lw_at lw_m8 95 rfl) rfl
theorem q1924 : (Jvm.Cond.classLink "LoopSignals" (86 : Nat) "LoopSignals$Phase") ∈ lw_all := lw_g (lw_at lw_m8 96 rfl) rfl
theorem q1926 : (Jvm.Cond.methodLinkNest "LoopSignals" (88 : Nat) ({ cls := "LoopSignals$Phase", name := "<init>", desc := "()V" } : Jvm.MethodName) "LoopSignals") ∈ lw_tbl := lw_at lw_m8 98 rfl
theorem q1955 : (Jvm.Cond.fieldLinkNest "LoopSignals" (95 : Nat) "LoopSignals$Phase" "arms" "Ljava/util/BitSet;" "LoopSignals") ∈ lw_tbl := lw_at lw_m8 127 rfl
theorem q1958 : (Jvm.Cond.fieldLinkNest "LoopSignals" (89 : Nat) "LoopSignals$Phase" "least" "I" "LoopSignals") ∈ lw_tbl := lw_at lw_m8 130 rfl
theorem q1962 : (Jvm.Cond.fieldLinkNest "LoopSignals" (92 : Nat) "LoopSignals$Phase" "most" "I" "LoopSignals") ∈ lw_tbl := lw_at lw_m8 134 rfl
theorem q1967 : (Jvm.Cond.fieldLinkNest "LoopSignals" (455 : Nat) "LoopSignals$Phase" "times" "I" "LoopSignals") ∈ lw_tbl := lw_at lw_m8 139 rfl
theorem q1970 : (Jvm.Cond.fieldLinkNest "LoopSignals" (464 : Nat) "LoopSignals$Phase" "isCalled" "Z" "LoopSignals") ∈ lw_tbl := lw_at lw_m8 142 rfl
theorem q1982 : (Jvm.Cond.methodLink "LoopSignals" (99 : Nat) ({ cls := "java/util/BitSet", name := "set", desc := "(I)V" } : Jvm.MethodName)) ∈ lw_all := lw_g (lw_at lw_m8 154 rfl) rfl
theorem q2009 : (Jvm.Cond.methodLink "LoopSignals" (105 : Nat) ({ cls := "LoopSignals$Junction", name := "adds", desc := "(LLoopSignals$Phase;)V" } : Jvm.MethodName)) ∈ lw_all := lw_g (lw_at lw_m8 181 rfl) rfl
theorem q2014 : (Jvm.Cond.fieldLink "LoopSignals" (37 : Nat) "LoopSignals" "now" "LLoopSignals$Junction;") ∈ lw_all := lw_g (lw_at lw_m8 186 rfl) rfl
theorem q2015 : (Jvm.Cond.fieldLink "LoopSignals" (10 : Nat) "LoopSignals" "past" "Ljava/util/ArrayDeque;") ∈ lw_all := lw_g (lw_at lw_m8 187 rfl) rfl
theorem q2016 : (Jvm.Cond.fieldLink "LoopSignals" (18 : Nat) "LoopSignals" "slots" "[LLoopSignals$Junction;") ∈ lw_all := lw_g (lw_at lw_m8 188 rfl) rfl
theorem q2017 : (Jvm.Cond.fieldLink "LoopSignals" (120 : Nat) "LoopSignals" "refusals" "I") ∈ lw_all := lw_g (lw_at lw_m8 189 rfl) rfl
theorem q2019 : (Jvm.Cond.fieldLink "LoopSignals" (22 : Nat) "LoopSignals" "buffer" "[B") ∈ lw_all := lw_g (lw_at lw_m8 191 rfl) rfl
theorem q2021 : (Jvm.Cond.fieldLink "LoopSignals" (177 : Nat) "LoopSignals" "length" "I") ∈ lw_all := lw_g (lw_at lw_m8 193 rfl) rfl
theorem q2022 : (Jvm.Cond.fieldLink "LoopSignals" (26 : Nat) "LoopSignals" "errorPosition" "I") ∈ lw_all := lw_g (lw_at lw_m8 194 rfl) rfl
theorem q2024 : (Jvm.Cond.fieldLink "LoopSignals" (220 : Nat) "LoopSignals" "done" "I") ∈ lw_all := lw_g (lw_at lw_m8 196 rfl) rfl
theorem q2025 : (Jvm.Cond.fieldLink "LoopSignals" (32 : Nat) "LoopSignals" "report" "Ljava/lang/String;") ∈ lw_all := lw_g (lw_at lw_m8 197 rfl) rfl
theorem q2026 : (Jvm.Cond.lays "LoopSignals" "LoopSignals" "now" "LLoopSignals$Junction;") ∈ lw_all := lw_g (lw_at lw_m8 198 rfl) rfl
theorem q2027 : (Jvm.Cond.soleField "LoopSignals" "now") ∈ lw_all := lw_g (lw_at lw_m8 199 rfl) rfl
theorem q2028 : (Jvm.Cond.laysFinal "LoopSignals" "LoopSignals" "past" "Ljava/util/ArrayDeque;") ∈ lw_all := lw_g (lw_at lw_m8 200 rfl) rfl
theorem q2029 : (Jvm.Cond.soleField "LoopSignals" "past") ∈ lw_all := lw_g (lw_at lw_m8 201 rfl) rfl
theorem q2030 : (Jvm.Cond.laysFinal "LoopSignals" "LoopSignals" "slots" "[LLoopSignals$Junction;") ∈ lw_all := lw_g (lw_at lw_m8 202 rfl) rfl
theorem q2031 : (Jvm.Cond.soleField "LoopSignals" "slots") ∈ lw_all := lw_g (lw_at lw_m8 203 rfl) rfl
theorem q2032 : (Jvm.Cond.lays "LoopSignals" "LoopSignals" "refusals" "I") ∈ lw_all := lw_g (lw_at lw_m8 204 rfl) rfl
theorem q2033 : (Jvm.Cond.soleField "LoopSignals" "refusals") ∈ lw_all := lw_g (lw_at lw_m8 205 rfl) rfl
theorem q2034 : (Jvm.Cond.laysFinal "LoopSignals" "LoopSignals" "buffer" "[B") ∈ lw_all := lw_g (lw_at lw_m8 206 rfl) rfl
theorem q2035 : (Jvm.Cond.soleField "LoopSignals" "buffer") ∈ lw_all := lw_g (lw_at lw_m8 207 rfl) rfl
theorem q2036 : (Jvm.Cond.lays "LoopSignals" "LoopSignals" "length" "I") ∈ lw_all := lw_g (lw_at lw_m8 208 rfl) rfl
theorem q2037 : (Jvm.Cond.soleField "LoopSignals" "length") ∈ lw_all := lw_g (lw_at lw_m8 209 rfl) rfl
theorem q2038 : (Jvm.Cond.lays "LoopSignals" "LoopSignals" "errorPosition" "I") ∈ lw_all := lw_g (lw_at lw_m8 210 rfl) rfl
theorem q2039 : (Jvm.Cond.soleField "LoopSignals" "errorPosition") ∈ lw_all := lw_g (lw_at lw_m8 211 rfl) rfl
theorem q2040 : (Jvm.Cond.lays "LoopSignals" "LoopSignals" "done" "I") ∈ lw_all := lw_g (lw_at lw_m8 212 rfl) rfl
theorem q2041 : (Jvm.Cond.soleField "LoopSignals" "done") ∈ lw_all := lw_g (lw_at lw_m8 213 rfl) rfl
theorem q2042 : (Jvm.Cond.lays "LoopSignals" "LoopSignals" "report" "Ljava/lang/String;") ∈ lw_all := lw_g (lw_at lw_m8 214 rfl) rfl
theorem q2043 : (Jvm.Cond.soleField "LoopSignals" "report") ∈ lw_all := lw_g (lw_at lw_m8 215 rfl) rfl
theorem q2044 : (Jvm.Cond.superclass "LoopSignals" "java/lang/Object") ∈ lw_all := lw_g (lw_at lw_m8 216 rfl) rfl
theorem q2046 : (Jvm.Cond.instanceMethod ({ cls := "LoopSignals", name := "feed", desc := "(IIIII)I" } : Jvm.MethodName)) ∈ lw_all := lw_g (lw_at lw_m8 218 rfl) rfl
theorem q2047 : (Jvm.Cond.selects "LoopSignals" ({ cls := "LoopSignals", name := "feed", desc := "(IIIII)I" } : Jvm.MethodName) ({ cls := "LoopSignals", name := "feed", desc := "(IIIII)I" } : Jvm.MethodName)) ∈ lw_all := lw_g (lw_at lw_m8 219 rfl) rfl
theorem q2048 : (Jvm.Cond.code ({ cls := "LoopSignals", name := "feed", desc := "(IIIII)I" } : Jvm.MethodName) prog_1_method_15_code (6 : Nat) (Option.some Jvm.ClassFile.FieldType.int)) ∈ lw_all := lw_g (lw_at lw_m8 220 rfl) rfl
theorem q2049 : (Jvm.Cond.methodLink "LoopSignals" (180 : Nat) ({ cls := "LoopSignals", name := "bytesIn", desc := "([I)I" } : Jvm.MethodName)) ∈ lw_all := lw_g (lw_at lw_m8 221 rfl) rfl
theorem q2050 : (Jvm.Cond.static ({ cls := "LoopSignals", name := "bytesIn", desc := "([I)I" } : Jvm.MethodName)) ∈ lw_all := lw_g (lw_at lw_m8 222 rfl) rfl
theorem q2051 : (Jvm.Cond.code ({ cls := "LoopSignals", name := "bytesIn", desc := "([I)I" } : Jvm.MethodName) prog_1_method_16_code (7 : Nat) (Option.some Jvm.ClassFile.FieldType.int)) ∈ lw_all := lw_g (lw_at lw_m8 223 rfl) rfl
theorem q2052 : (Jvm.Cond.methodLink "LoopSignals" (187 : Nat) ({ cls := "LoopSignals", name := "one", desc := "(Z)I" } : Jvm.MethodName)) ∈ lw_all := lw_g (lw_at lw_m8 224 rfl) rfl
theorem q2053 : (Jvm.Cond.static ({ cls := "LoopSignals", name := "one", desc := "(Z)I" } : Jvm.MethodName)) ∈ lw_all := lw_g (lw_at lw_m8 225 rfl) rfl
theorem q2054 : (Jvm.Cond.code ({ cls := "LoopSignals", name := "one", desc := "(Z)I" } : Jvm.MethodName) prog_1_method_2_code (1 : Nat) (Option.some Jvm.ClassFile.FieldType.int)) ∈ lw_all := lw_g (lw_at lw_m8 226 rfl) rfl
theorem q2055 : (Jvm.Cond.methodLink "LoopSignals" (184 : Nat) ({ cls := "LoopSignals", name := "puts", desc := "([I)V" } : Jvm.MethodName)) ∈ lw_all := lw_g (lw_at lw_m8 227 rfl) rfl
theorem q2056 : (Jvm.Cond.privateMethod ({ cls := "LoopSignals", name := "puts", desc := "([I)V" } : Jvm.MethodName)) ∈ lw_tbl := lw_at lw_m8 228 rfl
theorem q2057 : (Jvm.Cond.instanceMethod ({ cls := "LoopSignals", name := "puts", desc := "([I)V" } : Jvm.MethodName)) ∈ lw_all := lw_g (lw_at lw_m8 229 rfl) rfl
theorem q2058 : (Jvm.Cond.code ({ cls := "LoopSignals", name := "puts", desc := "([I)V" } : Jvm.MethodName) prog_1_method_17_code (8 : Nat) (Option.none : Option Jvm.ClassFile.FieldType)) ∈ lw_all := lw_g (lw_at lw_m8 230 rfl) rfl
theorem q2060 : (Jvm.Cond.instanceMethod ({ cls := "LoopSignals", name := "load", desc := "()I" } : Jvm.MethodName)) ∈ lw_all := lw_g (lw_at lw_m8 232 rfl) rfl
theorem q2061 : (Jvm.Cond.selects "LoopSignals" ({ cls := "LoopSignals", name := "load", desc := "()I" } : Jvm.MethodName) ({ cls := "LoopSignals", name := "load", desc := "()I" } : Jvm.MethodName)) ∈ lw_all := lw_g (lw_at lw_m8 233 rfl) rfl
theorem q2062 : (Jvm.Cond.codeWith ({ cls := "LoopSignals", name := "load", desc := "()I" } : Jvm.MethodName) prog_1_method_19_code (4 : Nat) (Option.some Jvm.ClassFile.FieldType.int) [((5 : Nat), (20 : Nat), (28 : Nat), (192 : Nat)), ((5 : Nat), (20 : Nat), (42 : Nat), (0 : Nat)), ((28 : Nat), (35 : Nat), (42 : Nat), (0 : Nat))]) ∈ lw_all := lw_g (lw_at lw_m8 234 rfl) rfl
theorem q2063 : (Jvm.Cond.classLink "LoopSignals" (192 : Nat) "LoopSignals$Unreadable") ∈ lw_all := lw_g (lw_at lw_m8 235 rfl) rfl
theorem q2064 : (Jvm.Cond.classLink "LoopSignals" (199 : Nat) "LoopSignals$SetupReader") ∈ lw_all := lw_g (lw_at lw_m8 236 rfl) rfl
theorem q2066 : (Jvm.Cond.methodLinkNest "LoopSignals" (201 : Nat) ({ cls := "LoopSignals$SetupReader", name := "<init>", desc := "(LLoopSignals;)V" } : Jvm.MethodName) "LoopSignals") ∈ lw_tbl := lw_at lw_m8 238 rfl
theorem q2090 : (Jvm.Cond.static ({ cls := "LoopSignals", name := "in", desc := "(JJJ)Z" } : Jvm.MethodName)) ∈ lw_all := lw_g (lw_at lw_m9 22 rfl) rfl
theorem q2091 : (Jvm.Cond.code ({ cls := "LoopSignals", name := "in", desc := "(JJJ)Z" } : Jvm.MethodName) prog_1_method_1_code (6 : Nat) (Option.some Jvm.ClassFile.FieldType.boolean)) ∈ lw_all := lw_g (lw_at lw_m9 23 rfl) rfl
theorem q2138 : (Jvm.Cond.methodLink "LoopSignals" (204 : Nat) ({ cls := "LoopSignals$SetupReader", name := "reads", desc := "()LLoopSignals$Junction;" } : Jvm.MethodName)) ∈ lw_all := lw_g (lw_at lw_m9 70 rfl) rfl
theorem q2175 : (Jvm.Cond.fieldLinkNest "LoopSignals" (196 : Nat) "LoopSignals$Unreadable" "code" "I" "LoopSignals") ∈ lw_tbl := lw_at lw_m9 107 rfl
theorem q2177 : (Jvm.Cond.fieldLinkNest "LoopSignals" (191 : Nat) "LoopSignals$Unreadable" "position" "I" "LoopSignals") ∈ lw_tbl := lw_at lw_m9 109 rfl
theorem q2358 : (Jvm.Cond.methodLink "LoopSignals" (207 : Nat) ({ cls := "LoopSignals", name := "failed", desc := "(LLoopSignals$Unreadable;)I" } : Jvm.MethodName)) ∈ lw_all := lw_g (lw_at lw_m10 50 rfl) rfl
theorem q2359 : (Jvm.Cond.privateMethod ({ cls := "LoopSignals", name := "failed", desc := "(LLoopSignals$Unreadable;)I" } : Jvm.MethodName)) ∈ lw_tbl := lw_at lw_m10 51 rfl
theorem q2360 : (Jvm.Cond.instanceMethod ({ cls := "LoopSignals", name := "failed", desc := "(LLoopSignals$Unreadable;)I" } : Jvm.MethodName)) ∈ lw_all := lw_g (lw_at lw_m10 52 rfl) rfl
theorem q2361 : (Jvm.Cond.code ({ cls := "LoopSignals", name := "failed", desc := "(LLoopSignals$Unreadable;)I" } : Jvm.MethodName) prog_1_method_18_code (2 : Nat) (Option.some Jvm.ClassFile.FieldType.int)) ∈ lw_all := lw_g (lw_at lw_m10 53 rfl) rfl
theorem q2362 : (Jvm.Cond.methodLink "LoopSignals" (211 : Nat) ({ cls := "java/util/ArrayDeque", name := "clear", desc := "()V" } : Jvm.MethodName)) ∈ lw_all := lw_g (lw_at lw_m10 54 rfl) rfl
theorem q2369 : (Jvm.Cond.interfaceEntry "LoopSignals" (162 : Nat)) ∈ lw_tbl := lw_at lw_m10 61 rfl
theorem q2370 : (Jvm.Cond.methodLink "LoopSignals" (162 : Nat) ({ cls := "java/util/List", name := "size", desc := "()I" } : Jvm.MethodName)) ∈ lw_all := lw_g (lw_at lw_m10 62 rfl) rfl
theorem q2372 : (Jvm.Cond.instanceMethod ({ cls := "LoopSignals", name := "play", desc := "()I" } : Jvm.MethodName)) ∈ lw_all := lw_g (lw_at lw_m10 64 rfl) rfl
theorem q2373 : (Jvm.Cond.selects "LoopSignals" ({ cls := "LoopSignals", name := "play", desc := "()I" } : Jvm.MethodName) ({ cls := "LoopSignals", name := "play", desc := "()I" } : Jvm.MethodName)) ∈ lw_all := lw_g (lw_at lw_m10 65 rfl) rfl
theorem q2374 : (Jvm.Cond.codeWith ({ cls := "LoopSignals", name := "play", desc := "()I" } : Jvm.MethodName) prog_1_method_20_code (5 : Nat) (Option.some Jvm.ClassFile.FieldType.int) [((5 : Nat), (17 : Nat), (25 : Nat), (192 : Nat)), ((5 : Nat), (17 : Nat), (39 : Nat), (0 : Nat)), ((25 : Nat), (32 : Nat), (39 : Nat), (0 : Nat)), ((39 : Nat), (41 : Nat), (39 : Nat), (0 : Nat))]) ∈ lw_all := lw_g (lw_at lw_m10 66 rfl) rfl
theorem q2375 : (Jvm.Cond.classLink "LoopSignals" (214 : Nat) "LoopSignals$ScriptReader") ∈ lw_all := lw_g (lw_at lw_m10 67 rfl) rfl
theorem q2377 : (Jvm.Cond.methodLinkNest "LoopSignals" (216 : Nat) ({ cls := "LoopSignals$ScriptReader", name := "<init>", desc := "(LLoopSignals;)V" } : Jvm.MethodName) "LoopSignals") ∈ lw_tbl := lw_at lw_m10 69 rfl
theorem q2398 : (Jvm.Cond.methodLink "LoopSignals" (217 : Nat) ({ cls := "LoopSignals$ScriptReader", name := "reads", desc := "()LLoopSignals$Script;" } : Jvm.MethodName)) ∈ lw_all := lw_g (lw_at lw_m10 90 rfl) rfl
theorem q2668 : (Jvm.Cond.methodLink "LoopSignals" (123 : Nat) ({ cls := "LoopSignals$Junction", name := "copy", desc := "()LLoopSignals$Junction;" } : Jvm.MethodName)) ∈ lw_all := lw_g (lw_at lw_m11 120 rfl) rfl
theorem q2876 : (Jvm.Cond.methodLink "LoopSignals" (133 : Nat) ({ cls := "LoopSignals", name := "act", desc := "(LLoopSignals$Junction;)V" } : Jvm.MethodName)) ∈ lw_all := lw_g (lw_at lw_m12 88 rfl) rfl
theorem q2877 : (Jvm.Cond.privateMethod ({ cls := "LoopSignals", name := "act", desc := "(LLoopSignals$Junction;)V" } : Jvm.MethodName)) ∈ lw_tbl := lw_at lw_m12 89 rfl
theorem q2878 : (Jvm.Cond.instanceMethod ({ cls := "LoopSignals", name := "act", desc := "(LLoopSignals$Junction;)V" } : Jvm.MethodName)) ∈ lw_all := lw_g (lw_at lw_m12 90 rfl) rfl
theorem q2879 : (Jvm.Cond.code ({ cls := "LoopSignals", name := "act", desc := "(LLoopSignals$Junction;)V" } : Jvm.MethodName) prog_1_method_6_code (3 : Nat) (Option.none : Option Jvm.ClassFile.FieldType)) ∈ lw_all := lw_g (lw_at lw_m12 91 rfl) rfl
theorem q2880 : (Jvm.Cond.methodLink "LoopSignals" (108 : Nat) ({ cls := "java/util/ArrayDeque", name := "addLast", desc := "(Ljava/lang/Object;)V" } : Jvm.MethodName)) ∈ lw_all := lw_g (lw_at lw_m12 92 rfl) rfl
theorem q2899 : (Jvm.Cond.methodLink "LoopSignals" (112 : Nat) ({ cls := "java/util/ArrayDeque", name := "size", desc := "()I" } : Jvm.MethodName)) ∈ lw_all := lw_g (lw_at lw_m12 111 rfl) rfl
theorem q2906 : (Jvm.Cond.methodLink "LoopSignals" (116 : Nat) ({ cls := "java/util/ArrayDeque", name := "removeFirst", desc := "()Ljava/lang/Object;" } : Jvm.MethodName)) ∈ lw_all := lw_g (lw_at lw_m12 118 rfl) rfl
theorem q2919 : (Jvm.Cond.methodLink "LoopSignals" (223 : Nat) ({ cls := "LoopSignals$Script", name := "goes", desc := "()Z" } : Jvm.MethodName)) ∈ lw_all := lw_g (lw_at lw_m12 131 rfl) rfl
theorem q2939 : (Jvm.Cond.privateMethod ({ cls := "LoopSignals", name := "refuses", desc := "(I)I" } : Jvm.MethodName)) ∈ lw_tbl := lw_at lw_m12 151 rfl
theorem q2940 : (Jvm.Cond.instanceMethod ({ cls := "LoopSignals", name := "refuses", desc := "(I)I" } : Jvm.MethodName)) ∈ lw_all := lw_g (lw_at lw_m12 152 rfl) rfl
theorem q2941 : (Jvm.Cond.code ({ cls := "LoopSignals", name := "refuses", desc := "(I)I" } : Jvm.MethodName) prog_1_method_7_code (2 : Nat) (Option.some Jvm.ClassFile.FieldType.int)) ∈ lw_all := lw_g (lw_at lw_m12 153 rfl) rfl
theorem q2944 : (Jvm.Cond.instanceMethod ({ cls := "LoopSignals", name := "errorPosition", desc := "()I" } : Jvm.MethodName)) ∈ lw_all := lw_g (lw_at lw_m12 156 rfl) rfl
theorem q2945 : (Jvm.Cond.selects "LoopSignals" ({ cls := "LoopSignals", name := "errorPosition", desc := "()I" } : Jvm.MethodName) ({ cls := "LoopSignals", name := "errorPosition", desc := "()I" } : Jvm.MethodName)) ∈ lw_all := lw_g (lw_at lw_m12 157 rfl) rfl
theorem q2946 : (Jvm.Cond.code ({ cls := "LoopSignals", name := "errorPosition", desc := "()I" } : Jvm.MethodName) prog_1_method_21_code (1 : Nat) (Option.some Jvm.ClassFile.FieldType.int)) ∈ lw_all := lw_g (lw_at lw_m12 158 rfl) rfl
theorem q2948 : (Jvm.Cond.instanceMethod ({ cls := "LoopSignals", name := "find", desc := "()I" } : Jvm.MethodName)) ∈ lw_all := lw_g (lw_at lw_m12 160 rfl) rfl
theorem q2949 : (Jvm.Cond.selects "LoopSignals" ({ cls := "LoopSignals", name := "find", desc := "()I" } : Jvm.MethodName) ({ cls := "LoopSignals", name := "find", desc := "()I" } : Jvm.MethodName)) ∈ lw_all := lw_g (lw_at lw_m12 161 rfl) rfl
theorem q2950 : (Jvm.Cond.code ({ cls := "LoopSignals", name := "find", desc := "()I" } : Jvm.MethodName) prog_1_method_29_code (3 : Nat) (Option.some Jvm.ClassFile.FieldType.int)) ∈ lw_all := lw_g (lw_at lw_m12 162 rfl) rfl
theorem q2951 : (Jvm.Cond.classLink "LoopSignals" (306 : Nat) "java/lang/StringBuilder") ∈ lw_all := lw_g (lw_at lw_m12 163 rfl) rfl
theorem q2952 : (Jvm.Cond.methodLink "LoopSignals" (308 : Nat) ({ cls := "java/lang/StringBuilder", name := "<init>", desc := "()V" } : Jvm.MethodName)) ∈ lw_all := lw_g (lw_at lw_m12 164 rfl) rfl
theorem q2953 : (Jvm.Cond.methodLink "LoopSignals" (309 : Nat) ({ cls := "java/lang/StringBuilder", name := "append", desc := "(C)Ljava/lang/StringBuilder;" } : Jvm.MethodName)) ∈ lw_all := lw_g (lw_at lw_m12 165 rfl) rfl
theorem q2954 : (Jvm.Cond.methodLink "LoopSignals" (313 : Nat) ({ cls := "java/lang/StringBuilder", name := "toString", desc := "()Ljava/lang/String;" } : Jvm.MethodName)) ∈ lw_all := lw_g (lw_at lw_m12 166 rfl) rfl
theorem q2955 : (Jvm.Cond.methodLink "LoopSignals" (317 : Nat) ({ cls := "LoopSignals$Junction", name := "named", desc := "(Ljava/lang/String;)I" } : Jvm.MethodName)) ∈ lw_all := lw_g (lw_at lw_m12 167 rfl) rfl
theorem q2957 : (Jvm.Cond.instanceMethod ({ cls := "LoopSignals", name := "gap", desc := "()I" } : Jvm.MethodName)) ∈ lw_all := lw_g (lw_at lw_m12 169 rfl) rfl
theorem q2958 : (Jvm.Cond.selects "LoopSignals" ({ cls := "LoopSignals", name := "gap", desc := "()I" } : Jvm.MethodName) ({ cls := "LoopSignals", name := "gap", desc := "()I" } : Jvm.MethodName)) ∈ lw_all := lw_g (lw_at lw_m12 170 rfl) rfl
theorem q2959 : (Jvm.Cond.code ({ cls := "LoopSignals", name := "gap", desc := "()I" } : Jvm.MethodName) prog_1_method_32_code (1 : Nat) (Option.some Jvm.ClassFile.FieldType.int)) ∈ lw_all := lw_g (lw_at lw_m12 171 rfl) rfl
theorem q2960 : (Jvm.Cond.methodLink "LoopSignals" (332 : Nat) ({ cls := "LoopSignals$Junction", name := "gap", desc := "()I" } : Jvm.MethodName)) ∈ lw_all := lw_g (lw_at lw_m12 172 rfl) rfl
theorem q2984 : (Jvm.Cond.instanceMethod ({ cls := "LoopSignals", name := "meanWait", desc := "()D" } : Jvm.MethodName)) ∈ lw_all := lw_g (lw_at lw_m12 196 rfl) rfl
theorem q2985 : (Jvm.Cond.selects "LoopSignals" ({ cls := "LoopSignals", name := "meanWait", desc := "()D" } : Jvm.MethodName) ({ cls := "LoopSignals", name := "meanWait", desc := "()D" } : Jvm.MethodName)) ∈ lw_all := lw_g (lw_at lw_m12 197 rfl) rfl
theorem q2986 : (Jvm.Cond.code ({ cls := "LoopSignals", name := "meanWait", desc := "()D" } : Jvm.MethodName) prog_1_method_33_code (1 : Nat) (Option.some Jvm.ClassFile.FieldType.double)) ∈ lw_all := lw_g (lw_at lw_m12 198 rfl) rfl
theorem q2988 : (Jvm.Cond.instanceMethod ({ cls := "LoopSignals", name := "emptyIn", desc := "()I" } : Jvm.MethodName)) ∈ lw_all := lw_g (lw_at lw_m12 200 rfl) rfl
theorem q2989 : (Jvm.Cond.selects "LoopSignals" ({ cls := "LoopSignals", name := "emptyIn", desc := "()I" } : Jvm.MethodName) ({ cls := "LoopSignals", name := "emptyIn", desc := "()I" } : Jvm.MethodName)) ∈ lw_all := lw_g (lw_at lw_m12 201 rfl) rfl
theorem q2990 : (Jvm.Cond.code ({ cls := "LoopSignals", name := "emptyIn", desc := "()I" } : Jvm.MethodName) prog_1_method_36_code (3 : Nat) (Option.some Jvm.ClassFile.FieldType.int)) ∈ lw_all := lw_g (lw_at lw_m12 202 rfl) rfl
theorem q2991 : (Jvm.Cond.methodLink "LoopSignals" (353 : Nat) ({ cls := "LoopSignals$Junction", name := "waiting", desc := "()I" } : Jvm.MethodName)) ∈ lw_all := lw_g (lw_at lw_m12 203 rfl) rfl
theorem q2992 : (Jvm.Cond.methodLinkNest "LoopSignals" (350 : Nat) ({ cls := "LoopSignals$Junction", name := "ticks", desc := "()V" } : Jvm.MethodName) "LoopSignals") ∈ lw_tbl := lw_at lw_m12 204 rfl
theorem q2994 : (Jvm.Cond.instanceMethod ({ cls := "LoopSignals", name := "report", desc := "()I" } : Jvm.MethodName)) ∈ lw_all := lw_g (lw_at lw_m12 206 rfl) rfl
theorem q2995 : (Jvm.Cond.selects "LoopSignals" ({ cls := "LoopSignals", name := "report", desc := "()I" } : Jvm.MethodName) ({ cls := "LoopSignals", name := "report", desc := "()I" } : Jvm.MethodName)) ∈ lw_all := lw_g (lw_at lw_m12 207 rfl) rfl
theorem q2996 : (Jvm.Cond.code ({ cls := "LoopSignals", name := "report", desc := "()I" } : Jvm.MethodName) prog_1_method_49_code (1 : Nat) (Option.some Jvm.ClassFile.FieldType.int)) ∈ lw_all := lw_g (lw_at lw_m12 208 rfl) rfl
theorem q2997 : (Jvm.Cond.methodLink "LoopSignals" (416 : Nat) ({ cls := "LoopSignals$Junction", name := "told", desc := "()Ljava/lang/String;" } : Jvm.MethodName)) ∈ lw_all := lw_g (lw_at lw_m12 209 rfl) rfl
theorem q3009 : (Jvm.Cond.methodLink "LoopSignals" (300 : Nat) ({ cls := "java/lang/String", name := "length", desc := "()I" } : Jvm.MethodName)) ∈ lw_all := lw_g (lw_at lw_m12 221 rfl) rfl
theorem q3011 : (Jvm.Cond.instanceMethod ({ cls := "LoopSignals", name := "phases", desc := "()I" } : Jvm.MethodName)) ∈ lw_all := lw_g (lw_at lw_m12 223 rfl) rfl
theorem q3012 : (Jvm.Cond.selects "LoopSignals" ({ cls := "LoopSignals", name := "phases", desc := "()I" } : Jvm.MethodName) ({ cls := "LoopSignals", name := "phases", desc := "()I" } : Jvm.MethodName)) ∈ lw_all := lw_g (lw_at lw_m12 224 rfl) rfl
theorem q3013 : (Jvm.Cond.code ({ cls := "LoopSignals", name := "phases", desc := "()I" } : Jvm.MethodName) prog_1_method_50_code (1 : Nat) (Option.some Jvm.ClassFile.FieldType.int)) ∈ lw_all := lw_g (lw_at lw_m12 225 rfl) rfl
theorem q3014 : (Jvm.Cond.methodLink "LoopSignals" (418 : Nat) ({ cls := "LoopSignals$Junction", name := "toldPhases", desc := "()Ljava/lang/String;" } : Jvm.MethodName)) ∈ lw_all := lw_g (lw_at lw_m12 226 rfl) rfl
theorem q3022 : (Jvm.Cond.instanceMethod ({ cls := "LoopSignals", name := "reportByte", desc := "(I)I" } : Jvm.MethodName)) ∈ lw_all := lw_g (lw_at lw_m12 234 rfl) rfl
theorem q3023 : (Jvm.Cond.selects "LoopSignals" ({ cls := "LoopSignals", name := "reportByte", desc := "(I)I" } : Jvm.MethodName) ({ cls := "LoopSignals", name := "reportByte", desc := "(I)I" } : Jvm.MethodName)) ∈ lw_all := lw_g (lw_at lw_m12 235 rfl) rfl
theorem q3024 : (Jvm.Cond.code ({ cls := "LoopSignals", name := "reportByte", desc := "(I)I" } : Jvm.MethodName) prog_1_method_51_code (2 : Nat) (Option.some Jvm.ClassFile.FieldType.int)) ∈ lw_all := lw_g (lw_at lw_m12 236 rfl) rfl
theorem q3025 : (Jvm.Cond.methodLink "LoopSignals" (147 : Nat) ({ cls := "LoopSignals", name := "in", desc := "(JJJ)Z" } : Jvm.MethodName)) ∈ lw_all := lw_g (lw_at lw_m12 237 rfl) rfl
theorem q3026 : (Jvm.Cond.methodLink "LoopSignals" (302 : Nat) ({ cls := "java/lang/String", name := "charAt", desc := "(I)C" } : Jvm.MethodName)) ∈ lw_all := lw_g (lw_at lw_m12 238 rfl) rfl
theorem q3028 : (Jvm.Cond.instanceMethod ({ cls := "LoopSignals", name := "undo", desc := "()I" } : Jvm.MethodName)) ∈ lw_all := lw_g (lw_at lw_m13 0 rfl) rfl
theorem q3029 : (Jvm.Cond.selects "LoopSignals" ({ cls := "LoopSignals", name := "undo", desc := "()I" } : Jvm.MethodName) ({ cls := "LoopSignals", name := "undo", desc := "()I" } : Jvm.MethodName)) ∈ lw_all := lw_g (lw_at lw_m13 1 rfl) rfl
theorem q3030 : (Jvm.Cond.code ({ cls := "LoopSignals", name := "undo", desc := "()I" } : Jvm.MethodName) prog_1_method_52_code (1 : Nat) (Option.some Jvm.ClassFile.FieldType.int)) ∈ lw_all := lw_g (lw_at lw_m13 2 rfl) rfl
theorem q3031 : (Jvm.Cond.methodLink "LoopSignals" (421 : Nat) ({ cls := "java/util/ArrayDeque", name := "isEmpty", desc := "()Z" } : Jvm.MethodName)) ∈ lw_all := lw_g (lw_at lw_m13 3 rfl) rfl
theorem q3035 : (Jvm.Cond.methodLink "LoopSignals" (424 : Nat) ({ cls := "java/util/ArrayDeque", name := "removeLast", desc := "()Ljava/lang/Object;" } : Jvm.MethodName)) ∈ lw_all := lw_g (lw_at lw_m13 7 rfl) rfl
theorem q3051 : (Jvm.Cond.instanceMethod ({ cls := "LoopSignals", name := "size", desc := "(I)I" } : Jvm.MethodName)) ∈ lw_all := lw_g (lw_at lw_m13 23 rfl) rfl
theorem q3052 : (Jvm.Cond.selects "LoopSignals" ({ cls := "LoopSignals", name := "size", desc := "(I)I" } : Jvm.MethodName) ({ cls := "LoopSignals", name := "size", desc := "(I)I" } : Jvm.MethodName)) ∈ lw_all := lw_g (lw_at lw_m13 24 rfl) rfl
theorem q3053 : (Jvm.Cond.code ({ cls := "LoopSignals", name := "size", desc := "(I)I" } : Jvm.MethodName) prog_1_method_22_code (4 : Nat) (Option.some Jvm.ClassFile.FieldType.int)) ∈ lw_all := lw_g (lw_at lw_m13 25 rfl) rfl
theorem q3054 : (Jvm.Cond.classLink "LoopSignals" (156 : Nat) "LoopSignals$Told") ∈ lw_all := lw_g (lw_at lw_m13 26 rfl) rfl
theorem q3056 : (Jvm.Cond.static ({ cls := "LoopSignals", name := "lambda$size$0", desc := "(LLoopSignals$Junction;)I" } : Jvm.MethodName)) ∈ lw_all := lw_g (lw_at lw_m13 28 rfl) rfl
theorem q3057 : (Jvm.Cond.code ({ cls := "LoopSignals", name := "lambda$size$0", desc := "(LLoopSignals$Junction;)I" } : Jvm.MethodName) prog_1_method_94_code (1 : Nat) (Option.some Jvm.ClassFile.FieldType.int)) ∈ lw_all := lw_g (lw_at lw_m13 29 rfl) rfl
theorem q3058 : (Jvm.Cond.static ({ cls := "LoopSignals", name := "lambda$size$1", desc := "(LLoopSignals$Junction;)I" } : Jvm.MethodName)) ∈ lw_all := lw_g (lw_at lw_m13 30 rfl) rfl
theorem q3059 : (Jvm.Cond.code ({ cls := "LoopSignals", name := "lambda$size$1", desc := "(LLoopSignals$Junction;)I" } : Jvm.MethodName) prog_1_method_93_code (1 : Nat) (Option.some Jvm.ClassFile.FieldType.int)) ∈ lw_all := lw_g (lw_at lw_m13 31 rfl) rfl
theorem q3060 : (Jvm.Cond.static ({ cls := "LoopSignals", name := "lambda$size$2", desc := "(LLoopSignals$Junction;)I" } : Jvm.MethodName)) ∈ lw_all := lw_g (lw_at lw_m13 32 rfl) rfl
theorem q3061 : (Jvm.Cond.code ({ cls := "LoopSignals", name := "lambda$size$2", desc := "(LLoopSignals$Junction;)I" } : Jvm.MethodName) prog_1_method_92_code (1 : Nat) (Option.some Jvm.ClassFile.FieldType.int)) ∈ lw_all := lw_g (lw_at lw_m13 33 rfl) rfl
theorem q3062 : (Jvm.Cond.static ({ cls := "LoopSignals", name := "lambda$size$3", desc := "(LLoopSignals$Junction;)I" } : Jvm.MethodName)) ∈ lw_all := lw_g (lw_at lw_m13 34 rfl) rfl
theorem q3063 : (Jvm.Cond.code ({ cls := "LoopSignals", name := "lambda$size$3", desc := "(LLoopSignals$Junction;)I" } : Jvm.MethodName) prog_1_method_91_code (1 : Nat) (Option.some Jvm.ClassFile.FieldType.int)) ∈ lw_all := lw_g (lw_at lw_m13 35 rfl) rfl
theorem q3064 : (Jvm.Cond.static ({ cls := "LoopSignals", name := "lambda$size$4", desc := "(LLoopSignals$Junction;)I" } : Jvm.MethodName)) ∈ lw_all := lw_g (lw_at lw_m13 36 rfl) rfl
theorem q3065 : (Jvm.Cond.code ({ cls := "LoopSignals", name := "lambda$size$4", desc := "(LLoopSignals$Junction;)I" } : Jvm.MethodName) prog_1_method_90_code (1 : Nat) (Option.some Jvm.ClassFile.FieldType.int)) ∈ lw_all := lw_g (lw_at lw_m13 37 rfl) rfl
theorem q3066 : (Jvm.Cond.static ({ cls := "LoopSignals", name := "lambda$size$5", desc := "(LLoopSignals$Junction;)I" } : Jvm.MethodName)) ∈ lw_all := lw_g (lw_at lw_m13 38 rfl) rfl
theorem q3067 : (Jvm.Cond.code ({ cls := "LoopSignals", name := "lambda$size$5", desc := "(LLoopSignals$Junction;)I" } : Jvm.MethodName) prog_1_method_89_code (1 : Nat) (Option.some Jvm.ClassFile.FieldType.int)) ∈ lw_all := lw_g (lw_at lw_m13 39 rfl) rfl
theorem q3068 : (Jvm.Cond.static ({ cls := "LoopSignals", name := "lambda$size$6", desc := "(LLoopSignals$Junction;)I" } : Jvm.MethodName)) ∈ lw_all := lw_g (lw_at lw_m13 40 rfl) rfl
theorem q3069 : (Jvm.Cond.code ({ cls := "LoopSignals", name := "lambda$size$6", desc := "(LLoopSignals$Junction;)I" } : Jvm.MethodName) prog_1_method_88_code (1 : Nat) (Option.some Jvm.ClassFile.FieldType.int)) ∈ lw_all := lw_g (lw_at lw_m13 41 rfl) rfl
theorem q3070 : (Jvm.Cond.static ({ cls := "LoopSignals", name := "lambda$size$7", desc := "(LLoopSignals$Junction;)I" } : Jvm.MethodName)) ∈ lw_all := lw_g (lw_at lw_m13 42 rfl) rfl
theorem q3071 : (Jvm.Cond.code ({ cls := "LoopSignals", name := "lambda$size$7", desc := "(LLoopSignals$Junction;)I" } : Jvm.MethodName) prog_1_method_87_code (1 : Nat) (Option.some Jvm.ClassFile.FieldType.int)) ∈ lw_all := lw_g (lw_at lw_m13 43 rfl) rfl
theorem q3072 : (Jvm.Cond.static ({ cls := "LoopSignals", name := "lambda$size$8", desc := "(LLoopSignals$Junction;)I" } : Jvm.MethodName)) ∈ lw_all := lw_g (lw_at lw_m13 44 rfl) rfl
theorem q3073 : (Jvm.Cond.code ({ cls := "LoopSignals", name := "lambda$size$8", desc := "(LLoopSignals$Junction;)I" } : Jvm.MethodName) prog_1_method_86_code (1 : Nat) (Option.some Jvm.ClassFile.FieldType.int)) ∈ lw_all := lw_g (lw_at lw_m13 45 rfl) rfl
theorem q3074 : (Jvm.Cond.static ({ cls := "LoopSignals", name := "lambda$size$9", desc := "(LLoopSignals$Junction;)I" } : Jvm.MethodName)) ∈ lw_all := lw_g (lw_at lw_m13 46 rfl) rfl
theorem q3075 : (Jvm.Cond.code ({ cls := "LoopSignals", name := "lambda$size$9", desc := "(LLoopSignals$Junction;)I" } : Jvm.MethodName) prog_1_method_85_code (1 : Nat) (Option.some Jvm.ClassFile.FieldType.int)) ∈ lw_all := lw_g (lw_at lw_m13 47 rfl) rfl
theorem q3076 : (Jvm.Cond.static ({ cls := "LoopSignals", name := "lambda$size$10", desc := "(LLoopSignals$Junction;)I" } : Jvm.MethodName)) ∈ lw_all := lw_g (lw_at lw_m13 48 rfl) rfl
theorem q3077 : (Jvm.Cond.code ({ cls := "LoopSignals", name := "lambda$size$10", desc := "(LLoopSignals$Junction;)I" } : Jvm.MethodName) prog_1_method_84_code (1 : Nat) (Option.some Jvm.ClassFile.FieldType.int)) ∈ lw_all := lw_g (lw_at lw_m13 49 rfl) rfl
theorem q3078 : (Jvm.Cond.methodLink "LoopSignals" (495 : Nat) ({ cls := "LoopSignals$Junction", name := "best", desc := "()I" } : Jvm.MethodName)) ∈ lw_all := lw_g (lw_at lw_m13 50 rfl) rfl
theorem q3079 : (Jvm.Cond.static ({ cls := "LoopSignals", name := "lambda$size$11", desc := "(LLoopSignals$Junction;)I" } : Jvm.MethodName)) ∈ lw_all := lw_g (lw_at lw_m13 51 rfl) rfl
theorem q3080 : (Jvm.Cond.code ({ cls := "LoopSignals", name := "lambda$size$11", desc := "(LLoopSignals$Junction;)I" } : Jvm.MethodName) prog_1_method_83_code (1 : Nat) (Option.some Jvm.ClassFile.FieldType.int)) ∈ lw_all := lw_g (lw_at lw_m13 52 rfl) rfl
theorem q3081 : (Jvm.Cond.methodLink "LoopSignals" (492 : Nat) ({ cls := "LoopSignals$Junction", name := "busy", desc := "()I" } : Jvm.MethodName)) ∈ lw_all := lw_g (lw_at lw_m13 53 rfl) rfl
theorem q3082 : (Jvm.Cond.static ({ cls := "LoopSignals", name := "lambda$size$12", desc := "(LLoopSignals$Junction;)I" } : Jvm.MethodName)) ∈ lw_all := lw_g (lw_at lw_m13 54 rfl) rfl
theorem q3083 : (Jvm.Cond.code ({ cls := "LoopSignals", name := "lambda$size$12", desc := "(LLoopSignals$Junction;)I" } : Jvm.MethodName) prog_1_method_82_code (1 : Nat) (Option.some Jvm.ClassFile.FieldType.int)) ∈ lw_all := lw_g (lw_at lw_m13 55 rfl) rfl
theorem q3084 : (Jvm.Cond.static ({ cls := "LoopSignals", name := "lambda$size$13", desc := "(I)I" } : Jvm.MethodName)) ∈ lw_all := lw_g (lw_at lw_m13 56 rfl) rfl
theorem q3085 : (Jvm.Cond.code ({ cls := "LoopSignals", name := "lambda$size$13", desc := "(I)I" } : Jvm.MethodName) prog_1_method_81_code (1 : Nat) (Option.some Jvm.ClassFile.FieldType.int)) ∈ lw_all := lw_g (lw_at lw_m13 57 rfl) rfl
theorem q3086 : (Jvm.Cond.methodLink "LoopSignals" (247 : Nat) ({ cls := "LoopSignals", name := "told", desc := "(I[LLoopSignals$Told;)I" } : Jvm.MethodName)) ∈ lw_all := lw_g (lw_at lw_m13 58 rfl) rfl
theorem q3087 : (Jvm.Cond.static ({ cls := "LoopSignals", name := "told", desc := "(I[LLoopSignals$Told;)I" } : Jvm.MethodName)) ∈ lw_all := lw_g (lw_at lw_m13 59 rfl) rfl
theorem q3088 : (Jvm.Cond.code ({ cls := "LoopSignals", name := "told", desc := "(I[LLoopSignals$Told;)I" } : Jvm.MethodName) prog_1_method_11_code (2 : Nat) (Option.some Jvm.ClassFile.FieldType.int)) ∈ lw_all := lw_g (lw_at lw_m13 60 rfl) rfl
theorem q3089 : (Jvm.Cond.methodLink "LoopSignals" (151 : Nat) ({ cls := "LoopSignals", name := "argument", desc := "(Z)V" } : Jvm.MethodName)) ∈ lw_all := lw_g (lw_at lw_m13 61 rfl) rfl
theorem q3090 : (Jvm.Cond.static ({ cls := "LoopSignals", name := "argument", desc := "(Z)V" } : Jvm.MethodName)) ∈ lw_all := lw_g (lw_at lw_m13 62 rfl) rfl
theorem q3091 : (Jvm.Cond.code ({ cls := "LoopSignals", name := "argument", desc := "(Z)V" } : Jvm.MethodName) prog_1_method_9_code (1 : Nat) (Option.none : Option Jvm.ClassFile.FieldType)) ∈ lw_all := lw_g (lw_at lw_m13 63 rfl) rfl
theorem q3092 : (Jvm.Cond.classLink "LoopSignals" (141 : Nat) "java/lang/IllegalArgumentException") ∈ lw_all := lw_g (lw_at lw_m13 64 rfl) rfl
theorem q3093 : (Jvm.Cond.methodLink "LoopSignals" (143 : Nat) ({ cls := "java/lang/IllegalArgumentException", name := "<init>", desc := "()V" } : Jvm.MethodName)) ∈ lw_all := lw_g (lw_at lw_m13 65 rfl) rfl
theorem q3097 : (Jvm.Cond.interfaceEntry "LoopSignals" (155 : Nat)) ∈ lw_tbl := lw_at lw_m13 69 rfl
theorem q3098 : (Jvm.Cond.methodLink "LoopSignals" (155 : Nat) ({ cls := "LoopSignals$Told", name := "now", desc := "()I" } : Jvm.MethodName)) ∈ lw_all := lw_g (lw_at lw_m13 70 rfl) rfl
theorem q3105 : (Jvm.Cond.instanceMethod ({ cls := "LoopSignals", name := "arm", desc := "(II)I" } : Jvm.MethodName)) ∈ lw_all := lw_g (lw_at lw_m13 77 rfl) rfl
theorem q3106 : (Jvm.Cond.selects "LoopSignals" ({ cls := "LoopSignals", name := "arm", desc := "(II)I" } : Jvm.MethodName) ({ cls := "LoopSignals", name := "arm", desc := "(II)I" } : Jvm.MethodName)) ∈ lw_all := lw_g (lw_at lw_m13 78 rfl) rfl
theorem q3107 : (Jvm.Cond.code ({ cls := "LoopSignals", name := "arm", desc := "(II)I" } : Jvm.MethodName) prog_1_method_23_code (5 : Nat) (Option.some Jvm.ClassFile.FieldType.int)) ∈ lw_all := lw_g (lw_at lw_m13 79 rfl) rfl
theorem q3108 : (Jvm.Cond.methodLink "LoopSignals" (251 : Nat) ({ cls := "LoopSignals", name := "armAt", desc := "(I)LLoopSignals$Arm;" } : Jvm.MethodName)) ∈ lw_all := lw_g (lw_at lw_m13 80 rfl) rfl
theorem q3109 : (Jvm.Cond.privateMethod ({ cls := "LoopSignals", name := "armAt", desc := "(I)LLoopSignals$Arm;" } : Jvm.MethodName)) ∈ lw_tbl := lw_at lw_m13 81 rfl
theorem q3110 : (Jvm.Cond.instanceMethod ({ cls := "LoopSignals", name := "armAt", desc := "(I)LLoopSignals$Arm;" } : Jvm.MethodName)) ∈ lw_all := lw_g (lw_at lw_m13 82 rfl) rfl
theorem q3111 : (Jvm.Cond.code ({ cls := "LoopSignals", name := "armAt", desc := "(I)LLoopSignals$Arm;" } : Jvm.MethodName) prog_1_method_12_code (2 : Nat) (Option.some (Jvm.ClassFile.FieldType.object "LoopSignals$Arm"))) ∈ lw_all := lw_g (lw_at lw_m13 83 rfl) rfl
theorem q3112 : (Jvm.Cond.methodLink "LoopSignals" (165 : Nat) ({ cls := "LoopSignals$Junction", name := "arm", desc := "(I)LLoopSignals$Arm;" } : Jvm.MethodName)) ∈ lw_all := lw_g (lw_at lw_m13 84 rfl) rfl
theorem q3113 : (Jvm.Cond.static ({ cls := "LoopSignals", name := "lambda$arm$14", desc := "(LLoopSignals$Junction;I)I" } : Jvm.MethodName)) ∈ lw_all := lw_g (lw_at lw_m13 85 rfl) rfl
theorem q3114 : (Jvm.Cond.code ({ cls := "LoopSignals", name := "lambda$arm$14", desc := "(LLoopSignals$Junction;I)I" } : Jvm.MethodName) prog_1_method_80_code (2 : Nat) (Option.some Jvm.ClassFile.FieldType.int)) ∈ lw_all := lw_g (lw_at lw_m13 86 rfl) rfl
theorem q3115 : (Jvm.Cond.methodLink "LoopSignals" (347 : Nat) ({ cls := "LoopSignals$Junction", name := "light", desc := "(I)I" } : Jvm.MethodName)) ∈ lw_all := lw_g (lw_at lw_m13 87 rfl) rfl
theorem q3116 : (Jvm.Cond.static ({ cls := "LoopSignals", name := "lambda$arm$15", desc := "(LLoopSignals$Arm;)I" } : Jvm.MethodName)) ∈ lw_all := lw_g (lw_at lw_m13 88 rfl) rfl
theorem q3117 : (Jvm.Cond.code ({ cls := "LoopSignals", name := "lambda$arm$15", desc := "(LLoopSignals$Arm;)I" } : Jvm.MethodName) prog_1_method_79_code (1 : Nat) (Option.some Jvm.ClassFile.FieldType.int)) ∈ lw_all := lw_g (lw_at lw_m13 89 rfl) rfl
theorem q3118 : (Jvm.Cond.static ({ cls := "LoopSignals", name := "lambda$arm$16", desc := "(LLoopSignals$Arm;)I" } : Jvm.MethodName)) ∈ lw_all := lw_g (lw_at lw_m13 90 rfl) rfl
theorem q3119 : (Jvm.Cond.code ({ cls := "LoopSignals", name := "lambda$arm$16", desc := "(LLoopSignals$Arm;)I" } : Jvm.MethodName) prog_1_method_78_code (1 : Nat) (Option.some Jvm.ClassFile.FieldType.int)) ∈ lw_all := lw_g (lw_at lw_m13 91 rfl) rfl
theorem q3120 : (Jvm.Cond.static ({ cls := "LoopSignals", name := "lambda$arm$17", desc := "(LLoopSignals$Arm;)I" } : Jvm.MethodName)) ∈ lw_all := lw_g (lw_at lw_m13 92 rfl) rfl
theorem q3121 : (Jvm.Cond.code ({ cls := "LoopSignals", name := "lambda$arm$17", desc := "(LLoopSignals$Arm;)I" } : Jvm.MethodName) prog_1_method_77_code (1 : Nat) (Option.some Jvm.ClassFile.FieldType.int)) ∈ lw_all := lw_g (lw_at lw_m13 93 rfl) rfl
theorem q3122 : (Jvm.Cond.static ({ cls := "LoopSignals", name := "lambda$arm$18", desc := "(LLoopSignals$Arm;)I" } : Jvm.MethodName)) ∈ lw_all := lw_g (lw_at lw_m13 94 rfl) rfl
theorem q3123 : (Jvm.Cond.code ({ cls := "LoopSignals", name := "lambda$arm$18", desc := "(LLoopSignals$Arm;)I" } : Jvm.MethodName) prog_1_method_76_code (1 : Nat) (Option.some Jvm.ClassFile.FieldType.int)) ∈ lw_all := lw_g (lw_at lw_m13 95 rfl) rfl
theorem q3124 : (Jvm.Cond.methodLink "LoopSignals" (483 : Nat) ({ cls := "LoopSignals$Arm", name := "asks", desc := "()Z" } : Jvm.MethodName)) ∈ lw_all := lw_g (lw_at lw_m13 96 rfl) rfl
theorem q3125 : (Jvm.Cond.static ({ cls := "LoopSignals", name := "lambda$arm$19", desc := "(LLoopSignals$Junction;I)I" } : Jvm.MethodName)) ∈ lw_all := lw_g (lw_at lw_m13 97 rfl) rfl
theorem q3126 : (Jvm.Cond.code ({ cls := "LoopSignals", name := "lambda$arm$19", desc := "(LLoopSignals$Junction;I)I" } : Jvm.MethodName) prog_1_method_75_code (2 : Nat) (Option.some Jvm.ClassFile.FieldType.int)) ∈ lw_all := lw_g (lw_at lw_m13 98 rfl) rfl
theorem q3127 : (Jvm.Cond.methodLink "LoopSignals" (480 : Nat) ({ cls := "LoopSignals$Junction", name := "phasesOf", desc := "(I)I" } : Jvm.MethodName)) ∈ lw_all := lw_g (lw_at lw_m13 99 rfl) rfl
theorem q3134 : (Jvm.Cond.static ({ cls := "LoopSignals", name := "lambda$arm$20", desc := "(LLoopSignals$Junction;I)I" } : Jvm.MethodName)) ∈ lw_all := lw_g (lw_at lw_m13 106 rfl) rfl
theorem q3135 : (Jvm.Cond.code ({ cls := "LoopSignals", name := "lambda$arm$20", desc := "(LLoopSignals$Junction;I)I" } : Jvm.MethodName) prog_1_method_74_code (2 : Nat) (Option.some Jvm.ClassFile.FieldType.int)) ∈ lw_all := lw_g (lw_at lw_m13 107 rfl) rfl
theorem q3136 : (Jvm.Cond.methodLink "LoopSignals" (477 : Nat) ({ cls := "LoopSignals$Junction", name := "clashesOf", desc := "(I)I" } : Jvm.MethodName)) ∈ lw_all := lw_g (lw_at lw_m13 108 rfl) rfl
theorem q3143 : (Jvm.Cond.static ({ cls := "LoopSignals", name := "lambda$arm$21", desc := "(LLoopSignals$Arm;)I" } : Jvm.MethodName)) ∈ lw_all := lw_g (lw_at lw_m13 115 rfl) rfl
theorem q3144 : (Jvm.Cond.code ({ cls := "LoopSignals", name := "lambda$arm$21", desc := "(LLoopSignals$Arm;)I" } : Jvm.MethodName) prog_1_method_73_code (1 : Nat) (Option.some Jvm.ClassFile.FieldType.int)) ∈ lw_all := lw_g (lw_at lw_m13 116 rfl) rfl
theorem q3145 : (Jvm.Cond.static ({ cls := "LoopSignals", name := "lambda$arm$22", desc := "(LLoopSignals$Arm;LLoopSignals$Junction;)I" } : Jvm.MethodName)) ∈ lw_all := lw_g (lw_at lw_m13 117 rfl) rfl
theorem q3146 : (Jvm.Cond.code ({ cls := "LoopSignals", name := "lambda$arm$22", desc := "(LLoopSignals$Arm;LLoopSignals$Junction;)I" } : Jvm.MethodName) prog_1_method_72_code (2 : Nat) (Option.some Jvm.ClassFile.FieldType.int)) ∈ lw_all := lw_g (lw_at lw_m13 118 rfl) rfl
theorem q3147 : (Jvm.Cond.methodLink "LoopSignals" (294 : Nat) ({ cls := "LoopSignals$Line", name := "at", desc := "(I)I" } : Jvm.MethodName)) ∈ lw_all := lw_g (lw_at lw_m13 119 rfl) rfl
theorem q3148 : (Jvm.Cond.static ({ cls := "LoopSignals", name := "lambda$arm$23", desc := "(LLoopSignals$Arm;)I" } : Jvm.MethodName)) ∈ lw_all := lw_g (lw_at lw_m13 120 rfl) rfl
theorem q3149 : (Jvm.Cond.code ({ cls := "LoopSignals", name := "lambda$arm$23", desc := "(LLoopSignals$Arm;)I" } : Jvm.MethodName) prog_1_method_71_code (1 : Nat) (Option.some Jvm.ClassFile.FieldType.int)) ∈ lw_all := lw_g (lw_at lw_m13 121 rfl) rfl
theorem q3154 : (Jvm.Cond.instanceMethod ({ cls := "LoopSignals", name := "phase", desc := "(II)I" } : Jvm.MethodName)) ∈ lw_all := lw_g (lw_at lw_m13 126 rfl) rfl
theorem q3155 : (Jvm.Cond.selects "LoopSignals" ({ cls := "LoopSignals", name := "phase", desc := "(II)I" } : Jvm.MethodName) ({ cls := "LoopSignals", name := "phase", desc := "(II)I" } : Jvm.MethodName)) ∈ lw_all := lw_g (lw_at lw_m13 127 rfl) rfl
theorem q3156 : (Jvm.Cond.code ({ cls := "LoopSignals", name := "phase", desc := "(II)I" } : Jvm.MethodName) prog_1_method_24_code (5 : Nat) (Option.some Jvm.ClassFile.FieldType.int)) ∈ lw_all := lw_g (lw_at lw_m13 128 rfl) rfl
theorem q3157 : (Jvm.Cond.methodLink "LoopSignals" (270 : Nat) ({ cls := "LoopSignals", name := "phaseAt", desc := "(I)LLoopSignals$Phase;" } : Jvm.MethodName)) ∈ lw_all := lw_g (lw_at lw_m13 129 rfl) rfl
theorem q3158 : (Jvm.Cond.privateMethod ({ cls := "LoopSignals", name := "phaseAt", desc := "(I)LLoopSignals$Phase;" } : Jvm.MethodName)) ∈ lw_tbl := lw_at lw_m13 130 rfl
theorem q3159 : (Jvm.Cond.instanceMethod ({ cls := "LoopSignals", name := "phaseAt", desc := "(I)LLoopSignals$Phase;" } : Jvm.MethodName)) ∈ lw_all := lw_g (lw_at lw_m13 131 rfl) rfl
theorem q3160 : (Jvm.Cond.code ({ cls := "LoopSignals", name := "phaseAt", desc := "(I)LLoopSignals$Phase;" } : Jvm.MethodName) prog_1_method_13_code (2 : Nat) (Option.some (Jvm.ClassFile.FieldType.object "LoopSignals$Phase"))) ∈ lw_all := lw_g (lw_at lw_m13 132 rfl) rfl
theorem q3161 : (Jvm.Cond.methodLink "LoopSignals" (172 : Nat) ({ cls := "LoopSignals$Junction", name := "phase", desc := "(I)LLoopSignals$Phase;" } : Jvm.MethodName)) ∈ lw_all := lw_g (lw_at lw_m13 133 rfl) rfl
theorem q3162 : (Jvm.Cond.static ({ cls := "LoopSignals", name := "lambda$phase$24", desc := "(LLoopSignals$Phase;)I" } : Jvm.MethodName)) ∈ lw_all := lw_g (lw_at lw_m13 134 rfl) rfl
theorem q3163 : (Jvm.Cond.code ({ cls := "LoopSignals", name := "lambda$phase$24", desc := "(LLoopSignals$Phase;)I" } : Jvm.MethodName) prog_1_method_70_code (1 : Nat) (Option.some Jvm.ClassFile.FieldType.int)) ∈ lw_all := lw_g (lw_at lw_m13 135 rfl) rfl
theorem q3164 : (Jvm.Cond.static ({ cls := "LoopSignals", name := "lambda$phase$25", desc := "(LLoopSignals$Phase;)I" } : Jvm.MethodName)) ∈ lw_all := lw_g (lw_at lw_m13 136 rfl) rfl
theorem q3165 : (Jvm.Cond.code ({ cls := "LoopSignals", name := "lambda$phase$25", desc := "(LLoopSignals$Phase;)I" } : Jvm.MethodName) prog_1_method_69_code (1 : Nat) (Option.some Jvm.ClassFile.FieldType.int)) ∈ lw_all := lw_g (lw_at lw_m13 137 rfl) rfl
theorem q3166 : (Jvm.Cond.static ({ cls := "LoopSignals", name := "lambda$phase$26", desc := "(LLoopSignals$Phase;)I" } : Jvm.MethodName)) ∈ lw_all := lw_g (lw_at lw_m13 138 rfl) rfl
theorem q3167 : (Jvm.Cond.code ({ cls := "LoopSignals", name := "lambda$phase$26", desc := "(LLoopSignals$Phase;)I" } : Jvm.MethodName) prog_1_method_68_code (1 : Nat) (Option.some Jvm.ClassFile.FieldType.int)) ∈ lw_all := lw_g (lw_at lw_m13 139 rfl) rfl
theorem q3168 : (Jvm.Cond.methodLink "LoopSignals" (468 : Nat) ({ cls := "java/util/BitSet", name := "cardinality", desc := "()I" } : Jvm.MethodName)) ∈ lw_all := lw_g (lw_at lw_m13 140 rfl) rfl
theorem q3178 : (Jvm.Cond.static ({ cls := "LoopSignals", name := "lambda$phase$27", desc := "(LLoopSignals$Phase;)I" } : Jvm.MethodName)) ∈ lw_all := lw_g (lw_at lw_m13 150 rfl) rfl
theorem q3179 : (Jvm.Cond.code ({ cls := "LoopSignals", name := "lambda$phase$27", desc := "(LLoopSignals$Phase;)I" } : Jvm.MethodName) prog_1_method_67_code (1 : Nat) (Option.some Jvm.ClassFile.FieldType.int)) ∈ lw_all := lw_g (lw_at lw_m13 151 rfl) rfl
theorem q3180 : (Jvm.Cond.static ({ cls := "LoopSignals", name := "lambda$phase$28", desc := "(LLoopSignals$Junction;I)I" } : Jvm.MethodName)) ∈ lw_all := lw_g (lw_at lw_m13 152 rfl) rfl
theorem q3181 : (Jvm.Cond.code ({ cls := "LoopSignals", name := "lambda$phase$28", desc := "(LLoopSignals$Junction;I)I" } : Jvm.MethodName) prog_1_method_66_code (2 : Nat) (Option.some Jvm.ClassFile.FieldType.int)) ∈ lw_all := lw_g (lw_at lw_m13 153 rfl) rfl
theorem q3182 : (Jvm.Cond.methodLink "LoopSignals" (461 : Nat) ({ cls := "LoopSignals$Junction", name := "isWanted", desc := "(I)Z" } : Jvm.MethodName)) ∈ lw_all := lw_g (lw_at lw_m13 154 rfl) rfl
theorem q3183 : (Jvm.Cond.static ({ cls := "LoopSignals", name := "lambda$phase$29", desc := "(LLoopSignals$Junction;I)I" } : Jvm.MethodName)) ∈ lw_all := lw_g (lw_at lw_m13 155 rfl) rfl
theorem q3184 : (Jvm.Cond.code ({ cls := "LoopSignals", name := "lambda$phase$29", desc := "(LLoopSignals$Junction;I)I" } : Jvm.MethodName) prog_1_method_65_code (2 : Nat) (Option.some Jvm.ClassFile.FieldType.int)) ∈ lw_all := lw_g (lw_at lw_m13 156 rfl) rfl
theorem q3185 : (Jvm.Cond.methodLink "LoopSignals" (458 : Nat) ({ cls := "LoopSignals$Junction", name := "cars", desc := "(I)I" } : Jvm.MethodName)) ∈ lw_all := lw_g (lw_at lw_m13 157 rfl) rfl
theorem q3186 : (Jvm.Cond.static ({ cls := "LoopSignals", name := "lambda$phase$30", desc := "(LLoopSignals$Phase;)I" } : Jvm.MethodName)) ∈ lw_all := lw_g (lw_at lw_m13 158 rfl) rfl
theorem q3187 : (Jvm.Cond.code ({ cls := "LoopSignals", name := "lambda$phase$30", desc := "(LLoopSignals$Phase;)I" } : Jvm.MethodName) prog_1_method_64_code (1 : Nat) (Option.some Jvm.ClassFile.FieldType.int)) ∈ lw_all := lw_g (lw_at lw_m13 159 rfl) rfl
theorem q3192 : (Jvm.Cond.instanceMethod ({ cls := "LoopSignals", name := "has", desc := "(II)Z" } : Jvm.MethodName)) ∈ lw_all := lw_g (lw_at lw_m13 164 rfl) rfl
theorem q3193 : (Jvm.Cond.selects "LoopSignals" ({ cls := "LoopSignals", name := "has", desc := "(II)Z" } : Jvm.MethodName) ({ cls := "LoopSignals", name := "has", desc := "(II)Z" } : Jvm.MethodName)) ∈ lw_all := lw_g (lw_at lw_m13 165 rfl) rfl
theorem q3194 : (Jvm.Cond.code ({ cls := "LoopSignals", name := "has", desc := "(II)Z" } : Jvm.MethodName) prog_1_method_25_code (5 : Nat) (Option.some Jvm.ClassFile.FieldType.boolean)) ∈ lw_all := lw_g (lw_at lw_m13 166 rfl) rfl
theorem q3195 : (Jvm.Cond.methodLink "LoopSignals" (282 : Nat) ({ cls := "LoopSignals$Phase", name := "has", desc := "(I)Z" } : Jvm.MethodName)) ∈ lw_all := lw_g (lw_at lw_m13 167 rfl) rfl
theorem q3200 : (Jvm.Cond.instanceMethod ({ cls := "LoopSignals", name := "doClash", desc := "(II)Z" } : Jvm.MethodName)) ∈ lw_all := lw_g (lw_at lw_m13 172 rfl) rfl
theorem q3201 : (Jvm.Cond.selects "LoopSignals" ({ cls := "LoopSignals", name := "doClash", desc := "(II)Z" } : Jvm.MethodName) ({ cls := "LoopSignals", name := "doClash", desc := "(II)Z" } : Jvm.MethodName)) ∈ lw_all := lw_g (lw_at lw_m13 173 rfl) rfl
theorem q3202 : (Jvm.Cond.code ({ cls := "LoopSignals", name := "doClash", desc := "(II)Z" } : Jvm.MethodName) prog_1_method_26_code (5 : Nat) (Option.some Jvm.ClassFile.FieldType.boolean)) ∈ lw_all := lw_g (lw_at lw_m13 174 rfl) rfl
theorem q3203 : (Jvm.Cond.methodLink "LoopSignals" (286 : Nat) ({ cls := "LoopSignals$Junction", name := "doClash", desc := "(II)Z" } : Jvm.MethodName)) ∈ lw_all := lw_g (lw_at lw_m13 175 rfl) rfl
theorem q3208 : (Jvm.Cond.instanceMethod ({ cls := "LoopSignals", name := "car", desc := "(II)I" } : Jvm.MethodName)) ∈ lw_all := lw_g (lw_at lw_m13 180 rfl) rfl
theorem q3209 : (Jvm.Cond.selects "LoopSignals" ({ cls := "LoopSignals", name := "car", desc := "(II)I" } : Jvm.MethodName) ({ cls := "LoopSignals", name := "car", desc := "(II)I" } : Jvm.MethodName)) ∈ lw_all := lw_g (lw_at lw_m13 181 rfl) rfl
theorem q3210 : (Jvm.Cond.code ({ cls := "LoopSignals", name := "car", desc := "(II)I" } : Jvm.MethodName) prog_1_method_27_code (3 : Nat) (Option.some Jvm.ClassFile.FieldType.int)) ∈ lw_all := lw_g (lw_at lw_m13 182 rfl) rfl
theorem q3215 : (Jvm.Cond.instanceMethod ({ cls := "LoopSignals", name := "letter", desc := "(II)I" } : Jvm.MethodName)) ∈ lw_all := lw_g (lw_at lw_m13 187 rfl) rfl
theorem q3216 : (Jvm.Cond.selects "LoopSignals" ({ cls := "LoopSignals", name := "letter", desc := "(II)I" } : Jvm.MethodName) ({ cls := "LoopSignals", name := "letter", desc := "(II)I" } : Jvm.MethodName)) ∈ lw_all := lw_g (lw_at lw_m13 188 rfl) rfl
theorem q3217 : (Jvm.Cond.code ({ cls := "LoopSignals", name := "letter", desc := "(II)I" } : Jvm.MethodName) prog_1_method_28_code (4 : Nat) (Option.some Jvm.ClassFile.FieldType.int)) ∈ lw_all := lw_g (lw_at lw_m13 189 rfl) rfl
theorem q3222 : (Jvm.Cond.instanceMethod ({ cls := "LoopSignals", name := "why", desc := "(II)I" } : Jvm.MethodName)) ∈ lw_all := lw_g (lw_at lw_m13 194 rfl) rfl
theorem q3223 : (Jvm.Cond.selects "LoopSignals" ({ cls := "LoopSignals", name := "why", desc := "(II)I" } : Jvm.MethodName) ({ cls := "LoopSignals", name := "why", desc := "(II)I" } : Jvm.MethodName)) ∈ lw_all := lw_g (lw_at lw_m13 195 rfl) rfl
theorem q3224 : (Jvm.Cond.code ({ cls := "LoopSignals", name := "why", desc := "(II)I" } : Jvm.MethodName) prog_1_method_30_code (4 : Nat) (Option.some Jvm.ClassFile.FieldType.int)) ∈ lw_all := lw_g (lw_at lw_m13 196 rfl) rfl
theorem q3225 : (Jvm.Cond.methodLink "LoopSignals" (321 : Nat) ({ cls := "LoopSignals$Junction", name := "why", desc := "(I)I" } : Jvm.MethodName)) ∈ lw_all := lw_g (lw_at lw_m13 197 rfl) rfl
theorem q3237 : (Jvm.Cond.methodLink "LoopSignals" (324 : Nat) ({ cls := "LoopSignals$Junction", name := "cause", desc := "(I)I" } : Jvm.MethodName)) ∈ lw_all := lw_g (lw_at lw_m13 209 rfl) rfl
theorem q3246 : (Jvm.Cond.instanceMethod ({ cls := "LoopSignals", name := "account", desc := "(I)I" } : Jvm.MethodName)) ∈ lw_all := lw_g (lw_at lw_m13 218 rfl) rfl
theorem q3247 : (Jvm.Cond.selects "LoopSignals" ({ cls := "LoopSignals", name := "account", desc := "(I)I" } : Jvm.MethodName) ({ cls := "LoopSignals", name := "account", desc := "(I)I" } : Jvm.MethodName)) ∈ lw_all := lw_g (lw_at lw_m13 219 rfl) rfl
theorem q3248 : (Jvm.Cond.code ({ cls := "LoopSignals", name := "account", desc := "(I)I" } : Jvm.MethodName) prog_1_method_31_code (2 : Nat) (Option.some Jvm.ClassFile.FieldType.int)) ∈ lw_all := lw_g (lw_at lw_m13 220 rfl) rfl
theorem q3249 : (Jvm.Cond.constantLong "LoopSignals" (327 : Nat) (7 : Int64)) ∈ lw_all := lw_g (lw_at lw_m13 221 rfl) rfl
theorem q3254 : (Jvm.Cond.instanceMethod ({ cls := "LoopSignals", name := "greenBits", desc := "(I)I" } : Jvm.MethodName)) ∈ lw_all := lw_g (lw_at lw_m13 226 rfl) rfl
theorem q3255 : (Jvm.Cond.selects "LoopSignals" ({ cls := "LoopSignals", name := "greenBits", desc := "(I)I" } : Jvm.MethodName) ({ cls := "LoopSignals", name := "greenBits", desc := "(I)I" } : Jvm.MethodName)) ∈ lw_all := lw_g (lw_at lw_m13 227 rfl) rfl
theorem q3256 : (Jvm.Cond.code ({ cls := "LoopSignals", name := "greenBits", desc := "(I)I" } : Jvm.MethodName) prog_1_method_34_code (3 : Nat) (Option.some Jvm.ClassFile.FieldType.int)) ∈ lw_all := lw_g (lw_at lw_m13 228 rfl) rfl
theorem q3257 : (Jvm.Cond.methodLink "LoopSignals" (341 : Nat) ({ cls := "java/lang/Float", name := "floatToIntBits", desc := "(F)I" } : Jvm.MethodName)) ∈ lw_all := lw_g (lw_at lw_m13 229 rfl) rfl
theorem q3267 : (Jvm.Cond.instanceMethod ({ cls := "LoopSignals", name := "greenIn", desc := "(I)I" } : Jvm.MethodName)) ∈ lw_all := lw_g (lw_at lw_m13 239 rfl) rfl
theorem q3268 : (Jvm.Cond.selects "LoopSignals" ({ cls := "LoopSignals", name := "greenIn", desc := "(I)I" } : Jvm.MethodName) ({ cls := "LoopSignals", name := "greenIn", desc := "(I)I" } : Jvm.MethodName)) ∈ lw_all := lw_g (lw_at lw_m14 0 rfl) rfl
theorem q3269 : (Jvm.Cond.code ({ cls := "LoopSignals", name := "greenIn", desc := "(I)I" } : Jvm.MethodName) prog_1_method_35_code (5 : Nat) (Option.some Jvm.ClassFile.FieldType.int)) ∈ lw_all := lw_g (lw_at lw_m14 1 rfl) rfl
theorem q3274 : (Jvm.Cond.instanceMethod ({ cls := "LoopSignals", name := "ifRule", desc := "(III)I" } : Jvm.MethodName)) ∈ lw_all := lw_g (lw_at lw_m14 6 rfl) rfl
theorem q3275 : (Jvm.Cond.selects "LoopSignals" ({ cls := "LoopSignals", name := "ifRule", desc := "(III)I" } : Jvm.MethodName) ({ cls := "LoopSignals", name := "ifRule", desc := "(III)I" } : Jvm.MethodName)) ∈ lw_all := lw_g (lw_at lw_m14 7 rfl) rfl
theorem q3276 : (Jvm.Cond.code ({ cls := "LoopSignals", name := "ifRule", desc := "(III)I" } : Jvm.MethodName) prog_1_method_38_code (4 : Nat) (Option.some Jvm.ClassFile.FieldType.int)) ∈ lw_all := lw_g (lw_at lw_m14 8 rfl) rfl
theorem q3277 : (Jvm.Cond.constantLong "LoopSignals" (364 : Nat) (2 : Int64)) ∈ lw_all := lw_g (lw_at lw_m14 9 rfl) rfl
theorem q3278 : (Jvm.Cond.methodLink "LoopSignals" (366 : Nat) ({ cls := "LoopSignals", name := "aheadIs", desc := "(I)V" } : Jvm.MethodName)) ∈ lw_all := lw_g (lw_at lw_m14 10 rfl) rfl
theorem q3279 : (Jvm.Cond.static ({ cls := "LoopSignals", name := "aheadIs", desc := "(I)V" } : Jvm.MethodName)) ∈ lw_all := lw_g (lw_at lw_m14 11 rfl) rfl
theorem q3280 : (Jvm.Cond.code ({ cls := "LoopSignals", name := "aheadIs", desc := "(I)V" } : Jvm.MethodName) prog_1_method_14_code (1 : Nat) (Option.none : Option Jvm.ClassFile.FieldType)) ∈ lw_all := lw_g (lw_at lw_m14 12 rfl) rfl
theorem q3281 : (Jvm.Cond.constantLong "LoopSignals" (175 : Nat) (500 : Int64)) ∈ lw_all := lw_g (lw_at lw_m14 13 rfl) rfl
theorem q3282 : (Jvm.Cond.methodLink "LoopSignals" (369 : Nat) ({ cls := "LoopSignals", name := "byRule", desc := "(II)LLoopSignals$Junction;" } : Jvm.MethodName)) ∈ lw_all := lw_g (lw_at lw_m14 14 rfl) rfl
theorem q3283 : (Jvm.Cond.privateMethod ({ cls := "LoopSignals", name := "byRule", desc := "(II)LLoopSignals$Junction;" } : Jvm.MethodName)) ∈ lw_tbl := lw_at lw_m14 15 rfl
theorem q3284 : (Jvm.Cond.instanceMethod ({ cls := "LoopSignals", name := "byRule", desc := "(II)LLoopSignals$Junction;" } : Jvm.MethodName)) ∈ lw_all := lw_g (lw_at lw_m14 16 rfl) rfl
theorem q3285 : (Jvm.Cond.code ({ cls := "LoopSignals", name := "byRule", desc := "(II)LLoopSignals$Junction;" } : Jvm.MethodName) prog_1_method_37_code (5 : Nat) (Option.some (Jvm.ClassFile.FieldType.object "LoopSignals$Junction"))) ∈ lw_all := lw_g (lw_at lw_m14 17 rfl) rfl
theorem q3286 : (Jvm.Cond.methodLink "LoopSignals" (356 : Nat) ({ cls := "LoopSignals$Junction", name := "sets", desc := "(II)I" } : Jvm.MethodName)) ∈ lw_all := lw_g (lw_at lw_m14 18 rfl) rfl
theorem q3287 : (Jvm.Cond.methodLink "LoopSignals" (360 : Nat) ({ cls := "LoopSignals$Junction", name := "behind", desc := "(I)LLoopSignals$Junction;" } : Jvm.MethodName)) ∈ lw_all := lw_g (lw_at lw_m14 19 rfl) rfl
theorem q3292 : (Jvm.Cond.instanceMethod ({ cls := "LoopSignals", name := "bestRule", desc := "(I)I" } : Jvm.MethodName)) ∈ lw_all := lw_g (lw_at lw_m14 24 rfl) rfl
theorem q3293 : (Jvm.Cond.selects "LoopSignals" ({ cls := "LoopSignals", name := "bestRule", desc := "(I)I" } : Jvm.MethodName) ({ cls := "LoopSignals", name := "bestRule", desc := "(I)I" } : Jvm.MethodName)) ∈ lw_all := lw_g (lw_at lw_m14 25 rfl) rfl
theorem q3294 : (Jvm.Cond.code ({ cls := "LoopSignals", name := "bestRule", desc := "(I)I" } : Jvm.MethodName) prog_1_method_39_code (6 : Nat) (Option.some Jvm.ClassFile.FieldType.int)) ∈ lw_all := lw_g (lw_at lw_m14 26 rfl) rfl
theorem q3299 : (Jvm.Cond.instanceMethod ({ cls := "LoopSignals", name := "lightIn", desc := "(II)I" } : Jvm.MethodName)) ∈ lw_all := lw_g (lw_at lw_m14 31 rfl) rfl
theorem q3300 : (Jvm.Cond.selects "LoopSignals" ({ cls := "LoopSignals", name := "lightIn", desc := "(II)I" } : Jvm.MethodName) ({ cls := "LoopSignals", name := "lightIn", desc := "(II)I" } : Jvm.MethodName)) ∈ lw_all := lw_g (lw_at lw_m14 32 rfl) rfl
theorem q3301 : (Jvm.Cond.code ({ cls := "LoopSignals", name := "lightIn", desc := "(II)I" } : Jvm.MethodName) prog_1_method_40_code (4 : Nat) (Option.some Jvm.ClassFile.FieldType.int)) ∈ lw_all := lw_g (lw_at lw_m14 33 rfl) rfl
theorem q3306 : (Jvm.Cond.instanceMethod ({ cls := "LoopSignals", name := "couldJoin", desc := "(I)I" } : Jvm.MethodName)) ∈ lw_all := lw_g (lw_at lw_m14 38 rfl) rfl
theorem q3307 : (Jvm.Cond.selects "LoopSignals" ({ cls := "LoopSignals", name := "couldJoin", desc := "(I)I" } : Jvm.MethodName) ({ cls := "LoopSignals", name := "couldJoin", desc := "(I)I" } : Jvm.MethodName)) ∈ lw_all := lw_g (lw_at lw_m14 39 rfl) rfl
theorem q3308 : (Jvm.Cond.code ({ cls := "LoopSignals", name := "couldJoin", desc := "(I)I" } : Jvm.MethodName) prog_1_method_41_code (4 : Nat) (Option.some Jvm.ClassFile.FieldType.int)) ∈ lw_all := lw_g (lw_at lw_m14 40 rfl) rfl
theorem q3309 : (Jvm.Cond.static ({ cls := "LoopSignals", name := "lambda$couldJoin$31", desc := "(LLoopSignals$Junction;II)Z" } : Jvm.MethodName)) ∈ lw_all := lw_g (lw_at lw_m14 41 rfl) rfl
theorem q3310 : (Jvm.Cond.code ({ cls := "LoopSignals", name := "lambda$couldJoin$31", desc := "(LLoopSignals$Junction;II)Z" } : Jvm.MethodName) prog_1_method_63_code (3 : Nat) (Option.some Jvm.ClassFile.FieldType.boolean)) ∈ lw_all := lw_g (lw_at lw_m14 42 rfl) rfl
theorem q3311 : (Jvm.Cond.methodLink "LoopSignals" (452 : Nat) ({ cls := "LoopSignals$Junction", name := "couldJoin", desc := "(II)Z" } : Jvm.MethodName)) ∈ lw_all := lw_g (lw_at lw_m14 43 rfl) rfl
theorem q3318 : (Jvm.Cond.methodLink "LoopSignals" (377 : Nat) ({ cls := "LoopSignals$Holds", name := "count", desc := "(ILLoopSignals$Holds;)I" } : Jvm.MethodName)) ∈ lw_all := lw_g (lw_at lw_m14 50 rfl) rfl
theorem q3323 : (Jvm.Cond.instanceMethod ({ cls := "LoopSignals", name := "come", desc := "(II)I" } : Jvm.MethodName)) ∈ lw_all := lw_g (lw_at lw_m14 55 rfl) rfl
theorem q3324 : (Jvm.Cond.selects "LoopSignals" ({ cls := "LoopSignals", name := "come", desc := "(II)I" } : Jvm.MethodName) ({ cls := "LoopSignals", name := "come", desc := "(II)I" } : Jvm.MethodName)) ∈ lw_all := lw_g (lw_at lw_m14 56 rfl) rfl
theorem q3325 : (Jvm.Cond.code ({ cls := "LoopSignals", name := "come", desc := "(II)I" } : Jvm.MethodName) prog_1_method_42_code (4 : Nat) (Option.some Jvm.ClassFile.FieldType.int)) ∈ lw_all := lw_g (lw_at lw_m14 57 rfl) rfl
theorem q3326 : (Jvm.Cond.constantLong "LoopSignals" (383 : Nat) (99 : Int64)) ∈ lw_all := lw_g (lw_at lw_m14 58 rfl) rfl
theorem q3327 : (Jvm.Cond.static ({ cls := "LoopSignals", name := "lambda$come$32", desc := "(IILLoopSignals$Junction;)I" } : Jvm.MethodName)) ∈ lw_all := lw_g (lw_at lw_m14 59 rfl) rfl
theorem q3328 : (Jvm.Cond.code ({ cls := "LoopSignals", name := "lambda$come$32", desc := "(IILLoopSignals$Junction;)I" } : Jvm.MethodName) prog_1_method_62_code (3 : Nat) (Option.some Jvm.ClassFile.FieldType.int)) ∈ lw_all := lw_g (lw_at lw_m14 60 rfl) rfl
theorem q3329 : (Jvm.Cond.methodLink "LoopSignals" (449 : Nat) ({ cls := "LoopSignals$Junction", name := "comes", desc := "(II)I" } : Jvm.MethodName)) ∈ lw_all := lw_g (lw_at lw_m14 61 rfl) rfl
theorem q3330 : (Jvm.Cond.methodLink "LoopSignals" (388 : Nat) ({ cls := "LoopSignals", name := "changed", desc := "(LLoopSignals$Act;)I" } : Jvm.MethodName)) ∈ lw_all := lw_g (lw_at lw_m14 62 rfl) rfl
theorem q3331 : (Jvm.Cond.privateMethod ({ cls := "LoopSignals", name := "changed", desc := "(LLoopSignals$Act;)I" } : Jvm.MethodName)) ∈ lw_tbl := lw_at lw_m14 63 rfl
theorem q3332 : (Jvm.Cond.instanceMethod ({ cls := "LoopSignals", name := "changed", desc := "(LLoopSignals$Act;)I" } : Jvm.MethodName)) ∈ lw_all := lw_g (lw_at lw_m14 64 rfl) rfl
theorem q3333 : (Jvm.Cond.code ({ cls := "LoopSignals", name := "changed", desc := "(LLoopSignals$Act;)I" } : Jvm.MethodName) prog_1_method_8_code (4 : Nat) (Option.some Jvm.ClassFile.FieldType.int)) ∈ lw_all := lw_g (lw_at lw_m14 65 rfl) rfl
theorem q3334 : (Jvm.Cond.interfaceEntry "LoopSignals" (127 : Nat)) ∈ lw_tbl := lw_at lw_m14 66 rfl
theorem q3335 : (Jvm.Cond.methodLink "LoopSignals" (127 : Nat) ({ cls := "LoopSignals$Act", name := "on", desc := "(LLoopSignals$Junction;)I" } : Jvm.MethodName)) ∈ lw_all := lw_g (lw_at lw_m14 67 rfl) rfl
theorem q3336 : (Jvm.Cond.methodLink "LoopSignals" (137 : Nat) ({ cls := "LoopSignals", name := "refuses", desc := "(I)I" } : Jvm.MethodName)) ∈ lw_all := lw_g (lw_at lw_m14 68 rfl) rfl
theorem q3341 : (Jvm.Cond.instanceMethod ({ cls := "LoopSignals", name := "pass", desc := "(I)I" } : Jvm.MethodName)) ∈ lw_all := lw_g (lw_at lw_m14 73 rfl) rfl
theorem q3342 : (Jvm.Cond.selects "LoopSignals" ({ cls := "LoopSignals", name := "pass", desc := "(I)I" } : Jvm.MethodName) ({ cls := "LoopSignals", name := "pass", desc := "(I)I" } : Jvm.MethodName)) ∈ lw_all := lw_g (lw_at lw_m14 74 rfl) rfl
theorem q3343 : (Jvm.Cond.code ({ cls := "LoopSignals", name := "pass", desc := "(I)I" } : Jvm.MethodName) prog_1_method_43_code (2 : Nat) (Option.some Jvm.ClassFile.FieldType.int)) ∈ lw_all := lw_g (lw_at lw_m14 75 rfl) rfl
theorem q3344 : (Jvm.Cond.constantLong "LoopSignals" (392 : Nat) (60 : Int64)) ∈ lw_all := lw_g (lw_at lw_m14 76 rfl) rfl
theorem q3345 : (Jvm.Cond.static ({ cls := "LoopSignals", name := "lambda$pass$33", desc := "(ILLoopSignals$Junction;)I" } : Jvm.MethodName)) ∈ lw_all := lw_g (lw_at lw_m14 77 rfl) rfl
theorem q3346 : (Jvm.Cond.code ({ cls := "LoopSignals", name := "lambda$pass$33", desc := "(ILLoopSignals$Junction;)I" } : Jvm.MethodName) prog_1_method_61_code (2 : Nat) (Option.some Jvm.ClassFile.FieldType.int)) ∈ lw_all := lw_g (lw_at lw_m14 78 rfl) rfl
theorem q3347 : (Jvm.Cond.methodLink "LoopSignals" (446 : Nat) ({ cls := "LoopSignals$Junction", name := "passes", desc := "(I)I" } : Jvm.MethodName)) ∈ lw_all := lw_g (lw_at lw_m14 79 rfl) rfl
theorem q3352 : (Jvm.Cond.instanceMethod ({ cls := "LoopSignals", name := "call", desc := "(I)I" } : Jvm.MethodName)) ∈ lw_all := lw_g (lw_at lw_m14 84 rfl) rfl
theorem q3353 : (Jvm.Cond.selects "LoopSignals" ({ cls := "LoopSignals", name := "call", desc := "(I)I" } : Jvm.MethodName) ({ cls := "LoopSignals", name := "call", desc := "(I)I" } : Jvm.MethodName)) ∈ lw_all := lw_g (lw_at lw_m14 85 rfl) rfl
theorem q3354 : (Jvm.Cond.code ({ cls := "LoopSignals", name := "call", desc := "(I)I" } : Jvm.MethodName) prog_1_method_44_code (3 : Nat) (Option.some Jvm.ClassFile.FieldType.int)) ∈ lw_all := lw_g (lw_at lw_m14 86 rfl) rfl
theorem q3355 : (Jvm.Cond.static ({ cls := "LoopSignals", name := "lambda$call$34", desc := "(ILLoopSignals$Junction;)I" } : Jvm.MethodName)) ∈ lw_all := lw_g (lw_at lw_m14 87 rfl) rfl
theorem q3356 : (Jvm.Cond.code ({ cls := "LoopSignals", name := "lambda$call$34", desc := "(ILLoopSignals$Junction;)I" } : Jvm.MethodName) prog_1_method_60_code (2 : Nat) (Option.some Jvm.ClassFile.FieldType.int)) ∈ lw_all := lw_g (lw_at lw_m14 88 rfl) rfl
theorem q3357 : (Jvm.Cond.methodLink "LoopSignals" (443 : Nat) ({ cls := "LoopSignals$Junction", name := "calls", desc := "(I)I" } : Jvm.MethodName)) ∈ lw_all := lw_g (lw_at lw_m14 89 rfl) rfl
theorem q3362 : (Jvm.Cond.instanceMethod ({ cls := "LoopSignals", name := "setBroken", desc := "(IZ)I" } : Jvm.MethodName)) ∈ lw_all := lw_g (lw_at lw_m14 94 rfl) rfl
theorem q3363 : (Jvm.Cond.selects "LoopSignals" ({ cls := "LoopSignals", name := "setBroken", desc := "(IZ)I" } : Jvm.MethodName) ({ cls := "LoopSignals", name := "setBroken", desc := "(IZ)I" } : Jvm.MethodName)) ∈ lw_all := lw_g (lw_at lw_m14 95 rfl) rfl
theorem q3364 : (Jvm.Cond.code ({ cls := "LoopSignals", name := "setBroken", desc := "(IZ)I" } : Jvm.MethodName) prog_1_method_45_code (4 : Nat) (Option.some Jvm.ClassFile.FieldType.int)) ∈ lw_all := lw_g (lw_at lw_m14 96 rfl) rfl
theorem q3365 : (Jvm.Cond.static ({ cls := "LoopSignals", name := "lambda$setBroken$35", desc := "(IZLLoopSignals$Junction;)I" } : Jvm.MethodName)) ∈ lw_all := lw_g (lw_at lw_m14 97 rfl) rfl
theorem q3366 : (Jvm.Cond.code ({ cls := "LoopSignals", name := "lambda$setBroken$35", desc := "(IZLLoopSignals$Junction;)I" } : Jvm.MethodName) prog_1_method_59_code (3 : Nat) (Option.some Jvm.ClassFile.FieldType.int)) ∈ lw_all := lw_g (lw_at lw_m14 98 rfl) rfl
theorem q3367 : (Jvm.Cond.methodLink "LoopSignals" (439 : Nat) ({ cls := "LoopSignals$Junction", name := "breaks", desc := "(IZ)I" } : Jvm.MethodName)) ∈ lw_all := lw_g (lw_at lw_m14 99 rfl) rfl
theorem q3372 : (Jvm.Cond.instanceMethod ({ cls := "LoopSignals", name := "clash", desc := "(IIZ)I" } : Jvm.MethodName)) ∈ lw_all := lw_g (lw_at lw_m14 104 rfl) rfl
theorem q3373 : (Jvm.Cond.selects "LoopSignals" ({ cls := "LoopSignals", name := "clash", desc := "(IIZ)I" } : Jvm.MethodName) ({ cls := "LoopSignals", name := "clash", desc := "(IIZ)I" } : Jvm.MethodName)) ∈ lw_all := lw_g (lw_at lw_m14 105 rfl) rfl
theorem q3374 : (Jvm.Cond.code ({ cls := "LoopSignals", name := "clash", desc := "(IIZ)I" } : Jvm.MethodName) prog_1_method_46_code (6 : Nat) (Option.some Jvm.ClassFile.FieldType.int)) ∈ lw_all := lw_g (lw_at lw_m14 106 rfl) rfl
theorem q3375 : (Jvm.Cond.static ({ cls := "LoopSignals", name := "lambda$clash$36", desc := "(IIZLLoopSignals$Junction;)I" } : Jvm.MethodName)) ∈ lw_all := lw_g (lw_at lw_m14 107 rfl) rfl
theorem q3376 : (Jvm.Cond.code ({ cls := "LoopSignals", name := "lambda$clash$36", desc := "(IIZLLoopSignals$Junction;)I" } : Jvm.MethodName) prog_1_method_58_code (4 : Nat) (Option.some Jvm.ClassFile.FieldType.int)) ∈ lw_all := lw_g (lw_at lw_m14 108 rfl) rfl
theorem q3377 : (Jvm.Cond.methodLink "LoopSignals" (436 : Nat) ({ cls := "LoopSignals$Junction", name := "clashes", desc := "(IIZ)I" } : Jvm.MethodName)) ∈ lw_all := lw_g (lw_at lw_m14 109 rfl) rfl
theorem q3429 : (Jvm.Cond.instanceMethod ({ cls := "LoopSignals", name := "setPhase", desc := "(IZI)I" } : Jvm.MethodName)) ∈ lw_all := lw_g (lw_at lw_m14 161 rfl) rfl
theorem q3430 : (Jvm.Cond.selects "LoopSignals" ({ cls := "LoopSignals", name := "setPhase", desc := "(IZI)I" } : Jvm.MethodName) ({ cls := "LoopSignals", name := "setPhase", desc := "(IZI)I" } : Jvm.MethodName)) ∈ lw_all := lw_g (lw_at lw_m14 162 rfl) rfl
theorem q3431 : (Jvm.Cond.code ({ cls := "LoopSignals", name := "setPhase", desc := "(IZI)I" } : Jvm.MethodName) prog_1_method_47_code (5 : Nat) (Option.some Jvm.ClassFile.FieldType.int)) ∈ lw_all := lw_g (lw_at lw_m14 163 rfl) rfl
theorem q3432 : (Jvm.Cond.static ({ cls := "LoopSignals", name := "lambda$setPhase$37", desc := "(IZILLoopSignals$Junction;)I" } : Jvm.MethodName)) ∈ lw_all := lw_g (lw_at lw_m14 164 rfl) rfl
theorem q3433 : (Jvm.Cond.code ({ cls := "LoopSignals", name := "lambda$setPhase$37", desc := "(IZILLoopSignals$Junction;)I" } : Jvm.MethodName) prog_1_method_57_code (4 : Nat) (Option.some Jvm.ClassFile.FieldType.int)) ∈ lw_all := lw_g (lw_at lw_m14 165 rfl) rfl
theorem q3434 : (Jvm.Cond.methodLink "LoopSignals" (433 : Nat) ({ cls := "LoopSignals$Junction", name := "phases", desc := "(IZI)I" } : Jvm.MethodName)) ∈ lw_all := lw_g (lw_at lw_m14 166 rfl) rfl
theorem q3439 : (Jvm.Cond.instanceMethod ({ cls := "LoopSignals", name := "set", desc := "(II)I" } : Jvm.MethodName)) ∈ lw_all := lw_g (lw_at lw_m14 171 rfl) rfl
theorem q3440 : (Jvm.Cond.selects "LoopSignals" ({ cls := "LoopSignals", name := "set", desc := "(II)I" } : Jvm.MethodName) ({ cls := "LoopSignals", name := "set", desc := "(II)I" } : Jvm.MethodName)) ∈ lw_all := lw_g (lw_at lw_m14 172 rfl) rfl
theorem q3441 : (Jvm.Cond.code ({ cls := "LoopSignals", name := "set", desc := "(II)I" } : Jvm.MethodName) prog_1_method_48_code (3 : Nat) (Option.some Jvm.ClassFile.FieldType.int)) ∈ lw_all := lw_g (lw_at lw_m14 173 rfl) rfl
theorem q3442 : (Jvm.Cond.constantLong "LoopSignals" (407 : Nat) (3 : Int64)) ∈ lw_all := lw_g (lw_at lw_m14 174 rfl) rfl
theorem q3443 : (Jvm.Cond.constantLong "LoopSignals" (409 : Nat) (5 : Int64)) ∈ lw_all := lw_g (lw_at lw_m14 175 rfl) rfl
theorem q3444 : (Jvm.Cond.constantLong "LoopSignals" (411 : Nat) (9 : Int64)) ∈ lw_all := lw_g (lw_at lw_m14 176 rfl) rfl
theorem q3445 : (Jvm.Cond.constantLong "LoopSignals" (413 : Nat) (20 : Int64)) ∈ lw_all := lw_g (lw_at lw_m14 177 rfl) rfl
theorem q3446 : (Jvm.Cond.static ({ cls := "LoopSignals", name := "lambda$set$38", desc := "(IILLoopSignals$Junction;)I" } : Jvm.MethodName)) ∈ lw_all := lw_g (lw_at lw_m14 178 rfl) rfl
theorem q3447 : (Jvm.Cond.code ({ cls := "LoopSignals", name := "lambda$set$38", desc := "(IILLoopSignals$Junction;)I" } : Jvm.MethodName) prog_1_method_56_code (3 : Nat) (Option.some Jvm.ClassFile.FieldType.int)) ∈ lw_all := lw_g (lw_at lw_m14 179 rfl) rfl
theorem q3452 : (Jvm.Cond.instanceMethod ({ cls := "LoopSignals", name := "save", desc := "(I)I" } : Jvm.MethodName)) ∈ lw_all := lw_g (lw_at lw_m14 184 rfl) rfl
theorem q3453 : (Jvm.Cond.selects "LoopSignals" ({ cls := "LoopSignals", name := "save", desc := "(I)I" } : Jvm.MethodName) ({ cls := "LoopSignals", name := "save", desc := "(I)I" } : Jvm.MethodName)) ∈ lw_all := lw_g (lw_at lw_m14 185 rfl) rfl
theorem q3454 : (Jvm.Cond.code ({ cls := "LoopSignals", name := "save", desc := "(I)I" } : Jvm.MethodName) prog_1_method_54_code (2 : Nat) (Option.some Jvm.ClassFile.FieldType.int)) ∈ lw_all := lw_g (lw_at lw_m14 186 rfl) rfl
theorem q3455 : (Jvm.Cond.methodLink "LoopSignals" (427 : Nat) ({ cls := "LoopSignals", name := "slot", desc := "(I)V" } : Jvm.MethodName)) ∈ lw_all := lw_g (lw_at lw_m14 187 rfl) rfl
theorem q3456 : (Jvm.Cond.static ({ cls := "LoopSignals", name := "slot", desc := "(I)V" } : Jvm.MethodName)) ∈ lw_all := lw_g (lw_at lw_m14 188 rfl) rfl
theorem q3457 : (Jvm.Cond.code ({ cls := "LoopSignals", name := "slot", desc := "(I)V" } : Jvm.MethodName) prog_1_method_53_code (1 : Nat) (Option.none : Option Jvm.ClassFile.FieldType)) ∈ lw_all := lw_g (lw_at lw_m14 189 rfl) rfl
theorem q3463 : (Jvm.Cond.instanceMethod ({ cls := "LoopSignals", name := "restore", desc := "(I)I" } : Jvm.MethodName)) ∈ lw_all := lw_g (lw_at lw_m14 195 rfl) rfl
theorem q3464 : (Jvm.Cond.selects "LoopSignals" ({ cls := "LoopSignals", name := "restore", desc := "(I)I" } : Jvm.MethodName) ({ cls := "LoopSignals", name := "restore", desc := "(I)I" } : Jvm.MethodName)) ∈ lw_all := lw_g (lw_at lw_m14 196 rfl) rfl
theorem q3465 : (Jvm.Cond.code ({ cls := "LoopSignals", name := "restore", desc := "(I)I" } : Jvm.MethodName) prog_1_method_55_code (2 : Nat) (Option.some Jvm.ClassFile.FieldType.int)) ∈ lw_all := lw_g (lw_at lw_m14 197 rfl) rfl
theorem q3466 : (Jvm.Cond.methodLink "LoopSignals" (430 : Nat) ({ cls := "LoopSignals", name := "element", desc := "(Z)V" } : Jvm.MethodName)) ∈ lw_all := lw_g (lw_at lw_m14 198 rfl) rfl
theorem q3467 : (Jvm.Cond.static ({ cls := "LoopSignals", name := "element", desc := "(Z)V" } : Jvm.MethodName)) ∈ lw_all := lw_g (lw_at lw_m14 199 rfl) rfl
theorem q3468 : (Jvm.Cond.code ({ cls := "LoopSignals", name := "element", desc := "(Z)V" } : Jvm.MethodName) prog_1_method_10_code (1 : Nat) (Option.none : Option Jvm.ClassFile.FieldType)) ∈ lw_all := lw_g (lw_at lw_m14 200 rfl) rfl
theorem q3469 : (Jvm.Cond.classLink "LoopSignals" (144 : Nat) "java/util/NoSuchElementException") ∈ lw_all := lw_g (lw_at lw_m14 201 rfl) rfl
theorem q3470 : (Jvm.Cond.methodLink "LoopSignals" (146 : Nat) ({ cls := "java/util/NoSuchElementException", name := "<init>", desc := "()V" } : Jvm.MethodName)) ∈ lw_all := lw_g (lw_at lw_m14 202 rfl) rfl
theorem q4091 : (Jvm.Cond.castable "LoopSignals" "java/lang/Object") ∈ lw_tbl := lw_at lw_m17 103 rfl
theorem in_X1 : ∀ w ∈ wsX10, w ∈ lw_all := lw_in wsX10 [2026, 2028, 2030, 2032, 2034, 2036, 2038, 2040, 2042] (by decide +kernel) (by decide +kernel)

