/-! LoopSignalsModel -/
set_option maxRecDepth 100000
def RX7 : String := "LoopSignalsModel"
def TX7 : u_T := fun k => match k with
  | 0 => ("LoopSignalsModel", "now", "[I", true)
  | 1 => ("LoopSignalsModel", "aside", "[I", true)
  | 2 => ("LoopSignalsModel", "reading", "[I", true)
  | 3 => ("LoopSignalsModel", "earlier", "[I", true)
  | 4 => ("LoopSignalsModel", "saved", "[I", true)
  | 5 => ("LoopSignalsModel", "isSaved", "[Z", true)
  | 6 => ("LoopSignalsModel", "undos", "I", false)
  | 7 => ("LoopSignalsModel", "refusals", "I", false)
  | 8 => ("LoopSignalsModel", "thrown", "I", false)
  | 9 => ("LoopSignalsModel", "buffer", "[I", true)
  | 10 => ("LoopSignalsModel", "fed", "I", false)
  | 11 => ("LoopSignalsModel", "errorAt", "I", false)
  | 12 => ("LoopSignalsModel", "spot", "I", false)
  | 13 => ("LoopSignalsModel", "begin", "I", false)
  | 14 => ("LoopSignalsModel", "token", "I", false)
  | 15 => ("LoopSignalsModel", "value", "I", false)
  | 16 => ("LoopSignalsModel", "code", "I", false)
  | 17 => ("LoopSignalsModel", "kinds", "[I", true)
  | 18 => ("LoopSignalsModel", "names", "[I", true)
  | 19 => ("LoopSignalsModel", "ones", "[I", true)
  | 20 => ("LoopSignalsModel", "twos", "[I", true)
  | 21 => ("LoopSignalsModel", "orders", "I", false)
  | 22 => ("LoopSignalsModel", "done", "I", false)
  | 23 => ("LoopSignalsModel", "isScript", "Z", false)
  | 24 => ("LoopSignalsModel", "out", "[I", true)
  | _ => ("LoopSignalsModel", "written", "I", false)
def tyX7 : Nat → FieldType := fun k => match k with
  | 0 => .array .int
  | 1 => .array .int
  | 2 => .array .int
  | 3 => .array .int
  | 4 => .array .int
  | 5 => .array .boolean
  | 6 => .int
  | 7 => .int
  | 8 => .int
  | 9 => .array .int
  | 10 => .int
  | 11 => .int
  | 12 => .int
  | 13 => .int
  | 14 => .int
  | 15 => .int
  | 16 => .int
  | 17 => .array .int
  | 18 => .array .int
  | 19 => .array .int
  | 20 => .array .int
  | 21 => .int
  | 22 => .int
  | 23 => .boolean
  | 24 => .array .int
  | _ => .int
abbrev wsX70 : List Cond := u_ws RX7 TX7 26
set_option maxRecDepth 100000 in
theorem nmX7 : ∀ a, a < 26 → ∀ b, b < 26 → a ≠ b → (TX7 a).2.1 ≠ (TX7 b).2.1 := by decide +kernel
set_option maxRecDepth 100000 in
theorem tyX7_ok : ∀ k, k < 26 → parseFieldDescriptor (TX7 k).2.2.1 = some (tyX7 k) := by decide +kernel
abbrev cX7_init : ByteArray := prog_19_method_1_code
def yX7_init : MethodName := ⟨RX7, "<init>", "()V"⟩
def dkwX7_init_4 : List UInt8 := [42, 16, 30, 188, 10, 181, 0, 45, 42, 17, 1, 244, 188, 10, 181, 0, 48, 42, 18, 51, 182, 0, 53, 177]
abbrev dktX7_init_4 : List UInt8 := dkwX7_init_4 ++ []
def dkwX7_init_3 : List UInt8 := [42, 16, 30, 188, 10, 181, 0, 36, 42, 16, 30, 188, 10, 181, 0, 39, 42, 16, 30, 188, 10, 181, 0, 42]
abbrev dktX7_init_3 : List UInt8 := dkwX7_init_3 ++ dktX7_init_4
def dkwX7_init_2 : List UInt8 := [181, 0, 22, 42, 5, 188, 4, 181, 0, 25, 42, 17, 2, 88, 188, 10, 181, 0, 29, 42, 2, 181, 0, 32]
abbrev dktX7_init_2 : List UInt8 := dkwX7_init_2 ++ dktX7_init_3
def dkwX7_init_1 : List UInt8 := [17, 3, 225, 188, 10, 181, 0, 16, 42, 17, 31, 8, 188, 10, 181, 0, 19, 42, 17, 7, 194, 188, 10]
abbrev dktX7_init_1 : List UInt8 := dkwX7_init_1 ++ dktX7_init_2
def dkwX7_init_0 : List UInt8 := [42, 183, 0, 1, 42, 17, 3, 225, 188, 10, 181, 0, 7, 42, 17, 3, 225, 188, 10, 181, 0, 13, 42]
abbrev dktX7_init_0 : List UInt8 := dkwX7_init_0 ++ dktX7_init_1
theorem dksX7_init_0 : cX7_init.data.toList.drop 0 = dktX7_init_0 := by decide +kernel
theorem dksX7_init_1 : cX7_init.data.toList.drop 23 = dktX7_init_1 := dk_seg dksX7_init_0 23 rfl rfl
theorem dksX7_init_2 : cX7_init.data.toList.drop 46 = dktX7_init_2 := dk_seg dksX7_init_1 23 rfl rfl
theorem dksX7_init_3 : cX7_init.data.toList.drop 70 = dktX7_init_3 := dk_seg dksX7_init_2 24 rfl rfl
theorem dksX7_init_4 : cX7_init.data.toList.drop 94 = dktX7_init_4 := dk_seg dksX7_init_3 24 rfl rfl
theorem dX7_init_0 : decode cX7_init 0 = .ok (.aload_n 0, 1) := dk_42 (dk_at dksX7_init_0 0 rfl rfl)
theorem dX7_init_1 : decode cX7_init 1 = .ok (.invokespecial 1, 3) := dk_183 0 1 (dk_at dksX7_init_0 1 rfl rfl)
theorem dX7_init_4 : decode cX7_init 4 = .ok (.aload_n 0, 1) := dk_42 (dk_at dksX7_init_0 4 rfl rfl)
theorem dX7_init_5 : decode cX7_init 5 = .ok (.sipush 993, 3) := dk_17 3 225 (dk_at dksX7_init_0 5 rfl rfl)
theorem dX7_init_8 : decode cX7_init 8 = .ok (.newarray .int, 2) := dk_188_10 (dk_at dksX7_init_0 8 rfl rfl)
theorem dX7_init_10 : decode cX7_init 10 = .ok (.putfield 7, 3) := dk_181 0 7 (dk_at dksX7_init_0 10 rfl rfl)
theorem dX7_init_13 : decode cX7_init 13 = .ok (.aload_n 0, 1) := dk_42 (dk_at dksX7_init_0 13 rfl rfl)
theorem dX7_init_14 : decode cX7_init 14 = .ok (.sipush 993, 3) := dk_17 3 225 (dk_at dksX7_init_0 14 rfl rfl)
theorem dX7_init_17 : decode cX7_init 17 = .ok (.newarray .int, 2) := dk_188_10 (dk_at dksX7_init_0 17 rfl rfl)
theorem dX7_init_19 : decode cX7_init 19 = .ok (.putfield 13, 3) := dk_181 0 13 (dk_at dksX7_init_0 19 rfl rfl)
theorem dX7_init_22 : decode cX7_init 22 = .ok (.aload_n 0, 1) := dk_42 (dk_at dksX7_init_0 22 rfl rfl)
theorem dX7_init_23 : decode cX7_init 23 = .ok (.sipush 993, 3) := dk_17 3 225 (dk_at dksX7_init_1 0 rfl rfl)
theorem dX7_init_26 : decode cX7_init 26 = .ok (.newarray .int, 2) := dk_188_10 (dk_at dksX7_init_1 3 rfl rfl)
theorem dX7_init_28 : decode cX7_init 28 = .ok (.putfield 16, 3) := dk_181 0 16 (dk_at dksX7_init_1 5 rfl rfl)
theorem dX7_init_31 : decode cX7_init 31 = .ok (.aload_n 0, 1) := dk_42 (dk_at dksX7_init_1 8 rfl rfl)
theorem dX7_init_32 : decode cX7_init 32 = .ok (.sipush 7944, 3) := dk_17 31 8 (dk_at dksX7_init_1 9 rfl rfl)
theorem dX7_init_35 : decode cX7_init 35 = .ok (.newarray .int, 2) := dk_188_10 (dk_at dksX7_init_1 12 rfl rfl)
theorem dX7_init_37 : decode cX7_init 37 = .ok (.putfield 19, 3) := dk_181 0 19 (dk_at dksX7_init_1 14 rfl rfl)
theorem dX7_init_40 : decode cX7_init 40 = .ok (.aload_n 0, 1) := dk_42 (dk_at dksX7_init_1 17 rfl rfl)
theorem dX7_init_41 : decode cX7_init 41 = .ok (.sipush 1986, 3) := dk_17 7 194 (dk_at dksX7_init_1 18 rfl rfl)
theorem dX7_init_44 : decode cX7_init 44 = .ok (.newarray .int, 2) := dk_188_10 (dk_at dksX7_init_1 21 rfl rfl)
theorem dX7_init_46 : decode cX7_init 46 = .ok (.putfield 22, 3) := dk_181 0 22 (dk_at dksX7_init_2 0 rfl rfl)
theorem dX7_init_49 : decode cX7_init 49 = .ok (.aload_n 0, 1) := dk_42 (dk_at dksX7_init_2 3 rfl rfl)
theorem dX7_init_50 : decode cX7_init 50 = .ok (.iconst 2, 1) := dk_5 (dk_at dksX7_init_2 4 rfl rfl)
theorem dX7_init_51 : decode cX7_init 51 = .ok (.newarray .boolean, 2) := dk_188_4 (dk_at dksX7_init_2 5 rfl rfl)
theorem dX7_init_53 : decode cX7_init 53 = .ok (.putfield 25, 3) := dk_181 0 25 (dk_at dksX7_init_2 7 rfl rfl)
theorem dX7_init_56 : decode cX7_init 56 = .ok (.aload_n 0, 1) := dk_42 (dk_at dksX7_init_2 10 rfl rfl)
theorem dX7_init_57 : decode cX7_init 57 = .ok (.sipush 600, 3) := dk_17 2 88 (dk_at dksX7_init_2 11 rfl rfl)
theorem dX7_init_60 : decode cX7_init 60 = .ok (.newarray .int, 2) := dk_188_10 (dk_at dksX7_init_2 14 rfl rfl)
theorem dX7_init_62 : decode cX7_init 62 = .ok (.putfield 29, 3) := dk_181 0 29 (dk_at dksX7_init_2 16 rfl rfl)
theorem dX7_init_65 : decode cX7_init 65 = .ok (.aload_n 0, 1) := dk_42 (dk_at dksX7_init_2 19 rfl rfl)
theorem dX7_init_66 : decode cX7_init 66 = .ok (.iconst (-1), 1) := dk_2 (dk_at dksX7_init_2 20 rfl rfl)
theorem dX7_init_67 : decode cX7_init 67 = .ok (.putfield 32, 3) := dk_181 0 32 (dk_at dksX7_init_2 21 rfl rfl)
theorem dX7_init_70 : decode cX7_init 70 = .ok (.aload_n 0, 1) := dk_42 (dk_at dksX7_init_3 0 rfl rfl)
theorem dX7_init_71 : decode cX7_init 71 = .ok (.bipush 30, 2) := dk_16 30 (dk_at dksX7_init_3 1 rfl rfl)
theorem dX7_init_73 : decode cX7_init 73 = .ok (.newarray .int, 2) := dk_188_10 (dk_at dksX7_init_3 3 rfl rfl)
theorem dX7_init_75 : decode cX7_init 75 = .ok (.putfield 36, 3) := dk_181 0 36 (dk_at dksX7_init_3 5 rfl rfl)
theorem dX7_init_78 : decode cX7_init 78 = .ok (.aload_n 0, 1) := dk_42 (dk_at dksX7_init_3 8 rfl rfl)
theorem dX7_init_79 : decode cX7_init 79 = .ok (.bipush 30, 2) := dk_16 30 (dk_at dksX7_init_3 9 rfl rfl)
theorem dX7_init_81 : decode cX7_init 81 = .ok (.newarray .int, 2) := dk_188_10 (dk_at dksX7_init_3 11 rfl rfl)
theorem dX7_init_83 : decode cX7_init 83 = .ok (.putfield 39, 3) := dk_181 0 39 (dk_at dksX7_init_3 13 rfl rfl)
theorem dX7_init_86 : decode cX7_init 86 = .ok (.aload_n 0, 1) := dk_42 (dk_at dksX7_init_3 16 rfl rfl)
theorem dX7_init_87 : decode cX7_init 87 = .ok (.bipush 30, 2) := dk_16 30 (dk_at dksX7_init_3 17 rfl rfl)
theorem dX7_init_89 : decode cX7_init 89 = .ok (.newarray .int, 2) := dk_188_10 (dk_at dksX7_init_3 19 rfl rfl)
theorem dX7_init_91 : decode cX7_init 91 = .ok (.putfield 42, 3) := dk_181 0 42 (dk_at dksX7_init_3 21 rfl rfl)
theorem dX7_init_94 : decode cX7_init 94 = .ok (.aload_n 0, 1) := dk_42 (dk_at dksX7_init_4 0 rfl rfl)
theorem dX7_init_95 : decode cX7_init 95 = .ok (.bipush 30, 2) := dk_16 30 (dk_at dksX7_init_4 1 rfl rfl)
theorem dX7_init_97 : decode cX7_init 97 = .ok (.newarray .int, 2) := dk_188_10 (dk_at dksX7_init_4 3 rfl rfl)
theorem dX7_init_99 : decode cX7_init 99 = .ok (.putfield 45, 3) := dk_181 0 45 (dk_at dksX7_init_4 5 rfl rfl)
theorem dX7_init_102 : decode cX7_init 102 = .ok (.aload_n 0, 1) := dk_42 (dk_at dksX7_init_4 8 rfl rfl)
theorem dX7_init_103 : decode cX7_init 103 = .ok (.sipush 500, 3) := dk_17 1 244 (dk_at dksX7_init_4 9 rfl rfl)
theorem dX7_init_106 : decode cX7_init 106 = .ok (.newarray .int, 2) := dk_188_10 (dk_at dksX7_init_4 12 rfl rfl)
theorem dX7_init_108 : decode cX7_init 108 = .ok (.putfield 48, 3) := dk_181 0 48 (dk_at dksX7_init_4 14 rfl rfl)
theorem dX7_init_111 : decode cX7_init 111 = .ok (.aload_n 0, 1) := dk_42 (dk_at dksX7_init_4 17 rfl rfl)
theorem dX7_init_112 : decode cX7_init 112 = .ok (.ldc 51, 2) := dk_18 51 (dk_at dksX7_init_4 18 rfl rfl)
theorem dX7_init_114 : decode cX7_init 114 = .ok (.invokevirtual 53, 3) := dk_182 0 53 (dk_at dksX7_init_4 20 rfl rfl)
theorem dX7_init_117 : decode cX7_init 117 = .ok (.return_, 1) := dk_177 (dk_at dksX7_init_4 23 rfl rfl)
abbrev cX7_lays : ByteArray := prog_19_method_2_code
def yX7_lays : MethodName := ⟨RX7, "lays", "(Ljava/lang/String;)V"⟩
def dkwX7_lays_2 : List UInt8 := [182, 0, 73, 42, 3, 181, 0, 67, 177]
abbrev dktX7_lays_2 : List UInt8 := dkwX7_lays_2 ++ []
def dkwX7_lays_1 : List UInt8 := [167, 255, 234, 42, 43, 182, 0, 57, 181, 0, 67, 42, 180, 0, 7, 16, 7, 2, 79, 42, 182, 0, 70, 42]
abbrev dktX7_lays_1 : List UInt8 := dkwX7_lays_1 ++ dktX7_lays_2
def dkwX7_lays_0 : List UInt8 := [3, 61, 28, 43, 182, 0, 57, 162, 0, 20, 42, 180, 0, 29, 28, 43, 28, 182, 0, 63, 79, 132, 2, 1]
abbrev dktX7_lays_0 : List UInt8 := dkwX7_lays_0 ++ dktX7_lays_1
theorem dksX7_lays_0 : cX7_lays.data.toList.drop 0 = dktX7_lays_0 := by decide +kernel
theorem dksX7_lays_1 : cX7_lays.data.toList.drop 24 = dktX7_lays_1 := dk_seg dksX7_lays_0 24 rfl rfl
theorem dksX7_lays_2 : cX7_lays.data.toList.drop 48 = dktX7_lays_2 := dk_seg dksX7_lays_1 24 rfl rfl
theorem dX7_lays_0 : decode cX7_lays 0 = .ok (.iconst 0, 1) := dk_3 (dk_at dksX7_lays_0 0 rfl rfl)
theorem dX7_lays_1 : decode cX7_lays 1 = .ok (.istore_n 2, 1) := dk_61 (dk_at dksX7_lays_0 1 rfl rfl)
theorem dX7_lays_2 : decode cX7_lays 2 = .ok (.iload_n 2, 1) := dk_28 (dk_at dksX7_lays_0 2 rfl rfl)
theorem dX7_lays_3 : decode cX7_lays 3 = .ok (.aload_n 1, 1) := dk_43 (dk_at dksX7_lays_0 3 rfl rfl)
theorem dX7_lays_4 : decode cX7_lays 4 = .ok (.invokevirtual 57, 3) := dk_182 0 57 (dk_at dksX7_lays_0 4 rfl rfl)
theorem dX7_lays_7 : decode cX7_lays 7 = .ok (.if_icmp .ge 20, 3) := dk_162 0 20 (dk_at dksX7_lays_0 7 rfl rfl)
theorem dX7_lays_10 : decode cX7_lays 10 = .ok (.aload_n 0, 1) := dk_42 (dk_at dksX7_lays_0 10 rfl rfl)
theorem dX7_lays_11 : decode cX7_lays 11 = .ok (.getfield 29, 3) := dk_180 0 29 (dk_at dksX7_lays_0 11 rfl rfl)
theorem dX7_lays_14 : decode cX7_lays 14 = .ok (.iload_n 2, 1) := dk_28 (dk_at dksX7_lays_0 14 rfl rfl)
theorem dX7_lays_15 : decode cX7_lays 15 = .ok (.aload_n 1, 1) := dk_43 (dk_at dksX7_lays_0 15 rfl rfl)
theorem dX7_lays_16 : decode cX7_lays 16 = .ok (.iload_n 2, 1) := dk_28 (dk_at dksX7_lays_0 16 rfl rfl)
theorem dX7_lays_17 : decode cX7_lays 17 = .ok (.invokevirtual 63, 3) := dk_182 0 63 (dk_at dksX7_lays_0 17 rfl rfl)
theorem dX7_lays_20 : decode cX7_lays 20 = .ok (.iastore, 1) := dk_79 (dk_at dksX7_lays_0 20 rfl rfl)
theorem dX7_lays_21 : decode cX7_lays 21 = .ok (.iinc 2 1, 3) := dk_132 2 1 (dk_at dksX7_lays_0 21 rfl rfl)
theorem dX7_lays_24 : decode cX7_lays 24 = .ok (.goto (-22), 3) := dk_167 255 234 (dk_at dksX7_lays_1 0 rfl rfl)
theorem dX7_lays_27 : decode cX7_lays 27 = .ok (.aload_n 0, 1) := dk_42 (dk_at dksX7_lays_1 3 rfl rfl)
theorem dX7_lays_28 : decode cX7_lays 28 = .ok (.aload_n 1, 1) := dk_43 (dk_at dksX7_lays_1 4 rfl rfl)
theorem dX7_lays_29 : decode cX7_lays 29 = .ok (.invokevirtual 57, 3) := dk_182 0 57 (dk_at dksX7_lays_1 5 rfl rfl)
theorem dX7_lays_32 : decode cX7_lays 32 = .ok (.putfield 67, 3) := dk_181 0 67 (dk_at dksX7_lays_1 8 rfl rfl)
theorem dX7_lays_35 : decode cX7_lays 35 = .ok (.aload_n 0, 1) := dk_42 (dk_at dksX7_lays_1 11 rfl rfl)
theorem dX7_lays_36 : decode cX7_lays 36 = .ok (.getfield 7, 3) := dk_180 0 7 (dk_at dksX7_lays_1 12 rfl rfl)
theorem dX7_lays_39 : decode cX7_lays 39 = .ok (.bipush 7, 2) := dk_16 7 (dk_at dksX7_lays_1 15 rfl rfl)
theorem dX7_lays_41 : decode cX7_lays 41 = .ok (.iconst (-1), 1) := dk_2 (dk_at dksX7_lays_1 17 rfl rfl)
theorem dX7_lays_42 : decode cX7_lays 42 = .ok (.iastore, 1) := dk_79 (dk_at dksX7_lays_1 18 rfl rfl)
theorem dX7_lays_43 : decode cX7_lays 43 = .ok (.aload_n 0, 1) := dk_42 (dk_at dksX7_lays_1 19 rfl rfl)
theorem dX7_lays_44 : decode cX7_lays 44 = .ok (.invokevirtual 70, 3) := dk_182 0 70 (dk_at dksX7_lays_1 20 rfl rfl)
theorem dX7_lays_47 : decode cX7_lays 47 = .ok (.aload_n 0, 1) := dk_42 (dk_at dksX7_lays_1 23 rfl rfl)
theorem dX7_lays_48 : decode cX7_lays 48 = .ok (.invokevirtual 73, 3) := dk_182 0 73 (dk_at dksX7_lays_2 0 rfl rfl)
theorem dX7_lays_51 : decode cX7_lays 51 = .ok (.aload_n 0, 1) := dk_42 (dk_at dksX7_lays_2 3 rfl rfl)
theorem dX7_lays_52 : decode cX7_lays 52 = .ok (.iconst 0, 1) := dk_3 (dk_at dksX7_lays_2 4 rfl rfl)
theorem dX7_lays_53 : decode cX7_lays 53 = .ok (.putfield 67, 3) := dk_181 0 67 (dk_at dksX7_lays_2 5 rfl rfl)
theorem dX7_lays_56 : decode cX7_lays 56 = .ok (.return_, 1) := dk_177 (dk_at dksX7_lays_2 8 rfl rfl)
abbrev cX7_starts : ByteArray := prog_19_method_39_code
def yX7_starts : MethodName := ⟨RX7, "starts", "()V"⟩
def dkwX7_starts_0 : List UInt8 := [42, 3, 181, 0, 159, 42, 3, 181, 0, 174, 42, 2, 181, 0, 32, 42, 182, 0, 177, 177]
abbrev dktX7_starts_0 : List UInt8 := dkwX7_starts_0 ++ []
theorem dksX7_starts_0 : cX7_starts.data.toList.drop 0 = dktX7_starts_0 := by decide +kernel
theorem dX7_starts_0 : decode cX7_starts 0 = .ok (.aload_n 0, 1) := dk_42 (dk_at dksX7_starts_0 0 rfl rfl)
theorem dX7_starts_1 : decode cX7_starts 1 = .ok (.iconst 0, 1) := dk_3 (dk_at dksX7_starts_0 1 rfl rfl)
theorem dX7_starts_2 : decode cX7_starts 2 = .ok (.putfield 159, 3) := dk_181 0 159 (dk_at dksX7_starts_0 2 rfl rfl)
theorem dX7_starts_5 : decode cX7_starts 5 = .ok (.aload_n 0, 1) := dk_42 (dk_at dksX7_starts_0 5 rfl rfl)
theorem dX7_starts_6 : decode cX7_starts 6 = .ok (.iconst 0, 1) := dk_3 (dk_at dksX7_starts_0 6 rfl rfl)
theorem dX7_starts_7 : decode cX7_starts 7 = .ok (.putfield 174, 3) := dk_181 0 174 (dk_at dksX7_starts_0 7 rfl rfl)
theorem dX7_starts_10 : decode cX7_starts 10 = .ok (.aload_n 0, 1) := dk_42 (dk_at dksX7_starts_0 10 rfl rfl)
theorem dX7_starts_11 : decode cX7_starts 11 = .ok (.iconst (-1), 1) := dk_2 (dk_at dksX7_starts_0 11 rfl rfl)
theorem dX7_starts_12 : decode cX7_starts 12 = .ok (.putfield 32, 3) := dk_181 0 32 (dk_at dksX7_starts_0 12 rfl rfl)
theorem dX7_starts_15 : decode cX7_starts 15 = .ok (.aload_n 0, 1) := dk_42 (dk_at dksX7_starts_0 15 rfl rfl)
theorem dX7_starts_16 : decode cX7_starts 16 = .ok (.invokevirtual 177, 3) := dk_182 0 177 (dk_at dksX7_starts_0 16 rfl rfl)
theorem dX7_starts_19 : decode cX7_starts 19 = .ok (.return_, 1) := dk_177 (dk_at dksX7_starts_0 19 rfl rfl)
abbrev cX7_goes : ByteArray := prog_19_method_38_code
def yX7_goes : MethodName := ⟨RX7, "goes", "()V"⟩
def dkwX7_goes_10 : List UInt8 := [177]
abbrev dktX7_goes_10 : List UInt8 := dkwX7_goes_10 ++ []
def dkwX7_goes_9 : List UInt8 := [27, 16, 41, 160, 0, 7, 6, 167, 0, 4, 7, 181, 0, 168, 42, 89, 180, 0, 159, 4, 96, 181, 0, 159]
abbrev dktX7_goes_9 : List UInt8 := dkwX7_goes_9 ++ dktX7_goes_10
def dkwX7_goes_8 : List UInt8 := [180, 0, 159, 4, 96, 181, 0, 159, 167, 255, 199, 42, 27, 16, 59, 159, 0, 15, 27, 16, 40, 159, 0, 9]
abbrev dktX7_goes_8 : List UInt8 := dkwX7_goes_8 ++ dktX7_goes_9
def dkwX7_goes_7 : List UInt8 := [180, 0, 171, 104, 42, 42, 180, 0, 159, 182, 0, 162, 96, 16, 48, 100, 184, 0, 102, 181, 0, 171, 42, 89]
abbrev dktX7_goes_7 : List UInt8 := dkwX7_goes_7 ++ dktX7_goes_8
def dkwX7_goes_6 : List UInt8 := [180, 0, 159, 182, 0, 162, 16, 48, 16, 57, 184, 0, 83, 153, 0, 82, 42, 17, 3, 232, 16, 10, 42]
abbrev dktX7_goes_6 : List UInt8 := dkwX7_goes_6 ++ dktX7_goes_7
def dkwX7_goes_5 : List UInt8 := [16, 48, 16, 57, 184, 0, 83, 153, 0, 73, 42, 5, 181, 0, 168, 42, 3, 181, 0, 171, 42, 42]
abbrev dktX7_goes_5 : List UInt8 := dkwX7_goes_5 ++ dktX7_goes_6
def dkwX7_goes_4 : List UInt8 := [16, 97, 16, 122, 184, 0, 83, 153, 0, 134, 42, 89, 180, 0, 159, 4, 96, 181, 0, 159, 167, 255, 228, 27]
abbrev dktX7_goes_4 : List UInt8 := dkwX7_goes_4 ++ dktX7_goes_5
def dkwX7_goes_3 : List UInt8 := [16, 97, 16, 122, 184, 0, 83, 153, 0, 39, 42, 4, 181, 0, 168, 42, 42, 180, 0, 159, 182, 0, 162]
abbrev dktX7_goes_3 : List UInt8 := dkwX7_goes_3 ++ dktX7_goes_4
def dkwX7_goes_2 : List UInt8 := [42, 42, 180, 0, 159, 182, 0, 162, 60, 27, 2, 160, 0, 11, 42, 3, 181, 0, 168, 167, 0, 168, 27]
abbrev dktX7_goes_2 : List UInt8 := dkwX7_goes_2 ++ dktX7_goes_3
def dkwX7_goes_1 : List UInt8 := [160, 0, 16, 42, 89, 180, 0, 159, 4, 96, 181, 0, 159, 167, 255, 220, 42, 42, 180, 0, 159, 181, 0, 165]
abbrev dktX7_goes_1 : List UInt8 := dkwX7_goes_1 ++ dktX7_goes_2
def dkwX7_goes_0 : List UInt8 := [42, 42, 180, 0, 159, 182, 0, 162, 16, 32, 159, 0, 16, 42, 42, 180, 0, 159, 182, 0, 162, 16, 10]
abbrev dktX7_goes_0 : List UInt8 := dkwX7_goes_0 ++ dktX7_goes_1
theorem dksX7_goes_0 : cX7_goes.data.toList.drop 0 = dktX7_goes_0 := by decide +kernel
theorem dksX7_goes_1 : cX7_goes.data.toList.drop 23 = dktX7_goes_1 := dk_seg dksX7_goes_0 23 rfl rfl
theorem dksX7_goes_2 : cX7_goes.data.toList.drop 47 = dktX7_goes_2 := dk_seg dksX7_goes_1 24 rfl rfl
theorem dksX7_goes_3 : cX7_goes.data.toList.drop 70 = dktX7_goes_3 := dk_seg dksX7_goes_2 23 rfl rfl
theorem dksX7_goes_4 : cX7_goes.data.toList.drop 93 = dktX7_goes_4 := dk_seg dksX7_goes_3 23 rfl rfl
theorem dksX7_goes_5 : cX7_goes.data.toList.drop 117 = dktX7_goes_5 := dk_seg dksX7_goes_4 24 rfl rfl
theorem dksX7_goes_6 : cX7_goes.data.toList.drop 139 = dktX7_goes_6 := dk_seg dksX7_goes_5 22 rfl rfl
theorem dksX7_goes_7 : cX7_goes.data.toList.drop 162 = dktX7_goes_7 := dk_seg dksX7_goes_6 23 rfl rfl
theorem dksX7_goes_8 : cX7_goes.data.toList.drop 186 = dktX7_goes_8 := dk_seg dksX7_goes_7 24 rfl rfl
theorem dksX7_goes_9 : cX7_goes.data.toList.drop 210 = dktX7_goes_9 := dk_seg dksX7_goes_8 24 rfl rfl
theorem dksX7_goes_10 : cX7_goes.data.toList.drop 234 = dktX7_goes_10 := dk_seg dksX7_goes_9 24 rfl rfl
theorem dX7_goes_0 : decode cX7_goes 0 = .ok (.aload_n 0, 1) := dk_42 (dk_at dksX7_goes_0 0 rfl rfl)
theorem dX7_goes_1 : decode cX7_goes 1 = .ok (.aload_n 0, 1) := dk_42 (dk_at dksX7_goes_0 1 rfl rfl)
theorem dX7_goes_2 : decode cX7_goes 2 = .ok (.getfield 159, 3) := dk_180 0 159 (dk_at dksX7_goes_0 2 rfl rfl)
theorem dX7_goes_5 : decode cX7_goes 5 = .ok (.invokevirtual 162, 3) := dk_182 0 162 (dk_at dksX7_goes_0 5 rfl rfl)
theorem dX7_goes_8 : decode cX7_goes 8 = .ok (.bipush 32, 2) := dk_16 32 (dk_at dksX7_goes_0 8 rfl rfl)
theorem dX7_goes_10 : decode cX7_goes 10 = .ok (.if_icmp .eq 16, 3) := dk_159 0 16 (dk_at dksX7_goes_0 10 rfl rfl)
theorem dX7_goes_13 : decode cX7_goes 13 = .ok (.aload_n 0, 1) := dk_42 (dk_at dksX7_goes_0 13 rfl rfl)
theorem dX7_goes_14 : decode cX7_goes 14 = .ok (.aload_n 0, 1) := dk_42 (dk_at dksX7_goes_0 14 rfl rfl)
theorem dX7_goes_15 : decode cX7_goes 15 = .ok (.getfield 159, 3) := dk_180 0 159 (dk_at dksX7_goes_0 15 rfl rfl)
theorem dX7_goes_18 : decode cX7_goes 18 = .ok (.invokevirtual 162, 3) := dk_182 0 162 (dk_at dksX7_goes_0 18 rfl rfl)
theorem dX7_goes_21 : decode cX7_goes 21 = .ok (.bipush 10, 2) := dk_16 10 (dk_at dksX7_goes_0 21 rfl rfl)
theorem dX7_goes_23 : decode cX7_goes 23 = .ok (.if_icmp .ne 16, 3) := dk_160 0 16 (dk_at dksX7_goes_1 0 rfl rfl)
theorem dX7_goes_26 : decode cX7_goes 26 = .ok (.aload_n 0, 1) := dk_42 (dk_at dksX7_goes_1 3 rfl rfl)
theorem dX7_goes_27 : decode cX7_goes 27 = .ok (.dup, 1) := dk_89 (dk_at dksX7_goes_1 4 rfl rfl)
theorem dX7_goes_28 : decode cX7_goes 28 = .ok (.getfield 159, 3) := dk_180 0 159 (dk_at dksX7_goes_1 5 rfl rfl)
theorem dX7_goes_31 : decode cX7_goes 31 = .ok (.iconst 1, 1) := dk_4 (dk_at dksX7_goes_1 8 rfl rfl)
theorem dX7_goes_32 : decode cX7_goes 32 = .ok (.iadd, 1) := dk_96 (dk_at dksX7_goes_1 9 rfl rfl)
theorem dX7_goes_33 : decode cX7_goes 33 = .ok (.putfield 159, 3) := dk_181 0 159 (dk_at dksX7_goes_1 10 rfl rfl)
theorem dX7_goes_36 : decode cX7_goes 36 = .ok (.goto (-36), 3) := dk_167 255 220 (dk_at dksX7_goes_1 13 rfl rfl)
theorem dX7_goes_39 : decode cX7_goes 39 = .ok (.aload_n 0, 1) := dk_42 (dk_at dksX7_goes_1 16 rfl rfl)
theorem dX7_goes_40 : decode cX7_goes 40 = .ok (.aload_n 0, 1) := dk_42 (dk_at dksX7_goes_1 17 rfl rfl)
theorem dX7_goes_41 : decode cX7_goes 41 = .ok (.getfield 159, 3) := dk_180 0 159 (dk_at dksX7_goes_1 18 rfl rfl)
theorem dX7_goes_44 : decode cX7_goes 44 = .ok (.putfield 165, 3) := dk_181 0 165 (dk_at dksX7_goes_1 21 rfl rfl)
theorem dX7_goes_47 : decode cX7_goes 47 = .ok (.aload_n 0, 1) := dk_42 (dk_at dksX7_goes_2 0 rfl rfl)
theorem dX7_goes_48 : decode cX7_goes 48 = .ok (.aload_n 0, 1) := dk_42 (dk_at dksX7_goes_2 1 rfl rfl)
theorem dX7_goes_49 : decode cX7_goes 49 = .ok (.getfield 159, 3) := dk_180 0 159 (dk_at dksX7_goes_2 2 rfl rfl)
theorem dX7_goes_52 : decode cX7_goes 52 = .ok (.invokevirtual 162, 3) := dk_182 0 162 (dk_at dksX7_goes_2 5 rfl rfl)
theorem dX7_goes_55 : decode cX7_goes 55 = .ok (.istore_n 1, 1) := dk_60 (dk_at dksX7_goes_2 8 rfl rfl)
theorem dX7_goes_56 : decode cX7_goes 56 = .ok (.iload_n 1, 1) := dk_27 (dk_at dksX7_goes_2 9 rfl rfl)
theorem dX7_goes_57 : decode cX7_goes 57 = .ok (.iconst (-1), 1) := dk_2 (dk_at dksX7_goes_2 10 rfl rfl)
theorem dX7_goes_58 : decode cX7_goes 58 = .ok (.if_icmp .ne 11, 3) := dk_160 0 11 (dk_at dksX7_goes_2 11 rfl rfl)
theorem dX7_goes_61 : decode cX7_goes 61 = .ok (.aload_n 0, 1) := dk_42 (dk_at dksX7_goes_2 14 rfl rfl)
theorem dX7_goes_62 : decode cX7_goes 62 = .ok (.iconst 0, 1) := dk_3 (dk_at dksX7_goes_2 15 rfl rfl)
theorem dX7_goes_63 : decode cX7_goes 63 = .ok (.putfield 168, 3) := dk_181 0 168 (dk_at dksX7_goes_2 16 rfl rfl)
theorem dX7_goes_66 : decode cX7_goes 66 = .ok (.goto 168, 3) := dk_167 0 168 (dk_at dksX7_goes_2 19 rfl rfl)
theorem dX7_goes_69 : decode cX7_goes 69 = .ok (.iload_n 1, 1) := dk_27 (dk_at dksX7_goes_2 22 rfl rfl)
theorem dX7_goes_70 : decode cX7_goes 70 = .ok (.bipush 97, 2) := dk_16 97 (dk_at dksX7_goes_3 0 rfl rfl)
theorem dX7_goes_72 : decode cX7_goes 72 = .ok (.bipush 122, 2) := dk_16 122 (dk_at dksX7_goes_3 2 rfl rfl)
theorem dX7_goes_74 : decode cX7_goes 74 = .ok (.invokestatic 83, 3) := dk_184 0 83 (dk_at dksX7_goes_3 4 rfl rfl)
theorem dX7_goes_77 : decode cX7_goes 77 = .ok (.ifCond .eq 39, 3) := dk_153 0 39 (dk_at dksX7_goes_3 7 rfl rfl)
theorem dX7_goes_80 : decode cX7_goes 80 = .ok (.aload_n 0, 1) := dk_42 (dk_at dksX7_goes_3 10 rfl rfl)
theorem dX7_goes_81 : decode cX7_goes 81 = .ok (.iconst 1, 1) := dk_4 (dk_at dksX7_goes_3 11 rfl rfl)
theorem dX7_goes_82 : decode cX7_goes 82 = .ok (.putfield 168, 3) := dk_181 0 168 (dk_at dksX7_goes_3 12 rfl rfl)
theorem dX7_goes_85 : decode cX7_goes 85 = .ok (.aload_n 0, 1) := dk_42 (dk_at dksX7_goes_3 15 rfl rfl)
theorem dX7_goes_86 : decode cX7_goes 86 = .ok (.aload_n 0, 1) := dk_42 (dk_at dksX7_goes_3 16 rfl rfl)
theorem dX7_goes_87 : decode cX7_goes 87 = .ok (.getfield 159, 3) := dk_180 0 159 (dk_at dksX7_goes_3 17 rfl rfl)
theorem dX7_goes_90 : decode cX7_goes 90 = .ok (.invokevirtual 162, 3) := dk_182 0 162 (dk_at dksX7_goes_3 20 rfl rfl)
theorem dX7_goes_93 : decode cX7_goes 93 = .ok (.bipush 97, 2) := dk_16 97 (dk_at dksX7_goes_4 0 rfl rfl)
theorem dX7_goes_95 : decode cX7_goes 95 = .ok (.bipush 122, 2) := dk_16 122 (dk_at dksX7_goes_4 2 rfl rfl)
theorem dX7_goes_97 : decode cX7_goes 97 = .ok (.invokestatic 83, 3) := dk_184 0 83 (dk_at dksX7_goes_4 4 rfl rfl)
theorem dX7_goes_100 : decode cX7_goes 100 = .ok (.ifCond .eq 134, 3) := dk_153 0 134 (dk_at dksX7_goes_4 7 rfl rfl)
theorem dX7_goes_103 : decode cX7_goes 103 = .ok (.aload_n 0, 1) := dk_42 (dk_at dksX7_goes_4 10 rfl rfl)
theorem dX7_goes_104 : decode cX7_goes 104 = .ok (.dup, 1) := dk_89 (dk_at dksX7_goes_4 11 rfl rfl)
theorem dX7_goes_105 : decode cX7_goes 105 = .ok (.getfield 159, 3) := dk_180 0 159 (dk_at dksX7_goes_4 12 rfl rfl)
theorem dX7_goes_108 : decode cX7_goes 108 = .ok (.iconst 1, 1) := dk_4 (dk_at dksX7_goes_4 15 rfl rfl)
theorem dX7_goes_109 : decode cX7_goes 109 = .ok (.iadd, 1) := dk_96 (dk_at dksX7_goes_4 16 rfl rfl)
theorem dX7_goes_110 : decode cX7_goes 110 = .ok (.putfield 159, 3) := dk_181 0 159 (dk_at dksX7_goes_4 17 rfl rfl)
theorem dX7_goes_113 : decode cX7_goes 113 = .ok (.goto (-28), 3) := dk_167 255 228 (dk_at dksX7_goes_4 20 rfl rfl)
theorem dX7_goes_116 : decode cX7_goes 116 = .ok (.iload_n 1, 1) := dk_27 (dk_at dksX7_goes_4 23 rfl rfl)
theorem dX7_goes_117 : decode cX7_goes 117 = .ok (.bipush 48, 2) := dk_16 48 (dk_at dksX7_goes_5 0 rfl rfl)
theorem dX7_goes_119 : decode cX7_goes 119 = .ok (.bipush 57, 2) := dk_16 57 (dk_at dksX7_goes_5 2 rfl rfl)
theorem dX7_goes_121 : decode cX7_goes 121 = .ok (.invokestatic 83, 3) := dk_184 0 83 (dk_at dksX7_goes_5 4 rfl rfl)
theorem dX7_goes_124 : decode cX7_goes 124 = .ok (.ifCond .eq 73, 3) := dk_153 0 73 (dk_at dksX7_goes_5 7 rfl rfl)
theorem dX7_goes_127 : decode cX7_goes 127 = .ok (.aload_n 0, 1) := dk_42 (dk_at dksX7_goes_5 10 rfl rfl)
theorem dX7_goes_128 : decode cX7_goes 128 = .ok (.iconst 2, 1) := dk_5 (dk_at dksX7_goes_5 11 rfl rfl)
theorem dX7_goes_129 : decode cX7_goes 129 = .ok (.putfield 168, 3) := dk_181 0 168 (dk_at dksX7_goes_5 12 rfl rfl)
theorem dX7_goes_132 : decode cX7_goes 132 = .ok (.aload_n 0, 1) := dk_42 (dk_at dksX7_goes_5 15 rfl rfl)
theorem dX7_goes_133 : decode cX7_goes 133 = .ok (.iconst 0, 1) := dk_3 (dk_at dksX7_goes_5 16 rfl rfl)
theorem dX7_goes_134 : decode cX7_goes 134 = .ok (.putfield 171, 3) := dk_181 0 171 (dk_at dksX7_goes_5 17 rfl rfl)
theorem dX7_goes_137 : decode cX7_goes 137 = .ok (.aload_n 0, 1) := dk_42 (dk_at dksX7_goes_5 20 rfl rfl)
theorem dX7_goes_138 : decode cX7_goes 138 = .ok (.aload_n 0, 1) := dk_42 (dk_at dksX7_goes_5 21 rfl rfl)
theorem dX7_goes_139 : decode cX7_goes 139 = .ok (.getfield 159, 3) := dk_180 0 159 (dk_at dksX7_goes_6 0 rfl rfl)
theorem dX7_goes_142 : decode cX7_goes 142 = .ok (.invokevirtual 162, 3) := dk_182 0 162 (dk_at dksX7_goes_6 3 rfl rfl)
theorem dX7_goes_145 : decode cX7_goes 145 = .ok (.bipush 48, 2) := dk_16 48 (dk_at dksX7_goes_6 6 rfl rfl)
theorem dX7_goes_147 : decode cX7_goes 147 = .ok (.bipush 57, 2) := dk_16 57 (dk_at dksX7_goes_6 8 rfl rfl)
theorem dX7_goes_149 : decode cX7_goes 149 = .ok (.invokestatic 83, 3) := dk_184 0 83 (dk_at dksX7_goes_6 10 rfl rfl)
theorem dX7_goes_152 : decode cX7_goes 152 = .ok (.ifCond .eq 82, 3) := dk_153 0 82 (dk_at dksX7_goes_6 13 rfl rfl)
theorem dX7_goes_155 : decode cX7_goes 155 = .ok (.aload_n 0, 1) := dk_42 (dk_at dksX7_goes_6 16 rfl rfl)
theorem dX7_goes_156 : decode cX7_goes 156 = .ok (.sipush 1000, 3) := dk_17 3 232 (dk_at dksX7_goes_6 17 rfl rfl)
theorem dX7_goes_159 : decode cX7_goes 159 = .ok (.bipush 10, 2) := dk_16 10 (dk_at dksX7_goes_6 20 rfl rfl)
theorem dX7_goes_161 : decode cX7_goes 161 = .ok (.aload_n 0, 1) := dk_42 (dk_at dksX7_goes_6 22 rfl rfl)
theorem dX7_goes_162 : decode cX7_goes 162 = .ok (.getfield 171, 3) := dk_180 0 171 (dk_at dksX7_goes_7 0 rfl rfl)
theorem dX7_goes_165 : decode cX7_goes 165 = .ok (.imul, 1) := dk_104 (dk_at dksX7_goes_7 3 rfl rfl)
theorem dX7_goes_166 : decode cX7_goes 166 = .ok (.aload_n 0, 1) := dk_42 (dk_at dksX7_goes_7 4 rfl rfl)
theorem dX7_goes_167 : decode cX7_goes 167 = .ok (.aload_n 0, 1) := dk_42 (dk_at dksX7_goes_7 5 rfl rfl)
theorem dX7_goes_168 : decode cX7_goes 168 = .ok (.getfield 159, 3) := dk_180 0 159 (dk_at dksX7_goes_7 6 rfl rfl)
theorem dX7_goes_171 : decode cX7_goes 171 = .ok (.invokevirtual 162, 3) := dk_182 0 162 (dk_at dksX7_goes_7 9 rfl rfl)
theorem dX7_goes_174 : decode cX7_goes 174 = .ok (.iadd, 1) := dk_96 (dk_at dksX7_goes_7 12 rfl rfl)
theorem dX7_goes_175 : decode cX7_goes 175 = .ok (.bipush 48, 2) := dk_16 48 (dk_at dksX7_goes_7 13 rfl rfl)
theorem dX7_goes_177 : decode cX7_goes 177 = .ok (.isub, 1) := dk_100 (dk_at dksX7_goes_7 15 rfl rfl)
theorem dX7_goes_178 : decode cX7_goes 178 = .ok (.invokestatic 102, 3) := dk_184 0 102 (dk_at dksX7_goes_7 16 rfl rfl)
theorem dX7_goes_181 : decode cX7_goes 181 = .ok (.putfield 171, 3) := dk_181 0 171 (dk_at dksX7_goes_7 19 rfl rfl)
theorem dX7_goes_184 : decode cX7_goes 184 = .ok (.aload_n 0, 1) := dk_42 (dk_at dksX7_goes_7 22 rfl rfl)
theorem dX7_goes_185 : decode cX7_goes 185 = .ok (.dup, 1) := dk_89 (dk_at dksX7_goes_7 23 rfl rfl)
theorem dX7_goes_186 : decode cX7_goes 186 = .ok (.getfield 159, 3) := dk_180 0 159 (dk_at dksX7_goes_8 0 rfl rfl)
theorem dX7_goes_189 : decode cX7_goes 189 = .ok (.iconst 1, 1) := dk_4 (dk_at dksX7_goes_8 3 rfl rfl)
theorem dX7_goes_190 : decode cX7_goes 190 = .ok (.iadd, 1) := dk_96 (dk_at dksX7_goes_8 4 rfl rfl)
theorem dX7_goes_191 : decode cX7_goes 191 = .ok (.putfield 159, 3) := dk_181 0 159 (dk_at dksX7_goes_8 5 rfl rfl)
theorem dX7_goes_194 : decode cX7_goes 194 = .ok (.goto (-57), 3) := dk_167 255 199 (dk_at dksX7_goes_8 8 rfl rfl)
theorem dX7_goes_197 : decode cX7_goes 197 = .ok (.aload_n 0, 1) := dk_42 (dk_at dksX7_goes_8 11 rfl rfl)
theorem dX7_goes_198 : decode cX7_goes 198 = .ok (.iload_n 1, 1) := dk_27 (dk_at dksX7_goes_8 12 rfl rfl)
theorem dX7_goes_199 : decode cX7_goes 199 = .ok (.bipush 59, 2) := dk_16 59 (dk_at dksX7_goes_8 13 rfl rfl)
theorem dX7_goes_201 : decode cX7_goes 201 = .ok (.if_icmp .eq 15, 3) := dk_159 0 15 (dk_at dksX7_goes_8 15 rfl rfl)
theorem dX7_goes_204 : decode cX7_goes 204 = .ok (.iload_n 1, 1) := dk_27 (dk_at dksX7_goes_8 18 rfl rfl)
theorem dX7_goes_205 : decode cX7_goes 205 = .ok (.bipush 40, 2) := dk_16 40 (dk_at dksX7_goes_8 19 rfl rfl)
theorem dX7_goes_207 : decode cX7_goes 207 = .ok (.if_icmp .eq 9, 3) := dk_159 0 9 (dk_at dksX7_goes_8 21 rfl rfl)
theorem dX7_goes_210 : decode cX7_goes 210 = .ok (.iload_n 1, 1) := dk_27 (dk_at dksX7_goes_9 0 rfl rfl)
theorem dX7_goes_211 : decode cX7_goes 211 = .ok (.bipush 41, 2) := dk_16 41 (dk_at dksX7_goes_9 1 rfl rfl)
theorem dX7_goes_213 : decode cX7_goes 213 = .ok (.if_icmp .ne 7, 3) := dk_160 0 7 (dk_at dksX7_goes_9 3 rfl rfl)
theorem dX7_goes_216 : decode cX7_goes 216 = .ok (.iconst 3, 1) := dk_6 (dk_at dksX7_goes_9 6 rfl rfl)
theorem dX7_goes_217 : decode cX7_goes 217 = .ok (.goto 4, 3) := dk_167 0 4 (dk_at dksX7_goes_9 7 rfl rfl)
theorem dX7_goes_220 : decode cX7_goes 220 = .ok (.iconst 4, 1) := dk_7 (dk_at dksX7_goes_9 10 rfl rfl)
theorem dX7_goes_221 : decode cX7_goes 221 = .ok (.putfield 168, 3) := dk_181 0 168 (dk_at dksX7_goes_9 11 rfl rfl)
theorem dX7_goes_224 : decode cX7_goes 224 = .ok (.aload_n 0, 1) := dk_42 (dk_at dksX7_goes_9 14 rfl rfl)
theorem dX7_goes_225 : decode cX7_goes 225 = .ok (.dup, 1) := dk_89 (dk_at dksX7_goes_9 15 rfl rfl)
theorem dX7_goes_226 : decode cX7_goes 226 = .ok (.getfield 159, 3) := dk_180 0 159 (dk_at dksX7_goes_9 16 rfl rfl)
theorem dX7_goes_229 : decode cX7_goes 229 = .ok (.iconst 1, 1) := dk_4 (dk_at dksX7_goes_9 19 rfl rfl)
theorem dX7_goes_230 : decode cX7_goes 230 = .ok (.iadd, 1) := dk_96 (dk_at dksX7_goes_9 20 rfl rfl)
theorem dX7_goes_231 : decode cX7_goes 231 = .ok (.putfield 159, 3) := dk_181 0 159 (dk_at dksX7_goes_9 21 rfl rfl)
theorem dX7_goes_234 : decode cX7_goes 234 = .ok (.return_, 1) := dk_177 (dk_at dksX7_goes_10 0 rfl rfl)
abbrev cX7_seen : ByteArray := prog_19_method_37_code
def yX7_seen : MethodName := ⟨RX7, "seen", "(I)I"⟩
def dkwX7_seen_0 : List UInt8 := [27, 42, 180, 0, 67, 162, 0, 12, 42, 180, 0, 29, 27, 46, 167, 0, 4, 2, 172]
abbrev dktX7_seen_0 : List UInt8 := dkwX7_seen_0 ++ []
theorem dksX7_seen_0 : cX7_seen.data.toList.drop 0 = dktX7_seen_0 := by decide +kernel
theorem dX7_seen_0 : decode cX7_seen 0 = .ok (.iload_n 1, 1) := dk_27 (dk_at dksX7_seen_0 0 rfl rfl)
theorem dX7_seen_1 : decode cX7_seen 1 = .ok (.aload_n 0, 1) := dk_42 (dk_at dksX7_seen_0 1 rfl rfl)
theorem dX7_seen_2 : decode cX7_seen 2 = .ok (.getfield 67, 3) := dk_180 0 67 (dk_at dksX7_seen_0 2 rfl rfl)
theorem dX7_seen_5 : decode cX7_seen 5 = .ok (.if_icmp .ge 12, 3) := dk_162 0 12 (dk_at dksX7_seen_0 5 rfl rfl)
theorem dX7_seen_8 : decode cX7_seen 8 = .ok (.aload_n 0, 1) := dk_42 (dk_at dksX7_seen_0 8 rfl rfl)
theorem dX7_seen_9 : decode cX7_seen 9 = .ok (.getfield 29, 3) := dk_180 0 29 (dk_at dksX7_seen_0 9 rfl rfl)
theorem dX7_seen_12 : decode cX7_seen 12 = .ok (.iload_n 1, 1) := dk_27 (dk_at dksX7_seen_0 12 rfl rfl)
theorem dX7_seen_13 : decode cX7_seen 13 = .ok (.iaload, 1) := dk_46 (dk_at dksX7_seen_0 13 rfl rfl)
theorem dX7_seen_14 : decode cX7_seen 14 = .ok (.goto 4, 3) := dk_167 0 4 (dk_at dksX7_seen_0 14 rfl rfl)
theorem dX7_seen_17 : decode cX7_seen 17 = .ok (.iconst (-1), 1) := dk_2 (dk_at dksX7_seen_0 17 rfl rfl)
theorem dX7_seen_18 : decode cX7_seen 18 = .ok (.ireturn, 1) := dk_172 (dk_at dksX7_seen_0 18 rfl rfl)
abbrev cX7_in : ByteArray := prog_19_method_4_code
def yX7_in : MethodName := ⟨RX7, "in", "(III)Z"⟩
def dkwX7_in_0 : List UInt8 := [27, 26, 163, 0, 12, 26, 28, 163, 0, 7, 4, 167, 0, 4, 3, 172]
abbrev dktX7_in_0 : List UInt8 := dkwX7_in_0 ++ []
theorem dksX7_in_0 : cX7_in.data.toList.drop 0 = dktX7_in_0 := by decide +kernel
theorem dX7_in_0 : decode cX7_in 0 = .ok (.iload_n 1, 1) := dk_27 (dk_at dksX7_in_0 0 rfl rfl)
theorem dX7_in_1 : decode cX7_in 1 = .ok (.iload_n 0, 1) := dk_26 (dk_at dksX7_in_0 1 rfl rfl)
theorem dX7_in_2 : decode cX7_in 2 = .ok (.if_icmp .gt 12, 3) := dk_163 0 12 (dk_at dksX7_in_0 2 rfl rfl)
theorem dX7_in_5 : decode cX7_in 5 = .ok (.iload_n 0, 1) := dk_26 (dk_at dksX7_in_0 5 rfl rfl)
theorem dX7_in_6 : decode cX7_in 6 = .ok (.iload_n 2, 1) := dk_28 (dk_at dksX7_in_0 6 rfl rfl)
theorem dX7_in_7 : decode cX7_in 7 = .ok (.if_icmp .gt 7, 3) := dk_163 0 7 (dk_at dksX7_in_0 7 rfl rfl)
theorem dX7_in_10 : decode cX7_in 10 = .ok (.iconst 1, 1) := dk_4 (dk_at dksX7_in_0 10 rfl rfl)
theorem dX7_in_11 : decode cX7_in 11 = .ok (.goto 4, 3) := dk_167 0 4 (dk_at dksX7_in_0 11 rfl rfl)
theorem dX7_in_14 : decode cX7_in 14 = .ok (.iconst 0, 1) := dk_3 (dk_at dksX7_in_0 14 rfl rfl)
theorem dX7_in_15 : decode cX7_in 15 = .ok (.ireturn, 1) := dk_172 (dk_at dksX7_in_0 15 rfl rfl)
abbrev cX7_readsSetup : ByteArray := prog_19_method_55_code
def yX7_readsSetup : MethodName := ⟨RX7, "readsSetup", "()V"⟩
def dkwX7_readsSetup_7 : List UInt8 := [182, 0, 183, 87, 177]
abbrev dktX7_readsSetup_7 : List UInt8 := dkwX7_readsSetup_7 ++ []
def dkwX7_readsSetup_6 : List UInt8 := [167, 255, 185, 42, 42, 180, 0, 168, 154, 0, 12, 27, 5, 160, 0, 7, 4, 167, 0, 4, 3, 4]
abbrev dktX7_readsSetup_6 : List UInt8 := dkwX7_readsSetup_6 ++ dktX7_readsSetup_7
def dkwX7_readsSetup_5 : List UInt8 := [182, 0, 227, 167, 255, 204, 27, 4, 160, 0, 10, 42, 182, 0, 232, 167, 255, 192, 42, 182, 0, 235]
abbrev dktX7_readsSetup_5 : List UInt8 := dkwX7_readsSetup_5 ++ dktX7_readsSetup_6
def dkwX7_readsSetup_4 : List UInt8 := [60, 27, 4, 160, 0, 14, 42, 18, 230, 182, 0, 198, 154, 0, 5, 5, 60, 27, 154, 0, 10, 42]
abbrev dktX7_readsSetup_4 : List UInt8 := dkwX7_readsSetup_4 ++ dktX7_readsSetup_5
def dkwX7_readsSetup_3 : List UInt8 := [182, 0, 180, 153, 0, 68, 42, 182, 0, 177, 27, 154, 0, 14, 42, 18, 196, 182, 0, 198, 154, 0, 5, 4]
abbrev dktX7_readsSetup_3 : List UInt8 := dkwX7_readsSetup_3 ++ dktX7_readsSetup_4
def dkwX7_readsSetup_2 : List UInt8 := [42, 3, 5, 182, 0, 216, 79, 42, 16, 59, 182, 0, 224, 42, 182, 0, 227, 3, 60, 42, 16, 59]
abbrev dktX7_readsSetup_2 : List UInt8 := dkwX7_readsSetup_2 ++ dktX7_readsSetup_3
def dkwX7_readsSetup_1 : List UInt8 := [16, 9, 182, 0, 216, 79, 42, 180, 0, 7, 4, 42, 3, 16, 20, 182, 0, 216, 79, 42, 180, 0, 7, 5]
abbrev dktX7_readsSetup_1 : List UInt8 := dkwX7_readsSetup_1 ++ dktX7_readsSetup_2
def dkwX7_readsSetup_0 : List UInt8 := [42, 42, 18, 222, 182, 0, 198, 4, 182, 0, 183, 87, 42, 182, 0, 187, 42, 180, 0, 7, 3, 42, 4]
abbrev dktX7_readsSetup_0 : List UInt8 := dkwX7_readsSetup_0 ++ dktX7_readsSetup_1
theorem dksX7_readsSetup_0 : cX7_readsSetup.data.toList.drop 0 = dktX7_readsSetup_0 := by decide +kernel
theorem dksX7_readsSetup_1 : cX7_readsSetup.data.toList.drop 23 = dktX7_readsSetup_1 := dk_seg dksX7_readsSetup_0 23 rfl rfl
theorem dksX7_readsSetup_2 : cX7_readsSetup.data.toList.drop 47 = dktX7_readsSetup_2 := dk_seg dksX7_readsSetup_1 24 rfl rfl
theorem dksX7_readsSetup_3 : cX7_readsSetup.data.toList.drop 69 = dktX7_readsSetup_3 := dk_seg dksX7_readsSetup_2 22 rfl rfl
theorem dksX7_readsSetup_4 : cX7_readsSetup.data.toList.drop 93 = dktX7_readsSetup_4 := dk_seg dksX7_readsSetup_3 24 rfl rfl
theorem dksX7_readsSetup_5 : cX7_readsSetup.data.toList.drop 115 = dktX7_readsSetup_5 := dk_seg dksX7_readsSetup_4 22 rfl rfl
theorem dksX7_readsSetup_6 : cX7_readsSetup.data.toList.drop 137 = dktX7_readsSetup_6 := dk_seg dksX7_readsSetup_5 22 rfl rfl
theorem dksX7_readsSetup_7 : cX7_readsSetup.data.toList.drop 159 = dktX7_readsSetup_7 := dk_seg dksX7_readsSetup_6 22 rfl rfl
theorem dX7_readsSetup_0 : decode cX7_readsSetup 0 = .ok (.aload_n 0, 1) := dk_42 (dk_at dksX7_readsSetup_0 0 rfl rfl)
theorem dX7_readsSetup_1 : decode cX7_readsSetup 1 = .ok (.aload_n 0, 1) := dk_42 (dk_at dksX7_readsSetup_0 1 rfl rfl)
theorem dX7_readsSetup_2 : decode cX7_readsSetup 2 = .ok (.ldc 222, 2) := dk_18 222 (dk_at dksX7_readsSetup_0 2 rfl rfl)
theorem dX7_readsSetup_4 : decode cX7_readsSetup 4 = .ok (.invokevirtual 198, 3) := dk_182 0 198 (dk_at dksX7_readsSetup_0 4 rfl rfl)
theorem dX7_readsSetup_7 : decode cX7_readsSetup 7 = .ok (.iconst 1, 1) := dk_4 (dk_at dksX7_readsSetup_0 7 rfl rfl)
theorem dX7_readsSetup_8 : decode cX7_readsSetup 8 = .ok (.invokevirtual 183, 3) := dk_182 0 183 (dk_at dksX7_readsSetup_0 8 rfl rfl)
theorem dX7_readsSetup_11 : decode cX7_readsSetup 11 = .ok (.pop, 1) := dk_87 (dk_at dksX7_readsSetup_0 11 rfl rfl)
theorem dX7_readsSetup_12 : decode cX7_readsSetup 12 = .ok (.aload_n 0, 1) := dk_42 (dk_at dksX7_readsSetup_0 12 rfl rfl)
theorem dX7_readsSetup_13 : decode cX7_readsSetup 13 = .ok (.invokevirtual 187, 3) := dk_182 0 187 (dk_at dksX7_readsSetup_0 13 rfl rfl)
theorem dX7_readsSetup_16 : decode cX7_readsSetup 16 = .ok (.aload_n 0, 1) := dk_42 (dk_at dksX7_readsSetup_0 16 rfl rfl)
theorem dX7_readsSetup_17 : decode cX7_readsSetup 17 = .ok (.getfield 7, 3) := dk_180 0 7 (dk_at dksX7_readsSetup_0 17 rfl rfl)
theorem dX7_readsSetup_20 : decode cX7_readsSetup 20 = .ok (.iconst 0, 1) := dk_3 (dk_at dksX7_readsSetup_0 20 rfl rfl)
theorem dX7_readsSetup_21 : decode cX7_readsSetup 21 = .ok (.aload_n 0, 1) := dk_42 (dk_at dksX7_readsSetup_0 21 rfl rfl)
theorem dX7_readsSetup_22 : decode cX7_readsSetup 22 = .ok (.iconst 1, 1) := dk_4 (dk_at dksX7_readsSetup_0 22 rfl rfl)
theorem dX7_readsSetup_23 : decode cX7_readsSetup 23 = .ok (.bipush 9, 2) := dk_16 9 (dk_at dksX7_readsSetup_1 0 rfl rfl)
theorem dX7_readsSetup_25 : decode cX7_readsSetup 25 = .ok (.invokevirtual 216, 3) := dk_182 0 216 (dk_at dksX7_readsSetup_1 2 rfl rfl)
theorem dX7_readsSetup_28 : decode cX7_readsSetup 28 = .ok (.iastore, 1) := dk_79 (dk_at dksX7_readsSetup_1 5 rfl rfl)
theorem dX7_readsSetup_29 : decode cX7_readsSetup 29 = .ok (.aload_n 0, 1) := dk_42 (dk_at dksX7_readsSetup_1 6 rfl rfl)
theorem dX7_readsSetup_30 : decode cX7_readsSetup 30 = .ok (.getfield 7, 3) := dk_180 0 7 (dk_at dksX7_readsSetup_1 7 rfl rfl)
theorem dX7_readsSetup_33 : decode cX7_readsSetup 33 = .ok (.iconst 1, 1) := dk_4 (dk_at dksX7_readsSetup_1 10 rfl rfl)
theorem dX7_readsSetup_34 : decode cX7_readsSetup 34 = .ok (.aload_n 0, 1) := dk_42 (dk_at dksX7_readsSetup_1 11 rfl rfl)
theorem dX7_readsSetup_35 : decode cX7_readsSetup 35 = .ok (.iconst 0, 1) := dk_3 (dk_at dksX7_readsSetup_1 12 rfl rfl)
theorem dX7_readsSetup_36 : decode cX7_readsSetup 36 = .ok (.bipush 20, 2) := dk_16 20 (dk_at dksX7_readsSetup_1 13 rfl rfl)
theorem dX7_readsSetup_38 : decode cX7_readsSetup 38 = .ok (.invokevirtual 216, 3) := dk_182 0 216 (dk_at dksX7_readsSetup_1 15 rfl rfl)
theorem dX7_readsSetup_41 : decode cX7_readsSetup 41 = .ok (.iastore, 1) := dk_79 (dk_at dksX7_readsSetup_1 18 rfl rfl)
theorem dX7_readsSetup_42 : decode cX7_readsSetup 42 = .ok (.aload_n 0, 1) := dk_42 (dk_at dksX7_readsSetup_1 19 rfl rfl)
theorem dX7_readsSetup_43 : decode cX7_readsSetup 43 = .ok (.getfield 7, 3) := dk_180 0 7 (dk_at dksX7_readsSetup_1 20 rfl rfl)
theorem dX7_readsSetup_46 : decode cX7_readsSetup 46 = .ok (.iconst 2, 1) := dk_5 (dk_at dksX7_readsSetup_1 23 rfl rfl)
theorem dX7_readsSetup_47 : decode cX7_readsSetup 47 = .ok (.aload_n 0, 1) := dk_42 (dk_at dksX7_readsSetup_2 0 rfl rfl)
theorem dX7_readsSetup_48 : decode cX7_readsSetup 48 = .ok (.iconst 0, 1) := dk_3 (dk_at dksX7_readsSetup_2 1 rfl rfl)
theorem dX7_readsSetup_49 : decode cX7_readsSetup 49 = .ok (.iconst 2, 1) := dk_5 (dk_at dksX7_readsSetup_2 2 rfl rfl)
theorem dX7_readsSetup_50 : decode cX7_readsSetup 50 = .ok (.invokevirtual 216, 3) := dk_182 0 216 (dk_at dksX7_readsSetup_2 3 rfl rfl)
theorem dX7_readsSetup_53 : decode cX7_readsSetup 53 = .ok (.iastore, 1) := dk_79 (dk_at dksX7_readsSetup_2 6 rfl rfl)
theorem dX7_readsSetup_54 : decode cX7_readsSetup 54 = .ok (.aload_n 0, 1) := dk_42 (dk_at dksX7_readsSetup_2 7 rfl rfl)
theorem dX7_readsSetup_55 : decode cX7_readsSetup 55 = .ok (.bipush 59, 2) := dk_16 59 (dk_at dksX7_readsSetup_2 8 rfl rfl)
theorem dX7_readsSetup_57 : decode cX7_readsSetup 57 = .ok (.invokevirtual 224, 3) := dk_182 0 224 (dk_at dksX7_readsSetup_2 10 rfl rfl)
theorem dX7_readsSetup_60 : decode cX7_readsSetup 60 = .ok (.aload_n 0, 1) := dk_42 (dk_at dksX7_readsSetup_2 13 rfl rfl)
theorem dX7_readsSetup_61 : decode cX7_readsSetup 61 = .ok (.invokevirtual 227, 3) := dk_182 0 227 (dk_at dksX7_readsSetup_2 14 rfl rfl)
theorem dX7_readsSetup_64 : decode cX7_readsSetup 64 = .ok (.iconst 0, 1) := dk_3 (dk_at dksX7_readsSetup_2 17 rfl rfl)
theorem dX7_readsSetup_65 : decode cX7_readsSetup 65 = .ok (.istore_n 1, 1) := dk_60 (dk_at dksX7_readsSetup_2 18 rfl rfl)
theorem dX7_readsSetup_66 : decode cX7_readsSetup 66 = .ok (.aload_n 0, 1) := dk_42 (dk_at dksX7_readsSetup_2 19 rfl rfl)
theorem dX7_readsSetup_67 : decode cX7_readsSetup 67 = .ok (.bipush 59, 2) := dk_16 59 (dk_at dksX7_readsSetup_2 20 rfl rfl)
theorem dX7_readsSetup_69 : decode cX7_readsSetup 69 = .ok (.invokevirtual 180, 3) := dk_182 0 180 (dk_at dksX7_readsSetup_3 0 rfl rfl)
theorem dX7_readsSetup_72 : decode cX7_readsSetup 72 = .ok (.ifCond .eq 68, 3) := dk_153 0 68 (dk_at dksX7_readsSetup_3 3 rfl rfl)
theorem dX7_readsSetup_75 : decode cX7_readsSetup 75 = .ok (.aload_n 0, 1) := dk_42 (dk_at dksX7_readsSetup_3 6 rfl rfl)
theorem dX7_readsSetup_76 : decode cX7_readsSetup 76 = .ok (.invokevirtual 177, 3) := dk_182 0 177 (dk_at dksX7_readsSetup_3 7 rfl rfl)
theorem dX7_readsSetup_79 : decode cX7_readsSetup 79 = .ok (.iload_n 1, 1) := dk_27 (dk_at dksX7_readsSetup_3 10 rfl rfl)
theorem dX7_readsSetup_80 : decode cX7_readsSetup 80 = .ok (.ifCond .ne 14, 3) := dk_154 0 14 (dk_at dksX7_readsSetup_3 11 rfl rfl)
theorem dX7_readsSetup_83 : decode cX7_readsSetup 83 = .ok (.aload_n 0, 1) := dk_42 (dk_at dksX7_readsSetup_3 14 rfl rfl)
theorem dX7_readsSetup_84 : decode cX7_readsSetup 84 = .ok (.ldc 196, 2) := dk_18 196 (dk_at dksX7_readsSetup_3 15 rfl rfl)
theorem dX7_readsSetup_86 : decode cX7_readsSetup 86 = .ok (.invokevirtual 198, 3) := dk_182 0 198 (dk_at dksX7_readsSetup_3 17 rfl rfl)
theorem dX7_readsSetup_89 : decode cX7_readsSetup 89 = .ok (.ifCond .ne 5, 3) := dk_154 0 5 (dk_at dksX7_readsSetup_3 20 rfl rfl)
theorem dX7_readsSetup_92 : decode cX7_readsSetup 92 = .ok (.iconst 1, 1) := dk_4 (dk_at dksX7_readsSetup_3 23 rfl rfl)
theorem dX7_readsSetup_93 : decode cX7_readsSetup 93 = .ok (.istore_n 1, 1) := dk_60 (dk_at dksX7_readsSetup_4 0 rfl rfl)
theorem dX7_readsSetup_94 : decode cX7_readsSetup 94 = .ok (.iload_n 1, 1) := dk_27 (dk_at dksX7_readsSetup_4 1 rfl rfl)
theorem dX7_readsSetup_95 : decode cX7_readsSetup 95 = .ok (.iconst 1, 1) := dk_4 (dk_at dksX7_readsSetup_4 2 rfl rfl)
theorem dX7_readsSetup_96 : decode cX7_readsSetup 96 = .ok (.if_icmp .ne 14, 3) := dk_160 0 14 (dk_at dksX7_readsSetup_4 3 rfl rfl)
theorem dX7_readsSetup_99 : decode cX7_readsSetup 99 = .ok (.aload_n 0, 1) := dk_42 (dk_at dksX7_readsSetup_4 6 rfl rfl)
theorem dX7_readsSetup_100 : decode cX7_readsSetup 100 = .ok (.ldc 230, 2) := dk_18 230 (dk_at dksX7_readsSetup_4 7 rfl rfl)
theorem dX7_readsSetup_102 : decode cX7_readsSetup 102 = .ok (.invokevirtual 198, 3) := dk_182 0 198 (dk_at dksX7_readsSetup_4 9 rfl rfl)
theorem dX7_readsSetup_105 : decode cX7_readsSetup 105 = .ok (.ifCond .ne 5, 3) := dk_154 0 5 (dk_at dksX7_readsSetup_4 12 rfl rfl)
theorem dX7_readsSetup_108 : decode cX7_readsSetup 108 = .ok (.iconst 2, 1) := dk_5 (dk_at dksX7_readsSetup_4 15 rfl rfl)
theorem dX7_readsSetup_109 : decode cX7_readsSetup 109 = .ok (.istore_n 1, 1) := dk_60 (dk_at dksX7_readsSetup_4 16 rfl rfl)
theorem dX7_readsSetup_110 : decode cX7_readsSetup 110 = .ok (.iload_n 1, 1) := dk_27 (dk_at dksX7_readsSetup_4 17 rfl rfl)
theorem dX7_readsSetup_111 : decode cX7_readsSetup 111 = .ok (.ifCond .ne 10, 3) := dk_154 0 10 (dk_at dksX7_readsSetup_4 18 rfl rfl)
theorem dX7_readsSetup_114 : decode cX7_readsSetup 114 = .ok (.aload_n 0, 1) := dk_42 (dk_at dksX7_readsSetup_4 21 rfl rfl)
theorem dX7_readsSetup_115 : decode cX7_readsSetup 115 = .ok (.invokevirtual 227, 3) := dk_182 0 227 (dk_at dksX7_readsSetup_5 0 rfl rfl)
theorem dX7_readsSetup_118 : decode cX7_readsSetup 118 = .ok (.goto (-52), 3) := dk_167 255 204 (dk_at dksX7_readsSetup_5 3 rfl rfl)
theorem dX7_readsSetup_121 : decode cX7_readsSetup 121 = .ok (.iload_n 1, 1) := dk_27 (dk_at dksX7_readsSetup_5 6 rfl rfl)
theorem dX7_readsSetup_122 : decode cX7_readsSetup 122 = .ok (.iconst 1, 1) := dk_4 (dk_at dksX7_readsSetup_5 7 rfl rfl)
theorem dX7_readsSetup_123 : decode cX7_readsSetup 123 = .ok (.if_icmp .ne 10, 3) := dk_160 0 10 (dk_at dksX7_readsSetup_5 8 rfl rfl)
theorem dX7_readsSetup_126 : decode cX7_readsSetup 126 = .ok (.aload_n 0, 1) := dk_42 (dk_at dksX7_readsSetup_5 11 rfl rfl)
theorem dX7_readsSetup_127 : decode cX7_readsSetup 127 = .ok (.invokevirtual 232, 3) := dk_182 0 232 (dk_at dksX7_readsSetup_5 12 rfl rfl)
theorem dX7_readsSetup_130 : decode cX7_readsSetup 130 = .ok (.goto (-64), 3) := dk_167 255 192 (dk_at dksX7_readsSetup_5 15 rfl rfl)
theorem dX7_readsSetup_133 : decode cX7_readsSetup 133 = .ok (.aload_n 0, 1) := dk_42 (dk_at dksX7_readsSetup_5 18 rfl rfl)
theorem dX7_readsSetup_134 : decode cX7_readsSetup 134 = .ok (.invokevirtual 235, 3) := dk_182 0 235 (dk_at dksX7_readsSetup_5 19 rfl rfl)
theorem dX7_readsSetup_137 : decode cX7_readsSetup 137 = .ok (.goto (-71), 3) := dk_167 255 185 (dk_at dksX7_readsSetup_6 0 rfl rfl)
theorem dX7_readsSetup_140 : decode cX7_readsSetup 140 = .ok (.aload_n 0, 1) := dk_42 (dk_at dksX7_readsSetup_6 3 rfl rfl)
theorem dX7_readsSetup_141 : decode cX7_readsSetup 141 = .ok (.aload_n 0, 1) := dk_42 (dk_at dksX7_readsSetup_6 4 rfl rfl)
theorem dX7_readsSetup_142 : decode cX7_readsSetup 142 = .ok (.getfield 168, 3) := dk_180 0 168 (dk_at dksX7_readsSetup_6 5 rfl rfl)
theorem dX7_readsSetup_145 : decode cX7_readsSetup 145 = .ok (.ifCond .ne 12, 3) := dk_154 0 12 (dk_at dksX7_readsSetup_6 8 rfl rfl)
theorem dX7_readsSetup_148 : decode cX7_readsSetup 148 = .ok (.iload_n 1, 1) := dk_27 (dk_at dksX7_readsSetup_6 11 rfl rfl)
theorem dX7_readsSetup_149 : decode cX7_readsSetup 149 = .ok (.iconst 2, 1) := dk_5 (dk_at dksX7_readsSetup_6 12 rfl rfl)
theorem dX7_readsSetup_150 : decode cX7_readsSetup 150 = .ok (.if_icmp .ne 7, 3) := dk_160 0 7 (dk_at dksX7_readsSetup_6 13 rfl rfl)
theorem dX7_readsSetup_153 : decode cX7_readsSetup 153 = .ok (.iconst 1, 1) := dk_4 (dk_at dksX7_readsSetup_6 16 rfl rfl)
theorem dX7_readsSetup_154 : decode cX7_readsSetup 154 = .ok (.goto 4, 3) := dk_167 0 4 (dk_at dksX7_readsSetup_6 17 rfl rfl)
theorem dX7_readsSetup_157 : decode cX7_readsSetup 157 = .ok (.iconst 0, 1) := dk_3 (dk_at dksX7_readsSetup_6 20 rfl rfl)
theorem dX7_readsSetup_158 : decode cX7_readsSetup 158 = .ok (.iconst 1, 1) := dk_4 (dk_at dksX7_readsSetup_6 21 rfl rfl)
theorem dX7_readsSetup_159 : decode cX7_readsSetup 159 = .ok (.invokevirtual 183, 3) := dk_182 0 183 (dk_at dksX7_readsSetup_7 0 rfl rfl)
theorem dX7_readsSetup_162 : decode cX7_readsSetup 162 = .ok (.pop, 1) := dk_87 (dk_at dksX7_readsSetup_7 3 rfl rfl)
theorem dX7_readsSetup_163 : decode cX7_readsSetup 163 = .ok (.return_, 1) := dk_177 (dk_at dksX7_readsSetup_7 4 rfl rfl)
abbrev cX7_isKey : ByteArray := prog_19_method_43_code
def yX7_isKey : MethodName := ⟨RX7, "isKey", "(Ljava/lang/String;)Z"⟩
def dkwX7_isKey_2 : List UInt8 := [180, 0, 165, 28, 96, 46, 43, 28, 182, 0, 63, 159, 0, 5, 3, 172, 132, 2, 1, 167, 255, 224, 4, 172]
abbrev dktX7_isKey_2 : List UInt8 := dkwX7_isKey_2 ++ []
def dkwX7_isKey_1 : List UInt8 := [43, 182, 0, 57, 159, 0, 5, 3, 172, 3, 61, 28, 43, 182, 0, 57, 162, 0, 30, 42, 180, 0, 29, 42]
abbrev dktX7_isKey_1 : List UInt8 := dkwX7_isKey_1 ++ dktX7_isKey_2
def dkwX7_isKey_0 : List UInt8 := [42, 180, 0, 174, 154, 0, 27, 42, 180, 0, 168, 4, 160, 0, 19, 42, 180, 0, 159, 42, 180, 0, 165, 100]
abbrev dktX7_isKey_0 : List UInt8 := dkwX7_isKey_0 ++ dktX7_isKey_1
theorem dksX7_isKey_0 : cX7_isKey.data.toList.drop 0 = dktX7_isKey_0 := by decide +kernel
theorem dksX7_isKey_1 : cX7_isKey.data.toList.drop 24 = dktX7_isKey_1 := dk_seg dksX7_isKey_0 24 rfl rfl
theorem dksX7_isKey_2 : cX7_isKey.data.toList.drop 48 = dktX7_isKey_2 := dk_seg dksX7_isKey_1 24 rfl rfl
theorem dX7_isKey_0 : decode cX7_isKey 0 = .ok (.aload_n 0, 1) := dk_42 (dk_at dksX7_isKey_0 0 rfl rfl)
theorem dX7_isKey_1 : decode cX7_isKey 1 = .ok (.getfield 174, 3) := dk_180 0 174 (dk_at dksX7_isKey_0 1 rfl rfl)
theorem dX7_isKey_4 : decode cX7_isKey 4 = .ok (.ifCond .ne 27, 3) := dk_154 0 27 (dk_at dksX7_isKey_0 4 rfl rfl)
theorem dX7_isKey_7 : decode cX7_isKey 7 = .ok (.aload_n 0, 1) := dk_42 (dk_at dksX7_isKey_0 7 rfl rfl)
theorem dX7_isKey_8 : decode cX7_isKey 8 = .ok (.getfield 168, 3) := dk_180 0 168 (dk_at dksX7_isKey_0 8 rfl rfl)
theorem dX7_isKey_11 : decode cX7_isKey 11 = .ok (.iconst 1, 1) := dk_4 (dk_at dksX7_isKey_0 11 rfl rfl)
theorem dX7_isKey_12 : decode cX7_isKey 12 = .ok (.if_icmp .ne 19, 3) := dk_160 0 19 (dk_at dksX7_isKey_0 12 rfl rfl)
theorem dX7_isKey_15 : decode cX7_isKey 15 = .ok (.aload_n 0, 1) := dk_42 (dk_at dksX7_isKey_0 15 rfl rfl)
theorem dX7_isKey_16 : decode cX7_isKey 16 = .ok (.getfield 159, 3) := dk_180 0 159 (dk_at dksX7_isKey_0 16 rfl rfl)
theorem dX7_isKey_19 : decode cX7_isKey 19 = .ok (.aload_n 0, 1) := dk_42 (dk_at dksX7_isKey_0 19 rfl rfl)
theorem dX7_isKey_20 : decode cX7_isKey 20 = .ok (.getfield 165, 3) := dk_180 0 165 (dk_at dksX7_isKey_0 20 rfl rfl)
theorem dX7_isKey_23 : decode cX7_isKey 23 = .ok (.isub, 1) := dk_100 (dk_at dksX7_isKey_0 23 rfl rfl)
theorem dX7_isKey_24 : decode cX7_isKey 24 = .ok (.aload_n 1, 1) := dk_43 (dk_at dksX7_isKey_1 0 rfl rfl)
theorem dX7_isKey_25 : decode cX7_isKey 25 = .ok (.invokevirtual 57, 3) := dk_182 0 57 (dk_at dksX7_isKey_1 1 rfl rfl)
theorem dX7_isKey_28 : decode cX7_isKey 28 = .ok (.if_icmp .eq 5, 3) := dk_159 0 5 (dk_at dksX7_isKey_1 4 rfl rfl)
theorem dX7_isKey_31 : decode cX7_isKey 31 = .ok (.iconst 0, 1) := dk_3 (dk_at dksX7_isKey_1 7 rfl rfl)
theorem dX7_isKey_32 : decode cX7_isKey 32 = .ok (.ireturn, 1) := dk_172 (dk_at dksX7_isKey_1 8 rfl rfl)
theorem dX7_isKey_33 : decode cX7_isKey 33 = .ok (.iconst 0, 1) := dk_3 (dk_at dksX7_isKey_1 9 rfl rfl)
theorem dX7_isKey_34 : decode cX7_isKey 34 = .ok (.istore_n 2, 1) := dk_61 (dk_at dksX7_isKey_1 10 rfl rfl)
theorem dX7_isKey_35 : decode cX7_isKey 35 = .ok (.iload_n 2, 1) := dk_28 (dk_at dksX7_isKey_1 11 rfl rfl)
theorem dX7_isKey_36 : decode cX7_isKey 36 = .ok (.aload_n 1, 1) := dk_43 (dk_at dksX7_isKey_1 12 rfl rfl)
theorem dX7_isKey_37 : decode cX7_isKey 37 = .ok (.invokevirtual 57, 3) := dk_182 0 57 (dk_at dksX7_isKey_1 13 rfl rfl)
theorem dX7_isKey_40 : decode cX7_isKey 40 = .ok (.if_icmp .ge 30, 3) := dk_162 0 30 (dk_at dksX7_isKey_1 16 rfl rfl)
theorem dX7_isKey_43 : decode cX7_isKey 43 = .ok (.aload_n 0, 1) := dk_42 (dk_at dksX7_isKey_1 19 rfl rfl)
theorem dX7_isKey_44 : decode cX7_isKey 44 = .ok (.getfield 29, 3) := dk_180 0 29 (dk_at dksX7_isKey_1 20 rfl rfl)
theorem dX7_isKey_47 : decode cX7_isKey 47 = .ok (.aload_n 0, 1) := dk_42 (dk_at dksX7_isKey_1 23 rfl rfl)
theorem dX7_isKey_48 : decode cX7_isKey 48 = .ok (.getfield 165, 3) := dk_180 0 165 (dk_at dksX7_isKey_2 0 rfl rfl)
theorem dX7_isKey_51 : decode cX7_isKey 51 = .ok (.iload_n 2, 1) := dk_28 (dk_at dksX7_isKey_2 3 rfl rfl)
theorem dX7_isKey_52 : decode cX7_isKey 52 = .ok (.iadd, 1) := dk_96 (dk_at dksX7_isKey_2 4 rfl rfl)
theorem dX7_isKey_53 : decode cX7_isKey 53 = .ok (.iaload, 1) := dk_46 (dk_at dksX7_isKey_2 5 rfl rfl)
theorem dX7_isKey_54 : decode cX7_isKey 54 = .ok (.aload_n 1, 1) := dk_43 (dk_at dksX7_isKey_2 6 rfl rfl)
theorem dX7_isKey_55 : decode cX7_isKey 55 = .ok (.iload_n 2, 1) := dk_28 (dk_at dksX7_isKey_2 7 rfl rfl)
theorem dX7_isKey_56 : decode cX7_isKey 56 = .ok (.invokevirtual 63, 3) := dk_182 0 63 (dk_at dksX7_isKey_2 8 rfl rfl)
theorem dX7_isKey_59 : decode cX7_isKey 59 = .ok (.if_icmp .eq 5, 3) := dk_159 0 5 (dk_at dksX7_isKey_2 11 rfl rfl)
theorem dX7_isKey_62 : decode cX7_isKey 62 = .ok (.iconst 0, 1) := dk_3 (dk_at dksX7_isKey_2 14 rfl rfl)
theorem dX7_isKey_63 : decode cX7_isKey 63 = .ok (.ireturn, 1) := dk_172 (dk_at dksX7_isKey_2 15 rfl rfl)
theorem dX7_isKey_64 : decode cX7_isKey 64 = .ok (.iinc 2 1, 3) := dk_132 2 1 (dk_at dksX7_isKey_2 16 rfl rfl)
theorem dX7_isKey_67 : decode cX7_isKey 67 = .ok (.goto (-32), 3) := dk_167 255 224 (dk_at dksX7_isKey_2 19 rfl rfl)
theorem dX7_isKey_70 : decode cX7_isKey 70 = .ok (.iconst 1, 1) := dk_4 (dk_at dksX7_isKey_2 22 rfl rfl)
theorem dX7_isKey_71 : decode cX7_isKey 71 = .ok (.ireturn, 1) := dk_172 (dk_at dksX7_isKey_2 23 rfl rfl)
abbrev cX7_must : ByteArray := prog_19_method_40_code
def yX7_must : MethodName := ⟨RX7, "must", "(ZI)Z"⟩
def dkwX7_must_1 : List UInt8 := [42, 180, 0, 174, 154, 0, 7, 4, 167, 0, 4, 3, 172]
abbrev dktX7_must_1 : List UInt8 := dkwX7_must_1 ++ []
def dkwX7_must_0 : List UInt8 := [42, 180, 0, 174, 154, 0, 20, 27, 154, 0, 16, 42, 28, 181, 0, 174, 42, 42, 180, 0, 165, 181, 0, 32]
abbrev dktX7_must_0 : List UInt8 := dkwX7_must_0 ++ dktX7_must_1
theorem dksX7_must_0 : cX7_must.data.toList.drop 0 = dktX7_must_0 := by decide +kernel
theorem dksX7_must_1 : cX7_must.data.toList.drop 24 = dktX7_must_1 := dk_seg dksX7_must_0 24 rfl rfl
theorem dX7_must_0 : decode cX7_must 0 = .ok (.aload_n 0, 1) := dk_42 (dk_at dksX7_must_0 0 rfl rfl)
theorem dX7_must_1 : decode cX7_must 1 = .ok (.getfield 174, 3) := dk_180 0 174 (dk_at dksX7_must_0 1 rfl rfl)
theorem dX7_must_4 : decode cX7_must 4 = .ok (.ifCond .ne 20, 3) := dk_154 0 20 (dk_at dksX7_must_0 4 rfl rfl)
theorem dX7_must_7 : decode cX7_must 7 = .ok (.iload_n 1, 1) := dk_27 (dk_at dksX7_must_0 7 rfl rfl)
theorem dX7_must_8 : decode cX7_must 8 = .ok (.ifCond .ne 16, 3) := dk_154 0 16 (dk_at dksX7_must_0 8 rfl rfl)
theorem dX7_must_11 : decode cX7_must 11 = .ok (.aload_n 0, 1) := dk_42 (dk_at dksX7_must_0 11 rfl rfl)
theorem dX7_must_12 : decode cX7_must 12 = .ok (.iload_n 2, 1) := dk_28 (dk_at dksX7_must_0 12 rfl rfl)
theorem dX7_must_13 : decode cX7_must 13 = .ok (.putfield 174, 3) := dk_181 0 174 (dk_at dksX7_must_0 13 rfl rfl)
theorem dX7_must_16 : decode cX7_must 16 = .ok (.aload_n 0, 1) := dk_42 (dk_at dksX7_must_0 16 rfl rfl)
theorem dX7_must_17 : decode cX7_must 17 = .ok (.aload_n 0, 1) := dk_42 (dk_at dksX7_must_0 17 rfl rfl)
theorem dX7_must_18 : decode cX7_must 18 = .ok (.getfield 165, 3) := dk_180 0 165 (dk_at dksX7_must_0 18 rfl rfl)
theorem dX7_must_21 : decode cX7_must 21 = .ok (.putfield 32, 3) := dk_181 0 32 (dk_at dksX7_must_0 21 rfl rfl)
theorem dX7_must_24 : decode cX7_must 24 = .ok (.aload_n 0, 1) := dk_42 (dk_at dksX7_must_1 0 rfl rfl)
theorem dX7_must_25 : decode cX7_must 25 = .ok (.getfield 174, 3) := dk_180 0 174 (dk_at dksX7_must_1 1 rfl rfl)
theorem dX7_must_28 : decode cX7_must 28 = .ok (.ifCond .ne 7, 3) := dk_154 0 7 (dk_at dksX7_must_1 4 rfl rfl)
theorem dX7_must_31 : decode cX7_must 31 = .ok (.iconst 1, 1) := dk_4 (dk_at dksX7_must_1 7 rfl rfl)
theorem dX7_must_32 : decode cX7_must 32 = .ok (.goto 4, 3) := dk_167 0 4 (dk_at dksX7_must_1 8 rfl rfl)
theorem dX7_must_35 : decode cX7_must 35 = .ok (.iconst 0, 1) := dk_3 (dk_at dksX7_must_1 11 rfl rfl)
theorem dX7_must_36 : decode cX7_must 36 = .ok (.ireturn, 1) := dk_172 (dk_at dksX7_must_1 12 rfl rfl)
abbrev cX7_passes : ByteArray := prog_19_method_41_code
def yX7_passes : MethodName := ⟨RX7, "passes", "()V"⟩
def dkwX7_passes_0 : List UInt8 := [42, 180, 0, 174, 154, 0, 7, 42, 182, 0, 177, 177]
abbrev dktX7_passes_0 : List UInt8 := dkwX7_passes_0 ++ []
theorem dksX7_passes_0 : cX7_passes.data.toList.drop 0 = dktX7_passes_0 := by decide +kernel
theorem dX7_passes_0 : decode cX7_passes 0 = .ok (.aload_n 0, 1) := dk_42 (dk_at dksX7_passes_0 0 rfl rfl)
theorem dX7_passes_1 : decode cX7_passes 1 = .ok (.getfield 174, 3) := dk_180 0 174 (dk_at dksX7_passes_0 1 rfl rfl)
theorem dX7_passes_4 : decode cX7_passes 4 = .ok (.ifCond .ne 7, 3) := dk_154 0 7 (dk_at dksX7_passes_0 4 rfl rfl)
theorem dX7_passes_7 : decode cX7_passes 7 = .ok (.aload_n 0, 1) := dk_42 (dk_at dksX7_passes_0 7 rfl rfl)
theorem dX7_passes_8 : decode cX7_passes 8 = .ok (.invokevirtual 177, 3) := dk_182 0 177 (dk_at dksX7_passes_0 8 rfl rfl)
theorem dX7_passes_11 : decode cX7_passes 11 = .ok (.return_, 1) := dk_177 (dk_at dksX7_passes_0 11 rfl rfl)
abbrev cX7_number : ByteArray := prog_19_method_45_code
def yX7_number : MethodName := ⟨RX7, "number", "(II)I"⟩
def dkwX7_number_1 : List UInt8 := [180, 0, 171, 27, 28, 184, 0, 83, 5, 182, 0, 183, 87, 42, 180, 0, 171, 62, 42, 182, 0, 187, 29, 172]
abbrev dktX7_number_1 : List UInt8 := dkwX7_number_1 ++ []
def dkwX7_number_0 : List UInt8 := [42, 42, 180, 0, 168, 5, 160, 0, 7, 4, 167, 0, 4, 3, 4, 182, 0, 183, 153, 0, 18, 42, 42]
abbrev dktX7_number_0 : List UInt8 := dkwX7_number_0 ++ dktX7_number_1
theorem dksX7_number_0 : cX7_number.data.toList.drop 0 = dktX7_number_0 := by decide +kernel
theorem dksX7_number_1 : cX7_number.data.toList.drop 23 = dktX7_number_1 := dk_seg dksX7_number_0 23 rfl rfl
theorem dX7_number_0 : decode cX7_number 0 = .ok (.aload_n 0, 1) := dk_42 (dk_at dksX7_number_0 0 rfl rfl)
theorem dX7_number_1 : decode cX7_number 1 = .ok (.aload_n 0, 1) := dk_42 (dk_at dksX7_number_0 1 rfl rfl)
theorem dX7_number_2 : decode cX7_number 2 = .ok (.getfield 168, 3) := dk_180 0 168 (dk_at dksX7_number_0 2 rfl rfl)
theorem dX7_number_5 : decode cX7_number 5 = .ok (.iconst 2, 1) := dk_5 (dk_at dksX7_number_0 5 rfl rfl)
theorem dX7_number_6 : decode cX7_number 6 = .ok (.if_icmp .ne 7, 3) := dk_160 0 7 (dk_at dksX7_number_0 6 rfl rfl)
theorem dX7_number_9 : decode cX7_number 9 = .ok (.iconst 1, 1) := dk_4 (dk_at dksX7_number_0 9 rfl rfl)
theorem dX7_number_10 : decode cX7_number 10 = .ok (.goto 4, 3) := dk_167 0 4 (dk_at dksX7_number_0 10 rfl rfl)
theorem dX7_number_13 : decode cX7_number 13 = .ok (.iconst 0, 1) := dk_3 (dk_at dksX7_number_0 13 rfl rfl)
theorem dX7_number_14 : decode cX7_number 14 = .ok (.iconst 1, 1) := dk_4 (dk_at dksX7_number_0 14 rfl rfl)
theorem dX7_number_15 : decode cX7_number 15 = .ok (.invokevirtual 183, 3) := dk_182 0 183 (dk_at dksX7_number_0 15 rfl rfl)
theorem dX7_number_18 : decode cX7_number 18 = .ok (.ifCond .eq 18, 3) := dk_153 0 18 (dk_at dksX7_number_0 18 rfl rfl)
theorem dX7_number_21 : decode cX7_number 21 = .ok (.aload_n 0, 1) := dk_42 (dk_at dksX7_number_0 21 rfl rfl)
theorem dX7_number_22 : decode cX7_number 22 = .ok (.aload_n 0, 1) := dk_42 (dk_at dksX7_number_0 22 rfl rfl)
theorem dX7_number_23 : decode cX7_number 23 = .ok (.getfield 171, 3) := dk_180 0 171 (dk_at dksX7_number_1 0 rfl rfl)
theorem dX7_number_26 : decode cX7_number 26 = .ok (.iload_n 1, 1) := dk_27 (dk_at dksX7_number_1 3 rfl rfl)
theorem dX7_number_27 : decode cX7_number 27 = .ok (.iload_n 2, 1) := dk_28 (dk_at dksX7_number_1 4 rfl rfl)
theorem dX7_number_28 : decode cX7_number 28 = .ok (.invokestatic 83, 3) := dk_184 0 83 (dk_at dksX7_number_1 5 rfl rfl)
theorem dX7_number_31 : decode cX7_number 31 = .ok (.iconst 2, 1) := dk_5 (dk_at dksX7_number_1 8 rfl rfl)
theorem dX7_number_32 : decode cX7_number 32 = .ok (.invokevirtual 183, 3) := dk_182 0 183 (dk_at dksX7_number_1 9 rfl rfl)
theorem dX7_number_35 : decode cX7_number 35 = .ok (.pop, 1) := dk_87 (dk_at dksX7_number_1 12 rfl rfl)
theorem dX7_number_36 : decode cX7_number 36 = .ok (.aload_n 0, 1) := dk_42 (dk_at dksX7_number_1 13 rfl rfl)
theorem dX7_number_37 : decode cX7_number 37 = .ok (.getfield 171, 3) := dk_180 0 171 (dk_at dksX7_number_1 14 rfl rfl)
theorem dX7_number_40 : decode cX7_number 40 = .ok (.istore_n 3, 1) := dk_62 (dk_at dksX7_number_1 17 rfl rfl)
theorem dX7_number_41 : decode cX7_number 41 = .ok (.aload_n 0, 1) := dk_42 (dk_at dksX7_number_1 18 rfl rfl)
theorem dX7_number_42 : decode cX7_number 42 = .ok (.invokevirtual 187, 3) := dk_182 0 187 (dk_at dksX7_number_1 19 rfl rfl)
theorem dX7_number_45 : decode cX7_number 45 = .ok (.iload_n 3, 1) := dk_29 (dk_at dksX7_number_1 22 rfl rfl)
theorem dX7_number_46 : decode cX7_number 46 = .ok (.ireturn, 1) := dk_172 (dk_at dksX7_number_1 23 rfl rfl)
abbrev cX7_takesSign : ByteArray := prog_19_method_44_code
def yX7_takesSign : MethodName := ⟨RX7, "takesSign", "(I)V"⟩
def dkwX7_takesSign_0 : List UInt8 := [42, 42, 27, 182, 0, 180, 4, 182, 0, 183, 87, 42, 182, 0, 187, 177]
abbrev dktX7_takesSign_0 : List UInt8 := dkwX7_takesSign_0 ++ []
theorem dksX7_takesSign_0 : cX7_takesSign.data.toList.drop 0 = dktX7_takesSign_0 := by decide +kernel
theorem dX7_takesSign_0 : decode cX7_takesSign 0 = .ok (.aload_n 0, 1) := dk_42 (dk_at dksX7_takesSign_0 0 rfl rfl)
theorem dX7_takesSign_1 : decode cX7_takesSign 1 = .ok (.aload_n 0, 1) := dk_42 (dk_at dksX7_takesSign_0 1 rfl rfl)
theorem dX7_takesSign_2 : decode cX7_takesSign 2 = .ok (.iload_n 1, 1) := dk_27 (dk_at dksX7_takesSign_0 2 rfl rfl)
theorem dX7_takesSign_3 : decode cX7_takesSign 3 = .ok (.invokevirtual 180, 3) := dk_182 0 180 (dk_at dksX7_takesSign_0 3 rfl rfl)
theorem dX7_takesSign_6 : decode cX7_takesSign 6 = .ok (.iconst 1, 1) := dk_4 (dk_at dksX7_takesSign_0 6 rfl rfl)
theorem dX7_takesSign_7 : decode cX7_takesSign 7 = .ok (.invokevirtual 183, 3) := dk_182 0 183 (dk_at dksX7_takesSign_0 7 rfl rfl)
theorem dX7_takesSign_10 : decode cX7_takesSign 10 = .ok (.pop, 1) := dk_87 (dk_at dksX7_takesSign_0 10 rfl rfl)
theorem dX7_takesSign_11 : decode cX7_takesSign 11 = .ok (.aload_n 0, 1) := dk_42 (dk_at dksX7_takesSign_0 11 rfl rfl)
theorem dX7_takesSign_12 : decode cX7_takesSign 12 = .ok (.invokevirtual 187, 3) := dk_182 0 187 (dk_at dksX7_takesSign_0 12 rfl rfl)
theorem dX7_takesSign_15 : decode cX7_takesSign 15 = .ok (.return_, 1) := dk_177 (dk_at dksX7_takesSign_0 15 rfl rfl)
abbrev cX7_isSign : ByteArray := prog_19_method_42_code
def yX7_isSign : MethodName := ⟨RX7, "isSign", "(I)Z"⟩
def dkwX7_isSign_1 : List UInt8 := [160, 0, 7, 4, 167, 0, 4, 3, 172]
abbrev dktX7_isSign_1 : List UInt8 := dkwX7_isSign_1 ++ []
def dkwX7_isSign_0 : List UInt8 := [42, 180, 0, 174, 154, 0, 27, 42, 180, 0, 168, 6, 160, 0, 19, 42, 42, 180, 0, 165, 182, 0, 162, 27]
abbrev dktX7_isSign_0 : List UInt8 := dkwX7_isSign_0 ++ dktX7_isSign_1
theorem dksX7_isSign_0 : cX7_isSign.data.toList.drop 0 = dktX7_isSign_0 := by decide +kernel
theorem dksX7_isSign_1 : cX7_isSign.data.toList.drop 24 = dktX7_isSign_1 := dk_seg dksX7_isSign_0 24 rfl rfl
theorem dX7_isSign_0 : decode cX7_isSign 0 = .ok (.aload_n 0, 1) := dk_42 (dk_at dksX7_isSign_0 0 rfl rfl)
theorem dX7_isSign_1 : decode cX7_isSign 1 = .ok (.getfield 174, 3) := dk_180 0 174 (dk_at dksX7_isSign_0 1 rfl rfl)
theorem dX7_isSign_4 : decode cX7_isSign 4 = .ok (.ifCond .ne 27, 3) := dk_154 0 27 (dk_at dksX7_isSign_0 4 rfl rfl)
theorem dX7_isSign_7 : decode cX7_isSign 7 = .ok (.aload_n 0, 1) := dk_42 (dk_at dksX7_isSign_0 7 rfl rfl)
theorem dX7_isSign_8 : decode cX7_isSign 8 = .ok (.getfield 168, 3) := dk_180 0 168 (dk_at dksX7_isSign_0 8 rfl rfl)
theorem dX7_isSign_11 : decode cX7_isSign 11 = .ok (.iconst 3, 1) := dk_6 (dk_at dksX7_isSign_0 11 rfl rfl)
theorem dX7_isSign_12 : decode cX7_isSign 12 = .ok (.if_icmp .ne 19, 3) := dk_160 0 19 (dk_at dksX7_isSign_0 12 rfl rfl)
theorem dX7_isSign_15 : decode cX7_isSign 15 = .ok (.aload_n 0, 1) := dk_42 (dk_at dksX7_isSign_0 15 rfl rfl)
theorem dX7_isSign_16 : decode cX7_isSign 16 = .ok (.aload_n 0, 1) := dk_42 (dk_at dksX7_isSign_0 16 rfl rfl)
theorem dX7_isSign_17 : decode cX7_isSign 17 = .ok (.getfield 165, 3) := dk_180 0 165 (dk_at dksX7_isSign_0 17 rfl rfl)
theorem dX7_isSign_20 : decode cX7_isSign 20 = .ok (.invokevirtual 162, 3) := dk_182 0 162 (dk_at dksX7_isSign_0 20 rfl rfl)
theorem dX7_isSign_23 : decode cX7_isSign 23 = .ok (.iload_n 1, 1) := dk_27 (dk_at dksX7_isSign_0 23 rfl rfl)
theorem dX7_isSign_24 : decode cX7_isSign 24 = .ok (.if_icmp .ne 7, 3) := dk_160 0 7 (dk_at dksX7_isSign_1 0 rfl rfl)
theorem dX7_isSign_27 : decode cX7_isSign 27 = .ok (.iconst 1, 1) := dk_4 (dk_at dksX7_isSign_1 3 rfl rfl)
theorem dX7_isSign_28 : decode cX7_isSign 28 = .ok (.goto 4, 3) := dk_167 0 4 (dk_at dksX7_isSign_1 4 rfl rfl)
theorem dX7_isSign_31 : decode cX7_isSign 31 = .ok (.iconst 0, 1) := dk_3 (dk_at dksX7_isSign_1 7 rfl rfl)
theorem dX7_isSign_32 : decode cX7_isSign 32 = .ok (.ireturn, 1) := dk_172 (dk_at dksX7_isSign_1 8 rfl rfl)
abbrev cX7_readsArm : ByteArray := prog_19_method_50_code
def yX7_readsArm : MethodName := ⟨RX7, "readsArm", "()V"⟩
def dkwX7_readsArm_4 : List UInt8 := [42, 180, 0, 7, 6, 46, 4, 16, 157, 182, 0, 127, 42, 180, 0, 7, 6, 92, 46, 4, 96, 79, 177]
abbrev dktX7_readsArm_4 : List UInt8 := dkwX7_readsArm_4 ++ []
def dkwX7_readsArm_3 : List UInt8 := [182, 0, 187, 42, 180, 0, 174, 153, 0, 4, 177, 42, 42, 180, 0, 7, 6, 46, 3, 27, 182, 0, 127, 42]
abbrev dktX7_readsArm_3 : List UInt8 := dkwX7_readsArm_3 ++ dktX7_readsArm_4
def dkwX7_readsArm_2 : List UInt8 := [154, 0, 12, 42, 27, 182, 0, 202, 2, 160, 0, 7, 4, 167, 0, 4, 3, 6, 182, 0, 183, 87, 42]
abbrev dktX7_readsArm_2 : List UInt8 := dkwX7_readsArm_2 ++ dktX7_readsArm_3
def dkwX7_readsArm_1 : List UInt8 := [4, 167, 0, 4, 3, 8, 182, 0, 183, 87, 42, 182, 0, 187, 42, 182, 0, 193, 60, 42, 42, 180, 0, 174]
abbrev dktX7_readsArm_1 : List UInt8 := dkwX7_readsArm_1 ++ dktX7_readsArm_2
def dkwX7_readsArm_0 : List UInt8 := [42, 42, 18, 196, 182, 0, 198, 4, 182, 0, 183, 87, 42, 42, 180, 0, 7, 6, 46, 16, 8, 162, 0, 7]
abbrev dktX7_readsArm_0 : List UInt8 := dkwX7_readsArm_0 ++ dktX7_readsArm_1
theorem dksX7_readsArm_0 : cX7_readsArm.data.toList.drop 0 = dktX7_readsArm_0 := by decide +kernel
theorem dksX7_readsArm_1 : cX7_readsArm.data.toList.drop 24 = dktX7_readsArm_1 := dk_seg dksX7_readsArm_0 24 rfl rfl
theorem dksX7_readsArm_2 : cX7_readsArm.data.toList.drop 48 = dktX7_readsArm_2 := dk_seg dksX7_readsArm_1 24 rfl rfl
theorem dksX7_readsArm_3 : cX7_readsArm.data.toList.drop 71 = dktX7_readsArm_3 := dk_seg dksX7_readsArm_2 23 rfl rfl
theorem dksX7_readsArm_4 : cX7_readsArm.data.toList.drop 95 = dktX7_readsArm_4 := dk_seg dksX7_readsArm_3 24 rfl rfl
theorem dX7_readsArm_0 : decode cX7_readsArm 0 = .ok (.aload_n 0, 1) := dk_42 (dk_at dksX7_readsArm_0 0 rfl rfl)
theorem dX7_readsArm_1 : decode cX7_readsArm 1 = .ok (.aload_n 0, 1) := dk_42 (dk_at dksX7_readsArm_0 1 rfl rfl)
theorem dX7_readsArm_2 : decode cX7_readsArm 2 = .ok (.ldc 196, 2) := dk_18 196 (dk_at dksX7_readsArm_0 2 rfl rfl)
theorem dX7_readsArm_4 : decode cX7_readsArm 4 = .ok (.invokevirtual 198, 3) := dk_182 0 198 (dk_at dksX7_readsArm_0 4 rfl rfl)
theorem dX7_readsArm_7 : decode cX7_readsArm 7 = .ok (.iconst 1, 1) := dk_4 (dk_at dksX7_readsArm_0 7 rfl rfl)
theorem dX7_readsArm_8 : decode cX7_readsArm 8 = .ok (.invokevirtual 183, 3) := dk_182 0 183 (dk_at dksX7_readsArm_0 8 rfl rfl)
theorem dX7_readsArm_11 : decode cX7_readsArm 11 = .ok (.pop, 1) := dk_87 (dk_at dksX7_readsArm_0 11 rfl rfl)
theorem dX7_readsArm_12 : decode cX7_readsArm 12 = .ok (.aload_n 0, 1) := dk_42 (dk_at dksX7_readsArm_0 12 rfl rfl)
theorem dX7_readsArm_13 : decode cX7_readsArm 13 = .ok (.aload_n 0, 1) := dk_42 (dk_at dksX7_readsArm_0 13 rfl rfl)
theorem dX7_readsArm_14 : decode cX7_readsArm 14 = .ok (.getfield 7, 3) := dk_180 0 7 (dk_at dksX7_readsArm_0 14 rfl rfl)
theorem dX7_readsArm_17 : decode cX7_readsArm 17 = .ok (.iconst 3, 1) := dk_6 (dk_at dksX7_readsArm_0 17 rfl rfl)
theorem dX7_readsArm_18 : decode cX7_readsArm 18 = .ok (.iaload, 1) := dk_46 (dk_at dksX7_readsArm_0 18 rfl rfl)
theorem dX7_readsArm_19 : decode cX7_readsArm 19 = .ok (.bipush 8, 2) := dk_16 8 (dk_at dksX7_readsArm_0 19 rfl rfl)
theorem dX7_readsArm_21 : decode cX7_readsArm 21 = .ok (.if_icmp .ge 7, 3) := dk_162 0 7 (dk_at dksX7_readsArm_0 21 rfl rfl)
theorem dX7_readsArm_24 : decode cX7_readsArm 24 = .ok (.iconst 1, 1) := dk_4 (dk_at dksX7_readsArm_1 0 rfl rfl)
theorem dX7_readsArm_25 : decode cX7_readsArm 25 = .ok (.goto 4, 3) := dk_167 0 4 (dk_at dksX7_readsArm_1 1 rfl rfl)
theorem dX7_readsArm_28 : decode cX7_readsArm 28 = .ok (.iconst 0, 1) := dk_3 (dk_at dksX7_readsArm_1 4 rfl rfl)
theorem dX7_readsArm_29 : decode cX7_readsArm 29 = .ok (.iconst 5, 1) := dk_8 (dk_at dksX7_readsArm_1 5 rfl rfl)
theorem dX7_readsArm_30 : decode cX7_readsArm 30 = .ok (.invokevirtual 183, 3) := dk_182 0 183 (dk_at dksX7_readsArm_1 6 rfl rfl)
theorem dX7_readsArm_33 : decode cX7_readsArm 33 = .ok (.pop, 1) := dk_87 (dk_at dksX7_readsArm_1 9 rfl rfl)
theorem dX7_readsArm_34 : decode cX7_readsArm 34 = .ok (.aload_n 0, 1) := dk_42 (dk_at dksX7_readsArm_1 10 rfl rfl)
theorem dX7_readsArm_35 : decode cX7_readsArm 35 = .ok (.invokevirtual 187, 3) := dk_182 0 187 (dk_at dksX7_readsArm_1 11 rfl rfl)
theorem dX7_readsArm_38 : decode cX7_readsArm 38 = .ok (.aload_n 0, 1) := dk_42 (dk_at dksX7_readsArm_1 14 rfl rfl)
theorem dX7_readsArm_39 : decode cX7_readsArm 39 = .ok (.invokevirtual 193, 3) := dk_182 0 193 (dk_at dksX7_readsArm_1 15 rfl rfl)
theorem dX7_readsArm_42 : decode cX7_readsArm 42 = .ok (.istore_n 1, 1) := dk_60 (dk_at dksX7_readsArm_1 18 rfl rfl)
theorem dX7_readsArm_43 : decode cX7_readsArm 43 = .ok (.aload_n 0, 1) := dk_42 (dk_at dksX7_readsArm_1 19 rfl rfl)
theorem dX7_readsArm_44 : decode cX7_readsArm 44 = .ok (.aload_n 0, 1) := dk_42 (dk_at dksX7_readsArm_1 20 rfl rfl)
theorem dX7_readsArm_45 : decode cX7_readsArm 45 = .ok (.getfield 174, 3) := dk_180 0 174 (dk_at dksX7_readsArm_1 21 rfl rfl)
theorem dX7_readsArm_48 : decode cX7_readsArm 48 = .ok (.ifCond .ne 12, 3) := dk_154 0 12 (dk_at dksX7_readsArm_2 0 rfl rfl)
theorem dX7_readsArm_51 : decode cX7_readsArm 51 = .ok (.aload_n 0, 1) := dk_42 (dk_at dksX7_readsArm_2 3 rfl rfl)
theorem dX7_readsArm_52 : decode cX7_readsArm 52 = .ok (.iload_n 1, 1) := dk_27 (dk_at dksX7_readsArm_2 4 rfl rfl)
theorem dX7_readsArm_53 : decode cX7_readsArm 53 = .ok (.invokevirtual 202, 3) := dk_182 0 202 (dk_at dksX7_readsArm_2 5 rfl rfl)
theorem dX7_readsArm_56 : decode cX7_readsArm 56 = .ok (.iconst (-1), 1) := dk_2 (dk_at dksX7_readsArm_2 8 rfl rfl)
theorem dX7_readsArm_57 : decode cX7_readsArm 57 = .ok (.if_icmp .ne 7, 3) := dk_160 0 7 (dk_at dksX7_readsArm_2 9 rfl rfl)
theorem dX7_readsArm_60 : decode cX7_readsArm 60 = .ok (.iconst 1, 1) := dk_4 (dk_at dksX7_readsArm_2 12 rfl rfl)
theorem dX7_readsArm_61 : decode cX7_readsArm 61 = .ok (.goto 4, 3) := dk_167 0 4 (dk_at dksX7_readsArm_2 13 rfl rfl)
theorem dX7_readsArm_64 : decode cX7_readsArm 64 = .ok (.iconst 0, 1) := dk_3 (dk_at dksX7_readsArm_2 16 rfl rfl)
theorem dX7_readsArm_65 : decode cX7_readsArm 65 = .ok (.iconst 3, 1) := dk_6 (dk_at dksX7_readsArm_2 17 rfl rfl)
theorem dX7_readsArm_66 : decode cX7_readsArm 66 = .ok (.invokevirtual 183, 3) := dk_182 0 183 (dk_at dksX7_readsArm_2 18 rfl rfl)
theorem dX7_readsArm_69 : decode cX7_readsArm 69 = .ok (.pop, 1) := dk_87 (dk_at dksX7_readsArm_2 21 rfl rfl)
theorem dX7_readsArm_70 : decode cX7_readsArm 70 = .ok (.aload_n 0, 1) := dk_42 (dk_at dksX7_readsArm_2 22 rfl rfl)
theorem dX7_readsArm_71 : decode cX7_readsArm 71 = .ok (.invokevirtual 187, 3) := dk_182 0 187 (dk_at dksX7_readsArm_3 0 rfl rfl)
theorem dX7_readsArm_74 : decode cX7_readsArm 74 = .ok (.aload_n 0, 1) := dk_42 (dk_at dksX7_readsArm_3 3 rfl rfl)
theorem dX7_readsArm_75 : decode cX7_readsArm 75 = .ok (.getfield 174, 3) := dk_180 0 174 (dk_at dksX7_readsArm_3 4 rfl rfl)
theorem dX7_readsArm_78 : decode cX7_readsArm 78 = .ok (.ifCond .eq 4, 3) := dk_153 0 4 (dk_at dksX7_readsArm_3 7 rfl rfl)
theorem dX7_readsArm_81 : decode cX7_readsArm 81 = .ok (.return_, 1) := dk_177 (dk_at dksX7_readsArm_3 10 rfl rfl)
theorem dX7_readsArm_82 : decode cX7_readsArm 82 = .ok (.aload_n 0, 1) := dk_42 (dk_at dksX7_readsArm_3 11 rfl rfl)
theorem dX7_readsArm_83 : decode cX7_readsArm 83 = .ok (.aload_n 0, 1) := dk_42 (dk_at dksX7_readsArm_3 12 rfl rfl)
theorem dX7_readsArm_84 : decode cX7_readsArm 84 = .ok (.getfield 7, 3) := dk_180 0 7 (dk_at dksX7_readsArm_3 13 rfl rfl)
theorem dX7_readsArm_87 : decode cX7_readsArm 87 = .ok (.iconst 3, 1) := dk_6 (dk_at dksX7_readsArm_3 16 rfl rfl)
theorem dX7_readsArm_88 : decode cX7_readsArm 88 = .ok (.iaload, 1) := dk_46 (dk_at dksX7_readsArm_3 17 rfl rfl)
theorem dX7_readsArm_89 : decode cX7_readsArm 89 = .ok (.iconst 0, 1) := dk_3 (dk_at dksX7_readsArm_3 18 rfl rfl)
theorem dX7_readsArm_90 : decode cX7_readsArm 90 = .ok (.iload_n 1, 1) := dk_27 (dk_at dksX7_readsArm_3 19 rfl rfl)
theorem dX7_readsArm_91 : decode cX7_readsArm 91 = .ok (.invokevirtual 127, 3) := dk_182 0 127 (dk_at dksX7_readsArm_3 20 rfl rfl)
theorem dX7_readsArm_94 : decode cX7_readsArm 94 = .ok (.aload_n 0, 1) := dk_42 (dk_at dksX7_readsArm_3 23 rfl rfl)
theorem dX7_readsArm_95 : decode cX7_readsArm 95 = .ok (.aload_n 0, 1) := dk_42 (dk_at dksX7_readsArm_4 0 rfl rfl)
theorem dX7_readsArm_96 : decode cX7_readsArm 96 = .ok (.getfield 7, 3) := dk_180 0 7 (dk_at dksX7_readsArm_4 1 rfl rfl)
theorem dX7_readsArm_99 : decode cX7_readsArm 99 = .ok (.iconst 3, 1) := dk_6 (dk_at dksX7_readsArm_4 4 rfl rfl)
theorem dX7_readsArm_100 : decode cX7_readsArm 100 = .ok (.iaload, 1) := dk_46 (dk_at dksX7_readsArm_4 5 rfl rfl)
theorem dX7_readsArm_101 : decode cX7_readsArm 101 = .ok (.iconst 1, 1) := dk_4 (dk_at dksX7_readsArm_4 6 rfl rfl)
theorem dX7_readsArm_102 : decode cX7_readsArm 102 = .ok (.bipush (-99), 2) := dk_16 157 (dk_at dksX7_readsArm_4 7 rfl rfl)
theorem dX7_readsArm_104 : decode cX7_readsArm 104 = .ok (.invokevirtual 127, 3) := dk_182 0 127 (dk_at dksX7_readsArm_4 9 rfl rfl)
theorem dX7_readsArm_107 : decode cX7_readsArm 107 = .ok (.aload_n 0, 1) := dk_42 (dk_at dksX7_readsArm_4 12 rfl rfl)
theorem dX7_readsArm_108 : decode cX7_readsArm 108 = .ok (.getfield 7, 3) := dk_180 0 7 (dk_at dksX7_readsArm_4 13 rfl rfl)
theorem dX7_readsArm_111 : decode cX7_readsArm 111 = .ok (.iconst 3, 1) := dk_6 (dk_at dksX7_readsArm_4 16 rfl rfl)
theorem dX7_readsArm_112 : decode cX7_readsArm 112 = .ok (.dup2, 1) := dk_92 (dk_at dksX7_readsArm_4 17 rfl rfl)
theorem dX7_readsArm_113 : decode cX7_readsArm 113 = .ok (.iaload, 1) := dk_46 (dk_at dksX7_readsArm_4 18 rfl rfl)
theorem dX7_readsArm_114 : decode cX7_readsArm 114 = .ok (.iconst 1, 1) := dk_4 (dk_at dksX7_readsArm_4 19 rfl rfl)
theorem dX7_readsArm_115 : decode cX7_readsArm 115 = .ok (.iadd, 1) := dk_96 (dk_at dksX7_readsArm_4 20 rfl rfl)
theorem dX7_readsArm_116 : decode cX7_readsArm 116 = .ok (.iastore, 1) := dk_79 (dk_at dksX7_readsArm_4 21 rfl rfl)
theorem dX7_readsArm_117 : decode cX7_readsArm 117 = .ok (.return_, 1) := dk_177 (dk_at dksX7_readsArm_4 22 rfl rfl)
abbrev cX7_looksAtName : ByteArray := prog_19_method_48_code
def yX7_looksAtName : MethodName := ⟨RX7, "looksAtName", "()I"⟩
def dkwX7_looksAtName_3 : List UInt8 := [167, 0, 4, 3, 172]
abbrev dktX7_looksAtName_3 : List UInt8 := dkwX7_looksAtName_3 ++ []
def dkwX7_looksAtName_2 : List UInt8 := [180, 0, 174, 154, 0, 23, 42, 42, 180, 0, 165, 42, 180, 0, 159, 42, 180, 0, 165, 100, 182, 0, 190]
abbrev dktX7_looksAtName_2 : List UInt8 := dkwX7_looksAtName_2 ++ dktX7_looksAtName_3
def dkwX7_looksAtName_1 : List UInt8 := [180, 0, 159, 42, 180, 0, 165, 100, 16, 6, 163, 0, 7, 4, 167, 0, 4, 3, 5, 182, 0, 183, 87, 42]
abbrev dktX7_looksAtName_1 : List UInt8 := dkwX7_looksAtName_1 ++ dktX7_looksAtName_2
def dkwX7_looksAtName_0 : List UInt8 := [42, 42, 180, 0, 168, 4, 160, 0, 7, 4, 167, 0, 4, 3, 4, 182, 0, 183, 153, 0, 28, 42, 42]
abbrev dktX7_looksAtName_0 : List UInt8 := dkwX7_looksAtName_0 ++ dktX7_looksAtName_1
theorem dksX7_looksAtName_0 : cX7_looksAtName.data.toList.drop 0 = dktX7_looksAtName_0 := by decide +kernel
theorem dksX7_looksAtName_1 : cX7_looksAtName.data.toList.drop 23 = dktX7_looksAtName_1 := dk_seg dksX7_looksAtName_0 23 rfl rfl
theorem dksX7_looksAtName_2 : cX7_looksAtName.data.toList.drop 47 = dktX7_looksAtName_2 := dk_seg dksX7_looksAtName_1 24 rfl rfl
theorem dksX7_looksAtName_3 : cX7_looksAtName.data.toList.drop 70 = dktX7_looksAtName_3 := dk_seg dksX7_looksAtName_2 23 rfl rfl
theorem dX7_looksAtName_0 : decode cX7_looksAtName 0 = .ok (.aload_n 0, 1) := dk_42 (dk_at dksX7_looksAtName_0 0 rfl rfl)
theorem dX7_looksAtName_1 : decode cX7_looksAtName 1 = .ok (.aload_n 0, 1) := dk_42 (dk_at dksX7_looksAtName_0 1 rfl rfl)
theorem dX7_looksAtName_2 : decode cX7_looksAtName 2 = .ok (.getfield 168, 3) := dk_180 0 168 (dk_at dksX7_looksAtName_0 2 rfl rfl)
theorem dX7_looksAtName_5 : decode cX7_looksAtName 5 = .ok (.iconst 1, 1) := dk_4 (dk_at dksX7_looksAtName_0 5 rfl rfl)
theorem dX7_looksAtName_6 : decode cX7_looksAtName 6 = .ok (.if_icmp .ne 7, 3) := dk_160 0 7 (dk_at dksX7_looksAtName_0 6 rfl rfl)
theorem dX7_looksAtName_9 : decode cX7_looksAtName 9 = .ok (.iconst 1, 1) := dk_4 (dk_at dksX7_looksAtName_0 9 rfl rfl)
theorem dX7_looksAtName_10 : decode cX7_looksAtName 10 = .ok (.goto 4, 3) := dk_167 0 4 (dk_at dksX7_looksAtName_0 10 rfl rfl)
theorem dX7_looksAtName_13 : decode cX7_looksAtName 13 = .ok (.iconst 0, 1) := dk_3 (dk_at dksX7_looksAtName_0 13 rfl rfl)
theorem dX7_looksAtName_14 : decode cX7_looksAtName 14 = .ok (.iconst 1, 1) := dk_4 (dk_at dksX7_looksAtName_0 14 rfl rfl)
theorem dX7_looksAtName_15 : decode cX7_looksAtName 15 = .ok (.invokevirtual 183, 3) := dk_182 0 183 (dk_at dksX7_looksAtName_0 15 rfl rfl)
theorem dX7_looksAtName_18 : decode cX7_looksAtName 18 = .ok (.ifCond .eq 28, 3) := dk_153 0 28 (dk_at dksX7_looksAtName_0 18 rfl rfl)
theorem dX7_looksAtName_21 : decode cX7_looksAtName 21 = .ok (.aload_n 0, 1) := dk_42 (dk_at dksX7_looksAtName_0 21 rfl rfl)
theorem dX7_looksAtName_22 : decode cX7_looksAtName 22 = .ok (.aload_n 0, 1) := dk_42 (dk_at dksX7_looksAtName_0 22 rfl rfl)
theorem dX7_looksAtName_23 : decode cX7_looksAtName 23 = .ok (.getfield 159, 3) := dk_180 0 159 (dk_at dksX7_looksAtName_1 0 rfl rfl)
theorem dX7_looksAtName_26 : decode cX7_looksAtName 26 = .ok (.aload_n 0, 1) := dk_42 (dk_at dksX7_looksAtName_1 3 rfl rfl)
theorem dX7_looksAtName_27 : decode cX7_looksAtName 27 = .ok (.getfield 165, 3) := dk_180 0 165 (dk_at dksX7_looksAtName_1 4 rfl rfl)
theorem dX7_looksAtName_30 : decode cX7_looksAtName 30 = .ok (.isub, 1) := dk_100 (dk_at dksX7_looksAtName_1 7 rfl rfl)
theorem dX7_looksAtName_31 : decode cX7_looksAtName 31 = .ok (.bipush 6, 2) := dk_16 6 (dk_at dksX7_looksAtName_1 8 rfl rfl)
theorem dX7_looksAtName_33 : decode cX7_looksAtName 33 = .ok (.if_icmp .gt 7, 3) := dk_163 0 7 (dk_at dksX7_looksAtName_1 10 rfl rfl)
theorem dX7_looksAtName_36 : decode cX7_looksAtName 36 = .ok (.iconst 1, 1) := dk_4 (dk_at dksX7_looksAtName_1 13 rfl rfl)
theorem dX7_looksAtName_37 : decode cX7_looksAtName 37 = .ok (.goto 4, 3) := dk_167 0 4 (dk_at dksX7_looksAtName_1 14 rfl rfl)
theorem dX7_looksAtName_40 : decode cX7_looksAtName 40 = .ok (.iconst 0, 1) := dk_3 (dk_at dksX7_looksAtName_1 17 rfl rfl)
theorem dX7_looksAtName_41 : decode cX7_looksAtName 41 = .ok (.iconst 2, 1) := dk_5 (dk_at dksX7_looksAtName_1 18 rfl rfl)
theorem dX7_looksAtName_42 : decode cX7_looksAtName 42 = .ok (.invokevirtual 183, 3) := dk_182 0 183 (dk_at dksX7_looksAtName_1 19 rfl rfl)
theorem dX7_looksAtName_45 : decode cX7_looksAtName 45 = .ok (.pop, 1) := dk_87 (dk_at dksX7_looksAtName_1 22 rfl rfl)
theorem dX7_looksAtName_46 : decode cX7_looksAtName 46 = .ok (.aload_n 0, 1) := dk_42 (dk_at dksX7_looksAtName_1 23 rfl rfl)
theorem dX7_looksAtName_47 : decode cX7_looksAtName 47 = .ok (.getfield 174, 3) := dk_180 0 174 (dk_at dksX7_looksAtName_2 0 rfl rfl)
theorem dX7_looksAtName_50 : decode cX7_looksAtName 50 = .ok (.ifCond .ne 23, 3) := dk_154 0 23 (dk_at dksX7_looksAtName_2 3 rfl rfl)
theorem dX7_looksAtName_53 : decode cX7_looksAtName 53 = .ok (.aload_n 0, 1) := dk_42 (dk_at dksX7_looksAtName_2 6 rfl rfl)
theorem dX7_looksAtName_54 : decode cX7_looksAtName 54 = .ok (.aload_n 0, 1) := dk_42 (dk_at dksX7_looksAtName_2 7 rfl rfl)
theorem dX7_looksAtName_55 : decode cX7_looksAtName 55 = .ok (.getfield 165, 3) := dk_180 0 165 (dk_at dksX7_looksAtName_2 8 rfl rfl)
theorem dX7_looksAtName_58 : decode cX7_looksAtName 58 = .ok (.aload_n 0, 1) := dk_42 (dk_at dksX7_looksAtName_2 11 rfl rfl)
theorem dX7_looksAtName_59 : decode cX7_looksAtName 59 = .ok (.getfield 159, 3) := dk_180 0 159 (dk_at dksX7_looksAtName_2 12 rfl rfl)
theorem dX7_looksAtName_62 : decode cX7_looksAtName 62 = .ok (.aload_n 0, 1) := dk_42 (dk_at dksX7_looksAtName_2 15 rfl rfl)
theorem dX7_looksAtName_63 : decode cX7_looksAtName 63 = .ok (.getfield 165, 3) := dk_180 0 165 (dk_at dksX7_looksAtName_2 16 rfl rfl)
theorem dX7_looksAtName_66 : decode cX7_looksAtName 66 = .ok (.isub, 1) := dk_100 (dk_at dksX7_looksAtName_2 19 rfl rfl)
theorem dX7_looksAtName_67 : decode cX7_looksAtName 67 = .ok (.invokevirtual 190, 3) := dk_182 0 190 (dk_at dksX7_looksAtName_2 20 rfl rfl)
theorem dX7_looksAtName_70 : decode cX7_looksAtName 70 = .ok (.goto 4, 3) := dk_167 0 4 (dk_at dksX7_looksAtName_3 0 rfl rfl)
theorem dX7_looksAtName_73 : decode cX7_looksAtName 73 = .ok (.iconst 0, 1) := dk_3 (dk_at dksX7_looksAtName_3 3 rfl rfl)
theorem dX7_looksAtName_74 : decode cX7_looksAtName 74 = .ok (.ireturn, 1) := dk_172 (dk_at dksX7_looksAtName_3 4 rfl rfl)
abbrev cX7_packed : ByteArray := prog_19_method_46_code
def yX7_packed : MethodName := ⟨RX7, "packed", "(II)I"⟩
def dkwX7_packed_1 : List UInt8 := [96, 16, 96, 100, 62, 132, 4, 1, 167, 255, 229, 29, 172]
abbrev dktX7_packed_1 : List UInt8 := dkwX7_packed_1 ++ []
def dkwX7_packed_0 : List UInt8 := [3, 62, 3, 54, 4, 21, 4, 28, 162, 0, 27, 16, 27, 29, 104, 42, 180, 0, 29, 27, 21, 4, 96, 46]
abbrev dktX7_packed_0 : List UInt8 := dkwX7_packed_0 ++ dktX7_packed_1
theorem dksX7_packed_0 : cX7_packed.data.toList.drop 0 = dktX7_packed_0 := by decide +kernel
theorem dksX7_packed_1 : cX7_packed.data.toList.drop 24 = dktX7_packed_1 := dk_seg dksX7_packed_0 24 rfl rfl
theorem dX7_packed_0 : decode cX7_packed 0 = .ok (.iconst 0, 1) := dk_3 (dk_at dksX7_packed_0 0 rfl rfl)
theorem dX7_packed_1 : decode cX7_packed 1 = .ok (.istore_n 3, 1) := dk_62 (dk_at dksX7_packed_0 1 rfl rfl)
theorem dX7_packed_2 : decode cX7_packed 2 = .ok (.iconst 0, 1) := dk_3 (dk_at dksX7_packed_0 2 rfl rfl)
theorem dX7_packed_3 : decode cX7_packed 3 = .ok (.istore 4, 2) := dk_54 4 (dk_at dksX7_packed_0 3 rfl rfl)
theorem dX7_packed_5 : decode cX7_packed 5 = .ok (.iload 4, 2) := dk_21 4 (dk_at dksX7_packed_0 5 rfl rfl)
theorem dX7_packed_7 : decode cX7_packed 7 = .ok (.iload_n 2, 1) := dk_28 (dk_at dksX7_packed_0 7 rfl rfl)
theorem dX7_packed_8 : decode cX7_packed 8 = .ok (.if_icmp .ge 27, 3) := dk_162 0 27 (dk_at dksX7_packed_0 8 rfl rfl)
theorem dX7_packed_11 : decode cX7_packed 11 = .ok (.bipush 27, 2) := dk_16 27 (dk_at dksX7_packed_0 11 rfl rfl)
theorem dX7_packed_13 : decode cX7_packed 13 = .ok (.iload_n 3, 1) := dk_29 (dk_at dksX7_packed_0 13 rfl rfl)
theorem dX7_packed_14 : decode cX7_packed 14 = .ok (.imul, 1) := dk_104 (dk_at dksX7_packed_0 14 rfl rfl)
theorem dX7_packed_15 : decode cX7_packed 15 = .ok (.aload_n 0, 1) := dk_42 (dk_at dksX7_packed_0 15 rfl rfl)
theorem dX7_packed_16 : decode cX7_packed 16 = .ok (.getfield 29, 3) := dk_180 0 29 (dk_at dksX7_packed_0 16 rfl rfl)
theorem dX7_packed_19 : decode cX7_packed 19 = .ok (.iload_n 1, 1) := dk_27 (dk_at dksX7_packed_0 19 rfl rfl)
theorem dX7_packed_20 : decode cX7_packed 20 = .ok (.iload 4, 2) := dk_21 4 (dk_at dksX7_packed_0 20 rfl rfl)
theorem dX7_packed_22 : decode cX7_packed 22 = .ok (.iadd, 1) := dk_96 (dk_at dksX7_packed_0 22 rfl rfl)
theorem dX7_packed_23 : decode cX7_packed 23 = .ok (.iaload, 1) := dk_46 (dk_at dksX7_packed_0 23 rfl rfl)
theorem dX7_packed_24 : decode cX7_packed 24 = .ok (.iadd, 1) := dk_96 (dk_at dksX7_packed_1 0 rfl rfl)
theorem dX7_packed_25 : decode cX7_packed 25 = .ok (.bipush 96, 2) := dk_16 96 (dk_at dksX7_packed_1 1 rfl rfl)
theorem dX7_packed_27 : decode cX7_packed 27 = .ok (.isub, 1) := dk_100 (dk_at dksX7_packed_1 3 rfl rfl)
theorem dX7_packed_28 : decode cX7_packed 28 = .ok (.istore_n 3, 1) := dk_62 (dk_at dksX7_packed_1 4 rfl rfl)
theorem dX7_packed_29 : decode cX7_packed 29 = .ok (.iinc 4 1, 3) := dk_132 4 1 (dk_at dksX7_packed_1 5 rfl rfl)
theorem dX7_packed_32 : decode cX7_packed 32 = .ok (.goto (-27), 3) := dk_167 255 229 (dk_at dksX7_packed_1 8 rfl rfl)
theorem dX7_packed_35 : decode cX7_packed 35 = .ok (.iload_n 3, 1) := dk_29 (dk_at dksX7_packed_1 11 rfl rfl)
theorem dX7_packed_36 : decode cX7_packed 36 = .ok (.ireturn, 1) := dk_172 (dk_at dksX7_packed_1 12 rfl rfl)
abbrev cX7_named : ByteArray := prog_19_method_47_code
def yX7_named : MethodName := ⟨RX7, "named", "(I)I"⟩
def dkwX7_named_1 : List UInt8 := [132, 2, 1, 167, 255, 231, 2, 172]
abbrev dktX7_named_1 : List UInt8 := dkwX7_named_1 ++ []
def dkwX7_named_0 : List UInt8 := [3, 61, 28, 42, 180, 0, 7, 6, 46, 162, 0, 21, 42, 28, 3, 182, 0, 91, 27, 160, 0, 5, 28, 172]
abbrev dktX7_named_0 : List UInt8 := dkwX7_named_0 ++ dktX7_named_1
theorem dksX7_named_0 : cX7_named.data.toList.drop 0 = dktX7_named_0 := by decide +kernel
theorem dksX7_named_1 : cX7_named.data.toList.drop 24 = dktX7_named_1 := dk_seg dksX7_named_0 24 rfl rfl
theorem dX7_named_0 : decode cX7_named 0 = .ok (.iconst 0, 1) := dk_3 (dk_at dksX7_named_0 0 rfl rfl)
theorem dX7_named_1 : decode cX7_named 1 = .ok (.istore_n 2, 1) := dk_61 (dk_at dksX7_named_0 1 rfl rfl)
theorem dX7_named_2 : decode cX7_named 2 = .ok (.iload_n 2, 1) := dk_28 (dk_at dksX7_named_0 2 rfl rfl)
theorem dX7_named_3 : decode cX7_named 3 = .ok (.aload_n 0, 1) := dk_42 (dk_at dksX7_named_0 3 rfl rfl)
theorem dX7_named_4 : decode cX7_named 4 = .ok (.getfield 7, 3) := dk_180 0 7 (dk_at dksX7_named_0 4 rfl rfl)
theorem dX7_named_7 : decode cX7_named 7 = .ok (.iconst 3, 1) := dk_6 (dk_at dksX7_named_0 7 rfl rfl)
theorem dX7_named_8 : decode cX7_named 8 = .ok (.iaload, 1) := dk_46 (dk_at dksX7_named_0 8 rfl rfl)
theorem dX7_named_9 : decode cX7_named 9 = .ok (.if_icmp .ge 21, 3) := dk_162 0 21 (dk_at dksX7_named_0 9 rfl rfl)
theorem dX7_named_12 : decode cX7_named 12 = .ok (.aload_n 0, 1) := dk_42 (dk_at dksX7_named_0 12 rfl rfl)
theorem dX7_named_13 : decode cX7_named 13 = .ok (.iload_n 2, 1) := dk_28 (dk_at dksX7_named_0 13 rfl rfl)
theorem dX7_named_14 : decode cX7_named 14 = .ok (.iconst 0, 1) := dk_3 (dk_at dksX7_named_0 14 rfl rfl)
theorem dX7_named_15 : decode cX7_named 15 = .ok (.invokevirtual 91, 3) := dk_182 0 91 (dk_at dksX7_named_0 15 rfl rfl)
theorem dX7_named_18 : decode cX7_named 18 = .ok (.iload_n 1, 1) := dk_27 (dk_at dksX7_named_0 18 rfl rfl)
theorem dX7_named_19 : decode cX7_named 19 = .ok (.if_icmp .ne 5, 3) := dk_160 0 5 (dk_at dksX7_named_0 19 rfl rfl)
theorem dX7_named_22 : decode cX7_named 22 = .ok (.iload_n 2, 1) := dk_28 (dk_at dksX7_named_0 22 rfl rfl)
theorem dX7_named_23 : decode cX7_named 23 = .ok (.ireturn, 1) := dk_172 (dk_at dksX7_named_0 23 rfl rfl)
theorem dX7_named_24 : decode cX7_named 24 = .ok (.iinc 2 1, 3) := dk_132 2 1 (dk_at dksX7_named_1 0 rfl rfl)
theorem dX7_named_27 : decode cX7_named 27 = .ok (.goto (-25), 3) := dk_167 255 231 (dk_at dksX7_named_1 3 rfl rfl)
theorem dX7_named_30 : decode cX7_named 30 = .ok (.iconst (-1), 1) := dk_2 (dk_at dksX7_named_1 6 rfl rfl)
theorem dX7_named_31 : decode cX7_named 31 = .ok (.ireturn, 1) := dk_172 (dk_at dksX7_named_1 7 rfl rfl)
abbrev cX7_of : ByteArray := prog_19_method_6_code
def yX7_of : MethodName := ⟨RX7, "of", "(II)I"⟩
def dkwX7_of_0 : List UInt8 := [42, 180, 0, 7, 16, 17, 16, 6, 27, 104, 96, 28, 96, 46, 172]
abbrev dktX7_of_0 : List UInt8 := dkwX7_of_0 ++ []
theorem dksX7_of_0 : cX7_of.data.toList.drop 0 = dktX7_of_0 := by decide +kernel
theorem dX7_of_0 : decode cX7_of 0 = .ok (.aload_n 0, 1) := dk_42 (dk_at dksX7_of_0 0 rfl rfl)
theorem dX7_of_1 : decode cX7_of 1 = .ok (.getfield 7, 3) := dk_180 0 7 (dk_at dksX7_of_0 1 rfl rfl)
theorem dX7_of_4 : decode cX7_of 4 = .ok (.bipush 17, 2) := dk_16 17 (dk_at dksX7_of_0 4 rfl rfl)
theorem dX7_of_6 : decode cX7_of 6 = .ok (.bipush 6, 2) := dk_16 6 (dk_at dksX7_of_0 6 rfl rfl)
theorem dX7_of_8 : decode cX7_of 8 = .ok (.iload_n 1, 1) := dk_27 (dk_at dksX7_of_0 8 rfl rfl)
theorem dX7_of_9 : decode cX7_of 9 = .ok (.imul, 1) := dk_104 (dk_at dksX7_of_0 9 rfl rfl)
theorem dX7_of_10 : decode cX7_of 10 = .ok (.iadd, 1) := dk_96 (dk_at dksX7_of_0 10 rfl rfl)
theorem dX7_of_11 : decode cX7_of 11 = .ok (.iload_n 2, 1) := dk_28 (dk_at dksX7_of_0 11 rfl rfl)
theorem dX7_of_12 : decode cX7_of 12 = .ok (.iadd, 1) := dk_96 (dk_at dksX7_of_0 12 rfl rfl)
theorem dX7_of_13 : decode cX7_of 13 = .ok (.iaload, 1) := dk_46 (dk_at dksX7_of_0 13 rfl rfl)
theorem dX7_of_14 : decode cX7_of 14 = .ok (.ireturn, 1) := dk_172 (dk_at dksX7_of_0 14 rfl rfl)
abbrev cX7_puts : ByteArray := prog_19_method_7_code
def yX7_puts : MethodName := ⟨RX7, "puts", "(III)V"⟩
def dkwX7_puts_0 : List UInt8 := [42, 180, 0, 7, 16, 17, 16, 6, 27, 104, 96, 28, 96, 29, 79, 177]
abbrev dktX7_puts_0 : List UInt8 := dkwX7_puts_0 ++ []
theorem dksX7_puts_0 : cX7_puts.data.toList.drop 0 = dktX7_puts_0 := by decide +kernel
theorem dX7_puts_0 : decode cX7_puts 0 = .ok (.aload_n 0, 1) := dk_42 (dk_at dksX7_puts_0 0 rfl rfl)
theorem dX7_puts_1 : decode cX7_puts 1 = .ok (.getfield 7, 3) := dk_180 0 7 (dk_at dksX7_puts_0 1 rfl rfl)
theorem dX7_puts_4 : decode cX7_puts 4 = .ok (.bipush 17, 2) := dk_16 17 (dk_at dksX7_puts_0 4 rfl rfl)
theorem dX7_puts_6 : decode cX7_puts 6 = .ok (.bipush 6, 2) := dk_16 6 (dk_at dksX7_puts_0 6 rfl rfl)
theorem dX7_puts_8 : decode cX7_puts 8 = .ok (.iload_n 1, 1) := dk_27 (dk_at dksX7_puts_0 8 rfl rfl)
theorem dX7_puts_9 : decode cX7_puts 9 = .ok (.imul, 1) := dk_104 (dk_at dksX7_puts_0 9 rfl rfl)
theorem dX7_puts_10 : decode cX7_puts 10 = .ok (.iadd, 1) := dk_96 (dk_at dksX7_puts_0 10 rfl rfl)
theorem dX7_puts_11 : decode cX7_puts 11 = .ok (.iload_n 2, 1) := dk_28 (dk_at dksX7_puts_0 11 rfl rfl)
theorem dX7_puts_12 : decode cX7_puts 12 = .ok (.iadd, 1) := dk_96 (dk_at dksX7_puts_0 12 rfl rfl)
theorem dX7_puts_13 : decode cX7_puts 13 = .ok (.iload_n 3, 1) := dk_29 (dk_at dksX7_puts_0 13 rfl rfl)
theorem dX7_puts_14 : decode cX7_puts 14 = .ok (.iastore, 1) := dk_79 (dk_at dksX7_puts_0 14 rfl rfl)
theorem dX7_puts_15 : decode cX7_puts 15 = .ok (.return_, 1) := dk_177 (dk_at dksX7_puts_0 15 rfl rfl)
abbrev cX7_readsClash : ByteArray := prog_19_method_51_code
def yX7_readsClash : MethodName := ⟨RX7, "readsClash", "()V"⟩
def dkwX7_readsClash_4 : List UInt8 := [182, 0, 183, 87, 42, 182, 0, 187, 42, 180, 0, 174, 154, 0, 10, 42, 27, 28, 4, 182, 0, 205, 177]
abbrev dktX7_readsClash_4 : List UInt8 := dkwX7_readsClash_4 ++ []
def dkwX7_readsClash_3 : List UInt8 := [182, 0, 183, 87, 42, 42, 180, 0, 174, 154, 0, 8, 28, 2, 159, 0, 7, 4, 167, 0, 4, 3, 7]
abbrev dktX7_readsClash_3 : List UInt8 := dkwX7_readsClash_3 ++ dktX7_readsClash_4
def dkwX7_readsClash_2 : List UInt8 := [182, 0, 202, 61, 42, 42, 180, 0, 174, 154, 0, 8, 28, 27, 159, 0, 7, 4, 167, 0, 4, 3, 6]
abbrev dktX7_readsClash_2 : List UInt8 := dkwX7_readsClash_2 ++ dktX7_readsClash_3
def dkwX7_readsClash_1 : List UInt8 := [159, 0, 7, 4, 167, 0, 4, 3, 7, 182, 0, 183, 87, 42, 182, 0, 187, 42, 42, 182, 0, 193]
abbrev dktX7_readsClash_1 : List UInt8 := dkwX7_readsClash_1 ++ dktX7_readsClash_2
def dkwX7_readsClash_0 : List UInt8 := [42, 182, 0, 177, 42, 42, 182, 0, 193, 182, 0, 202, 60, 42, 42, 180, 0, 174, 154, 0, 8, 27, 2]
abbrev dktX7_readsClash_0 : List UInt8 := dkwX7_readsClash_0 ++ dktX7_readsClash_1
theorem dksX7_readsClash_0 : cX7_readsClash.data.toList.drop 0 = dktX7_readsClash_0 := by decide +kernel
theorem dksX7_readsClash_1 : cX7_readsClash.data.toList.drop 23 = dktX7_readsClash_1 := dk_seg dksX7_readsClash_0 23 rfl rfl
theorem dksX7_readsClash_2 : cX7_readsClash.data.toList.drop 45 = dktX7_readsClash_2 := dk_seg dksX7_readsClash_1 22 rfl rfl
theorem dksX7_readsClash_3 : cX7_readsClash.data.toList.drop 68 = dktX7_readsClash_3 := dk_seg dksX7_readsClash_2 23 rfl rfl
theorem dksX7_readsClash_4 : cX7_readsClash.data.toList.drop 91 = dktX7_readsClash_4 := dk_seg dksX7_readsClash_3 23 rfl rfl
theorem dX7_readsClash_0 : decode cX7_readsClash 0 = .ok (.aload_n 0, 1) := dk_42 (dk_at dksX7_readsClash_0 0 rfl rfl)
theorem dX7_readsClash_1 : decode cX7_readsClash 1 = .ok (.invokevirtual 177, 3) := dk_182 0 177 (dk_at dksX7_readsClash_0 1 rfl rfl)
theorem dX7_readsClash_4 : decode cX7_readsClash 4 = .ok (.aload_n 0, 1) := dk_42 (dk_at dksX7_readsClash_0 4 rfl rfl)
theorem dX7_readsClash_5 : decode cX7_readsClash 5 = .ok (.aload_n 0, 1) := dk_42 (dk_at dksX7_readsClash_0 5 rfl rfl)
theorem dX7_readsClash_6 : decode cX7_readsClash 6 = .ok (.invokevirtual 193, 3) := dk_182 0 193 (dk_at dksX7_readsClash_0 6 rfl rfl)
theorem dX7_readsClash_9 : decode cX7_readsClash 9 = .ok (.invokevirtual 202, 3) := dk_182 0 202 (dk_at dksX7_readsClash_0 9 rfl rfl)
theorem dX7_readsClash_12 : decode cX7_readsClash 12 = .ok (.istore_n 1, 1) := dk_60 (dk_at dksX7_readsClash_0 12 rfl rfl)
theorem dX7_readsClash_13 : decode cX7_readsClash 13 = .ok (.aload_n 0, 1) := dk_42 (dk_at dksX7_readsClash_0 13 rfl rfl)
theorem dX7_readsClash_14 : decode cX7_readsClash 14 = .ok (.aload_n 0, 1) := dk_42 (dk_at dksX7_readsClash_0 14 rfl rfl)
theorem dX7_readsClash_15 : decode cX7_readsClash 15 = .ok (.getfield 174, 3) := dk_180 0 174 (dk_at dksX7_readsClash_0 15 rfl rfl)
theorem dX7_readsClash_18 : decode cX7_readsClash 18 = .ok (.ifCond .ne 8, 3) := dk_154 0 8 (dk_at dksX7_readsClash_0 18 rfl rfl)
theorem dX7_readsClash_21 : decode cX7_readsClash 21 = .ok (.iload_n 1, 1) := dk_27 (dk_at dksX7_readsClash_0 21 rfl rfl)
theorem dX7_readsClash_22 : decode cX7_readsClash 22 = .ok (.iconst (-1), 1) := dk_2 (dk_at dksX7_readsClash_0 22 rfl rfl)
theorem dX7_readsClash_23 : decode cX7_readsClash 23 = .ok (.if_icmp .eq 7, 3) := dk_159 0 7 (dk_at dksX7_readsClash_1 0 rfl rfl)
theorem dX7_readsClash_26 : decode cX7_readsClash 26 = .ok (.iconst 1, 1) := dk_4 (dk_at dksX7_readsClash_1 3 rfl rfl)
theorem dX7_readsClash_27 : decode cX7_readsClash 27 = .ok (.goto 4, 3) := dk_167 0 4 (dk_at dksX7_readsClash_1 4 rfl rfl)
theorem dX7_readsClash_30 : decode cX7_readsClash 30 = .ok (.iconst 0, 1) := dk_3 (dk_at dksX7_readsClash_1 7 rfl rfl)
theorem dX7_readsClash_31 : decode cX7_readsClash 31 = .ok (.iconst 4, 1) := dk_7 (dk_at dksX7_readsClash_1 8 rfl rfl)
theorem dX7_readsClash_32 : decode cX7_readsClash 32 = .ok (.invokevirtual 183, 3) := dk_182 0 183 (dk_at dksX7_readsClash_1 9 rfl rfl)
theorem dX7_readsClash_35 : decode cX7_readsClash 35 = .ok (.pop, 1) := dk_87 (dk_at dksX7_readsClash_1 12 rfl rfl)
theorem dX7_readsClash_36 : decode cX7_readsClash 36 = .ok (.aload_n 0, 1) := dk_42 (dk_at dksX7_readsClash_1 13 rfl rfl)
theorem dX7_readsClash_37 : decode cX7_readsClash 37 = .ok (.invokevirtual 187, 3) := dk_182 0 187 (dk_at dksX7_readsClash_1 14 rfl rfl)
theorem dX7_readsClash_40 : decode cX7_readsClash 40 = .ok (.aload_n 0, 1) := dk_42 (dk_at dksX7_readsClash_1 17 rfl rfl)
theorem dX7_readsClash_41 : decode cX7_readsClash 41 = .ok (.aload_n 0, 1) := dk_42 (dk_at dksX7_readsClash_1 18 rfl rfl)
theorem dX7_readsClash_42 : decode cX7_readsClash 42 = .ok (.invokevirtual 193, 3) := dk_182 0 193 (dk_at dksX7_readsClash_1 19 rfl rfl)
theorem dX7_readsClash_45 : decode cX7_readsClash 45 = .ok (.invokevirtual 202, 3) := dk_182 0 202 (dk_at dksX7_readsClash_2 0 rfl rfl)
theorem dX7_readsClash_48 : decode cX7_readsClash 48 = .ok (.istore_n 2, 1) := dk_61 (dk_at dksX7_readsClash_2 3 rfl rfl)
theorem dX7_readsClash_49 : decode cX7_readsClash 49 = .ok (.aload_n 0, 1) := dk_42 (dk_at dksX7_readsClash_2 4 rfl rfl)
theorem dX7_readsClash_50 : decode cX7_readsClash 50 = .ok (.aload_n 0, 1) := dk_42 (dk_at dksX7_readsClash_2 5 rfl rfl)
theorem dX7_readsClash_51 : decode cX7_readsClash 51 = .ok (.getfield 174, 3) := dk_180 0 174 (dk_at dksX7_readsClash_2 6 rfl rfl)
theorem dX7_readsClash_54 : decode cX7_readsClash 54 = .ok (.ifCond .ne 8, 3) := dk_154 0 8 (dk_at dksX7_readsClash_2 9 rfl rfl)
theorem dX7_readsClash_57 : decode cX7_readsClash 57 = .ok (.iload_n 2, 1) := dk_28 (dk_at dksX7_readsClash_2 12 rfl rfl)
theorem dX7_readsClash_58 : decode cX7_readsClash 58 = .ok (.iload_n 1, 1) := dk_27 (dk_at dksX7_readsClash_2 13 rfl rfl)
theorem dX7_readsClash_59 : decode cX7_readsClash 59 = .ok (.if_icmp .eq 7, 3) := dk_159 0 7 (dk_at dksX7_readsClash_2 14 rfl rfl)
theorem dX7_readsClash_62 : decode cX7_readsClash 62 = .ok (.iconst 1, 1) := dk_4 (dk_at dksX7_readsClash_2 17 rfl rfl)
theorem dX7_readsClash_63 : decode cX7_readsClash 63 = .ok (.goto 4, 3) := dk_167 0 4 (dk_at dksX7_readsClash_2 18 rfl rfl)
theorem dX7_readsClash_66 : decode cX7_readsClash 66 = .ok (.iconst 0, 1) := dk_3 (dk_at dksX7_readsClash_2 21 rfl rfl)
theorem dX7_readsClash_67 : decode cX7_readsClash 67 = .ok (.iconst 3, 1) := dk_6 (dk_at dksX7_readsClash_2 22 rfl rfl)
theorem dX7_readsClash_68 : decode cX7_readsClash 68 = .ok (.invokevirtual 183, 3) := dk_182 0 183 (dk_at dksX7_readsClash_3 0 rfl rfl)
theorem dX7_readsClash_71 : decode cX7_readsClash 71 = .ok (.pop, 1) := dk_87 (dk_at dksX7_readsClash_3 3 rfl rfl)
theorem dX7_readsClash_72 : decode cX7_readsClash 72 = .ok (.aload_n 0, 1) := dk_42 (dk_at dksX7_readsClash_3 4 rfl rfl)
theorem dX7_readsClash_73 : decode cX7_readsClash 73 = .ok (.aload_n 0, 1) := dk_42 (dk_at dksX7_readsClash_3 5 rfl rfl)
theorem dX7_readsClash_74 : decode cX7_readsClash 74 = .ok (.getfield 174, 3) := dk_180 0 174 (dk_at dksX7_readsClash_3 6 rfl rfl)
theorem dX7_readsClash_77 : decode cX7_readsClash 77 = .ok (.ifCond .ne 8, 3) := dk_154 0 8 (dk_at dksX7_readsClash_3 9 rfl rfl)
theorem dX7_readsClash_80 : decode cX7_readsClash 80 = .ok (.iload_n 2, 1) := dk_28 (dk_at dksX7_readsClash_3 12 rfl rfl)
theorem dX7_readsClash_81 : decode cX7_readsClash 81 = .ok (.iconst (-1), 1) := dk_2 (dk_at dksX7_readsClash_3 13 rfl rfl)
theorem dX7_readsClash_82 : decode cX7_readsClash 82 = .ok (.if_icmp .eq 7, 3) := dk_159 0 7 (dk_at dksX7_readsClash_3 14 rfl rfl)
theorem dX7_readsClash_85 : decode cX7_readsClash 85 = .ok (.iconst 1, 1) := dk_4 (dk_at dksX7_readsClash_3 17 rfl rfl)
theorem dX7_readsClash_86 : decode cX7_readsClash 86 = .ok (.goto 4, 3) := dk_167 0 4 (dk_at dksX7_readsClash_3 18 rfl rfl)
theorem dX7_readsClash_89 : decode cX7_readsClash 89 = .ok (.iconst 0, 1) := dk_3 (dk_at dksX7_readsClash_3 21 rfl rfl)
theorem dX7_readsClash_90 : decode cX7_readsClash 90 = .ok (.iconst 4, 1) := dk_7 (dk_at dksX7_readsClash_3 22 rfl rfl)
theorem dX7_readsClash_91 : decode cX7_readsClash 91 = .ok (.invokevirtual 183, 3) := dk_182 0 183 (dk_at dksX7_readsClash_4 0 rfl rfl)
theorem dX7_readsClash_94 : decode cX7_readsClash 94 = .ok (.pop, 1) := dk_87 (dk_at dksX7_readsClash_4 3 rfl rfl)
theorem dX7_readsClash_95 : decode cX7_readsClash 95 = .ok (.aload_n 0, 1) := dk_42 (dk_at dksX7_readsClash_4 4 rfl rfl)
theorem dX7_readsClash_96 : decode cX7_readsClash 96 = .ok (.invokevirtual 187, 3) := dk_182 0 187 (dk_at dksX7_readsClash_4 5 rfl rfl)
theorem dX7_readsClash_99 : decode cX7_readsClash 99 = .ok (.aload_n 0, 1) := dk_42 (dk_at dksX7_readsClash_4 8 rfl rfl)
theorem dX7_readsClash_100 : decode cX7_readsClash 100 = .ok (.getfield 174, 3) := dk_180 0 174 (dk_at dksX7_readsClash_4 9 rfl rfl)
theorem dX7_readsClash_103 : decode cX7_readsClash 103 = .ok (.ifCond .ne 10, 3) := dk_154 0 10 (dk_at dksX7_readsClash_4 12 rfl rfl)
theorem dX7_readsClash_106 : decode cX7_readsClash 106 = .ok (.aload_n 0, 1) := dk_42 (dk_at dksX7_readsClash_4 15 rfl rfl)
theorem dX7_readsClash_107 : decode cX7_readsClash 107 = .ok (.iload_n 1, 1) := dk_27 (dk_at dksX7_readsClash_4 16 rfl rfl)
theorem dX7_readsClash_108 : decode cX7_readsClash 108 = .ok (.iload_n 2, 1) := dk_28 (dk_at dksX7_readsClash_4 17 rfl rfl)
theorem dX7_readsClash_109 : decode cX7_readsClash 109 = .ok (.iconst 1, 1) := dk_4 (dk_at dksX7_readsClash_4 18 rfl rfl)
theorem dX7_readsClash_110 : decode cX7_readsClash 110 = .ok (.invokevirtual 205, 3) := dk_182 0 205 (dk_at dksX7_readsClash_4 19 rfl rfl)
theorem dX7_readsClash_113 : decode cX7_readsClash 113 = .ok (.return_, 1) := dk_177 (dk_at dksX7_readsClash_4 22 rfl rfl)
abbrev cX7_putsClash : ByteArray := prog_19_method_12_code
def yX7_putsClash : MethodName := ⟨RX7, "putsClash", "(III)V"⟩
def dkwX7_putsClash_1 : List UInt8 := [104, 96, 27, 96, 29, 79, 177]
abbrev dktX7_putsClash_1 : List UInt8 := dkwX7_putsClash_1 ++ []
def dkwX7_putsClash_0 : List UInt8 := [42, 180, 0, 7, 16, 65, 16, 8, 27, 104, 96, 28, 96, 29, 79, 42, 180, 0, 7, 16, 65, 16, 8, 28]
abbrev dktX7_putsClash_0 : List UInt8 := dkwX7_putsClash_0 ++ dktX7_putsClash_1
theorem dksX7_putsClash_0 : cX7_putsClash.data.toList.drop 0 = dktX7_putsClash_0 := by decide +kernel
theorem dksX7_putsClash_1 : cX7_putsClash.data.toList.drop 24 = dktX7_putsClash_1 := dk_seg dksX7_putsClash_0 24 rfl rfl
theorem dX7_putsClash_0 : decode cX7_putsClash 0 = .ok (.aload_n 0, 1) := dk_42 (dk_at dksX7_putsClash_0 0 rfl rfl)
theorem dX7_putsClash_1 : decode cX7_putsClash 1 = .ok (.getfield 7, 3) := dk_180 0 7 (dk_at dksX7_putsClash_0 1 rfl rfl)
theorem dX7_putsClash_4 : decode cX7_putsClash 4 = .ok (.bipush 65, 2) := dk_16 65 (dk_at dksX7_putsClash_0 4 rfl rfl)
theorem dX7_putsClash_6 : decode cX7_putsClash 6 = .ok (.bipush 8, 2) := dk_16 8 (dk_at dksX7_putsClash_0 6 rfl rfl)
theorem dX7_putsClash_8 : decode cX7_putsClash 8 = .ok (.iload_n 1, 1) := dk_27 (dk_at dksX7_putsClash_0 8 rfl rfl)
theorem dX7_putsClash_9 : decode cX7_putsClash 9 = .ok (.imul, 1) := dk_104 (dk_at dksX7_putsClash_0 9 rfl rfl)
theorem dX7_putsClash_10 : decode cX7_putsClash 10 = .ok (.iadd, 1) := dk_96 (dk_at dksX7_putsClash_0 10 rfl rfl)
theorem dX7_putsClash_11 : decode cX7_putsClash 11 = .ok (.iload_n 2, 1) := dk_28 (dk_at dksX7_putsClash_0 11 rfl rfl)
theorem dX7_putsClash_12 : decode cX7_putsClash 12 = .ok (.iadd, 1) := dk_96 (dk_at dksX7_putsClash_0 12 rfl rfl)
theorem dX7_putsClash_13 : decode cX7_putsClash 13 = .ok (.iload_n 3, 1) := dk_29 (dk_at dksX7_putsClash_0 13 rfl rfl)
theorem dX7_putsClash_14 : decode cX7_putsClash 14 = .ok (.iastore, 1) := dk_79 (dk_at dksX7_putsClash_0 14 rfl rfl)
theorem dX7_putsClash_15 : decode cX7_putsClash 15 = .ok (.aload_n 0, 1) := dk_42 (dk_at dksX7_putsClash_0 15 rfl rfl)
theorem dX7_putsClash_16 : decode cX7_putsClash 16 = .ok (.getfield 7, 3) := dk_180 0 7 (dk_at dksX7_putsClash_0 16 rfl rfl)
theorem dX7_putsClash_19 : decode cX7_putsClash 19 = .ok (.bipush 65, 2) := dk_16 65 (dk_at dksX7_putsClash_0 19 rfl rfl)
theorem dX7_putsClash_21 : decode cX7_putsClash 21 = .ok (.bipush 8, 2) := dk_16 8 (dk_at dksX7_putsClash_0 21 rfl rfl)
theorem dX7_putsClash_23 : decode cX7_putsClash 23 = .ok (.iload_n 2, 1) := dk_28 (dk_at dksX7_putsClash_0 23 rfl rfl)
theorem dX7_putsClash_24 : decode cX7_putsClash 24 = .ok (.imul, 1) := dk_104 (dk_at dksX7_putsClash_1 0 rfl rfl)
theorem dX7_putsClash_25 : decode cX7_putsClash 25 = .ok (.iadd, 1) := dk_96 (dk_at dksX7_putsClash_1 1 rfl rfl)
theorem dX7_putsClash_26 : decode cX7_putsClash 26 = .ok (.iload_n 1, 1) := dk_27 (dk_at dksX7_putsClash_1 2 rfl rfl)
theorem dX7_putsClash_27 : decode cX7_putsClash 27 = .ok (.iadd, 1) := dk_96 (dk_at dksX7_putsClash_1 3 rfl rfl)
theorem dX7_putsClash_28 : decode cX7_putsClash 28 = .ok (.iload_n 3, 1) := dk_29 (dk_at dksX7_putsClash_1 4 rfl rfl)
theorem dX7_putsClash_29 : decode cX7_putsClash 29 = .ok (.iastore, 1) := dk_79 (dk_at dksX7_putsClash_1 5 rfl rfl)
theorem dX7_putsClash_30 : decode cX7_putsClash 30 = .ok (.return_, 1) := dk_177 (dk_at dksX7_putsClash_1 6 rfl rfl)
abbrev cX7_readsPhase : ByteArray := prog_19_method_54_code
def yX7_readsPhase : MethodName := ⟨RX7, "readsPhase", "()V"⟩
def dkwX7_readsPhase_5 : List UInt8 := [96, 79, 177]
abbrev dktX7_readsPhase_5 : List UInt8 := dkwX7_readsPhase_5 ++ []
def dkwX7_readsPhase_4 : List UInt8 := [42, 180, 0, 168, 4, 160, 0, 11, 42, 27, 182, 0, 219, 167, 255, 236, 42, 180, 0, 7, 7, 92, 46, 4]
abbrev dktX7_readsPhase_4 : List UInt8 := dkwX7_readsPhase_4 ++ dktX7_readsPhase_5
def dkwX7_readsPhase_3 : List UInt8 := [3, 28, 182, 0, 137, 42, 27, 4, 29, 182, 0, 137, 42, 27, 182, 0, 219, 42, 180, 0, 174, 154, 0, 19]
abbrev dktX7_readsPhase_3 : List UInt8 := dkwX7_readsPhase_3 ++ dktX7_readsPhase_4
def dkwX7_readsPhase_2 : List UInt8 := [16, 60, 182, 0, 216, 61, 42, 28, 16, 99, 182, 0, 216, 62, 42, 180, 0, 174, 153, 0, 4, 177, 42, 27]
abbrev dktX7_readsPhase_2 : List UInt8 := dkwX7_readsPhase_2 ++ dktX7_readsPhase_3
def dkwX7_readsPhase_1 : List UInt8 := [4, 167, 0, 4, 3, 8, 182, 0, 183, 87, 42, 182, 0, 187, 42, 180, 0, 7, 7, 46, 60, 42, 4]
abbrev dktX7_readsPhase_1 : List UInt8 := dkwX7_readsPhase_1 ++ dktX7_readsPhase_2
def dkwX7_readsPhase_0 : List UInt8 := [42, 42, 18, 214, 182, 0, 198, 4, 182, 0, 183, 87, 42, 42, 180, 0, 7, 7, 46, 16, 6, 162, 0, 7]
abbrev dktX7_readsPhase_0 : List UInt8 := dkwX7_readsPhase_0 ++ dktX7_readsPhase_1
theorem dksX7_readsPhase_0 : cX7_readsPhase.data.toList.drop 0 = dktX7_readsPhase_0 := by decide +kernel
theorem dksX7_readsPhase_1 : cX7_readsPhase.data.toList.drop 24 = dktX7_readsPhase_1 := dk_seg dksX7_readsPhase_0 24 rfl rfl
theorem dksX7_readsPhase_2 : cX7_readsPhase.data.toList.drop 47 = dktX7_readsPhase_2 := dk_seg dksX7_readsPhase_1 23 rfl rfl
theorem dksX7_readsPhase_3 : cX7_readsPhase.data.toList.drop 71 = dktX7_readsPhase_3 := dk_seg dksX7_readsPhase_2 24 rfl rfl
theorem dksX7_readsPhase_4 : cX7_readsPhase.data.toList.drop 95 = dktX7_readsPhase_4 := dk_seg dksX7_readsPhase_3 24 rfl rfl
theorem dksX7_readsPhase_5 : cX7_readsPhase.data.toList.drop 119 = dktX7_readsPhase_5 := dk_seg dksX7_readsPhase_4 24 rfl rfl
theorem dX7_readsPhase_0 : decode cX7_readsPhase 0 = .ok (.aload_n 0, 1) := dk_42 (dk_at dksX7_readsPhase_0 0 rfl rfl)
theorem dX7_readsPhase_1 : decode cX7_readsPhase 1 = .ok (.aload_n 0, 1) := dk_42 (dk_at dksX7_readsPhase_0 1 rfl rfl)
theorem dX7_readsPhase_2 : decode cX7_readsPhase 2 = .ok (.ldc 214, 2) := dk_18 214 (dk_at dksX7_readsPhase_0 2 rfl rfl)
theorem dX7_readsPhase_4 : decode cX7_readsPhase 4 = .ok (.invokevirtual 198, 3) := dk_182 0 198 (dk_at dksX7_readsPhase_0 4 rfl rfl)
theorem dX7_readsPhase_7 : decode cX7_readsPhase 7 = .ok (.iconst 1, 1) := dk_4 (dk_at dksX7_readsPhase_0 7 rfl rfl)
theorem dX7_readsPhase_8 : decode cX7_readsPhase 8 = .ok (.invokevirtual 183, 3) := dk_182 0 183 (dk_at dksX7_readsPhase_0 8 rfl rfl)
theorem dX7_readsPhase_11 : decode cX7_readsPhase 11 = .ok (.pop, 1) := dk_87 (dk_at dksX7_readsPhase_0 11 rfl rfl)
theorem dX7_readsPhase_12 : decode cX7_readsPhase 12 = .ok (.aload_n 0, 1) := dk_42 (dk_at dksX7_readsPhase_0 12 rfl rfl)
theorem dX7_readsPhase_13 : decode cX7_readsPhase 13 = .ok (.aload_n 0, 1) := dk_42 (dk_at dksX7_readsPhase_0 13 rfl rfl)
theorem dX7_readsPhase_14 : decode cX7_readsPhase 14 = .ok (.getfield 7, 3) := dk_180 0 7 (dk_at dksX7_readsPhase_0 14 rfl rfl)
theorem dX7_readsPhase_17 : decode cX7_readsPhase 17 = .ok (.iconst 4, 1) := dk_7 (dk_at dksX7_readsPhase_0 17 rfl rfl)
theorem dX7_readsPhase_18 : decode cX7_readsPhase 18 = .ok (.iaload, 1) := dk_46 (dk_at dksX7_readsPhase_0 18 rfl rfl)
theorem dX7_readsPhase_19 : decode cX7_readsPhase 19 = .ok (.bipush 6, 2) := dk_16 6 (dk_at dksX7_readsPhase_0 19 rfl rfl)
theorem dX7_readsPhase_21 : decode cX7_readsPhase 21 = .ok (.if_icmp .ge 7, 3) := dk_162 0 7 (dk_at dksX7_readsPhase_0 21 rfl rfl)
theorem dX7_readsPhase_24 : decode cX7_readsPhase 24 = .ok (.iconst 1, 1) := dk_4 (dk_at dksX7_readsPhase_1 0 rfl rfl)
theorem dX7_readsPhase_25 : decode cX7_readsPhase 25 = .ok (.goto 4, 3) := dk_167 0 4 (dk_at dksX7_readsPhase_1 1 rfl rfl)
theorem dX7_readsPhase_28 : decode cX7_readsPhase 28 = .ok (.iconst 0, 1) := dk_3 (dk_at dksX7_readsPhase_1 4 rfl rfl)
theorem dX7_readsPhase_29 : decode cX7_readsPhase 29 = .ok (.iconst 5, 1) := dk_8 (dk_at dksX7_readsPhase_1 5 rfl rfl)
theorem dX7_readsPhase_30 : decode cX7_readsPhase 30 = .ok (.invokevirtual 183, 3) := dk_182 0 183 (dk_at dksX7_readsPhase_1 6 rfl rfl)
theorem dX7_readsPhase_33 : decode cX7_readsPhase 33 = .ok (.pop, 1) := dk_87 (dk_at dksX7_readsPhase_1 9 rfl rfl)
theorem dX7_readsPhase_34 : decode cX7_readsPhase 34 = .ok (.aload_n 0, 1) := dk_42 (dk_at dksX7_readsPhase_1 10 rfl rfl)
theorem dX7_readsPhase_35 : decode cX7_readsPhase 35 = .ok (.invokevirtual 187, 3) := dk_182 0 187 (dk_at dksX7_readsPhase_1 11 rfl rfl)
theorem dX7_readsPhase_38 : decode cX7_readsPhase 38 = .ok (.aload_n 0, 1) := dk_42 (dk_at dksX7_readsPhase_1 14 rfl rfl)
theorem dX7_readsPhase_39 : decode cX7_readsPhase 39 = .ok (.getfield 7, 3) := dk_180 0 7 (dk_at dksX7_readsPhase_1 15 rfl rfl)
theorem dX7_readsPhase_42 : decode cX7_readsPhase 42 = .ok (.iconst 4, 1) := dk_7 (dk_at dksX7_readsPhase_1 18 rfl rfl)
theorem dX7_readsPhase_43 : decode cX7_readsPhase 43 = .ok (.iaload, 1) := dk_46 (dk_at dksX7_readsPhase_1 19 rfl rfl)
theorem dX7_readsPhase_44 : decode cX7_readsPhase 44 = .ok (.istore_n 1, 1) := dk_60 (dk_at dksX7_readsPhase_1 20 rfl rfl)
theorem dX7_readsPhase_45 : decode cX7_readsPhase 45 = .ok (.aload_n 0, 1) := dk_42 (dk_at dksX7_readsPhase_1 21 rfl rfl)
theorem dX7_readsPhase_46 : decode cX7_readsPhase 46 = .ok (.iconst 1, 1) := dk_4 (dk_at dksX7_readsPhase_1 22 rfl rfl)
theorem dX7_readsPhase_47 : decode cX7_readsPhase 47 = .ok (.bipush 60, 2) := dk_16 60 (dk_at dksX7_readsPhase_2 0 rfl rfl)
theorem dX7_readsPhase_49 : decode cX7_readsPhase 49 = .ok (.invokevirtual 216, 3) := dk_182 0 216 (dk_at dksX7_readsPhase_2 2 rfl rfl)
theorem dX7_readsPhase_52 : decode cX7_readsPhase 52 = .ok (.istore_n 2, 1) := dk_61 (dk_at dksX7_readsPhase_2 5 rfl rfl)
theorem dX7_readsPhase_53 : decode cX7_readsPhase 53 = .ok (.aload_n 0, 1) := dk_42 (dk_at dksX7_readsPhase_2 6 rfl rfl)
theorem dX7_readsPhase_54 : decode cX7_readsPhase 54 = .ok (.iload_n 2, 1) := dk_28 (dk_at dksX7_readsPhase_2 7 rfl rfl)
theorem dX7_readsPhase_55 : decode cX7_readsPhase 55 = .ok (.bipush 99, 2) := dk_16 99 (dk_at dksX7_readsPhase_2 8 rfl rfl)
theorem dX7_readsPhase_57 : decode cX7_readsPhase 57 = .ok (.invokevirtual 216, 3) := dk_182 0 216 (dk_at dksX7_readsPhase_2 10 rfl rfl)
theorem dX7_readsPhase_60 : decode cX7_readsPhase 60 = .ok (.istore_n 3, 1) := dk_62 (dk_at dksX7_readsPhase_2 13 rfl rfl)
theorem dX7_readsPhase_61 : decode cX7_readsPhase 61 = .ok (.aload_n 0, 1) := dk_42 (dk_at dksX7_readsPhase_2 14 rfl rfl)
theorem dX7_readsPhase_62 : decode cX7_readsPhase 62 = .ok (.getfield 174, 3) := dk_180 0 174 (dk_at dksX7_readsPhase_2 15 rfl rfl)
theorem dX7_readsPhase_65 : decode cX7_readsPhase 65 = .ok (.ifCond .eq 4, 3) := dk_153 0 4 (dk_at dksX7_readsPhase_2 18 rfl rfl)
theorem dX7_readsPhase_68 : decode cX7_readsPhase 68 = .ok (.return_, 1) := dk_177 (dk_at dksX7_readsPhase_2 21 rfl rfl)
theorem dX7_readsPhase_69 : decode cX7_readsPhase 69 = .ok (.aload_n 0, 1) := dk_42 (dk_at dksX7_readsPhase_2 22 rfl rfl)
theorem dX7_readsPhase_70 : decode cX7_readsPhase 70 = .ok (.iload_n 1, 1) := dk_27 (dk_at dksX7_readsPhase_2 23 rfl rfl)
theorem dX7_readsPhase_71 : decode cX7_readsPhase 71 = .ok (.iconst 0, 1) := dk_3 (dk_at dksX7_readsPhase_3 0 rfl rfl)
theorem dX7_readsPhase_72 : decode cX7_readsPhase 72 = .ok (.iload_n 2, 1) := dk_28 (dk_at dksX7_readsPhase_3 1 rfl rfl)
theorem dX7_readsPhase_73 : decode cX7_readsPhase 73 = .ok (.invokevirtual 137, 3) := dk_182 0 137 (dk_at dksX7_readsPhase_3 2 rfl rfl)
theorem dX7_readsPhase_76 : decode cX7_readsPhase 76 = .ok (.aload_n 0, 1) := dk_42 (dk_at dksX7_readsPhase_3 5 rfl rfl)
theorem dX7_readsPhase_77 : decode cX7_readsPhase 77 = .ok (.iload_n 1, 1) := dk_27 (dk_at dksX7_readsPhase_3 6 rfl rfl)
theorem dX7_readsPhase_78 : decode cX7_readsPhase 78 = .ok (.iconst 1, 1) := dk_4 (dk_at dksX7_readsPhase_3 7 rfl rfl)
theorem dX7_readsPhase_79 : decode cX7_readsPhase 79 = .ok (.iload_n 3, 1) := dk_29 (dk_at dksX7_readsPhase_3 8 rfl rfl)
theorem dX7_readsPhase_80 : decode cX7_readsPhase 80 = .ok (.invokevirtual 137, 3) := dk_182 0 137 (dk_at dksX7_readsPhase_3 9 rfl rfl)
theorem dX7_readsPhase_83 : decode cX7_readsPhase 83 = .ok (.aload_n 0, 1) := dk_42 (dk_at dksX7_readsPhase_3 12 rfl rfl)
theorem dX7_readsPhase_84 : decode cX7_readsPhase 84 = .ok (.iload_n 1, 1) := dk_27 (dk_at dksX7_readsPhase_3 13 rfl rfl)
theorem dX7_readsPhase_85 : decode cX7_readsPhase 85 = .ok (.invokevirtual 219, 3) := dk_182 0 219 (dk_at dksX7_readsPhase_3 14 rfl rfl)
theorem dX7_readsPhase_88 : decode cX7_readsPhase 88 = .ok (.aload_n 0, 1) := dk_42 (dk_at dksX7_readsPhase_3 17 rfl rfl)
theorem dX7_readsPhase_89 : decode cX7_readsPhase 89 = .ok (.getfield 174, 3) := dk_180 0 174 (dk_at dksX7_readsPhase_3 18 rfl rfl)
theorem dX7_readsPhase_92 : decode cX7_readsPhase 92 = .ok (.ifCond .ne 19, 3) := dk_154 0 19 (dk_at dksX7_readsPhase_3 21 rfl rfl)
theorem dX7_readsPhase_95 : decode cX7_readsPhase 95 = .ok (.aload_n 0, 1) := dk_42 (dk_at dksX7_readsPhase_4 0 rfl rfl)
theorem dX7_readsPhase_96 : decode cX7_readsPhase 96 = .ok (.getfield 168, 3) := dk_180 0 168 (dk_at dksX7_readsPhase_4 1 rfl rfl)
theorem dX7_readsPhase_99 : decode cX7_readsPhase 99 = .ok (.iconst 1, 1) := dk_4 (dk_at dksX7_readsPhase_4 4 rfl rfl)
theorem dX7_readsPhase_100 : decode cX7_readsPhase 100 = .ok (.if_icmp .ne 11, 3) := dk_160 0 11 (dk_at dksX7_readsPhase_4 5 rfl rfl)
theorem dX7_readsPhase_103 : decode cX7_readsPhase 103 = .ok (.aload_n 0, 1) := dk_42 (dk_at dksX7_readsPhase_4 8 rfl rfl)
theorem dX7_readsPhase_104 : decode cX7_readsPhase 104 = .ok (.iload_n 1, 1) := dk_27 (dk_at dksX7_readsPhase_4 9 rfl rfl)
theorem dX7_readsPhase_105 : decode cX7_readsPhase 105 = .ok (.invokevirtual 219, 3) := dk_182 0 219 (dk_at dksX7_readsPhase_4 10 rfl rfl)
theorem dX7_readsPhase_108 : decode cX7_readsPhase 108 = .ok (.goto (-20), 3) := dk_167 255 236 (dk_at dksX7_readsPhase_4 13 rfl rfl)
theorem dX7_readsPhase_111 : decode cX7_readsPhase 111 = .ok (.aload_n 0, 1) := dk_42 (dk_at dksX7_readsPhase_4 16 rfl rfl)
theorem dX7_readsPhase_112 : decode cX7_readsPhase 112 = .ok (.getfield 7, 3) := dk_180 0 7 (dk_at dksX7_readsPhase_4 17 rfl rfl)
theorem dX7_readsPhase_115 : decode cX7_readsPhase 115 = .ok (.iconst 4, 1) := dk_7 (dk_at dksX7_readsPhase_4 20 rfl rfl)
theorem dX7_readsPhase_116 : decode cX7_readsPhase 116 = .ok (.dup2, 1) := dk_92 (dk_at dksX7_readsPhase_4 21 rfl rfl)
theorem dX7_readsPhase_117 : decode cX7_readsPhase 117 = .ok (.iaload, 1) := dk_46 (dk_at dksX7_readsPhase_4 22 rfl rfl)
theorem dX7_readsPhase_118 : decode cX7_readsPhase 118 = .ok (.iconst 1, 1) := dk_4 (dk_at dksX7_readsPhase_4 23 rfl rfl)
theorem dX7_readsPhase_119 : decode cX7_readsPhase 119 = .ok (.iadd, 1) := dk_96 (dk_at dksX7_readsPhase_5 0 rfl rfl)
theorem dX7_readsPhase_120 : decode cX7_readsPhase 120 = .ok (.iastore, 1) := dk_79 (dk_at dksX7_readsPhase_5 1 rfl rfl)
theorem dX7_readsPhase_121 : decode cX7_readsPhase 121 = .ok (.return_, 1) := dk_177 (dk_at dksX7_readsPhase_5 2 rfl rfl)
abbrev cX7_putPhase : ByteArray := prog_19_method_9_code
def yX7_putPhase : MethodName := ⟨RX7, "putPhase", "(III)V"⟩
def dkwX7_putPhase_0 : List UInt8 := [42, 180, 0, 7, 17, 0, 129, 16, 12, 27, 104, 96, 28, 96, 29, 79, 177]
abbrev dktX7_putPhase_0 : List UInt8 := dkwX7_putPhase_0 ++ []
theorem dksX7_putPhase_0 : cX7_putPhase.data.toList.drop 0 = dktX7_putPhase_0 := by decide +kernel
theorem dX7_putPhase_0 : decode cX7_putPhase 0 = .ok (.aload_n 0, 1) := dk_42 (dk_at dksX7_putPhase_0 0 rfl rfl)
theorem dX7_putPhase_1 : decode cX7_putPhase 1 = .ok (.getfield 7, 3) := dk_180 0 7 (dk_at dksX7_putPhase_0 1 rfl rfl)
theorem dX7_putPhase_4 : decode cX7_putPhase 4 = .ok (.sipush 129, 3) := dk_17 0 129 (dk_at dksX7_putPhase_0 4 rfl rfl)
theorem dX7_putPhase_7 : decode cX7_putPhase 7 = .ok (.bipush 12, 2) := dk_16 12 (dk_at dksX7_putPhase_0 7 rfl rfl)
theorem dX7_putPhase_9 : decode cX7_putPhase 9 = .ok (.iload_n 1, 1) := dk_27 (dk_at dksX7_putPhase_0 9 rfl rfl)
theorem dX7_putPhase_10 : decode cX7_putPhase 10 = .ok (.imul, 1) := dk_104 (dk_at dksX7_putPhase_0 10 rfl rfl)
theorem dX7_putPhase_11 : decode cX7_putPhase 11 = .ok (.iadd, 1) := dk_96 (dk_at dksX7_putPhase_0 11 rfl rfl)
theorem dX7_putPhase_12 : decode cX7_putPhase 12 = .ok (.iload_n 2, 1) := dk_28 (dk_at dksX7_putPhase_0 12 rfl rfl)
theorem dX7_putPhase_13 : decode cX7_putPhase 13 = .ok (.iadd, 1) := dk_96 (dk_at dksX7_putPhase_0 13 rfl rfl)
theorem dX7_putPhase_14 : decode cX7_putPhase 14 = .ok (.iload_n 3, 1) := dk_29 (dk_at dksX7_putPhase_0 14 rfl rfl)
theorem dX7_putPhase_15 : decode cX7_putPhase 15 = .ok (.iastore, 1) := dk_79 (dk_at dksX7_putPhase_0 15 rfl rfl)
theorem dX7_putPhase_16 : decode cX7_putPhase 16 = .ok (.return_, 1) := dk_177 (dk_at dksX7_putPhase_0 16 rfl rfl)
abbrev cX7_readsMember : ByteArray := prog_19_method_53_code
def yX7_readsMember : MethodName := ⟨RX7, "readsMember", "(I)V"⟩
def dkwX7_readsMember_3 : List UInt8 := [180, 0, 174, 154, 0, 12, 42, 27, 7, 28, 96, 4, 182, 0, 137, 177]
abbrev dktX7_readsMember_3 : List UInt8 := dkwX7_readsMember_3 ++ []
def dkwX7_readsMember_2 : List UInt8 := [154, 0, 8, 28, 2, 159, 0, 7, 4, 167, 0, 4, 3, 7, 182, 0, 183, 87, 42, 182, 0, 187, 42]
abbrev dktX7_readsMember_2 : List UInt8 := dkwX7_readsMember_2 ++ dktX7_readsMember_3
def dkwX7_readsMember_1 : List UInt8 := [28, 182, 0, 211, 153, 0, 7, 4, 167, 0, 4, 3, 6, 182, 0, 183, 87, 42, 42, 180, 0, 174]
abbrev dktX7_readsMember_1 : List UInt8 := dkwX7_readsMember_1 ++ dktX7_readsMember_2
def dkwX7_readsMember_0 : List UInt8 := [42, 42, 182, 0, 193, 182, 0, 202, 61, 42, 42, 180, 0, 174, 154, 0, 17, 28, 2, 159, 0, 12, 42, 27]
abbrev dktX7_readsMember_0 : List UInt8 := dkwX7_readsMember_0 ++ dktX7_readsMember_1
theorem dksX7_readsMember_0 : cX7_readsMember.data.toList.drop 0 = dktX7_readsMember_0 := by decide +kernel
theorem dksX7_readsMember_1 : cX7_readsMember.data.toList.drop 24 = dktX7_readsMember_1 := dk_seg dksX7_readsMember_0 24 rfl rfl
theorem dksX7_readsMember_2 : cX7_readsMember.data.toList.drop 46 = dktX7_readsMember_2 := dk_seg dksX7_readsMember_1 22 rfl rfl
theorem dksX7_readsMember_3 : cX7_readsMember.data.toList.drop 69 = dktX7_readsMember_3 := dk_seg dksX7_readsMember_2 23 rfl rfl
theorem dX7_readsMember_0 : decode cX7_readsMember 0 = .ok (.aload_n 0, 1) := dk_42 (dk_at dksX7_readsMember_0 0 rfl rfl)
theorem dX7_readsMember_1 : decode cX7_readsMember 1 = .ok (.aload_n 0, 1) := dk_42 (dk_at dksX7_readsMember_0 1 rfl rfl)
theorem dX7_readsMember_2 : decode cX7_readsMember 2 = .ok (.invokevirtual 193, 3) := dk_182 0 193 (dk_at dksX7_readsMember_0 2 rfl rfl)
theorem dX7_readsMember_5 : decode cX7_readsMember 5 = .ok (.invokevirtual 202, 3) := dk_182 0 202 (dk_at dksX7_readsMember_0 5 rfl rfl)
theorem dX7_readsMember_8 : decode cX7_readsMember 8 = .ok (.istore_n 2, 1) := dk_61 (dk_at dksX7_readsMember_0 8 rfl rfl)
theorem dX7_readsMember_9 : decode cX7_readsMember 9 = .ok (.aload_n 0, 1) := dk_42 (dk_at dksX7_readsMember_0 9 rfl rfl)
theorem dX7_readsMember_10 : decode cX7_readsMember 10 = .ok (.aload_n 0, 1) := dk_42 (dk_at dksX7_readsMember_0 10 rfl rfl)
theorem dX7_readsMember_11 : decode cX7_readsMember 11 = .ok (.getfield 174, 3) := dk_180 0 174 (dk_at dksX7_readsMember_0 11 rfl rfl)
theorem dX7_readsMember_14 : decode cX7_readsMember 14 = .ok (.ifCond .ne 17, 3) := dk_154 0 17 (dk_at dksX7_readsMember_0 14 rfl rfl)
theorem dX7_readsMember_17 : decode cX7_readsMember 17 = .ok (.iload_n 2, 1) := dk_28 (dk_at dksX7_readsMember_0 17 rfl rfl)
theorem dX7_readsMember_18 : decode cX7_readsMember 18 = .ok (.iconst (-1), 1) := dk_2 (dk_at dksX7_readsMember_0 18 rfl rfl)
theorem dX7_readsMember_19 : decode cX7_readsMember 19 = .ok (.if_icmp .eq 12, 3) := dk_159 0 12 (dk_at dksX7_readsMember_0 19 rfl rfl)
theorem dX7_readsMember_22 : decode cX7_readsMember 22 = .ok (.aload_n 0, 1) := dk_42 (dk_at dksX7_readsMember_0 22 rfl rfl)
theorem dX7_readsMember_23 : decode cX7_readsMember 23 = .ok (.iload_n 1, 1) := dk_27 (dk_at dksX7_readsMember_0 23 rfl rfl)
theorem dX7_readsMember_24 : decode cX7_readsMember 24 = .ok (.iload_n 2, 1) := dk_28 (dk_at dksX7_readsMember_1 0 rfl rfl)
theorem dX7_readsMember_25 : decode cX7_readsMember 25 = .ok (.invokevirtual 211, 3) := dk_182 0 211 (dk_at dksX7_readsMember_1 1 rfl rfl)
theorem dX7_readsMember_28 : decode cX7_readsMember 28 = .ok (.ifCond .eq 7, 3) := dk_153 0 7 (dk_at dksX7_readsMember_1 4 rfl rfl)
theorem dX7_readsMember_31 : decode cX7_readsMember 31 = .ok (.iconst 1, 1) := dk_4 (dk_at dksX7_readsMember_1 7 rfl rfl)
theorem dX7_readsMember_32 : decode cX7_readsMember 32 = .ok (.goto 4, 3) := dk_167 0 4 (dk_at dksX7_readsMember_1 8 rfl rfl)
theorem dX7_readsMember_35 : decode cX7_readsMember 35 = .ok (.iconst 0, 1) := dk_3 (dk_at dksX7_readsMember_1 11 rfl rfl)
theorem dX7_readsMember_36 : decode cX7_readsMember 36 = .ok (.iconst 3, 1) := dk_6 (dk_at dksX7_readsMember_1 12 rfl rfl)
theorem dX7_readsMember_37 : decode cX7_readsMember 37 = .ok (.invokevirtual 183, 3) := dk_182 0 183 (dk_at dksX7_readsMember_1 13 rfl rfl)
theorem dX7_readsMember_40 : decode cX7_readsMember 40 = .ok (.pop, 1) := dk_87 (dk_at dksX7_readsMember_1 16 rfl rfl)
theorem dX7_readsMember_41 : decode cX7_readsMember 41 = .ok (.aload_n 0, 1) := dk_42 (dk_at dksX7_readsMember_1 17 rfl rfl)
theorem dX7_readsMember_42 : decode cX7_readsMember 42 = .ok (.aload_n 0, 1) := dk_42 (dk_at dksX7_readsMember_1 18 rfl rfl)
theorem dX7_readsMember_43 : decode cX7_readsMember 43 = .ok (.getfield 174, 3) := dk_180 0 174 (dk_at dksX7_readsMember_1 19 rfl rfl)
theorem dX7_readsMember_46 : decode cX7_readsMember 46 = .ok (.ifCond .ne 8, 3) := dk_154 0 8 (dk_at dksX7_readsMember_2 0 rfl rfl)
theorem dX7_readsMember_49 : decode cX7_readsMember 49 = .ok (.iload_n 2, 1) := dk_28 (dk_at dksX7_readsMember_2 3 rfl rfl)
theorem dX7_readsMember_50 : decode cX7_readsMember 50 = .ok (.iconst (-1), 1) := dk_2 (dk_at dksX7_readsMember_2 4 rfl rfl)
theorem dX7_readsMember_51 : decode cX7_readsMember 51 = .ok (.if_icmp .eq 7, 3) := dk_159 0 7 (dk_at dksX7_readsMember_2 5 rfl rfl)
theorem dX7_readsMember_54 : decode cX7_readsMember 54 = .ok (.iconst 1, 1) := dk_4 (dk_at dksX7_readsMember_2 8 rfl rfl)
theorem dX7_readsMember_55 : decode cX7_readsMember 55 = .ok (.goto 4, 3) := dk_167 0 4 (dk_at dksX7_readsMember_2 9 rfl rfl)
theorem dX7_readsMember_58 : decode cX7_readsMember 58 = .ok (.iconst 0, 1) := dk_3 (dk_at dksX7_readsMember_2 12 rfl rfl)
theorem dX7_readsMember_59 : decode cX7_readsMember 59 = .ok (.iconst 4, 1) := dk_7 (dk_at dksX7_readsMember_2 13 rfl rfl)
theorem dX7_readsMember_60 : decode cX7_readsMember 60 = .ok (.invokevirtual 183, 3) := dk_182 0 183 (dk_at dksX7_readsMember_2 14 rfl rfl)
theorem dX7_readsMember_63 : decode cX7_readsMember 63 = .ok (.pop, 1) := dk_87 (dk_at dksX7_readsMember_2 17 rfl rfl)
theorem dX7_readsMember_64 : decode cX7_readsMember 64 = .ok (.aload_n 0, 1) := dk_42 (dk_at dksX7_readsMember_2 18 rfl rfl)
theorem dX7_readsMember_65 : decode cX7_readsMember 65 = .ok (.invokevirtual 187, 3) := dk_182 0 187 (dk_at dksX7_readsMember_2 19 rfl rfl)
theorem dX7_readsMember_68 : decode cX7_readsMember 68 = .ok (.aload_n 0, 1) := dk_42 (dk_at dksX7_readsMember_2 22 rfl rfl)
theorem dX7_readsMember_69 : decode cX7_readsMember 69 = .ok (.getfield 174, 3) := dk_180 0 174 (dk_at dksX7_readsMember_3 0 rfl rfl)
theorem dX7_readsMember_72 : decode cX7_readsMember 72 = .ok (.ifCond .ne 12, 3) := dk_154 0 12 (dk_at dksX7_readsMember_3 3 rfl rfl)
theorem dX7_readsMember_75 : decode cX7_readsMember 75 = .ok (.aload_n 0, 1) := dk_42 (dk_at dksX7_readsMember_3 6 rfl rfl)
theorem dX7_readsMember_76 : decode cX7_readsMember 76 = .ok (.iload_n 1, 1) := dk_27 (dk_at dksX7_readsMember_3 7 rfl rfl)
theorem dX7_readsMember_77 : decode cX7_readsMember 77 = .ok (.iconst 4, 1) := dk_7 (dk_at dksX7_readsMember_3 8 rfl rfl)
theorem dX7_readsMember_78 : decode cX7_readsMember 78 = .ok (.iload_n 2, 1) := dk_28 (dk_at dksX7_readsMember_3 9 rfl rfl)
theorem dX7_readsMember_79 : decode cX7_readsMember 79 = .ok (.iadd, 1) := dk_96 (dk_at dksX7_readsMember_3 10 rfl rfl)
theorem dX7_readsMember_80 : decode cX7_readsMember 80 = .ok (.iconst 1, 1) := dk_4 (dk_at dksX7_readsMember_3 11 rfl rfl)
theorem dX7_readsMember_81 : decode cX7_readsMember 81 = .ok (.invokevirtual 137, 3) := dk_182 0 137 (dk_at dksX7_readsMember_3 12 rfl rfl)
theorem dX7_readsMember_84 : decode cX7_readsMember 84 = .ok (.return_, 1) := dk_177 (dk_at dksX7_readsMember_3 15 rfl rfl)
abbrev cX7_canJoin : ByteArray := prog_19_method_52_code
def yX7_canJoin : MethodName := ⟨RX7, "canJoin", "(II)Z"⟩
def dkwX7_canJoin_1 : List UInt8 := [159, 0, 12, 42, 28, 29, 182, 0, 208, 153, 0, 5, 3, 172, 132, 3, 1, 167, 255, 218, 4, 172]
abbrev dktX7_canJoin_1 : List UInt8 := dkwX7_canJoin_1 ++ []
def dkwX7_canJoin_0 : List UInt8 := [3, 62, 29, 42, 180, 0, 7, 6, 46, 162, 0, 34, 42, 27, 29, 182, 0, 87, 153, 0, 19, 29, 28]
abbrev dktX7_canJoin_0 : List UInt8 := dkwX7_canJoin_0 ++ dktX7_canJoin_1
theorem dksX7_canJoin_0 : cX7_canJoin.data.toList.drop 0 = dktX7_canJoin_0 := by decide +kernel
theorem dksX7_canJoin_1 : cX7_canJoin.data.toList.drop 23 = dktX7_canJoin_1 := dk_seg dksX7_canJoin_0 23 rfl rfl
theorem dX7_canJoin_0 : decode cX7_canJoin 0 = .ok (.iconst 0, 1) := dk_3 (dk_at dksX7_canJoin_0 0 rfl rfl)
theorem dX7_canJoin_1 : decode cX7_canJoin 1 = .ok (.istore_n 3, 1) := dk_62 (dk_at dksX7_canJoin_0 1 rfl rfl)
theorem dX7_canJoin_2 : decode cX7_canJoin 2 = .ok (.iload_n 3, 1) := dk_29 (dk_at dksX7_canJoin_0 2 rfl rfl)
theorem dX7_canJoin_3 : decode cX7_canJoin 3 = .ok (.aload_n 0, 1) := dk_42 (dk_at dksX7_canJoin_0 3 rfl rfl)
theorem dX7_canJoin_4 : decode cX7_canJoin 4 = .ok (.getfield 7, 3) := dk_180 0 7 (dk_at dksX7_canJoin_0 4 rfl rfl)
theorem dX7_canJoin_7 : decode cX7_canJoin 7 = .ok (.iconst 3, 1) := dk_6 (dk_at dksX7_canJoin_0 7 rfl rfl)
theorem dX7_canJoin_8 : decode cX7_canJoin 8 = .ok (.iaload, 1) := dk_46 (dk_at dksX7_canJoin_0 8 rfl rfl)
theorem dX7_canJoin_9 : decode cX7_canJoin 9 = .ok (.if_icmp .ge 34, 3) := dk_162 0 34 (dk_at dksX7_canJoin_0 9 rfl rfl)
theorem dX7_canJoin_12 : decode cX7_canJoin 12 = .ok (.aload_n 0, 1) := dk_42 (dk_at dksX7_canJoin_0 12 rfl rfl)
theorem dX7_canJoin_13 : decode cX7_canJoin 13 = .ok (.iload_n 1, 1) := dk_27 (dk_at dksX7_canJoin_0 13 rfl rfl)
theorem dX7_canJoin_14 : decode cX7_canJoin 14 = .ok (.iload_n 3, 1) := dk_29 (dk_at dksX7_canJoin_0 14 rfl rfl)
theorem dX7_canJoin_15 : decode cX7_canJoin 15 = .ok (.invokevirtual 87, 3) := dk_182 0 87 (dk_at dksX7_canJoin_0 15 rfl rfl)
theorem dX7_canJoin_18 : decode cX7_canJoin 18 = .ok (.ifCond .eq 19, 3) := dk_153 0 19 (dk_at dksX7_canJoin_0 18 rfl rfl)
theorem dX7_canJoin_21 : decode cX7_canJoin 21 = .ok (.iload_n 3, 1) := dk_29 (dk_at dksX7_canJoin_0 21 rfl rfl)
theorem dX7_canJoin_22 : decode cX7_canJoin 22 = .ok (.iload_n 2, 1) := dk_28 (dk_at dksX7_canJoin_0 22 rfl rfl)
theorem dX7_canJoin_23 : decode cX7_canJoin 23 = .ok (.if_icmp .eq 12, 3) := dk_159 0 12 (dk_at dksX7_canJoin_1 0 rfl rfl)
theorem dX7_canJoin_26 : decode cX7_canJoin 26 = .ok (.aload_n 0, 1) := dk_42 (dk_at dksX7_canJoin_1 3 rfl rfl)
theorem dX7_canJoin_27 : decode cX7_canJoin 27 = .ok (.iload_n 2, 1) := dk_28 (dk_at dksX7_canJoin_1 4 rfl rfl)
theorem dX7_canJoin_28 : decode cX7_canJoin 28 = .ok (.iload_n 3, 1) := dk_29 (dk_at dksX7_canJoin_1 5 rfl rfl)
theorem dX7_canJoin_29 : decode cX7_canJoin 29 = .ok (.invokevirtual 208, 3) := dk_182 0 208 (dk_at dksX7_canJoin_1 6 rfl rfl)
theorem dX7_canJoin_32 : decode cX7_canJoin 32 = .ok (.ifCond .eq 5, 3) := dk_153 0 5 (dk_at dksX7_canJoin_1 9 rfl rfl)
theorem dX7_canJoin_35 : decode cX7_canJoin 35 = .ok (.iconst 0, 1) := dk_3 (dk_at dksX7_canJoin_1 12 rfl rfl)
theorem dX7_canJoin_36 : decode cX7_canJoin 36 = .ok (.ireturn, 1) := dk_172 (dk_at dksX7_canJoin_1 13 rfl rfl)
theorem dX7_canJoin_37 : decode cX7_canJoin 37 = .ok (.iinc 3 1, 3) := dk_132 3 1 (dk_at dksX7_canJoin_1 14 rfl rfl)
theorem dX7_canJoin_40 : decode cX7_canJoin 40 = .ok (.goto (-38), 3) := dk_167 255 218 (dk_at dksX7_canJoin_1 17 rfl rfl)
theorem dX7_canJoin_43 : decode cX7_canJoin 43 = .ok (.iconst 1, 1) := dk_4 (dk_at dksX7_canJoin_1 20 rfl rfl)
theorem dX7_canJoin_44 : decode cX7_canJoin 44 = .ok (.ireturn, 1) := dk_172 (dk_at dksX7_canJoin_1 21 rfl rfl)
abbrev cX7_hasArm : ByteArray := prog_19_method_10_code
def yX7_hasArm : MethodName := ⟨RX7, "hasArm", "(II)Z"⟩
def dkwX7_hasArm_0 : List UInt8 := [42, 27, 7, 28, 96, 182, 0, 79, 4, 160, 0, 7, 4, 167, 0, 4, 3, 172]
abbrev dktX7_hasArm_0 : List UInt8 := dkwX7_hasArm_0 ++ []
theorem dksX7_hasArm_0 : cX7_hasArm.data.toList.drop 0 = dktX7_hasArm_0 := by decide +kernel
theorem dX7_hasArm_0 : decode cX7_hasArm 0 = .ok (.aload_n 0, 1) := dk_42 (dk_at dksX7_hasArm_0 0 rfl rfl)
theorem dX7_hasArm_1 : decode cX7_hasArm 1 = .ok (.iload_n 1, 1) := dk_27 (dk_at dksX7_hasArm_0 1 rfl rfl)
theorem dX7_hasArm_2 : decode cX7_hasArm 2 = .ok (.iconst 4, 1) := dk_7 (dk_at dksX7_hasArm_0 2 rfl rfl)
theorem dX7_hasArm_3 : decode cX7_hasArm 3 = .ok (.iload_n 2, 1) := dk_28 (dk_at dksX7_hasArm_0 3 rfl rfl)
theorem dX7_hasArm_4 : decode cX7_hasArm 4 = .ok (.iadd, 1) := dk_96 (dk_at dksX7_hasArm_0 4 rfl rfl)
theorem dX7_hasArm_5 : decode cX7_hasArm 5 = .ok (.invokevirtual 79, 3) := dk_182 0 79 (dk_at dksX7_hasArm_0 5 rfl rfl)
theorem dX7_hasArm_8 : decode cX7_hasArm 8 = .ok (.iconst 1, 1) := dk_4 (dk_at dksX7_hasArm_0 8 rfl rfl)
theorem dX7_hasArm_9 : decode cX7_hasArm 9 = .ok (.if_icmp .ne 7, 3) := dk_160 0 7 (dk_at dksX7_hasArm_0 9 rfl rfl)
theorem dX7_hasArm_12 : decode cX7_hasArm 12 = .ok (.iconst 1, 1) := dk_4 (dk_at dksX7_hasArm_0 12 rfl rfl)
theorem dX7_hasArm_13 : decode cX7_hasArm 13 = .ok (.goto 4, 3) := dk_167 0 4 (dk_at dksX7_hasArm_0 13 rfl rfl)
theorem dX7_hasArm_16 : decode cX7_hasArm 16 = .ok (.iconst 0, 1) := dk_3 (dk_at dksX7_hasArm_0 16 rfl rfl)
theorem dX7_hasArm_17 : decode cX7_hasArm 17 = .ok (.ireturn, 1) := dk_172 (dk_at dksX7_hasArm_0 17 rfl rfl)
abbrev cX7_ofPhase : ByteArray := prog_19_method_8_code
def yX7_ofPhase : MethodName := ⟨RX7, "ofPhase", "(II)I"⟩
def dkwX7_ofPhase_0 : List UInt8 := [42, 180, 0, 7, 17, 0, 129, 16, 12, 27, 104, 96, 28, 96, 46, 172]
abbrev dktX7_ofPhase_0 : List UInt8 := dkwX7_ofPhase_0 ++ []
theorem dksX7_ofPhase_0 : cX7_ofPhase.data.toList.drop 0 = dktX7_ofPhase_0 := by decide +kernel
theorem dX7_ofPhase_0 : decode cX7_ofPhase 0 = .ok (.aload_n 0, 1) := dk_42 (dk_at dksX7_ofPhase_0 0 rfl rfl)
theorem dX7_ofPhase_1 : decode cX7_ofPhase 1 = .ok (.getfield 7, 3) := dk_180 0 7 (dk_at dksX7_ofPhase_0 1 rfl rfl)
theorem dX7_ofPhase_4 : decode cX7_ofPhase 4 = .ok (.sipush 129, 3) := dk_17 0 129 (dk_at dksX7_ofPhase_0 4 rfl rfl)
theorem dX7_ofPhase_7 : decode cX7_ofPhase 7 = .ok (.bipush 12, 2) := dk_16 12 (dk_at dksX7_ofPhase_0 7 rfl rfl)
theorem dX7_ofPhase_9 : decode cX7_ofPhase 9 = .ok (.iload_n 1, 1) := dk_27 (dk_at dksX7_ofPhase_0 9 rfl rfl)
theorem dX7_ofPhase_10 : decode cX7_ofPhase 10 = .ok (.imul, 1) := dk_104 (dk_at dksX7_ofPhase_0 10 rfl rfl)
theorem dX7_ofPhase_11 : decode cX7_ofPhase 11 = .ok (.iadd, 1) := dk_96 (dk_at dksX7_ofPhase_0 11 rfl rfl)
theorem dX7_ofPhase_12 : decode cX7_ofPhase 12 = .ok (.iload_n 2, 1) := dk_28 (dk_at dksX7_ofPhase_0 12 rfl rfl)
theorem dX7_ofPhase_13 : decode cX7_ofPhase 13 = .ok (.iadd, 1) := dk_96 (dk_at dksX7_ofPhase_0 13 rfl rfl)
theorem dX7_ofPhase_14 : decode cX7_ofPhase 14 = .ok (.iaload, 1) := dk_46 (dk_at dksX7_ofPhase_0 14 rfl rfl)
theorem dX7_ofPhase_15 : decode cX7_ofPhase 15 = .ok (.ireturn, 1) := dk_172 (dk_at dksX7_ofPhase_0 15 rfl rfl)
abbrev cX7_areClashing : ByteArray := prog_19_method_11_code
def yX7_areClashing : MethodName := ⟨RX7, "areClashing", "(II)Z"⟩
def dkwX7_areClashing_0 : List UInt8 := [42, 180, 0, 7, 16, 65, 16, 8, 27, 104, 96, 28, 96, 46, 4, 160, 0, 7, 4, 167, 0, 4, 3, 172]
abbrev dktX7_areClashing_0 : List UInt8 := dkwX7_areClashing_0 ++ []
theorem dksX7_areClashing_0 : cX7_areClashing.data.toList.drop 0 = dktX7_areClashing_0 := by decide +kernel
theorem dX7_areClashing_0 : decode cX7_areClashing 0 = .ok (.aload_n 0, 1) := dk_42 (dk_at dksX7_areClashing_0 0 rfl rfl)
theorem dX7_areClashing_1 : decode cX7_areClashing 1 = .ok (.getfield 7, 3) := dk_180 0 7 (dk_at dksX7_areClashing_0 1 rfl rfl)
theorem dX7_areClashing_4 : decode cX7_areClashing 4 = .ok (.bipush 65, 2) := dk_16 65 (dk_at dksX7_areClashing_0 4 rfl rfl)
theorem dX7_areClashing_6 : decode cX7_areClashing 6 = .ok (.bipush 8, 2) := dk_16 8 (dk_at dksX7_areClashing_0 6 rfl rfl)
theorem dX7_areClashing_8 : decode cX7_areClashing 8 = .ok (.iload_n 1, 1) := dk_27 (dk_at dksX7_areClashing_0 8 rfl rfl)
theorem dX7_areClashing_9 : decode cX7_areClashing 9 = .ok (.imul, 1) := dk_104 (dk_at dksX7_areClashing_0 9 rfl rfl)
theorem dX7_areClashing_10 : decode cX7_areClashing 10 = .ok (.iadd, 1) := dk_96 (dk_at dksX7_areClashing_0 10 rfl rfl)
theorem dX7_areClashing_11 : decode cX7_areClashing 11 = .ok (.iload_n 2, 1) := dk_28 (dk_at dksX7_areClashing_0 11 rfl rfl)
theorem dX7_areClashing_12 : decode cX7_areClashing 12 = .ok (.iadd, 1) := dk_96 (dk_at dksX7_areClashing_0 12 rfl rfl)
theorem dX7_areClashing_13 : decode cX7_areClashing 13 = .ok (.iaload, 1) := dk_46 (dk_at dksX7_areClashing_0 13 rfl rfl)
theorem dX7_areClashing_14 : decode cX7_areClashing 14 = .ok (.iconst 1, 1) := dk_4 (dk_at dksX7_areClashing_0 14 rfl rfl)
theorem dX7_areClashing_15 : decode cX7_areClashing 15 = .ok (.if_icmp .ne 7, 3) := dk_160 0 7 (dk_at dksX7_areClashing_0 15 rfl rfl)
theorem dX7_areClashing_18 : decode cX7_areClashing 18 = .ok (.iconst 1, 1) := dk_4 (dk_at dksX7_areClashing_0 18 rfl rfl)
theorem dX7_areClashing_19 : decode cX7_areClashing 19 = .ok (.goto 4, 3) := dk_167 0 4 (dk_at dksX7_areClashing_0 19 rfl rfl)
theorem dX7_areClashing_22 : decode cX7_areClashing 22 = .ok (.iconst 0, 1) := dk_3 (dk_at dksX7_areClashing_0 22 rfl rfl)
theorem dX7_areClashing_23 : decode cX7_areClashing 23 = .ok (.ireturn, 1) := dk_172 (dk_at dksX7_areClashing_0 23 rfl rfl)
abbrev cX7_thrown : ByteArray := prog_19_method_3_code
def yX7_thrown : MethodName := ⟨RX7, "thrown", "()I"⟩
theorem dX7_thrown_0 : decode cX7_thrown 0 = .ok (.aload_n 0, 1) := by decide +kernel
theorem dX7_thrown_1 : decode cX7_thrown 1 = .ok (.getfield 76, 3) := by decide +kernel
theorem dX7_thrown_4 : decode cX7_thrown 4 = .ok (.ireturn, 1) := by decide +kernel
abbrev cX7_feed : ByteArray := prog_19_method_35_code
def yX7_feed : MethodName := ⟨RX7, "feed", "(IIIII)I"⟩
def dkwX7_feed_2 : List UInt8 := [163, 0, 8, 42, 180, 0, 67, 172, 42, 21, 6, 181, 0, 67, 2, 172]
abbrev dktX7_feed_2 : List UInt8 := dkwX7_feed_2 ++ []
def dkwX7_feed_1 : List UInt8 := [182, 0, 156, 42, 21, 4, 182, 0, 156, 42, 21, 5, 182, 0, 156, 42, 180, 0, 67, 17, 2, 88]
abbrev dktX7_feed_1 : List UInt8 := dkwX7_feed_1 ++ dktX7_feed_2
def dkwX7_feed_0 : List UInt8 := [42, 3, 181, 0, 76, 42, 180, 0, 67, 54, 6, 42, 27, 182, 0, 156, 42, 28, 182, 0, 156, 42, 29]
abbrev dktX7_feed_0 : List UInt8 := dkwX7_feed_0 ++ dktX7_feed_1
theorem dksX7_feed_0 : cX7_feed.data.toList.drop 0 = dktX7_feed_0 := by decide +kernel
theorem dksX7_feed_1 : cX7_feed.data.toList.drop 23 = dktX7_feed_1 := dk_seg dksX7_feed_0 23 rfl rfl
theorem dksX7_feed_2 : cX7_feed.data.toList.drop 45 = dktX7_feed_2 := dk_seg dksX7_feed_1 22 rfl rfl
theorem dX7_feed_0 : decode cX7_feed 0 = .ok (.aload_n 0, 1) := dk_42 (dk_at dksX7_feed_0 0 rfl rfl)
theorem dX7_feed_1 : decode cX7_feed 1 = .ok (.iconst 0, 1) := dk_3 (dk_at dksX7_feed_0 1 rfl rfl)
theorem dX7_feed_2 : decode cX7_feed 2 = .ok (.putfield 76, 3) := dk_181 0 76 (dk_at dksX7_feed_0 2 rfl rfl)
theorem dX7_feed_5 : decode cX7_feed 5 = .ok (.aload_n 0, 1) := dk_42 (dk_at dksX7_feed_0 5 rfl rfl)
theorem dX7_feed_6 : decode cX7_feed 6 = .ok (.getfield 67, 3) := dk_180 0 67 (dk_at dksX7_feed_0 6 rfl rfl)
theorem dX7_feed_9 : decode cX7_feed 9 = .ok (.istore 6, 2) := dk_54 6 (dk_at dksX7_feed_0 9 rfl rfl)
theorem dX7_feed_11 : decode cX7_feed 11 = .ok (.aload_n 0, 1) := dk_42 (dk_at dksX7_feed_0 11 rfl rfl)
theorem dX7_feed_12 : decode cX7_feed 12 = .ok (.iload_n 1, 1) := dk_27 (dk_at dksX7_feed_0 12 rfl rfl)
theorem dX7_feed_13 : decode cX7_feed 13 = .ok (.invokevirtual 156, 3) := dk_182 0 156 (dk_at dksX7_feed_0 13 rfl rfl)
theorem dX7_feed_16 : decode cX7_feed 16 = .ok (.aload_n 0, 1) := dk_42 (dk_at dksX7_feed_0 16 rfl rfl)
theorem dX7_feed_17 : decode cX7_feed 17 = .ok (.iload_n 2, 1) := dk_28 (dk_at dksX7_feed_0 17 rfl rfl)
theorem dX7_feed_18 : decode cX7_feed 18 = .ok (.invokevirtual 156, 3) := dk_182 0 156 (dk_at dksX7_feed_0 18 rfl rfl)
theorem dX7_feed_21 : decode cX7_feed 21 = .ok (.aload_n 0, 1) := dk_42 (dk_at dksX7_feed_0 21 rfl rfl)
theorem dX7_feed_22 : decode cX7_feed 22 = .ok (.iload_n 3, 1) := dk_29 (dk_at dksX7_feed_0 22 rfl rfl)
theorem dX7_feed_23 : decode cX7_feed 23 = .ok (.invokevirtual 156, 3) := dk_182 0 156 (dk_at dksX7_feed_1 0 rfl rfl)
theorem dX7_feed_26 : decode cX7_feed 26 = .ok (.aload_n 0, 1) := dk_42 (dk_at dksX7_feed_1 3 rfl rfl)
theorem dX7_feed_27 : decode cX7_feed 27 = .ok (.iload 4, 2) := dk_21 4 (dk_at dksX7_feed_1 4 rfl rfl)
theorem dX7_feed_29 : decode cX7_feed 29 = .ok (.invokevirtual 156, 3) := dk_182 0 156 (dk_at dksX7_feed_1 6 rfl rfl)
theorem dX7_feed_32 : decode cX7_feed 32 = .ok (.aload_n 0, 1) := dk_42 (dk_at dksX7_feed_1 9 rfl rfl)
theorem dX7_feed_33 : decode cX7_feed 33 = .ok (.iload 5, 2) := dk_21 5 (dk_at dksX7_feed_1 10 rfl rfl)
theorem dX7_feed_35 : decode cX7_feed 35 = .ok (.invokevirtual 156, 3) := dk_182 0 156 (dk_at dksX7_feed_1 12 rfl rfl)
theorem dX7_feed_38 : decode cX7_feed 38 = .ok (.aload_n 0, 1) := dk_42 (dk_at dksX7_feed_1 15 rfl rfl)
theorem dX7_feed_39 : decode cX7_feed 39 = .ok (.getfield 67, 3) := dk_180 0 67 (dk_at dksX7_feed_1 16 rfl rfl)
theorem dX7_feed_42 : decode cX7_feed 42 = .ok (.sipush 600, 3) := dk_17 2 88 (dk_at dksX7_feed_1 19 rfl rfl)
theorem dX7_feed_45 : decode cX7_feed 45 = .ok (.if_icmp .gt 8, 3) := dk_163 0 8 (dk_at dksX7_feed_2 0 rfl rfl)
theorem dX7_feed_48 : decode cX7_feed 48 = .ok (.aload_n 0, 1) := dk_42 (dk_at dksX7_feed_2 3 rfl rfl)
theorem dX7_feed_49 : decode cX7_feed 49 = .ok (.getfield 67, 3) := dk_180 0 67 (dk_at dksX7_feed_2 4 rfl rfl)
theorem dX7_feed_52 : decode cX7_feed 52 = .ok (.ireturn, 1) := dk_172 (dk_at dksX7_feed_2 7 rfl rfl)
theorem dX7_feed_53 : decode cX7_feed 53 = .ok (.aload_n 0, 1) := dk_42 (dk_at dksX7_feed_2 8 rfl rfl)
theorem dX7_feed_54 : decode cX7_feed 54 = .ok (.iload 6, 2) := dk_21 6 (dk_at dksX7_feed_2 9 rfl rfl)
theorem dX7_feed_56 : decode cX7_feed 56 = .ok (.putfield 67, 3) := dk_181 0 67 (dk_at dksX7_feed_2 11 rfl rfl)
theorem dX7_feed_59 : decode cX7_feed 59 = .ok (.iconst (-1), 1) := dk_2 (dk_at dksX7_feed_2 14 rfl rfl)
theorem dX7_feed_60 : decode cX7_feed 60 = .ok (.ireturn, 1) := dk_172 (dk_at dksX7_feed_2 15 rfl rfl)
abbrev cX7_feeds : ByteArray := prog_19_method_34_code
def yX7_feeds : MethodName := ⟨RX7, "feeds", "(I)V"⟩
def dkwX7_feeds_2 : List UInt8 := [4, 96, 181, 0, 67, 132, 2, 248, 167, 255, 204, 177]
abbrev dktX7_feeds_2 : List UInt8 := dkwX7_feeds_2 ++ []
def dkwX7_feeds_1 : List UInt8 := [180, 0, 67, 17, 2, 88, 162, 0, 13, 42, 180, 0, 29, 42, 180, 0, 67, 29, 79, 42, 89, 180, 0, 67]
abbrev dktX7_feeds_1 : List UInt8 := dkwX7_feeds_1 ++ dktX7_feeds_2
def dkwX7_feeds_0 : List UInt8 := [16, 24, 61, 28, 155, 0, 54, 27, 28, 122, 17, 0, 255, 126, 62, 29, 154, 0, 6, 167, 0, 33, 42]
abbrev dktX7_feeds_0 : List UInt8 := dkwX7_feeds_0 ++ dktX7_feeds_1
theorem dksX7_feeds_0 : cX7_feeds.data.toList.drop 0 = dktX7_feeds_0 := by decide +kernel
theorem dksX7_feeds_1 : cX7_feeds.data.toList.drop 23 = dktX7_feeds_1 := dk_seg dksX7_feeds_0 23 rfl rfl
theorem dksX7_feeds_2 : cX7_feeds.data.toList.drop 47 = dktX7_feeds_2 := dk_seg dksX7_feeds_1 24 rfl rfl
theorem dX7_feeds_0 : decode cX7_feeds 0 = .ok (.bipush 24, 2) := dk_16 24 (dk_at dksX7_feeds_0 0 rfl rfl)
theorem dX7_feeds_2 : decode cX7_feeds 2 = .ok (.istore_n 2, 1) := dk_61 (dk_at dksX7_feeds_0 2 rfl rfl)
theorem dX7_feeds_3 : decode cX7_feeds 3 = .ok (.iload_n 2, 1) := dk_28 (dk_at dksX7_feeds_0 3 rfl rfl)
theorem dX7_feeds_4 : decode cX7_feeds 4 = .ok (.ifCond .lt 54, 3) := dk_155 0 54 (dk_at dksX7_feeds_0 4 rfl rfl)
theorem dX7_feeds_7 : decode cX7_feeds 7 = .ok (.iload_n 1, 1) := dk_27 (dk_at dksX7_feeds_0 7 rfl rfl)
theorem dX7_feeds_8 : decode cX7_feeds 8 = .ok (.iload_n 2, 1) := dk_28 (dk_at dksX7_feeds_0 8 rfl rfl)
theorem dX7_feeds_9 : decode cX7_feeds 9 = .ok (.ishr, 1) := dk_122 (dk_at dksX7_feeds_0 9 rfl rfl)
theorem dX7_feeds_10 : decode cX7_feeds 10 = .ok (.sipush 255, 3) := dk_17 0 255 (dk_at dksX7_feeds_0 10 rfl rfl)
theorem dX7_feeds_13 : decode cX7_feeds 13 = .ok (.iand, 1) := dk_126 (dk_at dksX7_feeds_0 13 rfl rfl)
theorem dX7_feeds_14 : decode cX7_feeds 14 = .ok (.istore_n 3, 1) := dk_62 (dk_at dksX7_feeds_0 14 rfl rfl)
theorem dX7_feeds_15 : decode cX7_feeds 15 = .ok (.iload_n 3, 1) := dk_29 (dk_at dksX7_feeds_0 15 rfl rfl)
theorem dX7_feeds_16 : decode cX7_feeds 16 = .ok (.ifCond .ne 6, 3) := dk_154 0 6 (dk_at dksX7_feeds_0 16 rfl rfl)
theorem dX7_feeds_19 : decode cX7_feeds 19 = .ok (.goto 33, 3) := dk_167 0 33 (dk_at dksX7_feeds_0 19 rfl rfl)
theorem dX7_feeds_22 : decode cX7_feeds 22 = .ok (.aload_n 0, 1) := dk_42 (dk_at dksX7_feeds_0 22 rfl rfl)
theorem dX7_feeds_23 : decode cX7_feeds 23 = .ok (.getfield 67, 3) := dk_180 0 67 (dk_at dksX7_feeds_1 0 rfl rfl)
theorem dX7_feeds_26 : decode cX7_feeds 26 = .ok (.sipush 600, 3) := dk_17 2 88 (dk_at dksX7_feeds_1 3 rfl rfl)
theorem dX7_feeds_29 : decode cX7_feeds 29 = .ok (.if_icmp .ge 13, 3) := dk_162 0 13 (dk_at dksX7_feeds_1 6 rfl rfl)
theorem dX7_feeds_32 : decode cX7_feeds 32 = .ok (.aload_n 0, 1) := dk_42 (dk_at dksX7_feeds_1 9 rfl rfl)
theorem dX7_feeds_33 : decode cX7_feeds 33 = .ok (.getfield 29, 3) := dk_180 0 29 (dk_at dksX7_feeds_1 10 rfl rfl)
theorem dX7_feeds_36 : decode cX7_feeds 36 = .ok (.aload_n 0, 1) := dk_42 (dk_at dksX7_feeds_1 13 rfl rfl)
theorem dX7_feeds_37 : decode cX7_feeds 37 = .ok (.getfield 67, 3) := dk_180 0 67 (dk_at dksX7_feeds_1 14 rfl rfl)
theorem dX7_feeds_40 : decode cX7_feeds 40 = .ok (.iload_n 3, 1) := dk_29 (dk_at dksX7_feeds_1 17 rfl rfl)
theorem dX7_feeds_41 : decode cX7_feeds 41 = .ok (.iastore, 1) := dk_79 (dk_at dksX7_feeds_1 18 rfl rfl)
theorem dX7_feeds_42 : decode cX7_feeds 42 = .ok (.aload_n 0, 1) := dk_42 (dk_at dksX7_feeds_1 19 rfl rfl)
theorem dX7_feeds_43 : decode cX7_feeds 43 = .ok (.dup, 1) := dk_89 (dk_at dksX7_feeds_1 20 rfl rfl)
theorem dX7_feeds_44 : decode cX7_feeds 44 = .ok (.getfield 67, 3) := dk_180 0 67 (dk_at dksX7_feeds_1 21 rfl rfl)
theorem dX7_feeds_47 : decode cX7_feeds 47 = .ok (.iconst 1, 1) := dk_4 (dk_at dksX7_feeds_2 0 rfl rfl)
theorem dX7_feeds_48 : decode cX7_feeds 48 = .ok (.iadd, 1) := dk_96 (dk_at dksX7_feeds_2 1 rfl rfl)
theorem dX7_feeds_49 : decode cX7_feeds 49 = .ok (.putfield 67, 3) := dk_181 0 67 (dk_at dksX7_feeds_2 2 rfl rfl)
theorem dX7_feeds_52 : decode cX7_feeds 52 = .ok (.iinc 2 (-8), 3) := dk_132 2 248 (dk_at dksX7_feeds_2 5 rfl rfl)
theorem dX7_feeds_55 : decode cX7_feeds 55 = .ok (.goto (-52), 3) := dk_167 255 204 (dk_at dksX7_feeds_2 8 rfl rfl)
theorem dX7_feeds_58 : decode cX7_feeds 58 = .ok (.return_, 1) := dk_177 (dk_at dksX7_feeds_2 11 rfl rfl)
abbrev cX7_errorPosition : ByteArray := prog_19_method_36_code
def yX7_errorPosition : MethodName := ⟨RX7, "errorPosition", "()I"⟩
def dkwX7_errorPosition_0 : List UInt8 := [42, 3, 181, 0, 76, 42, 180, 0, 32, 172]
abbrev dktX7_errorPosition_0 : List UInt8 := dkwX7_errorPosition_0 ++ []
theorem dksX7_errorPosition_0 : cX7_errorPosition.data.toList.drop 0 = dktX7_errorPosition_0 := by decide +kernel
theorem dX7_errorPosition_0 : decode cX7_errorPosition 0 = .ok (.aload_n 0, 1) := dk_42 (dk_at dksX7_errorPosition_0 0 rfl rfl)
theorem dX7_errorPosition_1 : decode cX7_errorPosition 1 = .ok (.iconst 0, 1) := dk_3 (dk_at dksX7_errorPosition_0 1 rfl rfl)
theorem dX7_errorPosition_2 : decode cX7_errorPosition 2 = .ok (.putfield 76, 3) := dk_181 0 76 (dk_at dksX7_errorPosition_0 2 rfl rfl)
theorem dX7_errorPosition_5 : decode cX7_errorPosition 5 = .ok (.aload_n 0, 1) := dk_42 (dk_at dksX7_errorPosition_0 5 rfl rfl)
theorem dX7_errorPosition_6 : decode cX7_errorPosition 6 = .ok (.getfield 32, 3) := dk_180 0 32 (dk_at dksX7_errorPosition_0 6 rfl rfl)
theorem dX7_errorPosition_9 : decode cX7_errorPosition 9 = .ok (.ireturn, 1) := dk_172 (dk_at dksX7_errorPosition_0 9 rfl rfl)
abbrev cX7_load : ByteArray := prog_19_method_56_code
def yX7_load : MethodName := ⟨RX7, "load", "()I"⟩
def dkwX7_load_5 : List UInt8 := [84, 42, 180, 0, 25, 4, 3, 84, 42, 180, 0, 7, 7, 46, 172]
abbrev dktX7_load_5 : List UInt8 := dkwX7_load_5 ++ []
def dkwX7_load_4 : List UInt8 := [16, 236, 42, 180, 0, 174, 100, 172, 42, 3, 181, 0, 238, 42, 3, 181, 0, 241, 42, 180, 0, 25, 3, 3]
abbrev dktX7_load_4 : List UInt8 := dkwX7_load_4 ++ dktX7_load_5
def dkwX7_load_3 : List UInt8 := [17, 3, 225, 162, 0, 21, 42, 180, 0, 7, 27, 42, 180, 0, 16, 27, 46, 79, 132, 1, 1, 167, 255, 234]
abbrev dktX7_load_3 : List UInt8 := dkwX7_load_3 ++ dktX7_load_4
def dkwX7_load_2 : List UInt8 := [182, 0, 70, 42, 182, 0, 73, 42, 3, 181, 0, 67, 42, 180, 0, 174, 153, 0, 38, 3, 60, 27]
abbrev dktX7_load_2 : List UInt8 := dkwX7_load_2 ++ dktX7_load_3
def dkwX7_load_1 : List UInt8 := [46, 79, 42, 180, 0, 7, 27, 3, 79, 132, 1, 1, 167, 255, 227, 42, 180, 0, 7, 16, 7, 2, 79, 42]
abbrev dktX7_load_1 : List UInt8 := dkwX7_load_1 ++ dktX7_load_2
def dkwX7_load_0 : List UInt8 := [42, 3, 181, 0, 76, 3, 60, 27, 17, 3, 225, 162, 0, 28, 42, 180, 0, 16, 27, 42, 180, 0, 7, 27]
abbrev dktX7_load_0 : List UInt8 := dkwX7_load_0 ++ dktX7_load_1
theorem dksX7_load_0 : cX7_load.data.toList.drop 0 = dktX7_load_0 := by decide +kernel
theorem dksX7_load_1 : cX7_load.data.toList.drop 24 = dktX7_load_1 := dk_seg dksX7_load_0 24 rfl rfl
theorem dksX7_load_2 : cX7_load.data.toList.drop 48 = dktX7_load_2 := dk_seg dksX7_load_1 24 rfl rfl
theorem dksX7_load_3 : cX7_load.data.toList.drop 70 = dktX7_load_3 := dk_seg dksX7_load_2 22 rfl rfl
theorem dksX7_load_4 : cX7_load.data.toList.drop 94 = dktX7_load_4 := dk_seg dksX7_load_3 24 rfl rfl
theorem dksX7_load_5 : cX7_load.data.toList.drop 118 = dktX7_load_5 := dk_seg dksX7_load_4 24 rfl rfl
theorem dX7_load_0 : decode cX7_load 0 = .ok (.aload_n 0, 1) := dk_42 (dk_at dksX7_load_0 0 rfl rfl)
theorem dX7_load_1 : decode cX7_load 1 = .ok (.iconst 0, 1) := dk_3 (dk_at dksX7_load_0 1 rfl rfl)
theorem dX7_load_2 : decode cX7_load 2 = .ok (.putfield 76, 3) := dk_181 0 76 (dk_at dksX7_load_0 2 rfl rfl)
theorem dX7_load_5 : decode cX7_load 5 = .ok (.iconst 0, 1) := dk_3 (dk_at dksX7_load_0 5 rfl rfl)
theorem dX7_load_6 : decode cX7_load 6 = .ok (.istore_n 1, 1) := dk_60 (dk_at dksX7_load_0 6 rfl rfl)
theorem dX7_load_7 : decode cX7_load 7 = .ok (.iload_n 1, 1) := dk_27 (dk_at dksX7_load_0 7 rfl rfl)
theorem dX7_load_8 : decode cX7_load 8 = .ok (.sipush 993, 3) := dk_17 3 225 (dk_at dksX7_load_0 8 rfl rfl)
theorem dX7_load_11 : decode cX7_load 11 = .ok (.if_icmp .ge 28, 3) := dk_162 0 28 (dk_at dksX7_load_0 11 rfl rfl)
theorem dX7_load_14 : decode cX7_load 14 = .ok (.aload_n 0, 1) := dk_42 (dk_at dksX7_load_0 14 rfl rfl)
theorem dX7_load_15 : decode cX7_load 15 = .ok (.getfield 16, 3) := dk_180 0 16 (dk_at dksX7_load_0 15 rfl rfl)
theorem dX7_load_18 : decode cX7_load 18 = .ok (.iload_n 1, 1) := dk_27 (dk_at dksX7_load_0 18 rfl rfl)
theorem dX7_load_19 : decode cX7_load 19 = .ok (.aload_n 0, 1) := dk_42 (dk_at dksX7_load_0 19 rfl rfl)
theorem dX7_load_20 : decode cX7_load 20 = .ok (.getfield 7, 3) := dk_180 0 7 (dk_at dksX7_load_0 20 rfl rfl)
theorem dX7_load_23 : decode cX7_load 23 = .ok (.iload_n 1, 1) := dk_27 (dk_at dksX7_load_0 23 rfl rfl)
theorem dX7_load_24 : decode cX7_load 24 = .ok (.iaload, 1) := dk_46 (dk_at dksX7_load_1 0 rfl rfl)
theorem dX7_load_25 : decode cX7_load 25 = .ok (.iastore, 1) := dk_79 (dk_at dksX7_load_1 1 rfl rfl)
theorem dX7_load_26 : decode cX7_load 26 = .ok (.aload_n 0, 1) := dk_42 (dk_at dksX7_load_1 2 rfl rfl)
theorem dX7_load_27 : decode cX7_load 27 = .ok (.getfield 7, 3) := dk_180 0 7 (dk_at dksX7_load_1 3 rfl rfl)
theorem dX7_load_30 : decode cX7_load 30 = .ok (.iload_n 1, 1) := dk_27 (dk_at dksX7_load_1 6 rfl rfl)
theorem dX7_load_31 : decode cX7_load 31 = .ok (.iconst 0, 1) := dk_3 (dk_at dksX7_load_1 7 rfl rfl)
theorem dX7_load_32 : decode cX7_load 32 = .ok (.iastore, 1) := dk_79 (dk_at dksX7_load_1 8 rfl rfl)
theorem dX7_load_33 : decode cX7_load 33 = .ok (.iinc 1 1, 3) := dk_132 1 1 (dk_at dksX7_load_1 9 rfl rfl)
theorem dX7_load_36 : decode cX7_load 36 = .ok (.goto (-29), 3) := dk_167 255 227 (dk_at dksX7_load_1 12 rfl rfl)
theorem dX7_load_39 : decode cX7_load 39 = .ok (.aload_n 0, 1) := dk_42 (dk_at dksX7_load_1 15 rfl rfl)
theorem dX7_load_40 : decode cX7_load 40 = .ok (.getfield 7, 3) := dk_180 0 7 (dk_at dksX7_load_1 16 rfl rfl)
theorem dX7_load_43 : decode cX7_load 43 = .ok (.bipush 7, 2) := dk_16 7 (dk_at dksX7_load_1 19 rfl rfl)
theorem dX7_load_45 : decode cX7_load 45 = .ok (.iconst (-1), 1) := dk_2 (dk_at dksX7_load_1 21 rfl rfl)
theorem dX7_load_46 : decode cX7_load 46 = .ok (.iastore, 1) := dk_79 (dk_at dksX7_load_1 22 rfl rfl)
theorem dX7_load_47 : decode cX7_load 47 = .ok (.aload_n 0, 1) := dk_42 (dk_at dksX7_load_1 23 rfl rfl)
theorem dX7_load_48 : decode cX7_load 48 = .ok (.invokevirtual 70, 3) := dk_182 0 70 (dk_at dksX7_load_2 0 rfl rfl)
theorem dX7_load_51 : decode cX7_load 51 = .ok (.aload_n 0, 1) := dk_42 (dk_at dksX7_load_2 3 rfl rfl)
theorem dX7_load_52 : decode cX7_load 52 = .ok (.invokevirtual 73, 3) := dk_182 0 73 (dk_at dksX7_load_2 4 rfl rfl)
theorem dX7_load_55 : decode cX7_load 55 = .ok (.aload_n 0, 1) := dk_42 (dk_at dksX7_load_2 7 rfl rfl)
theorem dX7_load_56 : decode cX7_load 56 = .ok (.iconst 0, 1) := dk_3 (dk_at dksX7_load_2 8 rfl rfl)
theorem dX7_load_57 : decode cX7_load 57 = .ok (.putfield 67, 3) := dk_181 0 67 (dk_at dksX7_load_2 9 rfl rfl)
theorem dX7_load_60 : decode cX7_load 60 = .ok (.aload_n 0, 1) := dk_42 (dk_at dksX7_load_2 12 rfl rfl)
theorem dX7_load_61 : decode cX7_load 61 = .ok (.getfield 174, 3) := dk_180 0 174 (dk_at dksX7_load_2 13 rfl rfl)
theorem dX7_load_64 : decode cX7_load 64 = .ok (.ifCond .eq 38, 3) := dk_153 0 38 (dk_at dksX7_load_2 16 rfl rfl)
theorem dX7_load_67 : decode cX7_load 67 = .ok (.iconst 0, 1) := dk_3 (dk_at dksX7_load_2 19 rfl rfl)
theorem dX7_load_68 : decode cX7_load 68 = .ok (.istore_n 1, 1) := dk_60 (dk_at dksX7_load_2 20 rfl rfl)
theorem dX7_load_69 : decode cX7_load 69 = .ok (.iload_n 1, 1) := dk_27 (dk_at dksX7_load_2 21 rfl rfl)
theorem dX7_load_70 : decode cX7_load 70 = .ok (.sipush 993, 3) := dk_17 3 225 (dk_at dksX7_load_3 0 rfl rfl)
theorem dX7_load_73 : decode cX7_load 73 = .ok (.if_icmp .ge 21, 3) := dk_162 0 21 (dk_at dksX7_load_3 3 rfl rfl)
theorem dX7_load_76 : decode cX7_load 76 = .ok (.aload_n 0, 1) := dk_42 (dk_at dksX7_load_3 6 rfl rfl)
theorem dX7_load_77 : decode cX7_load 77 = .ok (.getfield 7, 3) := dk_180 0 7 (dk_at dksX7_load_3 7 rfl rfl)
theorem dX7_load_80 : decode cX7_load 80 = .ok (.iload_n 1, 1) := dk_27 (dk_at dksX7_load_3 10 rfl rfl)
theorem dX7_load_81 : decode cX7_load 81 = .ok (.aload_n 0, 1) := dk_42 (dk_at dksX7_load_3 11 rfl rfl)
theorem dX7_load_82 : decode cX7_load 82 = .ok (.getfield 16, 3) := dk_180 0 16 (dk_at dksX7_load_3 12 rfl rfl)
theorem dX7_load_85 : decode cX7_load 85 = .ok (.iload_n 1, 1) := dk_27 (dk_at dksX7_load_3 15 rfl rfl)
theorem dX7_load_86 : decode cX7_load 86 = .ok (.iaload, 1) := dk_46 (dk_at dksX7_load_3 16 rfl rfl)
theorem dX7_load_87 : decode cX7_load 87 = .ok (.iastore, 1) := dk_79 (dk_at dksX7_load_3 17 rfl rfl)
theorem dX7_load_88 : decode cX7_load 88 = .ok (.iinc 1 1, 3) := dk_132 1 1 (dk_at dksX7_load_3 18 rfl rfl)
theorem dX7_load_91 : decode cX7_load 91 = .ok (.goto (-22), 3) := dk_167 255 234 (dk_at dksX7_load_3 21 rfl rfl)
theorem dX7_load_94 : decode cX7_load 94 = .ok (.bipush (-20), 2) := dk_16 236 (dk_at dksX7_load_4 0 rfl rfl)
theorem dX7_load_96 : decode cX7_load 96 = .ok (.aload_n 0, 1) := dk_42 (dk_at dksX7_load_4 2 rfl rfl)
theorem dX7_load_97 : decode cX7_load 97 = .ok (.getfield 174, 3) := dk_180 0 174 (dk_at dksX7_load_4 3 rfl rfl)
theorem dX7_load_100 : decode cX7_load 100 = .ok (.isub, 1) := dk_100 (dk_at dksX7_load_4 6 rfl rfl)
theorem dX7_load_101 : decode cX7_load 101 = .ok (.ireturn, 1) := dk_172 (dk_at dksX7_load_4 7 rfl rfl)
theorem dX7_load_102 : decode cX7_load 102 = .ok (.aload_n 0, 1) := dk_42 (dk_at dksX7_load_4 8 rfl rfl)
theorem dX7_load_103 : decode cX7_load 103 = .ok (.iconst 0, 1) := dk_3 (dk_at dksX7_load_4 9 rfl rfl)
theorem dX7_load_104 : decode cX7_load 104 = .ok (.putfield 238, 3) := dk_181 0 238 (dk_at dksX7_load_4 10 rfl rfl)
theorem dX7_load_107 : decode cX7_load 107 = .ok (.aload_n 0, 1) := dk_42 (dk_at dksX7_load_4 13 rfl rfl)
theorem dX7_load_108 : decode cX7_load 108 = .ok (.iconst 0, 1) := dk_3 (dk_at dksX7_load_4 14 rfl rfl)
theorem dX7_load_109 : decode cX7_load 109 = .ok (.putfield 241, 3) := dk_181 0 241 (dk_at dksX7_load_4 15 rfl rfl)
theorem dX7_load_112 : decode cX7_load 112 = .ok (.aload_n 0, 1) := dk_42 (dk_at dksX7_load_4 18 rfl rfl)
theorem dX7_load_113 : decode cX7_load 113 = .ok (.getfield 25, 3) := dk_180 0 25 (dk_at dksX7_load_4 19 rfl rfl)
theorem dX7_load_116 : decode cX7_load 116 = .ok (.iconst 0, 1) := dk_3 (dk_at dksX7_load_4 22 rfl rfl)
theorem dX7_load_117 : decode cX7_load 117 = .ok (.iconst 0, 1) := dk_3 (dk_at dksX7_load_4 23 rfl rfl)
theorem dX7_load_118 : decode cX7_load 118 = .ok (.bastore, 1) := dk_84 (dk_at dksX7_load_5 0 rfl rfl)
theorem dX7_load_119 : decode cX7_load 119 = .ok (.aload_n 0, 1) := dk_42 (dk_at dksX7_load_5 1 rfl rfl)
theorem dX7_load_120 : decode cX7_load 120 = .ok (.getfield 25, 3) := dk_180 0 25 (dk_at dksX7_load_5 2 rfl rfl)
theorem dX7_load_123 : decode cX7_load 123 = .ok (.iconst 1, 1) := dk_4 (dk_at dksX7_load_5 5 rfl rfl)
theorem dX7_load_124 : decode cX7_load 124 = .ok (.iconst 0, 1) := dk_3 (dk_at dksX7_load_5 6 rfl rfl)
theorem dX7_load_125 : decode cX7_load 125 = .ok (.bastore, 1) := dk_84 (dk_at dksX7_load_5 7 rfl rfl)
theorem dX7_load_126 : decode cX7_load 126 = .ok (.aload_n 0, 1) := dk_42 (dk_at dksX7_load_5 8 rfl rfl)
theorem dX7_load_127 : decode cX7_load 127 = .ok (.getfield 7, 3) := dk_180 0 7 (dk_at dksX7_load_5 9 rfl rfl)
theorem dX7_load_130 : decode cX7_load 130 = .ok (.iconst 4, 1) := dk_7 (dk_at dksX7_load_5 12 rfl rfl)
theorem dX7_load_131 : decode cX7_load 131 = .ok (.iaload, 1) := dk_46 (dk_at dksX7_load_5 13 rfl rfl)
theorem dX7_load_132 : decode cX7_load 132 = .ok (.ireturn, 1) := dk_172 (dk_at dksX7_load_5 14 rfl rfl)
abbrev cX7_play : ByteArray := prog_19_method_64_code
def yX7_play : MethodName := ⟨RX7, "play", "()I"⟩
def dkwX7_play_3 : List UInt8 := [181, 1, 53, 42, 3, 42, 180, 1, 10, 182, 1, 50, 60, 42, 3, 181, 1, 62, 42, 180, 1, 53, 172]
abbrev dktX7_play_3 : List UInt8 := dkwX7_play_3 ++ []
def dkwX7_play_2 : List UInt8 := [153, 0, 11, 16, 236, 42, 180, 0, 174, 100, 172, 42, 182, 1, 59, 42, 4, 181, 1, 62, 42, 3]
abbrev dktX7_play_2 : List UInt8 := dkwX7_play_2 ++ dktX7_play_3
def dkwX7_play_1 : List UInt8 := [154, 0, 7, 4, 167, 0, 4, 3, 4, 182, 0, 183, 87, 42, 3, 181, 0, 67, 42, 180, 0, 174]
abbrev dktX7_play_1 : List UInt8 := dkwX7_play_1 ++ dktX7_play_2
def dkwX7_play_0 : List UInt8 := [42, 3, 181, 0, 76, 42, 182, 0, 70, 42, 3, 181, 1, 10, 42, 3, 182, 1, 7, 42, 42, 180, 0, 168]
abbrev dktX7_play_0 : List UInt8 := dkwX7_play_0 ++ dktX7_play_1
theorem dksX7_play_0 : cX7_play.data.toList.drop 0 = dktX7_play_0 := by decide +kernel
theorem dksX7_play_1 : cX7_play.data.toList.drop 24 = dktX7_play_1 := dk_seg dksX7_play_0 24 rfl rfl
theorem dksX7_play_2 : cX7_play.data.toList.drop 46 = dktX7_play_2 := dk_seg dksX7_play_1 22 rfl rfl
theorem dksX7_play_3 : cX7_play.data.toList.drop 68 = dktX7_play_3 := dk_seg dksX7_play_2 22 rfl rfl
theorem dX7_play_0 : decode cX7_play 0 = .ok (.aload_n 0, 1) := dk_42 (dk_at dksX7_play_0 0 rfl rfl)
theorem dX7_play_1 : decode cX7_play 1 = .ok (.iconst 0, 1) := dk_3 (dk_at dksX7_play_0 1 rfl rfl)
theorem dX7_play_2 : decode cX7_play 2 = .ok (.putfield 76, 3) := dk_181 0 76 (dk_at dksX7_play_0 2 rfl rfl)
theorem dX7_play_5 : decode cX7_play 5 = .ok (.aload_n 0, 1) := dk_42 (dk_at dksX7_play_0 5 rfl rfl)
theorem dX7_play_6 : decode cX7_play 6 = .ok (.invokevirtual 70, 3) := dk_182 0 70 (dk_at dksX7_play_0 6 rfl rfl)
theorem dX7_play_9 : decode cX7_play 9 = .ok (.aload_n 0, 1) := dk_42 (dk_at dksX7_play_0 9 rfl rfl)
theorem dX7_play_10 : decode cX7_play 10 = .ok (.iconst 0, 1) := dk_3 (dk_at dksX7_play_0 10 rfl rfl)
theorem dX7_play_11 : decode cX7_play 11 = .ok (.putfield 266, 3) := dk_181 1 10 (dk_at dksX7_play_0 11 rfl rfl)
theorem dX7_play_14 : decode cX7_play 14 = .ok (.aload_n 0, 1) := dk_42 (dk_at dksX7_play_0 14 rfl rfl)
theorem dX7_play_15 : decode cX7_play 15 = .ok (.iconst 0, 1) := dk_3 (dk_at dksX7_play_0 15 rfl rfl)
theorem dX7_play_16 : decode cX7_play 16 = .ok (.invokevirtual 263, 3) := dk_182 1 7 (dk_at dksX7_play_0 16 rfl rfl)
theorem dX7_play_19 : decode cX7_play 19 = .ok (.aload_n 0, 1) := dk_42 (dk_at dksX7_play_0 19 rfl rfl)
theorem dX7_play_20 : decode cX7_play 20 = .ok (.aload_n 0, 1) := dk_42 (dk_at dksX7_play_0 20 rfl rfl)
theorem dX7_play_21 : decode cX7_play 21 = .ok (.getfield 168, 3) := dk_180 0 168 (dk_at dksX7_play_0 21 rfl rfl)
theorem dX7_play_24 : decode cX7_play 24 = .ok (.ifCond .ne 7, 3) := dk_154 0 7 (dk_at dksX7_play_1 0 rfl rfl)
theorem dX7_play_27 : decode cX7_play 27 = .ok (.iconst 1, 1) := dk_4 (dk_at dksX7_play_1 3 rfl rfl)
theorem dX7_play_28 : decode cX7_play 28 = .ok (.goto 4, 3) := dk_167 0 4 (dk_at dksX7_play_1 4 rfl rfl)
theorem dX7_play_31 : decode cX7_play 31 = .ok (.iconst 0, 1) := dk_3 (dk_at dksX7_play_1 7 rfl rfl)
theorem dX7_play_32 : decode cX7_play 32 = .ok (.iconst 1, 1) := dk_4 (dk_at dksX7_play_1 8 rfl rfl)
theorem dX7_play_33 : decode cX7_play 33 = .ok (.invokevirtual 183, 3) := dk_182 0 183 (dk_at dksX7_play_1 9 rfl rfl)
theorem dX7_play_36 : decode cX7_play 36 = .ok (.pop, 1) := dk_87 (dk_at dksX7_play_1 12 rfl rfl)
theorem dX7_play_37 : decode cX7_play 37 = .ok (.aload_n 0, 1) := dk_42 (dk_at dksX7_play_1 13 rfl rfl)
theorem dX7_play_38 : decode cX7_play 38 = .ok (.iconst 0, 1) := dk_3 (dk_at dksX7_play_1 14 rfl rfl)
theorem dX7_play_39 : decode cX7_play 39 = .ok (.putfield 67, 3) := dk_181 0 67 (dk_at dksX7_play_1 15 rfl rfl)
theorem dX7_play_42 : decode cX7_play 42 = .ok (.aload_n 0, 1) := dk_42 (dk_at dksX7_play_1 18 rfl rfl)
theorem dX7_play_43 : decode cX7_play 43 = .ok (.getfield 174, 3) := dk_180 0 174 (dk_at dksX7_play_1 19 rfl rfl)
theorem dX7_play_46 : decode cX7_play 46 = .ok (.ifCond .eq 11, 3) := dk_153 0 11 (dk_at dksX7_play_2 0 rfl rfl)
theorem dX7_play_49 : decode cX7_play 49 = .ok (.bipush (-20), 2) := dk_16 236 (dk_at dksX7_play_2 3 rfl rfl)
theorem dX7_play_51 : decode cX7_play 51 = .ok (.aload_n 0, 1) := dk_42 (dk_at dksX7_play_2 5 rfl rfl)
theorem dX7_play_52 : decode cX7_play 52 = .ok (.getfield 174, 3) := dk_180 0 174 (dk_at dksX7_play_2 6 rfl rfl)
theorem dX7_play_55 : decode cX7_play 55 = .ok (.isub, 1) := dk_100 (dk_at dksX7_play_2 9 rfl rfl)
theorem dX7_play_56 : decode cX7_play 56 = .ok (.ireturn, 1) := dk_172 (dk_at dksX7_play_2 10 rfl rfl)
theorem dX7_play_57 : decode cX7_play 57 = .ok (.aload_n 0, 1) := dk_42 (dk_at dksX7_play_2 11 rfl rfl)
theorem dX7_play_58 : decode cX7_play 58 = .ok (.invokevirtual 315, 3) := dk_182 1 59 (dk_at dksX7_play_2 12 rfl rfl)
theorem dX7_play_61 : decode cX7_play 61 = .ok (.aload_n 0, 1) := dk_42 (dk_at dksX7_play_2 15 rfl rfl)
theorem dX7_play_62 : decode cX7_play 62 = .ok (.iconst 1, 1) := dk_4 (dk_at dksX7_play_2 16 rfl rfl)
theorem dX7_play_63 : decode cX7_play 63 = .ok (.putfield 318, 3) := dk_181 1 62 (dk_at dksX7_play_2 17 rfl rfl)
theorem dX7_play_66 : decode cX7_play 66 = .ok (.aload_n 0, 1) := dk_42 (dk_at dksX7_play_2 20 rfl rfl)
theorem dX7_play_67 : decode cX7_play 67 = .ok (.iconst 0, 1) := dk_3 (dk_at dksX7_play_2 21 rfl rfl)
theorem dX7_play_68 : decode cX7_play 68 = .ok (.putfield 309, 3) := dk_181 1 53 (dk_at dksX7_play_3 0 rfl rfl)
theorem dX7_play_71 : decode cX7_play 71 = .ok (.aload_n 0, 1) := dk_42 (dk_at dksX7_play_3 3 rfl rfl)
theorem dX7_play_72 : decode cX7_play 72 = .ok (.iconst 0, 1) := dk_3 (dk_at dksX7_play_3 4 rfl rfl)
theorem dX7_play_73 : decode cX7_play 73 = .ok (.aload_n 0, 1) := dk_42 (dk_at dksX7_play_3 5 rfl rfl)
theorem dX7_play_74 : decode cX7_play 74 = .ok (.getfield 266, 3) := dk_180 1 10 (dk_at dksX7_play_3 6 rfl rfl)
theorem dX7_play_77 : decode cX7_play 77 = .ok (.invokevirtual 306, 3) := dk_182 1 50 (dk_at dksX7_play_3 9 rfl rfl)
theorem dX7_play_80 : decode cX7_play 80 = .ok (.istore_n 1, 1) := dk_60 (dk_at dksX7_play_3 12 rfl rfl)
theorem dX7_play_81 : decode cX7_play 81 = .ok (.aload_n 0, 1) := dk_42 (dk_at dksX7_play_3 13 rfl rfl)
theorem dX7_play_82 : decode cX7_play 82 = .ok (.iconst 0, 1) := dk_3 (dk_at dksX7_play_3 14 rfl rfl)
theorem dX7_play_83 : decode cX7_play 83 = .ok (.putfield 318, 3) := dk_181 1 62 (dk_at dksX7_play_3 15 rfl rfl)
theorem dX7_play_86 : decode cX7_play 86 = .ok (.aload_n 0, 1) := dk_42 (dk_at dksX7_play_3 18 rfl rfl)
theorem dX7_play_87 : decode cX7_play 87 = .ok (.getfield 309, 3) := dk_180 1 53 (dk_at dksX7_play_3 19 rfl rfl)
theorem dX7_play_90 : decode cX7_play 90 = .ok (.ireturn, 1) := dk_172 (dk_at dksX7_play_3 22 rfl rfl)
abbrev cX7_readsOrders : ByteArray := prog_19_method_61_code
def yX7_readsOrders : MethodName := ⟨RX7, "readsOrders", "(I)V"⟩
def dkwX7_readsOrders_1 : List UInt8 := [27, 182, 1, 25, 167, 255, 228, 177]
abbrev dktX7_readsOrders_1 : List UInt8 := dkwX7_readsOrders_1 ++ []
def dkwX7_readsOrders_0 : List UInt8 := [42, 180, 0, 174, 154, 0, 27, 42, 180, 0, 168, 153, 0, 20, 42, 16, 41, 182, 0, 180, 154, 0, 11, 42]
abbrev dktX7_readsOrders_0 : List UInt8 := dkwX7_readsOrders_0 ++ dktX7_readsOrders_1
theorem dksX7_readsOrders_0 : cX7_readsOrders.data.toList.drop 0 = dktX7_readsOrders_0 := by decide +kernel
theorem dksX7_readsOrders_1 : cX7_readsOrders.data.toList.drop 24 = dktX7_readsOrders_1 := dk_seg dksX7_readsOrders_0 24 rfl rfl
theorem dX7_readsOrders_0 : decode cX7_readsOrders 0 = .ok (.aload_n 0, 1) := dk_42 (dk_at dksX7_readsOrders_0 0 rfl rfl)
theorem dX7_readsOrders_1 : decode cX7_readsOrders 1 = .ok (.getfield 174, 3) := dk_180 0 174 (dk_at dksX7_readsOrders_0 1 rfl rfl)
theorem dX7_readsOrders_4 : decode cX7_readsOrders 4 = .ok (.ifCond .ne 27, 3) := dk_154 0 27 (dk_at dksX7_readsOrders_0 4 rfl rfl)
theorem dX7_readsOrders_7 : decode cX7_readsOrders 7 = .ok (.aload_n 0, 1) := dk_42 (dk_at dksX7_readsOrders_0 7 rfl rfl)
theorem dX7_readsOrders_8 : decode cX7_readsOrders 8 = .ok (.getfield 168, 3) := dk_180 0 168 (dk_at dksX7_readsOrders_0 8 rfl rfl)
theorem dX7_readsOrders_11 : decode cX7_readsOrders 11 = .ok (.ifCond .eq 20, 3) := dk_153 0 20 (dk_at dksX7_readsOrders_0 11 rfl rfl)
theorem dX7_readsOrders_14 : decode cX7_readsOrders 14 = .ok (.aload_n 0, 1) := dk_42 (dk_at dksX7_readsOrders_0 14 rfl rfl)
theorem dX7_readsOrders_15 : decode cX7_readsOrders 15 = .ok (.bipush 41, 2) := dk_16 41 (dk_at dksX7_readsOrders_0 15 rfl rfl)
theorem dX7_readsOrders_17 : decode cX7_readsOrders 17 = .ok (.invokevirtual 180, 3) := dk_182 0 180 (dk_at dksX7_readsOrders_0 17 rfl rfl)
theorem dX7_readsOrders_20 : decode cX7_readsOrders 20 = .ok (.ifCond .ne 11, 3) := dk_154 0 11 (dk_at dksX7_readsOrders_0 20 rfl rfl)
theorem dX7_readsOrders_23 : decode cX7_readsOrders 23 = .ok (.aload_n 0, 1) := dk_42 (dk_at dksX7_readsOrders_0 23 rfl rfl)
theorem dX7_readsOrders_24 : decode cX7_readsOrders 24 = .ok (.iload_n 1, 1) := dk_27 (dk_at dksX7_readsOrders_1 0 rfl rfl)
theorem dX7_readsOrders_25 : decode cX7_readsOrders 25 = .ok (.invokevirtual 281, 3) := dk_182 1 25 (dk_at dksX7_readsOrders_1 1 rfl rfl)
theorem dX7_readsOrders_28 : decode cX7_readsOrders 28 = .ok (.goto (-28), 3) := dk_167 255 228 (dk_at dksX7_readsOrders_1 4 rfl rfl)
theorem dX7_readsOrders_31 : decode cX7_readsOrders 31 = .ok (.return_, 1) := dk_177 (dk_at dksX7_readsOrders_1 7 rfl rfl)
abbrev cX7_readsOrder : ByteArray := prog_19_method_60_code
def yX7_readsOrder : MethodName := ⟨RX7, "readsOrder", "(I)V"⟩
def dkwX7_readsOrder_4 : List UInt8 := [16, 59, 182, 0, 224, 177]
abbrev dktX7_readsOrder_4 : List UInt8 := dkwX7_readsOrder_4 ++ []
def dkwX7_readsOrder_3 : List UInt8 := [182, 0, 177, 28, 16, 9, 160, 0, 12, 42, 29, 27, 182, 1, 19, 167, 0, 8, 42, 29, 182, 1, 22, 42]
abbrev dktX7_readsOrder_3 : List UInt8 := dkwX7_readsOrder_3 ++ dktX7_readsOrder_4
def dkwX7_readsOrder_2 : List UInt8 := [180, 1, 10, 62, 42, 180, 0, 36, 29, 28, 79, 42, 89, 180, 1, 10, 4, 96, 181, 1, 10, 42]
abbrev dktX7_readsOrder_2 : List UInt8 := dkwX7_readsOrder_2 ++ dktX7_readsOrder_3
def dkwX7_readsOrder_1 : List UInt8 := [42, 180, 1, 10, 16, 30, 162, 0, 7, 4, 167, 0, 4, 3, 8, 182, 0, 183, 154, 0, 4, 177, 42]
abbrev dktX7_readsOrder_1 : List UInt8 := dkwX7_readsOrder_1 ++ dktX7_readsOrder_2
def dkwX7_readsOrder_0 : List UInt8 := [42, 182, 1, 16, 61, 42, 28, 2, 159, 0, 7, 4, 167, 0, 4, 3, 4, 182, 0, 183, 153, 0, 25, 42]
abbrev dktX7_readsOrder_0 : List UInt8 := dkwX7_readsOrder_0 ++ dktX7_readsOrder_1
theorem dksX7_readsOrder_0 : cX7_readsOrder.data.toList.drop 0 = dktX7_readsOrder_0 := by decide +kernel
theorem dksX7_readsOrder_1 : cX7_readsOrder.data.toList.drop 24 = dktX7_readsOrder_1 := dk_seg dksX7_readsOrder_0 24 rfl rfl
theorem dksX7_readsOrder_2 : cX7_readsOrder.data.toList.drop 47 = dktX7_readsOrder_2 := dk_seg dksX7_readsOrder_1 23 rfl rfl
theorem dksX7_readsOrder_3 : cX7_readsOrder.data.toList.drop 69 = dktX7_readsOrder_3 := dk_seg dksX7_readsOrder_2 22 rfl rfl
theorem dksX7_readsOrder_4 : cX7_readsOrder.data.toList.drop 93 = dktX7_readsOrder_4 := dk_seg dksX7_readsOrder_3 24 rfl rfl
theorem dX7_readsOrder_0 : decode cX7_readsOrder 0 = .ok (.aload_n 0, 1) := dk_42 (dk_at dksX7_readsOrder_0 0 rfl rfl)
theorem dX7_readsOrder_1 : decode cX7_readsOrder 1 = .ok (.invokevirtual 272, 3) := dk_182 1 16 (dk_at dksX7_readsOrder_0 1 rfl rfl)
theorem dX7_readsOrder_4 : decode cX7_readsOrder 4 = .ok (.istore_n 2, 1) := dk_61 (dk_at dksX7_readsOrder_0 4 rfl rfl)
theorem dX7_readsOrder_5 : decode cX7_readsOrder 5 = .ok (.aload_n 0, 1) := dk_42 (dk_at dksX7_readsOrder_0 5 rfl rfl)
theorem dX7_readsOrder_6 : decode cX7_readsOrder 6 = .ok (.iload_n 2, 1) := dk_28 (dk_at dksX7_readsOrder_0 6 rfl rfl)
theorem dX7_readsOrder_7 : decode cX7_readsOrder 7 = .ok (.iconst (-1), 1) := dk_2 (dk_at dksX7_readsOrder_0 7 rfl rfl)
theorem dX7_readsOrder_8 : decode cX7_readsOrder 8 = .ok (.if_icmp .eq 7, 3) := dk_159 0 7 (dk_at dksX7_readsOrder_0 8 rfl rfl)
theorem dX7_readsOrder_11 : decode cX7_readsOrder 11 = .ok (.iconst 1, 1) := dk_4 (dk_at dksX7_readsOrder_0 11 rfl rfl)
theorem dX7_readsOrder_12 : decode cX7_readsOrder 12 = .ok (.goto 4, 3) := dk_167 0 4 (dk_at dksX7_readsOrder_0 12 rfl rfl)
theorem dX7_readsOrder_15 : decode cX7_readsOrder 15 = .ok (.iconst 0, 1) := dk_3 (dk_at dksX7_readsOrder_0 15 rfl rfl)
theorem dX7_readsOrder_16 : decode cX7_readsOrder 16 = .ok (.iconst 1, 1) := dk_4 (dk_at dksX7_readsOrder_0 16 rfl rfl)
theorem dX7_readsOrder_17 : decode cX7_readsOrder 17 = .ok (.invokevirtual 183, 3) := dk_182 0 183 (dk_at dksX7_readsOrder_0 17 rfl rfl)
theorem dX7_readsOrder_20 : decode cX7_readsOrder 20 = .ok (.ifCond .eq 25, 3) := dk_153 0 25 (dk_at dksX7_readsOrder_0 20 rfl rfl)
theorem dX7_readsOrder_23 : decode cX7_readsOrder 23 = .ok (.aload_n 0, 1) := dk_42 (dk_at dksX7_readsOrder_0 23 rfl rfl)
theorem dX7_readsOrder_24 : decode cX7_readsOrder 24 = .ok (.aload_n 0, 1) := dk_42 (dk_at dksX7_readsOrder_1 0 rfl rfl)
theorem dX7_readsOrder_25 : decode cX7_readsOrder 25 = .ok (.getfield 266, 3) := dk_180 1 10 (dk_at dksX7_readsOrder_1 1 rfl rfl)
theorem dX7_readsOrder_28 : decode cX7_readsOrder 28 = .ok (.bipush 30, 2) := dk_16 30 (dk_at dksX7_readsOrder_1 4 rfl rfl)
theorem dX7_readsOrder_30 : decode cX7_readsOrder 30 = .ok (.if_icmp .ge 7, 3) := dk_162 0 7 (dk_at dksX7_readsOrder_1 6 rfl rfl)
theorem dX7_readsOrder_33 : decode cX7_readsOrder 33 = .ok (.iconst 1, 1) := dk_4 (dk_at dksX7_readsOrder_1 9 rfl rfl)
theorem dX7_readsOrder_34 : decode cX7_readsOrder 34 = .ok (.goto 4, 3) := dk_167 0 4 (dk_at dksX7_readsOrder_1 10 rfl rfl)
theorem dX7_readsOrder_37 : decode cX7_readsOrder 37 = .ok (.iconst 0, 1) := dk_3 (dk_at dksX7_readsOrder_1 13 rfl rfl)
theorem dX7_readsOrder_38 : decode cX7_readsOrder 38 = .ok (.iconst 5, 1) := dk_8 (dk_at dksX7_readsOrder_1 14 rfl rfl)
theorem dX7_readsOrder_39 : decode cX7_readsOrder 39 = .ok (.invokevirtual 183, 3) := dk_182 0 183 (dk_at dksX7_readsOrder_1 15 rfl rfl)
theorem dX7_readsOrder_42 : decode cX7_readsOrder 42 = .ok (.ifCond .ne 4, 3) := dk_154 0 4 (dk_at dksX7_readsOrder_1 18 rfl rfl)
theorem dX7_readsOrder_45 : decode cX7_readsOrder 45 = .ok (.return_, 1) := dk_177 (dk_at dksX7_readsOrder_1 21 rfl rfl)
theorem dX7_readsOrder_46 : decode cX7_readsOrder 46 = .ok (.aload_n 0, 1) := dk_42 (dk_at dksX7_readsOrder_1 22 rfl rfl)
theorem dX7_readsOrder_47 : decode cX7_readsOrder 47 = .ok (.getfield 266, 3) := dk_180 1 10 (dk_at dksX7_readsOrder_2 0 rfl rfl)
theorem dX7_readsOrder_50 : decode cX7_readsOrder 50 = .ok (.istore_n 3, 1) := dk_62 (dk_at dksX7_readsOrder_2 3 rfl rfl)
theorem dX7_readsOrder_51 : decode cX7_readsOrder 51 = .ok (.aload_n 0, 1) := dk_42 (dk_at dksX7_readsOrder_2 4 rfl rfl)
theorem dX7_readsOrder_52 : decode cX7_readsOrder 52 = .ok (.getfield 36, 3) := dk_180 0 36 (dk_at dksX7_readsOrder_2 5 rfl rfl)
theorem dX7_readsOrder_55 : decode cX7_readsOrder 55 = .ok (.iload_n 3, 1) := dk_29 (dk_at dksX7_readsOrder_2 8 rfl rfl)
theorem dX7_readsOrder_56 : decode cX7_readsOrder 56 = .ok (.iload_n 2, 1) := dk_28 (dk_at dksX7_readsOrder_2 9 rfl rfl)
theorem dX7_readsOrder_57 : decode cX7_readsOrder 57 = .ok (.iastore, 1) := dk_79 (dk_at dksX7_readsOrder_2 10 rfl rfl)
theorem dX7_readsOrder_58 : decode cX7_readsOrder 58 = .ok (.aload_n 0, 1) := dk_42 (dk_at dksX7_readsOrder_2 11 rfl rfl)
theorem dX7_readsOrder_59 : decode cX7_readsOrder 59 = .ok (.dup, 1) := dk_89 (dk_at dksX7_readsOrder_2 12 rfl rfl)
theorem dX7_readsOrder_60 : decode cX7_readsOrder 60 = .ok (.getfield 266, 3) := dk_180 1 10 (dk_at dksX7_readsOrder_2 13 rfl rfl)
theorem dX7_readsOrder_63 : decode cX7_readsOrder 63 = .ok (.iconst 1, 1) := dk_4 (dk_at dksX7_readsOrder_2 16 rfl rfl)
theorem dX7_readsOrder_64 : decode cX7_readsOrder 64 = .ok (.iadd, 1) := dk_96 (dk_at dksX7_readsOrder_2 17 rfl rfl)
theorem dX7_readsOrder_65 : decode cX7_readsOrder 65 = .ok (.putfield 266, 3) := dk_181 1 10 (dk_at dksX7_readsOrder_2 18 rfl rfl)
theorem dX7_readsOrder_68 : decode cX7_readsOrder 68 = .ok (.aload_n 0, 1) := dk_42 (dk_at dksX7_readsOrder_2 21 rfl rfl)
theorem dX7_readsOrder_69 : decode cX7_readsOrder 69 = .ok (.invokevirtual 177, 3) := dk_182 0 177 (dk_at dksX7_readsOrder_3 0 rfl rfl)
theorem dX7_readsOrder_72 : decode cX7_readsOrder 72 = .ok (.iload_n 2, 1) := dk_28 (dk_at dksX7_readsOrder_3 3 rfl rfl)
theorem dX7_readsOrder_73 : decode cX7_readsOrder 73 = .ok (.bipush 9, 2) := dk_16 9 (dk_at dksX7_readsOrder_3 4 rfl rfl)
theorem dX7_readsOrder_75 : decode cX7_readsOrder 75 = .ok (.if_icmp .ne 12, 3) := dk_160 0 12 (dk_at dksX7_readsOrder_3 6 rfl rfl)
theorem dX7_readsOrder_78 : decode cX7_readsOrder 78 = .ok (.aload_n 0, 1) := dk_42 (dk_at dksX7_readsOrder_3 9 rfl rfl)
theorem dX7_readsOrder_79 : decode cX7_readsOrder 79 = .ok (.iload_n 3, 1) := dk_29 (dk_at dksX7_readsOrder_3 10 rfl rfl)
theorem dX7_readsOrder_80 : decode cX7_readsOrder 80 = .ok (.iload_n 1, 1) := dk_27 (dk_at dksX7_readsOrder_3 11 rfl rfl)
theorem dX7_readsOrder_81 : decode cX7_readsOrder 81 = .ok (.invokevirtual 275, 3) := dk_182 1 19 (dk_at dksX7_readsOrder_3 12 rfl rfl)
theorem dX7_readsOrder_84 : decode cX7_readsOrder 84 = .ok (.goto 8, 3) := dk_167 0 8 (dk_at dksX7_readsOrder_3 15 rfl rfl)
theorem dX7_readsOrder_87 : decode cX7_readsOrder 87 = .ok (.aload_n 0, 1) := dk_42 (dk_at dksX7_readsOrder_3 18 rfl rfl)
theorem dX7_readsOrder_88 : decode cX7_readsOrder 88 = .ok (.iload_n 3, 1) := dk_29 (dk_at dksX7_readsOrder_3 19 rfl rfl)
theorem dX7_readsOrder_89 : decode cX7_readsOrder 89 = .ok (.invokevirtual 278, 3) := dk_182 1 22 (dk_at dksX7_readsOrder_3 20 rfl rfl)
theorem dX7_readsOrder_92 : decode cX7_readsOrder 92 = .ok (.aload_n 0, 1) := dk_42 (dk_at dksX7_readsOrder_3 23 rfl rfl)
theorem dX7_readsOrder_93 : decode cX7_readsOrder 93 = .ok (.bipush 59, 2) := dk_16 59 (dk_at dksX7_readsOrder_4 0 rfl rfl)
theorem dX7_readsOrder_95 : decode cX7_readsOrder 95 = .ok (.invokevirtual 224, 3) := dk_182 0 224 (dk_at dksX7_readsOrder_4 2 rfl rfl)
theorem dX7_readsOrder_98 : decode cX7_readsOrder 98 = .ok (.return_, 1) := dk_177 (dk_at dksX7_readsOrder_4 5 rfl rfl)
abbrev cX7_orderHere : ByteArray := prog_19_method_57_code
def yX7_orderHere : MethodName := ⟨RX7, "orderHere", "()I"⟩
def dkwX7_orderHere_5 : List UInt8 := [167, 0, 4, 2, 172]
abbrev dktX7_orderHere_5 : List UInt8 := dkwX7_orderHere_5 ++ []
def dkwX7_orderHere_4 : List UInt8 := [19, 1, 3, 182, 0, 198, 153, 0, 6, 16, 8, 172, 42, 19, 1, 5, 182, 0, 198, 153, 0, 8, 16, 9]
abbrev dktX7_orderHere_4 : List UInt8 := dkwX7_orderHere_4 ++ dktX7_orderHere_5
def dkwX7_orderHere_3 : List UInt8 := [182, 0, 198, 153, 0, 6, 16, 6, 172, 42, 19, 1, 1, 182, 0, 198, 153, 0, 6, 16, 7, 172, 42]
abbrev dktX7_orderHere_3 : List UInt8 := dkwX7_orderHere_3 ++ dktX7_orderHere_4
def dkwX7_orderHere_2 : List UInt8 := [182, 0, 198, 153, 0, 5, 7, 172, 42, 18, 253, 182, 0, 198, 153, 0, 5, 8, 172, 42, 18, 255]
abbrev dktX7_orderHere_2 : List UInt8 := dkwX7_orderHere_2 ++ dktX7_orderHere_3
def dkwX7_orderHere_1 : List UInt8 := [18, 247, 182, 0, 198, 153, 0, 5, 5, 172, 42, 18, 249, 182, 0, 198, 153, 0, 5, 6, 172, 42, 18, 251]
abbrev dktX7_orderHere_1 : List UInt8 := dkwX7_orderHere_1 ++ dktX7_orderHere_2
def dkwX7_orderHere_0 : List UInt8 := [42, 18, 244, 182, 0, 198, 153, 0, 5, 3, 172, 42, 18, 246, 182, 0, 198, 153, 0, 5, 4, 172, 42]
abbrev dktX7_orderHere_0 : List UInt8 := dkwX7_orderHere_0 ++ dktX7_orderHere_1
theorem dksX7_orderHere_0 : cX7_orderHere.data.toList.drop 0 = dktX7_orderHere_0 := by decide +kernel
theorem dksX7_orderHere_1 : cX7_orderHere.data.toList.drop 23 = dktX7_orderHere_1 := dk_seg dksX7_orderHere_0 23 rfl rfl
theorem dksX7_orderHere_2 : cX7_orderHere.data.toList.drop 47 = dktX7_orderHere_2 := dk_seg dksX7_orderHere_1 24 rfl rfl
theorem dksX7_orderHere_3 : cX7_orderHere.data.toList.drop 69 = dktX7_orderHere_3 := dk_seg dksX7_orderHere_2 22 rfl rfl
theorem dksX7_orderHere_4 : cX7_orderHere.data.toList.drop 92 = dktX7_orderHere_4 := dk_seg dksX7_orderHere_3 23 rfl rfl
theorem dksX7_orderHere_5 : cX7_orderHere.data.toList.drop 116 = dktX7_orderHere_5 := dk_seg dksX7_orderHere_4 24 rfl rfl
theorem dX7_orderHere_0 : decode cX7_orderHere 0 = .ok (.aload_n 0, 1) := dk_42 (dk_at dksX7_orderHere_0 0 rfl rfl)
theorem dX7_orderHere_1 : decode cX7_orderHere 1 = .ok (.ldc 244, 2) := dk_18 244 (dk_at dksX7_orderHere_0 1 rfl rfl)
theorem dX7_orderHere_3 : decode cX7_orderHere 3 = .ok (.invokevirtual 198, 3) := dk_182 0 198 (dk_at dksX7_orderHere_0 3 rfl rfl)
theorem dX7_orderHere_6 : decode cX7_orderHere 6 = .ok (.ifCond .eq 5, 3) := dk_153 0 5 (dk_at dksX7_orderHere_0 6 rfl rfl)
theorem dX7_orderHere_9 : decode cX7_orderHere 9 = .ok (.iconst 0, 1) := dk_3 (dk_at dksX7_orderHere_0 9 rfl rfl)
theorem dX7_orderHere_10 : decode cX7_orderHere 10 = .ok (.ireturn, 1) := dk_172 (dk_at dksX7_orderHere_0 10 rfl rfl)
theorem dX7_orderHere_11 : decode cX7_orderHere 11 = .ok (.aload_n 0, 1) := dk_42 (dk_at dksX7_orderHere_0 11 rfl rfl)
theorem dX7_orderHere_12 : decode cX7_orderHere 12 = .ok (.ldc 246, 2) := dk_18 246 (dk_at dksX7_orderHere_0 12 rfl rfl)
theorem dX7_orderHere_14 : decode cX7_orderHere 14 = .ok (.invokevirtual 198, 3) := dk_182 0 198 (dk_at dksX7_orderHere_0 14 rfl rfl)
theorem dX7_orderHere_17 : decode cX7_orderHere 17 = .ok (.ifCond .eq 5, 3) := dk_153 0 5 (dk_at dksX7_orderHere_0 17 rfl rfl)
theorem dX7_orderHere_20 : decode cX7_orderHere 20 = .ok (.iconst 1, 1) := dk_4 (dk_at dksX7_orderHere_0 20 rfl rfl)
theorem dX7_orderHere_21 : decode cX7_orderHere 21 = .ok (.ireturn, 1) := dk_172 (dk_at dksX7_orderHere_0 21 rfl rfl)
theorem dX7_orderHere_22 : decode cX7_orderHere 22 = .ok (.aload_n 0, 1) := dk_42 (dk_at dksX7_orderHere_0 22 rfl rfl)
theorem dX7_orderHere_23 : decode cX7_orderHere 23 = .ok (.ldc 247, 2) := dk_18 247 (dk_at dksX7_orderHere_1 0 rfl rfl)
theorem dX7_orderHere_25 : decode cX7_orderHere 25 = .ok (.invokevirtual 198, 3) := dk_182 0 198 (dk_at dksX7_orderHere_1 2 rfl rfl)
theorem dX7_orderHere_28 : decode cX7_orderHere 28 = .ok (.ifCond .eq 5, 3) := dk_153 0 5 (dk_at dksX7_orderHere_1 5 rfl rfl)
theorem dX7_orderHere_31 : decode cX7_orderHere 31 = .ok (.iconst 2, 1) := dk_5 (dk_at dksX7_orderHere_1 8 rfl rfl)
theorem dX7_orderHere_32 : decode cX7_orderHere 32 = .ok (.ireturn, 1) := dk_172 (dk_at dksX7_orderHere_1 9 rfl rfl)
theorem dX7_orderHere_33 : decode cX7_orderHere 33 = .ok (.aload_n 0, 1) := dk_42 (dk_at dksX7_orderHere_1 10 rfl rfl)
theorem dX7_orderHere_34 : decode cX7_orderHere 34 = .ok (.ldc 249, 2) := dk_18 249 (dk_at dksX7_orderHere_1 11 rfl rfl)
theorem dX7_orderHere_36 : decode cX7_orderHere 36 = .ok (.invokevirtual 198, 3) := dk_182 0 198 (dk_at dksX7_orderHere_1 13 rfl rfl)
theorem dX7_orderHere_39 : decode cX7_orderHere 39 = .ok (.ifCond .eq 5, 3) := dk_153 0 5 (dk_at dksX7_orderHere_1 16 rfl rfl)
theorem dX7_orderHere_42 : decode cX7_orderHere 42 = .ok (.iconst 3, 1) := dk_6 (dk_at dksX7_orderHere_1 19 rfl rfl)
theorem dX7_orderHere_43 : decode cX7_orderHere 43 = .ok (.ireturn, 1) := dk_172 (dk_at dksX7_orderHere_1 20 rfl rfl)
theorem dX7_orderHere_44 : decode cX7_orderHere 44 = .ok (.aload_n 0, 1) := dk_42 (dk_at dksX7_orderHere_1 21 rfl rfl)
theorem dX7_orderHere_45 : decode cX7_orderHere 45 = .ok (.ldc 251, 2) := dk_18 251 (dk_at dksX7_orderHere_1 22 rfl rfl)
theorem dX7_orderHere_47 : decode cX7_orderHere 47 = .ok (.invokevirtual 198, 3) := dk_182 0 198 (dk_at dksX7_orderHere_2 0 rfl rfl)
theorem dX7_orderHere_50 : decode cX7_orderHere 50 = .ok (.ifCond .eq 5, 3) := dk_153 0 5 (dk_at dksX7_orderHere_2 3 rfl rfl)
theorem dX7_orderHere_53 : decode cX7_orderHere 53 = .ok (.iconst 4, 1) := dk_7 (dk_at dksX7_orderHere_2 6 rfl rfl)
theorem dX7_orderHere_54 : decode cX7_orderHere 54 = .ok (.ireturn, 1) := dk_172 (dk_at dksX7_orderHere_2 7 rfl rfl)
theorem dX7_orderHere_55 : decode cX7_orderHere 55 = .ok (.aload_n 0, 1) := dk_42 (dk_at dksX7_orderHere_2 8 rfl rfl)
theorem dX7_orderHere_56 : decode cX7_orderHere 56 = .ok (.ldc 253, 2) := dk_18 253 (dk_at dksX7_orderHere_2 9 rfl rfl)
theorem dX7_orderHere_58 : decode cX7_orderHere 58 = .ok (.invokevirtual 198, 3) := dk_182 0 198 (dk_at dksX7_orderHere_2 11 rfl rfl)
theorem dX7_orderHere_61 : decode cX7_orderHere 61 = .ok (.ifCond .eq 5, 3) := dk_153 0 5 (dk_at dksX7_orderHere_2 14 rfl rfl)
theorem dX7_orderHere_64 : decode cX7_orderHere 64 = .ok (.iconst 5, 1) := dk_8 (dk_at dksX7_orderHere_2 17 rfl rfl)
theorem dX7_orderHere_65 : decode cX7_orderHere 65 = .ok (.ireturn, 1) := dk_172 (dk_at dksX7_orderHere_2 18 rfl rfl)
theorem dX7_orderHere_66 : decode cX7_orderHere 66 = .ok (.aload_n 0, 1) := dk_42 (dk_at dksX7_orderHere_2 19 rfl rfl)
theorem dX7_orderHere_67 : decode cX7_orderHere 67 = .ok (.ldc 255, 2) := dk_18 255 (dk_at dksX7_orderHere_2 20 rfl rfl)
theorem dX7_orderHere_69 : decode cX7_orderHere 69 = .ok (.invokevirtual 198, 3) := dk_182 0 198 (dk_at dksX7_orderHere_3 0 rfl rfl)
theorem dX7_orderHere_72 : decode cX7_orderHere 72 = .ok (.ifCond .eq 6, 3) := dk_153 0 6 (dk_at dksX7_orderHere_3 3 rfl rfl)
theorem dX7_orderHere_75 : decode cX7_orderHere 75 = .ok (.bipush 6, 2) := dk_16 6 (dk_at dksX7_orderHere_3 6 rfl rfl)
theorem dX7_orderHere_77 : decode cX7_orderHere 77 = .ok (.ireturn, 1) := dk_172 (dk_at dksX7_orderHere_3 8 rfl rfl)
theorem dX7_orderHere_78 : decode cX7_orderHere 78 = .ok (.aload_n 0, 1) := dk_42 (dk_at dksX7_orderHere_3 9 rfl rfl)
theorem dX7_orderHere_79 : decode cX7_orderHere 79 = .ok (.ldc_w 257, 3) := dk_19 1 1 (dk_at dksX7_orderHere_3 10 rfl rfl)
theorem dX7_orderHere_82 : decode cX7_orderHere 82 = .ok (.invokevirtual 198, 3) := dk_182 0 198 (dk_at dksX7_orderHere_3 13 rfl rfl)
theorem dX7_orderHere_85 : decode cX7_orderHere 85 = .ok (.ifCond .eq 6, 3) := dk_153 0 6 (dk_at dksX7_orderHere_3 16 rfl rfl)
theorem dX7_orderHere_88 : decode cX7_orderHere 88 = .ok (.bipush 7, 2) := dk_16 7 (dk_at dksX7_orderHere_3 19 rfl rfl)
theorem dX7_orderHere_90 : decode cX7_orderHere 90 = .ok (.ireturn, 1) := dk_172 (dk_at dksX7_orderHere_3 21 rfl rfl)
theorem dX7_orderHere_91 : decode cX7_orderHere 91 = .ok (.aload_n 0, 1) := dk_42 (dk_at dksX7_orderHere_3 22 rfl rfl)
theorem dX7_orderHere_92 : decode cX7_orderHere 92 = .ok (.ldc_w 259, 3) := dk_19 1 3 (dk_at dksX7_orderHere_4 0 rfl rfl)
theorem dX7_orderHere_95 : decode cX7_orderHere 95 = .ok (.invokevirtual 198, 3) := dk_182 0 198 (dk_at dksX7_orderHere_4 3 rfl rfl)
theorem dX7_orderHere_98 : decode cX7_orderHere 98 = .ok (.ifCond .eq 6, 3) := dk_153 0 6 (dk_at dksX7_orderHere_4 6 rfl rfl)
theorem dX7_orderHere_101 : decode cX7_orderHere 101 = .ok (.bipush 8, 2) := dk_16 8 (dk_at dksX7_orderHere_4 9 rfl rfl)
theorem dX7_orderHere_103 : decode cX7_orderHere 103 = .ok (.ireturn, 1) := dk_172 (dk_at dksX7_orderHere_4 11 rfl rfl)
theorem dX7_orderHere_104 : decode cX7_orderHere 104 = .ok (.aload_n 0, 1) := dk_42 (dk_at dksX7_orderHere_4 12 rfl rfl)
theorem dX7_orderHere_105 : decode cX7_orderHere 105 = .ok (.ldc_w 261, 3) := dk_19 1 5 (dk_at dksX7_orderHere_4 13 rfl rfl)
theorem dX7_orderHere_108 : decode cX7_orderHere 108 = .ok (.invokevirtual 198, 3) := dk_182 0 198 (dk_at dksX7_orderHere_4 16 rfl rfl)
theorem dX7_orderHere_111 : decode cX7_orderHere 111 = .ok (.ifCond .eq 8, 3) := dk_153 0 8 (dk_at dksX7_orderHere_4 19 rfl rfl)
theorem dX7_orderHere_114 : decode cX7_orderHere 114 = .ok (.bipush 9, 2) := dk_16 9 (dk_at dksX7_orderHere_4 22 rfl rfl)
theorem dX7_orderHere_116 : decode cX7_orderHere 116 = .ok (.goto 4, 3) := dk_167 0 4 (dk_at dksX7_orderHere_5 0 rfl rfl)
theorem dX7_orderHere_119 : decode cX7_orderHere 119 = .ok (.iconst (-1), 1) := dk_2 (dk_at dksX7_orderHere_5 3 rfl rfl)
theorem dX7_orderHere_120 : decode cX7_orderHere 120 = .ok (.ireturn, 1) := dk_172 (dk_at dksX7_orderHere_5 4 rfl rfl)
abbrev cX7_readsAgain : ByteArray := prog_19_method_58_code
def yX7_readsAgain : MethodName := ⟨RX7, "readsAgain", "(II)V"⟩
def dkwX7_readsAgain_2 : List UInt8 := [28, 4, 96, 182, 1, 7, 42, 16, 41, 182, 0, 224, 42, 180, 0, 45, 27, 42, 180, 1, 10, 79, 177]
abbrev dktX7_readsAgain_2 : List UInt8 := dkwX7_readsAgain_2 ++ []
def dkwX7_readsAgain_1 : List UInt8 := [153, 0, 19, 42, 28, 5, 162, 0, 7, 4, 167, 0, 4, 3, 8, 182, 0, 183, 87, 42, 182, 0, 187, 42]
abbrev dktX7_readsAgain_1 : List UInt8 := dkwX7_readsAgain_1 ++ dktX7_readsAgain_2
def dkwX7_readsAgain_0 : List UInt8 := [42, 180, 0, 42, 27, 42, 3, 16, 20, 182, 0, 216, 79, 42, 42, 16, 40, 182, 0, 180, 4, 182, 0, 183]
abbrev dktX7_readsAgain_0 : List UInt8 := dkwX7_readsAgain_0 ++ dktX7_readsAgain_1
theorem dksX7_readsAgain_0 : cX7_readsAgain.data.toList.drop 0 = dktX7_readsAgain_0 := by decide +kernel
theorem dksX7_readsAgain_1 : cX7_readsAgain.data.toList.drop 24 = dktX7_readsAgain_1 := dk_seg dksX7_readsAgain_0 24 rfl rfl
theorem dksX7_readsAgain_2 : cX7_readsAgain.data.toList.drop 48 = dktX7_readsAgain_2 := dk_seg dksX7_readsAgain_1 24 rfl rfl
theorem dX7_readsAgain_0 : decode cX7_readsAgain 0 = .ok (.aload_n 0, 1) := dk_42 (dk_at dksX7_readsAgain_0 0 rfl rfl)
theorem dX7_readsAgain_1 : decode cX7_readsAgain 1 = .ok (.getfield 42, 3) := dk_180 0 42 (dk_at dksX7_readsAgain_0 1 rfl rfl)
theorem dX7_readsAgain_4 : decode cX7_readsAgain 4 = .ok (.iload_n 1, 1) := dk_27 (dk_at dksX7_readsAgain_0 4 rfl rfl)
theorem dX7_readsAgain_5 : decode cX7_readsAgain 5 = .ok (.aload_n 0, 1) := dk_42 (dk_at dksX7_readsAgain_0 5 rfl rfl)
theorem dX7_readsAgain_6 : decode cX7_readsAgain 6 = .ok (.iconst 0, 1) := dk_3 (dk_at dksX7_readsAgain_0 6 rfl rfl)
theorem dX7_readsAgain_7 : decode cX7_readsAgain 7 = .ok (.bipush 20, 2) := dk_16 20 (dk_at dksX7_readsAgain_0 7 rfl rfl)
theorem dX7_readsAgain_9 : decode cX7_readsAgain 9 = .ok (.invokevirtual 216, 3) := dk_182 0 216 (dk_at dksX7_readsAgain_0 9 rfl rfl)
theorem dX7_readsAgain_12 : decode cX7_readsAgain 12 = .ok (.iastore, 1) := dk_79 (dk_at dksX7_readsAgain_0 12 rfl rfl)
theorem dX7_readsAgain_13 : decode cX7_readsAgain 13 = .ok (.aload_n 0, 1) := dk_42 (dk_at dksX7_readsAgain_0 13 rfl rfl)
theorem dX7_readsAgain_14 : decode cX7_readsAgain 14 = .ok (.aload_n 0, 1) := dk_42 (dk_at dksX7_readsAgain_0 14 rfl rfl)
theorem dX7_readsAgain_15 : decode cX7_readsAgain 15 = .ok (.bipush 40, 2) := dk_16 40 (dk_at dksX7_readsAgain_0 15 rfl rfl)
theorem dX7_readsAgain_17 : decode cX7_readsAgain 17 = .ok (.invokevirtual 180, 3) := dk_182 0 180 (dk_at dksX7_readsAgain_0 17 rfl rfl)
theorem dX7_readsAgain_20 : decode cX7_readsAgain 20 = .ok (.iconst 1, 1) := dk_4 (dk_at dksX7_readsAgain_0 20 rfl rfl)
theorem dX7_readsAgain_21 : decode cX7_readsAgain 21 = .ok (.invokevirtual 183, 3) := dk_182 0 183 (dk_at dksX7_readsAgain_0 21 rfl rfl)
theorem dX7_readsAgain_24 : decode cX7_readsAgain 24 = .ok (.ifCond .eq 19, 3) := dk_153 0 19 (dk_at dksX7_readsAgain_1 0 rfl rfl)
theorem dX7_readsAgain_27 : decode cX7_readsAgain 27 = .ok (.aload_n 0, 1) := dk_42 (dk_at dksX7_readsAgain_1 3 rfl rfl)
theorem dX7_readsAgain_28 : decode cX7_readsAgain 28 = .ok (.iload_n 2, 1) := dk_28 (dk_at dksX7_readsAgain_1 4 rfl rfl)
theorem dX7_readsAgain_29 : decode cX7_readsAgain 29 = .ok (.iconst 2, 1) := dk_5 (dk_at dksX7_readsAgain_1 5 rfl rfl)
theorem dX7_readsAgain_30 : decode cX7_readsAgain 30 = .ok (.if_icmp .ge 7, 3) := dk_162 0 7 (dk_at dksX7_readsAgain_1 6 rfl rfl)
theorem dX7_readsAgain_33 : decode cX7_readsAgain 33 = .ok (.iconst 1, 1) := dk_4 (dk_at dksX7_readsAgain_1 9 rfl rfl)
theorem dX7_readsAgain_34 : decode cX7_readsAgain 34 = .ok (.goto 4, 3) := dk_167 0 4 (dk_at dksX7_readsAgain_1 10 rfl rfl)
theorem dX7_readsAgain_37 : decode cX7_readsAgain 37 = .ok (.iconst 0, 1) := dk_3 (dk_at dksX7_readsAgain_1 13 rfl rfl)
theorem dX7_readsAgain_38 : decode cX7_readsAgain 38 = .ok (.iconst 5, 1) := dk_8 (dk_at dksX7_readsAgain_1 14 rfl rfl)
theorem dX7_readsAgain_39 : decode cX7_readsAgain 39 = .ok (.invokevirtual 183, 3) := dk_182 0 183 (dk_at dksX7_readsAgain_1 15 rfl rfl)
theorem dX7_readsAgain_42 : decode cX7_readsAgain 42 = .ok (.pop, 1) := dk_87 (dk_at dksX7_readsAgain_1 18 rfl rfl)
theorem dX7_readsAgain_43 : decode cX7_readsAgain 43 = .ok (.aload_n 0, 1) := dk_42 (dk_at dksX7_readsAgain_1 19 rfl rfl)
theorem dX7_readsAgain_44 : decode cX7_readsAgain 44 = .ok (.invokevirtual 187, 3) := dk_182 0 187 (dk_at dksX7_readsAgain_1 20 rfl rfl)
theorem dX7_readsAgain_47 : decode cX7_readsAgain 47 = .ok (.aload_n 0, 1) := dk_42 (dk_at dksX7_readsAgain_1 23 rfl rfl)
theorem dX7_readsAgain_48 : decode cX7_readsAgain 48 = .ok (.iload_n 2, 1) := dk_28 (dk_at dksX7_readsAgain_2 0 rfl rfl)
theorem dX7_readsAgain_49 : decode cX7_readsAgain 49 = .ok (.iconst 1, 1) := dk_4 (dk_at dksX7_readsAgain_2 1 rfl rfl)
theorem dX7_readsAgain_50 : decode cX7_readsAgain 50 = .ok (.iadd, 1) := dk_96 (dk_at dksX7_readsAgain_2 2 rfl rfl)
theorem dX7_readsAgain_51 : decode cX7_readsAgain 51 = .ok (.invokevirtual 263, 3) := dk_182 1 7 (dk_at dksX7_readsAgain_2 3 rfl rfl)
theorem dX7_readsAgain_54 : decode cX7_readsAgain 54 = .ok (.aload_n 0, 1) := dk_42 (dk_at dksX7_readsAgain_2 6 rfl rfl)
theorem dX7_readsAgain_55 : decode cX7_readsAgain 55 = .ok (.bipush 41, 2) := dk_16 41 (dk_at dksX7_readsAgain_2 7 rfl rfl)
theorem dX7_readsAgain_57 : decode cX7_readsAgain 57 = .ok (.invokevirtual 224, 3) := dk_182 0 224 (dk_at dksX7_readsAgain_2 9 rfl rfl)
theorem dX7_readsAgain_60 : decode cX7_readsAgain 60 = .ok (.aload_n 0, 1) := dk_42 (dk_at dksX7_readsAgain_2 12 rfl rfl)
theorem dX7_readsAgain_61 : decode cX7_readsAgain 61 = .ok (.getfield 45, 3) := dk_180 0 45 (dk_at dksX7_readsAgain_2 13 rfl rfl)
theorem dX7_readsAgain_64 : decode cX7_readsAgain 64 = .ok (.iload_n 1, 1) := dk_27 (dk_at dksX7_readsAgain_2 16 rfl rfl)
theorem dX7_readsAgain_65 : decode cX7_readsAgain 65 = .ok (.aload_n 0, 1) := dk_42 (dk_at dksX7_readsAgain_2 17 rfl rfl)
theorem dX7_readsAgain_66 : decode cX7_readsAgain 66 = .ok (.getfield 266, 3) := dk_180 1 10 (dk_at dksX7_readsAgain_2 18 rfl rfl)
theorem dX7_readsAgain_69 : decode cX7_readsAgain 69 = .ok (.iastore, 1) := dk_79 (dk_at dksX7_readsAgain_2 21 rfl rfl)
theorem dX7_readsAgain_70 : decode cX7_readsAgain 70 = .ok (.return_, 1) := dk_177 (dk_at dksX7_readsAgain_2 22 rfl rfl)
abbrev cX7_readsSingle : ByteArray := prog_19_method_59_code
def yX7_readsSingle : MethodName := ⟨RX7, "readsSingle", "(I)V"⟩
def dkwX7_readsSingle_8 : List UInt8 := [182, 1, 13, 79, 177]
abbrev dktX7_readsSingle_8 : List UInt8 := dkwX7_readsSingle_8 ++ []
def dkwX7_readsSingle_7 : List UInt8 := [160, 0, 8, 16, 60, 167, 0, 5, 16, 99, 182, 0, 216, 79, 167, 0, 13, 42, 180, 0, 39, 27, 42]
abbrev dktX7_readsSingle_7 : List UInt8 := dkwX7_readsSingle_7 ++ dktX7_readsSingle_8
def dkwX7_readsSingle_6 : List UInt8 := [42, 3, 8, 182, 0, 216, 79, 42, 180, 0, 45, 27, 42, 4, 42, 180, 0, 36, 27, 46, 16, 7]
abbrev dktX7_readsSingle_6 : List UInt8 := dkwX7_readsSingle_6 ++ dktX7_readsSingle_7
def dkwX7_readsSingle_5 : List UInt8 := [167, 0, 73, 42, 180, 0, 42, 27, 42, 3, 16, 20, 182, 0, 216, 79, 167, 0, 57, 42, 180, 0, 42, 27]
abbrev dktX7_readsSingle_5 : List UInt8 := dkwX7_readsSingle_5 ++ dktX7_readsSingle_6
def dkwX7_readsSingle_4 : List UInt8 := [42, 3, 8, 182, 0, 216, 79, 167, 0, 88, 42, 180, 0, 42, 27, 42, 3, 5, 182, 0, 216, 79]
abbrev dktX7_readsSingle_4 : List UInt8 := dkwX7_readsSingle_4 ++ dktX7_readsSingle_5
def dkwX7_readsSingle_3 : List UInt8 := [167, 0, 119, 42, 180, 0, 42, 27, 42, 4, 16, 60, 182, 0, 216, 79, 167, 0, 103, 42, 180, 0, 42, 27]
abbrev dktX7_readsSingle_3 : List UInt8 := dkwX7_readsSingle_3 ++ dktX7_readsSingle_4
def dkwX7_readsSingle_2 : List UInt8 := [42, 180, 0, 39, 27, 42, 182, 1, 13, 79, 42, 180, 0, 42, 27, 42, 4, 16, 99, 182, 0, 216, 79]
abbrev dktX7_readsSingle_2 : List UInt8 := dkwX7_readsSingle_2 ++ dktX7_readsSingle_3
def dkwX7_readsSingle_1 : List UInt8 := [170, 0, 0, 0, 0, 182, 0, 0, 0, 0, 0, 0, 0, 8, 0, 0, 0, 50, 0, 0, 0, 76, 0, 0, 0, 92, 0, 0, 0, 182, 0, 0, 0, 182, 0, 0, 0, 107, 0, 0, 0, 122, 0, 0, 0, 138, 0, 0, 0, 138]
abbrev dktX7_readsSingle_1 : List UInt8 := dkwX7_readsSingle_1 ++ dktX7_readsSingle_2
def dkwX7_readsSingle_0 : List UInt8 := [42, 180, 0, 36, 27, 46]
abbrev dktX7_readsSingle_0 : List UInt8 := dkwX7_readsSingle_0 ++ dktX7_readsSingle_1
theorem dksX7_readsSingle_0 : cX7_readsSingle.data.toList.drop 0 = dktX7_readsSingle_0 := by decide +kernel
theorem dksX7_readsSingle_1 : cX7_readsSingle.data.toList.drop 6 = dktX7_readsSingle_1 := dk_seg dksX7_readsSingle_0 6 rfl rfl
theorem dksX7_readsSingle_2 : cX7_readsSingle.data.toList.drop 56 = dktX7_readsSingle_2 := dk_seg dksX7_readsSingle_1 50 rfl rfl
theorem dksX7_readsSingle_3 : cX7_readsSingle.data.toList.drop 79 = dktX7_readsSingle_3 := dk_seg dksX7_readsSingle_2 23 rfl rfl
theorem dksX7_readsSingle_4 : cX7_readsSingle.data.toList.drop 103 = dktX7_readsSingle_4 := dk_seg dksX7_readsSingle_3 24 rfl rfl
theorem dksX7_readsSingle_5 : cX7_readsSingle.data.toList.drop 125 = dktX7_readsSingle_5 := dk_seg dksX7_readsSingle_4 22 rfl rfl
theorem dksX7_readsSingle_6 : cX7_readsSingle.data.toList.drop 149 = dktX7_readsSingle_6 := dk_seg dksX7_readsSingle_5 24 rfl rfl
theorem dksX7_readsSingle_7 : cX7_readsSingle.data.toList.drop 171 = dktX7_readsSingle_7 := dk_seg dksX7_readsSingle_6 22 rfl rfl
theorem dksX7_readsSingle_8 : cX7_readsSingle.data.toList.drop 194 = dktX7_readsSingle_8 := dk_seg dksX7_readsSingle_7 23 rfl rfl
theorem dX7_readsSingle_0 : decode cX7_readsSingle 0 = .ok (.aload_n 0, 1) := dk_42 (dk_at dksX7_readsSingle_0 0 rfl rfl)
theorem dX7_readsSingle_1 : decode cX7_readsSingle 1 = .ok (.getfield 36, 3) := dk_180 0 36 (dk_at dksX7_readsSingle_0 1 rfl rfl)
theorem dX7_readsSingle_4 : decode cX7_readsSingle 4 = .ok (.iload_n 1, 1) := dk_27 (dk_at dksX7_readsSingle_0 4 rfl rfl)
theorem dX7_readsSingle_5 : decode cX7_readsSingle 5 = .ok (.iaload, 1) := dk_46 (dk_at dksX7_readsSingle_0 5 rfl rfl)
theorem dX7_readsSingle_6 : decode cX7_readsSingle 6 = .ok (.tableswitch 182 0 8 #[50, 76, 92, 182, 182, 107, 122, 138, 138], 50) := by decide +kernel
theorem dX7_readsSingle_56 : decode cX7_readsSingle 56 = .ok (.aload_n 0, 1) := dk_42 (dk_at dksX7_readsSingle_2 0 rfl rfl)
theorem dX7_readsSingle_57 : decode cX7_readsSingle 57 = .ok (.getfield 39, 3) := dk_180 0 39 (dk_at dksX7_readsSingle_2 1 rfl rfl)
theorem dX7_readsSingle_60 : decode cX7_readsSingle 60 = .ok (.iload_n 1, 1) := dk_27 (dk_at dksX7_readsSingle_2 4 rfl rfl)
theorem dX7_readsSingle_61 : decode cX7_readsSingle 61 = .ok (.aload_n 0, 1) := dk_42 (dk_at dksX7_readsSingle_2 5 rfl rfl)
theorem dX7_readsSingle_62 : decode cX7_readsSingle 62 = .ok (.invokevirtual 269, 3) := dk_182 1 13 (dk_at dksX7_readsSingle_2 6 rfl rfl)
theorem dX7_readsSingle_65 : decode cX7_readsSingle 65 = .ok (.iastore, 1) := dk_79 (dk_at dksX7_readsSingle_2 9 rfl rfl)
theorem dX7_readsSingle_66 : decode cX7_readsSingle 66 = .ok (.aload_n 0, 1) := dk_42 (dk_at dksX7_readsSingle_2 10 rfl rfl)
theorem dX7_readsSingle_67 : decode cX7_readsSingle 67 = .ok (.getfield 42, 3) := dk_180 0 42 (dk_at dksX7_readsSingle_2 11 rfl rfl)
theorem dX7_readsSingle_70 : decode cX7_readsSingle 70 = .ok (.iload_n 1, 1) := dk_27 (dk_at dksX7_readsSingle_2 14 rfl rfl)
theorem dX7_readsSingle_71 : decode cX7_readsSingle 71 = .ok (.aload_n 0, 1) := dk_42 (dk_at dksX7_readsSingle_2 15 rfl rfl)
theorem dX7_readsSingle_72 : decode cX7_readsSingle 72 = .ok (.iconst 1, 1) := dk_4 (dk_at dksX7_readsSingle_2 16 rfl rfl)
theorem dX7_readsSingle_73 : decode cX7_readsSingle 73 = .ok (.bipush 99, 2) := dk_16 99 (dk_at dksX7_readsSingle_2 17 rfl rfl)
theorem dX7_readsSingle_75 : decode cX7_readsSingle 75 = .ok (.invokevirtual 216, 3) := dk_182 0 216 (dk_at dksX7_readsSingle_2 19 rfl rfl)
theorem dX7_readsSingle_78 : decode cX7_readsSingle 78 = .ok (.iastore, 1) := dk_79 (dk_at dksX7_readsSingle_2 22 rfl rfl)
theorem dX7_readsSingle_79 : decode cX7_readsSingle 79 = .ok (.goto 119, 3) := dk_167 0 119 (dk_at dksX7_readsSingle_3 0 rfl rfl)
theorem dX7_readsSingle_82 : decode cX7_readsSingle 82 = .ok (.aload_n 0, 1) := dk_42 (dk_at dksX7_readsSingle_3 3 rfl rfl)
theorem dX7_readsSingle_83 : decode cX7_readsSingle 83 = .ok (.getfield 42, 3) := dk_180 0 42 (dk_at dksX7_readsSingle_3 4 rfl rfl)
theorem dX7_readsSingle_86 : decode cX7_readsSingle 86 = .ok (.iload_n 1, 1) := dk_27 (dk_at dksX7_readsSingle_3 7 rfl rfl)
theorem dX7_readsSingle_87 : decode cX7_readsSingle 87 = .ok (.aload_n 0, 1) := dk_42 (dk_at dksX7_readsSingle_3 8 rfl rfl)
theorem dX7_readsSingle_88 : decode cX7_readsSingle 88 = .ok (.iconst 1, 1) := dk_4 (dk_at dksX7_readsSingle_3 9 rfl rfl)
theorem dX7_readsSingle_89 : decode cX7_readsSingle 89 = .ok (.bipush 60, 2) := dk_16 60 (dk_at dksX7_readsSingle_3 10 rfl rfl)
theorem dX7_readsSingle_91 : decode cX7_readsSingle 91 = .ok (.invokevirtual 216, 3) := dk_182 0 216 (dk_at dksX7_readsSingle_3 12 rfl rfl)
theorem dX7_readsSingle_94 : decode cX7_readsSingle 94 = .ok (.iastore, 1) := dk_79 (dk_at dksX7_readsSingle_3 15 rfl rfl)
theorem dX7_readsSingle_95 : decode cX7_readsSingle 95 = .ok (.goto 103, 3) := dk_167 0 103 (dk_at dksX7_readsSingle_3 16 rfl rfl)
theorem dX7_readsSingle_98 : decode cX7_readsSingle 98 = .ok (.aload_n 0, 1) := dk_42 (dk_at dksX7_readsSingle_3 19 rfl rfl)
theorem dX7_readsSingle_99 : decode cX7_readsSingle 99 = .ok (.getfield 42, 3) := dk_180 0 42 (dk_at dksX7_readsSingle_3 20 rfl rfl)
theorem dX7_readsSingle_102 : decode cX7_readsSingle 102 = .ok (.iload_n 1, 1) := dk_27 (dk_at dksX7_readsSingle_3 23 rfl rfl)
theorem dX7_readsSingle_103 : decode cX7_readsSingle 103 = .ok (.aload_n 0, 1) := dk_42 (dk_at dksX7_readsSingle_4 0 rfl rfl)
theorem dX7_readsSingle_104 : decode cX7_readsSingle 104 = .ok (.iconst 0, 1) := dk_3 (dk_at dksX7_readsSingle_4 1 rfl rfl)
theorem dX7_readsSingle_105 : decode cX7_readsSingle 105 = .ok (.iconst 5, 1) := dk_8 (dk_at dksX7_readsSingle_4 2 rfl rfl)
theorem dX7_readsSingle_106 : decode cX7_readsSingle 106 = .ok (.invokevirtual 216, 3) := dk_182 0 216 (dk_at dksX7_readsSingle_4 3 rfl rfl)
theorem dX7_readsSingle_109 : decode cX7_readsSingle 109 = .ok (.iastore, 1) := dk_79 (dk_at dksX7_readsSingle_4 6 rfl rfl)
theorem dX7_readsSingle_110 : decode cX7_readsSingle 110 = .ok (.goto 88, 3) := dk_167 0 88 (dk_at dksX7_readsSingle_4 7 rfl rfl)
theorem dX7_readsSingle_113 : decode cX7_readsSingle 113 = .ok (.aload_n 0, 1) := dk_42 (dk_at dksX7_readsSingle_4 10 rfl rfl)
theorem dX7_readsSingle_114 : decode cX7_readsSingle 114 = .ok (.getfield 42, 3) := dk_180 0 42 (dk_at dksX7_readsSingle_4 11 rfl rfl)
theorem dX7_readsSingle_117 : decode cX7_readsSingle 117 = .ok (.iload_n 1, 1) := dk_27 (dk_at dksX7_readsSingle_4 14 rfl rfl)
theorem dX7_readsSingle_118 : decode cX7_readsSingle 118 = .ok (.aload_n 0, 1) := dk_42 (dk_at dksX7_readsSingle_4 15 rfl rfl)
theorem dX7_readsSingle_119 : decode cX7_readsSingle 119 = .ok (.iconst 0, 1) := dk_3 (dk_at dksX7_readsSingle_4 16 rfl rfl)
theorem dX7_readsSingle_120 : decode cX7_readsSingle 120 = .ok (.iconst 2, 1) := dk_5 (dk_at dksX7_readsSingle_4 17 rfl rfl)
theorem dX7_readsSingle_121 : decode cX7_readsSingle 121 = .ok (.invokevirtual 216, 3) := dk_182 0 216 (dk_at dksX7_readsSingle_4 18 rfl rfl)
theorem dX7_readsSingle_124 : decode cX7_readsSingle 124 = .ok (.iastore, 1) := dk_79 (dk_at dksX7_readsSingle_4 21 rfl rfl)
theorem dX7_readsSingle_125 : decode cX7_readsSingle 125 = .ok (.goto 73, 3) := dk_167 0 73 (dk_at dksX7_readsSingle_5 0 rfl rfl)
theorem dX7_readsSingle_128 : decode cX7_readsSingle 128 = .ok (.aload_n 0, 1) := dk_42 (dk_at dksX7_readsSingle_5 3 rfl rfl)
theorem dX7_readsSingle_129 : decode cX7_readsSingle 129 = .ok (.getfield 42, 3) := dk_180 0 42 (dk_at dksX7_readsSingle_5 4 rfl rfl)
theorem dX7_readsSingle_132 : decode cX7_readsSingle 132 = .ok (.iload_n 1, 1) := dk_27 (dk_at dksX7_readsSingle_5 7 rfl rfl)
theorem dX7_readsSingle_133 : decode cX7_readsSingle 133 = .ok (.aload_n 0, 1) := dk_42 (dk_at dksX7_readsSingle_5 8 rfl rfl)
theorem dX7_readsSingle_134 : decode cX7_readsSingle 134 = .ok (.iconst 0, 1) := dk_3 (dk_at dksX7_readsSingle_5 9 rfl rfl)
theorem dX7_readsSingle_135 : decode cX7_readsSingle 135 = .ok (.bipush 20, 2) := dk_16 20 (dk_at dksX7_readsSingle_5 10 rfl rfl)
theorem dX7_readsSingle_137 : decode cX7_readsSingle 137 = .ok (.invokevirtual 216, 3) := dk_182 0 216 (dk_at dksX7_readsSingle_5 12 rfl rfl)
theorem dX7_readsSingle_140 : decode cX7_readsSingle 140 = .ok (.iastore, 1) := dk_79 (dk_at dksX7_readsSingle_5 15 rfl rfl)
theorem dX7_readsSingle_141 : decode cX7_readsSingle 141 = .ok (.goto 57, 3) := dk_167 0 57 (dk_at dksX7_readsSingle_5 16 rfl rfl)
theorem dX7_readsSingle_144 : decode cX7_readsSingle 144 = .ok (.aload_n 0, 1) := dk_42 (dk_at dksX7_readsSingle_5 19 rfl rfl)
theorem dX7_readsSingle_145 : decode cX7_readsSingle 145 = .ok (.getfield 42, 3) := dk_180 0 42 (dk_at dksX7_readsSingle_5 20 rfl rfl)
theorem dX7_readsSingle_148 : decode cX7_readsSingle 148 = .ok (.iload_n 1, 1) := dk_27 (dk_at dksX7_readsSingle_5 23 rfl rfl)
theorem dX7_readsSingle_149 : decode cX7_readsSingle 149 = .ok (.aload_n 0, 1) := dk_42 (dk_at dksX7_readsSingle_6 0 rfl rfl)
theorem dX7_readsSingle_150 : decode cX7_readsSingle 150 = .ok (.iconst 0, 1) := dk_3 (dk_at dksX7_readsSingle_6 1 rfl rfl)
theorem dX7_readsSingle_151 : decode cX7_readsSingle 151 = .ok (.iconst 5, 1) := dk_8 (dk_at dksX7_readsSingle_6 2 rfl rfl)
theorem dX7_readsSingle_152 : decode cX7_readsSingle 152 = .ok (.invokevirtual 216, 3) := dk_182 0 216 (dk_at dksX7_readsSingle_6 3 rfl rfl)
theorem dX7_readsSingle_155 : decode cX7_readsSingle 155 = .ok (.iastore, 1) := dk_79 (dk_at dksX7_readsSingle_6 6 rfl rfl)
theorem dX7_readsSingle_156 : decode cX7_readsSingle 156 = .ok (.aload_n 0, 1) := dk_42 (dk_at dksX7_readsSingle_6 7 rfl rfl)
theorem dX7_readsSingle_157 : decode cX7_readsSingle 157 = .ok (.getfield 45, 3) := dk_180 0 45 (dk_at dksX7_readsSingle_6 8 rfl rfl)
theorem dX7_readsSingle_160 : decode cX7_readsSingle 160 = .ok (.iload_n 1, 1) := dk_27 (dk_at dksX7_readsSingle_6 11 rfl rfl)
theorem dX7_readsSingle_161 : decode cX7_readsSingle 161 = .ok (.aload_n 0, 1) := dk_42 (dk_at dksX7_readsSingle_6 12 rfl rfl)
theorem dX7_readsSingle_162 : decode cX7_readsSingle 162 = .ok (.iconst 1, 1) := dk_4 (dk_at dksX7_readsSingle_6 13 rfl rfl)
theorem dX7_readsSingle_163 : decode cX7_readsSingle 163 = .ok (.aload_n 0, 1) := dk_42 (dk_at dksX7_readsSingle_6 14 rfl rfl)
theorem dX7_readsSingle_164 : decode cX7_readsSingle 164 = .ok (.getfield 36, 3) := dk_180 0 36 (dk_at dksX7_readsSingle_6 15 rfl rfl)
theorem dX7_readsSingle_167 : decode cX7_readsSingle 167 = .ok (.iload_n 1, 1) := dk_27 (dk_at dksX7_readsSingle_6 18 rfl rfl)
theorem dX7_readsSingle_168 : decode cX7_readsSingle 168 = .ok (.iaload, 1) := dk_46 (dk_at dksX7_readsSingle_6 19 rfl rfl)
theorem dX7_readsSingle_169 : decode cX7_readsSingle 169 = .ok (.bipush 7, 2) := dk_16 7 (dk_at dksX7_readsSingle_6 20 rfl rfl)
theorem dX7_readsSingle_171 : decode cX7_readsSingle 171 = .ok (.if_icmp .ne 8, 3) := dk_160 0 8 (dk_at dksX7_readsSingle_7 0 rfl rfl)
theorem dX7_readsSingle_174 : decode cX7_readsSingle 174 = .ok (.bipush 60, 2) := dk_16 60 (dk_at dksX7_readsSingle_7 3 rfl rfl)
theorem dX7_readsSingle_176 : decode cX7_readsSingle 176 = .ok (.goto 5, 3) := dk_167 0 5 (dk_at dksX7_readsSingle_7 5 rfl rfl)
theorem dX7_readsSingle_179 : decode cX7_readsSingle 179 = .ok (.bipush 99, 2) := dk_16 99 (dk_at dksX7_readsSingle_7 8 rfl rfl)
theorem dX7_readsSingle_181 : decode cX7_readsSingle 181 = .ok (.invokevirtual 216, 3) := dk_182 0 216 (dk_at dksX7_readsSingle_7 10 rfl rfl)
theorem dX7_readsSingle_184 : decode cX7_readsSingle 184 = .ok (.iastore, 1) := dk_79 (dk_at dksX7_readsSingle_7 13 rfl rfl)
theorem dX7_readsSingle_185 : decode cX7_readsSingle 185 = .ok (.goto 13, 3) := dk_167 0 13 (dk_at dksX7_readsSingle_7 14 rfl rfl)
theorem dX7_readsSingle_188 : decode cX7_readsSingle 188 = .ok (.aload_n 0, 1) := dk_42 (dk_at dksX7_readsSingle_7 17 rfl rfl)
theorem dX7_readsSingle_189 : decode cX7_readsSingle 189 = .ok (.getfield 39, 3) := dk_180 0 39 (dk_at dksX7_readsSingle_7 18 rfl rfl)
theorem dX7_readsSingle_192 : decode cX7_readsSingle 192 = .ok (.iload_n 1, 1) := dk_27 (dk_at dksX7_readsSingle_7 21 rfl rfl)
theorem dX7_readsSingle_193 : decode cX7_readsSingle 193 = .ok (.aload_n 0, 1) := dk_42 (dk_at dksX7_readsSingle_7 22 rfl rfl)
theorem dX7_readsSingle_194 : decode cX7_readsSingle 194 = .ok (.invokevirtual 269, 3) := dk_182 1 13 (dk_at dksX7_readsSingle_8 0 rfl rfl)
theorem dX7_readsSingle_197 : decode cX7_readsSingle 197 = .ok (.iastore, 1) := dk_79 (dk_at dksX7_readsSingle_8 3 rfl rfl)
theorem dX7_readsSingle_198 : decode cX7_readsSingle 198 = .ok (.return_, 1) := dk_177 (dk_at dksX7_readsSingle_8 4 rfl rfl)
abbrev cX7_takesName : ByteArray := prog_19_method_49_code
def yX7_takesName : MethodName := ⟨RX7, "takesName", "()I"⟩
def dkwX7_takesName_0 : List UInt8 := [42, 182, 0, 193, 60, 42, 182, 0, 187, 27, 172]
abbrev dktX7_takesName_0 : List UInt8 := dkwX7_takesName_0 ++ []
theorem dksX7_takesName_0 : cX7_takesName.data.toList.drop 0 = dktX7_takesName_0 := by decide +kernel
theorem dX7_takesName_0 : decode cX7_takesName 0 = .ok (.aload_n 0, 1) := dk_42 (dk_at dksX7_takesName_0 0 rfl rfl)
theorem dX7_takesName_1 : decode cX7_takesName 1 = .ok (.invokevirtual 193, 3) := dk_182 0 193 (dk_at dksX7_takesName_0 1 rfl rfl)
theorem dX7_takesName_4 : decode cX7_takesName 4 = .ok (.istore_n 1, 1) := dk_60 (dk_at dksX7_takesName_0 4 rfl rfl)
theorem dX7_takesName_5 : decode cX7_takesName 5 = .ok (.aload_n 0, 1) := dk_42 (dk_at dksX7_takesName_0 5 rfl rfl)
theorem dX7_takesName_6 : decode cX7_takesName 6 = .ok (.invokevirtual 187, 3) := dk_182 0 187 (dk_at dksX7_takesName_0 6 rfl rfl)
theorem dX7_takesName_9 : decode cX7_takesName 9 = .ok (.iload_n 1, 1) := dk_27 (dk_at dksX7_takesName_0 9 rfl rfl)
theorem dX7_takesName_10 : decode cX7_takesName 10 = .ok (.ireturn, 1) := dk_172 (dk_at dksX7_takesName_0 10 rfl rfl)
abbrev cX7_keeps : ByteArray := prog_19_method_92_code
def yX7_keeps : MethodName := ⟨RX7, "keeps", "()V"⟩
def dkwX7_keeps_4 : List UInt8 := [181, 0, 238, 177]
abbrev dktX7_keeps_4 : List UInt8 := dkwX7_keeps_4 ++ []
def dkwX7_keeps_3 : List UInt8 := [27, 96, 42, 180, 0, 7, 27, 46, 79, 132, 1, 1, 167, 255, 225, 42, 89, 180, 0, 238, 4, 96]
abbrev dktX7_keeps_3 : List UInt8 := dkwX7_keeps_3 ++ dktX7_keeps_4
def dkwX7_keeps_2 : List UInt8 := [181, 0, 238, 3, 60, 27, 17, 3, 225, 162, 0, 30, 42, 180, 0, 19, 17, 3, 225, 42, 180, 0, 238, 104]
abbrev dktX7_keeps_2 : List UInt8 := dkwX7_keeps_2 ++ dktX7_keeps_3
def dkwX7_keeps_1 : List UInt8 := [180, 0, 19, 27, 17, 3, 225, 96, 46, 79, 132, 1, 1, 167, 255, 230, 42, 89, 180, 0, 238, 4, 100]
abbrev dktX7_keeps_1 : List UInt8 := dkwX7_keeps_1 ++ dktX7_keeps_2
def dkwX7_keeps_0 : List UInt8 := [42, 180, 0, 238, 16, 8, 160, 0, 44, 3, 60, 27, 17, 27, 39, 162, 0, 25, 42, 180, 0, 19, 27, 42]
abbrev dktX7_keeps_0 : List UInt8 := dkwX7_keeps_0 ++ dktX7_keeps_1
theorem dksX7_keeps_0 : cX7_keeps.data.toList.drop 0 = dktX7_keeps_0 := by decide +kernel
theorem dksX7_keeps_1 : cX7_keeps.data.toList.drop 24 = dktX7_keeps_1 := dk_seg dksX7_keeps_0 24 rfl rfl
theorem dksX7_keeps_2 : cX7_keeps.data.toList.drop 47 = dktX7_keeps_2 := dk_seg dksX7_keeps_1 23 rfl rfl
theorem dksX7_keeps_3 : cX7_keeps.data.toList.drop 71 = dktX7_keeps_3 := dk_seg dksX7_keeps_2 24 rfl rfl
theorem dksX7_keeps_4 : cX7_keeps.data.toList.drop 93 = dktX7_keeps_4 := dk_seg dksX7_keeps_3 22 rfl rfl
theorem dX7_keeps_0 : decode cX7_keeps 0 = .ok (.aload_n 0, 1) := dk_42 (dk_at dksX7_keeps_0 0 rfl rfl)
theorem dX7_keeps_1 : decode cX7_keeps 1 = .ok (.getfield 238, 3) := dk_180 0 238 (dk_at dksX7_keeps_0 1 rfl rfl)
theorem dX7_keeps_4 : decode cX7_keeps 4 = .ok (.bipush 8, 2) := dk_16 8 (dk_at dksX7_keeps_0 4 rfl rfl)
theorem dX7_keeps_6 : decode cX7_keeps 6 = .ok (.if_icmp .ne 44, 3) := dk_160 0 44 (dk_at dksX7_keeps_0 6 rfl rfl)
theorem dX7_keeps_9 : decode cX7_keeps 9 = .ok (.iconst 0, 1) := dk_3 (dk_at dksX7_keeps_0 9 rfl rfl)
theorem dX7_keeps_10 : decode cX7_keeps 10 = .ok (.istore_n 1, 1) := dk_60 (dk_at dksX7_keeps_0 10 rfl rfl)
theorem dX7_keeps_11 : decode cX7_keeps 11 = .ok (.iload_n 1, 1) := dk_27 (dk_at dksX7_keeps_0 11 rfl rfl)
theorem dX7_keeps_12 : decode cX7_keeps 12 = .ok (.sipush 6951, 3) := dk_17 27 39 (dk_at dksX7_keeps_0 12 rfl rfl)
theorem dX7_keeps_15 : decode cX7_keeps 15 = .ok (.if_icmp .ge 25, 3) := dk_162 0 25 (dk_at dksX7_keeps_0 15 rfl rfl)
theorem dX7_keeps_18 : decode cX7_keeps 18 = .ok (.aload_n 0, 1) := dk_42 (dk_at dksX7_keeps_0 18 rfl rfl)
theorem dX7_keeps_19 : decode cX7_keeps 19 = .ok (.getfield 19, 3) := dk_180 0 19 (dk_at dksX7_keeps_0 19 rfl rfl)
theorem dX7_keeps_22 : decode cX7_keeps 22 = .ok (.iload_n 1, 1) := dk_27 (dk_at dksX7_keeps_0 22 rfl rfl)
theorem dX7_keeps_23 : decode cX7_keeps 23 = .ok (.aload_n 0, 1) := dk_42 (dk_at dksX7_keeps_0 23 rfl rfl)
theorem dX7_keeps_24 : decode cX7_keeps 24 = .ok (.getfield 19, 3) := dk_180 0 19 (dk_at dksX7_keeps_1 0 rfl rfl)
theorem dX7_keeps_27 : decode cX7_keeps 27 = .ok (.iload_n 1, 1) := dk_27 (dk_at dksX7_keeps_1 3 rfl rfl)
theorem dX7_keeps_28 : decode cX7_keeps 28 = .ok (.sipush 993, 3) := dk_17 3 225 (dk_at dksX7_keeps_1 4 rfl rfl)
theorem dX7_keeps_31 : decode cX7_keeps 31 = .ok (.iadd, 1) := dk_96 (dk_at dksX7_keeps_1 7 rfl rfl)
theorem dX7_keeps_32 : decode cX7_keeps 32 = .ok (.iaload, 1) := dk_46 (dk_at dksX7_keeps_1 8 rfl rfl)
theorem dX7_keeps_33 : decode cX7_keeps 33 = .ok (.iastore, 1) := dk_79 (dk_at dksX7_keeps_1 9 rfl rfl)
theorem dX7_keeps_34 : decode cX7_keeps 34 = .ok (.iinc 1 1, 3) := dk_132 1 1 (dk_at dksX7_keeps_1 10 rfl rfl)
theorem dX7_keeps_37 : decode cX7_keeps 37 = .ok (.goto (-26), 3) := dk_167 255 230 (dk_at dksX7_keeps_1 13 rfl rfl)
theorem dX7_keeps_40 : decode cX7_keeps 40 = .ok (.aload_n 0, 1) := dk_42 (dk_at dksX7_keeps_1 16 rfl rfl)
theorem dX7_keeps_41 : decode cX7_keeps 41 = .ok (.dup, 1) := dk_89 (dk_at dksX7_keeps_1 17 rfl rfl)
theorem dX7_keeps_42 : decode cX7_keeps 42 = .ok (.getfield 238, 3) := dk_180 0 238 (dk_at dksX7_keeps_1 18 rfl rfl)
theorem dX7_keeps_45 : decode cX7_keeps 45 = .ok (.iconst 1, 1) := dk_4 (dk_at dksX7_keeps_1 21 rfl rfl)
theorem dX7_keeps_46 : decode cX7_keeps 46 = .ok (.isub, 1) := dk_100 (dk_at dksX7_keeps_1 22 rfl rfl)
theorem dX7_keeps_47 : decode cX7_keeps 47 = .ok (.putfield 238, 3) := dk_181 0 238 (dk_at dksX7_keeps_2 0 rfl rfl)
theorem dX7_keeps_50 : decode cX7_keeps 50 = .ok (.iconst 0, 1) := dk_3 (dk_at dksX7_keeps_2 3 rfl rfl)
theorem dX7_keeps_51 : decode cX7_keeps 51 = .ok (.istore_n 1, 1) := dk_60 (dk_at dksX7_keeps_2 4 rfl rfl)
theorem dX7_keeps_52 : decode cX7_keeps 52 = .ok (.iload_n 1, 1) := dk_27 (dk_at dksX7_keeps_2 5 rfl rfl)
theorem dX7_keeps_53 : decode cX7_keeps 53 = .ok (.sipush 993, 3) := dk_17 3 225 (dk_at dksX7_keeps_2 6 rfl rfl)
theorem dX7_keeps_56 : decode cX7_keeps 56 = .ok (.if_icmp .ge 30, 3) := dk_162 0 30 (dk_at dksX7_keeps_2 9 rfl rfl)
theorem dX7_keeps_59 : decode cX7_keeps 59 = .ok (.aload_n 0, 1) := dk_42 (dk_at dksX7_keeps_2 12 rfl rfl)
theorem dX7_keeps_60 : decode cX7_keeps 60 = .ok (.getfield 19, 3) := dk_180 0 19 (dk_at dksX7_keeps_2 13 rfl rfl)
theorem dX7_keeps_63 : decode cX7_keeps 63 = .ok (.sipush 993, 3) := dk_17 3 225 (dk_at dksX7_keeps_2 16 rfl rfl)
theorem dX7_keeps_66 : decode cX7_keeps 66 = .ok (.aload_n 0, 1) := dk_42 (dk_at dksX7_keeps_2 19 rfl rfl)
theorem dX7_keeps_67 : decode cX7_keeps 67 = .ok (.getfield 238, 3) := dk_180 0 238 (dk_at dksX7_keeps_2 20 rfl rfl)
theorem dX7_keeps_70 : decode cX7_keeps 70 = .ok (.imul, 1) := dk_104 (dk_at dksX7_keeps_2 23 rfl rfl)
theorem dX7_keeps_71 : decode cX7_keeps 71 = .ok (.iload_n 1, 1) := dk_27 (dk_at dksX7_keeps_3 0 rfl rfl)
theorem dX7_keeps_72 : decode cX7_keeps 72 = .ok (.iadd, 1) := dk_96 (dk_at dksX7_keeps_3 1 rfl rfl)
theorem dX7_keeps_73 : decode cX7_keeps 73 = .ok (.aload_n 0, 1) := dk_42 (dk_at dksX7_keeps_3 2 rfl rfl)
theorem dX7_keeps_74 : decode cX7_keeps 74 = .ok (.getfield 7, 3) := dk_180 0 7 (dk_at dksX7_keeps_3 3 rfl rfl)
theorem dX7_keeps_77 : decode cX7_keeps 77 = .ok (.iload_n 1, 1) := dk_27 (dk_at dksX7_keeps_3 6 rfl rfl)
theorem dX7_keeps_78 : decode cX7_keeps 78 = .ok (.iaload, 1) := dk_46 (dk_at dksX7_keeps_3 7 rfl rfl)
theorem dX7_keeps_79 : decode cX7_keeps 79 = .ok (.iastore, 1) := dk_79 (dk_at dksX7_keeps_3 8 rfl rfl)
theorem dX7_keeps_80 : decode cX7_keeps 80 = .ok (.iinc 1 1, 3) := dk_132 1 1 (dk_at dksX7_keeps_3 9 rfl rfl)
theorem dX7_keeps_83 : decode cX7_keeps 83 = .ok (.goto (-31), 3) := dk_167 255 225 (dk_at dksX7_keeps_3 12 rfl rfl)
theorem dX7_keeps_86 : decode cX7_keeps 86 = .ok (.aload_n 0, 1) := dk_42 (dk_at dksX7_keeps_3 15 rfl rfl)
theorem dX7_keeps_87 : decode cX7_keeps 87 = .ok (.dup, 1) := dk_89 (dk_at dksX7_keeps_3 16 rfl rfl)
theorem dX7_keeps_88 : decode cX7_keeps 88 = .ok (.getfield 238, 3) := dk_180 0 238 (dk_at dksX7_keeps_3 17 rfl rfl)
theorem dX7_keeps_91 : decode cX7_keeps 91 = .ok (.iconst 1, 1) := dk_4 (dk_at dksX7_keeps_3 20 rfl rfl)
theorem dX7_keeps_92 : decode cX7_keeps 92 = .ok (.iadd, 1) := dk_96 (dk_at dksX7_keeps_3 21 rfl rfl)
theorem dX7_keeps_93 : decode cX7_keeps 93 = .ok (.putfield 238, 3) := dk_181 0 238 (dk_at dksX7_keeps_4 0 rfl rfl)
theorem dX7_keeps_96 : decode cX7_keeps 96 = .ok (.return_, 1) := dk_177 (dk_at dksX7_keeps_4 3 rfl rfl)
abbrev cX7_doesAll : ByteArray := prog_19_method_63_code
def yX7_doesAll : MethodName := ⟨RX7, "doesAll", "(II)Z"⟩
def dkwX7_doesAll_4 : List UInt8 := [132, 3, 1, 167, 255, 160, 4, 172]
abbrev dktX7_doesAll_4 : List UInt8 := dkwX7_doesAll_4 ++ []
def dkwX7_doesAll_3 : List UInt8 := [159, 0, 11, 42, 29, 182, 1, 56, 154, 0, 5, 3, 172, 42, 89, 180, 1, 53, 4, 96, 181, 1, 53]
abbrev dktX7_doesAll_3 : List UInt8 := dkwX7_doesAll_3 ++ dktX7_doesAll_4
def dkwX7_doesAll_2 : List UInt8 := [3, 172, 132, 4, 1, 167, 255, 224, 42, 180, 0, 45, 29, 46, 62, 167, 255, 195, 42, 180, 1, 53, 16, 40]
abbrev dktX7_doesAll_2 : List UInt8 := dkwX7_doesAll_2 ++ dktX7_doesAll_3
def dkwX7_doesAll_1 : List UInt8 := [180, 0, 42, 29, 46, 162, 0, 27, 42, 29, 4, 96, 42, 180, 0, 45, 29, 46, 182, 1, 50, 154, 0, 5]
abbrev dktX7_doesAll_1 : List UInt8 := dkwX7_doesAll_1 ++ dktX7_doesAll_2
def dkwX7_doesAll_0 : List UInt8 := [27, 62, 29, 28, 162, 0, 97, 42, 180, 0, 36, 29, 46, 16, 9, 160, 0, 51, 3, 54, 4, 21, 4, 42]
abbrev dktX7_doesAll_0 : List UInt8 := dkwX7_doesAll_0 ++ dktX7_doesAll_1
theorem dksX7_doesAll_0 : cX7_doesAll.data.toList.drop 0 = dktX7_doesAll_0 := by decide +kernel
theorem dksX7_doesAll_1 : cX7_doesAll.data.toList.drop 24 = dktX7_doesAll_1 := dk_seg dksX7_doesAll_0 24 rfl rfl
theorem dksX7_doesAll_2 : cX7_doesAll.data.toList.drop 48 = dktX7_doesAll_2 := dk_seg dksX7_doesAll_1 24 rfl rfl
theorem dksX7_doesAll_3 : cX7_doesAll.data.toList.drop 72 = dktX7_doesAll_3 := dk_seg dksX7_doesAll_2 24 rfl rfl
theorem dksX7_doesAll_4 : cX7_doesAll.data.toList.drop 95 = dktX7_doesAll_4 := dk_seg dksX7_doesAll_3 23 rfl rfl
theorem dX7_doesAll_0 : decode cX7_doesAll 0 = .ok (.iload_n 1, 1) := dk_27 (dk_at dksX7_doesAll_0 0 rfl rfl)
theorem dX7_doesAll_1 : decode cX7_doesAll 1 = .ok (.istore_n 3, 1) := dk_62 (dk_at dksX7_doesAll_0 1 rfl rfl)
theorem dX7_doesAll_2 : decode cX7_doesAll 2 = .ok (.iload_n 3, 1) := dk_29 (dk_at dksX7_doesAll_0 2 rfl rfl)
theorem dX7_doesAll_3 : decode cX7_doesAll 3 = .ok (.iload_n 2, 1) := dk_28 (dk_at dksX7_doesAll_0 3 rfl rfl)
theorem dX7_doesAll_4 : decode cX7_doesAll 4 = .ok (.if_icmp .ge 97, 3) := dk_162 0 97 (dk_at dksX7_doesAll_0 4 rfl rfl)
theorem dX7_doesAll_7 : decode cX7_doesAll 7 = .ok (.aload_n 0, 1) := dk_42 (dk_at dksX7_doesAll_0 7 rfl rfl)
theorem dX7_doesAll_8 : decode cX7_doesAll 8 = .ok (.getfield 36, 3) := dk_180 0 36 (dk_at dksX7_doesAll_0 8 rfl rfl)
theorem dX7_doesAll_11 : decode cX7_doesAll 11 = .ok (.iload_n 3, 1) := dk_29 (dk_at dksX7_doesAll_0 11 rfl rfl)
theorem dX7_doesAll_12 : decode cX7_doesAll 12 = .ok (.iaload, 1) := dk_46 (dk_at dksX7_doesAll_0 12 rfl rfl)
theorem dX7_doesAll_13 : decode cX7_doesAll 13 = .ok (.bipush 9, 2) := dk_16 9 (dk_at dksX7_doesAll_0 13 rfl rfl)
theorem dX7_doesAll_15 : decode cX7_doesAll 15 = .ok (.if_icmp .ne 51, 3) := dk_160 0 51 (dk_at dksX7_doesAll_0 15 rfl rfl)
theorem dX7_doesAll_18 : decode cX7_doesAll 18 = .ok (.iconst 0, 1) := dk_3 (dk_at dksX7_doesAll_0 18 rfl rfl)
theorem dX7_doesAll_19 : decode cX7_doesAll 19 = .ok (.istore 4, 2) := dk_54 4 (dk_at dksX7_doesAll_0 19 rfl rfl)
theorem dX7_doesAll_21 : decode cX7_doesAll 21 = .ok (.iload 4, 2) := dk_21 4 (dk_at dksX7_doesAll_0 21 rfl rfl)
theorem dX7_doesAll_23 : decode cX7_doesAll 23 = .ok (.aload_n 0, 1) := dk_42 (dk_at dksX7_doesAll_0 23 rfl rfl)
theorem dX7_doesAll_24 : decode cX7_doesAll 24 = .ok (.getfield 42, 3) := dk_180 0 42 (dk_at dksX7_doesAll_1 0 rfl rfl)
theorem dX7_doesAll_27 : decode cX7_doesAll 27 = .ok (.iload_n 3, 1) := dk_29 (dk_at dksX7_doesAll_1 3 rfl rfl)
theorem dX7_doesAll_28 : decode cX7_doesAll 28 = .ok (.iaload, 1) := dk_46 (dk_at dksX7_doesAll_1 4 rfl rfl)
theorem dX7_doesAll_29 : decode cX7_doesAll 29 = .ok (.if_icmp .ge 27, 3) := dk_162 0 27 (dk_at dksX7_doesAll_1 5 rfl rfl)
theorem dX7_doesAll_32 : decode cX7_doesAll 32 = .ok (.aload_n 0, 1) := dk_42 (dk_at dksX7_doesAll_1 8 rfl rfl)
theorem dX7_doesAll_33 : decode cX7_doesAll 33 = .ok (.iload_n 3, 1) := dk_29 (dk_at dksX7_doesAll_1 9 rfl rfl)
theorem dX7_doesAll_34 : decode cX7_doesAll 34 = .ok (.iconst 1, 1) := dk_4 (dk_at dksX7_doesAll_1 10 rfl rfl)
theorem dX7_doesAll_35 : decode cX7_doesAll 35 = .ok (.iadd, 1) := dk_96 (dk_at dksX7_doesAll_1 11 rfl rfl)
theorem dX7_doesAll_36 : decode cX7_doesAll 36 = .ok (.aload_n 0, 1) := dk_42 (dk_at dksX7_doesAll_1 12 rfl rfl)
theorem dX7_doesAll_37 : decode cX7_doesAll 37 = .ok (.getfield 45, 3) := dk_180 0 45 (dk_at dksX7_doesAll_1 13 rfl rfl)
theorem dX7_doesAll_40 : decode cX7_doesAll 40 = .ok (.iload_n 3, 1) := dk_29 (dk_at dksX7_doesAll_1 16 rfl rfl)
theorem dX7_doesAll_41 : decode cX7_doesAll 41 = .ok (.iaload, 1) := dk_46 (dk_at dksX7_doesAll_1 17 rfl rfl)
theorem dX7_doesAll_42 : decode cX7_doesAll 42 = .ok (.invokevirtual 306, 3) := dk_182 1 50 (dk_at dksX7_doesAll_1 18 rfl rfl)
theorem dX7_doesAll_45 : decode cX7_doesAll 45 = .ok (.ifCond .ne 5, 3) := dk_154 0 5 (dk_at dksX7_doesAll_1 21 rfl rfl)
theorem dX7_doesAll_48 : decode cX7_doesAll 48 = .ok (.iconst 0, 1) := dk_3 (dk_at dksX7_doesAll_2 0 rfl rfl)
theorem dX7_doesAll_49 : decode cX7_doesAll 49 = .ok (.ireturn, 1) := dk_172 (dk_at dksX7_doesAll_2 1 rfl rfl)
theorem dX7_doesAll_50 : decode cX7_doesAll 50 = .ok (.iinc 4 1, 3) := dk_132 4 1 (dk_at dksX7_doesAll_2 2 rfl rfl)
theorem dX7_doesAll_53 : decode cX7_doesAll 53 = .ok (.goto (-32), 3) := dk_167 255 224 (dk_at dksX7_doesAll_2 5 rfl rfl)
theorem dX7_doesAll_56 : decode cX7_doesAll 56 = .ok (.aload_n 0, 1) := dk_42 (dk_at dksX7_doesAll_2 8 rfl rfl)
theorem dX7_doesAll_57 : decode cX7_doesAll 57 = .ok (.getfield 45, 3) := dk_180 0 45 (dk_at dksX7_doesAll_2 9 rfl rfl)
theorem dX7_doesAll_60 : decode cX7_doesAll 60 = .ok (.iload_n 3, 1) := dk_29 (dk_at dksX7_doesAll_2 12 rfl rfl)
theorem dX7_doesAll_61 : decode cX7_doesAll 61 = .ok (.iaload, 1) := dk_46 (dk_at dksX7_doesAll_2 13 rfl rfl)
theorem dX7_doesAll_62 : decode cX7_doesAll 62 = .ok (.istore_n 3, 1) := dk_62 (dk_at dksX7_doesAll_2 14 rfl rfl)
theorem dX7_doesAll_63 : decode cX7_doesAll 63 = .ok (.goto (-61), 3) := dk_167 255 195 (dk_at dksX7_doesAll_2 15 rfl rfl)
theorem dX7_doesAll_66 : decode cX7_doesAll 66 = .ok (.aload_n 0, 1) := dk_42 (dk_at dksX7_doesAll_2 18 rfl rfl)
theorem dX7_doesAll_67 : decode cX7_doesAll 67 = .ok (.getfield 309, 3) := dk_180 1 53 (dk_at dksX7_doesAll_2 19 rfl rfl)
theorem dX7_doesAll_70 : decode cX7_doesAll 70 = .ok (.bipush 40, 2) := dk_16 40 (dk_at dksX7_doesAll_2 22 rfl rfl)
theorem dX7_doesAll_72 : decode cX7_doesAll 72 = .ok (.if_icmp .eq 11, 3) := dk_159 0 11 (dk_at dksX7_doesAll_3 0 rfl rfl)
theorem dX7_doesAll_75 : decode cX7_doesAll 75 = .ok (.aload_n 0, 1) := dk_42 (dk_at dksX7_doesAll_3 3 rfl rfl)
theorem dX7_doesAll_76 : decode cX7_doesAll 76 = .ok (.iload_n 3, 1) := dk_29 (dk_at dksX7_doesAll_3 4 rfl rfl)
theorem dX7_doesAll_77 : decode cX7_doesAll 77 = .ok (.invokevirtual 312, 3) := dk_182 1 56 (dk_at dksX7_doesAll_3 5 rfl rfl)
theorem dX7_doesAll_80 : decode cX7_doesAll 80 = .ok (.ifCond .ne 5, 3) := dk_154 0 5 (dk_at dksX7_doesAll_3 8 rfl rfl)
theorem dX7_doesAll_83 : decode cX7_doesAll 83 = .ok (.iconst 0, 1) := dk_3 (dk_at dksX7_doesAll_3 11 rfl rfl)
theorem dX7_doesAll_84 : decode cX7_doesAll 84 = .ok (.ireturn, 1) := dk_172 (dk_at dksX7_doesAll_3 12 rfl rfl)
theorem dX7_doesAll_85 : decode cX7_doesAll 85 = .ok (.aload_n 0, 1) := dk_42 (dk_at dksX7_doesAll_3 13 rfl rfl)
theorem dX7_doesAll_86 : decode cX7_doesAll 86 = .ok (.dup, 1) := dk_89 (dk_at dksX7_doesAll_3 14 rfl rfl)
theorem dX7_doesAll_87 : decode cX7_doesAll 87 = .ok (.getfield 309, 3) := dk_180 1 53 (dk_at dksX7_doesAll_3 15 rfl rfl)
theorem dX7_doesAll_90 : decode cX7_doesAll 90 = .ok (.iconst 1, 1) := dk_4 (dk_at dksX7_doesAll_3 18 rfl rfl)
theorem dX7_doesAll_91 : decode cX7_doesAll 91 = .ok (.iadd, 1) := dk_96 (dk_at dksX7_doesAll_3 19 rfl rfl)
theorem dX7_doesAll_92 : decode cX7_doesAll 92 = .ok (.putfield 309, 3) := dk_181 1 53 (dk_at dksX7_doesAll_3 20 rfl rfl)
theorem dX7_doesAll_95 : decode cX7_doesAll 95 = .ok (.iinc 3 1, 3) := dk_132 3 1 (dk_at dksX7_doesAll_4 0 rfl rfl)
theorem dX7_doesAll_98 : decode cX7_doesAll 98 = .ok (.goto (-96), 3) := dk_167 255 160 (dk_at dksX7_doesAll_4 3 rfl rfl)
theorem dX7_doesAll_101 : decode cX7_doesAll 101 = .ok (.iconst 1, 1) := dk_4 (dk_at dksX7_doesAll_4 6 rfl rfl)
theorem dX7_doesAll_102 : decode cX7_doesAll 102 = .ok (.ireturn, 1) := dk_172 (dk_at dksX7_doesAll_4 7 rfl rfl)
abbrev cX7_does : ByteArray := prog_19_method_62_code
def yX7_does : MethodName := ⟨RX7, "does", "(I)Z"⟩
def dkwX7_does_9 : List UInt8 := [153, 0, 22, 42, 28, 4, 42, 180, 0, 45, 27, 46, 182, 1, 46, 155, 0, 7, 4, 167, 0, 4, 3, 172]
abbrev dktX7_does_9 : List UInt8 := dkwX7_does_9 ++ []
def dkwX7_does_8 : List UInt8 := [180, 0, 45, 27, 46, 182, 1, 46, 155, 0, 7, 4, 167, 0, 4, 3, 172, 42, 28, 182, 1, 34]
abbrev dktX7_does_8 : List UInt8 := dkwX7_does_8 ++ dktX7_does_9
def dkwX7_does_7 : List UInt8 := [182, 1, 43, 155, 0, 7, 4, 167, 0, 4, 3, 172, 42, 28, 182, 1, 34, 153, 0, 22, 42, 28, 3, 42]
abbrev dktX7_does_7 : List UInt8 := dkwX7_does_7 ++ dktX7_does_8
def dkwX7_does_6 : List UInt8 := [167, 0, 4, 3, 172, 42, 5, 28, 182, 1, 43, 155, 0, 7, 4, 167, 0, 4, 3, 172, 42, 4, 28]
abbrev dktX7_does_6 : List UInt8 := dkwX7_does_6 ++ dktX7_does_7
def dkwX7_does_5 : List UInt8 := [155, 0, 7, 4, 167, 0, 4, 3, 172, 29, 2, 159, 0, 16, 42, 29, 3, 182, 1, 40, 155, 0, 7, 4]
abbrev dktX7_does_5 : List UInt8 := dkwX7_does_5 ++ dktX7_does_6
def dkwX7_does_4 : List UInt8 := [182, 1, 37, 155, 0, 7, 4, 167, 0, 4, 3, 172, 29, 2, 159, 0, 16, 42, 29, 4, 182, 1, 40]
abbrev dktX7_does_4 : List UInt8 := dkwX7_does_4 ++ dktX7_does_5
def dkwX7_does_3 : List UInt8 := [182, 1, 31, 155, 0, 7, 4, 167, 0, 4, 3, 172, 42, 28, 182, 1, 34, 153, 0, 15, 42, 28]
abbrev dktX7_does_3 : List UInt8 := dkwX7_does_3 ++ dktX7_does_4
def dkwX7_does_2 : List UInt8 := [29, 2, 159, 0, 16, 42, 29, 28, 182, 1, 28, 155, 0, 7, 4, 167, 0, 4, 3, 172, 42, 28]
abbrev dktX7_does_2 : List UInt8 := dkwX7_does_2 ++ dktX7_does_3
def dkwX7_does_1 : List UInt8 := [170, 0, 0, 0, 0, 0, 0, 203, 0, 0, 0, 0, 0, 0, 0, 7, 0, 0, 0, 48, 0, 0, 0, 68, 0, 0, 0, 82, 0, 0, 0, 104, 0, 0, 0, 124, 0, 0, 0, 144, 0, 0, 0, 159, 0, 0, 0, 174]
abbrev dktX7_does_1 : List UInt8 := dkwX7_does_1 ++ dktX7_does_2
def dkwX7_does_0 : List UInt8 := [42, 180, 0, 42, 27, 46, 61, 42, 42, 180, 0, 39, 27, 46, 182, 0, 202, 62, 42, 180, 0, 36, 27, 46]
abbrev dktX7_does_0 : List UInt8 := dkwX7_does_0 ++ dktX7_does_1
theorem dksX7_does_0 : cX7_does.data.toList.drop 0 = dktX7_does_0 := by decide +kernel
theorem dksX7_does_1 : cX7_does.data.toList.drop 24 = dktX7_does_1 := dk_seg dksX7_does_0 24 rfl rfl
theorem dksX7_does_2 : cX7_does.data.toList.drop 72 = dktX7_does_2 := dk_seg dksX7_does_1 48 rfl rfl
theorem dksX7_does_3 : cX7_does.data.toList.drop 94 = dktX7_does_3 := dk_seg dksX7_does_2 22 rfl rfl
theorem dksX7_does_4 : cX7_does.data.toList.drop 116 = dktX7_does_4 := dk_seg dksX7_does_3 22 rfl rfl
theorem dksX7_does_5 : cX7_does.data.toList.drop 139 = dktX7_does_5 := dk_seg dksX7_does_4 23 rfl rfl
theorem dksX7_does_6 : cX7_does.data.toList.drop 163 = dktX7_does_6 := dk_seg dksX7_does_5 24 rfl rfl
theorem dksX7_does_7 : cX7_does.data.toList.drop 186 = dktX7_does_7 := dk_seg dksX7_does_6 23 rfl rfl
theorem dksX7_does_8 : cX7_does.data.toList.drop 210 = dktX7_does_8 := dk_seg dksX7_does_7 24 rfl rfl
theorem dksX7_does_9 : cX7_does.data.toList.drop 232 = dktX7_does_9 := dk_seg dksX7_does_8 22 rfl rfl
theorem dX7_does_0 : decode cX7_does 0 = .ok (.aload_n 0, 1) := dk_42 (dk_at dksX7_does_0 0 rfl rfl)
theorem dX7_does_1 : decode cX7_does 1 = .ok (.getfield 42, 3) := dk_180 0 42 (dk_at dksX7_does_0 1 rfl rfl)
theorem dX7_does_4 : decode cX7_does 4 = .ok (.iload_n 1, 1) := dk_27 (dk_at dksX7_does_0 4 rfl rfl)
theorem dX7_does_5 : decode cX7_does 5 = .ok (.iaload, 1) := dk_46 (dk_at dksX7_does_0 5 rfl rfl)
theorem dX7_does_6 : decode cX7_does 6 = .ok (.istore_n 2, 1) := dk_61 (dk_at dksX7_does_0 6 rfl rfl)
theorem dX7_does_7 : decode cX7_does 7 = .ok (.aload_n 0, 1) := dk_42 (dk_at dksX7_does_0 7 rfl rfl)
theorem dX7_does_8 : decode cX7_does 8 = .ok (.aload_n 0, 1) := dk_42 (dk_at dksX7_does_0 8 rfl rfl)
theorem dX7_does_9 : decode cX7_does 9 = .ok (.getfield 39, 3) := dk_180 0 39 (dk_at dksX7_does_0 9 rfl rfl)
theorem dX7_does_12 : decode cX7_does 12 = .ok (.iload_n 1, 1) := dk_27 (dk_at dksX7_does_0 12 rfl rfl)
theorem dX7_does_13 : decode cX7_does 13 = .ok (.iaload, 1) := dk_46 (dk_at dksX7_does_0 13 rfl rfl)
theorem dX7_does_14 : decode cX7_does 14 = .ok (.invokevirtual 202, 3) := dk_182 0 202 (dk_at dksX7_does_0 14 rfl rfl)
theorem dX7_does_17 : decode cX7_does 17 = .ok (.istore_n 3, 1) := dk_62 (dk_at dksX7_does_0 17 rfl rfl)
theorem dX7_does_18 : decode cX7_does 18 = .ok (.aload_n 0, 1) := dk_42 (dk_at dksX7_does_0 18 rfl rfl)
theorem dX7_does_19 : decode cX7_does 19 = .ok (.getfield 36, 3) := dk_180 0 36 (dk_at dksX7_does_0 19 rfl rfl)
theorem dX7_does_22 : decode cX7_does 22 = .ok (.iload_n 1, 1) := dk_27 (dk_at dksX7_does_0 22 rfl rfl)
theorem dX7_does_23 : decode cX7_does 23 = .ok (.iaload, 1) := dk_46 (dk_at dksX7_does_0 23 rfl rfl)
theorem dX7_does_24 : decode cX7_does 24 = .ok (.tableswitch 203 0 7 #[48, 68, 82, 104, 124, 144, 159, 174], 48) := by decide +kernel
theorem dX7_does_72 : decode cX7_does 72 = .ok (.iload_n 3, 1) := dk_29 (dk_at dksX7_does_2 0 rfl rfl)
theorem dX7_does_73 : decode cX7_does 73 = .ok (.iconst (-1), 1) := dk_2 (dk_at dksX7_does_2 1 rfl rfl)
theorem dX7_does_74 : decode cX7_does 74 = .ok (.if_icmp .eq 16, 3) := dk_159 0 16 (dk_at dksX7_does_2 2 rfl rfl)
theorem dX7_does_77 : decode cX7_does 77 = .ok (.aload_n 0, 1) := dk_42 (dk_at dksX7_does_2 5 rfl rfl)
theorem dX7_does_78 : decode cX7_does 78 = .ok (.iload_n 3, 1) := dk_29 (dk_at dksX7_does_2 6 rfl rfl)
theorem dX7_does_79 : decode cX7_does 79 = .ok (.iload_n 2, 1) := dk_28 (dk_at dksX7_does_2 7 rfl rfl)
theorem dX7_does_80 : decode cX7_does 80 = .ok (.invokevirtual 284, 3) := dk_182 1 28 (dk_at dksX7_does_2 8 rfl rfl)
theorem dX7_does_83 : decode cX7_does 83 = .ok (.ifCond .lt 7, 3) := dk_155 0 7 (dk_at dksX7_does_2 11 rfl rfl)
theorem dX7_does_86 : decode cX7_does 86 = .ok (.iconst 1, 1) := dk_4 (dk_at dksX7_does_2 14 rfl rfl)
theorem dX7_does_87 : decode cX7_does 87 = .ok (.goto 4, 3) := dk_167 0 4 (dk_at dksX7_does_2 15 rfl rfl)
theorem dX7_does_90 : decode cX7_does 90 = .ok (.iconst 0, 1) := dk_3 (dk_at dksX7_does_2 18 rfl rfl)
theorem dX7_does_91 : decode cX7_does 91 = .ok (.ireturn, 1) := dk_172 (dk_at dksX7_does_2 19 rfl rfl)
theorem dX7_does_92 : decode cX7_does 92 = .ok (.aload_n 0, 1) := dk_42 (dk_at dksX7_does_2 20 rfl rfl)
theorem dX7_does_93 : decode cX7_does 93 = .ok (.iload_n 2, 1) := dk_28 (dk_at dksX7_does_2 21 rfl rfl)
theorem dX7_does_94 : decode cX7_does 94 = .ok (.invokevirtual 287, 3) := dk_182 1 31 (dk_at dksX7_does_3 0 rfl rfl)
theorem dX7_does_97 : decode cX7_does 97 = .ok (.ifCond .lt 7, 3) := dk_155 0 7 (dk_at dksX7_does_3 3 rfl rfl)
theorem dX7_does_100 : decode cX7_does 100 = .ok (.iconst 1, 1) := dk_4 (dk_at dksX7_does_3 6 rfl rfl)
theorem dX7_does_101 : decode cX7_does 101 = .ok (.goto 4, 3) := dk_167 0 4 (dk_at dksX7_does_3 7 rfl rfl)
theorem dX7_does_104 : decode cX7_does 104 = .ok (.iconst 0, 1) := dk_3 (dk_at dksX7_does_3 10 rfl rfl)
theorem dX7_does_105 : decode cX7_does 105 = .ok (.ireturn, 1) := dk_172 (dk_at dksX7_does_3 11 rfl rfl)
theorem dX7_does_106 : decode cX7_does 106 = .ok (.aload_n 0, 1) := dk_42 (dk_at dksX7_does_3 12 rfl rfl)
theorem dX7_does_107 : decode cX7_does 107 = .ok (.iload_n 2, 1) := dk_28 (dk_at dksX7_does_3 13 rfl rfl)
theorem dX7_does_108 : decode cX7_does 108 = .ok (.invokevirtual 290, 3) := dk_182 1 34 (dk_at dksX7_does_3 14 rfl rfl)
theorem dX7_does_111 : decode cX7_does 111 = .ok (.ifCond .eq 15, 3) := dk_153 0 15 (dk_at dksX7_does_3 17 rfl rfl)
theorem dX7_does_114 : decode cX7_does 114 = .ok (.aload_n 0, 1) := dk_42 (dk_at dksX7_does_3 20 rfl rfl)
theorem dX7_does_115 : decode cX7_does 115 = .ok (.iload_n 2, 1) := dk_28 (dk_at dksX7_does_3 21 rfl rfl)
theorem dX7_does_116 : decode cX7_does 116 = .ok (.invokevirtual 293, 3) := dk_182 1 37 (dk_at dksX7_does_4 0 rfl rfl)
theorem dX7_does_119 : decode cX7_does 119 = .ok (.ifCond .lt 7, 3) := dk_155 0 7 (dk_at dksX7_does_4 3 rfl rfl)
theorem dX7_does_122 : decode cX7_does 122 = .ok (.iconst 1, 1) := dk_4 (dk_at dksX7_does_4 6 rfl rfl)
theorem dX7_does_123 : decode cX7_does 123 = .ok (.goto 4, 3) := dk_167 0 4 (dk_at dksX7_does_4 7 rfl rfl)
theorem dX7_does_126 : decode cX7_does 126 = .ok (.iconst 0, 1) := dk_3 (dk_at dksX7_does_4 10 rfl rfl)
theorem dX7_does_127 : decode cX7_does 127 = .ok (.ireturn, 1) := dk_172 (dk_at dksX7_does_4 11 rfl rfl)
theorem dX7_does_128 : decode cX7_does 128 = .ok (.iload_n 3, 1) := dk_29 (dk_at dksX7_does_4 12 rfl rfl)
theorem dX7_does_129 : decode cX7_does 129 = .ok (.iconst (-1), 1) := dk_2 (dk_at dksX7_does_4 13 rfl rfl)
theorem dX7_does_130 : decode cX7_does 130 = .ok (.if_icmp .eq 16, 3) := dk_159 0 16 (dk_at dksX7_does_4 14 rfl rfl)
theorem dX7_does_133 : decode cX7_does 133 = .ok (.aload_n 0, 1) := dk_42 (dk_at dksX7_does_4 17 rfl rfl)
theorem dX7_does_134 : decode cX7_does 134 = .ok (.iload_n 3, 1) := dk_29 (dk_at dksX7_does_4 18 rfl rfl)
theorem dX7_does_135 : decode cX7_does 135 = .ok (.iconst 1, 1) := dk_4 (dk_at dksX7_does_4 19 rfl rfl)
theorem dX7_does_136 : decode cX7_does 136 = .ok (.invokevirtual 296, 3) := dk_182 1 40 (dk_at dksX7_does_4 20 rfl rfl)
theorem dX7_does_139 : decode cX7_does 139 = .ok (.ifCond .lt 7, 3) := dk_155 0 7 (dk_at dksX7_does_5 0 rfl rfl)
theorem dX7_does_142 : decode cX7_does 142 = .ok (.iconst 1, 1) := dk_4 (dk_at dksX7_does_5 3 rfl rfl)
theorem dX7_does_143 : decode cX7_does 143 = .ok (.goto 4, 3) := dk_167 0 4 (dk_at dksX7_does_5 4 rfl rfl)
theorem dX7_does_146 : decode cX7_does 146 = .ok (.iconst 0, 1) := dk_3 (dk_at dksX7_does_5 7 rfl rfl)
theorem dX7_does_147 : decode cX7_does 147 = .ok (.ireturn, 1) := dk_172 (dk_at dksX7_does_5 8 rfl rfl)
theorem dX7_does_148 : decode cX7_does 148 = .ok (.iload_n 3, 1) := dk_29 (dk_at dksX7_does_5 9 rfl rfl)
theorem dX7_does_149 : decode cX7_does 149 = .ok (.iconst (-1), 1) := dk_2 (dk_at dksX7_does_5 10 rfl rfl)
theorem dX7_does_150 : decode cX7_does 150 = .ok (.if_icmp .eq 16, 3) := dk_159 0 16 (dk_at dksX7_does_5 11 rfl rfl)
theorem dX7_does_153 : decode cX7_does 153 = .ok (.aload_n 0, 1) := dk_42 (dk_at dksX7_does_5 14 rfl rfl)
theorem dX7_does_154 : decode cX7_does 154 = .ok (.iload_n 3, 1) := dk_29 (dk_at dksX7_does_5 15 rfl rfl)
theorem dX7_does_155 : decode cX7_does 155 = .ok (.iconst 0, 1) := dk_3 (dk_at dksX7_does_5 16 rfl rfl)
theorem dX7_does_156 : decode cX7_does 156 = .ok (.invokevirtual 296, 3) := dk_182 1 40 (dk_at dksX7_does_5 17 rfl rfl)
theorem dX7_does_159 : decode cX7_does 159 = .ok (.ifCond .lt 7, 3) := dk_155 0 7 (dk_at dksX7_does_5 20 rfl rfl)
theorem dX7_does_162 : decode cX7_does 162 = .ok (.iconst 1, 1) := dk_4 (dk_at dksX7_does_5 23 rfl rfl)
theorem dX7_does_163 : decode cX7_does 163 = .ok (.goto 4, 3) := dk_167 0 4 (dk_at dksX7_does_6 0 rfl rfl)
theorem dX7_does_166 : decode cX7_does 166 = .ok (.iconst 0, 1) := dk_3 (dk_at dksX7_does_6 3 rfl rfl)
theorem dX7_does_167 : decode cX7_does 167 = .ok (.ireturn, 1) := dk_172 (dk_at dksX7_does_6 4 rfl rfl)
theorem dX7_does_168 : decode cX7_does 168 = .ok (.aload_n 0, 1) := dk_42 (dk_at dksX7_does_6 5 rfl rfl)
theorem dX7_does_169 : decode cX7_does 169 = .ok (.iconst 2, 1) := dk_5 (dk_at dksX7_does_6 6 rfl rfl)
theorem dX7_does_170 : decode cX7_does 170 = .ok (.iload_n 2, 1) := dk_28 (dk_at dksX7_does_6 7 rfl rfl)
theorem dX7_does_171 : decode cX7_does 171 = .ok (.invokevirtual 299, 3) := dk_182 1 43 (dk_at dksX7_does_6 8 rfl rfl)
theorem dX7_does_174 : decode cX7_does 174 = .ok (.ifCond .lt 7, 3) := dk_155 0 7 (dk_at dksX7_does_6 11 rfl rfl)
theorem dX7_does_177 : decode cX7_does 177 = .ok (.iconst 1, 1) := dk_4 (dk_at dksX7_does_6 14 rfl rfl)
theorem dX7_does_178 : decode cX7_does 178 = .ok (.goto 4, 3) := dk_167 0 4 (dk_at dksX7_does_6 15 rfl rfl)
theorem dX7_does_181 : decode cX7_does 181 = .ok (.iconst 0, 1) := dk_3 (dk_at dksX7_does_6 18 rfl rfl)
theorem dX7_does_182 : decode cX7_does 182 = .ok (.ireturn, 1) := dk_172 (dk_at dksX7_does_6 19 rfl rfl)
theorem dX7_does_183 : decode cX7_does 183 = .ok (.aload_n 0, 1) := dk_42 (dk_at dksX7_does_6 20 rfl rfl)
theorem dX7_does_184 : decode cX7_does 184 = .ok (.iconst 1, 1) := dk_4 (dk_at dksX7_does_6 21 rfl rfl)
theorem dX7_does_185 : decode cX7_does 185 = .ok (.iload_n 2, 1) := dk_28 (dk_at dksX7_does_6 22 rfl rfl)
theorem dX7_does_186 : decode cX7_does 186 = .ok (.invokevirtual 299, 3) := dk_182 1 43 (dk_at dksX7_does_7 0 rfl rfl)
theorem dX7_does_189 : decode cX7_does 189 = .ok (.ifCond .lt 7, 3) := dk_155 0 7 (dk_at dksX7_does_7 3 rfl rfl)
theorem dX7_does_192 : decode cX7_does 192 = .ok (.iconst 1, 1) := dk_4 (dk_at dksX7_does_7 6 rfl rfl)
theorem dX7_does_193 : decode cX7_does 193 = .ok (.goto 4, 3) := dk_167 0 4 (dk_at dksX7_does_7 7 rfl rfl)
theorem dX7_does_196 : decode cX7_does 196 = .ok (.iconst 0, 1) := dk_3 (dk_at dksX7_does_7 10 rfl rfl)
theorem dX7_does_197 : decode cX7_does 197 = .ok (.ireturn, 1) := dk_172 (dk_at dksX7_does_7 11 rfl rfl)
theorem dX7_does_198 : decode cX7_does 198 = .ok (.aload_n 0, 1) := dk_42 (dk_at dksX7_does_7 12 rfl rfl)
theorem dX7_does_199 : decode cX7_does 199 = .ok (.iload_n 2, 1) := dk_28 (dk_at dksX7_does_7 13 rfl rfl)
theorem dX7_does_200 : decode cX7_does 200 = .ok (.invokevirtual 290, 3) := dk_182 1 34 (dk_at dksX7_does_7 14 rfl rfl)
theorem dX7_does_203 : decode cX7_does 203 = .ok (.ifCond .eq 22, 3) := dk_153 0 22 (dk_at dksX7_does_7 17 rfl rfl)
theorem dX7_does_206 : decode cX7_does 206 = .ok (.aload_n 0, 1) := dk_42 (dk_at dksX7_does_7 20 rfl rfl)
theorem dX7_does_207 : decode cX7_does 207 = .ok (.iload_n 2, 1) := dk_28 (dk_at dksX7_does_7 21 rfl rfl)
theorem dX7_does_208 : decode cX7_does 208 = .ok (.iconst 0, 1) := dk_3 (dk_at dksX7_does_7 22 rfl rfl)
theorem dX7_does_209 : decode cX7_does 209 = .ok (.aload_n 0, 1) := dk_42 (dk_at dksX7_does_7 23 rfl rfl)
theorem dX7_does_210 : decode cX7_does 210 = .ok (.getfield 45, 3) := dk_180 0 45 (dk_at dksX7_does_8 0 rfl rfl)
theorem dX7_does_213 : decode cX7_does 213 = .ok (.iload_n 1, 1) := dk_27 (dk_at dksX7_does_8 3 rfl rfl)
theorem dX7_does_214 : decode cX7_does 214 = .ok (.iaload, 1) := dk_46 (dk_at dksX7_does_8 4 rfl rfl)
theorem dX7_does_215 : decode cX7_does 215 = .ok (.invokevirtual 302, 3) := dk_182 1 46 (dk_at dksX7_does_8 5 rfl rfl)
theorem dX7_does_218 : decode cX7_does 218 = .ok (.ifCond .lt 7, 3) := dk_155 0 7 (dk_at dksX7_does_8 8 rfl rfl)
theorem dX7_does_221 : decode cX7_does 221 = .ok (.iconst 1, 1) := dk_4 (dk_at dksX7_does_8 11 rfl rfl)
theorem dX7_does_222 : decode cX7_does 222 = .ok (.goto 4, 3) := dk_167 0 4 (dk_at dksX7_does_8 12 rfl rfl)
theorem dX7_does_225 : decode cX7_does 225 = .ok (.iconst 0, 1) := dk_3 (dk_at dksX7_does_8 15 rfl rfl)
theorem dX7_does_226 : decode cX7_does 226 = .ok (.ireturn, 1) := dk_172 (dk_at dksX7_does_8 16 rfl rfl)
theorem dX7_does_227 : decode cX7_does 227 = .ok (.aload_n 0, 1) := dk_42 (dk_at dksX7_does_8 17 rfl rfl)
theorem dX7_does_228 : decode cX7_does 228 = .ok (.iload_n 2, 1) := dk_28 (dk_at dksX7_does_8 18 rfl rfl)
theorem dX7_does_229 : decode cX7_does 229 = .ok (.invokevirtual 290, 3) := dk_182 1 34 (dk_at dksX7_does_8 19 rfl rfl)
theorem dX7_does_232 : decode cX7_does 232 = .ok (.ifCond .eq 22, 3) := dk_153 0 22 (dk_at dksX7_does_9 0 rfl rfl)
theorem dX7_does_235 : decode cX7_does 235 = .ok (.aload_n 0, 1) := dk_42 (dk_at dksX7_does_9 3 rfl rfl)
theorem dX7_does_236 : decode cX7_does 236 = .ok (.iload_n 2, 1) := dk_28 (dk_at dksX7_does_9 4 rfl rfl)
theorem dX7_does_237 : decode cX7_does 237 = .ok (.iconst 1, 1) := dk_4 (dk_at dksX7_does_9 5 rfl rfl)
theorem dX7_does_238 : decode cX7_does 238 = .ok (.aload_n 0, 1) := dk_42 (dk_at dksX7_does_9 6 rfl rfl)
theorem dX7_does_239 : decode cX7_does 239 = .ok (.getfield 45, 3) := dk_180 0 45 (dk_at dksX7_does_9 7 rfl rfl)
theorem dX7_does_242 : decode cX7_does 242 = .ok (.iload_n 1, 1) := dk_27 (dk_at dksX7_does_9 10 rfl rfl)
theorem dX7_does_243 : decode cX7_does 243 = .ok (.iaload, 1) := dk_46 (dk_at dksX7_does_9 11 rfl rfl)
theorem dX7_does_244 : decode cX7_does 244 = .ok (.invokevirtual 302, 3) := dk_182 1 46 (dk_at dksX7_does_9 12 rfl rfl)
theorem dX7_does_247 : decode cX7_does 247 = .ok (.ifCond .lt 7, 3) := dk_155 0 7 (dk_at dksX7_does_9 15 rfl rfl)
theorem dX7_does_250 : decode cX7_does 250 = .ok (.iconst 1, 1) := dk_4 (dk_at dksX7_does_9 18 rfl rfl)
theorem dX7_does_251 : decode cX7_does 251 = .ok (.goto 4, 3) := dk_167 0 4 (dk_at dksX7_does_9 19 rfl rfl)
theorem dX7_does_254 : decode cX7_does 254 = .ok (.iconst 0, 1) := dk_3 (dk_at dksX7_does_9 22 rfl rfl)
theorem dX7_does_255 : decode cX7_does 255 = .ok (.ireturn, 1) := dk_172 (dk_at dksX7_does_9 23 rfl rfl)
abbrev cX7_coming : ByteArray := prog_19_method_95_code
def yX7_coming : MethodName := ⟨RX7, "coming", "(II)I"⟩
def dkwX7_coming_4 : List UInt8 := [182, 0, 123, 42, 27, 6, 182, 0, 91, 172]
abbrev dktX7_coming_4 : List UInt8 := dkwX7_coming_4 ++ []
def dkwX7_coming_3 : List UInt8 := [6, 182, 0, 91, 28, 96, 182, 0, 127, 42, 27, 4, 42, 180, 0, 7, 8, 46, 182, 0, 127, 42, 3, 28]
abbrev dktX7_coming_3 : List UInt8 := dkwX7_coming_3 ++ dktX7_coming_4
def dkwX7_coming_2 : List UInt8 := [182, 0, 91, 96, 29, 96, 42, 180, 0, 7, 8, 46, 79, 132, 3, 1, 167, 255, 220, 42, 27, 6, 42, 27]
abbrev dktX7_coming_2 : List UInt8 := dkwX7_coming_2 ++ dktX7_coming_3
def dkwX7_coming_1 : List UInt8 := [3, 62, 29, 28, 162, 0, 37, 42, 180, 0, 7, 17, 0, 201, 16, 99, 27, 104, 96, 42, 27, 6]
abbrev dktX7_coming_1 : List UInt8 := dkwX7_coming_1 ++ dktX7_coming_2
def dkwX7_coming_0 : List UInt8 := [42, 27, 6, 182, 0, 91, 28, 96, 16, 99, 164, 0, 10, 42, 16, 254, 182, 1, 118, 172, 42, 182, 1, 121]
abbrev dktX7_coming_0 : List UInt8 := dkwX7_coming_0 ++ dktX7_coming_1
theorem dksX7_coming_0 : cX7_coming.data.toList.drop 0 = dktX7_coming_0 := by decide +kernel
theorem dksX7_coming_1 : cX7_coming.data.toList.drop 24 = dktX7_coming_1 := dk_seg dksX7_coming_0 24 rfl rfl
theorem dksX7_coming_2 : cX7_coming.data.toList.drop 46 = dktX7_coming_2 := dk_seg dksX7_coming_1 22 rfl rfl
theorem dksX7_coming_3 : cX7_coming.data.toList.drop 70 = dktX7_coming_3 := dk_seg dksX7_coming_2 24 rfl rfl
theorem dksX7_coming_4 : cX7_coming.data.toList.drop 94 = dktX7_coming_4 := dk_seg dksX7_coming_3 24 rfl rfl
theorem dX7_coming_0 : decode cX7_coming 0 = .ok (.aload_n 0, 1) := dk_42 (dk_at dksX7_coming_0 0 rfl rfl)
theorem dX7_coming_1 : decode cX7_coming 1 = .ok (.iload_n 1, 1) := dk_27 (dk_at dksX7_coming_0 1 rfl rfl)
theorem dX7_coming_2 : decode cX7_coming 2 = .ok (.iconst 3, 1) := dk_6 (dk_at dksX7_coming_0 2 rfl rfl)
theorem dX7_coming_3 : decode cX7_coming 3 = .ok (.invokevirtual 91, 3) := dk_182 0 91 (dk_at dksX7_coming_0 3 rfl rfl)
theorem dX7_coming_6 : decode cX7_coming 6 = .ok (.iload_n 2, 1) := dk_28 (dk_at dksX7_coming_0 6 rfl rfl)
theorem dX7_coming_7 : decode cX7_coming 7 = .ok (.iadd, 1) := dk_96 (dk_at dksX7_coming_0 7 rfl rfl)
theorem dX7_coming_8 : decode cX7_coming 8 = .ok (.bipush 99, 2) := dk_16 99 (dk_at dksX7_coming_0 8 rfl rfl)
theorem dX7_coming_10 : decode cX7_coming 10 = .ok (.if_icmp .le 10, 3) := dk_164 0 10 (dk_at dksX7_coming_0 10 rfl rfl)
theorem dX7_coming_13 : decode cX7_coming 13 = .ok (.aload_n 0, 1) := dk_42 (dk_at dksX7_coming_0 13 rfl rfl)
theorem dX7_coming_14 : decode cX7_coming 14 = .ok (.bipush (-2), 2) := dk_16 254 (dk_at dksX7_coming_0 14 rfl rfl)
theorem dX7_coming_16 : decode cX7_coming 16 = .ok (.invokevirtual 374, 3) := dk_182 1 118 (dk_at dksX7_coming_0 16 rfl rfl)
theorem dX7_coming_19 : decode cX7_coming 19 = .ok (.ireturn, 1) := dk_172 (dk_at dksX7_coming_0 19 rfl rfl)
theorem dX7_coming_20 : decode cX7_coming 20 = .ok (.aload_n 0, 1) := dk_42 (dk_at dksX7_coming_0 20 rfl rfl)
theorem dX7_coming_21 : decode cX7_coming 21 = .ok (.invokevirtual 377, 3) := dk_182 1 121 (dk_at dksX7_coming_0 21 rfl rfl)
theorem dX7_coming_24 : decode cX7_coming 24 = .ok (.iconst 0, 1) := dk_3 (dk_at dksX7_coming_1 0 rfl rfl)
theorem dX7_coming_25 : decode cX7_coming 25 = .ok (.istore_n 3, 1) := dk_62 (dk_at dksX7_coming_1 1 rfl rfl)
theorem dX7_coming_26 : decode cX7_coming 26 = .ok (.iload_n 3, 1) := dk_29 (dk_at dksX7_coming_1 2 rfl rfl)
theorem dX7_coming_27 : decode cX7_coming 27 = .ok (.iload_n 2, 1) := dk_28 (dk_at dksX7_coming_1 3 rfl rfl)
theorem dX7_coming_28 : decode cX7_coming 28 = .ok (.if_icmp .ge 37, 3) := dk_162 0 37 (dk_at dksX7_coming_1 4 rfl rfl)
theorem dX7_coming_31 : decode cX7_coming 31 = .ok (.aload_n 0, 1) := dk_42 (dk_at dksX7_coming_1 7 rfl rfl)
theorem dX7_coming_32 : decode cX7_coming 32 = .ok (.getfield 7, 3) := dk_180 0 7 (dk_at dksX7_coming_1 8 rfl rfl)
theorem dX7_coming_35 : decode cX7_coming 35 = .ok (.sipush 201, 3) := dk_17 0 201 (dk_at dksX7_coming_1 11 rfl rfl)
theorem dX7_coming_38 : decode cX7_coming 38 = .ok (.bipush 99, 2) := dk_16 99 (dk_at dksX7_coming_1 14 rfl rfl)
theorem dX7_coming_40 : decode cX7_coming 40 = .ok (.iload_n 1, 1) := dk_27 (dk_at dksX7_coming_1 16 rfl rfl)
theorem dX7_coming_41 : decode cX7_coming 41 = .ok (.imul, 1) := dk_104 (dk_at dksX7_coming_1 17 rfl rfl)
theorem dX7_coming_42 : decode cX7_coming 42 = .ok (.iadd, 1) := dk_96 (dk_at dksX7_coming_1 18 rfl rfl)
theorem dX7_coming_43 : decode cX7_coming 43 = .ok (.aload_n 0, 1) := dk_42 (dk_at dksX7_coming_1 19 rfl rfl)
theorem dX7_coming_44 : decode cX7_coming 44 = .ok (.iload_n 1, 1) := dk_27 (dk_at dksX7_coming_1 20 rfl rfl)
theorem dX7_coming_45 : decode cX7_coming 45 = .ok (.iconst 3, 1) := dk_6 (dk_at dksX7_coming_1 21 rfl rfl)
theorem dX7_coming_46 : decode cX7_coming 46 = .ok (.invokevirtual 91, 3) := dk_182 0 91 (dk_at dksX7_coming_2 0 rfl rfl)
theorem dX7_coming_49 : decode cX7_coming 49 = .ok (.iadd, 1) := dk_96 (dk_at dksX7_coming_2 3 rfl rfl)
theorem dX7_coming_50 : decode cX7_coming 50 = .ok (.iload_n 3, 1) := dk_29 (dk_at dksX7_coming_2 4 rfl rfl)
theorem dX7_coming_51 : decode cX7_coming 51 = .ok (.iadd, 1) := dk_96 (dk_at dksX7_coming_2 5 rfl rfl)
theorem dX7_coming_52 : decode cX7_coming 52 = .ok (.aload_n 0, 1) := dk_42 (dk_at dksX7_coming_2 6 rfl rfl)
theorem dX7_coming_53 : decode cX7_coming 53 = .ok (.getfield 7, 3) := dk_180 0 7 (dk_at dksX7_coming_2 7 rfl rfl)
theorem dX7_coming_56 : decode cX7_coming 56 = .ok (.iconst 5, 1) := dk_8 (dk_at dksX7_coming_2 10 rfl rfl)
theorem dX7_coming_57 : decode cX7_coming 57 = .ok (.iaload, 1) := dk_46 (dk_at dksX7_coming_2 11 rfl rfl)
theorem dX7_coming_58 : decode cX7_coming 58 = .ok (.iastore, 1) := dk_79 (dk_at dksX7_coming_2 12 rfl rfl)
theorem dX7_coming_59 : decode cX7_coming 59 = .ok (.iinc 3 1, 3) := dk_132 3 1 (dk_at dksX7_coming_2 13 rfl rfl)
theorem dX7_coming_62 : decode cX7_coming 62 = .ok (.goto (-36), 3) := dk_167 255 220 (dk_at dksX7_coming_2 16 rfl rfl)
theorem dX7_coming_65 : decode cX7_coming 65 = .ok (.aload_n 0, 1) := dk_42 (dk_at dksX7_coming_2 19 rfl rfl)
theorem dX7_coming_66 : decode cX7_coming 66 = .ok (.iload_n 1, 1) := dk_27 (dk_at dksX7_coming_2 20 rfl rfl)
theorem dX7_coming_67 : decode cX7_coming 67 = .ok (.iconst 3, 1) := dk_6 (dk_at dksX7_coming_2 21 rfl rfl)
theorem dX7_coming_68 : decode cX7_coming 68 = .ok (.aload_n 0, 1) := dk_42 (dk_at dksX7_coming_2 22 rfl rfl)
theorem dX7_coming_69 : decode cX7_coming 69 = .ok (.iload_n 1, 1) := dk_27 (dk_at dksX7_coming_2 23 rfl rfl)
theorem dX7_coming_70 : decode cX7_coming 70 = .ok (.iconst 3, 1) := dk_6 (dk_at dksX7_coming_3 0 rfl rfl)
theorem dX7_coming_71 : decode cX7_coming 71 = .ok (.invokevirtual 91, 3) := dk_182 0 91 (dk_at dksX7_coming_3 1 rfl rfl)
theorem dX7_coming_74 : decode cX7_coming 74 = .ok (.iload_n 2, 1) := dk_28 (dk_at dksX7_coming_3 4 rfl rfl)
theorem dX7_coming_75 : decode cX7_coming 75 = .ok (.iadd, 1) := dk_96 (dk_at dksX7_coming_3 5 rfl rfl)
theorem dX7_coming_76 : decode cX7_coming 76 = .ok (.invokevirtual 127, 3) := dk_182 0 127 (dk_at dksX7_coming_3 6 rfl rfl)
theorem dX7_coming_79 : decode cX7_coming 79 = .ok (.aload_n 0, 1) := dk_42 (dk_at dksX7_coming_3 9 rfl rfl)
theorem dX7_coming_80 : decode cX7_coming 80 = .ok (.iload_n 1, 1) := dk_27 (dk_at dksX7_coming_3 10 rfl rfl)
theorem dX7_coming_81 : decode cX7_coming 81 = .ok (.iconst 1, 1) := dk_4 (dk_at dksX7_coming_3 11 rfl rfl)
theorem dX7_coming_82 : decode cX7_coming 82 = .ok (.aload_n 0, 1) := dk_42 (dk_at dksX7_coming_3 12 rfl rfl)
theorem dX7_coming_83 : decode cX7_coming 83 = .ok (.getfield 7, 3) := dk_180 0 7 (dk_at dksX7_coming_3 13 rfl rfl)
theorem dX7_coming_86 : decode cX7_coming 86 = .ok (.iconst 5, 1) := dk_8 (dk_at dksX7_coming_3 16 rfl rfl)
theorem dX7_coming_87 : decode cX7_coming 87 = .ok (.iaload, 1) := dk_46 (dk_at dksX7_coming_3 17 rfl rfl)
theorem dX7_coming_88 : decode cX7_coming 88 = .ok (.invokevirtual 127, 3) := dk_182 0 127 (dk_at dksX7_coming_3 18 rfl rfl)
theorem dX7_coming_91 : decode cX7_coming 91 = .ok (.aload_n 0, 1) := dk_42 (dk_at dksX7_coming_3 21 rfl rfl)
theorem dX7_coming_92 : decode cX7_coming 92 = .ok (.iconst 0, 1) := dk_3 (dk_at dksX7_coming_3 22 rfl rfl)
theorem dX7_coming_93 : decode cX7_coming 93 = .ok (.iload_n 2, 1) := dk_28 (dk_at dksX7_coming_3 23 rfl rfl)
theorem dX7_coming_94 : decode cX7_coming 94 = .ok (.invokevirtual 123, 3) := dk_182 0 123 (dk_at dksX7_coming_4 0 rfl rfl)
theorem dX7_coming_97 : decode cX7_coming 97 = .ok (.aload_n 0, 1) := dk_42 (dk_at dksX7_coming_4 3 rfl rfl)
theorem dX7_coming_98 : decode cX7_coming 98 = .ok (.iload_n 1, 1) := dk_27 (dk_at dksX7_coming_4 4 rfl rfl)
theorem dX7_coming_99 : decode cX7_coming 99 = .ok (.iconst 3, 1) := dk_6 (dk_at dksX7_coming_4 5 rfl rfl)
theorem dX7_coming_100 : decode cX7_coming 100 = .ok (.invokevirtual 91, 3) := dk_182 0 91 (dk_at dksX7_coming_4 6 rfl rfl)
theorem dX7_coming_103 : decode cX7_coming 103 = .ok (.ireturn, 1) := dk_172 (dk_at dksX7_coming_4 9 rfl rfl)
abbrev cX7_refuses : ByteArray := prog_19_method_94_code
def yX7_refuses : MethodName := ⟨RX7, "refuses", "(I)I"⟩
def dkwX7_refuses_0 : List UInt8 := [42, 89, 180, 0, 241, 4, 96, 181, 0, 241, 27, 172]
abbrev dktX7_refuses_0 : List UInt8 := dkwX7_refuses_0 ++ []
theorem dksX7_refuses_0 : cX7_refuses.data.toList.drop 0 = dktX7_refuses_0 := by decide +kernel
theorem dX7_refuses_0 : decode cX7_refuses 0 = .ok (.aload_n 0, 1) := dk_42 (dk_at dksX7_refuses_0 0 rfl rfl)
theorem dX7_refuses_1 : decode cX7_refuses 1 = .ok (.dup, 1) := dk_89 (dk_at dksX7_refuses_0 1 rfl rfl)
theorem dX7_refuses_2 : decode cX7_refuses 2 = .ok (.getfield 241, 3) := dk_180 0 241 (dk_at dksX7_refuses_0 2 rfl rfl)
theorem dX7_refuses_5 : decode cX7_refuses 5 = .ok (.iconst 1, 1) := dk_4 (dk_at dksX7_refuses_0 5 rfl rfl)
theorem dX7_refuses_6 : decode cX7_refuses 6 = .ok (.iadd, 1) := dk_96 (dk_at dksX7_refuses_0 6 rfl rfl)
theorem dX7_refuses_7 : decode cX7_refuses 7 = .ok (.putfield 241, 3) := dk_181 0 241 (dk_at dksX7_refuses_0 7 rfl rfl)
theorem dX7_refuses_10 : decode cX7_refuses 10 = .ok (.iload_n 1, 1) := dk_27 (dk_at dksX7_refuses_0 10 rfl rfl)
theorem dX7_refuses_11 : decode cX7_refuses 11 = .ok (.ireturn, 1) := dk_172 (dk_at dksX7_refuses_0 11 rfl rfl)
abbrev cX7_changes : ByteArray := prog_19_method_93_code
def yX7_changes : MethodName := ⟨RX7, "changes", "()V"⟩
def dkwX7_changes_0 : List UInt8 := [42, 180, 1, 62, 154, 0, 7, 42, 182, 1, 59, 177]
abbrev dktX7_changes_0 : List UInt8 := dkwX7_changes_0 ++ []
theorem dksX7_changes_0 : cX7_changes.data.toList.drop 0 = dktX7_changes_0 := by decide +kernel
theorem dX7_changes_0 : decode cX7_changes 0 = .ok (.aload_n 0, 1) := dk_42 (dk_at dksX7_changes_0 0 rfl rfl)
theorem dX7_changes_1 : decode cX7_changes 1 = .ok (.getfield 318, 3) := dk_180 1 62 (dk_at dksX7_changes_0 1 rfl rfl)
theorem dX7_changes_4 : decode cX7_changes 4 = .ok (.ifCond .ne 7, 3) := dk_154 0 7 (dk_at dksX7_changes_0 4 rfl rfl)
theorem dX7_changes_7 : decode cX7_changes 7 = .ok (.aload_n 0, 1) := dk_42 (dk_at dksX7_changes_0 7 rfl rfl)
theorem dX7_changes_8 : decode cX7_changes 8 = .ok (.invokevirtual 315, 3) := dk_182 1 59 (dk_at dksX7_changes_0 8 rfl rfl)
theorem dX7_changes_11 : decode cX7_changes 11 = .ok (.return_, 1) := dk_177 (dk_at dksX7_changes_0 11 rfl rfl)
abbrev cX7_counts : ByteArray := prog_19_method_14_code
def yX7_counts : MethodName := ⟨RX7, "counts", "(II)V"⟩
def dkwX7_counts_0 : List UInt8 := [42, 180, 0, 7, 16, 10, 27, 96, 92, 46, 28, 96, 79, 177]
abbrev dktX7_counts_0 : List UInt8 := dkwX7_counts_0 ++ []
theorem dksX7_counts_0 : cX7_counts.data.toList.drop 0 = dktX7_counts_0 := by decide +kernel
theorem dX7_counts_0 : decode cX7_counts 0 = .ok (.aload_n 0, 1) := dk_42 (dk_at dksX7_counts_0 0 rfl rfl)
theorem dX7_counts_1 : decode cX7_counts 1 = .ok (.getfield 7, 3) := dk_180 0 7 (dk_at dksX7_counts_0 1 rfl rfl)
theorem dX7_counts_4 : decode cX7_counts 4 = .ok (.bipush 10, 2) := dk_16 10 (dk_at dksX7_counts_0 4 rfl rfl)
theorem dX7_counts_6 : decode cX7_counts 6 = .ok (.iload_n 1, 1) := dk_27 (dk_at dksX7_counts_0 6 rfl rfl)
theorem dX7_counts_7 : decode cX7_counts 7 = .ok (.iadd, 1) := dk_96 (dk_at dksX7_counts_0 7 rfl rfl)
theorem dX7_counts_8 : decode cX7_counts 8 = .ok (.dup2, 1) := dk_92 (dk_at dksX7_counts_0 8 rfl rfl)
theorem dX7_counts_9 : decode cX7_counts 9 = .ok (.iaload, 1) := dk_46 (dk_at dksX7_counts_0 9 rfl rfl)
theorem dX7_counts_10 : decode cX7_counts 10 = .ok (.iload_n 2, 1) := dk_28 (dk_at dksX7_counts_0 10 rfl rfl)
theorem dX7_counts_11 : decode cX7_counts 11 = .ok (.iadd, 1) := dk_96 (dk_at dksX7_counts_0 11 rfl rfl)
theorem dX7_counts_12 : decode cX7_counts 12 = .ok (.iastore, 1) := dk_79 (dk_at dksX7_counts_0 12 rfl rfl)
theorem dX7_counts_13 : decode cX7_counts 13 = .ok (.return_, 1) := dk_177 (dk_at dksX7_counts_0 13 rfl rfl)
abbrev cX7_passing : ByteArray := prog_19_method_97_code
def yX7_passing : MethodName := ⟨RX7, "passing", "(I)I"⟩
def dkwX7_passing_1 : List UInt8 := [182, 1, 121, 42, 27, 182, 1, 112, 42, 180, 0, 7, 16, 6, 46, 172]
abbrev dktX7_passing_1 : List UInt8 := dkwX7_passing_1 ++ []
def dkwX7_passing_0 : List UInt8 := [42, 180, 0, 7, 8, 46, 27, 96, 17, 39, 15, 164, 0, 10, 42, 16, 253, 182, 1, 118, 172, 42]
abbrev dktX7_passing_0 : List UInt8 := dkwX7_passing_0 ++ dktX7_passing_1
theorem dksX7_passing_0 : cX7_passing.data.toList.drop 0 = dktX7_passing_0 := by decide +kernel
theorem dksX7_passing_1 : cX7_passing.data.toList.drop 22 = dktX7_passing_1 := dk_seg dksX7_passing_0 22 rfl rfl
theorem dX7_passing_0 : decode cX7_passing 0 = .ok (.aload_n 0, 1) := dk_42 (dk_at dksX7_passing_0 0 rfl rfl)
theorem dX7_passing_1 : decode cX7_passing 1 = .ok (.getfield 7, 3) := dk_180 0 7 (dk_at dksX7_passing_0 1 rfl rfl)
theorem dX7_passing_4 : decode cX7_passing 4 = .ok (.iconst 5, 1) := dk_8 (dk_at dksX7_passing_0 4 rfl rfl)
theorem dX7_passing_5 : decode cX7_passing 5 = .ok (.iaload, 1) := dk_46 (dk_at dksX7_passing_0 5 rfl rfl)
theorem dX7_passing_6 : decode cX7_passing 6 = .ok (.iload_n 1, 1) := dk_27 (dk_at dksX7_passing_0 6 rfl rfl)
theorem dX7_passing_7 : decode cX7_passing 7 = .ok (.iadd, 1) := dk_96 (dk_at dksX7_passing_0 7 rfl rfl)
theorem dX7_passing_8 : decode cX7_passing 8 = .ok (.sipush 9999, 3) := dk_17 39 15 (dk_at dksX7_passing_0 8 rfl rfl)
theorem dX7_passing_11 : decode cX7_passing 11 = .ok (.if_icmp .le 10, 3) := dk_164 0 10 (dk_at dksX7_passing_0 11 rfl rfl)
theorem dX7_passing_14 : decode cX7_passing 14 = .ok (.aload_n 0, 1) := dk_42 (dk_at dksX7_passing_0 14 rfl rfl)
theorem dX7_passing_15 : decode cX7_passing 15 = .ok (.bipush (-3), 2) := dk_16 253 (dk_at dksX7_passing_0 15 rfl rfl)
theorem dX7_passing_17 : decode cX7_passing 17 = .ok (.invokevirtual 374, 3) := dk_182 1 118 (dk_at dksX7_passing_0 17 rfl rfl)
theorem dX7_passing_20 : decode cX7_passing 20 = .ok (.ireturn, 1) := dk_172 (dk_at dksX7_passing_0 20 rfl rfl)
theorem dX7_passing_21 : decode cX7_passing 21 = .ok (.aload_n 0, 1) := dk_42 (dk_at dksX7_passing_0 21 rfl rfl)
theorem dX7_passing_22 : decode cX7_passing 22 = .ok (.invokevirtual 377, 3) := dk_182 1 121 (dk_at dksX7_passing_1 0 rfl rfl)
theorem dX7_passing_25 : decode cX7_passing 25 = .ok (.aload_n 0, 1) := dk_42 (dk_at dksX7_passing_1 3 rfl rfl)
theorem dX7_passing_26 : decode cX7_passing 26 = .ok (.iload_n 1, 1) := dk_27 (dk_at dksX7_passing_1 4 rfl rfl)
theorem dX7_passing_27 : decode cX7_passing 27 = .ok (.invokevirtual 368, 3) := dk_182 1 112 (dk_at dksX7_passing_1 5 rfl rfl)
theorem dX7_passing_30 : decode cX7_passing 30 = .ok (.aload_n 0, 1) := dk_42 (dk_at dksX7_passing_1 8 rfl rfl)
theorem dX7_passing_31 : decode cX7_passing 31 = .ok (.getfield 7, 3) := dk_180 0 7 (dk_at dksX7_passing_1 9 rfl rfl)
theorem dX7_passing_34 : decode cX7_passing 34 = .ok (.bipush 6, 2) := dk_16 6 (dk_at dksX7_passing_1 12 rfl rfl)
theorem dX7_passing_36 : decode cX7_passing 36 = .ok (.iaload, 1) := dk_46 (dk_at dksX7_passing_1 14 rfl rfl)
theorem dX7_passing_37 : decode cX7_passing 37 = .ok (.ireturn, 1) := dk_172 (dk_at dksX7_passing_1 15 rfl rfl)
abbrev cX7_ticksPass : ByteArray := prog_19_method_30_code
def yX7_ticksPass : MethodName := ⟨RX7, "ticksPass", "(I)V"⟩
def dkwX7_ticksPass_0 : List UInt8 := [3, 61, 28, 27, 162, 0, 13, 42, 182, 0, 153, 132, 2, 1, 167, 255, 244, 177]
abbrev dktX7_ticksPass_0 : List UInt8 := dkwX7_ticksPass_0 ++ []
theorem dksX7_ticksPass_0 : cX7_ticksPass.data.toList.drop 0 = dktX7_ticksPass_0 := by decide +kernel
theorem dX7_ticksPass_0 : decode cX7_ticksPass 0 = .ok (.iconst 0, 1) := dk_3 (dk_at dksX7_ticksPass_0 0 rfl rfl)
theorem dX7_ticksPass_1 : decode cX7_ticksPass 1 = .ok (.istore_n 2, 1) := dk_61 (dk_at dksX7_ticksPass_0 1 rfl rfl)
theorem dX7_ticksPass_2 : decode cX7_ticksPass 2 = .ok (.iload_n 2, 1) := dk_28 (dk_at dksX7_ticksPass_0 2 rfl rfl)
theorem dX7_ticksPass_3 : decode cX7_ticksPass 3 = .ok (.iload_n 1, 1) := dk_27 (dk_at dksX7_ticksPass_0 3 rfl rfl)
theorem dX7_ticksPass_4 : decode cX7_ticksPass 4 = .ok (.if_icmp .ge 13, 3) := dk_162 0 13 (dk_at dksX7_ticksPass_0 4 rfl rfl)
theorem dX7_ticksPass_7 : decode cX7_ticksPass 7 = .ok (.aload_n 0, 1) := dk_42 (dk_at dksX7_ticksPass_0 7 rfl rfl)
theorem dX7_ticksPass_8 : decode cX7_ticksPass 8 = .ok (.invokevirtual 153, 3) := dk_182 0 153 (dk_at dksX7_ticksPass_0 8 rfl rfl)
theorem dX7_ticksPass_11 : decode cX7_ticksPass 11 = .ok (.iinc 2 1, 3) := dk_132 2 1 (dk_at dksX7_ticksPass_0 11 rfl rfl)
theorem dX7_ticksPass_14 : decode cX7_ticksPass 14 = .ok (.goto (-12), 3) := dk_167 255 244 (dk_at dksX7_ticksPass_0 14 rfl rfl)
theorem dX7_ticksPass_17 : decode cX7_ticksPass 17 = .ok (.return_, 1) := dk_177 (dk_at dksX7_ticksPass_0 17 rfl rfl)
abbrev cX7_tick : ByteArray := prog_19_method_29_code
def yX7_tick : MethodName := ⟨RX7, "tick", "()V"⟩
def dkwX7_tick_6 : List UInt8 := [46, 161, 0, 19, 42, 180, 0, 7, 16, 8, 5, 79, 42, 180, 0, 7, 16, 9, 3, 79, 177]
abbrev dktX7_tick_6 : List UInt8 := dkwX7_tick_6 ++ []
def dkwX7_tick_5 : List UInt8 := [46, 5, 160, 0, 10, 42, 182, 0, 150, 167, 0, 35, 42, 180, 0, 7, 16, 9, 46, 42, 180, 0, 7, 3]
abbrev dktX7_tick_5 : List UInt8 := dkwX7_tick_5 ++ dktX7_tick_6
def dkwX7_tick_4 : List UInt8 := [79, 42, 180, 0, 7, 16, 8, 46, 154, 0, 10, 42, 182, 0, 147, 167, 0, 53, 42, 180, 0, 7, 16, 8]
abbrev dktX7_tick_4 : List UInt8 := dkwX7_tick_4 ++ dktX7_tick_5
def dkwX7_tick_3 : List UInt8 := [158, 0, 8, 42, 27, 182, 0, 143, 132, 1, 1, 167, 255, 204, 42, 180, 0, 7, 16, 9, 92, 46, 4, 96]
abbrev dktX7_tick_3 : List UInt8 := dkwX7_tick_3 ++ dktX7_tick_4
def dkwX7_tick_2 : List UInt8 := [167, 0, 31, 42, 27, 8, 42, 27, 8, 182, 0, 91, 4, 96, 182, 0, 127, 42, 27, 6, 182, 0, 91]
abbrev dktX7_tick_2 : List UInt8 := dkwX7_tick_2 ++ dktX7_tick_3
def dkwX7_tick_1 : List UInt8 := [182, 0, 123, 3, 60, 27, 42, 180, 0, 7, 6, 46, 162, 0, 48, 42, 27, 182, 0, 140, 153, 0, 6]
abbrev dktX7_tick_1 : List UInt8 := dkwX7_tick_1 ++ dktX7_tick_2
def dkwX7_tick_0 : List UInt8 := [42, 180, 0, 7, 8, 92, 46, 4, 96, 79, 42, 180, 0, 7, 16, 8, 46, 153, 0, 10, 42, 16, 6, 4]
abbrev dktX7_tick_0 : List UInt8 := dkwX7_tick_0 ++ dktX7_tick_1
theorem dksX7_tick_0 : cX7_tick.data.toList.drop 0 = dktX7_tick_0 := by decide +kernel
theorem dksX7_tick_1 : cX7_tick.data.toList.drop 24 = dktX7_tick_1 := dk_seg dksX7_tick_0 24 rfl rfl
theorem dksX7_tick_2 : cX7_tick.data.toList.drop 47 = dktX7_tick_2 := dk_seg dksX7_tick_1 23 rfl rfl
theorem dksX7_tick_3 : cX7_tick.data.toList.drop 70 = dktX7_tick_3 := dk_seg dksX7_tick_2 23 rfl rfl
theorem dksX7_tick_4 : cX7_tick.data.toList.drop 94 = dktX7_tick_4 := dk_seg dksX7_tick_3 24 rfl rfl
theorem dksX7_tick_5 : cX7_tick.data.toList.drop 118 = dktX7_tick_5 := dk_seg dksX7_tick_4 24 rfl rfl
theorem dksX7_tick_6 : cX7_tick.data.toList.drop 142 = dktX7_tick_6 := dk_seg dksX7_tick_5 24 rfl rfl
theorem dX7_tick_0 : decode cX7_tick 0 = .ok (.aload_n 0, 1) := dk_42 (dk_at dksX7_tick_0 0 rfl rfl)
theorem dX7_tick_1 : decode cX7_tick 1 = .ok (.getfield 7, 3) := dk_180 0 7 (dk_at dksX7_tick_0 1 rfl rfl)
theorem dX7_tick_4 : decode cX7_tick 4 = .ok (.iconst 5, 1) := dk_8 (dk_at dksX7_tick_0 4 rfl rfl)
theorem dX7_tick_5 : decode cX7_tick 5 = .ok (.dup2, 1) := dk_92 (dk_at dksX7_tick_0 5 rfl rfl)
theorem dX7_tick_6 : decode cX7_tick 6 = .ok (.iaload, 1) := dk_46 (dk_at dksX7_tick_0 6 rfl rfl)
theorem dX7_tick_7 : decode cX7_tick 7 = .ok (.iconst 1, 1) := dk_4 (dk_at dksX7_tick_0 7 rfl rfl)
theorem dX7_tick_8 : decode cX7_tick 8 = .ok (.iadd, 1) := dk_96 (dk_at dksX7_tick_0 8 rfl rfl)
theorem dX7_tick_9 : decode cX7_tick 9 = .ok (.iastore, 1) := dk_79 (dk_at dksX7_tick_0 9 rfl rfl)
theorem dX7_tick_10 : decode cX7_tick 10 = .ok (.aload_n 0, 1) := dk_42 (dk_at dksX7_tick_0 10 rfl rfl)
theorem dX7_tick_11 : decode cX7_tick 11 = .ok (.getfield 7, 3) := dk_180 0 7 (dk_at dksX7_tick_0 11 rfl rfl)
theorem dX7_tick_14 : decode cX7_tick 14 = .ok (.bipush 8, 2) := dk_16 8 (dk_at dksX7_tick_0 14 rfl rfl)
theorem dX7_tick_16 : decode cX7_tick 16 = .ok (.iaload, 1) := dk_46 (dk_at dksX7_tick_0 16 rfl rfl)
theorem dX7_tick_17 : decode cX7_tick 17 = .ok (.ifCond .eq 10, 3) := dk_153 0 10 (dk_at dksX7_tick_0 17 rfl rfl)
theorem dX7_tick_20 : decode cX7_tick 20 = .ok (.aload_n 0, 1) := dk_42 (dk_at dksX7_tick_0 20 rfl rfl)
theorem dX7_tick_21 : decode cX7_tick 21 = .ok (.bipush 6, 2) := dk_16 6 (dk_at dksX7_tick_0 21 rfl rfl)
theorem dX7_tick_23 : decode cX7_tick 23 = .ok (.iconst 1, 1) := dk_4 (dk_at dksX7_tick_0 23 rfl rfl)
theorem dX7_tick_24 : decode cX7_tick 24 = .ok (.invokevirtual 123, 3) := dk_182 0 123 (dk_at dksX7_tick_1 0 rfl rfl)
theorem dX7_tick_27 : decode cX7_tick 27 = .ok (.iconst 0, 1) := dk_3 (dk_at dksX7_tick_1 3 rfl rfl)
theorem dX7_tick_28 : decode cX7_tick 28 = .ok (.istore_n 1, 1) := dk_60 (dk_at dksX7_tick_1 4 rfl rfl)
theorem dX7_tick_29 : decode cX7_tick 29 = .ok (.iload_n 1, 1) := dk_27 (dk_at dksX7_tick_1 5 rfl rfl)
theorem dX7_tick_30 : decode cX7_tick 30 = .ok (.aload_n 0, 1) := dk_42 (dk_at dksX7_tick_1 6 rfl rfl)
theorem dX7_tick_31 : decode cX7_tick 31 = .ok (.getfield 7, 3) := dk_180 0 7 (dk_at dksX7_tick_1 7 rfl rfl)
theorem dX7_tick_34 : decode cX7_tick 34 = .ok (.iconst 3, 1) := dk_6 (dk_at dksX7_tick_1 10 rfl rfl)
theorem dX7_tick_35 : decode cX7_tick 35 = .ok (.iaload, 1) := dk_46 (dk_at dksX7_tick_1 11 rfl rfl)
theorem dX7_tick_36 : decode cX7_tick 36 = .ok (.if_icmp .ge 48, 3) := dk_162 0 48 (dk_at dksX7_tick_1 12 rfl rfl)
theorem dX7_tick_39 : decode cX7_tick 39 = .ok (.aload_n 0, 1) := dk_42 (dk_at dksX7_tick_1 15 rfl rfl)
theorem dX7_tick_40 : decode cX7_tick 40 = .ok (.iload_n 1, 1) := dk_27 (dk_at dksX7_tick_1 16 rfl rfl)
theorem dX7_tick_41 : decode cX7_tick 41 = .ok (.invokevirtual 140, 3) := dk_182 0 140 (dk_at dksX7_tick_1 17 rfl rfl)
theorem dX7_tick_44 : decode cX7_tick 44 = .ok (.ifCond .eq 6, 3) := dk_153 0 6 (dk_at dksX7_tick_1 20 rfl rfl)
theorem dX7_tick_47 : decode cX7_tick 47 = .ok (.goto 31, 3) := dk_167 0 31 (dk_at dksX7_tick_2 0 rfl rfl)
theorem dX7_tick_50 : decode cX7_tick 50 = .ok (.aload_n 0, 1) := dk_42 (dk_at dksX7_tick_2 3 rfl rfl)
theorem dX7_tick_51 : decode cX7_tick 51 = .ok (.iload_n 1, 1) := dk_27 (dk_at dksX7_tick_2 4 rfl rfl)
theorem dX7_tick_52 : decode cX7_tick 52 = .ok (.iconst 5, 1) := dk_8 (dk_at dksX7_tick_2 5 rfl rfl)
theorem dX7_tick_53 : decode cX7_tick 53 = .ok (.aload_n 0, 1) := dk_42 (dk_at dksX7_tick_2 6 rfl rfl)
theorem dX7_tick_54 : decode cX7_tick 54 = .ok (.iload_n 1, 1) := dk_27 (dk_at dksX7_tick_2 7 rfl rfl)
theorem dX7_tick_55 : decode cX7_tick 55 = .ok (.iconst 5, 1) := dk_8 (dk_at dksX7_tick_2 8 rfl rfl)
theorem dX7_tick_56 : decode cX7_tick 56 = .ok (.invokevirtual 91, 3) := dk_182 0 91 (dk_at dksX7_tick_2 9 rfl rfl)
theorem dX7_tick_59 : decode cX7_tick 59 = .ok (.iconst 1, 1) := dk_4 (dk_at dksX7_tick_2 12 rfl rfl)
theorem dX7_tick_60 : decode cX7_tick 60 = .ok (.iadd, 1) := dk_96 (dk_at dksX7_tick_2 13 rfl rfl)
theorem dX7_tick_61 : decode cX7_tick 61 = .ok (.invokevirtual 127, 3) := dk_182 0 127 (dk_at dksX7_tick_2 14 rfl rfl)
theorem dX7_tick_64 : decode cX7_tick 64 = .ok (.aload_n 0, 1) := dk_42 (dk_at dksX7_tick_2 17 rfl rfl)
theorem dX7_tick_65 : decode cX7_tick 65 = .ok (.iload_n 1, 1) := dk_27 (dk_at dksX7_tick_2 18 rfl rfl)
theorem dX7_tick_66 : decode cX7_tick 66 = .ok (.iconst 3, 1) := dk_6 (dk_at dksX7_tick_2 19 rfl rfl)
theorem dX7_tick_67 : decode cX7_tick 67 = .ok (.invokevirtual 91, 3) := dk_182 0 91 (dk_at dksX7_tick_2 20 rfl rfl)
theorem dX7_tick_70 : decode cX7_tick 70 = .ok (.ifCond .le 8, 3) := dk_158 0 8 (dk_at dksX7_tick_3 0 rfl rfl)
theorem dX7_tick_73 : decode cX7_tick 73 = .ok (.aload_n 0, 1) := dk_42 (dk_at dksX7_tick_3 3 rfl rfl)
theorem dX7_tick_74 : decode cX7_tick 74 = .ok (.iload_n 1, 1) := dk_27 (dk_at dksX7_tick_3 4 rfl rfl)
theorem dX7_tick_75 : decode cX7_tick 75 = .ok (.invokevirtual 143, 3) := dk_182 0 143 (dk_at dksX7_tick_3 5 rfl rfl)
theorem dX7_tick_78 : decode cX7_tick 78 = .ok (.iinc 1 1, 3) := dk_132 1 1 (dk_at dksX7_tick_3 8 rfl rfl)
theorem dX7_tick_81 : decode cX7_tick 81 = .ok (.goto (-52), 3) := dk_167 255 204 (dk_at dksX7_tick_3 11 rfl rfl)
theorem dX7_tick_84 : decode cX7_tick 84 = .ok (.aload_n 0, 1) := dk_42 (dk_at dksX7_tick_3 14 rfl rfl)
theorem dX7_tick_85 : decode cX7_tick 85 = .ok (.getfield 7, 3) := dk_180 0 7 (dk_at dksX7_tick_3 15 rfl rfl)
theorem dX7_tick_88 : decode cX7_tick 88 = .ok (.bipush 9, 2) := dk_16 9 (dk_at dksX7_tick_3 18 rfl rfl)
theorem dX7_tick_90 : decode cX7_tick 90 = .ok (.dup2, 1) := dk_92 (dk_at dksX7_tick_3 20 rfl rfl)
theorem dX7_tick_91 : decode cX7_tick 91 = .ok (.iaload, 1) := dk_46 (dk_at dksX7_tick_3 21 rfl rfl)
theorem dX7_tick_92 : decode cX7_tick 92 = .ok (.iconst 1, 1) := dk_4 (dk_at dksX7_tick_3 22 rfl rfl)
theorem dX7_tick_93 : decode cX7_tick 93 = .ok (.iadd, 1) := dk_96 (dk_at dksX7_tick_3 23 rfl rfl)
theorem dX7_tick_94 : decode cX7_tick 94 = .ok (.iastore, 1) := dk_79 (dk_at dksX7_tick_4 0 rfl rfl)
theorem dX7_tick_95 : decode cX7_tick 95 = .ok (.aload_n 0, 1) := dk_42 (dk_at dksX7_tick_4 1 rfl rfl)
theorem dX7_tick_96 : decode cX7_tick 96 = .ok (.getfield 7, 3) := dk_180 0 7 (dk_at dksX7_tick_4 2 rfl rfl)
theorem dX7_tick_99 : decode cX7_tick 99 = .ok (.bipush 8, 2) := dk_16 8 (dk_at dksX7_tick_4 5 rfl rfl)
theorem dX7_tick_101 : decode cX7_tick 101 = .ok (.iaload, 1) := dk_46 (dk_at dksX7_tick_4 7 rfl rfl)
theorem dX7_tick_102 : decode cX7_tick 102 = .ok (.ifCond .ne 10, 3) := dk_154 0 10 (dk_at dksX7_tick_4 8 rfl rfl)
theorem dX7_tick_105 : decode cX7_tick 105 = .ok (.aload_n 0, 1) := dk_42 (dk_at dksX7_tick_4 11 rfl rfl)
theorem dX7_tick_106 : decode cX7_tick 106 = .ok (.invokevirtual 147, 3) := dk_182 0 147 (dk_at dksX7_tick_4 12 rfl rfl)
theorem dX7_tick_109 : decode cX7_tick 109 = .ok (.goto 53, 3) := dk_167 0 53 (dk_at dksX7_tick_4 15 rfl rfl)
theorem dX7_tick_112 : decode cX7_tick 112 = .ok (.aload_n 0, 1) := dk_42 (dk_at dksX7_tick_4 18 rfl rfl)
theorem dX7_tick_113 : decode cX7_tick 113 = .ok (.getfield 7, 3) := dk_180 0 7 (dk_at dksX7_tick_4 19 rfl rfl)
theorem dX7_tick_116 : decode cX7_tick 116 = .ok (.bipush 8, 2) := dk_16 8 (dk_at dksX7_tick_4 22 rfl rfl)
theorem dX7_tick_118 : decode cX7_tick 118 = .ok (.iaload, 1) := dk_46 (dk_at dksX7_tick_5 0 rfl rfl)
theorem dX7_tick_119 : decode cX7_tick 119 = .ok (.iconst 2, 1) := dk_5 (dk_at dksX7_tick_5 1 rfl rfl)
theorem dX7_tick_120 : decode cX7_tick 120 = .ok (.if_icmp .ne 10, 3) := dk_160 0 10 (dk_at dksX7_tick_5 2 rfl rfl)
theorem dX7_tick_123 : decode cX7_tick 123 = .ok (.aload_n 0, 1) := dk_42 (dk_at dksX7_tick_5 5 rfl rfl)
theorem dX7_tick_124 : decode cX7_tick 124 = .ok (.invokevirtual 150, 3) := dk_182 0 150 (dk_at dksX7_tick_5 6 rfl rfl)
theorem dX7_tick_127 : decode cX7_tick 127 = .ok (.goto 35, 3) := dk_167 0 35 (dk_at dksX7_tick_5 9 rfl rfl)
theorem dX7_tick_130 : decode cX7_tick 130 = .ok (.aload_n 0, 1) := dk_42 (dk_at dksX7_tick_5 12 rfl rfl)
theorem dX7_tick_131 : decode cX7_tick 131 = .ok (.getfield 7, 3) := dk_180 0 7 (dk_at dksX7_tick_5 13 rfl rfl)
theorem dX7_tick_134 : decode cX7_tick 134 = .ok (.bipush 9, 2) := dk_16 9 (dk_at dksX7_tick_5 16 rfl rfl)
theorem dX7_tick_136 : decode cX7_tick 136 = .ok (.iaload, 1) := dk_46 (dk_at dksX7_tick_5 18 rfl rfl)
theorem dX7_tick_137 : decode cX7_tick 137 = .ok (.aload_n 0, 1) := dk_42 (dk_at dksX7_tick_5 19 rfl rfl)
theorem dX7_tick_138 : decode cX7_tick 138 = .ok (.getfield 7, 3) := dk_180 0 7 (dk_at dksX7_tick_5 20 rfl rfl)
theorem dX7_tick_141 : decode cX7_tick 141 = .ok (.iconst 0, 1) := dk_3 (dk_at dksX7_tick_5 23 rfl rfl)
theorem dX7_tick_142 : decode cX7_tick 142 = .ok (.iaload, 1) := dk_46 (dk_at dksX7_tick_6 0 rfl rfl)
theorem dX7_tick_143 : decode cX7_tick 143 = .ok (.if_icmp .lt 19, 3) := dk_161 0 19 (dk_at dksX7_tick_6 1 rfl rfl)
theorem dX7_tick_146 : decode cX7_tick 146 = .ok (.aload_n 0, 1) := dk_42 (dk_at dksX7_tick_6 4 rfl rfl)
theorem dX7_tick_147 : decode cX7_tick 147 = .ok (.getfield 7, 3) := dk_180 0 7 (dk_at dksX7_tick_6 5 rfl rfl)
theorem dX7_tick_150 : decode cX7_tick 150 = .ok (.bipush 8, 2) := dk_16 8 (dk_at dksX7_tick_6 8 rfl rfl)
theorem dX7_tick_152 : decode cX7_tick 152 = .ok (.iconst 2, 1) := dk_5 (dk_at dksX7_tick_6 10 rfl rfl)
theorem dX7_tick_153 : decode cX7_tick 153 = .ok (.iastore, 1) := dk_79 (dk_at dksX7_tick_6 11 rfl rfl)
theorem dX7_tick_154 : decode cX7_tick 154 = .ok (.aload_n 0, 1) := dk_42 (dk_at dksX7_tick_6 12 rfl rfl)
theorem dX7_tick_155 : decode cX7_tick 155 = .ok (.getfield 7, 3) := dk_180 0 7 (dk_at dksX7_tick_6 13 rfl rfl)
theorem dX7_tick_158 : decode cX7_tick 158 = .ok (.bipush 9, 2) := dk_16 9 (dk_at dksX7_tick_6 16 rfl rfl)
theorem dX7_tick_160 : decode cX7_tick 160 = .ok (.iconst 0, 1) := dk_3 (dk_at dksX7_tick_6 18 rfl rfl)
theorem dX7_tick_161 : decode cX7_tick 161 = .ok (.iastore, 1) := dk_79 (dk_at dksX7_tick_6 19 rfl rfl)
theorem dX7_tick_162 : decode cX7_tick 162 = .ok (.return_, 1) := dk_177 (dk_at dksX7_tick_6 20 rfl rfl)
abbrev cX7_lightOf : ByteArray := prog_19_method_17_code
def yX7_lightOf : MethodName := ⟨RX7, "lightOf", "(I)I"⟩
def dkwX7_lightOf_3 : List UInt8 := [16, 8, 46, 4, 160, 0, 7, 4, 167, 0, 4, 5, 172]
abbrev dktX7_lightOf_3 : List UInt8 := dkwX7_lightOf_3 ++ []
def dkwX7_lightOf_2 : List UInt8 := [61, 42, 180, 0, 7, 16, 8, 46, 153, 0, 7, 28, 153, 0, 7, 3, 167, 0, 19, 42, 180, 0, 7]
abbrev dktX7_lightOf_2 : List UInt8 := dkwX7_lightOf_2 ++ dktX7_lightOf_3
def dkwX7_lightOf_1 : List UInt8 := [2, 159, 0, 22, 42, 42, 180, 0, 7, 16, 7, 46, 27, 182, 0, 87, 153, 0, 7, 4, 167, 0, 4, 3]
abbrev dktX7_lightOf_1 : List UInt8 := dkwX7_lightOf_1 ++ dktX7_lightOf_2
def dkwX7_lightOf_0 : List UInt8 := [42, 42, 180, 0, 7, 16, 6, 46, 27, 182, 0, 87, 154, 0, 5, 5, 172, 42, 180, 0, 7, 16, 7, 46]
abbrev dktX7_lightOf_0 : List UInt8 := dkwX7_lightOf_0 ++ dktX7_lightOf_1
theorem dksX7_lightOf_0 : cX7_lightOf.data.toList.drop 0 = dktX7_lightOf_0 := by decide +kernel
theorem dksX7_lightOf_1 : cX7_lightOf.data.toList.drop 24 = dktX7_lightOf_1 := dk_seg dksX7_lightOf_0 24 rfl rfl
theorem dksX7_lightOf_2 : cX7_lightOf.data.toList.drop 48 = dktX7_lightOf_2 := dk_seg dksX7_lightOf_1 24 rfl rfl
theorem dksX7_lightOf_3 : cX7_lightOf.data.toList.drop 71 = dktX7_lightOf_3 := dk_seg dksX7_lightOf_2 23 rfl rfl
theorem dX7_lightOf_0 : decode cX7_lightOf 0 = .ok (.aload_n 0, 1) := dk_42 (dk_at dksX7_lightOf_0 0 rfl rfl)
theorem dX7_lightOf_1 : decode cX7_lightOf 1 = .ok (.aload_n 0, 1) := dk_42 (dk_at dksX7_lightOf_0 1 rfl rfl)
theorem dX7_lightOf_2 : decode cX7_lightOf 2 = .ok (.getfield 7, 3) := dk_180 0 7 (dk_at dksX7_lightOf_0 2 rfl rfl)
theorem dX7_lightOf_5 : decode cX7_lightOf 5 = .ok (.bipush 6, 2) := dk_16 6 (dk_at dksX7_lightOf_0 5 rfl rfl)
theorem dX7_lightOf_7 : decode cX7_lightOf 7 = .ok (.iaload, 1) := dk_46 (dk_at dksX7_lightOf_0 7 rfl rfl)
theorem dX7_lightOf_8 : decode cX7_lightOf 8 = .ok (.iload_n 1, 1) := dk_27 (dk_at dksX7_lightOf_0 8 rfl rfl)
theorem dX7_lightOf_9 : decode cX7_lightOf 9 = .ok (.invokevirtual 87, 3) := dk_182 0 87 (dk_at dksX7_lightOf_0 9 rfl rfl)
theorem dX7_lightOf_12 : decode cX7_lightOf 12 = .ok (.ifCond .ne 5, 3) := dk_154 0 5 (dk_at dksX7_lightOf_0 12 rfl rfl)
theorem dX7_lightOf_15 : decode cX7_lightOf 15 = .ok (.iconst 2, 1) := dk_5 (dk_at dksX7_lightOf_0 15 rfl rfl)
theorem dX7_lightOf_16 : decode cX7_lightOf 16 = .ok (.ireturn, 1) := dk_172 (dk_at dksX7_lightOf_0 16 rfl rfl)
theorem dX7_lightOf_17 : decode cX7_lightOf 17 = .ok (.aload_n 0, 1) := dk_42 (dk_at dksX7_lightOf_0 17 rfl rfl)
theorem dX7_lightOf_18 : decode cX7_lightOf 18 = .ok (.getfield 7, 3) := dk_180 0 7 (dk_at dksX7_lightOf_0 18 rfl rfl)
theorem dX7_lightOf_21 : decode cX7_lightOf 21 = .ok (.bipush 7, 2) := dk_16 7 (dk_at dksX7_lightOf_0 21 rfl rfl)
theorem dX7_lightOf_23 : decode cX7_lightOf 23 = .ok (.iaload, 1) := dk_46 (dk_at dksX7_lightOf_0 23 rfl rfl)
theorem dX7_lightOf_24 : decode cX7_lightOf 24 = .ok (.iconst (-1), 1) := dk_2 (dk_at dksX7_lightOf_1 0 rfl rfl)
theorem dX7_lightOf_25 : decode cX7_lightOf 25 = .ok (.if_icmp .eq 22, 3) := dk_159 0 22 (dk_at dksX7_lightOf_1 1 rfl rfl)
theorem dX7_lightOf_28 : decode cX7_lightOf 28 = .ok (.aload_n 0, 1) := dk_42 (dk_at dksX7_lightOf_1 4 rfl rfl)
theorem dX7_lightOf_29 : decode cX7_lightOf 29 = .ok (.aload_n 0, 1) := dk_42 (dk_at dksX7_lightOf_1 5 rfl rfl)
theorem dX7_lightOf_30 : decode cX7_lightOf 30 = .ok (.getfield 7, 3) := dk_180 0 7 (dk_at dksX7_lightOf_1 6 rfl rfl)
theorem dX7_lightOf_33 : decode cX7_lightOf 33 = .ok (.bipush 7, 2) := dk_16 7 (dk_at dksX7_lightOf_1 9 rfl rfl)
theorem dX7_lightOf_35 : decode cX7_lightOf 35 = .ok (.iaload, 1) := dk_46 (dk_at dksX7_lightOf_1 11 rfl rfl)
theorem dX7_lightOf_36 : decode cX7_lightOf 36 = .ok (.iload_n 1, 1) := dk_27 (dk_at dksX7_lightOf_1 12 rfl rfl)
theorem dX7_lightOf_37 : decode cX7_lightOf 37 = .ok (.invokevirtual 87, 3) := dk_182 0 87 (dk_at dksX7_lightOf_1 13 rfl rfl)
theorem dX7_lightOf_40 : decode cX7_lightOf 40 = .ok (.ifCond .eq 7, 3) := dk_153 0 7 (dk_at dksX7_lightOf_1 16 rfl rfl)
theorem dX7_lightOf_43 : decode cX7_lightOf 43 = .ok (.iconst 1, 1) := dk_4 (dk_at dksX7_lightOf_1 19 rfl rfl)
theorem dX7_lightOf_44 : decode cX7_lightOf 44 = .ok (.goto 4, 3) := dk_167 0 4 (dk_at dksX7_lightOf_1 20 rfl rfl)
theorem dX7_lightOf_47 : decode cX7_lightOf 47 = .ok (.iconst 0, 1) := dk_3 (dk_at dksX7_lightOf_1 23 rfl rfl)
theorem dX7_lightOf_48 : decode cX7_lightOf 48 = .ok (.istore_n 2, 1) := dk_61 (dk_at dksX7_lightOf_2 0 rfl rfl)
theorem dX7_lightOf_49 : decode cX7_lightOf 49 = .ok (.aload_n 0, 1) := dk_42 (dk_at dksX7_lightOf_2 1 rfl rfl)
theorem dX7_lightOf_50 : decode cX7_lightOf 50 = .ok (.getfield 7, 3) := dk_180 0 7 (dk_at dksX7_lightOf_2 2 rfl rfl)
theorem dX7_lightOf_53 : decode cX7_lightOf 53 = .ok (.bipush 8, 2) := dk_16 8 (dk_at dksX7_lightOf_2 5 rfl rfl)
theorem dX7_lightOf_55 : decode cX7_lightOf 55 = .ok (.iaload, 1) := dk_46 (dk_at dksX7_lightOf_2 7 rfl rfl)
theorem dX7_lightOf_56 : decode cX7_lightOf 56 = .ok (.ifCond .eq 7, 3) := dk_153 0 7 (dk_at dksX7_lightOf_2 8 rfl rfl)
theorem dX7_lightOf_59 : decode cX7_lightOf 59 = .ok (.iload_n 2, 1) := dk_28 (dk_at dksX7_lightOf_2 11 rfl rfl)
theorem dX7_lightOf_60 : decode cX7_lightOf 60 = .ok (.ifCond .eq 7, 3) := dk_153 0 7 (dk_at dksX7_lightOf_2 12 rfl rfl)
theorem dX7_lightOf_63 : decode cX7_lightOf 63 = .ok (.iconst 0, 1) := dk_3 (dk_at dksX7_lightOf_2 15 rfl rfl)
theorem dX7_lightOf_64 : decode cX7_lightOf 64 = .ok (.goto 19, 3) := dk_167 0 19 (dk_at dksX7_lightOf_2 16 rfl rfl)
theorem dX7_lightOf_67 : decode cX7_lightOf 67 = .ok (.aload_n 0, 1) := dk_42 (dk_at dksX7_lightOf_2 19 rfl rfl)
theorem dX7_lightOf_68 : decode cX7_lightOf 68 = .ok (.getfield 7, 3) := dk_180 0 7 (dk_at dksX7_lightOf_2 20 rfl rfl)
theorem dX7_lightOf_71 : decode cX7_lightOf 71 = .ok (.bipush 8, 2) := dk_16 8 (dk_at dksX7_lightOf_3 0 rfl rfl)
theorem dX7_lightOf_73 : decode cX7_lightOf 73 = .ok (.iaload, 1) := dk_46 (dk_at dksX7_lightOf_3 2 rfl rfl)
theorem dX7_lightOf_74 : decode cX7_lightOf 74 = .ok (.iconst 1, 1) := dk_4 (dk_at dksX7_lightOf_3 3 rfl rfl)
theorem dX7_lightOf_75 : decode cX7_lightOf 75 = .ok (.if_icmp .ne 7, 3) := dk_160 0 7 (dk_at dksX7_lightOf_3 4 rfl rfl)
theorem dX7_lightOf_78 : decode cX7_lightOf 78 = .ok (.iconst 1, 1) := dk_4 (dk_at dksX7_lightOf_3 7 rfl rfl)
theorem dX7_lightOf_79 : decode cX7_lightOf 79 = .ok (.goto 4, 3) := dk_167 0 4 (dk_at dksX7_lightOf_3 8 rfl rfl)
theorem dX7_lightOf_82 : decode cX7_lightOf 82 = .ok (.iconst 2, 1) := dk_5 (dk_at dksX7_lightOf_3 11 rfl rfl)
theorem dX7_lightOf_83 : decode cX7_lightOf 83 = .ok (.ireturn, 1) := dk_172 (dk_at dksX7_lightOf_3 12 rfl rfl)
abbrev cX7_carGoes : ByteArray := prog_19_method_26_code
def yX7_carGoes : MethodName := ⟨RX7, "carGoes", "(I)V"⟩
def dkwX7_carGoes_3 : List UInt8 := [16, 99, 27, 104, 96, 28, 96, 42, 27, 28, 4, 96, 182, 0, 99, 79, 132, 2, 1, 167, 255, 220, 177]
abbrev dktX7_carGoes_3 : List UInt8 := dkwX7_carGoes_3 ++ []
def dkwX7_carGoes_2 : List UInt8 := [100, 182, 0, 127, 3, 61, 28, 42, 27, 6, 182, 0, 91, 162, 0, 32, 42, 180, 0, 7, 17, 0, 201]
abbrev dktX7_carGoes_2 : List UInt8 := dkwX7_carGoes_2 ++ dktX7_carGoes_3
def dkwX7_carGoes_1 : List UInt8 := [42, 27, 7, 42, 27, 7, 182, 0, 91, 4, 96, 182, 0, 127, 42, 27, 6, 42, 27, 6, 182, 0, 91, 4]
abbrev dktX7_carGoes_1 : List UInt8 := dkwX7_carGoes_1 ++ dktX7_carGoes_2
def dkwX7_carGoes_0 : List UInt8 := [42, 4, 4, 182, 0, 123, 42, 5, 42, 180, 0, 7, 8, 46, 42, 27, 3, 182, 0, 99, 100, 182, 0, 123]
abbrev dktX7_carGoes_0 : List UInt8 := dkwX7_carGoes_0 ++ dktX7_carGoes_1
theorem dksX7_carGoes_0 : cX7_carGoes.data.toList.drop 0 = dktX7_carGoes_0 := by decide +kernel
theorem dksX7_carGoes_1 : cX7_carGoes.data.toList.drop 24 = dktX7_carGoes_1 := dk_seg dksX7_carGoes_0 24 rfl rfl
theorem dksX7_carGoes_2 : cX7_carGoes.data.toList.drop 48 = dktX7_carGoes_2 := dk_seg dksX7_carGoes_1 24 rfl rfl
theorem dksX7_carGoes_3 : cX7_carGoes.data.toList.drop 71 = dktX7_carGoes_3 := dk_seg dksX7_carGoes_2 23 rfl rfl
theorem dX7_carGoes_0 : decode cX7_carGoes 0 = .ok (.aload_n 0, 1) := dk_42 (dk_at dksX7_carGoes_0 0 rfl rfl)
theorem dX7_carGoes_1 : decode cX7_carGoes 1 = .ok (.iconst 1, 1) := dk_4 (dk_at dksX7_carGoes_0 1 rfl rfl)
theorem dX7_carGoes_2 : decode cX7_carGoes 2 = .ok (.iconst 1, 1) := dk_4 (dk_at dksX7_carGoes_0 2 rfl rfl)
theorem dX7_carGoes_3 : decode cX7_carGoes 3 = .ok (.invokevirtual 123, 3) := dk_182 0 123 (dk_at dksX7_carGoes_0 3 rfl rfl)
theorem dX7_carGoes_6 : decode cX7_carGoes 6 = .ok (.aload_n 0, 1) := dk_42 (dk_at dksX7_carGoes_0 6 rfl rfl)
theorem dX7_carGoes_7 : decode cX7_carGoes 7 = .ok (.iconst 2, 1) := dk_5 (dk_at dksX7_carGoes_0 7 rfl rfl)
theorem dX7_carGoes_8 : decode cX7_carGoes 8 = .ok (.aload_n 0, 1) := dk_42 (dk_at dksX7_carGoes_0 8 rfl rfl)
theorem dX7_carGoes_9 : decode cX7_carGoes 9 = .ok (.getfield 7, 3) := dk_180 0 7 (dk_at dksX7_carGoes_0 9 rfl rfl)
theorem dX7_carGoes_12 : decode cX7_carGoes 12 = .ok (.iconst 5, 1) := dk_8 (dk_at dksX7_carGoes_0 12 rfl rfl)
theorem dX7_carGoes_13 : decode cX7_carGoes 13 = .ok (.iaload, 1) := dk_46 (dk_at dksX7_carGoes_0 13 rfl rfl)
theorem dX7_carGoes_14 : decode cX7_carGoes 14 = .ok (.aload_n 0, 1) := dk_42 (dk_at dksX7_carGoes_0 14 rfl rfl)
theorem dX7_carGoes_15 : decode cX7_carGoes 15 = .ok (.iload_n 1, 1) := dk_27 (dk_at dksX7_carGoes_0 15 rfl rfl)
theorem dX7_carGoes_16 : decode cX7_carGoes 16 = .ok (.iconst 0, 1) := dk_3 (dk_at dksX7_carGoes_0 16 rfl rfl)
theorem dX7_carGoes_17 : decode cX7_carGoes 17 = .ok (.invokevirtual 99, 3) := dk_182 0 99 (dk_at dksX7_carGoes_0 17 rfl rfl)
theorem dX7_carGoes_20 : decode cX7_carGoes 20 = .ok (.isub, 1) := dk_100 (dk_at dksX7_carGoes_0 20 rfl rfl)
theorem dX7_carGoes_21 : decode cX7_carGoes 21 = .ok (.invokevirtual 123, 3) := dk_182 0 123 (dk_at dksX7_carGoes_0 21 rfl rfl)
theorem dX7_carGoes_24 : decode cX7_carGoes 24 = .ok (.aload_n 0, 1) := dk_42 (dk_at dksX7_carGoes_1 0 rfl rfl)
theorem dX7_carGoes_25 : decode cX7_carGoes 25 = .ok (.iload_n 1, 1) := dk_27 (dk_at dksX7_carGoes_1 1 rfl rfl)
theorem dX7_carGoes_26 : decode cX7_carGoes 26 = .ok (.iconst 4, 1) := dk_7 (dk_at dksX7_carGoes_1 2 rfl rfl)
theorem dX7_carGoes_27 : decode cX7_carGoes 27 = .ok (.aload_n 0, 1) := dk_42 (dk_at dksX7_carGoes_1 3 rfl rfl)
theorem dX7_carGoes_28 : decode cX7_carGoes 28 = .ok (.iload_n 1, 1) := dk_27 (dk_at dksX7_carGoes_1 4 rfl rfl)
theorem dX7_carGoes_29 : decode cX7_carGoes 29 = .ok (.iconst 4, 1) := dk_7 (dk_at dksX7_carGoes_1 5 rfl rfl)
theorem dX7_carGoes_30 : decode cX7_carGoes 30 = .ok (.invokevirtual 91, 3) := dk_182 0 91 (dk_at dksX7_carGoes_1 6 rfl rfl)
theorem dX7_carGoes_33 : decode cX7_carGoes 33 = .ok (.iconst 1, 1) := dk_4 (dk_at dksX7_carGoes_1 9 rfl rfl)
theorem dX7_carGoes_34 : decode cX7_carGoes 34 = .ok (.iadd, 1) := dk_96 (dk_at dksX7_carGoes_1 10 rfl rfl)
theorem dX7_carGoes_35 : decode cX7_carGoes 35 = .ok (.invokevirtual 127, 3) := dk_182 0 127 (dk_at dksX7_carGoes_1 11 rfl rfl)
theorem dX7_carGoes_38 : decode cX7_carGoes 38 = .ok (.aload_n 0, 1) := dk_42 (dk_at dksX7_carGoes_1 14 rfl rfl)
theorem dX7_carGoes_39 : decode cX7_carGoes 39 = .ok (.iload_n 1, 1) := dk_27 (dk_at dksX7_carGoes_1 15 rfl rfl)
theorem dX7_carGoes_40 : decode cX7_carGoes 40 = .ok (.iconst 3, 1) := dk_6 (dk_at dksX7_carGoes_1 16 rfl rfl)
theorem dX7_carGoes_41 : decode cX7_carGoes 41 = .ok (.aload_n 0, 1) := dk_42 (dk_at dksX7_carGoes_1 17 rfl rfl)
theorem dX7_carGoes_42 : decode cX7_carGoes 42 = .ok (.iload_n 1, 1) := dk_27 (dk_at dksX7_carGoes_1 18 rfl rfl)
theorem dX7_carGoes_43 : decode cX7_carGoes 43 = .ok (.iconst 3, 1) := dk_6 (dk_at dksX7_carGoes_1 19 rfl rfl)
theorem dX7_carGoes_44 : decode cX7_carGoes 44 = .ok (.invokevirtual 91, 3) := dk_182 0 91 (dk_at dksX7_carGoes_1 20 rfl rfl)
theorem dX7_carGoes_47 : decode cX7_carGoes 47 = .ok (.iconst 1, 1) := dk_4 (dk_at dksX7_carGoes_1 23 rfl rfl)
theorem dX7_carGoes_48 : decode cX7_carGoes 48 = .ok (.isub, 1) := dk_100 (dk_at dksX7_carGoes_2 0 rfl rfl)
theorem dX7_carGoes_49 : decode cX7_carGoes 49 = .ok (.invokevirtual 127, 3) := dk_182 0 127 (dk_at dksX7_carGoes_2 1 rfl rfl)
theorem dX7_carGoes_52 : decode cX7_carGoes 52 = .ok (.iconst 0, 1) := dk_3 (dk_at dksX7_carGoes_2 4 rfl rfl)
theorem dX7_carGoes_53 : decode cX7_carGoes 53 = .ok (.istore_n 2, 1) := dk_61 (dk_at dksX7_carGoes_2 5 rfl rfl)
theorem dX7_carGoes_54 : decode cX7_carGoes 54 = .ok (.iload_n 2, 1) := dk_28 (dk_at dksX7_carGoes_2 6 rfl rfl)
theorem dX7_carGoes_55 : decode cX7_carGoes 55 = .ok (.aload_n 0, 1) := dk_42 (dk_at dksX7_carGoes_2 7 rfl rfl)
theorem dX7_carGoes_56 : decode cX7_carGoes 56 = .ok (.iload_n 1, 1) := dk_27 (dk_at dksX7_carGoes_2 8 rfl rfl)
theorem dX7_carGoes_57 : decode cX7_carGoes 57 = .ok (.iconst 3, 1) := dk_6 (dk_at dksX7_carGoes_2 9 rfl rfl)
theorem dX7_carGoes_58 : decode cX7_carGoes 58 = .ok (.invokevirtual 91, 3) := dk_182 0 91 (dk_at dksX7_carGoes_2 10 rfl rfl)
theorem dX7_carGoes_61 : decode cX7_carGoes 61 = .ok (.if_icmp .ge 32, 3) := dk_162 0 32 (dk_at dksX7_carGoes_2 13 rfl rfl)
theorem dX7_carGoes_64 : decode cX7_carGoes 64 = .ok (.aload_n 0, 1) := dk_42 (dk_at dksX7_carGoes_2 16 rfl rfl)
theorem dX7_carGoes_65 : decode cX7_carGoes 65 = .ok (.getfield 7, 3) := dk_180 0 7 (dk_at dksX7_carGoes_2 17 rfl rfl)
theorem dX7_carGoes_68 : decode cX7_carGoes 68 = .ok (.sipush 201, 3) := dk_17 0 201 (dk_at dksX7_carGoes_2 20 rfl rfl)
theorem dX7_carGoes_71 : decode cX7_carGoes 71 = .ok (.bipush 99, 2) := dk_16 99 (dk_at dksX7_carGoes_3 0 rfl rfl)
theorem dX7_carGoes_73 : decode cX7_carGoes 73 = .ok (.iload_n 1, 1) := dk_27 (dk_at dksX7_carGoes_3 2 rfl rfl)
theorem dX7_carGoes_74 : decode cX7_carGoes 74 = .ok (.imul, 1) := dk_104 (dk_at dksX7_carGoes_3 3 rfl rfl)
theorem dX7_carGoes_75 : decode cX7_carGoes 75 = .ok (.iadd, 1) := dk_96 (dk_at dksX7_carGoes_3 4 rfl rfl)
theorem dX7_carGoes_76 : decode cX7_carGoes 76 = .ok (.iload_n 2, 1) := dk_28 (dk_at dksX7_carGoes_3 5 rfl rfl)
theorem dX7_carGoes_77 : decode cX7_carGoes 77 = .ok (.iadd, 1) := dk_96 (dk_at dksX7_carGoes_3 6 rfl rfl)
theorem dX7_carGoes_78 : decode cX7_carGoes 78 = .ok (.aload_n 0, 1) := dk_42 (dk_at dksX7_carGoes_3 7 rfl rfl)
theorem dX7_carGoes_79 : decode cX7_carGoes 79 = .ok (.iload_n 1, 1) := dk_27 (dk_at dksX7_carGoes_3 8 rfl rfl)
theorem dX7_carGoes_80 : decode cX7_carGoes 80 = .ok (.iload_n 2, 1) := dk_28 (dk_at dksX7_carGoes_3 9 rfl rfl)
theorem dX7_carGoes_81 : decode cX7_carGoes 81 = .ok (.iconst 1, 1) := dk_4 (dk_at dksX7_carGoes_3 10 rfl rfl)
theorem dX7_carGoes_82 : decode cX7_carGoes 82 = .ok (.iadd, 1) := dk_96 (dk_at dksX7_carGoes_3 11 rfl rfl)
theorem dX7_carGoes_83 : decode cX7_carGoes 83 = .ok (.invokevirtual 99, 3) := dk_182 0 99 (dk_at dksX7_carGoes_3 12 rfl rfl)
theorem dX7_carGoes_86 : decode cX7_carGoes 86 = .ok (.iastore, 1) := dk_79 (dk_at dksX7_carGoes_3 15 rfl rfl)
theorem dX7_carGoes_87 : decode cX7_carGoes 87 = .ok (.iinc 2 1, 3) := dk_132 2 1 (dk_at dksX7_carGoes_3 16 rfl rfl)
theorem dX7_carGoes_90 : decode cX7_carGoes 90 = .ok (.goto (-36), 3) := dk_167 255 220 (dk_at dksX7_carGoes_3 19 rfl rfl)
theorem dX7_carGoes_93 : decode cX7_carGoes 93 = .ok (.return_, 1) := dk_177 (dk_at dksX7_carGoes_3 22 rfl rfl)
abbrev cX7_carAt : ByteArray := prog_19_method_13_code
def yX7_carAt : MethodName := ⟨RX7, "carAt", "(II)I"⟩
def dkwX7_carAt_0 : List UInt8 := [42, 180, 0, 7, 17, 0, 201, 16, 99, 27, 104, 96, 28, 96, 46, 172]
abbrev dktX7_carAt_0 : List UInt8 := dkwX7_carAt_0 ++ []
theorem dksX7_carAt_0 : cX7_carAt.data.toList.drop 0 = dktX7_carAt_0 := by decide +kernel
theorem dX7_carAt_0 : decode cX7_carAt 0 = .ok (.aload_n 0, 1) := dk_42 (dk_at dksX7_carAt_0 0 rfl rfl)
theorem dX7_carAt_1 : decode cX7_carAt 1 = .ok (.getfield 7, 3) := dk_180 0 7 (dk_at dksX7_carAt_0 1 rfl rfl)
theorem dX7_carAt_4 : decode cX7_carAt 4 = .ok (.sipush 201, 3) := dk_17 0 201 (dk_at dksX7_carAt_0 4 rfl rfl)
theorem dX7_carAt_7 : decode cX7_carAt 7 = .ok (.bipush 99, 2) := dk_16 99 (dk_at dksX7_carAt_0 7 rfl rfl)
theorem dX7_carAt_9 : decode cX7_carAt 9 = .ok (.iload_n 1, 1) := dk_27 (dk_at dksX7_carAt_0 9 rfl rfl)
theorem dX7_carAt_10 : decode cX7_carAt 10 = .ok (.imul, 1) := dk_104 (dk_at dksX7_carAt_0 10 rfl rfl)
theorem dX7_carAt_11 : decode cX7_carAt 11 = .ok (.iadd, 1) := dk_96 (dk_at dksX7_carAt_0 11 rfl rfl)
theorem dX7_carAt_12 : decode cX7_carAt 12 = .ok (.iload_n 2, 1) := dk_28 (dk_at dksX7_carAt_0 12 rfl rfl)
theorem dX7_carAt_13 : decode cX7_carAt 13 = .ok (.iadd, 1) := dk_96 (dk_at dksX7_carAt_0 13 rfl rfl)
theorem dX7_carAt_14 : decode cX7_carAt 14 = .ok (.iaload, 1) := dk_46 (dk_at dksX7_carAt_0 14 rfl rfl)
theorem dX7_carAt_15 : decode cX7_carAt 15 = .ok (.ireturn, 1) := dk_172 (dk_at dksX7_carAt_0 15 rfl rfl)
abbrev cX7_endsGreen : ByteArray := prog_19_method_27_code
def yX7_endsGreen : MethodName := ⟨RX7, "endsGreen", "()V"⟩
def dkwX7_endsGreen_4 : List UInt8 := [16, 8, 4, 79, 42, 180, 0, 7, 16, 9, 3, 79, 177]
abbrev dktX7_endsGreen_4 : List UInt8 := dkwX7_endsGreen_4 ++ []
def dkwX7_endsGreen_3 : List UInt8 := [177, 28, 153, 0, 9, 42, 7, 4, 182, 0, 123, 42, 180, 0, 7, 16, 7, 27, 79, 42, 180, 0, 7]
abbrev dktX7_endsGreen_3 : List UInt8 := dkwX7_endsGreen_3 ++ dktX7_endsGreen_4
def dkwX7_endsGreen_2 : List UInt8 := [3, 182, 0, 79, 161, 0, 20, 27, 2, 159, 0, 15, 28, 154, 0, 12, 42, 182, 0, 134, 2, 159, 0, 4]
abbrev dktX7_endsGreen_2 : List UInt8 := dkwX7_endsGreen_2 ++ dktX7_endsGreen_3
def dkwX7_endsGreen_1 : List UInt8 := [161, 0, 7, 4, 167, 0, 4, 3, 61, 42, 180, 0, 7, 16, 9, 46, 42, 42, 180, 0, 7, 16, 6, 46]
abbrev dktX7_endsGreen_1 : List UInt8 := dkwX7_endsGreen_1 ++ dktX7_endsGreen_2
def dkwX7_endsGreen_0 : List UInt8 := [42, 182, 0, 131, 60, 42, 180, 0, 7, 16, 9, 46, 42, 42, 180, 0, 7, 16, 6, 46, 4, 182, 0, 79]
abbrev dktX7_endsGreen_0 : List UInt8 := dkwX7_endsGreen_0 ++ dktX7_endsGreen_1
theorem dksX7_endsGreen_0 : cX7_endsGreen.data.toList.drop 0 = dktX7_endsGreen_0 := by decide +kernel
theorem dksX7_endsGreen_1 : cX7_endsGreen.data.toList.drop 24 = dktX7_endsGreen_1 := dk_seg dksX7_endsGreen_0 24 rfl rfl
theorem dksX7_endsGreen_2 : cX7_endsGreen.data.toList.drop 48 = dktX7_endsGreen_2 := dk_seg dksX7_endsGreen_1 24 rfl rfl
theorem dksX7_endsGreen_3 : cX7_endsGreen.data.toList.drop 72 = dktX7_endsGreen_3 := dk_seg dksX7_endsGreen_2 24 rfl rfl
theorem dksX7_endsGreen_4 : cX7_endsGreen.data.toList.drop 95 = dktX7_endsGreen_4 := dk_seg dksX7_endsGreen_3 23 rfl rfl
theorem dX7_endsGreen_0 : decode cX7_endsGreen 0 = .ok (.aload_n 0, 1) := dk_42 (dk_at dksX7_endsGreen_0 0 rfl rfl)
theorem dX7_endsGreen_1 : decode cX7_endsGreen 1 = .ok (.invokevirtual 131, 3) := dk_182 0 131 (dk_at dksX7_endsGreen_0 1 rfl rfl)
theorem dX7_endsGreen_4 : decode cX7_endsGreen 4 = .ok (.istore_n 1, 1) := dk_60 (dk_at dksX7_endsGreen_0 4 rfl rfl)
theorem dX7_endsGreen_5 : decode cX7_endsGreen 5 = .ok (.aload_n 0, 1) := dk_42 (dk_at dksX7_endsGreen_0 5 rfl rfl)
theorem dX7_endsGreen_6 : decode cX7_endsGreen 6 = .ok (.getfield 7, 3) := dk_180 0 7 (dk_at dksX7_endsGreen_0 6 rfl rfl)
theorem dX7_endsGreen_9 : decode cX7_endsGreen 9 = .ok (.bipush 9, 2) := dk_16 9 (dk_at dksX7_endsGreen_0 9 rfl rfl)
theorem dX7_endsGreen_11 : decode cX7_endsGreen 11 = .ok (.iaload, 1) := dk_46 (dk_at dksX7_endsGreen_0 11 rfl rfl)
theorem dX7_endsGreen_12 : decode cX7_endsGreen 12 = .ok (.aload_n 0, 1) := dk_42 (dk_at dksX7_endsGreen_0 12 rfl rfl)
theorem dX7_endsGreen_13 : decode cX7_endsGreen 13 = .ok (.aload_n 0, 1) := dk_42 (dk_at dksX7_endsGreen_0 13 rfl rfl)
theorem dX7_endsGreen_14 : decode cX7_endsGreen 14 = .ok (.getfield 7, 3) := dk_180 0 7 (dk_at dksX7_endsGreen_0 14 rfl rfl)
theorem dX7_endsGreen_17 : decode cX7_endsGreen 17 = .ok (.bipush 6, 2) := dk_16 6 (dk_at dksX7_endsGreen_0 17 rfl rfl)
theorem dX7_endsGreen_19 : decode cX7_endsGreen 19 = .ok (.iaload, 1) := dk_46 (dk_at dksX7_endsGreen_0 19 rfl rfl)
theorem dX7_endsGreen_20 : decode cX7_endsGreen 20 = .ok (.iconst 1, 1) := dk_4 (dk_at dksX7_endsGreen_0 20 rfl rfl)
theorem dX7_endsGreen_21 : decode cX7_endsGreen 21 = .ok (.invokevirtual 79, 3) := dk_182 0 79 (dk_at dksX7_endsGreen_0 21 rfl rfl)
theorem dX7_endsGreen_24 : decode cX7_endsGreen 24 = .ok (.if_icmp .lt 7, 3) := dk_161 0 7 (dk_at dksX7_endsGreen_1 0 rfl rfl)
theorem dX7_endsGreen_27 : decode cX7_endsGreen 27 = .ok (.iconst 1, 1) := dk_4 (dk_at dksX7_endsGreen_1 3 rfl rfl)
theorem dX7_endsGreen_28 : decode cX7_endsGreen 28 = .ok (.goto 4, 3) := dk_167 0 4 (dk_at dksX7_endsGreen_1 4 rfl rfl)
theorem dX7_endsGreen_31 : decode cX7_endsGreen 31 = .ok (.iconst 0, 1) := dk_3 (dk_at dksX7_endsGreen_1 7 rfl rfl)
theorem dX7_endsGreen_32 : decode cX7_endsGreen 32 = .ok (.istore_n 2, 1) := dk_61 (dk_at dksX7_endsGreen_1 8 rfl rfl)
theorem dX7_endsGreen_33 : decode cX7_endsGreen 33 = .ok (.aload_n 0, 1) := dk_42 (dk_at dksX7_endsGreen_1 9 rfl rfl)
theorem dX7_endsGreen_34 : decode cX7_endsGreen 34 = .ok (.getfield 7, 3) := dk_180 0 7 (dk_at dksX7_endsGreen_1 10 rfl rfl)
theorem dX7_endsGreen_37 : decode cX7_endsGreen 37 = .ok (.bipush 9, 2) := dk_16 9 (dk_at dksX7_endsGreen_1 13 rfl rfl)
theorem dX7_endsGreen_39 : decode cX7_endsGreen 39 = .ok (.iaload, 1) := dk_46 (dk_at dksX7_endsGreen_1 15 rfl rfl)
theorem dX7_endsGreen_40 : decode cX7_endsGreen 40 = .ok (.aload_n 0, 1) := dk_42 (dk_at dksX7_endsGreen_1 16 rfl rfl)
theorem dX7_endsGreen_41 : decode cX7_endsGreen 41 = .ok (.aload_n 0, 1) := dk_42 (dk_at dksX7_endsGreen_1 17 rfl rfl)
theorem dX7_endsGreen_42 : decode cX7_endsGreen 42 = .ok (.getfield 7, 3) := dk_180 0 7 (dk_at dksX7_endsGreen_1 18 rfl rfl)
theorem dX7_endsGreen_45 : decode cX7_endsGreen 45 = .ok (.bipush 6, 2) := dk_16 6 (dk_at dksX7_endsGreen_1 21 rfl rfl)
theorem dX7_endsGreen_47 : decode cX7_endsGreen 47 = .ok (.iaload, 1) := dk_46 (dk_at dksX7_endsGreen_1 23 rfl rfl)
theorem dX7_endsGreen_48 : decode cX7_endsGreen 48 = .ok (.iconst 0, 1) := dk_3 (dk_at dksX7_endsGreen_2 0 rfl rfl)
theorem dX7_endsGreen_49 : decode cX7_endsGreen 49 = .ok (.invokevirtual 79, 3) := dk_182 0 79 (dk_at dksX7_endsGreen_2 1 rfl rfl)
theorem dX7_endsGreen_52 : decode cX7_endsGreen 52 = .ok (.if_icmp .lt 20, 3) := dk_161 0 20 (dk_at dksX7_endsGreen_2 4 rfl rfl)
theorem dX7_endsGreen_55 : decode cX7_endsGreen 55 = .ok (.iload_n 1, 1) := dk_27 (dk_at dksX7_endsGreen_2 7 rfl rfl)
theorem dX7_endsGreen_56 : decode cX7_endsGreen 56 = .ok (.iconst (-1), 1) := dk_2 (dk_at dksX7_endsGreen_2 8 rfl rfl)
theorem dX7_endsGreen_57 : decode cX7_endsGreen 57 = .ok (.if_icmp .eq 15, 3) := dk_159 0 15 (dk_at dksX7_endsGreen_2 9 rfl rfl)
theorem dX7_endsGreen_60 : decode cX7_endsGreen 60 = .ok (.iload_n 2, 1) := dk_28 (dk_at dksX7_endsGreen_2 12 rfl rfl)
theorem dX7_endsGreen_61 : decode cX7_endsGreen 61 = .ok (.ifCond .ne 12, 3) := dk_154 0 12 (dk_at dksX7_endsGreen_2 13 rfl rfl)
theorem dX7_endsGreen_64 : decode cX7_endsGreen 64 = .ok (.aload_n 0, 1) := dk_42 (dk_at dksX7_endsGreen_2 16 rfl rfl)
theorem dX7_endsGreen_65 : decode cX7_endsGreen 65 = .ok (.invokevirtual 134, 3) := dk_182 0 134 (dk_at dksX7_endsGreen_2 17 rfl rfl)
theorem dX7_endsGreen_68 : decode cX7_endsGreen 68 = .ok (.iconst (-1), 1) := dk_2 (dk_at dksX7_endsGreen_2 20 rfl rfl)
theorem dX7_endsGreen_69 : decode cX7_endsGreen 69 = .ok (.if_icmp .eq 4, 3) := dk_159 0 4 (dk_at dksX7_endsGreen_2 21 rfl rfl)
theorem dX7_endsGreen_72 : decode cX7_endsGreen 72 = .ok (.return_, 1) := dk_177 (dk_at dksX7_endsGreen_3 0 rfl rfl)
theorem dX7_endsGreen_73 : decode cX7_endsGreen 73 = .ok (.iload_n 2, 1) := dk_28 (dk_at dksX7_endsGreen_3 1 rfl rfl)
theorem dX7_endsGreen_74 : decode cX7_endsGreen 74 = .ok (.ifCond .eq 9, 3) := dk_153 0 9 (dk_at dksX7_endsGreen_3 2 rfl rfl)
theorem dX7_endsGreen_77 : decode cX7_endsGreen 77 = .ok (.aload_n 0, 1) := dk_42 (dk_at dksX7_endsGreen_3 5 rfl rfl)
theorem dX7_endsGreen_78 : decode cX7_endsGreen 78 = .ok (.iconst 4, 1) := dk_7 (dk_at dksX7_endsGreen_3 6 rfl rfl)
theorem dX7_endsGreen_79 : decode cX7_endsGreen 79 = .ok (.iconst 1, 1) := dk_4 (dk_at dksX7_endsGreen_3 7 rfl rfl)
theorem dX7_endsGreen_80 : decode cX7_endsGreen 80 = .ok (.invokevirtual 123, 3) := dk_182 0 123 (dk_at dksX7_endsGreen_3 8 rfl rfl)
theorem dX7_endsGreen_83 : decode cX7_endsGreen 83 = .ok (.aload_n 0, 1) := dk_42 (dk_at dksX7_endsGreen_3 11 rfl rfl)
theorem dX7_endsGreen_84 : decode cX7_endsGreen 84 = .ok (.getfield 7, 3) := dk_180 0 7 (dk_at dksX7_endsGreen_3 12 rfl rfl)
theorem dX7_endsGreen_87 : decode cX7_endsGreen 87 = .ok (.bipush 7, 2) := dk_16 7 (dk_at dksX7_endsGreen_3 15 rfl rfl)
theorem dX7_endsGreen_89 : decode cX7_endsGreen 89 = .ok (.iload_n 1, 1) := dk_27 (dk_at dksX7_endsGreen_3 17 rfl rfl)
theorem dX7_endsGreen_90 : decode cX7_endsGreen 90 = .ok (.iastore, 1) := dk_79 (dk_at dksX7_endsGreen_3 18 rfl rfl)
theorem dX7_endsGreen_91 : decode cX7_endsGreen 91 = .ok (.aload_n 0, 1) := dk_42 (dk_at dksX7_endsGreen_3 19 rfl rfl)
theorem dX7_endsGreen_92 : decode cX7_endsGreen 92 = .ok (.getfield 7, 3) := dk_180 0 7 (dk_at dksX7_endsGreen_3 20 rfl rfl)
theorem dX7_endsGreen_95 : decode cX7_endsGreen 95 = .ok (.bipush 8, 2) := dk_16 8 (dk_at dksX7_endsGreen_4 0 rfl rfl)
theorem dX7_endsGreen_97 : decode cX7_endsGreen 97 = .ok (.iconst 1, 1) := dk_4 (dk_at dksX7_endsGreen_4 2 rfl rfl)
theorem dX7_endsGreen_98 : decode cX7_endsGreen 98 = .ok (.iastore, 1) := dk_79 (dk_at dksX7_endsGreen_4 3 rfl rfl)
theorem dX7_endsGreen_99 : decode cX7_endsGreen 99 = .ok (.aload_n 0, 1) := dk_42 (dk_at dksX7_endsGreen_4 4 rfl rfl)
theorem dX7_endsGreen_100 : decode cX7_endsGreen 100 = .ok (.getfield 7, 3) := dk_180 0 7 (dk_at dksX7_endsGreen_4 5 rfl rfl)
theorem dX7_endsGreen_103 : decode cX7_endsGreen 103 = .ok (.bipush 9, 2) := dk_16 9 (dk_at dksX7_endsGreen_4 8 rfl rfl)
theorem dX7_endsGreen_105 : decode cX7_endsGreen 105 = .ok (.iconst 0, 1) := dk_3 (dk_at dksX7_endsGreen_4 10 rfl rfl)
theorem dX7_endsGreen_106 : decode cX7_endsGreen 106 = .ok (.iastore, 1) := dk_79 (dk_at dksX7_endsGreen_4 11 rfl rfl)
theorem dX7_endsGreen_107 : decode cX7_endsGreen 107 = .ok (.return_, 1) := dk_177 (dk_at dksX7_endsGreen_4 12 rfl rfl)
abbrev cX7_best : ByteArray := prog_19_method_23_code
def yX7_best : MethodName := ⟨RX7, "best", "()I"⟩
def dkwX7_best_2 : List UInt8 := [27, 172]
abbrev dktX7_best_2 : List UInt8 := dkwX7_best_2 ++ []
def dkwX7_best_1 : List UInt8 := [159, 0, 16, 42, 28, 182, 0, 117, 42, 27, 182, 0, 117, 162, 0, 5, 28, 60, 132, 2, 1, 167, 255, 215]
abbrev dktX7_best_1 : List UInt8 := dkwX7_best_1 ++ dktX7_best_2
def dkwX7_best_0 : List UInt8 := [2, 60, 3, 61, 28, 42, 180, 0, 7, 7, 46, 162, 0, 37, 42, 28, 182, 0, 114, 153, 0, 23, 27, 2]
abbrev dktX7_best_0 : List UInt8 := dkwX7_best_0 ++ dktX7_best_1
theorem dksX7_best_0 : cX7_best.data.toList.drop 0 = dktX7_best_0 := by decide +kernel
theorem dksX7_best_1 : cX7_best.data.toList.drop 24 = dktX7_best_1 := dk_seg dksX7_best_0 24 rfl rfl
theorem dksX7_best_2 : cX7_best.data.toList.drop 48 = dktX7_best_2 := dk_seg dksX7_best_1 24 rfl rfl
theorem dX7_best_0 : decode cX7_best 0 = .ok (.iconst (-1), 1) := dk_2 (dk_at dksX7_best_0 0 rfl rfl)
theorem dX7_best_1 : decode cX7_best 1 = .ok (.istore_n 1, 1) := dk_60 (dk_at dksX7_best_0 1 rfl rfl)
theorem dX7_best_2 : decode cX7_best 2 = .ok (.iconst 0, 1) := dk_3 (dk_at dksX7_best_0 2 rfl rfl)
theorem dX7_best_3 : decode cX7_best 3 = .ok (.istore_n 2, 1) := dk_61 (dk_at dksX7_best_0 3 rfl rfl)
theorem dX7_best_4 : decode cX7_best 4 = .ok (.iload_n 2, 1) := dk_28 (dk_at dksX7_best_0 4 rfl rfl)
theorem dX7_best_5 : decode cX7_best 5 = .ok (.aload_n 0, 1) := dk_42 (dk_at dksX7_best_0 5 rfl rfl)
theorem dX7_best_6 : decode cX7_best 6 = .ok (.getfield 7, 3) := dk_180 0 7 (dk_at dksX7_best_0 6 rfl rfl)
theorem dX7_best_9 : decode cX7_best 9 = .ok (.iconst 4, 1) := dk_7 (dk_at dksX7_best_0 9 rfl rfl)
theorem dX7_best_10 : decode cX7_best 10 = .ok (.iaload, 1) := dk_46 (dk_at dksX7_best_0 10 rfl rfl)
theorem dX7_best_11 : decode cX7_best 11 = .ok (.if_icmp .ge 37, 3) := dk_162 0 37 (dk_at dksX7_best_0 11 rfl rfl)
theorem dX7_best_14 : decode cX7_best 14 = .ok (.aload_n 0, 1) := dk_42 (dk_at dksX7_best_0 14 rfl rfl)
theorem dX7_best_15 : decode cX7_best 15 = .ok (.iload_n 2, 1) := dk_28 (dk_at dksX7_best_0 15 rfl rfl)
theorem dX7_best_16 : decode cX7_best 16 = .ok (.invokevirtual 114, 3) := dk_182 0 114 (dk_at dksX7_best_0 16 rfl rfl)
theorem dX7_best_19 : decode cX7_best 19 = .ok (.ifCond .eq 23, 3) := dk_153 0 23 (dk_at dksX7_best_0 19 rfl rfl)
theorem dX7_best_22 : decode cX7_best 22 = .ok (.iload_n 1, 1) := dk_27 (dk_at dksX7_best_0 22 rfl rfl)
theorem dX7_best_23 : decode cX7_best 23 = .ok (.iconst (-1), 1) := dk_2 (dk_at dksX7_best_0 23 rfl rfl)
theorem dX7_best_24 : decode cX7_best 24 = .ok (.if_icmp .eq 16, 3) := dk_159 0 16 (dk_at dksX7_best_1 0 rfl rfl)
theorem dX7_best_27 : decode cX7_best 27 = .ok (.aload_n 0, 1) := dk_42 (dk_at dksX7_best_1 3 rfl rfl)
theorem dX7_best_28 : decode cX7_best 28 = .ok (.iload_n 2, 1) := dk_28 (dk_at dksX7_best_1 4 rfl rfl)
theorem dX7_best_29 : decode cX7_best 29 = .ok (.invokevirtual 117, 3) := dk_182 0 117 (dk_at dksX7_best_1 5 rfl rfl)
theorem dX7_best_32 : decode cX7_best 32 = .ok (.aload_n 0, 1) := dk_42 (dk_at dksX7_best_1 8 rfl rfl)
theorem dX7_best_33 : decode cX7_best 33 = .ok (.iload_n 1, 1) := dk_27 (dk_at dksX7_best_1 9 rfl rfl)
theorem dX7_best_34 : decode cX7_best 34 = .ok (.invokevirtual 117, 3) := dk_182 0 117 (dk_at dksX7_best_1 10 rfl rfl)
theorem dX7_best_37 : decode cX7_best 37 = .ok (.if_icmp .ge 5, 3) := dk_162 0 5 (dk_at dksX7_best_1 13 rfl rfl)
theorem dX7_best_40 : decode cX7_best 40 = .ok (.iload_n 2, 1) := dk_28 (dk_at dksX7_best_1 16 rfl rfl)
theorem dX7_best_41 : decode cX7_best 41 = .ok (.istore_n 1, 1) := dk_60 (dk_at dksX7_best_1 17 rfl rfl)
theorem dX7_best_42 : decode cX7_best 42 = .ok (.iinc 2 1, 3) := dk_132 2 1 (dk_at dksX7_best_1 18 rfl rfl)
theorem dX7_best_45 : decode cX7_best 45 = .ok (.goto (-41), 3) := dk_167 255 215 (dk_at dksX7_best_1 21 rfl rfl)
theorem dX7_best_48 : decode cX7_best 48 = .ok (.iload_n 1, 1) := dk_27 (dk_at dksX7_best_2 0 rfl rfl)
theorem dX7_best_49 : decode cX7_best 49 = .ok (.ireturn, 1) := dk_172 (dk_at dksX7_best_2 1 rfl rfl)
abbrev cX7_isWanted : ByteArray := prog_19_method_19_code
def yX7_isWanted : MethodName := ⟨RX7, "isWanted", "(I)Z"⟩
def dkwX7_isWanted_3 : List UInt8 := [132, 2, 1, 167, 255, 209, 3, 172]
abbrev dktX7_isWanted_3 : List UInt8 := dkwX7_isWanted_3 ++ []
def dkwX7_isWanted_2 : List UInt8 := [180, 0, 7, 16, 6, 46, 28, 182, 0, 87, 154, 0, 13, 42, 28, 182, 0, 94, 153, 0, 5, 4, 172]
abbrev dktX7_isWanted_2 : List UInt8 := dkwX7_isWanted_2 ++ dktX7_isWanted_3
def dkwX7_isWanted_1 : List UInt8 := [172, 3, 61, 28, 42, 180, 0, 7, 6, 46, 162, 0, 43, 42, 27, 28, 182, 0, 87, 153, 0, 28, 42, 42]
abbrev dktX7_isWanted_1 : List UInt8 := dkwX7_isWanted_1 ++ dktX7_isWanted_2
def dkwX7_isWanted_0 : List UInt8 := [27, 42, 180, 0, 7, 16, 6, 46, 160, 0, 5, 3, 172, 42, 27, 5, 182, 0, 79, 4, 160, 0, 5, 4]
abbrev dktX7_isWanted_0 : List UInt8 := dkwX7_isWanted_0 ++ dktX7_isWanted_1
theorem dksX7_isWanted_0 : cX7_isWanted.data.toList.drop 0 = dktX7_isWanted_0 := by decide +kernel
theorem dksX7_isWanted_1 : cX7_isWanted.data.toList.drop 24 = dktX7_isWanted_1 := dk_seg dksX7_isWanted_0 24 rfl rfl
theorem dksX7_isWanted_2 : cX7_isWanted.data.toList.drop 48 = dktX7_isWanted_2 := dk_seg dksX7_isWanted_1 24 rfl rfl
theorem dksX7_isWanted_3 : cX7_isWanted.data.toList.drop 71 = dktX7_isWanted_3 := dk_seg dksX7_isWanted_2 23 rfl rfl
theorem dX7_isWanted_0 : decode cX7_isWanted 0 = .ok (.iload_n 1, 1) := dk_27 (dk_at dksX7_isWanted_0 0 rfl rfl)
theorem dX7_isWanted_1 : decode cX7_isWanted 1 = .ok (.aload_n 0, 1) := dk_42 (dk_at dksX7_isWanted_0 1 rfl rfl)
theorem dX7_isWanted_2 : decode cX7_isWanted 2 = .ok (.getfield 7, 3) := dk_180 0 7 (dk_at dksX7_isWanted_0 2 rfl rfl)
theorem dX7_isWanted_5 : decode cX7_isWanted 5 = .ok (.bipush 6, 2) := dk_16 6 (dk_at dksX7_isWanted_0 5 rfl rfl)
theorem dX7_isWanted_7 : decode cX7_isWanted 7 = .ok (.iaload, 1) := dk_46 (dk_at dksX7_isWanted_0 7 rfl rfl)
theorem dX7_isWanted_8 : decode cX7_isWanted 8 = .ok (.if_icmp .ne 5, 3) := dk_160 0 5 (dk_at dksX7_isWanted_0 8 rfl rfl)
theorem dX7_isWanted_11 : decode cX7_isWanted 11 = .ok (.iconst 0, 1) := dk_3 (dk_at dksX7_isWanted_0 11 rfl rfl)
theorem dX7_isWanted_12 : decode cX7_isWanted 12 = .ok (.ireturn, 1) := dk_172 (dk_at dksX7_isWanted_0 12 rfl rfl)
theorem dX7_isWanted_13 : decode cX7_isWanted 13 = .ok (.aload_n 0, 1) := dk_42 (dk_at dksX7_isWanted_0 13 rfl rfl)
theorem dX7_isWanted_14 : decode cX7_isWanted 14 = .ok (.iload_n 1, 1) := dk_27 (dk_at dksX7_isWanted_0 14 rfl rfl)
theorem dX7_isWanted_15 : decode cX7_isWanted 15 = .ok (.iconst 2, 1) := dk_5 (dk_at dksX7_isWanted_0 15 rfl rfl)
theorem dX7_isWanted_16 : decode cX7_isWanted 16 = .ok (.invokevirtual 79, 3) := dk_182 0 79 (dk_at dksX7_isWanted_0 16 rfl rfl)
theorem dX7_isWanted_19 : decode cX7_isWanted 19 = .ok (.iconst 1, 1) := dk_4 (dk_at dksX7_isWanted_0 19 rfl rfl)
theorem dX7_isWanted_20 : decode cX7_isWanted 20 = .ok (.if_icmp .ne 5, 3) := dk_160 0 5 (dk_at dksX7_isWanted_0 20 rfl rfl)
theorem dX7_isWanted_23 : decode cX7_isWanted 23 = .ok (.iconst 1, 1) := dk_4 (dk_at dksX7_isWanted_0 23 rfl rfl)
theorem dX7_isWanted_24 : decode cX7_isWanted 24 = .ok (.ireturn, 1) := dk_172 (dk_at dksX7_isWanted_1 0 rfl rfl)
theorem dX7_isWanted_25 : decode cX7_isWanted 25 = .ok (.iconst 0, 1) := dk_3 (dk_at dksX7_isWanted_1 1 rfl rfl)
theorem dX7_isWanted_26 : decode cX7_isWanted 26 = .ok (.istore_n 2, 1) := dk_61 (dk_at dksX7_isWanted_1 2 rfl rfl)
theorem dX7_isWanted_27 : decode cX7_isWanted 27 = .ok (.iload_n 2, 1) := dk_28 (dk_at dksX7_isWanted_1 3 rfl rfl)
theorem dX7_isWanted_28 : decode cX7_isWanted 28 = .ok (.aload_n 0, 1) := dk_42 (dk_at dksX7_isWanted_1 4 rfl rfl)
theorem dX7_isWanted_29 : decode cX7_isWanted 29 = .ok (.getfield 7, 3) := dk_180 0 7 (dk_at dksX7_isWanted_1 5 rfl rfl)
theorem dX7_isWanted_32 : decode cX7_isWanted 32 = .ok (.iconst 3, 1) := dk_6 (dk_at dksX7_isWanted_1 8 rfl rfl)
theorem dX7_isWanted_33 : decode cX7_isWanted 33 = .ok (.iaload, 1) := dk_46 (dk_at dksX7_isWanted_1 9 rfl rfl)
theorem dX7_isWanted_34 : decode cX7_isWanted 34 = .ok (.if_icmp .ge 43, 3) := dk_162 0 43 (dk_at dksX7_isWanted_1 10 rfl rfl)
theorem dX7_isWanted_37 : decode cX7_isWanted 37 = .ok (.aload_n 0, 1) := dk_42 (dk_at dksX7_isWanted_1 13 rfl rfl)
theorem dX7_isWanted_38 : decode cX7_isWanted 38 = .ok (.iload_n 1, 1) := dk_27 (dk_at dksX7_isWanted_1 14 rfl rfl)
theorem dX7_isWanted_39 : decode cX7_isWanted 39 = .ok (.iload_n 2, 1) := dk_28 (dk_at dksX7_isWanted_1 15 rfl rfl)
theorem dX7_isWanted_40 : decode cX7_isWanted 40 = .ok (.invokevirtual 87, 3) := dk_182 0 87 (dk_at dksX7_isWanted_1 16 rfl rfl)
theorem dX7_isWanted_43 : decode cX7_isWanted 43 = .ok (.ifCond .eq 28, 3) := dk_153 0 28 (dk_at dksX7_isWanted_1 19 rfl rfl)
theorem dX7_isWanted_46 : decode cX7_isWanted 46 = .ok (.aload_n 0, 1) := dk_42 (dk_at dksX7_isWanted_1 22 rfl rfl)
theorem dX7_isWanted_47 : decode cX7_isWanted 47 = .ok (.aload_n 0, 1) := dk_42 (dk_at dksX7_isWanted_1 23 rfl rfl)
theorem dX7_isWanted_48 : decode cX7_isWanted 48 = .ok (.getfield 7, 3) := dk_180 0 7 (dk_at dksX7_isWanted_2 0 rfl rfl)
theorem dX7_isWanted_51 : decode cX7_isWanted 51 = .ok (.bipush 6, 2) := dk_16 6 (dk_at dksX7_isWanted_2 3 rfl rfl)
theorem dX7_isWanted_53 : decode cX7_isWanted 53 = .ok (.iaload, 1) := dk_46 (dk_at dksX7_isWanted_2 5 rfl rfl)
theorem dX7_isWanted_54 : decode cX7_isWanted 54 = .ok (.iload_n 2, 1) := dk_28 (dk_at dksX7_isWanted_2 6 rfl rfl)
theorem dX7_isWanted_55 : decode cX7_isWanted 55 = .ok (.invokevirtual 87, 3) := dk_182 0 87 (dk_at dksX7_isWanted_2 7 rfl rfl)
theorem dX7_isWanted_58 : decode cX7_isWanted 58 = .ok (.ifCond .ne 13, 3) := dk_154 0 13 (dk_at dksX7_isWanted_2 10 rfl rfl)
theorem dX7_isWanted_61 : decode cX7_isWanted 61 = .ok (.aload_n 0, 1) := dk_42 (dk_at dksX7_isWanted_2 13 rfl rfl)
theorem dX7_isWanted_62 : decode cX7_isWanted 62 = .ok (.iload_n 2, 1) := dk_28 (dk_at dksX7_isWanted_2 14 rfl rfl)
theorem dX7_isWanted_63 : decode cX7_isWanted 63 = .ok (.invokevirtual 94, 3) := dk_182 0 94 (dk_at dksX7_isWanted_2 15 rfl rfl)
theorem dX7_isWanted_66 : decode cX7_isWanted 66 = .ok (.ifCond .eq 5, 3) := dk_153 0 5 (dk_at dksX7_isWanted_2 18 rfl rfl)
theorem dX7_isWanted_69 : decode cX7_isWanted 69 = .ok (.iconst 1, 1) := dk_4 (dk_at dksX7_isWanted_2 21 rfl rfl)
theorem dX7_isWanted_70 : decode cX7_isWanted 70 = .ok (.ireturn, 1) := dk_172 (dk_at dksX7_isWanted_2 22 rfl rfl)
theorem dX7_isWanted_71 : decode cX7_isWanted 71 = .ok (.iinc 2 1, 3) := dk_132 2 1 (dk_at dksX7_isWanted_3 0 rfl rfl)
theorem dX7_isWanted_74 : decode cX7_isWanted 74 = .ok (.goto (-47), 3) := dk_167 255 209 (dk_at dksX7_isWanted_3 3 rfl rfl)
theorem dX7_isWanted_77 : decode cX7_isWanted 77 = .ok (.iconst 0, 1) := dk_3 (dk_at dksX7_isWanted_3 6 rfl rfl)
theorem dX7_isWanted_78 : decode cX7_isWanted 78 = .ok (.ireturn, 1) := dk_172 (dk_at dksX7_isWanted_3 7 rfl rfl)
abbrev cX7_asks : ByteArray := prog_19_method_18_code
def yX7_asks : MethodName := ⟨RX7, "asks", "(I)Z"⟩
def dkwX7_asks_1 : List UInt8 := [172]
abbrev dktX7_asks_1 : List UInt8 := dkwX7_asks_1 ++ []
def dkwX7_asks_0 : List UInt8 := [42, 27, 5, 182, 0, 91, 4, 159, 0, 12, 42, 27, 6, 182, 0, 91, 158, 0, 7, 4, 167, 0, 4, 3]
abbrev dktX7_asks_0 : List UInt8 := dkwX7_asks_0 ++ dktX7_asks_1
theorem dksX7_asks_0 : cX7_asks.data.toList.drop 0 = dktX7_asks_0 := by decide +kernel
theorem dksX7_asks_1 : cX7_asks.data.toList.drop 24 = dktX7_asks_1 := dk_seg dksX7_asks_0 24 rfl rfl
theorem dX7_asks_0 : decode cX7_asks 0 = .ok (.aload_n 0, 1) := dk_42 (dk_at dksX7_asks_0 0 rfl rfl)
theorem dX7_asks_1 : decode cX7_asks 1 = .ok (.iload_n 1, 1) := dk_27 (dk_at dksX7_asks_0 1 rfl rfl)
theorem dX7_asks_2 : decode cX7_asks 2 = .ok (.iconst 2, 1) := dk_5 (dk_at dksX7_asks_0 2 rfl rfl)
theorem dX7_asks_3 : decode cX7_asks 3 = .ok (.invokevirtual 91, 3) := dk_182 0 91 (dk_at dksX7_asks_0 3 rfl rfl)
theorem dX7_asks_6 : decode cX7_asks 6 = .ok (.iconst 1, 1) := dk_4 (dk_at dksX7_asks_0 6 rfl rfl)
theorem dX7_asks_7 : decode cX7_asks 7 = .ok (.if_icmp .eq 12, 3) := dk_159 0 12 (dk_at dksX7_asks_0 7 rfl rfl)
theorem dX7_asks_10 : decode cX7_asks 10 = .ok (.aload_n 0, 1) := dk_42 (dk_at dksX7_asks_0 10 rfl rfl)
theorem dX7_asks_11 : decode cX7_asks 11 = .ok (.iload_n 1, 1) := dk_27 (dk_at dksX7_asks_0 11 rfl rfl)
theorem dX7_asks_12 : decode cX7_asks 12 = .ok (.iconst 3, 1) := dk_6 (dk_at dksX7_asks_0 12 rfl rfl)
theorem dX7_asks_13 : decode cX7_asks 13 = .ok (.invokevirtual 91, 3) := dk_182 0 91 (dk_at dksX7_asks_0 13 rfl rfl)
theorem dX7_asks_16 : decode cX7_asks 16 = .ok (.ifCond .le 7, 3) := dk_158 0 7 (dk_at dksX7_asks_0 16 rfl rfl)
theorem dX7_asks_19 : decode cX7_asks 19 = .ok (.iconst 1, 1) := dk_4 (dk_at dksX7_asks_0 19 rfl rfl)
theorem dX7_asks_20 : decode cX7_asks 20 = .ok (.goto 4, 3) := dk_167 0 4 (dk_at dksX7_asks_0 20 rfl rfl)
theorem dX7_asks_23 : decode cX7_asks 23 = .ok (.iconst 0, 1) := dk_3 (dk_at dksX7_asks_0 23 rfl rfl)
theorem dX7_asks_24 : decode cX7_asks 24 = .ok (.ireturn, 1) := dk_172 (dk_at dksX7_asks_1 0 rfl rfl)
abbrev cX7_rankOf : ByteArray := prog_19_method_22_code
def yX7_rankOf : MethodName := ⟨RX7, "rankOf", "(I)I"⟩
def dkwX7_rankOf_2 : List UInt8 := [116, 167, 0, 8, 42, 27, 182, 0, 111, 172]
abbrev dktX7_rankOf_2 : List UInt8 := dkwX7_rankOf_2 ++ []
def dkwX7_rankOf_1 : List UInt8 := [96, 42, 180, 0, 7, 7, 46, 112, 172, 42, 180, 0, 7, 5, 46, 4, 160, 0, 12, 42, 27, 182, 0, 107]
abbrev dktX7_rankOf_1 : List UInt8 := dkwX7_rankOf_1 ++ dktX7_rankOf_2
def dkwX7_rankOf_0 : List UInt8 := [42, 180, 0, 7, 5, 46, 154, 0, 27, 27, 42, 180, 0, 7, 16, 6, 46, 100, 42, 180, 0, 7, 7, 46]
abbrev dktX7_rankOf_0 : List UInt8 := dkwX7_rankOf_0 ++ dktX7_rankOf_1
theorem dksX7_rankOf_0 : cX7_rankOf.data.toList.drop 0 = dktX7_rankOf_0 := by decide +kernel
theorem dksX7_rankOf_1 : cX7_rankOf.data.toList.drop 24 = dktX7_rankOf_1 := dk_seg dksX7_rankOf_0 24 rfl rfl
theorem dksX7_rankOf_2 : cX7_rankOf.data.toList.drop 48 = dktX7_rankOf_2 := dk_seg dksX7_rankOf_1 24 rfl rfl
theorem dX7_rankOf_0 : decode cX7_rankOf 0 = .ok (.aload_n 0, 1) := dk_42 (dk_at dksX7_rankOf_0 0 rfl rfl)
theorem dX7_rankOf_1 : decode cX7_rankOf 1 = .ok (.getfield 7, 3) := dk_180 0 7 (dk_at dksX7_rankOf_0 1 rfl rfl)
theorem dX7_rankOf_4 : decode cX7_rankOf 4 = .ok (.iconst 2, 1) := dk_5 (dk_at dksX7_rankOf_0 4 rfl rfl)
theorem dX7_rankOf_5 : decode cX7_rankOf 5 = .ok (.iaload, 1) := dk_46 (dk_at dksX7_rankOf_0 5 rfl rfl)
theorem dX7_rankOf_6 : decode cX7_rankOf 6 = .ok (.ifCond .ne 27, 3) := dk_154 0 27 (dk_at dksX7_rankOf_0 6 rfl rfl)
theorem dX7_rankOf_9 : decode cX7_rankOf 9 = .ok (.iload_n 1, 1) := dk_27 (dk_at dksX7_rankOf_0 9 rfl rfl)
theorem dX7_rankOf_10 : decode cX7_rankOf 10 = .ok (.aload_n 0, 1) := dk_42 (dk_at dksX7_rankOf_0 10 rfl rfl)
theorem dX7_rankOf_11 : decode cX7_rankOf 11 = .ok (.getfield 7, 3) := dk_180 0 7 (dk_at dksX7_rankOf_0 11 rfl rfl)
theorem dX7_rankOf_14 : decode cX7_rankOf 14 = .ok (.bipush 6, 2) := dk_16 6 (dk_at dksX7_rankOf_0 14 rfl rfl)
theorem dX7_rankOf_16 : decode cX7_rankOf 16 = .ok (.iaload, 1) := dk_46 (dk_at dksX7_rankOf_0 16 rfl rfl)
theorem dX7_rankOf_17 : decode cX7_rankOf 17 = .ok (.isub, 1) := dk_100 (dk_at dksX7_rankOf_0 17 rfl rfl)
theorem dX7_rankOf_18 : decode cX7_rankOf 18 = .ok (.aload_n 0, 1) := dk_42 (dk_at dksX7_rankOf_0 18 rfl rfl)
theorem dX7_rankOf_19 : decode cX7_rankOf 19 = .ok (.getfield 7, 3) := dk_180 0 7 (dk_at dksX7_rankOf_0 19 rfl rfl)
theorem dX7_rankOf_22 : decode cX7_rankOf 22 = .ok (.iconst 4, 1) := dk_7 (dk_at dksX7_rankOf_0 22 rfl rfl)
theorem dX7_rankOf_23 : decode cX7_rankOf 23 = .ok (.iaload, 1) := dk_46 (dk_at dksX7_rankOf_0 23 rfl rfl)
theorem dX7_rankOf_24 : decode cX7_rankOf 24 = .ok (.iadd, 1) := dk_96 (dk_at dksX7_rankOf_1 0 rfl rfl)
theorem dX7_rankOf_25 : decode cX7_rankOf 25 = .ok (.aload_n 0, 1) := dk_42 (dk_at dksX7_rankOf_1 1 rfl rfl)
theorem dX7_rankOf_26 : decode cX7_rankOf 26 = .ok (.getfield 7, 3) := dk_180 0 7 (dk_at dksX7_rankOf_1 2 rfl rfl)
theorem dX7_rankOf_29 : decode cX7_rankOf 29 = .ok (.iconst 4, 1) := dk_7 (dk_at dksX7_rankOf_1 5 rfl rfl)
theorem dX7_rankOf_30 : decode cX7_rankOf 30 = .ok (.iaload, 1) := dk_46 (dk_at dksX7_rankOf_1 6 rfl rfl)
theorem dX7_rankOf_31 : decode cX7_rankOf 31 = .ok (.irem, 1) := dk_112 (dk_at dksX7_rankOf_1 7 rfl rfl)
theorem dX7_rankOf_32 : decode cX7_rankOf 32 = .ok (.ireturn, 1) := dk_172 (dk_at dksX7_rankOf_1 8 rfl rfl)
theorem dX7_rankOf_33 : decode cX7_rankOf 33 = .ok (.aload_n 0, 1) := dk_42 (dk_at dksX7_rankOf_1 9 rfl rfl)
theorem dX7_rankOf_34 : decode cX7_rankOf 34 = .ok (.getfield 7, 3) := dk_180 0 7 (dk_at dksX7_rankOf_1 10 rfl rfl)
theorem dX7_rankOf_37 : decode cX7_rankOf 37 = .ok (.iconst 2, 1) := dk_5 (dk_at dksX7_rankOf_1 13 rfl rfl)
theorem dX7_rankOf_38 : decode cX7_rankOf 38 = .ok (.iaload, 1) := dk_46 (dk_at dksX7_rankOf_1 14 rfl rfl)
theorem dX7_rankOf_39 : decode cX7_rankOf 39 = .ok (.iconst 1, 1) := dk_4 (dk_at dksX7_rankOf_1 15 rfl rfl)
theorem dX7_rankOf_40 : decode cX7_rankOf 40 = .ok (.if_icmp .ne 12, 3) := dk_160 0 12 (dk_at dksX7_rankOf_1 16 rfl rfl)
theorem dX7_rankOf_43 : decode cX7_rankOf 43 = .ok (.aload_n 0, 1) := dk_42 (dk_at dksX7_rankOf_1 19 rfl rfl)
theorem dX7_rankOf_44 : decode cX7_rankOf 44 = .ok (.iload_n 1, 1) := dk_27 (dk_at dksX7_rankOf_1 20 rfl rfl)
theorem dX7_rankOf_45 : decode cX7_rankOf 45 = .ok (.invokevirtual 107, 3) := dk_182 0 107 (dk_at dksX7_rankOf_1 21 rfl rfl)
theorem dX7_rankOf_48 : decode cX7_rankOf 48 = .ok (.ineg, 1) := dk_116 (dk_at dksX7_rankOf_2 0 rfl rfl)
theorem dX7_rankOf_49 : decode cX7_rankOf 49 = .ok (.goto 8, 3) := dk_167 0 8 (dk_at dksX7_rankOf_2 1 rfl rfl)
theorem dX7_rankOf_52 : decode cX7_rankOf 52 = .ok (.aload_n 0, 1) := dk_42 (dk_at dksX7_rankOf_2 4 rfl rfl)
theorem dX7_rankOf_53 : decode cX7_rankOf 53 = .ok (.iload_n 1, 1) := dk_27 (dk_at dksX7_rankOf_2 5 rfl rfl)
theorem dX7_rankOf_54 : decode cX7_rankOf 54 = .ok (.invokevirtual 111, 3) := dk_182 0 111 (dk_at dksX7_rankOf_2 6 rfl rfl)
theorem dX7_rankOf_57 : decode cX7_rankOf 57 = .ok (.ireturn, 1) := dk_172 (dk_at dksX7_rankOf_2 9 rfl rfl)
abbrev cX7_carsOf : ByteArray := prog_19_method_20_code
def yX7_carsOf : MethodName := ⟨RX7, "carsOf", "(I)I"⟩
def dkwX7_carsOf_1 : List UInt8 := [42, 29, 6, 182, 0, 91, 96, 61, 132, 3, 1, 167, 255, 225, 28, 172]
abbrev dktX7_carsOf_1 : List UInt8 := dkwX7_carsOf_1 ++ []
def dkwX7_carsOf_0 : List UInt8 := [3, 61, 3, 62, 29, 42, 180, 0, 7, 6, 46, 162, 0, 27, 42, 27, 29, 182, 0, 87, 153, 0, 12, 28]
abbrev dktX7_carsOf_0 : List UInt8 := dkwX7_carsOf_0 ++ dktX7_carsOf_1
theorem dksX7_carsOf_0 : cX7_carsOf.data.toList.drop 0 = dktX7_carsOf_0 := by decide +kernel
theorem dksX7_carsOf_1 : cX7_carsOf.data.toList.drop 24 = dktX7_carsOf_1 := dk_seg dksX7_carsOf_0 24 rfl rfl
theorem dX7_carsOf_0 : decode cX7_carsOf 0 = .ok (.iconst 0, 1) := dk_3 (dk_at dksX7_carsOf_0 0 rfl rfl)
theorem dX7_carsOf_1 : decode cX7_carsOf 1 = .ok (.istore_n 2, 1) := dk_61 (dk_at dksX7_carsOf_0 1 rfl rfl)
theorem dX7_carsOf_2 : decode cX7_carsOf 2 = .ok (.iconst 0, 1) := dk_3 (dk_at dksX7_carsOf_0 2 rfl rfl)
theorem dX7_carsOf_3 : decode cX7_carsOf 3 = .ok (.istore_n 3, 1) := dk_62 (dk_at dksX7_carsOf_0 3 rfl rfl)
theorem dX7_carsOf_4 : decode cX7_carsOf 4 = .ok (.iload_n 3, 1) := dk_29 (dk_at dksX7_carsOf_0 4 rfl rfl)
theorem dX7_carsOf_5 : decode cX7_carsOf 5 = .ok (.aload_n 0, 1) := dk_42 (dk_at dksX7_carsOf_0 5 rfl rfl)
theorem dX7_carsOf_6 : decode cX7_carsOf 6 = .ok (.getfield 7, 3) := dk_180 0 7 (dk_at dksX7_carsOf_0 6 rfl rfl)
theorem dX7_carsOf_9 : decode cX7_carsOf 9 = .ok (.iconst 3, 1) := dk_6 (dk_at dksX7_carsOf_0 9 rfl rfl)
theorem dX7_carsOf_10 : decode cX7_carsOf 10 = .ok (.iaload, 1) := dk_46 (dk_at dksX7_carsOf_0 10 rfl rfl)
theorem dX7_carsOf_11 : decode cX7_carsOf 11 = .ok (.if_icmp .ge 27, 3) := dk_162 0 27 (dk_at dksX7_carsOf_0 11 rfl rfl)
theorem dX7_carsOf_14 : decode cX7_carsOf 14 = .ok (.aload_n 0, 1) := dk_42 (dk_at dksX7_carsOf_0 14 rfl rfl)
theorem dX7_carsOf_15 : decode cX7_carsOf 15 = .ok (.iload_n 1, 1) := dk_27 (dk_at dksX7_carsOf_0 15 rfl rfl)
theorem dX7_carsOf_16 : decode cX7_carsOf 16 = .ok (.iload_n 3, 1) := dk_29 (dk_at dksX7_carsOf_0 16 rfl rfl)
theorem dX7_carsOf_17 : decode cX7_carsOf 17 = .ok (.invokevirtual 87, 3) := dk_182 0 87 (dk_at dksX7_carsOf_0 17 rfl rfl)
theorem dX7_carsOf_20 : decode cX7_carsOf 20 = .ok (.ifCond .eq 12, 3) := dk_153 0 12 (dk_at dksX7_carsOf_0 20 rfl rfl)
theorem dX7_carsOf_23 : decode cX7_carsOf 23 = .ok (.iload_n 2, 1) := dk_28 (dk_at dksX7_carsOf_0 23 rfl rfl)
theorem dX7_carsOf_24 : decode cX7_carsOf 24 = .ok (.aload_n 0, 1) := dk_42 (dk_at dksX7_carsOf_1 0 rfl rfl)
theorem dX7_carsOf_25 : decode cX7_carsOf 25 = .ok (.iload_n 3, 1) := dk_29 (dk_at dksX7_carsOf_1 1 rfl rfl)
theorem dX7_carsOf_26 : decode cX7_carsOf 26 = .ok (.iconst 3, 1) := dk_6 (dk_at dksX7_carsOf_1 2 rfl rfl)
theorem dX7_carsOf_27 : decode cX7_carsOf 27 = .ok (.invokevirtual 91, 3) := dk_182 0 91 (dk_at dksX7_carsOf_1 3 rfl rfl)
theorem dX7_carsOf_30 : decode cX7_carsOf 30 = .ok (.iadd, 1) := dk_96 (dk_at dksX7_carsOf_1 6 rfl rfl)
theorem dX7_carsOf_31 : decode cX7_carsOf 31 = .ok (.istore_n 2, 1) := dk_61 (dk_at dksX7_carsOf_1 7 rfl rfl)
theorem dX7_carsOf_32 : decode cX7_carsOf 32 = .ok (.iinc 3 1, 3) := dk_132 3 1 (dk_at dksX7_carsOf_1 8 rfl rfl)
theorem dX7_carsOf_35 : decode cX7_carsOf 35 = .ok (.goto (-31), 3) := dk_167 255 225 (dk_at dksX7_carsOf_1 11 rfl rfl)
theorem dX7_carsOf_38 : decode cX7_carsOf 38 = .ok (.iload_n 2, 1) := dk_28 (dk_at dksX7_carsOf_1 14 rfl rfl)
theorem dX7_carsOf_39 : decode cX7_carsOf 39 = .ok (.ireturn, 1) := dk_172 (dk_at dksX7_carsOf_1 15 rfl rfl)
abbrev cX7_firstOf : ByteArray := prog_19_method_21_code
def yX7_firstOf : MethodName := ⟨RX7, "firstOf", "(I)I"⟩
def dkwX7_firstOf_2 : List UInt8 := [167, 255, 214, 28, 172]
abbrev dktX7_firstOf_2 : List UInt8 := dkwX7_firstOf_2 ++ []
def dkwX7_firstOf_1 : List UInt8 := [42, 29, 6, 182, 0, 91, 158, 0, 14, 28, 42, 29, 3, 182, 0, 99, 184, 0, 102, 61, 132, 3, 1]
abbrev dktX7_firstOf_1 : List UInt8 := dkwX7_firstOf_1 ++ dktX7_firstOf_2
def dkwX7_firstOf_0 : List UInt8 := [18, 98, 61, 3, 62, 29, 42, 180, 0, 7, 6, 46, 162, 0, 38, 42, 27, 29, 182, 0, 87, 153, 0, 23]
abbrev dktX7_firstOf_0 : List UInt8 := dkwX7_firstOf_0 ++ dktX7_firstOf_1
theorem dksX7_firstOf_0 : cX7_firstOf.data.toList.drop 0 = dktX7_firstOf_0 := by decide +kernel
theorem dksX7_firstOf_1 : cX7_firstOf.data.toList.drop 24 = dktX7_firstOf_1 := dk_seg dksX7_firstOf_0 24 rfl rfl
theorem dksX7_firstOf_2 : cX7_firstOf.data.toList.drop 47 = dktX7_firstOf_2 := dk_seg dksX7_firstOf_1 23 rfl rfl
theorem dX7_firstOf_0 : decode cX7_firstOf 0 = .ok (.ldc 98, 2) := dk_18 98 (dk_at dksX7_firstOf_0 0 rfl rfl)
theorem dX7_firstOf_2 : decode cX7_firstOf 2 = .ok (.istore_n 2, 1) := dk_61 (dk_at dksX7_firstOf_0 2 rfl rfl)
theorem dX7_firstOf_3 : decode cX7_firstOf 3 = .ok (.iconst 0, 1) := dk_3 (dk_at dksX7_firstOf_0 3 rfl rfl)
theorem dX7_firstOf_4 : decode cX7_firstOf 4 = .ok (.istore_n 3, 1) := dk_62 (dk_at dksX7_firstOf_0 4 rfl rfl)
theorem dX7_firstOf_5 : decode cX7_firstOf 5 = .ok (.iload_n 3, 1) := dk_29 (dk_at dksX7_firstOf_0 5 rfl rfl)
theorem dX7_firstOf_6 : decode cX7_firstOf 6 = .ok (.aload_n 0, 1) := dk_42 (dk_at dksX7_firstOf_0 6 rfl rfl)
theorem dX7_firstOf_7 : decode cX7_firstOf 7 = .ok (.getfield 7, 3) := dk_180 0 7 (dk_at dksX7_firstOf_0 7 rfl rfl)
theorem dX7_firstOf_10 : decode cX7_firstOf 10 = .ok (.iconst 3, 1) := dk_6 (dk_at dksX7_firstOf_0 10 rfl rfl)
theorem dX7_firstOf_11 : decode cX7_firstOf 11 = .ok (.iaload, 1) := dk_46 (dk_at dksX7_firstOf_0 11 rfl rfl)
theorem dX7_firstOf_12 : decode cX7_firstOf 12 = .ok (.if_icmp .ge 38, 3) := dk_162 0 38 (dk_at dksX7_firstOf_0 12 rfl rfl)
theorem dX7_firstOf_15 : decode cX7_firstOf 15 = .ok (.aload_n 0, 1) := dk_42 (dk_at dksX7_firstOf_0 15 rfl rfl)
theorem dX7_firstOf_16 : decode cX7_firstOf 16 = .ok (.iload_n 1, 1) := dk_27 (dk_at dksX7_firstOf_0 16 rfl rfl)
theorem dX7_firstOf_17 : decode cX7_firstOf 17 = .ok (.iload_n 3, 1) := dk_29 (dk_at dksX7_firstOf_0 17 rfl rfl)
theorem dX7_firstOf_18 : decode cX7_firstOf 18 = .ok (.invokevirtual 87, 3) := dk_182 0 87 (dk_at dksX7_firstOf_0 18 rfl rfl)
theorem dX7_firstOf_21 : decode cX7_firstOf 21 = .ok (.ifCond .eq 23, 3) := dk_153 0 23 (dk_at dksX7_firstOf_0 21 rfl rfl)
theorem dX7_firstOf_24 : decode cX7_firstOf 24 = .ok (.aload_n 0, 1) := dk_42 (dk_at dksX7_firstOf_1 0 rfl rfl)
theorem dX7_firstOf_25 : decode cX7_firstOf 25 = .ok (.iload_n 3, 1) := dk_29 (dk_at dksX7_firstOf_1 1 rfl rfl)
theorem dX7_firstOf_26 : decode cX7_firstOf 26 = .ok (.iconst 3, 1) := dk_6 (dk_at dksX7_firstOf_1 2 rfl rfl)
theorem dX7_firstOf_27 : decode cX7_firstOf 27 = .ok (.invokevirtual 91, 3) := dk_182 0 91 (dk_at dksX7_firstOf_1 3 rfl rfl)
theorem dX7_firstOf_30 : decode cX7_firstOf 30 = .ok (.ifCond .le 14, 3) := dk_158 0 14 (dk_at dksX7_firstOf_1 6 rfl rfl)
theorem dX7_firstOf_33 : decode cX7_firstOf 33 = .ok (.iload_n 2, 1) := dk_28 (dk_at dksX7_firstOf_1 9 rfl rfl)
theorem dX7_firstOf_34 : decode cX7_firstOf 34 = .ok (.aload_n 0, 1) := dk_42 (dk_at dksX7_firstOf_1 10 rfl rfl)
theorem dX7_firstOf_35 : decode cX7_firstOf 35 = .ok (.iload_n 3, 1) := dk_29 (dk_at dksX7_firstOf_1 11 rfl rfl)
theorem dX7_firstOf_36 : decode cX7_firstOf 36 = .ok (.iconst 0, 1) := dk_3 (dk_at dksX7_firstOf_1 12 rfl rfl)
theorem dX7_firstOf_37 : decode cX7_firstOf 37 = .ok (.invokevirtual 99, 3) := dk_182 0 99 (dk_at dksX7_firstOf_1 13 rfl rfl)
theorem dX7_firstOf_40 : decode cX7_firstOf 40 = .ok (.invokestatic 102, 3) := dk_184 0 102 (dk_at dksX7_firstOf_1 16 rfl rfl)
theorem dX7_firstOf_43 : decode cX7_firstOf 43 = .ok (.istore_n 2, 1) := dk_61 (dk_at dksX7_firstOf_1 19 rfl rfl)
theorem dX7_firstOf_44 : decode cX7_firstOf 44 = .ok (.iinc 3 1, 3) := dk_132 3 1 (dk_at dksX7_firstOf_1 20 rfl rfl)
theorem dX7_firstOf_47 : decode cX7_firstOf 47 = .ok (.goto (-42), 3) := dk_167 255 214 (dk_at dksX7_firstOf_2 0 rfl rfl)
theorem dX7_firstOf_50 : decode cX7_firstOf 50 = .ok (.iload_n 2, 1) := dk_28 (dk_at dksX7_firstOf_2 3 rfl rfl)
theorem dX7_firstOf_51 : decode cX7_firstOf 51 = .ok (.ireturn, 1) := dk_172 (dk_at dksX7_firstOf_2 4 rfl rfl)
abbrev cX7_busyArm : ByteArray := prog_19_method_25_code
def yX7_busyArm : MethodName := ⟨RX7, "busyArm", "()I"⟩
def dkwX7_busyArm_1 : List UInt8 := [153, 0, 13, 42, 27, 182, 0, 120, 153, 0, 5, 27, 172, 132, 1, 1, 167, 255, 218, 2, 172]
abbrev dktX7_busyArm_1 : List UInt8 := dkwX7_busyArm_1 ++ []
def dkwX7_busyArm_0 : List UInt8 := [3, 60, 27, 42, 180, 0, 7, 6, 46, 162, 0, 34, 42, 42, 180, 0, 7, 16, 6, 46, 27, 182, 0, 87]
abbrev dktX7_busyArm_0 : List UInt8 := dkwX7_busyArm_0 ++ dktX7_busyArm_1
theorem dksX7_busyArm_0 : cX7_busyArm.data.toList.drop 0 = dktX7_busyArm_0 := by decide +kernel
theorem dksX7_busyArm_1 : cX7_busyArm.data.toList.drop 24 = dktX7_busyArm_1 := dk_seg dksX7_busyArm_0 24 rfl rfl
theorem dX7_busyArm_0 : decode cX7_busyArm 0 = .ok (.iconst 0, 1) := dk_3 (dk_at dksX7_busyArm_0 0 rfl rfl)
theorem dX7_busyArm_1 : decode cX7_busyArm 1 = .ok (.istore_n 1, 1) := dk_60 (dk_at dksX7_busyArm_0 1 rfl rfl)
theorem dX7_busyArm_2 : decode cX7_busyArm 2 = .ok (.iload_n 1, 1) := dk_27 (dk_at dksX7_busyArm_0 2 rfl rfl)
theorem dX7_busyArm_3 : decode cX7_busyArm 3 = .ok (.aload_n 0, 1) := dk_42 (dk_at dksX7_busyArm_0 3 rfl rfl)
theorem dX7_busyArm_4 : decode cX7_busyArm 4 = .ok (.getfield 7, 3) := dk_180 0 7 (dk_at dksX7_busyArm_0 4 rfl rfl)
theorem dX7_busyArm_7 : decode cX7_busyArm 7 = .ok (.iconst 3, 1) := dk_6 (dk_at dksX7_busyArm_0 7 rfl rfl)
theorem dX7_busyArm_8 : decode cX7_busyArm 8 = .ok (.iaload, 1) := dk_46 (dk_at dksX7_busyArm_0 8 rfl rfl)
theorem dX7_busyArm_9 : decode cX7_busyArm 9 = .ok (.if_icmp .ge 34, 3) := dk_162 0 34 (dk_at dksX7_busyArm_0 9 rfl rfl)
theorem dX7_busyArm_12 : decode cX7_busyArm 12 = .ok (.aload_n 0, 1) := dk_42 (dk_at dksX7_busyArm_0 12 rfl rfl)
theorem dX7_busyArm_13 : decode cX7_busyArm 13 = .ok (.aload_n 0, 1) := dk_42 (dk_at dksX7_busyArm_0 13 rfl rfl)
theorem dX7_busyArm_14 : decode cX7_busyArm 14 = .ok (.getfield 7, 3) := dk_180 0 7 (dk_at dksX7_busyArm_0 14 rfl rfl)
theorem dX7_busyArm_17 : decode cX7_busyArm 17 = .ok (.bipush 6, 2) := dk_16 6 (dk_at dksX7_busyArm_0 17 rfl rfl)
theorem dX7_busyArm_19 : decode cX7_busyArm 19 = .ok (.iaload, 1) := dk_46 (dk_at dksX7_busyArm_0 19 rfl rfl)
theorem dX7_busyArm_20 : decode cX7_busyArm 20 = .ok (.iload_n 1, 1) := dk_27 (dk_at dksX7_busyArm_0 20 rfl rfl)
theorem dX7_busyArm_21 : decode cX7_busyArm 21 = .ok (.invokevirtual 87, 3) := dk_182 0 87 (dk_at dksX7_busyArm_0 21 rfl rfl)
theorem dX7_busyArm_24 : decode cX7_busyArm 24 = .ok (.ifCond .eq 13, 3) := dk_153 0 13 (dk_at dksX7_busyArm_1 0 rfl rfl)
theorem dX7_busyArm_27 : decode cX7_busyArm 27 = .ok (.aload_n 0, 1) := dk_42 (dk_at dksX7_busyArm_1 3 rfl rfl)
theorem dX7_busyArm_28 : decode cX7_busyArm 28 = .ok (.iload_n 1, 1) := dk_27 (dk_at dksX7_busyArm_1 4 rfl rfl)
theorem dX7_busyArm_29 : decode cX7_busyArm 29 = .ok (.invokevirtual 120, 3) := dk_182 0 120 (dk_at dksX7_busyArm_1 5 rfl rfl)
theorem dX7_busyArm_32 : decode cX7_busyArm 32 = .ok (.ifCond .eq 5, 3) := dk_153 0 5 (dk_at dksX7_busyArm_1 8 rfl rfl)
theorem dX7_busyArm_35 : decode cX7_busyArm 35 = .ok (.iload_n 1, 1) := dk_27 (dk_at dksX7_busyArm_1 11 rfl rfl)
theorem dX7_busyArm_36 : decode cX7_busyArm 36 = .ok (.ireturn, 1) := dk_172 (dk_at dksX7_busyArm_1 12 rfl rfl)
theorem dX7_busyArm_37 : decode cX7_busyArm 37 = .ok (.iinc 1 1, 3) := dk_132 1 1 (dk_at dksX7_busyArm_1 13 rfl rfl)
theorem dX7_busyArm_40 : decode cX7_busyArm 40 = .ok (.goto (-38), 3) := dk_167 255 218 (dk_at dksX7_busyArm_1 16 rfl rfl)
theorem dX7_busyArm_43 : decode cX7_busyArm 43 = .ok (.iconst (-1), 1) := dk_2 (dk_at dksX7_busyArm_1 19 rfl rfl)
theorem dX7_busyArm_44 : decode cX7_busyArm 44 = .ok (.ireturn, 1) := dk_172 (dk_at dksX7_busyArm_1 20 rfl rfl)
abbrev cX7_keepsBusy : ByteArray := prog_19_method_24_code
def yX7_keepsBusy : MethodName := ⟨RX7, "keepsBusy", "(I)Z"⟩
def dkwX7_keepsBusy_1 : List UInt8 := [180, 0, 7, 4, 46, 162, 0, 7, 4, 167, 0, 4, 3, 172]
abbrev dktX7_keepsBusy_1 : List UInt8 := dkwX7_keepsBusy_1 ++ []
def dkwX7_keepsBusy_0 : List UInt8 := [42, 27, 182, 0, 94, 154, 0, 25, 42, 180, 0, 7, 8, 46, 42, 27, 4, 182, 0, 91, 100, 42]
abbrev dktX7_keepsBusy_0 : List UInt8 := dkwX7_keepsBusy_0 ++ dktX7_keepsBusy_1
theorem dksX7_keepsBusy_0 : cX7_keepsBusy.data.toList.drop 0 = dktX7_keepsBusy_0 := by decide +kernel
theorem dksX7_keepsBusy_1 : cX7_keepsBusy.data.toList.drop 22 = dktX7_keepsBusy_1 := dk_seg dksX7_keepsBusy_0 22 rfl rfl
theorem dX7_keepsBusy_0 : decode cX7_keepsBusy 0 = .ok (.aload_n 0, 1) := dk_42 (dk_at dksX7_keepsBusy_0 0 rfl rfl)
theorem dX7_keepsBusy_1 : decode cX7_keepsBusy 1 = .ok (.iload_n 1, 1) := dk_27 (dk_at dksX7_keepsBusy_0 1 rfl rfl)
theorem dX7_keepsBusy_2 : decode cX7_keepsBusy 2 = .ok (.invokevirtual 94, 3) := dk_182 0 94 (dk_at dksX7_keepsBusy_0 2 rfl rfl)
theorem dX7_keepsBusy_5 : decode cX7_keepsBusy 5 = .ok (.ifCond .ne 25, 3) := dk_154 0 25 (dk_at dksX7_keepsBusy_0 5 rfl rfl)
theorem dX7_keepsBusy_8 : decode cX7_keepsBusy 8 = .ok (.aload_n 0, 1) := dk_42 (dk_at dksX7_keepsBusy_0 8 rfl rfl)
theorem dX7_keepsBusy_9 : decode cX7_keepsBusy 9 = .ok (.getfield 7, 3) := dk_180 0 7 (dk_at dksX7_keepsBusy_0 9 rfl rfl)
theorem dX7_keepsBusy_12 : decode cX7_keepsBusy 12 = .ok (.iconst 5, 1) := dk_8 (dk_at dksX7_keepsBusy_0 12 rfl rfl)
theorem dX7_keepsBusy_13 : decode cX7_keepsBusy 13 = .ok (.iaload, 1) := dk_46 (dk_at dksX7_keepsBusy_0 13 rfl rfl)
theorem dX7_keepsBusy_14 : decode cX7_keepsBusy 14 = .ok (.aload_n 0, 1) := dk_42 (dk_at dksX7_keepsBusy_0 14 rfl rfl)
theorem dX7_keepsBusy_15 : decode cX7_keepsBusy 15 = .ok (.iload_n 1, 1) := dk_27 (dk_at dksX7_keepsBusy_0 15 rfl rfl)
theorem dX7_keepsBusy_16 : decode cX7_keepsBusy 16 = .ok (.iconst 1, 1) := dk_4 (dk_at dksX7_keepsBusy_0 16 rfl rfl)
theorem dX7_keepsBusy_17 : decode cX7_keepsBusy 17 = .ok (.invokevirtual 91, 3) := dk_182 0 91 (dk_at dksX7_keepsBusy_0 17 rfl rfl)
theorem dX7_keepsBusy_20 : decode cX7_keepsBusy 20 = .ok (.isub, 1) := dk_100 (dk_at dksX7_keepsBusy_0 20 rfl rfl)
theorem dX7_keepsBusy_21 : decode cX7_keepsBusy 21 = .ok (.aload_n 0, 1) := dk_42 (dk_at dksX7_keepsBusy_0 21 rfl rfl)
theorem dX7_keepsBusy_22 : decode cX7_keepsBusy 22 = .ok (.getfield 7, 3) := dk_180 0 7 (dk_at dksX7_keepsBusy_1 0 rfl rfl)
theorem dX7_keepsBusy_25 : decode cX7_keepsBusy 25 = .ok (.iconst 1, 1) := dk_4 (dk_at dksX7_keepsBusy_1 3 rfl rfl)
theorem dX7_keepsBusy_26 : decode cX7_keepsBusy 26 = .ok (.iaload, 1) := dk_46 (dk_at dksX7_keepsBusy_1 4 rfl rfl)
theorem dX7_keepsBusy_27 : decode cX7_keepsBusy 27 = .ok (.if_icmp .ge 7, 3) := dk_162 0 7 (dk_at dksX7_keepsBusy_1 5 rfl rfl)
theorem dX7_keepsBusy_30 : decode cX7_keepsBusy 30 = .ok (.iconst 1, 1) := dk_4 (dk_at dksX7_keepsBusy_1 8 rfl rfl)
theorem dX7_keepsBusy_31 : decode cX7_keepsBusy 31 = .ok (.goto 4, 3) := dk_167 0 4 (dk_at dksX7_keepsBusy_1 9 rfl rfl)
theorem dX7_keepsBusy_34 : decode cX7_keepsBusy 34 = .ok (.iconst 0, 1) := dk_3 (dk_at dksX7_keepsBusy_1 12 rfl rfl)
theorem dX7_keepsBusy_35 : decode cX7_keepsBusy 35 = .ok (.ireturn, 1) := dk_172 (dk_at dksX7_keepsBusy_1 13 rfl rfl)
abbrev cX7_comesOn : ByteArray := prog_19_method_28_code
def yX7_comesOn : MethodName := ⟨RX7, "comesOn", "()V"⟩
def dkwX7_comesOn_3 : List UInt8 := [16, 8, 3, 79, 42, 180, 0, 7, 16, 9, 3, 79, 177]
abbrev dktX7_comesOn_3 : List UInt8 := dkwX7_comesOn_3 ++ []
def dkwX7_comesOn_2 : List UInt8 := [4, 96, 182, 0, 137, 42, 6, 4, 182, 0, 123, 42, 180, 0, 7, 16, 7, 2, 79, 42, 180, 0, 7]
abbrev dktX7_comesOn_2 : List UInt8 := dkwX7_comesOn_2 ++ dktX7_comesOn_3
def dkwX7_comesOn_1 : List UInt8 := [182, 0, 137, 42, 42, 180, 0, 7, 16, 6, 46, 6, 42, 42, 180, 0, 7, 16, 6, 46, 6, 182, 0, 79]
abbrev dktX7_comesOn_1 : List UInt8 := dkwX7_comesOn_1 ++ dktX7_comesOn_2
def dkwX7_comesOn_0 : List UInt8 := [42, 180, 0, 7, 16, 6, 42, 180, 0, 7, 16, 7, 46, 79, 42, 42, 180, 0, 7, 16, 6, 46, 5, 3]
abbrev dktX7_comesOn_0 : List UInt8 := dkwX7_comesOn_0 ++ dktX7_comesOn_1
theorem dksX7_comesOn_0 : cX7_comesOn.data.toList.drop 0 = dktX7_comesOn_0 := by decide +kernel
theorem dksX7_comesOn_1 : cX7_comesOn.data.toList.drop 24 = dktX7_comesOn_1 := dk_seg dksX7_comesOn_0 24 rfl rfl
theorem dksX7_comesOn_2 : cX7_comesOn.data.toList.drop 48 = dktX7_comesOn_2 := dk_seg dksX7_comesOn_1 24 rfl rfl
theorem dksX7_comesOn_3 : cX7_comesOn.data.toList.drop 71 = dktX7_comesOn_3 := dk_seg dksX7_comesOn_2 23 rfl rfl
theorem dX7_comesOn_0 : decode cX7_comesOn 0 = .ok (.aload_n 0, 1) := dk_42 (dk_at dksX7_comesOn_0 0 rfl rfl)
theorem dX7_comesOn_1 : decode cX7_comesOn 1 = .ok (.getfield 7, 3) := dk_180 0 7 (dk_at dksX7_comesOn_0 1 rfl rfl)
theorem dX7_comesOn_4 : decode cX7_comesOn 4 = .ok (.bipush 6, 2) := dk_16 6 (dk_at dksX7_comesOn_0 4 rfl rfl)
theorem dX7_comesOn_6 : decode cX7_comesOn 6 = .ok (.aload_n 0, 1) := dk_42 (dk_at dksX7_comesOn_0 6 rfl rfl)
theorem dX7_comesOn_7 : decode cX7_comesOn 7 = .ok (.getfield 7, 3) := dk_180 0 7 (dk_at dksX7_comesOn_0 7 rfl rfl)
theorem dX7_comesOn_10 : decode cX7_comesOn 10 = .ok (.bipush 7, 2) := dk_16 7 (dk_at dksX7_comesOn_0 10 rfl rfl)
theorem dX7_comesOn_12 : decode cX7_comesOn 12 = .ok (.iaload, 1) := dk_46 (dk_at dksX7_comesOn_0 12 rfl rfl)
theorem dX7_comesOn_13 : decode cX7_comesOn 13 = .ok (.iastore, 1) := dk_79 (dk_at dksX7_comesOn_0 13 rfl rfl)
theorem dX7_comesOn_14 : decode cX7_comesOn 14 = .ok (.aload_n 0, 1) := dk_42 (dk_at dksX7_comesOn_0 14 rfl rfl)
theorem dX7_comesOn_15 : decode cX7_comesOn 15 = .ok (.aload_n 0, 1) := dk_42 (dk_at dksX7_comesOn_0 15 rfl rfl)
theorem dX7_comesOn_16 : decode cX7_comesOn 16 = .ok (.getfield 7, 3) := dk_180 0 7 (dk_at dksX7_comesOn_0 16 rfl rfl)
theorem dX7_comesOn_19 : decode cX7_comesOn 19 = .ok (.bipush 6, 2) := dk_16 6 (dk_at dksX7_comesOn_0 19 rfl rfl)
theorem dX7_comesOn_21 : decode cX7_comesOn 21 = .ok (.iaload, 1) := dk_46 (dk_at dksX7_comesOn_0 21 rfl rfl)
theorem dX7_comesOn_22 : decode cX7_comesOn 22 = .ok (.iconst 2, 1) := dk_5 (dk_at dksX7_comesOn_0 22 rfl rfl)
theorem dX7_comesOn_23 : decode cX7_comesOn 23 = .ok (.iconst 0, 1) := dk_3 (dk_at dksX7_comesOn_0 23 rfl rfl)
theorem dX7_comesOn_24 : decode cX7_comesOn 24 = .ok (.invokevirtual 137, 3) := dk_182 0 137 (dk_at dksX7_comesOn_1 0 rfl rfl)
theorem dX7_comesOn_27 : decode cX7_comesOn 27 = .ok (.aload_n 0, 1) := dk_42 (dk_at dksX7_comesOn_1 3 rfl rfl)
theorem dX7_comesOn_28 : decode cX7_comesOn 28 = .ok (.aload_n 0, 1) := dk_42 (dk_at dksX7_comesOn_1 4 rfl rfl)
theorem dX7_comesOn_29 : decode cX7_comesOn 29 = .ok (.getfield 7, 3) := dk_180 0 7 (dk_at dksX7_comesOn_1 5 rfl rfl)
theorem dX7_comesOn_32 : decode cX7_comesOn 32 = .ok (.bipush 6, 2) := dk_16 6 (dk_at dksX7_comesOn_1 8 rfl rfl)
theorem dX7_comesOn_34 : decode cX7_comesOn 34 = .ok (.iaload, 1) := dk_46 (dk_at dksX7_comesOn_1 10 rfl rfl)
theorem dX7_comesOn_35 : decode cX7_comesOn 35 = .ok (.iconst 3, 1) := dk_6 (dk_at dksX7_comesOn_1 11 rfl rfl)
theorem dX7_comesOn_36 : decode cX7_comesOn 36 = .ok (.aload_n 0, 1) := dk_42 (dk_at dksX7_comesOn_1 12 rfl rfl)
theorem dX7_comesOn_37 : decode cX7_comesOn 37 = .ok (.aload_n 0, 1) := dk_42 (dk_at dksX7_comesOn_1 13 rfl rfl)
theorem dX7_comesOn_38 : decode cX7_comesOn 38 = .ok (.getfield 7, 3) := dk_180 0 7 (dk_at dksX7_comesOn_1 14 rfl rfl)
theorem dX7_comesOn_41 : decode cX7_comesOn 41 = .ok (.bipush 6, 2) := dk_16 6 (dk_at dksX7_comesOn_1 17 rfl rfl)
theorem dX7_comesOn_43 : decode cX7_comesOn 43 = .ok (.iaload, 1) := dk_46 (dk_at dksX7_comesOn_1 19 rfl rfl)
theorem dX7_comesOn_44 : decode cX7_comesOn 44 = .ok (.iconst 3, 1) := dk_6 (dk_at dksX7_comesOn_1 20 rfl rfl)
theorem dX7_comesOn_45 : decode cX7_comesOn 45 = .ok (.invokevirtual 79, 3) := dk_182 0 79 (dk_at dksX7_comesOn_1 21 rfl rfl)
theorem dX7_comesOn_48 : decode cX7_comesOn 48 = .ok (.iconst 1, 1) := dk_4 (dk_at dksX7_comesOn_2 0 rfl rfl)
theorem dX7_comesOn_49 : decode cX7_comesOn 49 = .ok (.iadd, 1) := dk_96 (dk_at dksX7_comesOn_2 1 rfl rfl)
theorem dX7_comesOn_50 : decode cX7_comesOn 50 = .ok (.invokevirtual 137, 3) := dk_182 0 137 (dk_at dksX7_comesOn_2 2 rfl rfl)
theorem dX7_comesOn_53 : decode cX7_comesOn 53 = .ok (.aload_n 0, 1) := dk_42 (dk_at dksX7_comesOn_2 5 rfl rfl)
theorem dX7_comesOn_54 : decode cX7_comesOn 54 = .ok (.iconst 3, 1) := dk_6 (dk_at dksX7_comesOn_2 6 rfl rfl)
theorem dX7_comesOn_55 : decode cX7_comesOn 55 = .ok (.iconst 1, 1) := dk_4 (dk_at dksX7_comesOn_2 7 rfl rfl)
theorem dX7_comesOn_56 : decode cX7_comesOn 56 = .ok (.invokevirtual 123, 3) := dk_182 0 123 (dk_at dksX7_comesOn_2 8 rfl rfl)
theorem dX7_comesOn_59 : decode cX7_comesOn 59 = .ok (.aload_n 0, 1) := dk_42 (dk_at dksX7_comesOn_2 11 rfl rfl)
theorem dX7_comesOn_60 : decode cX7_comesOn 60 = .ok (.getfield 7, 3) := dk_180 0 7 (dk_at dksX7_comesOn_2 12 rfl rfl)
theorem dX7_comesOn_63 : decode cX7_comesOn 63 = .ok (.bipush 7, 2) := dk_16 7 (dk_at dksX7_comesOn_2 15 rfl rfl)
theorem dX7_comesOn_65 : decode cX7_comesOn 65 = .ok (.iconst (-1), 1) := dk_2 (dk_at dksX7_comesOn_2 17 rfl rfl)
theorem dX7_comesOn_66 : decode cX7_comesOn 66 = .ok (.iastore, 1) := dk_79 (dk_at dksX7_comesOn_2 18 rfl rfl)
theorem dX7_comesOn_67 : decode cX7_comesOn 67 = .ok (.aload_n 0, 1) := dk_42 (dk_at dksX7_comesOn_2 19 rfl rfl)
theorem dX7_comesOn_68 : decode cX7_comesOn 68 = .ok (.getfield 7, 3) := dk_180 0 7 (dk_at dksX7_comesOn_2 20 rfl rfl)
theorem dX7_comesOn_71 : decode cX7_comesOn 71 = .ok (.bipush 8, 2) := dk_16 8 (dk_at dksX7_comesOn_3 0 rfl rfl)
theorem dX7_comesOn_73 : decode cX7_comesOn 73 = .ok (.iconst 0, 1) := dk_3 (dk_at dksX7_comesOn_3 2 rfl rfl)
theorem dX7_comesOn_74 : decode cX7_comesOn 74 = .ok (.iastore, 1) := dk_79 (dk_at dksX7_comesOn_3 3 rfl rfl)
theorem dX7_comesOn_75 : decode cX7_comesOn 75 = .ok (.aload_n 0, 1) := dk_42 (dk_at dksX7_comesOn_3 4 rfl rfl)
theorem dX7_comesOn_76 : decode cX7_comesOn 76 = .ok (.getfield 7, 3) := dk_180 0 7 (dk_at dksX7_comesOn_3 5 rfl rfl)
theorem dX7_comesOn_79 : decode cX7_comesOn 79 = .ok (.bipush 9, 2) := dk_16 9 (dk_at dksX7_comesOn_3 8 rfl rfl)
theorem dX7_comesOn_81 : decode cX7_comesOn 81 = .ok (.iconst 0, 1) := dk_3 (dk_at dksX7_comesOn_3 10 rfl rfl)
theorem dX7_comesOn_82 : decode cX7_comesOn 82 = .ok (.iastore, 1) := dk_79 (dk_at dksX7_comesOn_3 11 rfl rfl)
theorem dX7_comesOn_83 : decode cX7_comesOn 83 = .ok (.return_, 1) := dk_177 (dk_at dksX7_comesOn_3 12 rfl rfl)
abbrev cX7_isPhase : ByteArray := prog_19_method_16_code
def yX7_isPhase : MethodName := ⟨RX7, "isPhase", "(I)Z"⟩
def dkwX7_isPhase_0 : List UInt8 := [27, 3, 42, 180, 0, 7, 7, 46, 4, 100, 184, 0, 83, 172]
abbrev dktX7_isPhase_0 : List UInt8 := dkwX7_isPhase_0 ++ []
theorem dksX7_isPhase_0 : cX7_isPhase.data.toList.drop 0 = dktX7_isPhase_0 := by decide +kernel
theorem dX7_isPhase_0 : decode cX7_isPhase 0 = .ok (.iload_n 1, 1) := dk_27 (dk_at dksX7_isPhase_0 0 rfl rfl)
theorem dX7_isPhase_1 : decode cX7_isPhase 1 = .ok (.iconst 0, 1) := dk_3 (dk_at dksX7_isPhase_0 1 rfl rfl)
theorem dX7_isPhase_2 : decode cX7_isPhase 2 = .ok (.aload_n 0, 1) := dk_42 (dk_at dksX7_isPhase_0 2 rfl rfl)
theorem dX7_isPhase_3 : decode cX7_isPhase 3 = .ok (.getfield 7, 3) := dk_180 0 7 (dk_at dksX7_isPhase_0 3 rfl rfl)
theorem dX7_isPhase_6 : decode cX7_isPhase 6 = .ok (.iconst 4, 1) := dk_7 (dk_at dksX7_isPhase_0 6 rfl rfl)
theorem dX7_isPhase_7 : decode cX7_isPhase 7 = .ok (.iaload, 1) := dk_46 (dk_at dksX7_isPhase_0 7 rfl rfl)
theorem dX7_isPhase_8 : decode cX7_isPhase 8 = .ok (.iconst 1, 1) := dk_4 (dk_at dksX7_isPhase_0 8 rfl rfl)
theorem dX7_isPhase_9 : decode cX7_isPhase 9 = .ok (.isub, 1) := dk_100 (dk_at dksX7_isPhase_0 9 rfl rfl)
theorem dX7_isPhase_10 : decode cX7_isPhase 10 = .ok (.invokestatic 83, 3) := dk_184 0 83 (dk_at dksX7_isPhase_0 10 rfl rfl)
theorem dX7_isPhase_13 : decode cX7_isPhase 13 = .ok (.ireturn, 1) := dk_172 (dk_at dksX7_isPhase_0 13 rfl rfl)
abbrev cX7_calling : ByteArray := prog_19_method_99_code
def yX7_calling : MethodName := ⟨RX7, "calling", "(I)I"⟩
def dkwX7_calling_3 : List UInt8 := [167, 255, 234, 28, 172]
abbrev dktX7_calling_3 : List UInt8 := dkwX7_calling_3 ++ []
def dkwX7_calling_2 : List UInt8 := [62, 29, 42, 180, 0, 7, 7, 46, 162, 0, 18, 28, 42, 29, 5, 182, 0, 79, 96, 61, 132, 3, 1]
abbrev dktX7_calling_2 : List UInt8 := dkwX7_calling_2 ++ dktX7_calling_3
def dkwX7_calling_1 : List UInt8 := [182, 1, 118, 172, 42, 182, 1, 121, 42, 27, 5, 4, 182, 0, 137, 42, 8, 4, 182, 0, 123, 3, 61, 3]
abbrev dktX7_calling_1 : List UInt8 := dkwX7_calling_1 ++ dktX7_calling_2
def dkwX7_calling_0 : List UInt8 := [27, 42, 180, 0, 7, 16, 6, 46, 159, 0, 13, 42, 27, 5, 182, 0, 79, 4, 160, 0, 10, 42, 16, 252]
abbrev dktX7_calling_0 : List UInt8 := dkwX7_calling_0 ++ dktX7_calling_1
theorem dksX7_calling_0 : cX7_calling.data.toList.drop 0 = dktX7_calling_0 := by decide +kernel
theorem dksX7_calling_1 : cX7_calling.data.toList.drop 24 = dktX7_calling_1 := dk_seg dksX7_calling_0 24 rfl rfl
theorem dksX7_calling_2 : cX7_calling.data.toList.drop 48 = dktX7_calling_2 := dk_seg dksX7_calling_1 24 rfl rfl
theorem dksX7_calling_3 : cX7_calling.data.toList.drop 71 = dktX7_calling_3 := dk_seg dksX7_calling_2 23 rfl rfl
theorem dX7_calling_0 : decode cX7_calling 0 = .ok (.iload_n 1, 1) := dk_27 (dk_at dksX7_calling_0 0 rfl rfl)
theorem dX7_calling_1 : decode cX7_calling 1 = .ok (.aload_n 0, 1) := dk_42 (dk_at dksX7_calling_0 1 rfl rfl)
theorem dX7_calling_2 : decode cX7_calling 2 = .ok (.getfield 7, 3) := dk_180 0 7 (dk_at dksX7_calling_0 2 rfl rfl)
theorem dX7_calling_5 : decode cX7_calling 5 = .ok (.bipush 6, 2) := dk_16 6 (dk_at dksX7_calling_0 5 rfl rfl)
theorem dX7_calling_7 : decode cX7_calling 7 = .ok (.iaload, 1) := dk_46 (dk_at dksX7_calling_0 7 rfl rfl)
theorem dX7_calling_8 : decode cX7_calling 8 = .ok (.if_icmp .eq 13, 3) := dk_159 0 13 (dk_at dksX7_calling_0 8 rfl rfl)
theorem dX7_calling_11 : decode cX7_calling 11 = .ok (.aload_n 0, 1) := dk_42 (dk_at dksX7_calling_0 11 rfl rfl)
theorem dX7_calling_12 : decode cX7_calling 12 = .ok (.iload_n 1, 1) := dk_27 (dk_at dksX7_calling_0 12 rfl rfl)
theorem dX7_calling_13 : decode cX7_calling 13 = .ok (.iconst 2, 1) := dk_5 (dk_at dksX7_calling_0 13 rfl rfl)
theorem dX7_calling_14 : decode cX7_calling 14 = .ok (.invokevirtual 79, 3) := dk_182 0 79 (dk_at dksX7_calling_0 14 rfl rfl)
theorem dX7_calling_17 : decode cX7_calling 17 = .ok (.iconst 1, 1) := dk_4 (dk_at dksX7_calling_0 17 rfl rfl)
theorem dX7_calling_18 : decode cX7_calling 18 = .ok (.if_icmp .ne 10, 3) := dk_160 0 10 (dk_at dksX7_calling_0 18 rfl rfl)
theorem dX7_calling_21 : decode cX7_calling 21 = .ok (.aload_n 0, 1) := dk_42 (dk_at dksX7_calling_0 21 rfl rfl)
theorem dX7_calling_22 : decode cX7_calling 22 = .ok (.bipush (-4), 2) := dk_16 252 (dk_at dksX7_calling_0 22 rfl rfl)
theorem dX7_calling_24 : decode cX7_calling 24 = .ok (.invokevirtual 374, 3) := dk_182 1 118 (dk_at dksX7_calling_1 0 rfl rfl)
theorem dX7_calling_27 : decode cX7_calling 27 = .ok (.ireturn, 1) := dk_172 (dk_at dksX7_calling_1 3 rfl rfl)
theorem dX7_calling_28 : decode cX7_calling 28 = .ok (.aload_n 0, 1) := dk_42 (dk_at dksX7_calling_1 4 rfl rfl)
theorem dX7_calling_29 : decode cX7_calling 29 = .ok (.invokevirtual 377, 3) := dk_182 1 121 (dk_at dksX7_calling_1 5 rfl rfl)
theorem dX7_calling_32 : decode cX7_calling 32 = .ok (.aload_n 0, 1) := dk_42 (dk_at dksX7_calling_1 8 rfl rfl)
theorem dX7_calling_33 : decode cX7_calling 33 = .ok (.iload_n 1, 1) := dk_27 (dk_at dksX7_calling_1 9 rfl rfl)
theorem dX7_calling_34 : decode cX7_calling 34 = .ok (.iconst 2, 1) := dk_5 (dk_at dksX7_calling_1 10 rfl rfl)
theorem dX7_calling_35 : decode cX7_calling 35 = .ok (.iconst 1, 1) := dk_4 (dk_at dksX7_calling_1 11 rfl rfl)
theorem dX7_calling_36 : decode cX7_calling 36 = .ok (.invokevirtual 137, 3) := dk_182 0 137 (dk_at dksX7_calling_1 12 rfl rfl)
theorem dX7_calling_39 : decode cX7_calling 39 = .ok (.aload_n 0, 1) := dk_42 (dk_at dksX7_calling_1 15 rfl rfl)
theorem dX7_calling_40 : decode cX7_calling 40 = .ok (.iconst 5, 1) := dk_8 (dk_at dksX7_calling_1 16 rfl rfl)
theorem dX7_calling_41 : decode cX7_calling 41 = .ok (.iconst 1, 1) := dk_4 (dk_at dksX7_calling_1 17 rfl rfl)
theorem dX7_calling_42 : decode cX7_calling 42 = .ok (.invokevirtual 123, 3) := dk_182 0 123 (dk_at dksX7_calling_1 18 rfl rfl)
theorem dX7_calling_45 : decode cX7_calling 45 = .ok (.iconst 0, 1) := dk_3 (dk_at dksX7_calling_1 21 rfl rfl)
theorem dX7_calling_46 : decode cX7_calling 46 = .ok (.istore_n 2, 1) := dk_61 (dk_at dksX7_calling_1 22 rfl rfl)
theorem dX7_calling_47 : decode cX7_calling 47 = .ok (.iconst 0, 1) := dk_3 (dk_at dksX7_calling_1 23 rfl rfl)
theorem dX7_calling_48 : decode cX7_calling 48 = .ok (.istore_n 3, 1) := dk_62 (dk_at dksX7_calling_2 0 rfl rfl)
theorem dX7_calling_49 : decode cX7_calling 49 = .ok (.iload_n 3, 1) := dk_29 (dk_at dksX7_calling_2 1 rfl rfl)
theorem dX7_calling_50 : decode cX7_calling 50 = .ok (.aload_n 0, 1) := dk_42 (dk_at dksX7_calling_2 2 rfl rfl)
theorem dX7_calling_51 : decode cX7_calling 51 = .ok (.getfield 7, 3) := dk_180 0 7 (dk_at dksX7_calling_2 3 rfl rfl)
theorem dX7_calling_54 : decode cX7_calling 54 = .ok (.iconst 4, 1) := dk_7 (dk_at dksX7_calling_2 6 rfl rfl)
theorem dX7_calling_55 : decode cX7_calling 55 = .ok (.iaload, 1) := dk_46 (dk_at dksX7_calling_2 7 rfl rfl)
theorem dX7_calling_56 : decode cX7_calling 56 = .ok (.if_icmp .ge 18, 3) := dk_162 0 18 (dk_at dksX7_calling_2 8 rfl rfl)
theorem dX7_calling_59 : decode cX7_calling 59 = .ok (.iload_n 2, 1) := dk_28 (dk_at dksX7_calling_2 11 rfl rfl)
theorem dX7_calling_60 : decode cX7_calling 60 = .ok (.aload_n 0, 1) := dk_42 (dk_at dksX7_calling_2 12 rfl rfl)
theorem dX7_calling_61 : decode cX7_calling 61 = .ok (.iload_n 3, 1) := dk_29 (dk_at dksX7_calling_2 13 rfl rfl)
theorem dX7_calling_62 : decode cX7_calling 62 = .ok (.iconst 2, 1) := dk_5 (dk_at dksX7_calling_2 14 rfl rfl)
theorem dX7_calling_63 : decode cX7_calling 63 = .ok (.invokevirtual 79, 3) := dk_182 0 79 (dk_at dksX7_calling_2 15 rfl rfl)
theorem dX7_calling_66 : decode cX7_calling 66 = .ok (.iadd, 1) := dk_96 (dk_at dksX7_calling_2 18 rfl rfl)
theorem dX7_calling_67 : decode cX7_calling 67 = .ok (.istore_n 2, 1) := dk_61 (dk_at dksX7_calling_2 19 rfl rfl)
theorem dX7_calling_68 : decode cX7_calling 68 = .ok (.iinc 3 1, 3) := dk_132 3 1 (dk_at dksX7_calling_2 20 rfl rfl)
theorem dX7_calling_71 : decode cX7_calling 71 = .ok (.goto (-22), 3) := dk_167 255 234 (dk_at dksX7_calling_3 0 rfl rfl)
theorem dX7_calling_74 : decode cX7_calling 74 = .ok (.iload_n 2, 1) := dk_28 (dk_at dksX7_calling_3 3 rfl rfl)
theorem dX7_calling_75 : decode cX7_calling 75 = .ok (.ireturn, 1) := dk_172 (dk_at dksX7_calling_3 4 rfl rfl)
abbrev cX7_breaking : ByteArray := prog_19_method_101_code
def yX7_breaking : MethodName := ⟨RX7, "breaking", "(II)I"⟩
def dkwX7_breaking_2 : List UInt8 := [5, 182, 0, 91, 96, 62, 132, 4, 1, 167, 255, 232, 29, 172]
abbrev dktX7_breaking_2 : List UInt8 := dkwX7_breaking_2 ++ []
def dkwX7_breaking_1 : List UInt8 := [28, 182, 0, 127, 3, 62, 3, 54, 4, 21, 4, 42, 180, 0, 7, 6, 46, 162, 0, 19, 29, 42, 21, 4]
abbrev dktX7_breaking_1 : List UInt8 := dkwX7_breaking_1 ++ dktX7_breaking_2
def dkwX7_breaking_0 : List UInt8 := [42, 27, 5, 182, 0, 91, 28, 160, 0, 10, 42, 16, 252, 182, 1, 118, 172, 42, 182, 1, 121, 42, 27, 5]
abbrev dktX7_breaking_0 : List UInt8 := dkwX7_breaking_0 ++ dktX7_breaking_1
theorem dksX7_breaking_0 : cX7_breaking.data.toList.drop 0 = dktX7_breaking_0 := by decide +kernel
theorem dksX7_breaking_1 : cX7_breaking.data.toList.drop 24 = dktX7_breaking_1 := dk_seg dksX7_breaking_0 24 rfl rfl
theorem dksX7_breaking_2 : cX7_breaking.data.toList.drop 48 = dktX7_breaking_2 := dk_seg dksX7_breaking_1 24 rfl rfl
theorem dX7_breaking_0 : decode cX7_breaking 0 = .ok (.aload_n 0, 1) := dk_42 (dk_at dksX7_breaking_0 0 rfl rfl)
theorem dX7_breaking_1 : decode cX7_breaking 1 = .ok (.iload_n 1, 1) := dk_27 (dk_at dksX7_breaking_0 1 rfl rfl)
theorem dX7_breaking_2 : decode cX7_breaking 2 = .ok (.iconst 2, 1) := dk_5 (dk_at dksX7_breaking_0 2 rfl rfl)
theorem dX7_breaking_3 : decode cX7_breaking 3 = .ok (.invokevirtual 91, 3) := dk_182 0 91 (dk_at dksX7_breaking_0 3 rfl rfl)
theorem dX7_breaking_6 : decode cX7_breaking 6 = .ok (.iload_n 2, 1) := dk_28 (dk_at dksX7_breaking_0 6 rfl rfl)
theorem dX7_breaking_7 : decode cX7_breaking 7 = .ok (.if_icmp .ne 10, 3) := dk_160 0 10 (dk_at dksX7_breaking_0 7 rfl rfl)
theorem dX7_breaking_10 : decode cX7_breaking 10 = .ok (.aload_n 0, 1) := dk_42 (dk_at dksX7_breaking_0 10 rfl rfl)
theorem dX7_breaking_11 : decode cX7_breaking 11 = .ok (.bipush (-4), 2) := dk_16 252 (dk_at dksX7_breaking_0 11 rfl rfl)
theorem dX7_breaking_13 : decode cX7_breaking 13 = .ok (.invokevirtual 374, 3) := dk_182 1 118 (dk_at dksX7_breaking_0 13 rfl rfl)
theorem dX7_breaking_16 : decode cX7_breaking 16 = .ok (.ireturn, 1) := dk_172 (dk_at dksX7_breaking_0 16 rfl rfl)
theorem dX7_breaking_17 : decode cX7_breaking 17 = .ok (.aload_n 0, 1) := dk_42 (dk_at dksX7_breaking_0 17 rfl rfl)
theorem dX7_breaking_18 : decode cX7_breaking 18 = .ok (.invokevirtual 377, 3) := dk_182 1 121 (dk_at dksX7_breaking_0 18 rfl rfl)
theorem dX7_breaking_21 : decode cX7_breaking 21 = .ok (.aload_n 0, 1) := dk_42 (dk_at dksX7_breaking_0 21 rfl rfl)
theorem dX7_breaking_22 : decode cX7_breaking 22 = .ok (.iload_n 1, 1) := dk_27 (dk_at dksX7_breaking_0 22 rfl rfl)
theorem dX7_breaking_23 : decode cX7_breaking 23 = .ok (.iconst 2, 1) := dk_5 (dk_at dksX7_breaking_0 23 rfl rfl)
theorem dX7_breaking_24 : decode cX7_breaking 24 = .ok (.iload_n 2, 1) := dk_28 (dk_at dksX7_breaking_1 0 rfl rfl)
theorem dX7_breaking_25 : decode cX7_breaking 25 = .ok (.invokevirtual 127, 3) := dk_182 0 127 (dk_at dksX7_breaking_1 1 rfl rfl)
theorem dX7_breaking_28 : decode cX7_breaking 28 = .ok (.iconst 0, 1) := dk_3 (dk_at dksX7_breaking_1 4 rfl rfl)
theorem dX7_breaking_29 : decode cX7_breaking 29 = .ok (.istore_n 3, 1) := dk_62 (dk_at dksX7_breaking_1 5 rfl rfl)
theorem dX7_breaking_30 : decode cX7_breaking 30 = .ok (.iconst 0, 1) := dk_3 (dk_at dksX7_breaking_1 6 rfl rfl)
theorem dX7_breaking_31 : decode cX7_breaking 31 = .ok (.istore 4, 2) := dk_54 4 (dk_at dksX7_breaking_1 7 rfl rfl)
theorem dX7_breaking_33 : decode cX7_breaking 33 = .ok (.iload 4, 2) := dk_21 4 (dk_at dksX7_breaking_1 9 rfl rfl)
theorem dX7_breaking_35 : decode cX7_breaking 35 = .ok (.aload_n 0, 1) := dk_42 (dk_at dksX7_breaking_1 11 rfl rfl)
theorem dX7_breaking_36 : decode cX7_breaking 36 = .ok (.getfield 7, 3) := dk_180 0 7 (dk_at dksX7_breaking_1 12 rfl rfl)
theorem dX7_breaking_39 : decode cX7_breaking 39 = .ok (.iconst 3, 1) := dk_6 (dk_at dksX7_breaking_1 15 rfl rfl)
theorem dX7_breaking_40 : decode cX7_breaking 40 = .ok (.iaload, 1) := dk_46 (dk_at dksX7_breaking_1 16 rfl rfl)
theorem dX7_breaking_41 : decode cX7_breaking 41 = .ok (.if_icmp .ge 19, 3) := dk_162 0 19 (dk_at dksX7_breaking_1 17 rfl rfl)
theorem dX7_breaking_44 : decode cX7_breaking 44 = .ok (.iload_n 3, 1) := dk_29 (dk_at dksX7_breaking_1 20 rfl rfl)
theorem dX7_breaking_45 : decode cX7_breaking 45 = .ok (.aload_n 0, 1) := dk_42 (dk_at dksX7_breaking_1 21 rfl rfl)
theorem dX7_breaking_46 : decode cX7_breaking 46 = .ok (.iload 4, 2) := dk_21 4 (dk_at dksX7_breaking_1 22 rfl rfl)
theorem dX7_breaking_48 : decode cX7_breaking 48 = .ok (.iconst 2, 1) := dk_5 (dk_at dksX7_breaking_2 0 rfl rfl)
theorem dX7_breaking_49 : decode cX7_breaking 49 = .ok (.invokevirtual 91, 3) := dk_182 0 91 (dk_at dksX7_breaking_2 1 rfl rfl)
theorem dX7_breaking_52 : decode cX7_breaking 52 = .ok (.iadd, 1) := dk_96 (dk_at dksX7_breaking_2 4 rfl rfl)
theorem dX7_breaking_53 : decode cX7_breaking 53 = .ok (.istore_n 3, 1) := dk_62 (dk_at dksX7_breaking_2 5 rfl rfl)
theorem dX7_breaking_54 : decode cX7_breaking 54 = .ok (.iinc 4 1, 3) := dk_132 4 1 (dk_at dksX7_breaking_2 6 rfl rfl)
theorem dX7_breaking_57 : decode cX7_breaking 57 = .ok (.goto (-24), 3) := dk_167 255 232 (dk_at dksX7_breaking_2 9 rfl rfl)
theorem dX7_breaking_60 : decode cX7_breaking 60 = .ok (.iload_n 3, 1) := dk_29 (dk_at dksX7_breaking_2 12 rfl rfl)
theorem dX7_breaking_61 : decode cX7_breaking 61 = .ok (.ireturn, 1) := dk_172 (dk_at dksX7_breaking_2 13 rfl rfl)
abbrev cX7_setting : ByteArray := prog_19_method_107_code
def yX7_setting : MethodName := ⟨RX7, "setting", "(II)I"⟩
def dkwX7_setting_0 : List UInt8 := [42, 182, 1, 121, 42, 180, 0, 7, 27, 46, 62, 42, 180, 0, 7, 27, 28, 79, 29, 172]
abbrev dktX7_setting_0 : List UInt8 := dkwX7_setting_0 ++ []
theorem dksX7_setting_0 : cX7_setting.data.toList.drop 0 = dktX7_setting_0 := by decide +kernel
theorem dX7_setting_0 : decode cX7_setting 0 = .ok (.aload_n 0, 1) := dk_42 (dk_at dksX7_setting_0 0 rfl rfl)
theorem dX7_setting_1 : decode cX7_setting 1 = .ok (.invokevirtual 377, 3) := dk_182 1 121 (dk_at dksX7_setting_0 1 rfl rfl)
theorem dX7_setting_4 : decode cX7_setting 4 = .ok (.aload_n 0, 1) := dk_42 (dk_at dksX7_setting_0 4 rfl rfl)
theorem dX7_setting_5 : decode cX7_setting 5 = .ok (.getfield 7, 3) := dk_180 0 7 (dk_at dksX7_setting_0 5 rfl rfl)
theorem dX7_setting_8 : decode cX7_setting 8 = .ok (.iload_n 1, 1) := dk_27 (dk_at dksX7_setting_0 8 rfl rfl)
theorem dX7_setting_9 : decode cX7_setting 9 = .ok (.iaload, 1) := dk_46 (dk_at dksX7_setting_0 9 rfl rfl)
theorem dX7_setting_10 : decode cX7_setting 10 = .ok (.istore_n 3, 1) := dk_62 (dk_at dksX7_setting_0 10 rfl rfl)
theorem dX7_setting_11 : decode cX7_setting 11 = .ok (.aload_n 0, 1) := dk_42 (dk_at dksX7_setting_0 11 rfl rfl)
theorem dX7_setting_12 : decode cX7_setting 12 = .ok (.getfield 7, 3) := dk_180 0 7 (dk_at dksX7_setting_0 12 rfl rfl)
theorem dX7_setting_15 : decode cX7_setting 15 = .ok (.iload_n 1, 1) := dk_27 (dk_at dksX7_setting_0 15 rfl rfl)
theorem dX7_setting_16 : decode cX7_setting 16 = .ok (.iload_n 2, 1) := dk_28 (dk_at dksX7_setting_0 16 rfl rfl)
theorem dX7_setting_17 : decode cX7_setting 17 = .ok (.iastore, 1) := dk_79 (dk_at dksX7_setting_0 17 rfl rfl)
theorem dX7_setting_18 : decode cX7_setting 18 = .ok (.iload_n 3, 1) := dk_29 (dk_at dksX7_setting_0 18 rfl rfl)
theorem dX7_setting_19 : decode cX7_setting 19 = .ok (.ireturn, 1) := dk_172 (dk_at dksX7_setting_0 19 rfl rfl)
abbrev cX7_ofPhaseSetting : ByteArray := prog_19_method_105_code
def yX7_ofPhaseSetting : MethodName := ⟨RX7, "ofPhaseSetting", "(III)I"⟩
def dkwX7_ofPhaseSetting_2 : List UInt8 := [28, 29, 182, 0, 137, 21, 4, 172]
abbrev dktX7_ofPhaseSetting_2 : List UInt8 := dkwX7_ofPhaseSetting_2 ++ []
def dkwX7_ofPhaseSetting_1 : List UInt8 := [162, 0, 10, 42, 16, 250, 182, 1, 118, 172, 42, 182, 1, 121, 42, 27, 28, 182, 0, 79, 54, 4, 42, 27]
abbrev dktX7_ofPhaseSetting_1 : List UInt8 := dkwX7_ofPhaseSetting_1 ++ dktX7_ofPhaseSetting_2
def dkwX7_ofPhaseSetting_0 : List UInt8 := [28, 154, 0, 16, 29, 42, 27, 4, 182, 0, 79, 164, 0, 23, 167, 0, 13, 29, 42, 27, 3, 182, 0, 79]
abbrev dktX7_ofPhaseSetting_0 : List UInt8 := dkwX7_ofPhaseSetting_0 ++ dktX7_ofPhaseSetting_1
theorem dksX7_ofPhaseSetting_0 : cX7_ofPhaseSetting.data.toList.drop 0 = dktX7_ofPhaseSetting_0 := by decide +kernel
theorem dksX7_ofPhaseSetting_1 : cX7_ofPhaseSetting.data.toList.drop 24 = dktX7_ofPhaseSetting_1 := dk_seg dksX7_ofPhaseSetting_0 24 rfl rfl
theorem dksX7_ofPhaseSetting_2 : cX7_ofPhaseSetting.data.toList.drop 48 = dktX7_ofPhaseSetting_2 := dk_seg dksX7_ofPhaseSetting_1 24 rfl rfl
theorem dX7_ofPhaseSetting_0 : decode cX7_ofPhaseSetting 0 = .ok (.iload_n 2, 1) := dk_28 (dk_at dksX7_ofPhaseSetting_0 0 rfl rfl)
theorem dX7_ofPhaseSetting_1 : decode cX7_ofPhaseSetting 1 = .ok (.ifCond .ne 16, 3) := dk_154 0 16 (dk_at dksX7_ofPhaseSetting_0 1 rfl rfl)
theorem dX7_ofPhaseSetting_4 : decode cX7_ofPhaseSetting 4 = .ok (.iload_n 3, 1) := dk_29 (dk_at dksX7_ofPhaseSetting_0 4 rfl rfl)
theorem dX7_ofPhaseSetting_5 : decode cX7_ofPhaseSetting 5 = .ok (.aload_n 0, 1) := dk_42 (dk_at dksX7_ofPhaseSetting_0 5 rfl rfl)
theorem dX7_ofPhaseSetting_6 : decode cX7_ofPhaseSetting 6 = .ok (.iload_n 1, 1) := dk_27 (dk_at dksX7_ofPhaseSetting_0 6 rfl rfl)
theorem dX7_ofPhaseSetting_7 : decode cX7_ofPhaseSetting 7 = .ok (.iconst 1, 1) := dk_4 (dk_at dksX7_ofPhaseSetting_0 7 rfl rfl)
theorem dX7_ofPhaseSetting_8 : decode cX7_ofPhaseSetting 8 = .ok (.invokevirtual 79, 3) := dk_182 0 79 (dk_at dksX7_ofPhaseSetting_0 8 rfl rfl)
theorem dX7_ofPhaseSetting_11 : decode cX7_ofPhaseSetting 11 = .ok (.if_icmp .le 23, 3) := dk_164 0 23 (dk_at dksX7_ofPhaseSetting_0 11 rfl rfl)
theorem dX7_ofPhaseSetting_14 : decode cX7_ofPhaseSetting 14 = .ok (.goto 13, 3) := dk_167 0 13 (dk_at dksX7_ofPhaseSetting_0 14 rfl rfl)
theorem dX7_ofPhaseSetting_17 : decode cX7_ofPhaseSetting 17 = .ok (.iload_n 3, 1) := dk_29 (dk_at dksX7_ofPhaseSetting_0 17 rfl rfl)
theorem dX7_ofPhaseSetting_18 : decode cX7_ofPhaseSetting 18 = .ok (.aload_n 0, 1) := dk_42 (dk_at dksX7_ofPhaseSetting_0 18 rfl rfl)
theorem dX7_ofPhaseSetting_19 : decode cX7_ofPhaseSetting 19 = .ok (.iload_n 1, 1) := dk_27 (dk_at dksX7_ofPhaseSetting_0 19 rfl rfl)
theorem dX7_ofPhaseSetting_20 : decode cX7_ofPhaseSetting 20 = .ok (.iconst 0, 1) := dk_3 (dk_at dksX7_ofPhaseSetting_0 20 rfl rfl)
theorem dX7_ofPhaseSetting_21 : decode cX7_ofPhaseSetting 21 = .ok (.invokevirtual 79, 3) := dk_182 0 79 (dk_at dksX7_ofPhaseSetting_0 21 rfl rfl)
theorem dX7_ofPhaseSetting_24 : decode cX7_ofPhaseSetting 24 = .ok (.if_icmp .ge 10, 3) := dk_162 0 10 (dk_at dksX7_ofPhaseSetting_1 0 rfl rfl)
theorem dX7_ofPhaseSetting_27 : decode cX7_ofPhaseSetting 27 = .ok (.aload_n 0, 1) := dk_42 (dk_at dksX7_ofPhaseSetting_1 3 rfl rfl)
theorem dX7_ofPhaseSetting_28 : decode cX7_ofPhaseSetting 28 = .ok (.bipush (-6), 2) := dk_16 250 (dk_at dksX7_ofPhaseSetting_1 4 rfl rfl)
theorem dX7_ofPhaseSetting_30 : decode cX7_ofPhaseSetting 30 = .ok (.invokevirtual 374, 3) := dk_182 1 118 (dk_at dksX7_ofPhaseSetting_1 6 rfl rfl)
theorem dX7_ofPhaseSetting_33 : decode cX7_ofPhaseSetting 33 = .ok (.ireturn, 1) := dk_172 (dk_at dksX7_ofPhaseSetting_1 9 rfl rfl)
theorem dX7_ofPhaseSetting_34 : decode cX7_ofPhaseSetting 34 = .ok (.aload_n 0, 1) := dk_42 (dk_at dksX7_ofPhaseSetting_1 10 rfl rfl)
theorem dX7_ofPhaseSetting_35 : decode cX7_ofPhaseSetting 35 = .ok (.invokevirtual 377, 3) := dk_182 1 121 (dk_at dksX7_ofPhaseSetting_1 11 rfl rfl)
theorem dX7_ofPhaseSetting_38 : decode cX7_ofPhaseSetting 38 = .ok (.aload_n 0, 1) := dk_42 (dk_at dksX7_ofPhaseSetting_1 14 rfl rfl)
theorem dX7_ofPhaseSetting_39 : decode cX7_ofPhaseSetting 39 = .ok (.iload_n 1, 1) := dk_27 (dk_at dksX7_ofPhaseSetting_1 15 rfl rfl)
theorem dX7_ofPhaseSetting_40 : decode cX7_ofPhaseSetting 40 = .ok (.iload_n 2, 1) := dk_28 (dk_at dksX7_ofPhaseSetting_1 16 rfl rfl)
theorem dX7_ofPhaseSetting_41 : decode cX7_ofPhaseSetting 41 = .ok (.invokevirtual 79, 3) := dk_182 0 79 (dk_at dksX7_ofPhaseSetting_1 17 rfl rfl)
theorem dX7_ofPhaseSetting_44 : decode cX7_ofPhaseSetting 44 = .ok (.istore 4, 2) := dk_54 4 (dk_at dksX7_ofPhaseSetting_1 20 rfl rfl)
theorem dX7_ofPhaseSetting_46 : decode cX7_ofPhaseSetting 46 = .ok (.aload_n 0, 1) := dk_42 (dk_at dksX7_ofPhaseSetting_1 22 rfl rfl)
theorem dX7_ofPhaseSetting_47 : decode cX7_ofPhaseSetting 47 = .ok (.iload_n 1, 1) := dk_27 (dk_at dksX7_ofPhaseSetting_1 23 rfl rfl)
theorem dX7_ofPhaseSetting_48 : decode cX7_ofPhaseSetting 48 = .ok (.iload_n 2, 1) := dk_28 (dk_at dksX7_ofPhaseSetting_2 0 rfl rfl)
theorem dX7_ofPhaseSetting_49 : decode cX7_ofPhaseSetting 49 = .ok (.iload_n 3, 1) := dk_29 (dk_at dksX7_ofPhaseSetting_2 1 rfl rfl)
theorem dX7_ofPhaseSetting_50 : decode cX7_ofPhaseSetting 50 = .ok (.invokevirtual 137, 3) := dk_182 0 137 (dk_at dksX7_ofPhaseSetting_2 2 rfl rfl)
theorem dX7_ofPhaseSetting_53 : decode cX7_ofPhaseSetting 53 = .ok (.iload 4, 2) := dk_21 4 (dk_at dksX7_ofPhaseSetting_2 5 rfl rfl)
theorem dX7_ofPhaseSetting_55 : decode cX7_ofPhaseSetting 55 = .ok (.ireturn, 1) := dk_172 (dk_at dksX7_ofPhaseSetting_2 7 rfl rfl)
abbrev cX7_size : ByteArray := prog_19_method_65_code
def yX7_size : MethodName := ⟨RX7, "size", "(I)I"⟩
def dkwX7_size_5 : List UInt8 := [172, 42, 180, 0, 7, 27, 46, 172]
abbrev dktX7_size_5 : List UInt8 := dkwX7_size_5 ++ []
def dkwX7_size_4 : List UInt8 := [172, 42, 182, 0, 134, 2, 160, 0, 7, 3, 167, 0, 4, 4, 172, 42, 182, 1, 70, 172, 42, 180, 0, 238]
abbrev dktX7_size_4 : List UInt8 := dkwX7_size_4 ++ dktX7_size_5
def dkwX7_size_3 : List UInt8 := [180, 0, 7, 3, 46, 172, 42, 180, 0, 7, 4, 46, 172, 42, 180, 0, 7, 5, 46, 172, 42, 182, 0, 131]
abbrev dktX7_size_3 : List UInt8 := dkwX7_size_3 ++ dktX7_size_4
def dkwX7_size_2 : List UInt8 := [42, 180, 0, 7, 6, 46, 172, 42, 180, 0, 7, 7, 46, 172, 42, 180, 0, 7, 8, 46, 172, 42]
abbrev dktX7_size_2 : List UInt8 := dkwX7_size_2 ++ dktX7_size_3
def dkwX7_size_1 : List UInt8 := [170, 0, 0, 0, 0, 141, 0, 0, 0, 0, 0, 0, 0, 13, 0, 0, 0, 70, 0, 0, 0, 77, 0, 0, 0, 84, 0, 0, 0, 91, 0, 0, 0, 98, 0, 0, 0, 105, 0, 0, 0, 141, 0, 0, 0, 141, 0, 0, 0, 141, 0, 0, 0, 141, 0, 0, 0, 112, 0, 0, 0, 117, 0, 0, 0, 131, 0, 0, 0, 136]
abbrev dktX7_size_1 : List UInt8 := dkwX7_size_1 ++ dktX7_size_2
def dkwX7_size_0 : List UInt8 := [42, 3, 181, 0, 76, 42, 27, 3, 16, 13, 184, 0, 83, 182, 1, 66, 154, 0, 5, 3, 172, 27]
abbrev dktX7_size_0 : List UInt8 := dkwX7_size_0 ++ dktX7_size_1
theorem dksX7_size_0 : cX7_size.data.toList.drop 0 = dktX7_size_0 := by decide +kernel
theorem dksX7_size_1 : cX7_size.data.toList.drop 22 = dktX7_size_1 := dk_seg dksX7_size_0 22 rfl rfl
theorem dksX7_size_2 : cX7_size.data.toList.drop 92 = dktX7_size_2 := dk_seg dksX7_size_1 70 rfl rfl
theorem dksX7_size_3 : cX7_size.data.toList.drop 114 = dktX7_size_3 := dk_seg dksX7_size_2 22 rfl rfl
theorem dksX7_size_4 : cX7_size.data.toList.drop 138 = dktX7_size_4 := dk_seg dksX7_size_3 24 rfl rfl
theorem dksX7_size_5 : cX7_size.data.toList.drop 162 = dktX7_size_5 := dk_seg dksX7_size_4 24 rfl rfl
theorem dX7_size_0 : decode cX7_size 0 = .ok (.aload_n 0, 1) := dk_42 (dk_at dksX7_size_0 0 rfl rfl)
theorem dX7_size_1 : decode cX7_size 1 = .ok (.iconst 0, 1) := dk_3 (dk_at dksX7_size_0 1 rfl rfl)
theorem dX7_size_2 : decode cX7_size 2 = .ok (.putfield 76, 3) := dk_181 0 76 (dk_at dksX7_size_0 2 rfl rfl)
theorem dX7_size_5 : decode cX7_size 5 = .ok (.aload_n 0, 1) := dk_42 (dk_at dksX7_size_0 5 rfl rfl)
theorem dX7_size_6 : decode cX7_size 6 = .ok (.iload_n 1, 1) := dk_27 (dk_at dksX7_size_0 6 rfl rfl)
theorem dX7_size_7 : decode cX7_size 7 = .ok (.iconst 0, 1) := dk_3 (dk_at dksX7_size_0 7 rfl rfl)
theorem dX7_size_8 : decode cX7_size 8 = .ok (.bipush 13, 2) := dk_16 13 (dk_at dksX7_size_0 8 rfl rfl)
theorem dX7_size_10 : decode cX7_size 10 = .ok (.invokestatic 83, 3) := dk_184 0 83 (dk_at dksX7_size_0 10 rfl rfl)
theorem dX7_size_13 : decode cX7_size 13 = .ok (.invokevirtual 322, 3) := dk_182 1 66 (dk_at dksX7_size_0 13 rfl rfl)
theorem dX7_size_16 : decode cX7_size 16 = .ok (.ifCond .ne 5, 3) := dk_154 0 5 (dk_at dksX7_size_0 16 rfl rfl)
theorem dX7_size_19 : decode cX7_size 19 = .ok (.iconst 0, 1) := dk_3 (dk_at dksX7_size_0 19 rfl rfl)
theorem dX7_size_20 : decode cX7_size 20 = .ok (.ireturn, 1) := dk_172 (dk_at dksX7_size_0 20 rfl rfl)
theorem dX7_size_21 : decode cX7_size 21 = .ok (.iload_n 1, 1) := dk_27 (dk_at dksX7_size_0 21 rfl rfl)
theorem dX7_size_22 : decode cX7_size 22 = .ok (.tableswitch 141 0 13 #[70, 77, 84, 91, 98, 105, 141, 141, 141, 141, 112, 117, 131, 136], 70) := by decide +kernel
theorem dX7_size_92 : decode cX7_size 92 = .ok (.aload_n 0, 1) := dk_42 (dk_at dksX7_size_2 0 rfl rfl)
theorem dX7_size_93 : decode cX7_size 93 = .ok (.getfield 7, 3) := dk_180 0 7 (dk_at dksX7_size_2 1 rfl rfl)
theorem dX7_size_96 : decode cX7_size 96 = .ok (.iconst 3, 1) := dk_6 (dk_at dksX7_size_2 4 rfl rfl)
theorem dX7_size_97 : decode cX7_size 97 = .ok (.iaload, 1) := dk_46 (dk_at dksX7_size_2 5 rfl rfl)
theorem dX7_size_98 : decode cX7_size 98 = .ok (.ireturn, 1) := dk_172 (dk_at dksX7_size_2 6 rfl rfl)
theorem dX7_size_99 : decode cX7_size 99 = .ok (.aload_n 0, 1) := dk_42 (dk_at dksX7_size_2 7 rfl rfl)
theorem dX7_size_100 : decode cX7_size 100 = .ok (.getfield 7, 3) := dk_180 0 7 (dk_at dksX7_size_2 8 rfl rfl)
theorem dX7_size_103 : decode cX7_size 103 = .ok (.iconst 4, 1) := dk_7 (dk_at dksX7_size_2 11 rfl rfl)
theorem dX7_size_104 : decode cX7_size 104 = .ok (.iaload, 1) := dk_46 (dk_at dksX7_size_2 12 rfl rfl)
theorem dX7_size_105 : decode cX7_size 105 = .ok (.ireturn, 1) := dk_172 (dk_at dksX7_size_2 13 rfl rfl)
theorem dX7_size_106 : decode cX7_size 106 = .ok (.aload_n 0, 1) := dk_42 (dk_at dksX7_size_2 14 rfl rfl)
theorem dX7_size_107 : decode cX7_size 107 = .ok (.getfield 7, 3) := dk_180 0 7 (dk_at dksX7_size_2 15 rfl rfl)
theorem dX7_size_110 : decode cX7_size 110 = .ok (.iconst 5, 1) := dk_8 (dk_at dksX7_size_2 18 rfl rfl)
theorem dX7_size_111 : decode cX7_size 111 = .ok (.iaload, 1) := dk_46 (dk_at dksX7_size_2 19 rfl rfl)
theorem dX7_size_112 : decode cX7_size 112 = .ok (.ireturn, 1) := dk_172 (dk_at dksX7_size_2 20 rfl rfl)
theorem dX7_size_113 : decode cX7_size 113 = .ok (.aload_n 0, 1) := dk_42 (dk_at dksX7_size_2 21 rfl rfl)
theorem dX7_size_114 : decode cX7_size 114 = .ok (.getfield 7, 3) := dk_180 0 7 (dk_at dksX7_size_3 0 rfl rfl)
theorem dX7_size_117 : decode cX7_size 117 = .ok (.iconst 0, 1) := dk_3 (dk_at dksX7_size_3 3 rfl rfl)
theorem dX7_size_118 : decode cX7_size 118 = .ok (.iaload, 1) := dk_46 (dk_at dksX7_size_3 4 rfl rfl)
theorem dX7_size_119 : decode cX7_size 119 = .ok (.ireturn, 1) := dk_172 (dk_at dksX7_size_3 5 rfl rfl)
theorem dX7_size_120 : decode cX7_size 120 = .ok (.aload_n 0, 1) := dk_42 (dk_at dksX7_size_3 6 rfl rfl)
theorem dX7_size_121 : decode cX7_size 121 = .ok (.getfield 7, 3) := dk_180 0 7 (dk_at dksX7_size_3 7 rfl rfl)
theorem dX7_size_124 : decode cX7_size 124 = .ok (.iconst 1, 1) := dk_4 (dk_at dksX7_size_3 10 rfl rfl)
theorem dX7_size_125 : decode cX7_size 125 = .ok (.iaload, 1) := dk_46 (dk_at dksX7_size_3 11 rfl rfl)
theorem dX7_size_126 : decode cX7_size 126 = .ok (.ireturn, 1) := dk_172 (dk_at dksX7_size_3 12 rfl rfl)
theorem dX7_size_127 : decode cX7_size 127 = .ok (.aload_n 0, 1) := dk_42 (dk_at dksX7_size_3 13 rfl rfl)
theorem dX7_size_128 : decode cX7_size 128 = .ok (.getfield 7, 3) := dk_180 0 7 (dk_at dksX7_size_3 14 rfl rfl)
theorem dX7_size_131 : decode cX7_size 131 = .ok (.iconst 2, 1) := dk_5 (dk_at dksX7_size_3 17 rfl rfl)
theorem dX7_size_132 : decode cX7_size 132 = .ok (.iaload, 1) := dk_46 (dk_at dksX7_size_3 18 rfl rfl)
theorem dX7_size_133 : decode cX7_size 133 = .ok (.ireturn, 1) := dk_172 (dk_at dksX7_size_3 19 rfl rfl)
theorem dX7_size_134 : decode cX7_size 134 = .ok (.aload_n 0, 1) := dk_42 (dk_at dksX7_size_3 20 rfl rfl)
theorem dX7_size_135 : decode cX7_size 135 = .ok (.invokevirtual 131, 3) := dk_182 0 131 (dk_at dksX7_size_3 21 rfl rfl)
theorem dX7_size_138 : decode cX7_size 138 = .ok (.ireturn, 1) := dk_172 (dk_at dksX7_size_4 0 rfl rfl)
theorem dX7_size_139 : decode cX7_size 139 = .ok (.aload_n 0, 1) := dk_42 (dk_at dksX7_size_4 1 rfl rfl)
theorem dX7_size_140 : decode cX7_size 140 = .ok (.invokevirtual 134, 3) := dk_182 0 134 (dk_at dksX7_size_4 2 rfl rfl)
theorem dX7_size_143 : decode cX7_size 143 = .ok (.iconst (-1), 1) := dk_2 (dk_at dksX7_size_4 5 rfl rfl)
theorem dX7_size_144 : decode cX7_size 144 = .ok (.if_icmp .ne 7, 3) := dk_160 0 7 (dk_at dksX7_size_4 6 rfl rfl)
theorem dX7_size_147 : decode cX7_size 147 = .ok (.iconst 0, 1) := dk_3 (dk_at dksX7_size_4 9 rfl rfl)
theorem dX7_size_148 : decode cX7_size 148 = .ok (.goto 4, 3) := dk_167 0 4 (dk_at dksX7_size_4 10 rfl rfl)
theorem dX7_size_151 : decode cX7_size 151 = .ok (.iconst 1, 1) := dk_4 (dk_at dksX7_size_4 13 rfl rfl)
theorem dX7_size_152 : decode cX7_size 152 = .ok (.ireturn, 1) := dk_172 (dk_at dksX7_size_4 14 rfl rfl)
theorem dX7_size_153 : decode cX7_size 153 = .ok (.aload_n 0, 1) := dk_42 (dk_at dksX7_size_4 15 rfl rfl)
theorem dX7_size_154 : decode cX7_size 154 = .ok (.invokevirtual 326, 3) := dk_182 1 70 (dk_at dksX7_size_4 16 rfl rfl)
theorem dX7_size_157 : decode cX7_size 157 = .ok (.ireturn, 1) := dk_172 (dk_at dksX7_size_4 19 rfl rfl)
theorem dX7_size_158 : decode cX7_size 158 = .ok (.aload_n 0, 1) := dk_42 (dk_at dksX7_size_4 20 rfl rfl)
theorem dX7_size_159 : decode cX7_size 159 = .ok (.getfield 238, 3) := dk_180 0 238 (dk_at dksX7_size_4 21 rfl rfl)
theorem dX7_size_162 : decode cX7_size 162 = .ok (.ireturn, 1) := dk_172 (dk_at dksX7_size_5 0 rfl rfl)
theorem dX7_size_163 : decode cX7_size 163 = .ok (.aload_n 0, 1) := dk_42 (dk_at dksX7_size_5 1 rfl rfl)
theorem dX7_size_164 : decode cX7_size 164 = .ok (.getfield 7, 3) := dk_180 0 7 (dk_at dksX7_size_5 2 rfl rfl)
theorem dX7_size_167 : decode cX7_size 167 = .ok (.iload_n 1, 1) := dk_27 (dk_at dksX7_size_5 5 rfl rfl)
theorem dX7_size_168 : decode cX7_size 168 = .ok (.iaload, 1) := dk_46 (dk_at dksX7_size_5 6 rfl rfl)
theorem dX7_size_169 : decode cX7_size 169 = .ok (.ireturn, 1) := dk_172 (dk_at dksX7_size_5 7 rfl rfl)
abbrev cX7_right : ByteArray := prog_19_method_5_code
def yX7_right : MethodName := ⟨RX7, "right", "(Z)Z"⟩
def dkwX7_right_0 : List UInt8 := [27, 154, 0, 8, 42, 4, 181, 0, 76, 27, 172]
abbrev dktX7_right_0 : List UInt8 := dkwX7_right_0 ++ []
theorem dksX7_right_0 : cX7_right.data.toList.drop 0 = dktX7_right_0 := by decide +kernel
theorem dX7_right_0 : decode cX7_right 0 = .ok (.iload_n 1, 1) := dk_27 (dk_at dksX7_right_0 0 rfl rfl)
theorem dX7_right_1 : decode cX7_right 1 = .ok (.ifCond .ne 8, 3) := dk_154 0 8 (dk_at dksX7_right_0 1 rfl rfl)
theorem dX7_right_4 : decode cX7_right 4 = .ok (.aload_n 0, 1) := dk_42 (dk_at dksX7_right_0 4 rfl rfl)
theorem dX7_right_5 : decode cX7_right 5 = .ok (.iconst 1, 1) := dk_4 (dk_at dksX7_right_0 5 rfl rfl)
theorem dX7_right_6 : decode cX7_right 6 = .ok (.putfield 76, 3) := dk_181 0 76 (dk_at dksX7_right_0 6 rfl rfl)
theorem dX7_right_9 : decode cX7_right 9 = .ok (.iload_n 1, 1) := dk_27 (dk_at dksX7_right_0 9 rfl rfl)
theorem dX7_right_10 : decode cX7_right 10 = .ok (.ireturn, 1) := dk_172 (dk_at dksX7_right_0 10 rfl rfl)
abbrev cX7_allCars : ByteArray := prog_19_method_31_code
def yX7_allCars : MethodName := ⟨RX7, "allCars", "()I"⟩
def dkwX7_allCars_1 : List UInt8 := [132, 2, 1, 167, 255, 234, 27, 172]
abbrev dktX7_allCars_1 : List UInt8 := dkwX7_allCars_1 ++ []
def dkwX7_allCars_0 : List UInt8 := [3, 60, 3, 61, 28, 42, 180, 0, 7, 6, 46, 162, 0, 18, 27, 42, 28, 6, 182, 0, 91, 96, 60]
abbrev dktX7_allCars_0 : List UInt8 := dkwX7_allCars_0 ++ dktX7_allCars_1
theorem dksX7_allCars_0 : cX7_allCars.data.toList.drop 0 = dktX7_allCars_0 := by decide +kernel
theorem dksX7_allCars_1 : cX7_allCars.data.toList.drop 23 = dktX7_allCars_1 := dk_seg dksX7_allCars_0 23 rfl rfl
theorem dX7_allCars_0 : decode cX7_allCars 0 = .ok (.iconst 0, 1) := dk_3 (dk_at dksX7_allCars_0 0 rfl rfl)
theorem dX7_allCars_1 : decode cX7_allCars 1 = .ok (.istore_n 1, 1) := dk_60 (dk_at dksX7_allCars_0 1 rfl rfl)
theorem dX7_allCars_2 : decode cX7_allCars 2 = .ok (.iconst 0, 1) := dk_3 (dk_at dksX7_allCars_0 2 rfl rfl)
theorem dX7_allCars_3 : decode cX7_allCars 3 = .ok (.istore_n 2, 1) := dk_61 (dk_at dksX7_allCars_0 3 rfl rfl)
theorem dX7_allCars_4 : decode cX7_allCars 4 = .ok (.iload_n 2, 1) := dk_28 (dk_at dksX7_allCars_0 4 rfl rfl)
theorem dX7_allCars_5 : decode cX7_allCars 5 = .ok (.aload_n 0, 1) := dk_42 (dk_at dksX7_allCars_0 5 rfl rfl)
theorem dX7_allCars_6 : decode cX7_allCars 6 = .ok (.getfield 7, 3) := dk_180 0 7 (dk_at dksX7_allCars_0 6 rfl rfl)
theorem dX7_allCars_9 : decode cX7_allCars 9 = .ok (.iconst 3, 1) := dk_6 (dk_at dksX7_allCars_0 9 rfl rfl)
theorem dX7_allCars_10 : decode cX7_allCars 10 = .ok (.iaload, 1) := dk_46 (dk_at dksX7_allCars_0 10 rfl rfl)
theorem dX7_allCars_11 : decode cX7_allCars 11 = .ok (.if_icmp .ge 18, 3) := dk_162 0 18 (dk_at dksX7_allCars_0 11 rfl rfl)
theorem dX7_allCars_14 : decode cX7_allCars 14 = .ok (.iload_n 1, 1) := dk_27 (dk_at dksX7_allCars_0 14 rfl rfl)
theorem dX7_allCars_15 : decode cX7_allCars 15 = .ok (.aload_n 0, 1) := dk_42 (dk_at dksX7_allCars_0 15 rfl rfl)
theorem dX7_allCars_16 : decode cX7_allCars 16 = .ok (.iload_n 2, 1) := dk_28 (dk_at dksX7_allCars_0 16 rfl rfl)
theorem dX7_allCars_17 : decode cX7_allCars 17 = .ok (.iconst 3, 1) := dk_6 (dk_at dksX7_allCars_0 17 rfl rfl)
theorem dX7_allCars_18 : decode cX7_allCars 18 = .ok (.invokevirtual 91, 3) := dk_182 0 91 (dk_at dksX7_allCars_0 18 rfl rfl)
theorem dX7_allCars_21 : decode cX7_allCars 21 = .ok (.iadd, 1) := dk_96 (dk_at dksX7_allCars_0 21 rfl rfl)
theorem dX7_allCars_22 : decode cX7_allCars 22 = .ok (.istore_n 1, 1) := dk_60 (dk_at dksX7_allCars_0 22 rfl rfl)
theorem dX7_allCars_23 : decode cX7_allCars 23 = .ok (.iinc 2 1, 3) := dk_132 2 1 (dk_at dksX7_allCars_1 0 rfl rfl)
theorem dX7_allCars_26 : decode cX7_allCars 26 = .ok (.goto (-22), 3) := dk_167 255 234 (dk_at dksX7_allCars_1 3 rfl rfl)
theorem dX7_allCars_29 : decode cX7_allCars 29 = .ok (.iload_n 1, 1) := dk_27 (dk_at dksX7_allCars_1 6 rfl rfl)
theorem dX7_allCars_30 : decode cX7_allCars 30 = .ok (.ireturn, 1) := dk_172 (dk_at dksX7_allCars_1 7 rfl rfl)
abbrev cX7_arm : ByteArray := prog_19_method_68_code
def yX7_arm : MethodName := ⟨RX7, "arm", "(II)I"⟩
def dkwX7_arm_6 : List UInt8 := [167, 0, 16, 42, 180, 0, 7, 8, 46, 42, 27, 3, 182, 0, 99, 100, 172, 42, 27, 8, 182, 0, 91, 172]
abbrev dktX7_arm_6 : List UInt8 := dkwX7_arm_6 ++ []
def dkwX7_arm_5 : List UInt8 := [42, 27, 182, 1, 79, 172, 42, 27, 7, 182, 0, 91, 172, 42, 27, 6, 182, 0, 91, 154, 0, 7, 3]
abbrev dktX7_arm_5 : List UInt8 := dkwX7_arm_5 ++ dktX7_arm_6
def dkwX7_arm_4 : List UInt8 := [182, 0, 91, 172, 42, 27, 182, 0, 94, 153, 0, 7, 4, 167, 0, 4, 3, 172, 42, 27, 182, 1, 76, 172]
abbrev dktX7_arm_4 : List UInt8 := dkwX7_arm_4 ++ dktX7_arm_5
def dkwX7_arm_3 : List UInt8 := [42, 27, 182, 0, 140, 172, 42, 27, 6, 182, 0, 91, 172, 42, 27, 4, 182, 0, 91, 172, 42, 27, 5]
abbrev dktX7_arm_3 : List UInt8 := dkwX7_arm_3 ++ dktX7_arm_4
def dkwX7_arm_2 : List UInt8 := [170, 0, 0, 0, 0, 137, 0, 0, 0, 0, 0, 0, 0, 8, 0, 0, 0, 50, 0, 0, 0, 56, 0, 0, 0, 63, 0, 0, 0, 70, 0, 0, 0, 77, 0, 0, 0, 91, 0, 0, 0, 97, 0, 0, 0, 103, 0, 0, 0, 110]
abbrev dktX7_arm_2 : List UInt8 := dkwX7_arm_2 ++ dktX7_arm_3
def dkwX7_arm_1 : List UInt8 := [4, 167, 0, 4, 3, 182, 1, 66, 154, 0, 5, 3, 172, 28]
abbrev dktX7_arm_1 : List UInt8 := dkwX7_arm_1 ++ dktX7_arm_2
def dkwX7_arm_0 : List UInt8 := [42, 3, 181, 0, 76, 42, 42, 27, 182, 1, 73, 153, 0, 17, 28, 3, 16, 9, 184, 0, 83, 153, 0, 7]
abbrev dktX7_arm_0 : List UInt8 := dkwX7_arm_0 ++ dktX7_arm_1
theorem dksX7_arm_0 : cX7_arm.data.toList.drop 0 = dktX7_arm_0 := by decide +kernel
theorem dksX7_arm_1 : cX7_arm.data.toList.drop 24 = dktX7_arm_1 := dk_seg dksX7_arm_0 24 rfl rfl
theorem dksX7_arm_2 : cX7_arm.data.toList.drop 38 = dktX7_arm_2 := dk_seg dksX7_arm_1 14 rfl rfl
theorem dksX7_arm_3 : cX7_arm.data.toList.drop 88 = dktX7_arm_3 := dk_seg dksX7_arm_2 50 rfl rfl
theorem dksX7_arm_4 : cX7_arm.data.toList.drop 111 = dktX7_arm_4 := dk_seg dksX7_arm_3 23 rfl rfl
theorem dksX7_arm_5 : cX7_arm.data.toList.drop 135 = dktX7_arm_5 := dk_seg dksX7_arm_4 24 rfl rfl
theorem dksX7_arm_6 : cX7_arm.data.toList.drop 158 = dktX7_arm_6 := dk_seg dksX7_arm_5 23 rfl rfl
theorem dX7_arm_0 : decode cX7_arm 0 = .ok (.aload_n 0, 1) := dk_42 (dk_at dksX7_arm_0 0 rfl rfl)
theorem dX7_arm_1 : decode cX7_arm 1 = .ok (.iconst 0, 1) := dk_3 (dk_at dksX7_arm_0 1 rfl rfl)
theorem dX7_arm_2 : decode cX7_arm 2 = .ok (.putfield 76, 3) := dk_181 0 76 (dk_at dksX7_arm_0 2 rfl rfl)
theorem dX7_arm_5 : decode cX7_arm 5 = .ok (.aload_n 0, 1) := dk_42 (dk_at dksX7_arm_0 5 rfl rfl)
theorem dX7_arm_6 : decode cX7_arm 6 = .ok (.aload_n 0, 1) := dk_42 (dk_at dksX7_arm_0 6 rfl rfl)
theorem dX7_arm_7 : decode cX7_arm 7 = .ok (.iload_n 1, 1) := dk_27 (dk_at dksX7_arm_0 7 rfl rfl)
theorem dX7_arm_8 : decode cX7_arm 8 = .ok (.invokevirtual 329, 3) := dk_182 1 73 (dk_at dksX7_arm_0 8 rfl rfl)
theorem dX7_arm_11 : decode cX7_arm 11 = .ok (.ifCond .eq 17, 3) := dk_153 0 17 (dk_at dksX7_arm_0 11 rfl rfl)
theorem dX7_arm_14 : decode cX7_arm 14 = .ok (.iload_n 2, 1) := dk_28 (dk_at dksX7_arm_0 14 rfl rfl)
theorem dX7_arm_15 : decode cX7_arm 15 = .ok (.iconst 0, 1) := dk_3 (dk_at dksX7_arm_0 15 rfl rfl)
theorem dX7_arm_16 : decode cX7_arm 16 = .ok (.bipush 9, 2) := dk_16 9 (dk_at dksX7_arm_0 16 rfl rfl)
theorem dX7_arm_18 : decode cX7_arm 18 = .ok (.invokestatic 83, 3) := dk_184 0 83 (dk_at dksX7_arm_0 18 rfl rfl)
theorem dX7_arm_21 : decode cX7_arm 21 = .ok (.ifCond .eq 7, 3) := dk_153 0 7 (dk_at dksX7_arm_0 21 rfl rfl)
theorem dX7_arm_24 : decode cX7_arm 24 = .ok (.iconst 1, 1) := dk_4 (dk_at dksX7_arm_1 0 rfl rfl)
theorem dX7_arm_25 : decode cX7_arm 25 = .ok (.goto 4, 3) := dk_167 0 4 (dk_at dksX7_arm_1 1 rfl rfl)
theorem dX7_arm_28 : decode cX7_arm 28 = .ok (.iconst 0, 1) := dk_3 (dk_at dksX7_arm_1 4 rfl rfl)
theorem dX7_arm_29 : decode cX7_arm 29 = .ok (.invokevirtual 322, 3) := dk_182 1 66 (dk_at dksX7_arm_1 5 rfl rfl)
theorem dX7_arm_32 : decode cX7_arm 32 = .ok (.ifCond .ne 5, 3) := dk_154 0 5 (dk_at dksX7_arm_1 8 rfl rfl)
theorem dX7_arm_35 : decode cX7_arm 35 = .ok (.iconst 0, 1) := dk_3 (dk_at dksX7_arm_1 11 rfl rfl)
theorem dX7_arm_36 : decode cX7_arm 36 = .ok (.ireturn, 1) := dk_172 (dk_at dksX7_arm_1 12 rfl rfl)
theorem dX7_arm_37 : decode cX7_arm 37 = .ok (.iload_n 2, 1) := dk_28 (dk_at dksX7_arm_1 13 rfl rfl)
theorem dX7_arm_38 : decode cX7_arm 38 = .ok (.tableswitch 137 0 8 #[50, 56, 63, 70, 77, 91, 97, 103, 110], 50) := by decide +kernel
theorem dX7_arm_88 : decode cX7_arm 88 = .ok (.aload_n 0, 1) := dk_42 (dk_at dksX7_arm_3 0 rfl rfl)
theorem dX7_arm_89 : decode cX7_arm 89 = .ok (.iload_n 1, 1) := dk_27 (dk_at dksX7_arm_3 1 rfl rfl)
theorem dX7_arm_90 : decode cX7_arm 90 = .ok (.invokevirtual 140, 3) := dk_182 0 140 (dk_at dksX7_arm_3 2 rfl rfl)
theorem dX7_arm_93 : decode cX7_arm 93 = .ok (.ireturn, 1) := dk_172 (dk_at dksX7_arm_3 5 rfl rfl)
theorem dX7_arm_94 : decode cX7_arm 94 = .ok (.aload_n 0, 1) := dk_42 (dk_at dksX7_arm_3 6 rfl rfl)
theorem dX7_arm_95 : decode cX7_arm 95 = .ok (.iload_n 1, 1) := dk_27 (dk_at dksX7_arm_3 7 rfl rfl)
theorem dX7_arm_96 : decode cX7_arm 96 = .ok (.iconst 3, 1) := dk_6 (dk_at dksX7_arm_3 8 rfl rfl)
theorem dX7_arm_97 : decode cX7_arm 97 = .ok (.invokevirtual 91, 3) := dk_182 0 91 (dk_at dksX7_arm_3 9 rfl rfl)
theorem dX7_arm_100 : decode cX7_arm 100 = .ok (.ireturn, 1) := dk_172 (dk_at dksX7_arm_3 12 rfl rfl)
theorem dX7_arm_101 : decode cX7_arm 101 = .ok (.aload_n 0, 1) := dk_42 (dk_at dksX7_arm_3 13 rfl rfl)
theorem dX7_arm_102 : decode cX7_arm 102 = .ok (.iload_n 1, 1) := dk_27 (dk_at dksX7_arm_3 14 rfl rfl)
theorem dX7_arm_103 : decode cX7_arm 103 = .ok (.iconst 1, 1) := dk_4 (dk_at dksX7_arm_3 15 rfl rfl)
theorem dX7_arm_104 : decode cX7_arm 104 = .ok (.invokevirtual 91, 3) := dk_182 0 91 (dk_at dksX7_arm_3 16 rfl rfl)
theorem dX7_arm_107 : decode cX7_arm 107 = .ok (.ireturn, 1) := dk_172 (dk_at dksX7_arm_3 19 rfl rfl)
theorem dX7_arm_108 : decode cX7_arm 108 = .ok (.aload_n 0, 1) := dk_42 (dk_at dksX7_arm_3 20 rfl rfl)
theorem dX7_arm_109 : decode cX7_arm 109 = .ok (.iload_n 1, 1) := dk_27 (dk_at dksX7_arm_3 21 rfl rfl)
theorem dX7_arm_110 : decode cX7_arm 110 = .ok (.iconst 2, 1) := dk_5 (dk_at dksX7_arm_3 22 rfl rfl)
theorem dX7_arm_111 : decode cX7_arm 111 = .ok (.invokevirtual 91, 3) := dk_182 0 91 (dk_at dksX7_arm_4 0 rfl rfl)
theorem dX7_arm_114 : decode cX7_arm 114 = .ok (.ireturn, 1) := dk_172 (dk_at dksX7_arm_4 3 rfl rfl)
theorem dX7_arm_115 : decode cX7_arm 115 = .ok (.aload_n 0, 1) := dk_42 (dk_at dksX7_arm_4 4 rfl rfl)
theorem dX7_arm_116 : decode cX7_arm 116 = .ok (.iload_n 1, 1) := dk_27 (dk_at dksX7_arm_4 5 rfl rfl)
theorem dX7_arm_117 : decode cX7_arm 117 = .ok (.invokevirtual 94, 3) := dk_182 0 94 (dk_at dksX7_arm_4 6 rfl rfl)
theorem dX7_arm_120 : decode cX7_arm 120 = .ok (.ifCond .eq 7, 3) := dk_153 0 7 (dk_at dksX7_arm_4 9 rfl rfl)
theorem dX7_arm_123 : decode cX7_arm 123 = .ok (.iconst 1, 1) := dk_4 (dk_at dksX7_arm_4 12 rfl rfl)
theorem dX7_arm_124 : decode cX7_arm 124 = .ok (.goto 4, 3) := dk_167 0 4 (dk_at dksX7_arm_4 13 rfl rfl)
theorem dX7_arm_127 : decode cX7_arm 127 = .ok (.iconst 0, 1) := dk_3 (dk_at dksX7_arm_4 16 rfl rfl)
theorem dX7_arm_128 : decode cX7_arm 128 = .ok (.ireturn, 1) := dk_172 (dk_at dksX7_arm_4 17 rfl rfl)
theorem dX7_arm_129 : decode cX7_arm 129 = .ok (.aload_n 0, 1) := dk_42 (dk_at dksX7_arm_4 18 rfl rfl)
theorem dX7_arm_130 : decode cX7_arm 130 = .ok (.iload_n 1, 1) := dk_27 (dk_at dksX7_arm_4 19 rfl rfl)
theorem dX7_arm_131 : decode cX7_arm 131 = .ok (.invokevirtual 332, 3) := dk_182 1 76 (dk_at dksX7_arm_4 20 rfl rfl)
theorem dX7_arm_134 : decode cX7_arm 134 = .ok (.ireturn, 1) := dk_172 (dk_at dksX7_arm_4 23 rfl rfl)
theorem dX7_arm_135 : decode cX7_arm 135 = .ok (.aload_n 0, 1) := dk_42 (dk_at dksX7_arm_5 0 rfl rfl)
theorem dX7_arm_136 : decode cX7_arm 136 = .ok (.iload_n 1, 1) := dk_27 (dk_at dksX7_arm_5 1 rfl rfl)
theorem dX7_arm_137 : decode cX7_arm 137 = .ok (.invokevirtual 335, 3) := dk_182 1 79 (dk_at dksX7_arm_5 2 rfl rfl)
theorem dX7_arm_140 : decode cX7_arm 140 = .ok (.ireturn, 1) := dk_172 (dk_at dksX7_arm_5 5 rfl rfl)
theorem dX7_arm_141 : decode cX7_arm 141 = .ok (.aload_n 0, 1) := dk_42 (dk_at dksX7_arm_5 6 rfl rfl)
theorem dX7_arm_142 : decode cX7_arm 142 = .ok (.iload_n 1, 1) := dk_27 (dk_at dksX7_arm_5 7 rfl rfl)
theorem dX7_arm_143 : decode cX7_arm 143 = .ok (.iconst 4, 1) := dk_7 (dk_at dksX7_arm_5 8 rfl rfl)
theorem dX7_arm_144 : decode cX7_arm 144 = .ok (.invokevirtual 91, 3) := dk_182 0 91 (dk_at dksX7_arm_5 9 rfl rfl)
theorem dX7_arm_147 : decode cX7_arm 147 = .ok (.ireturn, 1) := dk_172 (dk_at dksX7_arm_5 12 rfl rfl)
theorem dX7_arm_148 : decode cX7_arm 148 = .ok (.aload_n 0, 1) := dk_42 (dk_at dksX7_arm_5 13 rfl rfl)
theorem dX7_arm_149 : decode cX7_arm 149 = .ok (.iload_n 1, 1) := dk_27 (dk_at dksX7_arm_5 14 rfl rfl)
theorem dX7_arm_150 : decode cX7_arm 150 = .ok (.iconst 3, 1) := dk_6 (dk_at dksX7_arm_5 15 rfl rfl)
theorem dX7_arm_151 : decode cX7_arm 151 = .ok (.invokevirtual 91, 3) := dk_182 0 91 (dk_at dksX7_arm_5 16 rfl rfl)
theorem dX7_arm_154 : decode cX7_arm 154 = .ok (.ifCond .ne 7, 3) := dk_154 0 7 (dk_at dksX7_arm_5 19 rfl rfl)
theorem dX7_arm_157 : decode cX7_arm 157 = .ok (.iconst 0, 1) := dk_3 (dk_at dksX7_arm_5 22 rfl rfl)
theorem dX7_arm_158 : decode cX7_arm 158 = .ok (.goto 16, 3) := dk_167 0 16 (dk_at dksX7_arm_6 0 rfl rfl)
theorem dX7_arm_161 : decode cX7_arm 161 = .ok (.aload_n 0, 1) := dk_42 (dk_at dksX7_arm_6 3 rfl rfl)
theorem dX7_arm_162 : decode cX7_arm 162 = .ok (.getfield 7, 3) := dk_180 0 7 (dk_at dksX7_arm_6 4 rfl rfl)
theorem dX7_arm_165 : decode cX7_arm 165 = .ok (.iconst 5, 1) := dk_8 (dk_at dksX7_arm_6 7 rfl rfl)
theorem dX7_arm_166 : decode cX7_arm 166 = .ok (.iaload, 1) := dk_46 (dk_at dksX7_arm_6 8 rfl rfl)
theorem dX7_arm_167 : decode cX7_arm 167 = .ok (.aload_n 0, 1) := dk_42 (dk_at dksX7_arm_6 9 rfl rfl)
theorem dX7_arm_168 : decode cX7_arm 168 = .ok (.iload_n 1, 1) := dk_27 (dk_at dksX7_arm_6 10 rfl rfl)
theorem dX7_arm_169 : decode cX7_arm 169 = .ok (.iconst 0, 1) := dk_3 (dk_at dksX7_arm_6 11 rfl rfl)
theorem dX7_arm_170 : decode cX7_arm 170 = .ok (.invokevirtual 99, 3) := dk_182 0 99 (dk_at dksX7_arm_6 12 rfl rfl)
theorem dX7_arm_173 : decode cX7_arm 173 = .ok (.isub, 1) := dk_100 (dk_at dksX7_arm_6 15 rfl rfl)
theorem dX7_arm_174 : decode cX7_arm 174 = .ok (.ireturn, 1) := dk_172 (dk_at dksX7_arm_6 16 rfl rfl)
theorem dX7_arm_175 : decode cX7_arm 175 = .ok (.aload_n 0, 1) := dk_42 (dk_at dksX7_arm_6 17 rfl rfl)
theorem dX7_arm_176 : decode cX7_arm 176 = .ok (.iload_n 1, 1) := dk_27 (dk_at dksX7_arm_6 18 rfl rfl)
theorem dX7_arm_177 : decode cX7_arm 177 = .ok (.iconst 5, 1) := dk_8 (dk_at dksX7_arm_6 19 rfl rfl)
theorem dX7_arm_178 : decode cX7_arm 178 = .ok (.invokevirtual 91, 3) := dk_182 0 91 (dk_at dksX7_arm_6 20 rfl rfl)
theorem dX7_arm_181 : decode cX7_arm 181 = .ok (.ireturn, 1) := dk_172 (dk_at dksX7_arm_6 23 rfl rfl)
abbrev cX7_isArm : ByteArray := prog_19_method_15_code
def yX7_isArm : MethodName := ⟨RX7, "isArm", "(I)Z"⟩
def dkwX7_isArm_0 : List UInt8 := [27, 3, 42, 180, 0, 7, 6, 46, 4, 100, 184, 0, 83, 172]
abbrev dktX7_isArm_0 : List UInt8 := dkwX7_isArm_0 ++ []
theorem dksX7_isArm_0 : cX7_isArm.data.toList.drop 0 = dktX7_isArm_0 := by decide +kernel
theorem dX7_isArm_0 : decode cX7_isArm 0 = .ok (.iload_n 1, 1) := dk_27 (dk_at dksX7_isArm_0 0 rfl rfl)
theorem dX7_isArm_1 : decode cX7_isArm 1 = .ok (.iconst 0, 1) := dk_3 (dk_at dksX7_isArm_0 1 rfl rfl)
theorem dX7_isArm_2 : decode cX7_isArm 2 = .ok (.aload_n 0, 1) := dk_42 (dk_at dksX7_isArm_0 2 rfl rfl)
theorem dX7_isArm_3 : decode cX7_isArm 3 = .ok (.getfield 7, 3) := dk_180 0 7 (dk_at dksX7_isArm_0 3 rfl rfl)
theorem dX7_isArm_6 : decode cX7_isArm 6 = .ok (.iconst 3, 1) := dk_6 (dk_at dksX7_isArm_0 6 rfl rfl)
theorem dX7_isArm_7 : decode cX7_isArm 7 = .ok (.iaload, 1) := dk_46 (dk_at dksX7_isArm_0 7 rfl rfl)
theorem dX7_isArm_8 : decode cX7_isArm 8 = .ok (.iconst 1, 1) := dk_4 (dk_at dksX7_isArm_0 8 rfl rfl)
theorem dX7_isArm_9 : decode cX7_isArm 9 = .ok (.isub, 1) := dk_100 (dk_at dksX7_isArm_0 9 rfl rfl)
theorem dX7_isArm_10 : decode cX7_isArm 10 = .ok (.invokestatic 83, 3) := dk_184 0 83 (dk_at dksX7_isArm_0 10 rfl rfl)
theorem dX7_isArm_13 : decode cX7_isArm 13 = .ok (.ireturn, 1) := dk_172 (dk_at dksX7_isArm_0 13 rfl rfl)
abbrev cX7_phasesOf : ByteArray := prog_19_method_66_code
def yX7_phasesOf : MethodName := ⟨RX7, "phasesOf", "(I)I"⟩
def dkwX7_phasesOf_1 : List UInt8 := [132, 2, 1, 132, 3, 1, 167, 255, 231, 28, 172]
abbrev dktX7_phasesOf_1 : List UInt8 := dkwX7_phasesOf_1 ++ []
def dkwX7_phasesOf_0 : List UInt8 := [3, 61, 3, 62, 29, 42, 180, 0, 7, 7, 46, 162, 0, 21, 42, 29, 27, 182, 0, 87, 153, 0, 6]
abbrev dktX7_phasesOf_0 : List UInt8 := dkwX7_phasesOf_0 ++ dktX7_phasesOf_1
theorem dksX7_phasesOf_0 : cX7_phasesOf.data.toList.drop 0 = dktX7_phasesOf_0 := by decide +kernel
theorem dksX7_phasesOf_1 : cX7_phasesOf.data.toList.drop 23 = dktX7_phasesOf_1 := dk_seg dksX7_phasesOf_0 23 rfl rfl
theorem dX7_phasesOf_0 : decode cX7_phasesOf 0 = .ok (.iconst 0, 1) := dk_3 (dk_at dksX7_phasesOf_0 0 rfl rfl)
theorem dX7_phasesOf_1 : decode cX7_phasesOf 1 = .ok (.istore_n 2, 1) := dk_61 (dk_at dksX7_phasesOf_0 1 rfl rfl)
theorem dX7_phasesOf_2 : decode cX7_phasesOf 2 = .ok (.iconst 0, 1) := dk_3 (dk_at dksX7_phasesOf_0 2 rfl rfl)
theorem dX7_phasesOf_3 : decode cX7_phasesOf 3 = .ok (.istore_n 3, 1) := dk_62 (dk_at dksX7_phasesOf_0 3 rfl rfl)
theorem dX7_phasesOf_4 : decode cX7_phasesOf 4 = .ok (.iload_n 3, 1) := dk_29 (dk_at dksX7_phasesOf_0 4 rfl rfl)
theorem dX7_phasesOf_5 : decode cX7_phasesOf 5 = .ok (.aload_n 0, 1) := dk_42 (dk_at dksX7_phasesOf_0 5 rfl rfl)
theorem dX7_phasesOf_6 : decode cX7_phasesOf 6 = .ok (.getfield 7, 3) := dk_180 0 7 (dk_at dksX7_phasesOf_0 6 rfl rfl)
theorem dX7_phasesOf_9 : decode cX7_phasesOf 9 = .ok (.iconst 4, 1) := dk_7 (dk_at dksX7_phasesOf_0 9 rfl rfl)
theorem dX7_phasesOf_10 : decode cX7_phasesOf 10 = .ok (.iaload, 1) := dk_46 (dk_at dksX7_phasesOf_0 10 rfl rfl)
theorem dX7_phasesOf_11 : decode cX7_phasesOf 11 = .ok (.if_icmp .ge 21, 3) := dk_162 0 21 (dk_at dksX7_phasesOf_0 11 rfl rfl)
theorem dX7_phasesOf_14 : decode cX7_phasesOf 14 = .ok (.aload_n 0, 1) := dk_42 (dk_at dksX7_phasesOf_0 14 rfl rfl)
theorem dX7_phasesOf_15 : decode cX7_phasesOf 15 = .ok (.iload_n 3, 1) := dk_29 (dk_at dksX7_phasesOf_0 15 rfl rfl)
theorem dX7_phasesOf_16 : decode cX7_phasesOf 16 = .ok (.iload_n 1, 1) := dk_27 (dk_at dksX7_phasesOf_0 16 rfl rfl)
theorem dX7_phasesOf_17 : decode cX7_phasesOf 17 = .ok (.invokevirtual 87, 3) := dk_182 0 87 (dk_at dksX7_phasesOf_0 17 rfl rfl)
theorem dX7_phasesOf_20 : decode cX7_phasesOf 20 = .ok (.ifCond .eq 6, 3) := dk_153 0 6 (dk_at dksX7_phasesOf_0 20 rfl rfl)
theorem dX7_phasesOf_23 : decode cX7_phasesOf 23 = .ok (.iinc 2 1, 3) := dk_132 2 1 (dk_at dksX7_phasesOf_1 0 rfl rfl)
theorem dX7_phasesOf_26 : decode cX7_phasesOf 26 = .ok (.iinc 3 1, 3) := dk_132 3 1 (dk_at dksX7_phasesOf_1 3 rfl rfl)
theorem dX7_phasesOf_29 : decode cX7_phasesOf 29 = .ok (.goto (-25), 3) := dk_167 255 231 (dk_at dksX7_phasesOf_1 6 rfl rfl)
theorem dX7_phasesOf_32 : decode cX7_phasesOf 32 = .ok (.iload_n 2, 1) := dk_28 (dk_at dksX7_phasesOf_1 9 rfl rfl)
theorem dX7_phasesOf_33 : decode cX7_phasesOf 33 = .ok (.ireturn, 1) := dk_172 (dk_at dksX7_phasesOf_1 10 rfl rfl)
abbrev cX7_clashesOf : ByteArray := prog_19_method_67_code
def yX7_clashesOf : MethodName := ⟨RX7, "clashesOf", "(I)I"⟩
def dkwX7_clashesOf_1 : List UInt8 := [132, 2, 1, 132, 3, 1, 167, 255, 231, 28, 172]
abbrev dktX7_clashesOf_1 : List UInt8 := dkwX7_clashesOf_1 ++ []
def dkwX7_clashesOf_0 : List UInt8 := [3, 61, 3, 62, 29, 42, 180, 0, 7, 6, 46, 162, 0, 21, 42, 27, 29, 182, 0, 208, 153, 0, 6]
abbrev dktX7_clashesOf_0 : List UInt8 := dkwX7_clashesOf_0 ++ dktX7_clashesOf_1
theorem dksX7_clashesOf_0 : cX7_clashesOf.data.toList.drop 0 = dktX7_clashesOf_0 := by decide +kernel
theorem dksX7_clashesOf_1 : cX7_clashesOf.data.toList.drop 23 = dktX7_clashesOf_1 := dk_seg dksX7_clashesOf_0 23 rfl rfl
theorem dX7_clashesOf_0 : decode cX7_clashesOf 0 = .ok (.iconst 0, 1) := dk_3 (dk_at dksX7_clashesOf_0 0 rfl rfl)
theorem dX7_clashesOf_1 : decode cX7_clashesOf 1 = .ok (.istore_n 2, 1) := dk_61 (dk_at dksX7_clashesOf_0 1 rfl rfl)
theorem dX7_clashesOf_2 : decode cX7_clashesOf 2 = .ok (.iconst 0, 1) := dk_3 (dk_at dksX7_clashesOf_0 2 rfl rfl)
theorem dX7_clashesOf_3 : decode cX7_clashesOf 3 = .ok (.istore_n 3, 1) := dk_62 (dk_at dksX7_clashesOf_0 3 rfl rfl)
theorem dX7_clashesOf_4 : decode cX7_clashesOf 4 = .ok (.iload_n 3, 1) := dk_29 (dk_at dksX7_clashesOf_0 4 rfl rfl)
theorem dX7_clashesOf_5 : decode cX7_clashesOf 5 = .ok (.aload_n 0, 1) := dk_42 (dk_at dksX7_clashesOf_0 5 rfl rfl)
theorem dX7_clashesOf_6 : decode cX7_clashesOf 6 = .ok (.getfield 7, 3) := dk_180 0 7 (dk_at dksX7_clashesOf_0 6 rfl rfl)
theorem dX7_clashesOf_9 : decode cX7_clashesOf 9 = .ok (.iconst 3, 1) := dk_6 (dk_at dksX7_clashesOf_0 9 rfl rfl)
theorem dX7_clashesOf_10 : decode cX7_clashesOf 10 = .ok (.iaload, 1) := dk_46 (dk_at dksX7_clashesOf_0 10 rfl rfl)
theorem dX7_clashesOf_11 : decode cX7_clashesOf 11 = .ok (.if_icmp .ge 21, 3) := dk_162 0 21 (dk_at dksX7_clashesOf_0 11 rfl rfl)
theorem dX7_clashesOf_14 : decode cX7_clashesOf 14 = .ok (.aload_n 0, 1) := dk_42 (dk_at dksX7_clashesOf_0 14 rfl rfl)
theorem dX7_clashesOf_15 : decode cX7_clashesOf 15 = .ok (.iload_n 1, 1) := dk_27 (dk_at dksX7_clashesOf_0 15 rfl rfl)
theorem dX7_clashesOf_16 : decode cX7_clashesOf 16 = .ok (.iload_n 3, 1) := dk_29 (dk_at dksX7_clashesOf_0 16 rfl rfl)
theorem dX7_clashesOf_17 : decode cX7_clashesOf 17 = .ok (.invokevirtual 208, 3) := dk_182 0 208 (dk_at dksX7_clashesOf_0 17 rfl rfl)
theorem dX7_clashesOf_20 : decode cX7_clashesOf 20 = .ok (.ifCond .eq 6, 3) := dk_153 0 6 (dk_at dksX7_clashesOf_0 20 rfl rfl)
theorem dX7_clashesOf_23 : decode cX7_clashesOf 23 = .ok (.iinc 2 1, 3) := dk_132 2 1 (dk_at dksX7_clashesOf_1 0 rfl rfl)
theorem dX7_clashesOf_26 : decode cX7_clashesOf 26 = .ok (.iinc 3 1, 3) := dk_132 3 1 (dk_at dksX7_clashesOf_1 3 rfl rfl)
theorem dX7_clashesOf_29 : decode cX7_clashesOf 29 = .ok (.goto (-25), 3) := dk_167 255 231 (dk_at dksX7_clashesOf_1 6 rfl rfl)
theorem dX7_clashesOf_32 : decode cX7_clashesOf 32 = .ok (.iload_n 2, 1) := dk_28 (dk_at dksX7_clashesOf_1 9 rfl rfl)
theorem dX7_clashesOf_33 : decode cX7_clashesOf 33 = .ok (.ireturn, 1) := dk_172 (dk_at dksX7_clashesOf_1 10 rfl rfl)
abbrev cX7_phase : ByteArray := prog_19_method_70_code
def yX7_phase : MethodName := ⟨RX7, "phase", "(II)I"⟩
def dkwX7_phase_5 : List UInt8 := [172]
abbrev dktX7_phase_5 : List UInt8 := dkwX7_phase_5 ++ []
def dkwX7_phase_4 : List UInt8 := [167, 0, 4, 3, 172, 42, 27, 182, 0, 107, 172, 42, 27, 6, 182, 0, 79, 172, 42, 27, 28, 182, 0, 79]
abbrev dktX7_phase_4 : List UInt8 := dkwX7_phase_4 ++ dktX7_phase_5
def dkwX7_phase_3 : List UInt8 := [42, 27, 182, 1, 82, 172, 42, 27, 5, 182, 0, 79, 172, 42, 27, 182, 0, 114, 153, 0, 7, 4]
abbrev dktX7_phase_3 : List UInt8 := dkwX7_phase_3 ++ dktX7_phase_4
def dkwX7_phase_2 : List UInt8 := [170, 0, 0, 0, 0, 74, 0, 0, 0, 2, 0, 0, 0, 6, 0, 0, 0, 34, 0, 0, 0, 40, 0, 0, 0, 47, 0, 0, 0, 61, 0, 0, 0, 67]
abbrev dktX7_phase_2 : List UInt8 := dkwX7_phase_2 ++ dktX7_phase_3
def dkwX7_phase_1 : List UInt8 := [4, 167, 0, 4, 3, 182, 1, 66, 154, 0, 5, 3, 172, 28]
abbrev dktX7_phase_1 : List UInt8 := dkwX7_phase_1 ++ dktX7_phase_2
def dkwX7_phase_0 : List UInt8 := [42, 3, 181, 0, 76, 42, 42, 27, 182, 1, 34, 153, 0, 17, 28, 3, 16, 6, 184, 0, 83, 153, 0, 7]
abbrev dktX7_phase_0 : List UInt8 := dkwX7_phase_0 ++ dktX7_phase_1
theorem dksX7_phase_0 : cX7_phase.data.toList.drop 0 = dktX7_phase_0 := by decide +kernel
theorem dksX7_phase_1 : cX7_phase.data.toList.drop 24 = dktX7_phase_1 := dk_seg dksX7_phase_0 24 rfl rfl
theorem dksX7_phase_2 : cX7_phase.data.toList.drop 38 = dktX7_phase_2 := dk_seg dksX7_phase_1 14 rfl rfl
theorem dksX7_phase_3 : cX7_phase.data.toList.drop 72 = dktX7_phase_3 := dk_seg dksX7_phase_2 34 rfl rfl
theorem dksX7_phase_4 : cX7_phase.data.toList.drop 94 = dktX7_phase_4 := dk_seg dksX7_phase_3 22 rfl rfl
theorem dksX7_phase_5 : cX7_phase.data.toList.drop 118 = dktX7_phase_5 := dk_seg dksX7_phase_4 24 rfl rfl
theorem dX7_phase_0 : decode cX7_phase 0 = .ok (.aload_n 0, 1) := dk_42 (dk_at dksX7_phase_0 0 rfl rfl)
theorem dX7_phase_1 : decode cX7_phase 1 = .ok (.iconst 0, 1) := dk_3 (dk_at dksX7_phase_0 1 rfl rfl)
theorem dX7_phase_2 : decode cX7_phase 2 = .ok (.putfield 76, 3) := dk_181 0 76 (dk_at dksX7_phase_0 2 rfl rfl)
theorem dX7_phase_5 : decode cX7_phase 5 = .ok (.aload_n 0, 1) := dk_42 (dk_at dksX7_phase_0 5 rfl rfl)
theorem dX7_phase_6 : decode cX7_phase 6 = .ok (.aload_n 0, 1) := dk_42 (dk_at dksX7_phase_0 6 rfl rfl)
theorem dX7_phase_7 : decode cX7_phase 7 = .ok (.iload_n 1, 1) := dk_27 (dk_at dksX7_phase_0 7 rfl rfl)
theorem dX7_phase_8 : decode cX7_phase 8 = .ok (.invokevirtual 290, 3) := dk_182 1 34 (dk_at dksX7_phase_0 8 rfl rfl)
theorem dX7_phase_11 : decode cX7_phase 11 = .ok (.ifCond .eq 17, 3) := dk_153 0 17 (dk_at dksX7_phase_0 11 rfl rfl)
theorem dX7_phase_14 : decode cX7_phase 14 = .ok (.iload_n 2, 1) := dk_28 (dk_at dksX7_phase_0 14 rfl rfl)
theorem dX7_phase_15 : decode cX7_phase 15 = .ok (.iconst 0, 1) := dk_3 (dk_at dksX7_phase_0 15 rfl rfl)
theorem dX7_phase_16 : decode cX7_phase 16 = .ok (.bipush 6, 2) := dk_16 6 (dk_at dksX7_phase_0 16 rfl rfl)
theorem dX7_phase_18 : decode cX7_phase 18 = .ok (.invokestatic 83, 3) := dk_184 0 83 (dk_at dksX7_phase_0 18 rfl rfl)
theorem dX7_phase_21 : decode cX7_phase 21 = .ok (.ifCond .eq 7, 3) := dk_153 0 7 (dk_at dksX7_phase_0 21 rfl rfl)
theorem dX7_phase_24 : decode cX7_phase 24 = .ok (.iconst 1, 1) := dk_4 (dk_at dksX7_phase_1 0 rfl rfl)
theorem dX7_phase_25 : decode cX7_phase 25 = .ok (.goto 4, 3) := dk_167 0 4 (dk_at dksX7_phase_1 1 rfl rfl)
theorem dX7_phase_28 : decode cX7_phase 28 = .ok (.iconst 0, 1) := dk_3 (dk_at dksX7_phase_1 4 rfl rfl)
theorem dX7_phase_29 : decode cX7_phase 29 = .ok (.invokevirtual 322, 3) := dk_182 1 66 (dk_at dksX7_phase_1 5 rfl rfl)
theorem dX7_phase_32 : decode cX7_phase 32 = .ok (.ifCond .ne 5, 3) := dk_154 0 5 (dk_at dksX7_phase_1 8 rfl rfl)
theorem dX7_phase_35 : decode cX7_phase 35 = .ok (.iconst 0, 1) := dk_3 (dk_at dksX7_phase_1 11 rfl rfl)
theorem dX7_phase_36 : decode cX7_phase 36 = .ok (.ireturn, 1) := dk_172 (dk_at dksX7_phase_1 12 rfl rfl)
theorem dX7_phase_37 : decode cX7_phase 37 = .ok (.iload_n 2, 1) := dk_28 (dk_at dksX7_phase_1 13 rfl rfl)
theorem dX7_phase_38 : decode cX7_phase 38 = .ok (.tableswitch 74 2 6 #[34, 40, 47, 61, 67], 34) := by decide +kernel
theorem dX7_phase_72 : decode cX7_phase 72 = .ok (.aload_n 0, 1) := dk_42 (dk_at dksX7_phase_3 0 rfl rfl)
theorem dX7_phase_73 : decode cX7_phase 73 = .ok (.iload_n 1, 1) := dk_27 (dk_at dksX7_phase_3 1 rfl rfl)
theorem dX7_phase_74 : decode cX7_phase 74 = .ok (.invokevirtual 338, 3) := dk_182 1 82 (dk_at dksX7_phase_3 2 rfl rfl)
theorem dX7_phase_77 : decode cX7_phase 77 = .ok (.ireturn, 1) := dk_172 (dk_at dksX7_phase_3 5 rfl rfl)
theorem dX7_phase_78 : decode cX7_phase 78 = .ok (.aload_n 0, 1) := dk_42 (dk_at dksX7_phase_3 6 rfl rfl)
theorem dX7_phase_79 : decode cX7_phase 79 = .ok (.iload_n 1, 1) := dk_27 (dk_at dksX7_phase_3 7 rfl rfl)
theorem dX7_phase_80 : decode cX7_phase 80 = .ok (.iconst 2, 1) := dk_5 (dk_at dksX7_phase_3 8 rfl rfl)
theorem dX7_phase_81 : decode cX7_phase 81 = .ok (.invokevirtual 79, 3) := dk_182 0 79 (dk_at dksX7_phase_3 9 rfl rfl)
theorem dX7_phase_84 : decode cX7_phase 84 = .ok (.ireturn, 1) := dk_172 (dk_at dksX7_phase_3 12 rfl rfl)
theorem dX7_phase_85 : decode cX7_phase 85 = .ok (.aload_n 0, 1) := dk_42 (dk_at dksX7_phase_3 13 rfl rfl)
theorem dX7_phase_86 : decode cX7_phase 86 = .ok (.iload_n 1, 1) := dk_27 (dk_at dksX7_phase_3 14 rfl rfl)
theorem dX7_phase_87 : decode cX7_phase 87 = .ok (.invokevirtual 114, 3) := dk_182 0 114 (dk_at dksX7_phase_3 15 rfl rfl)
theorem dX7_phase_90 : decode cX7_phase 90 = .ok (.ifCond .eq 7, 3) := dk_153 0 7 (dk_at dksX7_phase_3 18 rfl rfl)
theorem dX7_phase_93 : decode cX7_phase 93 = .ok (.iconst 1, 1) := dk_4 (dk_at dksX7_phase_3 21 rfl rfl)
theorem dX7_phase_94 : decode cX7_phase 94 = .ok (.goto 4, 3) := dk_167 0 4 (dk_at dksX7_phase_4 0 rfl rfl)
theorem dX7_phase_97 : decode cX7_phase 97 = .ok (.iconst 0, 1) := dk_3 (dk_at dksX7_phase_4 3 rfl rfl)
theorem dX7_phase_98 : decode cX7_phase 98 = .ok (.ireturn, 1) := dk_172 (dk_at dksX7_phase_4 4 rfl rfl)
theorem dX7_phase_99 : decode cX7_phase 99 = .ok (.aload_n 0, 1) := dk_42 (dk_at dksX7_phase_4 5 rfl rfl)
theorem dX7_phase_100 : decode cX7_phase 100 = .ok (.iload_n 1, 1) := dk_27 (dk_at dksX7_phase_4 6 rfl rfl)
theorem dX7_phase_101 : decode cX7_phase 101 = .ok (.invokevirtual 107, 3) := dk_182 0 107 (dk_at dksX7_phase_4 7 rfl rfl)
theorem dX7_phase_104 : decode cX7_phase 104 = .ok (.ireturn, 1) := dk_172 (dk_at dksX7_phase_4 10 rfl rfl)
theorem dX7_phase_105 : decode cX7_phase 105 = .ok (.aload_n 0, 1) := dk_42 (dk_at dksX7_phase_4 11 rfl rfl)
theorem dX7_phase_106 : decode cX7_phase 106 = .ok (.iload_n 1, 1) := dk_27 (dk_at dksX7_phase_4 12 rfl rfl)
theorem dX7_phase_107 : decode cX7_phase 107 = .ok (.iconst 3, 1) := dk_6 (dk_at dksX7_phase_4 13 rfl rfl)
theorem dX7_phase_108 : decode cX7_phase 108 = .ok (.invokevirtual 79, 3) := dk_182 0 79 (dk_at dksX7_phase_4 14 rfl rfl)
theorem dX7_phase_111 : decode cX7_phase 111 = .ok (.ireturn, 1) := dk_172 (dk_at dksX7_phase_4 17 rfl rfl)
theorem dX7_phase_112 : decode cX7_phase 112 = .ok (.aload_n 0, 1) := dk_42 (dk_at dksX7_phase_4 18 rfl rfl)
theorem dX7_phase_113 : decode cX7_phase 113 = .ok (.iload_n 1, 1) := dk_27 (dk_at dksX7_phase_4 19 rfl rfl)
theorem dX7_phase_114 : decode cX7_phase 114 = .ok (.iload_n 2, 1) := dk_28 (dk_at dksX7_phase_4 20 rfl rfl)
theorem dX7_phase_115 : decode cX7_phase 115 = .ok (.invokevirtual 79, 3) := dk_182 0 79 (dk_at dksX7_phase_4 21 rfl rfl)
theorem dX7_phase_118 : decode cX7_phase 118 = .ok (.ireturn, 1) := dk_172 (dk_at dksX7_phase_5 0 rfl rfl)
abbrev cX7_armsOf : ByteArray := prog_19_method_69_code
def yX7_armsOf : MethodName := ⟨RX7, "armsOf", "(I)I"⟩
def dkwX7_armsOf_1 : List UInt8 := [132, 2, 1, 132, 3, 1, 167, 255, 231, 28, 172]
abbrev dktX7_armsOf_1 : List UInt8 := dkwX7_armsOf_1 ++ []
def dkwX7_armsOf_0 : List UInt8 := [3, 61, 3, 62, 29, 42, 180, 0, 7, 6, 46, 162, 0, 21, 42, 27, 29, 182, 0, 87, 153, 0, 6]
abbrev dktX7_armsOf_0 : List UInt8 := dkwX7_armsOf_0 ++ dktX7_armsOf_1
theorem dksX7_armsOf_0 : cX7_armsOf.data.toList.drop 0 = dktX7_armsOf_0 := by decide +kernel
theorem dksX7_armsOf_1 : cX7_armsOf.data.toList.drop 23 = dktX7_armsOf_1 := dk_seg dksX7_armsOf_0 23 rfl rfl
theorem dX7_armsOf_0 : decode cX7_armsOf 0 = .ok (.iconst 0, 1) := dk_3 (dk_at dksX7_armsOf_0 0 rfl rfl)
theorem dX7_armsOf_1 : decode cX7_armsOf 1 = .ok (.istore_n 2, 1) := dk_61 (dk_at dksX7_armsOf_0 1 rfl rfl)
theorem dX7_armsOf_2 : decode cX7_armsOf 2 = .ok (.iconst 0, 1) := dk_3 (dk_at dksX7_armsOf_0 2 rfl rfl)
theorem dX7_armsOf_3 : decode cX7_armsOf 3 = .ok (.istore_n 3, 1) := dk_62 (dk_at dksX7_armsOf_0 3 rfl rfl)
theorem dX7_armsOf_4 : decode cX7_armsOf 4 = .ok (.iload_n 3, 1) := dk_29 (dk_at dksX7_armsOf_0 4 rfl rfl)
theorem dX7_armsOf_5 : decode cX7_armsOf 5 = .ok (.aload_n 0, 1) := dk_42 (dk_at dksX7_armsOf_0 5 rfl rfl)
theorem dX7_armsOf_6 : decode cX7_armsOf 6 = .ok (.getfield 7, 3) := dk_180 0 7 (dk_at dksX7_armsOf_0 6 rfl rfl)
theorem dX7_armsOf_9 : decode cX7_armsOf 9 = .ok (.iconst 3, 1) := dk_6 (dk_at dksX7_armsOf_0 9 rfl rfl)
theorem dX7_armsOf_10 : decode cX7_armsOf 10 = .ok (.iaload, 1) := dk_46 (dk_at dksX7_armsOf_0 10 rfl rfl)
theorem dX7_armsOf_11 : decode cX7_armsOf 11 = .ok (.if_icmp .ge 21, 3) := dk_162 0 21 (dk_at dksX7_armsOf_0 11 rfl rfl)
theorem dX7_armsOf_14 : decode cX7_armsOf 14 = .ok (.aload_n 0, 1) := dk_42 (dk_at dksX7_armsOf_0 14 rfl rfl)
theorem dX7_armsOf_15 : decode cX7_armsOf 15 = .ok (.iload_n 1, 1) := dk_27 (dk_at dksX7_armsOf_0 15 rfl rfl)
theorem dX7_armsOf_16 : decode cX7_armsOf 16 = .ok (.iload_n 3, 1) := dk_29 (dk_at dksX7_armsOf_0 16 rfl rfl)
theorem dX7_armsOf_17 : decode cX7_armsOf 17 = .ok (.invokevirtual 87, 3) := dk_182 0 87 (dk_at dksX7_armsOf_0 17 rfl rfl)
theorem dX7_armsOf_20 : decode cX7_armsOf 20 = .ok (.ifCond .eq 6, 3) := dk_153 0 6 (dk_at dksX7_armsOf_0 20 rfl rfl)
theorem dX7_armsOf_23 : decode cX7_armsOf 23 = .ok (.iinc 2 1, 3) := dk_132 2 1 (dk_at dksX7_armsOf_1 0 rfl rfl)
theorem dX7_armsOf_26 : decode cX7_armsOf 26 = .ok (.iinc 3 1, 3) := dk_132 3 1 (dk_at dksX7_armsOf_1 3 rfl rfl)
theorem dX7_armsOf_29 : decode cX7_armsOf 29 = .ok (.goto (-25), 3) := dk_167 255 231 (dk_at dksX7_armsOf_1 6 rfl rfl)
theorem dX7_armsOf_32 : decode cX7_armsOf 32 = .ok (.iload_n 2, 1) := dk_28 (dk_at dksX7_armsOf_1 9 rfl rfl)
theorem dX7_armsOf_33 : decode cX7_armsOf 33 = .ok (.ireturn, 1) := dk_172 (dk_at dksX7_armsOf_1 10 rfl rfl)
abbrev cX7_has : ByteArray := prog_19_method_71_code
def yX7_has : MethodName := ⟨RX7, "has", "(II)Z"⟩
def dkwX7_has_2 : List UInt8 := [172]
abbrev dktX7_has_2 : List UInt8 := dkwX7_has_2 ++ []
def dkwX7_has_1 : List UInt8 := [167, 0, 4, 3, 182, 1, 66, 153, 0, 16, 42, 27, 28, 182, 0, 87, 153, 0, 7, 4, 167, 0, 4, 3]
abbrev dktX7_has_1 : List UInt8 := dkwX7_has_1 ++ dktX7_has_2
def dkwX7_has_0 : List UInt8 := [42, 3, 181, 0, 76, 42, 42, 27, 182, 1, 34, 153, 0, 15, 42, 28, 182, 1, 73, 153, 0, 7, 4]
abbrev dktX7_has_0 : List UInt8 := dkwX7_has_0 ++ dktX7_has_1
theorem dksX7_has_0 : cX7_has.data.toList.drop 0 = dktX7_has_0 := by decide +kernel
theorem dksX7_has_1 : cX7_has.data.toList.drop 23 = dktX7_has_1 := dk_seg dksX7_has_0 23 rfl rfl
theorem dksX7_has_2 : cX7_has.data.toList.drop 47 = dktX7_has_2 := dk_seg dksX7_has_1 24 rfl rfl
theorem dX7_has_0 : decode cX7_has 0 = .ok (.aload_n 0, 1) := dk_42 (dk_at dksX7_has_0 0 rfl rfl)
theorem dX7_has_1 : decode cX7_has 1 = .ok (.iconst 0, 1) := dk_3 (dk_at dksX7_has_0 1 rfl rfl)
theorem dX7_has_2 : decode cX7_has 2 = .ok (.putfield 76, 3) := dk_181 0 76 (dk_at dksX7_has_0 2 rfl rfl)
theorem dX7_has_5 : decode cX7_has 5 = .ok (.aload_n 0, 1) := dk_42 (dk_at dksX7_has_0 5 rfl rfl)
theorem dX7_has_6 : decode cX7_has 6 = .ok (.aload_n 0, 1) := dk_42 (dk_at dksX7_has_0 6 rfl rfl)
theorem dX7_has_7 : decode cX7_has 7 = .ok (.iload_n 1, 1) := dk_27 (dk_at dksX7_has_0 7 rfl rfl)
theorem dX7_has_8 : decode cX7_has 8 = .ok (.invokevirtual 290, 3) := dk_182 1 34 (dk_at dksX7_has_0 8 rfl rfl)
theorem dX7_has_11 : decode cX7_has 11 = .ok (.ifCond .eq 15, 3) := dk_153 0 15 (dk_at dksX7_has_0 11 rfl rfl)
theorem dX7_has_14 : decode cX7_has 14 = .ok (.aload_n 0, 1) := dk_42 (dk_at dksX7_has_0 14 rfl rfl)
theorem dX7_has_15 : decode cX7_has 15 = .ok (.iload_n 2, 1) := dk_28 (dk_at dksX7_has_0 15 rfl rfl)
theorem dX7_has_16 : decode cX7_has 16 = .ok (.invokevirtual 329, 3) := dk_182 1 73 (dk_at dksX7_has_0 16 rfl rfl)
theorem dX7_has_19 : decode cX7_has 19 = .ok (.ifCond .eq 7, 3) := dk_153 0 7 (dk_at dksX7_has_0 19 rfl rfl)
theorem dX7_has_22 : decode cX7_has 22 = .ok (.iconst 1, 1) := dk_4 (dk_at dksX7_has_0 22 rfl rfl)
theorem dX7_has_23 : decode cX7_has 23 = .ok (.goto 4, 3) := dk_167 0 4 (dk_at dksX7_has_1 0 rfl rfl)
theorem dX7_has_26 : decode cX7_has 26 = .ok (.iconst 0, 1) := dk_3 (dk_at dksX7_has_1 3 rfl rfl)
theorem dX7_has_27 : decode cX7_has 27 = .ok (.invokevirtual 322, 3) := dk_182 1 66 (dk_at dksX7_has_1 4 rfl rfl)
theorem dX7_has_30 : decode cX7_has 30 = .ok (.ifCond .eq 16, 3) := dk_153 0 16 (dk_at dksX7_has_1 7 rfl rfl)
theorem dX7_has_33 : decode cX7_has 33 = .ok (.aload_n 0, 1) := dk_42 (dk_at dksX7_has_1 10 rfl rfl)
theorem dX7_has_34 : decode cX7_has 34 = .ok (.iload_n 1, 1) := dk_27 (dk_at dksX7_has_1 11 rfl rfl)
theorem dX7_has_35 : decode cX7_has 35 = .ok (.iload_n 2, 1) := dk_28 (dk_at dksX7_has_1 12 rfl rfl)
theorem dX7_has_36 : decode cX7_has 36 = .ok (.invokevirtual 87, 3) := dk_182 0 87 (dk_at dksX7_has_1 13 rfl rfl)
theorem dX7_has_39 : decode cX7_has 39 = .ok (.ifCond .eq 7, 3) := dk_153 0 7 (dk_at dksX7_has_1 16 rfl rfl)
theorem dX7_has_42 : decode cX7_has 42 = .ok (.iconst 1, 1) := dk_4 (dk_at dksX7_has_1 19 rfl rfl)
theorem dX7_has_43 : decode cX7_has 43 = .ok (.goto 4, 3) := dk_167 0 4 (dk_at dksX7_has_1 20 rfl rfl)
theorem dX7_has_46 : decode cX7_has 46 = .ok (.iconst 0, 1) := dk_3 (dk_at dksX7_has_1 23 rfl rfl)
theorem dX7_has_47 : decode cX7_has 47 = .ok (.ireturn, 1) := dk_172 (dk_at dksX7_has_2 0 rfl rfl)
abbrev cX7_doClash : ByteArray := prog_19_method_72_code
def yX7_doClash : MethodName := ⟨RX7, "doClash", "(II)Z"⟩
def dkwX7_doClash_2 : List UInt8 := [172]
abbrev dktX7_doClash_2 : List UInt8 := dkwX7_doClash_2 ++ []
def dkwX7_doClash_1 : List UInt8 := [167, 0, 4, 3, 182, 1, 66, 153, 0, 16, 42, 27, 28, 182, 0, 208, 153, 0, 7, 4, 167, 0, 4, 3]
abbrev dktX7_doClash_1 : List UInt8 := dkwX7_doClash_1 ++ dktX7_doClash_2
def dkwX7_doClash_0 : List UInt8 := [42, 3, 181, 0, 76, 42, 42, 27, 182, 1, 73, 153, 0, 15, 42, 28, 182, 1, 73, 153, 0, 7, 4]
abbrev dktX7_doClash_0 : List UInt8 := dkwX7_doClash_0 ++ dktX7_doClash_1
theorem dksX7_doClash_0 : cX7_doClash.data.toList.drop 0 = dktX7_doClash_0 := by decide +kernel
theorem dksX7_doClash_1 : cX7_doClash.data.toList.drop 23 = dktX7_doClash_1 := dk_seg dksX7_doClash_0 23 rfl rfl
theorem dksX7_doClash_2 : cX7_doClash.data.toList.drop 47 = dktX7_doClash_2 := dk_seg dksX7_doClash_1 24 rfl rfl
theorem dX7_doClash_0 : decode cX7_doClash 0 = .ok (.aload_n 0, 1) := dk_42 (dk_at dksX7_doClash_0 0 rfl rfl)
theorem dX7_doClash_1 : decode cX7_doClash 1 = .ok (.iconst 0, 1) := dk_3 (dk_at dksX7_doClash_0 1 rfl rfl)
theorem dX7_doClash_2 : decode cX7_doClash 2 = .ok (.putfield 76, 3) := dk_181 0 76 (dk_at dksX7_doClash_0 2 rfl rfl)
theorem dX7_doClash_5 : decode cX7_doClash 5 = .ok (.aload_n 0, 1) := dk_42 (dk_at dksX7_doClash_0 5 rfl rfl)
theorem dX7_doClash_6 : decode cX7_doClash 6 = .ok (.aload_n 0, 1) := dk_42 (dk_at dksX7_doClash_0 6 rfl rfl)
theorem dX7_doClash_7 : decode cX7_doClash 7 = .ok (.iload_n 1, 1) := dk_27 (dk_at dksX7_doClash_0 7 rfl rfl)
theorem dX7_doClash_8 : decode cX7_doClash 8 = .ok (.invokevirtual 329, 3) := dk_182 1 73 (dk_at dksX7_doClash_0 8 rfl rfl)
theorem dX7_doClash_11 : decode cX7_doClash 11 = .ok (.ifCond .eq 15, 3) := dk_153 0 15 (dk_at dksX7_doClash_0 11 rfl rfl)
theorem dX7_doClash_14 : decode cX7_doClash 14 = .ok (.aload_n 0, 1) := dk_42 (dk_at dksX7_doClash_0 14 rfl rfl)
theorem dX7_doClash_15 : decode cX7_doClash 15 = .ok (.iload_n 2, 1) := dk_28 (dk_at dksX7_doClash_0 15 rfl rfl)
theorem dX7_doClash_16 : decode cX7_doClash 16 = .ok (.invokevirtual 329, 3) := dk_182 1 73 (dk_at dksX7_doClash_0 16 rfl rfl)
theorem dX7_doClash_19 : decode cX7_doClash 19 = .ok (.ifCond .eq 7, 3) := dk_153 0 7 (dk_at dksX7_doClash_0 19 rfl rfl)
theorem dX7_doClash_22 : decode cX7_doClash 22 = .ok (.iconst 1, 1) := dk_4 (dk_at dksX7_doClash_0 22 rfl rfl)
theorem dX7_doClash_23 : decode cX7_doClash 23 = .ok (.goto 4, 3) := dk_167 0 4 (dk_at dksX7_doClash_1 0 rfl rfl)
theorem dX7_doClash_26 : decode cX7_doClash 26 = .ok (.iconst 0, 1) := dk_3 (dk_at dksX7_doClash_1 3 rfl rfl)
theorem dX7_doClash_27 : decode cX7_doClash 27 = .ok (.invokevirtual 322, 3) := dk_182 1 66 (dk_at dksX7_doClash_1 4 rfl rfl)
theorem dX7_doClash_30 : decode cX7_doClash 30 = .ok (.ifCond .eq 16, 3) := dk_153 0 16 (dk_at dksX7_doClash_1 7 rfl rfl)
theorem dX7_doClash_33 : decode cX7_doClash 33 = .ok (.aload_n 0, 1) := dk_42 (dk_at dksX7_doClash_1 10 rfl rfl)
theorem dX7_doClash_34 : decode cX7_doClash 34 = .ok (.iload_n 1, 1) := dk_27 (dk_at dksX7_doClash_1 11 rfl rfl)
theorem dX7_doClash_35 : decode cX7_doClash 35 = .ok (.iload_n 2, 1) := dk_28 (dk_at dksX7_doClash_1 12 rfl rfl)
theorem dX7_doClash_36 : decode cX7_doClash 36 = .ok (.invokevirtual 208, 3) := dk_182 0 208 (dk_at dksX7_doClash_1 13 rfl rfl)
theorem dX7_doClash_39 : decode cX7_doClash 39 = .ok (.ifCond .eq 7, 3) := dk_153 0 7 (dk_at dksX7_doClash_1 16 rfl rfl)
theorem dX7_doClash_42 : decode cX7_doClash 42 = .ok (.iconst 1, 1) := dk_4 (dk_at dksX7_doClash_1 19 rfl rfl)
theorem dX7_doClash_43 : decode cX7_doClash 43 = .ok (.goto 4, 3) := dk_167 0 4 (dk_at dksX7_doClash_1 20 rfl rfl)
theorem dX7_doClash_46 : decode cX7_doClash 46 = .ok (.iconst 0, 1) := dk_3 (dk_at dksX7_doClash_1 23 rfl rfl)
theorem dX7_doClash_47 : decode cX7_doClash 47 = .ok (.ireturn, 1) := dk_172 (dk_at dksX7_doClash_2 0 rfl rfl)
abbrev cX7_car : ByteArray := prog_19_method_73_code
def yX7_car : MethodName := ⟨RX7, "car", "(II)I"⟩
def dkwX7_car_1 : List UInt8 := [182, 0, 91, 4, 100, 184, 0, 83, 153, 0, 12, 42, 27, 28, 182, 0, 99, 167, 0, 4, 2, 172]
abbrev dktX7_car_1 : List UInt8 := dkwX7_car_1 ++ []
def dkwX7_car_0 : List UInt8 := [42, 3, 181, 0, 76, 42, 42, 27, 182, 1, 73, 182, 1, 66, 154, 0, 5, 3, 172, 28, 3, 42, 27, 6]
abbrev dktX7_car_0 : List UInt8 := dkwX7_car_0 ++ dktX7_car_1
theorem dksX7_car_0 : cX7_car.data.toList.drop 0 = dktX7_car_0 := by decide +kernel
theorem dksX7_car_1 : cX7_car.data.toList.drop 24 = dktX7_car_1 := dk_seg dksX7_car_0 24 rfl rfl
theorem dX7_car_0 : decode cX7_car 0 = .ok (.aload_n 0, 1) := dk_42 (dk_at dksX7_car_0 0 rfl rfl)
theorem dX7_car_1 : decode cX7_car 1 = .ok (.iconst 0, 1) := dk_3 (dk_at dksX7_car_0 1 rfl rfl)
theorem dX7_car_2 : decode cX7_car 2 = .ok (.putfield 76, 3) := dk_181 0 76 (dk_at dksX7_car_0 2 rfl rfl)
theorem dX7_car_5 : decode cX7_car 5 = .ok (.aload_n 0, 1) := dk_42 (dk_at dksX7_car_0 5 rfl rfl)
theorem dX7_car_6 : decode cX7_car 6 = .ok (.aload_n 0, 1) := dk_42 (dk_at dksX7_car_0 6 rfl rfl)
theorem dX7_car_7 : decode cX7_car 7 = .ok (.iload_n 1, 1) := dk_27 (dk_at dksX7_car_0 7 rfl rfl)
theorem dX7_car_8 : decode cX7_car 8 = .ok (.invokevirtual 329, 3) := dk_182 1 73 (dk_at dksX7_car_0 8 rfl rfl)
theorem dX7_car_11 : decode cX7_car 11 = .ok (.invokevirtual 322, 3) := dk_182 1 66 (dk_at dksX7_car_0 11 rfl rfl)
theorem dX7_car_14 : decode cX7_car 14 = .ok (.ifCond .ne 5, 3) := dk_154 0 5 (dk_at dksX7_car_0 14 rfl rfl)
theorem dX7_car_17 : decode cX7_car 17 = .ok (.iconst 0, 1) := dk_3 (dk_at dksX7_car_0 17 rfl rfl)
theorem dX7_car_18 : decode cX7_car 18 = .ok (.ireturn, 1) := dk_172 (dk_at dksX7_car_0 18 rfl rfl)
theorem dX7_car_19 : decode cX7_car 19 = .ok (.iload_n 2, 1) := dk_28 (dk_at dksX7_car_0 19 rfl rfl)
theorem dX7_car_20 : decode cX7_car 20 = .ok (.iconst 0, 1) := dk_3 (dk_at dksX7_car_0 20 rfl rfl)
theorem dX7_car_21 : decode cX7_car 21 = .ok (.aload_n 0, 1) := dk_42 (dk_at dksX7_car_0 21 rfl rfl)
theorem dX7_car_22 : decode cX7_car 22 = .ok (.iload_n 1, 1) := dk_27 (dk_at dksX7_car_0 22 rfl rfl)
theorem dX7_car_23 : decode cX7_car 23 = .ok (.iconst 3, 1) := dk_6 (dk_at dksX7_car_0 23 rfl rfl)
theorem dX7_car_24 : decode cX7_car 24 = .ok (.invokevirtual 91, 3) := dk_182 0 91 (dk_at dksX7_car_1 0 rfl rfl)
theorem dX7_car_27 : decode cX7_car 27 = .ok (.iconst 1, 1) := dk_4 (dk_at dksX7_car_1 3 rfl rfl)
theorem dX7_car_28 : decode cX7_car 28 = .ok (.isub, 1) := dk_100 (dk_at dksX7_car_1 4 rfl rfl)
theorem dX7_car_29 : decode cX7_car 29 = .ok (.invokestatic 83, 3) := dk_184 0 83 (dk_at dksX7_car_1 5 rfl rfl)
theorem dX7_car_32 : decode cX7_car 32 = .ok (.ifCond .eq 12, 3) := dk_153 0 12 (dk_at dksX7_car_1 8 rfl rfl)
theorem dX7_car_35 : decode cX7_car 35 = .ok (.aload_n 0, 1) := dk_42 (dk_at dksX7_car_1 11 rfl rfl)
theorem dX7_car_36 : decode cX7_car 36 = .ok (.iload_n 1, 1) := dk_27 (dk_at dksX7_car_1 12 rfl rfl)
theorem dX7_car_37 : decode cX7_car 37 = .ok (.iload_n 2, 1) := dk_28 (dk_at dksX7_car_1 13 rfl rfl)
theorem dX7_car_38 : decode cX7_car 38 = .ok (.invokevirtual 99, 3) := dk_182 0 99 (dk_at dksX7_car_1 14 rfl rfl)
theorem dX7_car_41 : decode cX7_car 41 = .ok (.goto 4, 3) := dk_167 0 4 (dk_at dksX7_car_1 17 rfl rfl)
theorem dX7_car_44 : decode cX7_car 44 = .ok (.iconst (-1), 1) := dk_2 (dk_at dksX7_car_1 20 rfl rfl)
theorem dX7_car_45 : decode cX7_car 45 = .ok (.ireturn, 1) := dk_172 (dk_at dksX7_car_1 21 rfl rfl)
abbrev cX7_letter : ByteArray := prog_19_method_75_code
def yX7_letter : MethodName := ⟨RX7, "letter", "(II)I"⟩
def dkwX7_letter_1 : List UInt8 := [184, 1, 85, 167, 0, 4, 3, 172]
abbrev dktX7_letter_1 : List UInt8 := dkwX7_letter_1 ++ []
def dkwX7_letter_0 : List UInt8 := [42, 3, 181, 0, 76, 42, 42, 27, 182, 1, 73, 182, 1, 66, 153, 0, 16, 42, 27, 3, 182, 0, 91, 28]
abbrev dktX7_letter_0 : List UInt8 := dkwX7_letter_0 ++ dktX7_letter_1
theorem dksX7_letter_0 : cX7_letter.data.toList.drop 0 = dktX7_letter_0 := by decide +kernel
theorem dksX7_letter_1 : cX7_letter.data.toList.drop 24 = dktX7_letter_1 := dk_seg dksX7_letter_0 24 rfl rfl
theorem dX7_letter_0 : decode cX7_letter 0 = .ok (.aload_n 0, 1) := dk_42 (dk_at dksX7_letter_0 0 rfl rfl)
theorem dX7_letter_1 : decode cX7_letter 1 = .ok (.iconst 0, 1) := dk_3 (dk_at dksX7_letter_0 1 rfl rfl)
theorem dX7_letter_2 : decode cX7_letter 2 = .ok (.putfield 76, 3) := dk_181 0 76 (dk_at dksX7_letter_0 2 rfl rfl)
theorem dX7_letter_5 : decode cX7_letter 5 = .ok (.aload_n 0, 1) := dk_42 (dk_at dksX7_letter_0 5 rfl rfl)
theorem dX7_letter_6 : decode cX7_letter 6 = .ok (.aload_n 0, 1) := dk_42 (dk_at dksX7_letter_0 6 rfl rfl)
theorem dX7_letter_7 : decode cX7_letter 7 = .ok (.iload_n 1, 1) := dk_27 (dk_at dksX7_letter_0 7 rfl rfl)
theorem dX7_letter_8 : decode cX7_letter 8 = .ok (.invokevirtual 329, 3) := dk_182 1 73 (dk_at dksX7_letter_0 8 rfl rfl)
theorem dX7_letter_11 : decode cX7_letter 11 = .ok (.invokevirtual 322, 3) := dk_182 1 66 (dk_at dksX7_letter_0 11 rfl rfl)
theorem dX7_letter_14 : decode cX7_letter 14 = .ok (.ifCond .eq 16, 3) := dk_153 0 16 (dk_at dksX7_letter_0 14 rfl rfl)
theorem dX7_letter_17 : decode cX7_letter 17 = .ok (.aload_n 0, 1) := dk_42 (dk_at dksX7_letter_0 17 rfl rfl)
theorem dX7_letter_18 : decode cX7_letter 18 = .ok (.iload_n 1, 1) := dk_27 (dk_at dksX7_letter_0 18 rfl rfl)
theorem dX7_letter_19 : decode cX7_letter 19 = .ok (.iconst 0, 1) := dk_3 (dk_at dksX7_letter_0 19 rfl rfl)
theorem dX7_letter_20 : decode cX7_letter 20 = .ok (.invokevirtual 91, 3) := dk_182 0 91 (dk_at dksX7_letter_0 20 rfl rfl)
theorem dX7_letter_23 : decode cX7_letter 23 = .ok (.iload_n 2, 1) := dk_28 (dk_at dksX7_letter_0 23 rfl rfl)
theorem dX7_letter_24 : decode cX7_letter 24 = .ok (.invokestatic 341, 3) := dk_184 1 85 (dk_at dksX7_letter_1 0 rfl rfl)
theorem dX7_letter_27 : decode cX7_letter 27 = .ok (.goto 4, 3) := dk_167 0 4 (dk_at dksX7_letter_1 3 rfl rfl)
theorem dX7_letter_30 : decode cX7_letter 30 = .ok (.iconst 0, 1) := dk_3 (dk_at dksX7_letter_1 6 rfl rfl)
theorem dX7_letter_31 : decode cX7_letter 31 = .ok (.ireturn, 1) := dk_172 (dk_at dksX7_letter_1 7 rfl rfl)
abbrev cX7_letterOf : ByteArray := prog_19_method_74_code
def yX7_letterOf : MethodName := ⟨RX7, "letterOf", "(II)I"⟩
def dkwX7_letterOf_2 : List UInt8 := [108, 62, 132, 4, 1, 167, 255, 242, 16, 96, 29, 16, 27, 112, 96, 172]
abbrev dktX7_letterOf_2 : List UInt8 := dkwX7_letterOf_2 ++ []
def dkwX7_letterOf_1 : List UInt8 := [184, 0, 83, 154, 0, 5, 2, 172, 26, 62, 27, 4, 96, 54, 4, 21, 4, 28, 162, 0, 14, 29, 16, 27]
abbrev dktX7_letterOf_1 : List UInt8 := dkwX7_letterOf_1 ++ dktX7_letterOf_2
def dkwX7_letterOf_0 : List UInt8 := [3, 61, 26, 62, 29, 158, 0, 14, 132, 2, 1, 29, 16, 27, 108, 62, 167, 255, 244, 27, 3, 28, 4, 100]
abbrev dktX7_letterOf_0 : List UInt8 := dkwX7_letterOf_0 ++ dktX7_letterOf_1
theorem dksX7_letterOf_0 : cX7_letterOf.data.toList.drop 0 = dktX7_letterOf_0 := by decide +kernel
theorem dksX7_letterOf_1 : cX7_letterOf.data.toList.drop 24 = dktX7_letterOf_1 := dk_seg dksX7_letterOf_0 24 rfl rfl
theorem dksX7_letterOf_2 : cX7_letterOf.data.toList.drop 48 = dktX7_letterOf_2 := dk_seg dksX7_letterOf_1 24 rfl rfl
theorem dX7_letterOf_0 : decode cX7_letterOf 0 = .ok (.iconst 0, 1) := dk_3 (dk_at dksX7_letterOf_0 0 rfl rfl)
theorem dX7_letterOf_1 : decode cX7_letterOf 1 = .ok (.istore_n 2, 1) := dk_61 (dk_at dksX7_letterOf_0 1 rfl rfl)
theorem dX7_letterOf_2 : decode cX7_letterOf 2 = .ok (.iload_n 0, 1) := dk_26 (dk_at dksX7_letterOf_0 2 rfl rfl)
theorem dX7_letterOf_3 : decode cX7_letterOf 3 = .ok (.istore_n 3, 1) := dk_62 (dk_at dksX7_letterOf_0 3 rfl rfl)
theorem dX7_letterOf_4 : decode cX7_letterOf 4 = .ok (.iload_n 3, 1) := dk_29 (dk_at dksX7_letterOf_0 4 rfl rfl)
theorem dX7_letterOf_5 : decode cX7_letterOf 5 = .ok (.ifCond .le 14, 3) := dk_158 0 14 (dk_at dksX7_letterOf_0 5 rfl rfl)
theorem dX7_letterOf_8 : decode cX7_letterOf 8 = .ok (.iinc 2 1, 3) := dk_132 2 1 (dk_at dksX7_letterOf_0 8 rfl rfl)
theorem dX7_letterOf_11 : decode cX7_letterOf 11 = .ok (.iload_n 3, 1) := dk_29 (dk_at dksX7_letterOf_0 11 rfl rfl)
theorem dX7_letterOf_12 : decode cX7_letterOf 12 = .ok (.bipush 27, 2) := dk_16 27 (dk_at dksX7_letterOf_0 12 rfl rfl)
theorem dX7_letterOf_14 : decode cX7_letterOf 14 = .ok (.idiv, 1) := dk_108 (dk_at dksX7_letterOf_0 14 rfl rfl)
theorem dX7_letterOf_15 : decode cX7_letterOf 15 = .ok (.istore_n 3, 1) := dk_62 (dk_at dksX7_letterOf_0 15 rfl rfl)
theorem dX7_letterOf_16 : decode cX7_letterOf 16 = .ok (.goto (-12), 3) := dk_167 255 244 (dk_at dksX7_letterOf_0 16 rfl rfl)
theorem dX7_letterOf_19 : decode cX7_letterOf 19 = .ok (.iload_n 1, 1) := dk_27 (dk_at dksX7_letterOf_0 19 rfl rfl)
theorem dX7_letterOf_20 : decode cX7_letterOf 20 = .ok (.iconst 0, 1) := dk_3 (dk_at dksX7_letterOf_0 20 rfl rfl)
theorem dX7_letterOf_21 : decode cX7_letterOf 21 = .ok (.iload_n 2, 1) := dk_28 (dk_at dksX7_letterOf_0 21 rfl rfl)
theorem dX7_letterOf_22 : decode cX7_letterOf 22 = .ok (.iconst 1, 1) := dk_4 (dk_at dksX7_letterOf_0 22 rfl rfl)
theorem dX7_letterOf_23 : decode cX7_letterOf 23 = .ok (.isub, 1) := dk_100 (dk_at dksX7_letterOf_0 23 rfl rfl)
theorem dX7_letterOf_24 : decode cX7_letterOf 24 = .ok (.invokestatic 83, 3) := dk_184 0 83 (dk_at dksX7_letterOf_1 0 rfl rfl)
theorem dX7_letterOf_27 : decode cX7_letterOf 27 = .ok (.ifCond .ne 5, 3) := dk_154 0 5 (dk_at dksX7_letterOf_1 3 rfl rfl)
theorem dX7_letterOf_30 : decode cX7_letterOf 30 = .ok (.iconst (-1), 1) := dk_2 (dk_at dksX7_letterOf_1 6 rfl rfl)
theorem dX7_letterOf_31 : decode cX7_letterOf 31 = .ok (.ireturn, 1) := dk_172 (dk_at dksX7_letterOf_1 7 rfl rfl)
theorem dX7_letterOf_32 : decode cX7_letterOf 32 = .ok (.iload_n 0, 1) := dk_26 (dk_at dksX7_letterOf_1 8 rfl rfl)
theorem dX7_letterOf_33 : decode cX7_letterOf 33 = .ok (.istore_n 3, 1) := dk_62 (dk_at dksX7_letterOf_1 9 rfl rfl)
theorem dX7_letterOf_34 : decode cX7_letterOf 34 = .ok (.iload_n 1, 1) := dk_27 (dk_at dksX7_letterOf_1 10 rfl rfl)
theorem dX7_letterOf_35 : decode cX7_letterOf 35 = .ok (.iconst 1, 1) := dk_4 (dk_at dksX7_letterOf_1 11 rfl rfl)
theorem dX7_letterOf_36 : decode cX7_letterOf 36 = .ok (.iadd, 1) := dk_96 (dk_at dksX7_letterOf_1 12 rfl rfl)
theorem dX7_letterOf_37 : decode cX7_letterOf 37 = .ok (.istore 4, 2) := dk_54 4 (dk_at dksX7_letterOf_1 13 rfl rfl)
theorem dX7_letterOf_39 : decode cX7_letterOf 39 = .ok (.iload 4, 2) := dk_21 4 (dk_at dksX7_letterOf_1 15 rfl rfl)
theorem dX7_letterOf_41 : decode cX7_letterOf 41 = .ok (.iload_n 2, 1) := dk_28 (dk_at dksX7_letterOf_1 17 rfl rfl)
theorem dX7_letterOf_42 : decode cX7_letterOf 42 = .ok (.if_icmp .ge 14, 3) := dk_162 0 14 (dk_at dksX7_letterOf_1 18 rfl rfl)
theorem dX7_letterOf_45 : decode cX7_letterOf 45 = .ok (.iload_n 3, 1) := dk_29 (dk_at dksX7_letterOf_1 21 rfl rfl)
theorem dX7_letterOf_46 : decode cX7_letterOf 46 = .ok (.bipush 27, 2) := dk_16 27 (dk_at dksX7_letterOf_1 22 rfl rfl)
theorem dX7_letterOf_48 : decode cX7_letterOf 48 = .ok (.idiv, 1) := dk_108 (dk_at dksX7_letterOf_2 0 rfl rfl)
theorem dX7_letterOf_49 : decode cX7_letterOf 49 = .ok (.istore_n 3, 1) := dk_62 (dk_at dksX7_letterOf_2 1 rfl rfl)
theorem dX7_letterOf_50 : decode cX7_letterOf 50 = .ok (.iinc 4 1, 3) := dk_132 4 1 (dk_at dksX7_letterOf_2 2 rfl rfl)
theorem dX7_letterOf_53 : decode cX7_letterOf 53 = .ok (.goto (-14), 3) := dk_167 255 242 (dk_at dksX7_letterOf_2 5 rfl rfl)
theorem dX7_letterOf_56 : decode cX7_letterOf 56 = .ok (.bipush 96, 2) := dk_16 96 (dk_at dksX7_letterOf_2 8 rfl rfl)
theorem dX7_letterOf_58 : decode cX7_letterOf 58 = .ok (.iload_n 3, 1) := dk_29 (dk_at dksX7_letterOf_2 10 rfl rfl)
theorem dX7_letterOf_59 : decode cX7_letterOf 59 = .ok (.bipush 27, 2) := dk_16 27 (dk_at dksX7_letterOf_2 11 rfl rfl)
theorem dX7_letterOf_61 : decode cX7_letterOf 61 = .ok (.irem, 1) := dk_112 (dk_at dksX7_letterOf_2 13 rfl rfl)
theorem dX7_letterOf_62 : decode cX7_letterOf 62 = .ok (.iadd, 1) := dk_96 (dk_at dksX7_letterOf_2 14 rfl rfl)
theorem dX7_letterOf_63 : decode cX7_letterOf 63 = .ok (.ireturn, 1) := dk_172 (dk_at dksX7_letterOf_2 15 rfl rfl)
abbrev cX7_find : ByteArray := prog_19_method_76_code
def yX7_find : MethodName := ⟨RX7, "find", "()I"⟩
def dkwX7_find_2 : List UInt8 := [132, 1, 1, 167, 255, 227, 42, 42, 3, 42, 180, 0, 67, 182, 0, 190, 182, 0, 202, 172]
abbrev dktX7_find_2 : List UInt8 := dkwX7_find_2 ++ []
def dkwX7_find_1 : List UInt8 := [180, 0, 67, 162, 0, 27, 42, 180, 0, 29, 27, 46, 16, 97, 16, 122, 184, 0, 83, 154, 0, 5, 2, 172]
abbrev dktX7_find_1 : List UInt8 := dkwX7_find_1 ++ dktX7_find_2
def dkwX7_find_0 : List UInt8 := [42, 3, 181, 0, 76, 42, 180, 0, 67, 4, 16, 6, 184, 0, 83, 154, 0, 5, 2, 172, 3, 60, 27, 42]
abbrev dktX7_find_0 : List UInt8 := dkwX7_find_0 ++ dktX7_find_1
theorem dksX7_find_0 : cX7_find.data.toList.drop 0 = dktX7_find_0 := by decide +kernel
theorem dksX7_find_1 : cX7_find.data.toList.drop 24 = dktX7_find_1 := dk_seg dksX7_find_0 24 rfl rfl
theorem dksX7_find_2 : cX7_find.data.toList.drop 48 = dktX7_find_2 := dk_seg dksX7_find_1 24 rfl rfl
theorem dX7_find_0 : decode cX7_find 0 = .ok (.aload_n 0, 1) := dk_42 (dk_at dksX7_find_0 0 rfl rfl)
theorem dX7_find_1 : decode cX7_find 1 = .ok (.iconst 0, 1) := dk_3 (dk_at dksX7_find_0 1 rfl rfl)
theorem dX7_find_2 : decode cX7_find 2 = .ok (.putfield 76, 3) := dk_181 0 76 (dk_at dksX7_find_0 2 rfl rfl)
theorem dX7_find_5 : decode cX7_find 5 = .ok (.aload_n 0, 1) := dk_42 (dk_at dksX7_find_0 5 rfl rfl)
theorem dX7_find_6 : decode cX7_find 6 = .ok (.getfield 67, 3) := dk_180 0 67 (dk_at dksX7_find_0 6 rfl rfl)
theorem dX7_find_9 : decode cX7_find 9 = .ok (.iconst 1, 1) := dk_4 (dk_at dksX7_find_0 9 rfl rfl)
theorem dX7_find_10 : decode cX7_find 10 = .ok (.bipush 6, 2) := dk_16 6 (dk_at dksX7_find_0 10 rfl rfl)
theorem dX7_find_12 : decode cX7_find 12 = .ok (.invokestatic 83, 3) := dk_184 0 83 (dk_at dksX7_find_0 12 rfl rfl)
theorem dX7_find_15 : decode cX7_find 15 = .ok (.ifCond .ne 5, 3) := dk_154 0 5 (dk_at dksX7_find_0 15 rfl rfl)
theorem dX7_find_18 : decode cX7_find 18 = .ok (.iconst (-1), 1) := dk_2 (dk_at dksX7_find_0 18 rfl rfl)
theorem dX7_find_19 : decode cX7_find 19 = .ok (.ireturn, 1) := dk_172 (dk_at dksX7_find_0 19 rfl rfl)
theorem dX7_find_20 : decode cX7_find 20 = .ok (.iconst 0, 1) := dk_3 (dk_at dksX7_find_0 20 rfl rfl)
theorem dX7_find_21 : decode cX7_find 21 = .ok (.istore_n 1, 1) := dk_60 (dk_at dksX7_find_0 21 rfl rfl)
theorem dX7_find_22 : decode cX7_find 22 = .ok (.iload_n 1, 1) := dk_27 (dk_at dksX7_find_0 22 rfl rfl)
theorem dX7_find_23 : decode cX7_find 23 = .ok (.aload_n 0, 1) := dk_42 (dk_at dksX7_find_0 23 rfl rfl)
theorem dX7_find_24 : decode cX7_find 24 = .ok (.getfield 67, 3) := dk_180 0 67 (dk_at dksX7_find_1 0 rfl rfl)
theorem dX7_find_27 : decode cX7_find 27 = .ok (.if_icmp .ge 27, 3) := dk_162 0 27 (dk_at dksX7_find_1 3 rfl rfl)
theorem dX7_find_30 : decode cX7_find 30 = .ok (.aload_n 0, 1) := dk_42 (dk_at dksX7_find_1 6 rfl rfl)
theorem dX7_find_31 : decode cX7_find 31 = .ok (.getfield 29, 3) := dk_180 0 29 (dk_at dksX7_find_1 7 rfl rfl)
theorem dX7_find_34 : decode cX7_find 34 = .ok (.iload_n 1, 1) := dk_27 (dk_at dksX7_find_1 10 rfl rfl)
theorem dX7_find_35 : decode cX7_find 35 = .ok (.iaload, 1) := dk_46 (dk_at dksX7_find_1 11 rfl rfl)
theorem dX7_find_36 : decode cX7_find 36 = .ok (.bipush 97, 2) := dk_16 97 (dk_at dksX7_find_1 12 rfl rfl)
theorem dX7_find_38 : decode cX7_find 38 = .ok (.bipush 122, 2) := dk_16 122 (dk_at dksX7_find_1 14 rfl rfl)
theorem dX7_find_40 : decode cX7_find 40 = .ok (.invokestatic 83, 3) := dk_184 0 83 (dk_at dksX7_find_1 16 rfl rfl)
theorem dX7_find_43 : decode cX7_find 43 = .ok (.ifCond .ne 5, 3) := dk_154 0 5 (dk_at dksX7_find_1 19 rfl rfl)
theorem dX7_find_46 : decode cX7_find 46 = .ok (.iconst (-1), 1) := dk_2 (dk_at dksX7_find_1 22 rfl rfl)
theorem dX7_find_47 : decode cX7_find 47 = .ok (.ireturn, 1) := dk_172 (dk_at dksX7_find_1 23 rfl rfl)
theorem dX7_find_48 : decode cX7_find 48 = .ok (.iinc 1 1, 3) := dk_132 1 1 (dk_at dksX7_find_2 0 rfl rfl)
theorem dX7_find_51 : decode cX7_find 51 = .ok (.goto (-29), 3) := dk_167 255 227 (dk_at dksX7_find_2 3 rfl rfl)
theorem dX7_find_54 : decode cX7_find 54 = .ok (.aload_n 0, 1) := dk_42 (dk_at dksX7_find_2 6 rfl rfl)
theorem dX7_find_55 : decode cX7_find 55 = .ok (.aload_n 0, 1) := dk_42 (dk_at dksX7_find_2 7 rfl rfl)
theorem dX7_find_56 : decode cX7_find 56 = .ok (.iconst 0, 1) := dk_3 (dk_at dksX7_find_2 8 rfl rfl)
theorem dX7_find_57 : decode cX7_find 57 = .ok (.aload_n 0, 1) := dk_42 (dk_at dksX7_find_2 9 rfl rfl)
theorem dX7_find_58 : decode cX7_find 58 = .ok (.getfield 67, 3) := dk_180 0 67 (dk_at dksX7_find_2 10 rfl rfl)
theorem dX7_find_61 : decode cX7_find 61 = .ok (.invokevirtual 190, 3) := dk_182 0 190 (dk_at dksX7_find_2 13 rfl rfl)
theorem dX7_find_64 : decode cX7_find 64 = .ok (.invokevirtual 202, 3) := dk_182 0 202 (dk_at dksX7_find_2 16 rfl rfl)
theorem dX7_find_67 : decode cX7_find 67 = .ok (.ireturn, 1) := dk_172 (dk_at dksX7_find_2 19 rfl rfl)
abbrev cX7_why : ByteArray := prog_19_method_79_code
def yX7_why : MethodName := ⟨RX7, "why", "(II)I"⟩
def dkwX7_why_6 : List UInt8 := [17, 1, 144, 42, 182, 0, 131, 96, 172, 3, 172]
abbrev dktX7_why_6 : List UInt8 := dkwX7_why_6 ++ []
def dkwX7_why_5 : List UInt8 := [182, 0, 79, 96, 42, 180, 0, 7, 16, 9, 46, 100, 172, 17, 1, 44, 42, 182, 0, 134, 96, 172]
abbrev dktX7_why_5 : List UInt8 := dkwX7_why_5 ++ dktX7_why_6
def dkwX7_why_4 : List UInt8 := [16, 100, 42, 180, 0, 7, 16, 7, 46, 96, 172, 17, 0, 200, 42, 42, 180, 0, 7, 16, 6, 46, 3]
abbrev dktX7_why_4 : List UInt8 := dkwX7_why_4 ++ dktX7_why_5
def dkwX7_why_3 : List UInt8 := [170, 0, 0, 0, 0, 0, 97, 0, 0, 0, 2, 0, 0, 0, 8, 0, 0, 0, 43, 0, 0, 0, 43, 0, 0, 0, 97, 0, 0, 0, 54, 0, 0, 0, 79, 0, 0, 0, 88, 0, 0, 0, 88]
abbrev dktX7_why_3 : List UInt8 := dkwX7_why_3 ++ dktX7_why_4
def dkwX7_why_2 : List UInt8 := [29]
abbrev dktX7_why_2 : List UInt8 := dkwX7_why_2 ++ dktX7_why_3
def dkwX7_why_1 : List UInt8 := [167, 0, 4, 3, 182, 1, 66, 154, 0, 5, 3, 172, 42, 27, 182, 1, 91, 62, 28, 154, 0, 5, 29, 172]
abbrev dktX7_why_1 : List UInt8 := dkwX7_why_1 ++ dktX7_why_2
def dkwX7_why_0 : List UInt8 := [42, 3, 181, 0, 76, 42, 42, 27, 182, 1, 73, 153, 0, 16, 28, 3, 4, 184, 0, 83, 153, 0, 7, 4]
abbrev dktX7_why_0 : List UInt8 := dkwX7_why_0 ++ dktX7_why_1
theorem dksX7_why_0 : cX7_why.data.toList.drop 0 = dktX7_why_0 := by decide +kernel
theorem dksX7_why_1 : cX7_why.data.toList.drop 24 = dktX7_why_1 := dk_seg dksX7_why_0 24 rfl rfl
theorem dksX7_why_2 : cX7_why.data.toList.drop 48 = dktX7_why_2 := dk_seg dksX7_why_1 24 rfl rfl
theorem dksX7_why_3 : cX7_why.data.toList.drop 49 = dktX7_why_3 := dk_seg dksX7_why_2 1 rfl rfl
theorem dksX7_why_4 : cX7_why.data.toList.drop 92 = dktX7_why_4 := dk_seg dksX7_why_3 43 rfl rfl
theorem dksX7_why_5 : cX7_why.data.toList.drop 115 = dktX7_why_5 := dk_seg dksX7_why_4 23 rfl rfl
theorem dksX7_why_6 : cX7_why.data.toList.drop 137 = dktX7_why_6 := dk_seg dksX7_why_5 22 rfl rfl
theorem dX7_why_0 : decode cX7_why 0 = .ok (.aload_n 0, 1) := dk_42 (dk_at dksX7_why_0 0 rfl rfl)
theorem dX7_why_1 : decode cX7_why 1 = .ok (.iconst 0, 1) := dk_3 (dk_at dksX7_why_0 1 rfl rfl)
theorem dX7_why_2 : decode cX7_why 2 = .ok (.putfield 76, 3) := dk_181 0 76 (dk_at dksX7_why_0 2 rfl rfl)
theorem dX7_why_5 : decode cX7_why 5 = .ok (.aload_n 0, 1) := dk_42 (dk_at dksX7_why_0 5 rfl rfl)
theorem dX7_why_6 : decode cX7_why 6 = .ok (.aload_n 0, 1) := dk_42 (dk_at dksX7_why_0 6 rfl rfl)
theorem dX7_why_7 : decode cX7_why 7 = .ok (.iload_n 1, 1) := dk_27 (dk_at dksX7_why_0 7 rfl rfl)
theorem dX7_why_8 : decode cX7_why 8 = .ok (.invokevirtual 329, 3) := dk_182 1 73 (dk_at dksX7_why_0 8 rfl rfl)
theorem dX7_why_11 : decode cX7_why 11 = .ok (.ifCond .eq 16, 3) := dk_153 0 16 (dk_at dksX7_why_0 11 rfl rfl)
theorem dX7_why_14 : decode cX7_why 14 = .ok (.iload_n 2, 1) := dk_28 (dk_at dksX7_why_0 14 rfl rfl)
theorem dX7_why_15 : decode cX7_why 15 = .ok (.iconst 0, 1) := dk_3 (dk_at dksX7_why_0 15 rfl rfl)
theorem dX7_why_16 : decode cX7_why 16 = .ok (.iconst 1, 1) := dk_4 (dk_at dksX7_why_0 16 rfl rfl)
theorem dX7_why_17 : decode cX7_why 17 = .ok (.invokestatic 83, 3) := dk_184 0 83 (dk_at dksX7_why_0 17 rfl rfl)
theorem dX7_why_20 : decode cX7_why 20 = .ok (.ifCond .eq 7, 3) := dk_153 0 7 (dk_at dksX7_why_0 20 rfl rfl)
theorem dX7_why_23 : decode cX7_why 23 = .ok (.iconst 1, 1) := dk_4 (dk_at dksX7_why_0 23 rfl rfl)
theorem dX7_why_24 : decode cX7_why 24 = .ok (.goto 4, 3) := dk_167 0 4 (dk_at dksX7_why_1 0 rfl rfl)
theorem dX7_why_27 : decode cX7_why 27 = .ok (.iconst 0, 1) := dk_3 (dk_at dksX7_why_1 3 rfl rfl)
theorem dX7_why_28 : decode cX7_why 28 = .ok (.invokevirtual 322, 3) := dk_182 1 66 (dk_at dksX7_why_1 4 rfl rfl)
theorem dX7_why_31 : decode cX7_why 31 = .ok (.ifCond .ne 5, 3) := dk_154 0 5 (dk_at dksX7_why_1 7 rfl rfl)
theorem dX7_why_34 : decode cX7_why 34 = .ok (.iconst 0, 1) := dk_3 (dk_at dksX7_why_1 10 rfl rfl)
theorem dX7_why_35 : decode cX7_why 35 = .ok (.ireturn, 1) := dk_172 (dk_at dksX7_why_1 11 rfl rfl)
theorem dX7_why_36 : decode cX7_why 36 = .ok (.aload_n 0, 1) := dk_42 (dk_at dksX7_why_1 12 rfl rfl)
theorem dX7_why_37 : decode cX7_why 37 = .ok (.iload_n 1, 1) := dk_27 (dk_at dksX7_why_1 13 rfl rfl)
theorem dX7_why_38 : decode cX7_why 38 = .ok (.invokevirtual 347, 3) := dk_182 1 91 (dk_at dksX7_why_1 14 rfl rfl)
theorem dX7_why_41 : decode cX7_why 41 = .ok (.istore_n 3, 1) := dk_62 (dk_at dksX7_why_1 17 rfl rfl)
theorem dX7_why_42 : decode cX7_why 42 = .ok (.iload_n 2, 1) := dk_28 (dk_at dksX7_why_1 18 rfl rfl)
theorem dX7_why_43 : decode cX7_why 43 = .ok (.ifCond .ne 5, 3) := dk_154 0 5 (dk_at dksX7_why_1 19 rfl rfl)
theorem dX7_why_46 : decode cX7_why 46 = .ok (.iload_n 3, 1) := dk_29 (dk_at dksX7_why_1 22 rfl rfl)
theorem dX7_why_47 : decode cX7_why 47 = .ok (.ireturn, 1) := dk_172 (dk_at dksX7_why_1 23 rfl rfl)
theorem dX7_why_48 : decode cX7_why 48 = .ok (.iload_n 3, 1) := dk_29 (dk_at dksX7_why_2 0 rfl rfl)
theorem dX7_why_49 : decode cX7_why 49 = .ok (.tableswitch 97 2 8 #[43, 43, 97, 54, 79, 88, 88], 43) := by decide +kernel
theorem dX7_why_92 : decode cX7_why 92 = .ok (.bipush 100, 2) := dk_16 100 (dk_at dksX7_why_4 0 rfl rfl)
theorem dX7_why_94 : decode cX7_why 94 = .ok (.aload_n 0, 1) := dk_42 (dk_at dksX7_why_4 2 rfl rfl)
theorem dX7_why_95 : decode cX7_why 95 = .ok (.getfield 7, 3) := dk_180 0 7 (dk_at dksX7_why_4 3 rfl rfl)
theorem dX7_why_98 : decode cX7_why 98 = .ok (.bipush 7, 2) := dk_16 7 (dk_at dksX7_why_4 6 rfl rfl)
theorem dX7_why_100 : decode cX7_why 100 = .ok (.iaload, 1) := dk_46 (dk_at dksX7_why_4 8 rfl rfl)
theorem dX7_why_101 : decode cX7_why 101 = .ok (.iadd, 1) := dk_96 (dk_at dksX7_why_4 9 rfl rfl)
theorem dX7_why_102 : decode cX7_why 102 = .ok (.ireturn, 1) := dk_172 (dk_at dksX7_why_4 10 rfl rfl)
theorem dX7_why_103 : decode cX7_why 103 = .ok (.sipush 200, 3) := dk_17 0 200 (dk_at dksX7_why_4 11 rfl rfl)
theorem dX7_why_106 : decode cX7_why 106 = .ok (.aload_n 0, 1) := dk_42 (dk_at dksX7_why_4 14 rfl rfl)
theorem dX7_why_107 : decode cX7_why 107 = .ok (.aload_n 0, 1) := dk_42 (dk_at dksX7_why_4 15 rfl rfl)
theorem dX7_why_108 : decode cX7_why 108 = .ok (.getfield 7, 3) := dk_180 0 7 (dk_at dksX7_why_4 16 rfl rfl)
theorem dX7_why_111 : decode cX7_why 111 = .ok (.bipush 6, 2) := dk_16 6 (dk_at dksX7_why_4 19 rfl rfl)
theorem dX7_why_113 : decode cX7_why 113 = .ok (.iaload, 1) := dk_46 (dk_at dksX7_why_4 21 rfl rfl)
theorem dX7_why_114 : decode cX7_why 114 = .ok (.iconst 0, 1) := dk_3 (dk_at dksX7_why_4 22 rfl rfl)
theorem dX7_why_115 : decode cX7_why 115 = .ok (.invokevirtual 79, 3) := dk_182 0 79 (dk_at dksX7_why_5 0 rfl rfl)
theorem dX7_why_118 : decode cX7_why 118 = .ok (.iadd, 1) := dk_96 (dk_at dksX7_why_5 3 rfl rfl)
theorem dX7_why_119 : decode cX7_why 119 = .ok (.aload_n 0, 1) := dk_42 (dk_at dksX7_why_5 4 rfl rfl)
theorem dX7_why_120 : decode cX7_why 120 = .ok (.getfield 7, 3) := dk_180 0 7 (dk_at dksX7_why_5 5 rfl rfl)
theorem dX7_why_123 : decode cX7_why 123 = .ok (.bipush 9, 2) := dk_16 9 (dk_at dksX7_why_5 8 rfl rfl)
theorem dX7_why_125 : decode cX7_why 125 = .ok (.iaload, 1) := dk_46 (dk_at dksX7_why_5 10 rfl rfl)
theorem dX7_why_126 : decode cX7_why 126 = .ok (.isub, 1) := dk_100 (dk_at dksX7_why_5 11 rfl rfl)
theorem dX7_why_127 : decode cX7_why 127 = .ok (.ireturn, 1) := dk_172 (dk_at dksX7_why_5 12 rfl rfl)
theorem dX7_why_128 : decode cX7_why 128 = .ok (.sipush 300, 3) := dk_17 1 44 (dk_at dksX7_why_5 13 rfl rfl)
theorem dX7_why_131 : decode cX7_why 131 = .ok (.aload_n 0, 1) := dk_42 (dk_at dksX7_why_5 16 rfl rfl)
theorem dX7_why_132 : decode cX7_why 132 = .ok (.invokevirtual 134, 3) := dk_182 0 134 (dk_at dksX7_why_5 17 rfl rfl)
theorem dX7_why_135 : decode cX7_why 135 = .ok (.iadd, 1) := dk_96 (dk_at dksX7_why_5 20 rfl rfl)
theorem dX7_why_136 : decode cX7_why 136 = .ok (.ireturn, 1) := dk_172 (dk_at dksX7_why_5 21 rfl rfl)
theorem dX7_why_137 : decode cX7_why 137 = .ok (.sipush 400, 3) := dk_17 1 144 (dk_at dksX7_why_6 0 rfl rfl)
theorem dX7_why_140 : decode cX7_why 140 = .ok (.aload_n 0, 1) := dk_42 (dk_at dksX7_why_6 3 rfl rfl)
theorem dX7_why_141 : decode cX7_why 141 = .ok (.invokevirtual 131, 3) := dk_182 0 131 (dk_at dksX7_why_6 4 rfl rfl)
theorem dX7_why_144 : decode cX7_why 144 = .ok (.iadd, 1) := dk_96 (dk_at dksX7_why_6 7 rfl rfl)
theorem dX7_why_145 : decode cX7_why 145 = .ok (.ireturn, 1) := dk_172 (dk_at dksX7_why_6 8 rfl rfl)
theorem dX7_why_146 : decode cX7_why 146 = .ok (.iconst 0, 1) := dk_3 (dk_at dksX7_why_6 9 rfl rfl)
theorem dX7_why_147 : decode cX7_why 147 = .ok (.ireturn, 1) := dk_172 (dk_at dksX7_why_6 10 rfl rfl)
abbrev cX7_reasonOf : ByteArray := prog_19_method_78_code
def yX7_reasonOf : MethodName := ⟨RX7, "reasonOf", "(I)I"⟩
def dkwX7_reasonOf_6 : List UInt8 := [167, 0, 5, 16, 7, 172]
abbrev dktX7_reasonOf_6 : List UInt8 := dkwX7_reasonOf_6 ++ []
def dkwX7_reasonOf_5 : List UInt8 := [182, 0, 79, 162, 0, 6, 16, 6, 172, 42, 42, 182, 0, 131, 27, 182, 0, 87, 153, 0, 8, 16, 8]
abbrev dktX7_reasonOf_5 : List UInt8 := dkwX7_reasonOf_5 ++ dktX7_reasonOf_6
def dkwX7_reasonOf_4 : List UInt8 := [182, 0, 134, 2, 159, 0, 28, 42, 180, 0, 7, 16, 9, 46, 42, 42, 180, 0, 7, 16, 6, 46, 4]
abbrev dktX7_reasonOf_4 : List UInt8 := dkwX7_reasonOf_4 ++ dktX7_reasonOf_5
def dkwX7_reasonOf_3 : List UInt8 := [180, 0, 7, 16, 9, 46, 42, 42, 180, 0, 7, 16, 6, 46, 3, 182, 0, 79, 162, 0, 5, 8, 172, 42]
abbrev dktX7_reasonOf_3 : List UInt8 := dkwX7_reasonOf_3 ++ dktX7_reasonOf_4
def dkwX7_reasonOf_2 : List UInt8 := [167, 0, 4, 6, 172, 42, 27, 182, 0, 94, 154, 0, 13, 42, 27, 182, 1, 88, 154, 0, 5, 7, 172, 42]
abbrev dktX7_reasonOf_2 : List UInt8 := dkwX7_reasonOf_2 ++ dktX7_reasonOf_3
def dkwX7_reasonOf_1 : List UInt8 := [16, 7, 46, 2, 159, 0, 24, 42, 42, 180, 0, 7, 16, 7, 46, 27, 182, 0, 87, 153, 0, 7, 5]
abbrev dktX7_reasonOf_1 : List UInt8 := dkwX7_reasonOf_1 ++ dktX7_reasonOf_2
def dkwX7_reasonOf_0 : List UInt8 := [42, 27, 182, 0, 140, 154, 0, 5, 3, 172, 42, 27, 182, 1, 76, 154, 0, 5, 4, 172, 42, 180, 0, 7]
abbrev dktX7_reasonOf_0 : List UInt8 := dkwX7_reasonOf_0 ++ dktX7_reasonOf_1
theorem dksX7_reasonOf_0 : cX7_reasonOf.data.toList.drop 0 = dktX7_reasonOf_0 := by decide +kernel
theorem dksX7_reasonOf_1 : cX7_reasonOf.data.toList.drop 24 = dktX7_reasonOf_1 := dk_seg dksX7_reasonOf_0 24 rfl rfl
theorem dksX7_reasonOf_2 : cX7_reasonOf.data.toList.drop 47 = dktX7_reasonOf_2 := dk_seg dksX7_reasonOf_1 23 rfl rfl
theorem dksX7_reasonOf_3 : cX7_reasonOf.data.toList.drop 71 = dktX7_reasonOf_3 := dk_seg dksX7_reasonOf_2 24 rfl rfl
theorem dksX7_reasonOf_4 : cX7_reasonOf.data.toList.drop 95 = dktX7_reasonOf_4 := dk_seg dksX7_reasonOf_3 24 rfl rfl
theorem dksX7_reasonOf_5 : cX7_reasonOf.data.toList.drop 118 = dktX7_reasonOf_5 := dk_seg dksX7_reasonOf_4 23 rfl rfl
theorem dksX7_reasonOf_6 : cX7_reasonOf.data.toList.drop 141 = dktX7_reasonOf_6 := dk_seg dksX7_reasonOf_5 23 rfl rfl
theorem dX7_reasonOf_0 : decode cX7_reasonOf 0 = .ok (.aload_n 0, 1) := dk_42 (dk_at dksX7_reasonOf_0 0 rfl rfl)
theorem dX7_reasonOf_1 : decode cX7_reasonOf 1 = .ok (.iload_n 1, 1) := dk_27 (dk_at dksX7_reasonOf_0 1 rfl rfl)
theorem dX7_reasonOf_2 : decode cX7_reasonOf 2 = .ok (.invokevirtual 140, 3) := dk_182 0 140 (dk_at dksX7_reasonOf_0 2 rfl rfl)
theorem dX7_reasonOf_5 : decode cX7_reasonOf 5 = .ok (.ifCond .ne 5, 3) := dk_154 0 5 (dk_at dksX7_reasonOf_0 5 rfl rfl)
theorem dX7_reasonOf_8 : decode cX7_reasonOf 8 = .ok (.iconst 0, 1) := dk_3 (dk_at dksX7_reasonOf_0 8 rfl rfl)
theorem dX7_reasonOf_9 : decode cX7_reasonOf 9 = .ok (.ireturn, 1) := dk_172 (dk_at dksX7_reasonOf_0 9 rfl rfl)
theorem dX7_reasonOf_10 : decode cX7_reasonOf 10 = .ok (.aload_n 0, 1) := dk_42 (dk_at dksX7_reasonOf_0 10 rfl rfl)
theorem dX7_reasonOf_11 : decode cX7_reasonOf 11 = .ok (.iload_n 1, 1) := dk_27 (dk_at dksX7_reasonOf_0 11 rfl rfl)
theorem dX7_reasonOf_12 : decode cX7_reasonOf 12 = .ok (.invokevirtual 332, 3) := dk_182 1 76 (dk_at dksX7_reasonOf_0 12 rfl rfl)
theorem dX7_reasonOf_15 : decode cX7_reasonOf 15 = .ok (.ifCond .ne 5, 3) := dk_154 0 5 (dk_at dksX7_reasonOf_0 15 rfl rfl)
theorem dX7_reasonOf_18 : decode cX7_reasonOf 18 = .ok (.iconst 1, 1) := dk_4 (dk_at dksX7_reasonOf_0 18 rfl rfl)
theorem dX7_reasonOf_19 : decode cX7_reasonOf 19 = .ok (.ireturn, 1) := dk_172 (dk_at dksX7_reasonOf_0 19 rfl rfl)
theorem dX7_reasonOf_20 : decode cX7_reasonOf 20 = .ok (.aload_n 0, 1) := dk_42 (dk_at dksX7_reasonOf_0 20 rfl rfl)
theorem dX7_reasonOf_21 : decode cX7_reasonOf 21 = .ok (.getfield 7, 3) := dk_180 0 7 (dk_at dksX7_reasonOf_0 21 rfl rfl)
theorem dX7_reasonOf_24 : decode cX7_reasonOf 24 = .ok (.bipush 7, 2) := dk_16 7 (dk_at dksX7_reasonOf_1 0 rfl rfl)
theorem dX7_reasonOf_26 : decode cX7_reasonOf 26 = .ok (.iaload, 1) := dk_46 (dk_at dksX7_reasonOf_1 2 rfl rfl)
theorem dX7_reasonOf_27 : decode cX7_reasonOf 27 = .ok (.iconst (-1), 1) := dk_2 (dk_at dksX7_reasonOf_1 3 rfl rfl)
theorem dX7_reasonOf_28 : decode cX7_reasonOf 28 = .ok (.if_icmp .eq 24, 3) := dk_159 0 24 (dk_at dksX7_reasonOf_1 4 rfl rfl)
theorem dX7_reasonOf_31 : decode cX7_reasonOf 31 = .ok (.aload_n 0, 1) := dk_42 (dk_at dksX7_reasonOf_1 7 rfl rfl)
theorem dX7_reasonOf_32 : decode cX7_reasonOf 32 = .ok (.aload_n 0, 1) := dk_42 (dk_at dksX7_reasonOf_1 8 rfl rfl)
theorem dX7_reasonOf_33 : decode cX7_reasonOf 33 = .ok (.getfield 7, 3) := dk_180 0 7 (dk_at dksX7_reasonOf_1 9 rfl rfl)
theorem dX7_reasonOf_36 : decode cX7_reasonOf 36 = .ok (.bipush 7, 2) := dk_16 7 (dk_at dksX7_reasonOf_1 12 rfl rfl)
theorem dX7_reasonOf_38 : decode cX7_reasonOf 38 = .ok (.iaload, 1) := dk_46 (dk_at dksX7_reasonOf_1 14 rfl rfl)
theorem dX7_reasonOf_39 : decode cX7_reasonOf 39 = .ok (.iload_n 1, 1) := dk_27 (dk_at dksX7_reasonOf_1 15 rfl rfl)
theorem dX7_reasonOf_40 : decode cX7_reasonOf 40 = .ok (.invokevirtual 87, 3) := dk_182 0 87 (dk_at dksX7_reasonOf_1 16 rfl rfl)
theorem dX7_reasonOf_43 : decode cX7_reasonOf 43 = .ok (.ifCond .eq 7, 3) := dk_153 0 7 (dk_at dksX7_reasonOf_1 19 rfl rfl)
theorem dX7_reasonOf_46 : decode cX7_reasonOf 46 = .ok (.iconst 2, 1) := dk_5 (dk_at dksX7_reasonOf_1 22 rfl rfl)
theorem dX7_reasonOf_47 : decode cX7_reasonOf 47 = .ok (.goto 4, 3) := dk_167 0 4 (dk_at dksX7_reasonOf_2 0 rfl rfl)
theorem dX7_reasonOf_50 : decode cX7_reasonOf 50 = .ok (.iconst 3, 1) := dk_6 (dk_at dksX7_reasonOf_2 3 rfl rfl)
theorem dX7_reasonOf_51 : decode cX7_reasonOf 51 = .ok (.ireturn, 1) := dk_172 (dk_at dksX7_reasonOf_2 4 rfl rfl)
theorem dX7_reasonOf_52 : decode cX7_reasonOf 52 = .ok (.aload_n 0, 1) := dk_42 (dk_at dksX7_reasonOf_2 5 rfl rfl)
theorem dX7_reasonOf_53 : decode cX7_reasonOf 53 = .ok (.iload_n 1, 1) := dk_27 (dk_at dksX7_reasonOf_2 6 rfl rfl)
theorem dX7_reasonOf_54 : decode cX7_reasonOf 54 = .ok (.invokevirtual 94, 3) := dk_182 0 94 (dk_at dksX7_reasonOf_2 7 rfl rfl)
theorem dX7_reasonOf_57 : decode cX7_reasonOf 57 = .ok (.ifCond .ne 13, 3) := dk_154 0 13 (dk_at dksX7_reasonOf_2 10 rfl rfl)
theorem dX7_reasonOf_60 : decode cX7_reasonOf 60 = .ok (.aload_n 0, 1) := dk_42 (dk_at dksX7_reasonOf_2 13 rfl rfl)
theorem dX7_reasonOf_61 : decode cX7_reasonOf 61 = .ok (.iload_n 1, 1) := dk_27 (dk_at dksX7_reasonOf_2 14 rfl rfl)
theorem dX7_reasonOf_62 : decode cX7_reasonOf 62 = .ok (.invokevirtual 344, 3) := dk_182 1 88 (dk_at dksX7_reasonOf_2 15 rfl rfl)
theorem dX7_reasonOf_65 : decode cX7_reasonOf 65 = .ok (.ifCond .ne 5, 3) := dk_154 0 5 (dk_at dksX7_reasonOf_2 18 rfl rfl)
theorem dX7_reasonOf_68 : decode cX7_reasonOf 68 = .ok (.iconst 4, 1) := dk_7 (dk_at dksX7_reasonOf_2 21 rfl rfl)
theorem dX7_reasonOf_69 : decode cX7_reasonOf 69 = .ok (.ireturn, 1) := dk_172 (dk_at dksX7_reasonOf_2 22 rfl rfl)
theorem dX7_reasonOf_70 : decode cX7_reasonOf 70 = .ok (.aload_n 0, 1) := dk_42 (dk_at dksX7_reasonOf_2 23 rfl rfl)
theorem dX7_reasonOf_71 : decode cX7_reasonOf 71 = .ok (.getfield 7, 3) := dk_180 0 7 (dk_at dksX7_reasonOf_3 0 rfl rfl)
theorem dX7_reasonOf_74 : decode cX7_reasonOf 74 = .ok (.bipush 9, 2) := dk_16 9 (dk_at dksX7_reasonOf_3 3 rfl rfl)
theorem dX7_reasonOf_76 : decode cX7_reasonOf 76 = .ok (.iaload, 1) := dk_46 (dk_at dksX7_reasonOf_3 5 rfl rfl)
theorem dX7_reasonOf_77 : decode cX7_reasonOf 77 = .ok (.aload_n 0, 1) := dk_42 (dk_at dksX7_reasonOf_3 6 rfl rfl)
theorem dX7_reasonOf_78 : decode cX7_reasonOf 78 = .ok (.aload_n 0, 1) := dk_42 (dk_at dksX7_reasonOf_3 7 rfl rfl)
theorem dX7_reasonOf_79 : decode cX7_reasonOf 79 = .ok (.getfield 7, 3) := dk_180 0 7 (dk_at dksX7_reasonOf_3 8 rfl rfl)
theorem dX7_reasonOf_82 : decode cX7_reasonOf 82 = .ok (.bipush 6, 2) := dk_16 6 (dk_at dksX7_reasonOf_3 11 rfl rfl)
theorem dX7_reasonOf_84 : decode cX7_reasonOf 84 = .ok (.iaload, 1) := dk_46 (dk_at dksX7_reasonOf_3 13 rfl rfl)
theorem dX7_reasonOf_85 : decode cX7_reasonOf 85 = .ok (.iconst 0, 1) := dk_3 (dk_at dksX7_reasonOf_3 14 rfl rfl)
theorem dX7_reasonOf_86 : decode cX7_reasonOf 86 = .ok (.invokevirtual 79, 3) := dk_182 0 79 (dk_at dksX7_reasonOf_3 15 rfl rfl)
theorem dX7_reasonOf_89 : decode cX7_reasonOf 89 = .ok (.if_icmp .ge 5, 3) := dk_162 0 5 (dk_at dksX7_reasonOf_3 18 rfl rfl)
theorem dX7_reasonOf_92 : decode cX7_reasonOf 92 = .ok (.iconst 5, 1) := dk_8 (dk_at dksX7_reasonOf_3 21 rfl rfl)
theorem dX7_reasonOf_93 : decode cX7_reasonOf 93 = .ok (.ireturn, 1) := dk_172 (dk_at dksX7_reasonOf_3 22 rfl rfl)
theorem dX7_reasonOf_94 : decode cX7_reasonOf 94 = .ok (.aload_n 0, 1) := dk_42 (dk_at dksX7_reasonOf_3 23 rfl rfl)
theorem dX7_reasonOf_95 : decode cX7_reasonOf 95 = .ok (.invokevirtual 134, 3) := dk_182 0 134 (dk_at dksX7_reasonOf_4 0 rfl rfl)
theorem dX7_reasonOf_98 : decode cX7_reasonOf 98 = .ok (.iconst (-1), 1) := dk_2 (dk_at dksX7_reasonOf_4 3 rfl rfl)
theorem dX7_reasonOf_99 : decode cX7_reasonOf 99 = .ok (.if_icmp .eq 28, 3) := dk_159 0 28 (dk_at dksX7_reasonOf_4 4 rfl rfl)
theorem dX7_reasonOf_102 : decode cX7_reasonOf 102 = .ok (.aload_n 0, 1) := dk_42 (dk_at dksX7_reasonOf_4 7 rfl rfl)
theorem dX7_reasonOf_103 : decode cX7_reasonOf 103 = .ok (.getfield 7, 3) := dk_180 0 7 (dk_at dksX7_reasonOf_4 8 rfl rfl)
theorem dX7_reasonOf_106 : decode cX7_reasonOf 106 = .ok (.bipush 9, 2) := dk_16 9 (dk_at dksX7_reasonOf_4 11 rfl rfl)
theorem dX7_reasonOf_108 : decode cX7_reasonOf 108 = .ok (.iaload, 1) := dk_46 (dk_at dksX7_reasonOf_4 13 rfl rfl)
theorem dX7_reasonOf_109 : decode cX7_reasonOf 109 = .ok (.aload_n 0, 1) := dk_42 (dk_at dksX7_reasonOf_4 14 rfl rfl)
theorem dX7_reasonOf_110 : decode cX7_reasonOf 110 = .ok (.aload_n 0, 1) := dk_42 (dk_at dksX7_reasonOf_4 15 rfl rfl)
theorem dX7_reasonOf_111 : decode cX7_reasonOf 111 = .ok (.getfield 7, 3) := dk_180 0 7 (dk_at dksX7_reasonOf_4 16 rfl rfl)
theorem dX7_reasonOf_114 : decode cX7_reasonOf 114 = .ok (.bipush 6, 2) := dk_16 6 (dk_at dksX7_reasonOf_4 19 rfl rfl)
theorem dX7_reasonOf_116 : decode cX7_reasonOf 116 = .ok (.iaload, 1) := dk_46 (dk_at dksX7_reasonOf_4 21 rfl rfl)
theorem dX7_reasonOf_117 : decode cX7_reasonOf 117 = .ok (.iconst 1, 1) := dk_4 (dk_at dksX7_reasonOf_4 22 rfl rfl)
theorem dX7_reasonOf_118 : decode cX7_reasonOf 118 = .ok (.invokevirtual 79, 3) := dk_182 0 79 (dk_at dksX7_reasonOf_5 0 rfl rfl)
theorem dX7_reasonOf_121 : decode cX7_reasonOf 121 = .ok (.if_icmp .ge 6, 3) := dk_162 0 6 (dk_at dksX7_reasonOf_5 3 rfl rfl)
theorem dX7_reasonOf_124 : decode cX7_reasonOf 124 = .ok (.bipush 6, 2) := dk_16 6 (dk_at dksX7_reasonOf_5 6 rfl rfl)
theorem dX7_reasonOf_126 : decode cX7_reasonOf 126 = .ok (.ireturn, 1) := dk_172 (dk_at dksX7_reasonOf_5 8 rfl rfl)
theorem dX7_reasonOf_127 : decode cX7_reasonOf 127 = .ok (.aload_n 0, 1) := dk_42 (dk_at dksX7_reasonOf_5 9 rfl rfl)
theorem dX7_reasonOf_128 : decode cX7_reasonOf 128 = .ok (.aload_n 0, 1) := dk_42 (dk_at dksX7_reasonOf_5 10 rfl rfl)
theorem dX7_reasonOf_129 : decode cX7_reasonOf 129 = .ok (.invokevirtual 131, 3) := dk_182 0 131 (dk_at dksX7_reasonOf_5 11 rfl rfl)
theorem dX7_reasonOf_132 : decode cX7_reasonOf 132 = .ok (.iload_n 1, 1) := dk_27 (dk_at dksX7_reasonOf_5 14 rfl rfl)
theorem dX7_reasonOf_133 : decode cX7_reasonOf 133 = .ok (.invokevirtual 87, 3) := dk_182 0 87 (dk_at dksX7_reasonOf_5 15 rfl rfl)
theorem dX7_reasonOf_136 : decode cX7_reasonOf 136 = .ok (.ifCond .eq 8, 3) := dk_153 0 8 (dk_at dksX7_reasonOf_5 18 rfl rfl)
theorem dX7_reasonOf_139 : decode cX7_reasonOf 139 = .ok (.bipush 8, 2) := dk_16 8 (dk_at dksX7_reasonOf_5 21 rfl rfl)
theorem dX7_reasonOf_141 : decode cX7_reasonOf 141 = .ok (.goto 5, 3) := dk_167 0 5 (dk_at dksX7_reasonOf_6 0 rfl rfl)
theorem dX7_reasonOf_144 : decode cX7_reasonOf 144 = .ok (.bipush 7, 2) := dk_16 7 (dk_at dksX7_reasonOf_6 3 rfl rfl)
theorem dX7_reasonOf_146 : decode cX7_reasonOf 146 = .ok (.ireturn, 1) := dk_172 (dk_at dksX7_reasonOf_6 5 rfl rfl)
abbrev cX7_isCalledFor : ByteArray := prog_19_method_77_code
def yX7_isCalledFor : MethodName := ⟨RX7, "isCalledFor", "(I)Z"⟩
def dkwX7_isCalledFor_1 : List UInt8 := [182, 0, 79, 4, 160, 0, 5, 4, 172, 132, 2, 1, 167, 255, 222, 3, 172]
abbrev dktX7_isCalledFor_1 : List UInt8 := dkwX7_isCalledFor_1 ++ []
def dkwX7_isCalledFor_0 : List UInt8 := [3, 61, 28, 42, 180, 0, 7, 7, 46, 162, 0, 30, 42, 28, 27, 182, 0, 87, 153, 0, 15, 42, 28, 5]
abbrev dktX7_isCalledFor_0 : List UInt8 := dkwX7_isCalledFor_0 ++ dktX7_isCalledFor_1
theorem dksX7_isCalledFor_0 : cX7_isCalledFor.data.toList.drop 0 = dktX7_isCalledFor_0 := by decide +kernel
theorem dksX7_isCalledFor_1 : cX7_isCalledFor.data.toList.drop 24 = dktX7_isCalledFor_1 := dk_seg dksX7_isCalledFor_0 24 rfl rfl
theorem dX7_isCalledFor_0 : decode cX7_isCalledFor 0 = .ok (.iconst 0, 1) := dk_3 (dk_at dksX7_isCalledFor_0 0 rfl rfl)
theorem dX7_isCalledFor_1 : decode cX7_isCalledFor 1 = .ok (.istore_n 2, 1) := dk_61 (dk_at dksX7_isCalledFor_0 1 rfl rfl)
theorem dX7_isCalledFor_2 : decode cX7_isCalledFor 2 = .ok (.iload_n 2, 1) := dk_28 (dk_at dksX7_isCalledFor_0 2 rfl rfl)
theorem dX7_isCalledFor_3 : decode cX7_isCalledFor 3 = .ok (.aload_n 0, 1) := dk_42 (dk_at dksX7_isCalledFor_0 3 rfl rfl)
theorem dX7_isCalledFor_4 : decode cX7_isCalledFor 4 = .ok (.getfield 7, 3) := dk_180 0 7 (dk_at dksX7_isCalledFor_0 4 rfl rfl)
theorem dX7_isCalledFor_7 : decode cX7_isCalledFor 7 = .ok (.iconst 4, 1) := dk_7 (dk_at dksX7_isCalledFor_0 7 rfl rfl)
theorem dX7_isCalledFor_8 : decode cX7_isCalledFor 8 = .ok (.iaload, 1) := dk_46 (dk_at dksX7_isCalledFor_0 8 rfl rfl)
theorem dX7_isCalledFor_9 : decode cX7_isCalledFor 9 = .ok (.if_icmp .ge 30, 3) := dk_162 0 30 (dk_at dksX7_isCalledFor_0 9 rfl rfl)
theorem dX7_isCalledFor_12 : decode cX7_isCalledFor 12 = .ok (.aload_n 0, 1) := dk_42 (dk_at dksX7_isCalledFor_0 12 rfl rfl)
theorem dX7_isCalledFor_13 : decode cX7_isCalledFor 13 = .ok (.iload_n 2, 1) := dk_28 (dk_at dksX7_isCalledFor_0 13 rfl rfl)
theorem dX7_isCalledFor_14 : decode cX7_isCalledFor 14 = .ok (.iload_n 1, 1) := dk_27 (dk_at dksX7_isCalledFor_0 14 rfl rfl)
theorem dX7_isCalledFor_15 : decode cX7_isCalledFor 15 = .ok (.invokevirtual 87, 3) := dk_182 0 87 (dk_at dksX7_isCalledFor_0 15 rfl rfl)
theorem dX7_isCalledFor_18 : decode cX7_isCalledFor 18 = .ok (.ifCond .eq 15, 3) := dk_153 0 15 (dk_at dksX7_isCalledFor_0 18 rfl rfl)
theorem dX7_isCalledFor_21 : decode cX7_isCalledFor 21 = .ok (.aload_n 0, 1) := dk_42 (dk_at dksX7_isCalledFor_0 21 rfl rfl)
theorem dX7_isCalledFor_22 : decode cX7_isCalledFor 22 = .ok (.iload_n 2, 1) := dk_28 (dk_at dksX7_isCalledFor_0 22 rfl rfl)
theorem dX7_isCalledFor_23 : decode cX7_isCalledFor 23 = .ok (.iconst 2, 1) := dk_5 (dk_at dksX7_isCalledFor_0 23 rfl rfl)
theorem dX7_isCalledFor_24 : decode cX7_isCalledFor 24 = .ok (.invokevirtual 79, 3) := dk_182 0 79 (dk_at dksX7_isCalledFor_1 0 rfl rfl)
theorem dX7_isCalledFor_27 : decode cX7_isCalledFor 27 = .ok (.iconst 1, 1) := dk_4 (dk_at dksX7_isCalledFor_1 3 rfl rfl)
theorem dX7_isCalledFor_28 : decode cX7_isCalledFor 28 = .ok (.if_icmp .ne 5, 3) := dk_160 0 5 (dk_at dksX7_isCalledFor_1 4 rfl rfl)
theorem dX7_isCalledFor_31 : decode cX7_isCalledFor 31 = .ok (.iconst 1, 1) := dk_4 (dk_at dksX7_isCalledFor_1 7 rfl rfl)
theorem dX7_isCalledFor_32 : decode cX7_isCalledFor 32 = .ok (.ireturn, 1) := dk_172 (dk_at dksX7_isCalledFor_1 8 rfl rfl)
theorem dX7_isCalledFor_33 : decode cX7_isCalledFor 33 = .ok (.iinc 2 1, 3) := dk_132 2 1 (dk_at dksX7_isCalledFor_1 9 rfl rfl)
theorem dX7_isCalledFor_36 : decode cX7_isCalledFor 36 = .ok (.goto (-34), 3) := dk_167 255 222 (dk_at dksX7_isCalledFor_1 12 rfl rfl)
theorem dX7_isCalledFor_39 : decode cX7_isCalledFor 39 = .ok (.iconst 0, 1) := dk_3 (dk_at dksX7_isCalledFor_1 15 rfl rfl)
theorem dX7_isCalledFor_40 : decode cX7_isCalledFor 40 = .ok (.ireturn, 1) := dk_172 (dk_at dksX7_isCalledFor_1 16 rfl rfl)
abbrev cX7_account : ByteArray := prog_19_method_80_code
def yX7_account : MethodName := ⟨RX7, "account", "(I)I"⟩
def dkwX7_account_1 : List UInt8 := [160, 0, 10, 42, 180, 0, 241, 167, 0, 12, 42, 180, 0, 7, 16, 10, 27, 96, 46, 172]
abbrev dktX7_account_1 : List UInt8 := dkwX7_account_1 ++ []
def dkwX7_account_0 : List UInt8 := [42, 3, 181, 0, 76, 42, 27, 3, 16, 7, 184, 0, 83, 182, 1, 66, 154, 0, 5, 3, 172, 27, 16, 7]
abbrev dktX7_account_0 : List UInt8 := dkwX7_account_0 ++ dktX7_account_1
theorem dksX7_account_0 : cX7_account.data.toList.drop 0 = dktX7_account_0 := by decide +kernel
theorem dksX7_account_1 : cX7_account.data.toList.drop 24 = dktX7_account_1 := dk_seg dksX7_account_0 24 rfl rfl
theorem dX7_account_0 : decode cX7_account 0 = .ok (.aload_n 0, 1) := dk_42 (dk_at dksX7_account_0 0 rfl rfl)
theorem dX7_account_1 : decode cX7_account 1 = .ok (.iconst 0, 1) := dk_3 (dk_at dksX7_account_0 1 rfl rfl)
theorem dX7_account_2 : decode cX7_account 2 = .ok (.putfield 76, 3) := dk_181 0 76 (dk_at dksX7_account_0 2 rfl rfl)
theorem dX7_account_5 : decode cX7_account 5 = .ok (.aload_n 0, 1) := dk_42 (dk_at dksX7_account_0 5 rfl rfl)
theorem dX7_account_6 : decode cX7_account 6 = .ok (.iload_n 1, 1) := dk_27 (dk_at dksX7_account_0 6 rfl rfl)
theorem dX7_account_7 : decode cX7_account 7 = .ok (.iconst 0, 1) := dk_3 (dk_at dksX7_account_0 7 rfl rfl)
theorem dX7_account_8 : decode cX7_account 8 = .ok (.bipush 7, 2) := dk_16 7 (dk_at dksX7_account_0 8 rfl rfl)
theorem dX7_account_10 : decode cX7_account 10 = .ok (.invokestatic 83, 3) := dk_184 0 83 (dk_at dksX7_account_0 10 rfl rfl)
theorem dX7_account_13 : decode cX7_account 13 = .ok (.invokevirtual 322, 3) := dk_182 1 66 (dk_at dksX7_account_0 13 rfl rfl)
theorem dX7_account_16 : decode cX7_account 16 = .ok (.ifCond .ne 5, 3) := dk_154 0 5 (dk_at dksX7_account_0 16 rfl rfl)
theorem dX7_account_19 : decode cX7_account 19 = .ok (.iconst 0, 1) := dk_3 (dk_at dksX7_account_0 19 rfl rfl)
theorem dX7_account_20 : decode cX7_account 20 = .ok (.ireturn, 1) := dk_172 (dk_at dksX7_account_0 20 rfl rfl)
theorem dX7_account_21 : decode cX7_account 21 = .ok (.iload_n 1, 1) := dk_27 (dk_at dksX7_account_0 21 rfl rfl)
theorem dX7_account_22 : decode cX7_account 22 = .ok (.bipush 7, 2) := dk_16 7 (dk_at dksX7_account_0 22 rfl rfl)
theorem dX7_account_24 : decode cX7_account 24 = .ok (.if_icmp .ne 10, 3) := dk_160 0 10 (dk_at dksX7_account_1 0 rfl rfl)
theorem dX7_account_27 : decode cX7_account 27 = .ok (.aload_n 0, 1) := dk_42 (dk_at dksX7_account_1 3 rfl rfl)
theorem dX7_account_28 : decode cX7_account 28 = .ok (.getfield 241, 3) := dk_180 0 241 (dk_at dksX7_account_1 4 rfl rfl)
theorem dX7_account_31 : decode cX7_account 31 = .ok (.goto 12, 3) := dk_167 0 12 (dk_at dksX7_account_1 7 rfl rfl)
theorem dX7_account_34 : decode cX7_account 34 = .ok (.aload_n 0, 1) := dk_42 (dk_at dksX7_account_1 10 rfl rfl)
theorem dX7_account_35 : decode cX7_account 35 = .ok (.getfield 7, 3) := dk_180 0 7 (dk_at dksX7_account_1 11 rfl rfl)
theorem dX7_account_38 : decode cX7_account 38 = .ok (.bipush 10, 2) := dk_16 10 (dk_at dksX7_account_1 14 rfl rfl)
theorem dX7_account_40 : decode cX7_account 40 = .ok (.iload_n 1, 1) := dk_27 (dk_at dksX7_account_1 16 rfl rfl)
theorem dX7_account_41 : decode cX7_account 41 = .ok (.iadd, 1) := dk_96 (dk_at dksX7_account_1 17 rfl rfl)
theorem dX7_account_42 : decode cX7_account 42 = .ok (.iaload, 1) := dk_46 (dk_at dksX7_account_1 18 rfl rfl)
theorem dX7_account_43 : decode cX7_account 43 = .ok (.ireturn, 1) := dk_172 (dk_at dksX7_account_1 19 rfl rfl)
abbrev cX7_gap : ByteArray := prog_19_method_82_code
def yX7_gap : MethodName := ⟨RX7, "gap", "()I"⟩
def dkwX7_gap_5 : List UInt8 := [132, 2, 1, 167, 255, 227, 27, 172]
abbrev dktX7_gap_5 : List UInt8 := dkwX7_gap_5 ++ []
def dkwX7_gap_4 : List UInt8 := [180, 0, 7, 7, 46, 162, 0, 25, 27, 42, 28, 182, 1, 97, 153, 0, 7, 4, 167, 0, 4, 3, 96, 60]
abbrev dktX7_gap_4 : List UInt8 := dkwX7_gap_4 ++ dktX7_gap_5
def dkwX7_gap_3 : List UInt8 := [159, 0, 6, 132, 1, 1, 132, 3, 1, 167, 255, 218, 132, 2, 1, 167, 255, 200, 3, 61, 28, 42]
abbrev dktX7_gap_3 : List UInt8 := dkwX7_gap_3 ++ dktX7_gap_4
def dkwX7_gap_2 : List UInt8 := [42, 28, 29, 182, 0, 208, 153, 0, 24, 42, 28, 182, 0, 140, 5, 159, 0, 15, 42, 29, 182, 0, 140, 5]
abbrev dktX7_gap_2 : List UInt8 := dkwX7_gap_2 ++ dktX7_gap_3
def dkwX7_gap_1 : List UInt8 := [100, 184, 1, 94, 60, 3, 61, 28, 42, 180, 0, 7, 6, 46, 162, 0, 52, 3, 62, 29, 28, 162, 0, 39]
abbrev dktX7_gap_1 : List UInt8 := dkwX7_gap_1 ++ dktX7_gap_2
def dkwX7_gap_0 : List UInt8 := [42, 3, 181, 0, 76, 42, 180, 0, 7, 16, 10, 46, 42, 180, 0, 7, 16, 11, 46, 100, 42, 182, 1, 70]
abbrev dktX7_gap_0 : List UInt8 := dkwX7_gap_0 ++ dktX7_gap_1
theorem dksX7_gap_0 : cX7_gap.data.toList.drop 0 = dktX7_gap_0 := by decide +kernel
theorem dksX7_gap_1 : cX7_gap.data.toList.drop 24 = dktX7_gap_1 := dk_seg dksX7_gap_0 24 rfl rfl
theorem dksX7_gap_2 : cX7_gap.data.toList.drop 48 = dktX7_gap_2 := dk_seg dksX7_gap_1 24 rfl rfl
theorem dksX7_gap_3 : cX7_gap.data.toList.drop 72 = dktX7_gap_3 := dk_seg dksX7_gap_2 24 rfl rfl
theorem dksX7_gap_4 : cX7_gap.data.toList.drop 94 = dktX7_gap_4 := dk_seg dksX7_gap_3 22 rfl rfl
theorem dksX7_gap_5 : cX7_gap.data.toList.drop 118 = dktX7_gap_5 := dk_seg dksX7_gap_4 24 rfl rfl
theorem dX7_gap_0 : decode cX7_gap 0 = .ok (.aload_n 0, 1) := dk_42 (dk_at dksX7_gap_0 0 rfl rfl)
theorem dX7_gap_1 : decode cX7_gap 1 = .ok (.iconst 0, 1) := dk_3 (dk_at dksX7_gap_0 1 rfl rfl)
theorem dX7_gap_2 : decode cX7_gap 2 = .ok (.putfield 76, 3) := dk_181 0 76 (dk_at dksX7_gap_0 2 rfl rfl)
theorem dX7_gap_5 : decode cX7_gap 5 = .ok (.aload_n 0, 1) := dk_42 (dk_at dksX7_gap_0 5 rfl rfl)
theorem dX7_gap_6 : decode cX7_gap 6 = .ok (.getfield 7, 3) := dk_180 0 7 (dk_at dksX7_gap_0 6 rfl rfl)
theorem dX7_gap_9 : decode cX7_gap 9 = .ok (.bipush 10, 2) := dk_16 10 (dk_at dksX7_gap_0 9 rfl rfl)
theorem dX7_gap_11 : decode cX7_gap 11 = .ok (.iaload, 1) := dk_46 (dk_at dksX7_gap_0 11 rfl rfl)
theorem dX7_gap_12 : decode cX7_gap 12 = .ok (.aload_n 0, 1) := dk_42 (dk_at dksX7_gap_0 12 rfl rfl)
theorem dX7_gap_13 : decode cX7_gap 13 = .ok (.getfield 7, 3) := dk_180 0 7 (dk_at dksX7_gap_0 13 rfl rfl)
theorem dX7_gap_16 : decode cX7_gap 16 = .ok (.bipush 11, 2) := dk_16 11 (dk_at dksX7_gap_0 16 rfl rfl)
theorem dX7_gap_18 : decode cX7_gap 18 = .ok (.iaload, 1) := dk_46 (dk_at dksX7_gap_0 18 rfl rfl)
theorem dX7_gap_19 : decode cX7_gap 19 = .ok (.isub, 1) := dk_100 (dk_at dksX7_gap_0 19 rfl rfl)
theorem dX7_gap_20 : decode cX7_gap 20 = .ok (.aload_n 0, 1) := dk_42 (dk_at dksX7_gap_0 20 rfl rfl)
theorem dX7_gap_21 : decode cX7_gap 21 = .ok (.invokevirtual 326, 3) := dk_182 1 70 (dk_at dksX7_gap_0 21 rfl rfl)
theorem dX7_gap_24 : decode cX7_gap 24 = .ok (.isub, 1) := dk_100 (dk_at dksX7_gap_1 0 rfl rfl)
theorem dX7_gap_25 : decode cX7_gap 25 = .ok (.invokestatic 350, 3) := dk_184 1 94 (dk_at dksX7_gap_1 1 rfl rfl)
theorem dX7_gap_28 : decode cX7_gap 28 = .ok (.istore_n 1, 1) := dk_60 (dk_at dksX7_gap_1 4 rfl rfl)
theorem dX7_gap_29 : decode cX7_gap 29 = .ok (.iconst 0, 1) := dk_3 (dk_at dksX7_gap_1 5 rfl rfl)
theorem dX7_gap_30 : decode cX7_gap 30 = .ok (.istore_n 2, 1) := dk_61 (dk_at dksX7_gap_1 6 rfl rfl)
theorem dX7_gap_31 : decode cX7_gap 31 = .ok (.iload_n 2, 1) := dk_28 (dk_at dksX7_gap_1 7 rfl rfl)
theorem dX7_gap_32 : decode cX7_gap 32 = .ok (.aload_n 0, 1) := dk_42 (dk_at dksX7_gap_1 8 rfl rfl)
theorem dX7_gap_33 : decode cX7_gap 33 = .ok (.getfield 7, 3) := dk_180 0 7 (dk_at dksX7_gap_1 9 rfl rfl)
theorem dX7_gap_36 : decode cX7_gap 36 = .ok (.iconst 3, 1) := dk_6 (dk_at dksX7_gap_1 12 rfl rfl)
theorem dX7_gap_37 : decode cX7_gap 37 = .ok (.iaload, 1) := dk_46 (dk_at dksX7_gap_1 13 rfl rfl)
theorem dX7_gap_38 : decode cX7_gap 38 = .ok (.if_icmp .ge 52, 3) := dk_162 0 52 (dk_at dksX7_gap_1 14 rfl rfl)
theorem dX7_gap_41 : decode cX7_gap 41 = .ok (.iconst 0, 1) := dk_3 (dk_at dksX7_gap_1 17 rfl rfl)
theorem dX7_gap_42 : decode cX7_gap 42 = .ok (.istore_n 3, 1) := dk_62 (dk_at dksX7_gap_1 18 rfl rfl)
theorem dX7_gap_43 : decode cX7_gap 43 = .ok (.iload_n 3, 1) := dk_29 (dk_at dksX7_gap_1 19 rfl rfl)
theorem dX7_gap_44 : decode cX7_gap 44 = .ok (.iload_n 2, 1) := dk_28 (dk_at dksX7_gap_1 20 rfl rfl)
theorem dX7_gap_45 : decode cX7_gap 45 = .ok (.if_icmp .ge 39, 3) := dk_162 0 39 (dk_at dksX7_gap_1 21 rfl rfl)
theorem dX7_gap_48 : decode cX7_gap 48 = .ok (.aload_n 0, 1) := dk_42 (dk_at dksX7_gap_2 0 rfl rfl)
theorem dX7_gap_49 : decode cX7_gap 49 = .ok (.iload_n 2, 1) := dk_28 (dk_at dksX7_gap_2 1 rfl rfl)
theorem dX7_gap_50 : decode cX7_gap 50 = .ok (.iload_n 3, 1) := dk_29 (dk_at dksX7_gap_2 2 rfl rfl)
theorem dX7_gap_51 : decode cX7_gap 51 = .ok (.invokevirtual 208, 3) := dk_182 0 208 (dk_at dksX7_gap_2 3 rfl rfl)
theorem dX7_gap_54 : decode cX7_gap 54 = .ok (.ifCond .eq 24, 3) := dk_153 0 24 (dk_at dksX7_gap_2 6 rfl rfl)
theorem dX7_gap_57 : decode cX7_gap 57 = .ok (.aload_n 0, 1) := dk_42 (dk_at dksX7_gap_2 9 rfl rfl)
theorem dX7_gap_58 : decode cX7_gap 58 = .ok (.iload_n 2, 1) := dk_28 (dk_at dksX7_gap_2 10 rfl rfl)
theorem dX7_gap_59 : decode cX7_gap 59 = .ok (.invokevirtual 140, 3) := dk_182 0 140 (dk_at dksX7_gap_2 11 rfl rfl)
theorem dX7_gap_62 : decode cX7_gap 62 = .ok (.iconst 2, 1) := dk_5 (dk_at dksX7_gap_2 14 rfl rfl)
theorem dX7_gap_63 : decode cX7_gap 63 = .ok (.if_icmp .eq 15, 3) := dk_159 0 15 (dk_at dksX7_gap_2 15 rfl rfl)
theorem dX7_gap_66 : decode cX7_gap 66 = .ok (.aload_n 0, 1) := dk_42 (dk_at dksX7_gap_2 18 rfl rfl)
theorem dX7_gap_67 : decode cX7_gap 67 = .ok (.iload_n 3, 1) := dk_29 (dk_at dksX7_gap_2 19 rfl rfl)
theorem dX7_gap_68 : decode cX7_gap 68 = .ok (.invokevirtual 140, 3) := dk_182 0 140 (dk_at dksX7_gap_2 20 rfl rfl)
theorem dX7_gap_71 : decode cX7_gap 71 = .ok (.iconst 2, 1) := dk_5 (dk_at dksX7_gap_2 23 rfl rfl)
theorem dX7_gap_72 : decode cX7_gap 72 = .ok (.if_icmp .eq 6, 3) := dk_159 0 6 (dk_at dksX7_gap_3 0 rfl rfl)
theorem dX7_gap_75 : decode cX7_gap 75 = .ok (.iinc 1 1, 3) := dk_132 1 1 (dk_at dksX7_gap_3 3 rfl rfl)
theorem dX7_gap_78 : decode cX7_gap 78 = .ok (.iinc 3 1, 3) := dk_132 3 1 (dk_at dksX7_gap_3 6 rfl rfl)
theorem dX7_gap_81 : decode cX7_gap 81 = .ok (.goto (-38), 3) := dk_167 255 218 (dk_at dksX7_gap_3 9 rfl rfl)
theorem dX7_gap_84 : decode cX7_gap 84 = .ok (.iinc 2 1, 3) := dk_132 2 1 (dk_at dksX7_gap_3 12 rfl rfl)
theorem dX7_gap_87 : decode cX7_gap 87 = .ok (.goto (-56), 3) := dk_167 255 200 (dk_at dksX7_gap_3 15 rfl rfl)
theorem dX7_gap_90 : decode cX7_gap 90 = .ok (.iconst 0, 1) := dk_3 (dk_at dksX7_gap_3 18 rfl rfl)
theorem dX7_gap_91 : decode cX7_gap 91 = .ok (.istore_n 2, 1) := dk_61 (dk_at dksX7_gap_3 19 rfl rfl)
theorem dX7_gap_92 : decode cX7_gap 92 = .ok (.iload_n 2, 1) := dk_28 (dk_at dksX7_gap_3 20 rfl rfl)
theorem dX7_gap_93 : decode cX7_gap 93 = .ok (.aload_n 0, 1) := dk_42 (dk_at dksX7_gap_3 21 rfl rfl)
theorem dX7_gap_94 : decode cX7_gap 94 = .ok (.getfield 7, 3) := dk_180 0 7 (dk_at dksX7_gap_4 0 rfl rfl)
theorem dX7_gap_97 : decode cX7_gap 97 = .ok (.iconst 4, 1) := dk_7 (dk_at dksX7_gap_4 3 rfl rfl)
theorem dX7_gap_98 : decode cX7_gap 98 = .ok (.iaload, 1) := dk_46 (dk_at dksX7_gap_4 4 rfl rfl)
theorem dX7_gap_99 : decode cX7_gap 99 = .ok (.if_icmp .ge 25, 3) := dk_162 0 25 (dk_at dksX7_gap_4 5 rfl rfl)
theorem dX7_gap_102 : decode cX7_gap 102 = .ok (.iload_n 1, 1) := dk_27 (dk_at dksX7_gap_4 8 rfl rfl)
theorem dX7_gap_103 : decode cX7_gap 103 = .ok (.aload_n 0, 1) := dk_42 (dk_at dksX7_gap_4 9 rfl rfl)
theorem dX7_gap_104 : decode cX7_gap 104 = .ok (.iload_n 2, 1) := dk_28 (dk_at dksX7_gap_4 10 rfl rfl)
theorem dX7_gap_105 : decode cX7_gap 105 = .ok (.invokevirtual 353, 3) := dk_182 1 97 (dk_at dksX7_gap_4 11 rfl rfl)
theorem dX7_gap_108 : decode cX7_gap 108 = .ok (.ifCond .eq 7, 3) := dk_153 0 7 (dk_at dksX7_gap_4 14 rfl rfl)
theorem dX7_gap_111 : decode cX7_gap 111 = .ok (.iconst 1, 1) := dk_4 (dk_at dksX7_gap_4 17 rfl rfl)
theorem dX7_gap_112 : decode cX7_gap 112 = .ok (.goto 4, 3) := dk_167 0 4 (dk_at dksX7_gap_4 18 rfl rfl)
theorem dX7_gap_115 : decode cX7_gap 115 = .ok (.iconst 0, 1) := dk_3 (dk_at dksX7_gap_4 21 rfl rfl)
theorem dX7_gap_116 : decode cX7_gap 116 = .ok (.iadd, 1) := dk_96 (dk_at dksX7_gap_4 22 rfl rfl)
theorem dX7_gap_117 : decode cX7_gap 117 = .ok (.istore_n 1, 1) := dk_60 (dk_at dksX7_gap_4 23 rfl rfl)
theorem dX7_gap_118 : decode cX7_gap 118 = .ok (.iinc 2 1, 3) := dk_132 2 1 (dk_at dksX7_gap_5 0 rfl rfl)
theorem dX7_gap_121 : decode cX7_gap 121 = .ok (.goto (-29), 3) := dk_167 255 227 (dk_at dksX7_gap_5 3 rfl rfl)
theorem dX7_gap_124 : decode cX7_gap 124 = .ok (.iload_n 1, 1) := dk_27 (dk_at dksX7_gap_5 6 rfl rfl)
theorem dX7_gap_125 : decode cX7_gap 125 = .ok (.ireturn, 1) := dk_172 (dk_at dksX7_gap_5 7 rfl rfl)
abbrev cX7_isMixed : ByteArray := prog_19_method_81_code
def yX7_isMixed : MethodName := ⟨RX7, "isMixed", "(I)Z"⟩
def dkwX7_isMixed_2 : List UInt8 := [4, 172, 132, 3, 1, 167, 255, 219, 132, 2, 1, 167, 255, 201, 3, 172]
abbrev dktX7_isMixed_2 : List UInt8 := dkwX7_isMixed_2 ++ []
def dkwX7_isMixed_1 : List UInt8 := [182, 0, 87, 153, 0, 23, 42, 27, 29, 182, 0, 87, 153, 0, 14, 42, 28, 29, 182, 0, 208, 153, 0, 5]
abbrev dktX7_isMixed_1 : List UInt8 := dkwX7_isMixed_1 ++ dktX7_isMixed_2
def dkwX7_isMixed_0 : List UInt8 := [3, 61, 28, 42, 180, 0, 7, 6, 46, 162, 0, 51, 3, 62, 29, 28, 162, 0, 38, 42, 27, 28]
abbrev dktX7_isMixed_0 : List UInt8 := dkwX7_isMixed_0 ++ dktX7_isMixed_1
theorem dksX7_isMixed_0 : cX7_isMixed.data.toList.drop 0 = dktX7_isMixed_0 := by decide +kernel
theorem dksX7_isMixed_1 : cX7_isMixed.data.toList.drop 22 = dktX7_isMixed_1 := dk_seg dksX7_isMixed_0 22 rfl rfl
theorem dksX7_isMixed_2 : cX7_isMixed.data.toList.drop 46 = dktX7_isMixed_2 := dk_seg dksX7_isMixed_1 24 rfl rfl
theorem dX7_isMixed_0 : decode cX7_isMixed 0 = .ok (.iconst 0, 1) := dk_3 (dk_at dksX7_isMixed_0 0 rfl rfl)
theorem dX7_isMixed_1 : decode cX7_isMixed 1 = .ok (.istore_n 2, 1) := dk_61 (dk_at dksX7_isMixed_0 1 rfl rfl)
theorem dX7_isMixed_2 : decode cX7_isMixed 2 = .ok (.iload_n 2, 1) := dk_28 (dk_at dksX7_isMixed_0 2 rfl rfl)
theorem dX7_isMixed_3 : decode cX7_isMixed 3 = .ok (.aload_n 0, 1) := dk_42 (dk_at dksX7_isMixed_0 3 rfl rfl)
theorem dX7_isMixed_4 : decode cX7_isMixed 4 = .ok (.getfield 7, 3) := dk_180 0 7 (dk_at dksX7_isMixed_0 4 rfl rfl)
theorem dX7_isMixed_7 : decode cX7_isMixed 7 = .ok (.iconst 3, 1) := dk_6 (dk_at dksX7_isMixed_0 7 rfl rfl)
theorem dX7_isMixed_8 : decode cX7_isMixed 8 = .ok (.iaload, 1) := dk_46 (dk_at dksX7_isMixed_0 8 rfl rfl)
theorem dX7_isMixed_9 : decode cX7_isMixed 9 = .ok (.if_icmp .ge 51, 3) := dk_162 0 51 (dk_at dksX7_isMixed_0 9 rfl rfl)
theorem dX7_isMixed_12 : decode cX7_isMixed 12 = .ok (.iconst 0, 1) := dk_3 (dk_at dksX7_isMixed_0 12 rfl rfl)
theorem dX7_isMixed_13 : decode cX7_isMixed 13 = .ok (.istore_n 3, 1) := dk_62 (dk_at dksX7_isMixed_0 13 rfl rfl)
theorem dX7_isMixed_14 : decode cX7_isMixed 14 = .ok (.iload_n 3, 1) := dk_29 (dk_at dksX7_isMixed_0 14 rfl rfl)
theorem dX7_isMixed_15 : decode cX7_isMixed 15 = .ok (.iload_n 2, 1) := dk_28 (dk_at dksX7_isMixed_0 15 rfl rfl)
theorem dX7_isMixed_16 : decode cX7_isMixed 16 = .ok (.if_icmp .ge 38, 3) := dk_162 0 38 (dk_at dksX7_isMixed_0 16 rfl rfl)
theorem dX7_isMixed_19 : decode cX7_isMixed 19 = .ok (.aload_n 0, 1) := dk_42 (dk_at dksX7_isMixed_0 19 rfl rfl)
theorem dX7_isMixed_20 : decode cX7_isMixed 20 = .ok (.iload_n 1, 1) := dk_27 (dk_at dksX7_isMixed_0 20 rfl rfl)
theorem dX7_isMixed_21 : decode cX7_isMixed 21 = .ok (.iload_n 2, 1) := dk_28 (dk_at dksX7_isMixed_0 21 rfl rfl)
theorem dX7_isMixed_22 : decode cX7_isMixed 22 = .ok (.invokevirtual 87, 3) := dk_182 0 87 (dk_at dksX7_isMixed_1 0 rfl rfl)
theorem dX7_isMixed_25 : decode cX7_isMixed 25 = .ok (.ifCond .eq 23, 3) := dk_153 0 23 (dk_at dksX7_isMixed_1 3 rfl rfl)
theorem dX7_isMixed_28 : decode cX7_isMixed 28 = .ok (.aload_n 0, 1) := dk_42 (dk_at dksX7_isMixed_1 6 rfl rfl)
theorem dX7_isMixed_29 : decode cX7_isMixed 29 = .ok (.iload_n 1, 1) := dk_27 (dk_at dksX7_isMixed_1 7 rfl rfl)
theorem dX7_isMixed_30 : decode cX7_isMixed 30 = .ok (.iload_n 3, 1) := dk_29 (dk_at dksX7_isMixed_1 8 rfl rfl)
theorem dX7_isMixed_31 : decode cX7_isMixed 31 = .ok (.invokevirtual 87, 3) := dk_182 0 87 (dk_at dksX7_isMixed_1 9 rfl rfl)
theorem dX7_isMixed_34 : decode cX7_isMixed 34 = .ok (.ifCond .eq 14, 3) := dk_153 0 14 (dk_at dksX7_isMixed_1 12 rfl rfl)
theorem dX7_isMixed_37 : decode cX7_isMixed 37 = .ok (.aload_n 0, 1) := dk_42 (dk_at dksX7_isMixed_1 15 rfl rfl)
theorem dX7_isMixed_38 : decode cX7_isMixed 38 = .ok (.iload_n 2, 1) := dk_28 (dk_at dksX7_isMixed_1 16 rfl rfl)
theorem dX7_isMixed_39 : decode cX7_isMixed 39 = .ok (.iload_n 3, 1) := dk_29 (dk_at dksX7_isMixed_1 17 rfl rfl)
theorem dX7_isMixed_40 : decode cX7_isMixed 40 = .ok (.invokevirtual 208, 3) := dk_182 0 208 (dk_at dksX7_isMixed_1 18 rfl rfl)
theorem dX7_isMixed_43 : decode cX7_isMixed 43 = .ok (.ifCond .eq 5, 3) := dk_153 0 5 (dk_at dksX7_isMixed_1 21 rfl rfl)
theorem dX7_isMixed_46 : decode cX7_isMixed 46 = .ok (.iconst 1, 1) := dk_4 (dk_at dksX7_isMixed_2 0 rfl rfl)
theorem dX7_isMixed_47 : decode cX7_isMixed 47 = .ok (.ireturn, 1) := dk_172 (dk_at dksX7_isMixed_2 1 rfl rfl)
theorem dX7_isMixed_48 : decode cX7_isMixed 48 = .ok (.iinc 3 1, 3) := dk_132 3 1 (dk_at dksX7_isMixed_2 2 rfl rfl)
theorem dX7_isMixed_51 : decode cX7_isMixed 51 = .ok (.goto (-37), 3) := dk_167 255 219 (dk_at dksX7_isMixed_2 5 rfl rfl)
theorem dX7_isMixed_54 : decode cX7_isMixed 54 = .ok (.iinc 2 1, 3) := dk_132 2 1 (dk_at dksX7_isMixed_2 8 rfl rfl)
theorem dX7_isMixed_57 : decode cX7_isMixed 57 = .ok (.goto (-55), 3) := dk_167 255 201 (dk_at dksX7_isMixed_2 11 rfl rfl)
theorem dX7_isMixed_60 : decode cX7_isMixed 60 = .ok (.iconst 0, 1) := dk_3 (dk_at dksX7_isMixed_2 14 rfl rfl)
theorem dX7_isMixed_61 : decode cX7_isMixed 61 = .ok (.ireturn, 1) := dk_172 (dk_at dksX7_isMixed_2 15 rfl rfl)
abbrev cX7_meanWait : ByteArray := prog_19_method_83_code
def yX7_meanWait : MethodName := ⟨RX7, "meanWait", "()D"⟩
def dkwX7_meanWait_1 : List UInt8 := [16, 12, 46, 135, 42, 180, 0, 7, 16, 11, 46, 135, 111, 175]
abbrev dktX7_meanWait_1 : List UInt8 := dkwX7_meanWait_1 ++ []
def dkwX7_meanWait_0 : List UInt8 := [42, 3, 181, 0, 76, 42, 180, 0, 7, 16, 11, 46, 154, 0, 7, 14, 167, 0, 20, 42, 180, 0, 7]
abbrev dktX7_meanWait_0 : List UInt8 := dkwX7_meanWait_0 ++ dktX7_meanWait_1
theorem dksX7_meanWait_0 : cX7_meanWait.data.toList.drop 0 = dktX7_meanWait_0 := by decide +kernel
theorem dksX7_meanWait_1 : cX7_meanWait.data.toList.drop 23 = dktX7_meanWait_1 := dk_seg dksX7_meanWait_0 23 rfl rfl
theorem dX7_meanWait_0 : decode cX7_meanWait 0 = .ok (.aload_n 0, 1) := dk_42 (dk_at dksX7_meanWait_0 0 rfl rfl)
theorem dX7_meanWait_1 : decode cX7_meanWait 1 = .ok (.iconst 0, 1) := dk_3 (dk_at dksX7_meanWait_0 1 rfl rfl)
theorem dX7_meanWait_2 : decode cX7_meanWait 2 = .ok (.putfield 76, 3) := dk_181 0 76 (dk_at dksX7_meanWait_0 2 rfl rfl)
theorem dX7_meanWait_5 : decode cX7_meanWait 5 = .ok (.aload_n 0, 1) := dk_42 (dk_at dksX7_meanWait_0 5 rfl rfl)
theorem dX7_meanWait_6 : decode cX7_meanWait 6 = .ok (.getfield 7, 3) := dk_180 0 7 (dk_at dksX7_meanWait_0 6 rfl rfl)
theorem dX7_meanWait_9 : decode cX7_meanWait 9 = .ok (.bipush 11, 2) := dk_16 11 (dk_at dksX7_meanWait_0 9 rfl rfl)
theorem dX7_meanWait_11 : decode cX7_meanWait 11 = .ok (.iaload, 1) := dk_46 (dk_at dksX7_meanWait_0 11 rfl rfl)
theorem dX7_meanWait_12 : decode cX7_meanWait 12 = .ok (.ifCond .ne 7, 3) := dk_154 0 7 (dk_at dksX7_meanWait_0 12 rfl rfl)
theorem dX7_meanWait_15 : decode cX7_meanWait 15 = .ok (.dconst 0, 1) := dk_14 (dk_at dksX7_meanWait_0 15 rfl rfl)
theorem dX7_meanWait_16 : decode cX7_meanWait 16 = .ok (.goto 20, 3) := dk_167 0 20 (dk_at dksX7_meanWait_0 16 rfl rfl)
theorem dX7_meanWait_19 : decode cX7_meanWait 19 = .ok (.aload_n 0, 1) := dk_42 (dk_at dksX7_meanWait_0 19 rfl rfl)
theorem dX7_meanWait_20 : decode cX7_meanWait 20 = .ok (.getfield 7, 3) := dk_180 0 7 (dk_at dksX7_meanWait_0 20 rfl rfl)
theorem dX7_meanWait_23 : decode cX7_meanWait 23 = .ok (.bipush 12, 2) := dk_16 12 (dk_at dksX7_meanWait_1 0 rfl rfl)
theorem dX7_meanWait_25 : decode cX7_meanWait 25 = .ok (.iaload, 1) := dk_46 (dk_at dksX7_meanWait_1 2 rfl rfl)
theorem dX7_meanWait_26 : decode cX7_meanWait 26 = .ok (.i2d, 1) := dk_135 (dk_at dksX7_meanWait_1 3 rfl rfl)
theorem dX7_meanWait_27 : decode cX7_meanWait 27 = .ok (.aload_n 0, 1) := dk_42 (dk_at dksX7_meanWait_1 4 rfl rfl)
theorem dX7_meanWait_28 : decode cX7_meanWait 28 = .ok (.getfield 7, 3) := dk_180 0 7 (dk_at dksX7_meanWait_1 5 rfl rfl)
theorem dX7_meanWait_31 : decode cX7_meanWait 31 = .ok (.bipush 11, 2) := dk_16 11 (dk_at dksX7_meanWait_1 8 rfl rfl)
theorem dX7_meanWait_33 : decode cX7_meanWait 33 = .ok (.iaload, 1) := dk_46 (dk_at dksX7_meanWait_1 10 rfl rfl)
theorem dX7_meanWait_34 : decode cX7_meanWait 34 = .ok (.i2d, 1) := dk_135 (dk_at dksX7_meanWait_1 11 rfl rfl)
theorem dX7_meanWait_35 : decode cX7_meanWait 35 = .ok (.ddiv, 1) := dk_111 (dk_at dksX7_meanWait_1 12 rfl rfl)
theorem dX7_meanWait_36 : decode cX7_meanWait 36 = .ok (.dreturn, 1) := dk_175 (dk_at dksX7_meanWait_1 13 rfl rfl)
abbrev cX7_greenBits : ByteArray := prog_19_method_84_code
def yX7_greenBits : MethodName := ⟨RX7, "greenBits", "(I)I"⟩
def dkwX7_greenBits_1 : List UInt8 := [154, 0, 5, 3, 172, 42, 27, 8, 182, 0, 91, 134, 42, 180, 0, 7, 8, 46, 134, 110, 184, 1, 100, 172]
abbrev dktX7_greenBits_1 : List UInt8 := dkwX7_greenBits_1 ++ []
def dkwX7_greenBits_0 : List UInt8 := [42, 3, 181, 0, 76, 42, 42, 27, 182, 1, 73, 182, 1, 66, 153, 0, 12, 42, 180, 0, 7, 8, 46]
abbrev dktX7_greenBits_0 : List UInt8 := dkwX7_greenBits_0 ++ dktX7_greenBits_1
theorem dksX7_greenBits_0 : cX7_greenBits.data.toList.drop 0 = dktX7_greenBits_0 := by decide +kernel
theorem dksX7_greenBits_1 : cX7_greenBits.data.toList.drop 23 = dktX7_greenBits_1 := dk_seg dksX7_greenBits_0 23 rfl rfl
theorem dX7_greenBits_0 : decode cX7_greenBits 0 = .ok (.aload_n 0, 1) := dk_42 (dk_at dksX7_greenBits_0 0 rfl rfl)
theorem dX7_greenBits_1 : decode cX7_greenBits 1 = .ok (.iconst 0, 1) := dk_3 (dk_at dksX7_greenBits_0 1 rfl rfl)
theorem dX7_greenBits_2 : decode cX7_greenBits 2 = .ok (.putfield 76, 3) := dk_181 0 76 (dk_at dksX7_greenBits_0 2 rfl rfl)
theorem dX7_greenBits_5 : decode cX7_greenBits 5 = .ok (.aload_n 0, 1) := dk_42 (dk_at dksX7_greenBits_0 5 rfl rfl)
theorem dX7_greenBits_6 : decode cX7_greenBits 6 = .ok (.aload_n 0, 1) := dk_42 (dk_at dksX7_greenBits_0 6 rfl rfl)
theorem dX7_greenBits_7 : decode cX7_greenBits 7 = .ok (.iload_n 1, 1) := dk_27 (dk_at dksX7_greenBits_0 7 rfl rfl)
theorem dX7_greenBits_8 : decode cX7_greenBits 8 = .ok (.invokevirtual 329, 3) := dk_182 1 73 (dk_at dksX7_greenBits_0 8 rfl rfl)
theorem dX7_greenBits_11 : decode cX7_greenBits 11 = .ok (.invokevirtual 322, 3) := dk_182 1 66 (dk_at dksX7_greenBits_0 11 rfl rfl)
theorem dX7_greenBits_14 : decode cX7_greenBits 14 = .ok (.ifCond .eq 12, 3) := dk_153 0 12 (dk_at dksX7_greenBits_0 14 rfl rfl)
theorem dX7_greenBits_17 : decode cX7_greenBits 17 = .ok (.aload_n 0, 1) := dk_42 (dk_at dksX7_greenBits_0 17 rfl rfl)
theorem dX7_greenBits_18 : decode cX7_greenBits 18 = .ok (.getfield 7, 3) := dk_180 0 7 (dk_at dksX7_greenBits_0 18 rfl rfl)
theorem dX7_greenBits_21 : decode cX7_greenBits 21 = .ok (.iconst 5, 1) := dk_8 (dk_at dksX7_greenBits_0 21 rfl rfl)
theorem dX7_greenBits_22 : decode cX7_greenBits 22 = .ok (.iaload, 1) := dk_46 (dk_at dksX7_greenBits_0 22 rfl rfl)
theorem dX7_greenBits_23 : decode cX7_greenBits 23 = .ok (.ifCond .ne 5, 3) := dk_154 0 5 (dk_at dksX7_greenBits_1 0 rfl rfl)
theorem dX7_greenBits_26 : decode cX7_greenBits 26 = .ok (.iconst 0, 1) := dk_3 (dk_at dksX7_greenBits_1 3 rfl rfl)
theorem dX7_greenBits_27 : decode cX7_greenBits 27 = .ok (.ireturn, 1) := dk_172 (dk_at dksX7_greenBits_1 4 rfl rfl)
theorem dX7_greenBits_28 : decode cX7_greenBits 28 = .ok (.aload_n 0, 1) := dk_42 (dk_at dksX7_greenBits_1 5 rfl rfl)
theorem dX7_greenBits_29 : decode cX7_greenBits 29 = .ok (.iload_n 1, 1) := dk_27 (dk_at dksX7_greenBits_1 6 rfl rfl)
theorem dX7_greenBits_30 : decode cX7_greenBits 30 = .ok (.iconst 5, 1) := dk_8 (dk_at dksX7_greenBits_1 7 rfl rfl)
theorem dX7_greenBits_31 : decode cX7_greenBits 31 = .ok (.invokevirtual 91, 3) := dk_182 0 91 (dk_at dksX7_greenBits_1 8 rfl rfl)
theorem dX7_greenBits_34 : decode cX7_greenBits 34 = .ok (.i2f, 1) := dk_134 (dk_at dksX7_greenBits_1 11 rfl rfl)
theorem dX7_greenBits_35 : decode cX7_greenBits 35 = .ok (.aload_n 0, 1) := dk_42 (dk_at dksX7_greenBits_1 12 rfl rfl)
theorem dX7_greenBits_36 : decode cX7_greenBits 36 = .ok (.getfield 7, 3) := dk_180 0 7 (dk_at dksX7_greenBits_1 13 rfl rfl)
theorem dX7_greenBits_39 : decode cX7_greenBits 39 = .ok (.iconst 5, 1) := dk_8 (dk_at dksX7_greenBits_1 16 rfl rfl)
theorem dX7_greenBits_40 : decode cX7_greenBits 40 = .ok (.iaload, 1) := dk_46 (dk_at dksX7_greenBits_1 17 rfl rfl)
theorem dX7_greenBits_41 : decode cX7_greenBits 41 = .ok (.i2f, 1) := dk_134 (dk_at dksX7_greenBits_1 18 rfl rfl)
theorem dX7_greenBits_42 : decode cX7_greenBits 42 = .ok (.fdiv, 1) := dk_110 (dk_at dksX7_greenBits_1 19 rfl rfl)
theorem dX7_greenBits_43 : decode cX7_greenBits 43 = .ok (.invokestatic 356, 3) := dk_184 1 100 (dk_at dksX7_greenBits_1 20 rfl rfl)
theorem dX7_greenBits_46 : decode cX7_greenBits 46 = .ok (.ireturn, 1) := dk_172 (dk_at dksX7_greenBits_1 23 rfl rfl)
abbrev cX7_greenIn : ByteArray := prog_19_method_85_code
def yX7_greenIn : MethodName := ⟨RX7, "greenIn", "(I)I"⟩
def dkwX7_greenIn_2 : List UInt8 := [182, 0, 153, 132, 2, 1, 167, 255, 228, 42, 2, 182, 1, 109, 172]
abbrev dktX7_greenIn_2 : List UInt8 := dkwX7_greenIn_2 ++ []
def dkwX7_greenIn_1 : List UInt8 := [61, 28, 17, 1, 244, 163, 0, 27, 42, 27, 182, 0, 140, 154, 0, 9, 42, 28, 182, 1, 109, 172, 42]
abbrev dktX7_greenIn_1 : List UInt8 := dkwX7_greenIn_1 ++ dktX7_greenIn_2
def dkwX7_greenIn_0 : List UInt8 := [42, 3, 181, 0, 76, 42, 42, 27, 182, 1, 73, 182, 1, 66, 154, 0, 5, 3, 172, 42, 182, 1, 106, 3]
abbrev dktX7_greenIn_0 : List UInt8 := dkwX7_greenIn_0 ++ dktX7_greenIn_1
theorem dksX7_greenIn_0 : cX7_greenIn.data.toList.drop 0 = dktX7_greenIn_0 := by decide +kernel
theorem dksX7_greenIn_1 : cX7_greenIn.data.toList.drop 24 = dktX7_greenIn_1 := dk_seg dksX7_greenIn_0 24 rfl rfl
theorem dksX7_greenIn_2 : cX7_greenIn.data.toList.drop 47 = dktX7_greenIn_2 := dk_seg dksX7_greenIn_1 23 rfl rfl
theorem dX7_greenIn_0 : decode cX7_greenIn 0 = .ok (.aload_n 0, 1) := dk_42 (dk_at dksX7_greenIn_0 0 rfl rfl)
theorem dX7_greenIn_1 : decode cX7_greenIn 1 = .ok (.iconst 0, 1) := dk_3 (dk_at dksX7_greenIn_0 1 rfl rfl)
theorem dX7_greenIn_2 : decode cX7_greenIn 2 = .ok (.putfield 76, 3) := dk_181 0 76 (dk_at dksX7_greenIn_0 2 rfl rfl)
theorem dX7_greenIn_5 : decode cX7_greenIn 5 = .ok (.aload_n 0, 1) := dk_42 (dk_at dksX7_greenIn_0 5 rfl rfl)
theorem dX7_greenIn_6 : decode cX7_greenIn 6 = .ok (.aload_n 0, 1) := dk_42 (dk_at dksX7_greenIn_0 6 rfl rfl)
theorem dX7_greenIn_7 : decode cX7_greenIn 7 = .ok (.iload_n 1, 1) := dk_27 (dk_at dksX7_greenIn_0 7 rfl rfl)
theorem dX7_greenIn_8 : decode cX7_greenIn 8 = .ok (.invokevirtual 329, 3) := dk_182 1 73 (dk_at dksX7_greenIn_0 8 rfl rfl)
theorem dX7_greenIn_11 : decode cX7_greenIn 11 = .ok (.invokevirtual 322, 3) := dk_182 1 66 (dk_at dksX7_greenIn_0 11 rfl rfl)
theorem dX7_greenIn_14 : decode cX7_greenIn 14 = .ok (.ifCond .ne 5, 3) := dk_154 0 5 (dk_at dksX7_greenIn_0 14 rfl rfl)
theorem dX7_greenIn_17 : decode cX7_greenIn 17 = .ok (.iconst 0, 1) := dk_3 (dk_at dksX7_greenIn_0 17 rfl rfl)
theorem dX7_greenIn_18 : decode cX7_greenIn 18 = .ok (.ireturn, 1) := dk_172 (dk_at dksX7_greenIn_0 18 rfl rfl)
theorem dX7_greenIn_19 : decode cX7_greenIn 19 = .ok (.aload_n 0, 1) := dk_42 (dk_at dksX7_greenIn_0 19 rfl rfl)
theorem dX7_greenIn_20 : decode cX7_greenIn 20 = .ok (.invokevirtual 362, 3) := dk_182 1 106 (dk_at dksX7_greenIn_0 20 rfl rfl)
theorem dX7_greenIn_23 : decode cX7_greenIn 23 = .ok (.iconst 0, 1) := dk_3 (dk_at dksX7_greenIn_0 23 rfl rfl)
theorem dX7_greenIn_24 : decode cX7_greenIn 24 = .ok (.istore_n 2, 1) := dk_61 (dk_at dksX7_greenIn_1 0 rfl rfl)
theorem dX7_greenIn_25 : decode cX7_greenIn 25 = .ok (.iload_n 2, 1) := dk_28 (dk_at dksX7_greenIn_1 1 rfl rfl)
theorem dX7_greenIn_26 : decode cX7_greenIn 26 = .ok (.sipush 500, 3) := dk_17 1 244 (dk_at dksX7_greenIn_1 2 rfl rfl)
theorem dX7_greenIn_29 : decode cX7_greenIn 29 = .ok (.if_icmp .gt 27, 3) := dk_163 0 27 (dk_at dksX7_greenIn_1 5 rfl rfl)
theorem dX7_greenIn_32 : decode cX7_greenIn 32 = .ok (.aload_n 0, 1) := dk_42 (dk_at dksX7_greenIn_1 8 rfl rfl)
theorem dX7_greenIn_33 : decode cX7_greenIn 33 = .ok (.iload_n 1, 1) := dk_27 (dk_at dksX7_greenIn_1 9 rfl rfl)
theorem dX7_greenIn_34 : decode cX7_greenIn 34 = .ok (.invokevirtual 140, 3) := dk_182 0 140 (dk_at dksX7_greenIn_1 10 rfl rfl)
theorem dX7_greenIn_37 : decode cX7_greenIn 37 = .ok (.ifCond .ne 9, 3) := dk_154 0 9 (dk_at dksX7_greenIn_1 13 rfl rfl)
theorem dX7_greenIn_40 : decode cX7_greenIn 40 = .ok (.aload_n 0, 1) := dk_42 (dk_at dksX7_greenIn_1 16 rfl rfl)
theorem dX7_greenIn_41 : decode cX7_greenIn 41 = .ok (.iload_n 2, 1) := dk_28 (dk_at dksX7_greenIn_1 17 rfl rfl)
theorem dX7_greenIn_42 : decode cX7_greenIn 42 = .ok (.invokevirtual 365, 3) := dk_182 1 109 (dk_at dksX7_greenIn_1 18 rfl rfl)
theorem dX7_greenIn_45 : decode cX7_greenIn 45 = .ok (.ireturn, 1) := dk_172 (dk_at dksX7_greenIn_1 21 rfl rfl)
theorem dX7_greenIn_46 : decode cX7_greenIn 46 = .ok (.aload_n 0, 1) := dk_42 (dk_at dksX7_greenIn_1 22 rfl rfl)
theorem dX7_greenIn_47 : decode cX7_greenIn 47 = .ok (.invokevirtual 153, 3) := dk_182 0 153 (dk_at dksX7_greenIn_2 0 rfl rfl)
theorem dX7_greenIn_50 : decode cX7_greenIn 50 = .ok (.iinc 2 1, 3) := dk_132 2 1 (dk_at dksX7_greenIn_2 3 rfl rfl)
theorem dX7_greenIn_53 : decode cX7_greenIn 53 = .ok (.goto (-28), 3) := dk_167 255 228 (dk_at dksX7_greenIn_2 6 rfl rfl)
theorem dX7_greenIn_56 : decode cX7_greenIn 56 = .ok (.aload_n 0, 1) := dk_42 (dk_at dksX7_greenIn_2 9 rfl rfl)
theorem dX7_greenIn_57 : decode cX7_greenIn 57 = .ok (.iconst (-1), 1) := dk_2 (dk_at dksX7_greenIn_2 10 rfl rfl)
theorem dX7_greenIn_58 : decode cX7_greenIn 58 = .ok (.invokevirtual 365, 3) := dk_182 1 109 (dk_at dksX7_greenIn_2 11 rfl rfl)
theorem dX7_greenIn_61 : decode cX7_greenIn 61 = .ok (.ireturn, 1) := dk_172 (dk_at dksX7_greenIn_2 14 rfl rfl)
abbrev cX7_tries : ByteArray := prog_19_method_32_code
def yX7_tries : MethodName := ⟨RX7, "tries", "()V"⟩
def dkwX7_tries_1 : List UInt8 := [167, 255, 234, 177]
abbrev dktX7_tries_1 : List UInt8 := dkwX7_tries_1 ++ []
def dkwX7_tries_0 : List UInt8 := [3, 60, 27, 17, 3, 225, 162, 0, 21, 42, 180, 0, 13, 27, 42, 180, 0, 7, 27, 46, 79, 132, 1, 1]
abbrev dktX7_tries_0 : List UInt8 := dkwX7_tries_0 ++ dktX7_tries_1
theorem dksX7_tries_0 : cX7_tries.data.toList.drop 0 = dktX7_tries_0 := by decide +kernel
theorem dksX7_tries_1 : cX7_tries.data.toList.drop 24 = dktX7_tries_1 := dk_seg dksX7_tries_0 24 rfl rfl
theorem dX7_tries_0 : decode cX7_tries 0 = .ok (.iconst 0, 1) := dk_3 (dk_at dksX7_tries_0 0 rfl rfl)
theorem dX7_tries_1 : decode cX7_tries 1 = .ok (.istore_n 1, 1) := dk_60 (dk_at dksX7_tries_0 1 rfl rfl)
theorem dX7_tries_2 : decode cX7_tries 2 = .ok (.iload_n 1, 1) := dk_27 (dk_at dksX7_tries_0 2 rfl rfl)
theorem dX7_tries_3 : decode cX7_tries 3 = .ok (.sipush 993, 3) := dk_17 3 225 (dk_at dksX7_tries_0 3 rfl rfl)
theorem dX7_tries_6 : decode cX7_tries 6 = .ok (.if_icmp .ge 21, 3) := dk_162 0 21 (dk_at dksX7_tries_0 6 rfl rfl)
theorem dX7_tries_9 : decode cX7_tries 9 = .ok (.aload_n 0, 1) := dk_42 (dk_at dksX7_tries_0 9 rfl rfl)
theorem dX7_tries_10 : decode cX7_tries 10 = .ok (.getfield 13, 3) := dk_180 0 13 (dk_at dksX7_tries_0 10 rfl rfl)
theorem dX7_tries_13 : decode cX7_tries 13 = .ok (.iload_n 1, 1) := dk_27 (dk_at dksX7_tries_0 13 rfl rfl)
theorem dX7_tries_14 : decode cX7_tries 14 = .ok (.aload_n 0, 1) := dk_42 (dk_at dksX7_tries_0 14 rfl rfl)
theorem dX7_tries_15 : decode cX7_tries 15 = .ok (.getfield 7, 3) := dk_180 0 7 (dk_at dksX7_tries_0 15 rfl rfl)
theorem dX7_tries_18 : decode cX7_tries 18 = .ok (.iload_n 1, 1) := dk_27 (dk_at dksX7_tries_0 18 rfl rfl)
theorem dX7_tries_19 : decode cX7_tries 19 = .ok (.iaload, 1) := dk_46 (dk_at dksX7_tries_0 19 rfl rfl)
theorem dX7_tries_20 : decode cX7_tries 20 = .ok (.iastore, 1) := dk_79 (dk_at dksX7_tries_0 20 rfl rfl)
theorem dX7_tries_21 : decode cX7_tries 21 = .ok (.iinc 1 1, 3) := dk_132 1 1 (dk_at dksX7_tries_0 21 rfl rfl)
theorem dX7_tries_24 : decode cX7_tries 24 = .ok (.goto (-22), 3) := dk_167 255 234 (dk_at dksX7_tries_1 0 rfl rfl)
theorem dX7_tries_27 : decode cX7_tries 27 = .ok (.return_, 1) := dk_177 (dk_at dksX7_tries_1 3 rfl rfl)
abbrev cX7_back : ByteArray := prog_19_method_33_code
def yX7_back : MethodName := ⟨RX7, "back", "(I)I"⟩
def dkwX7_back_1 : List UInt8 := [167, 255, 234, 27, 172]
abbrev dktX7_back_1 : List UInt8 := dkwX7_back_1 ++ []
def dkwX7_back_0 : List UInt8 := [3, 61, 28, 17, 3, 225, 162, 0, 21, 42, 180, 0, 7, 28, 42, 180, 0, 13, 28, 46, 79, 132, 2, 1]
abbrev dktX7_back_0 : List UInt8 := dkwX7_back_0 ++ dktX7_back_1
theorem dksX7_back_0 : cX7_back.data.toList.drop 0 = dktX7_back_0 := by decide +kernel
theorem dksX7_back_1 : cX7_back.data.toList.drop 24 = dktX7_back_1 := dk_seg dksX7_back_0 24 rfl rfl
theorem dX7_back_0 : decode cX7_back 0 = .ok (.iconst 0, 1) := dk_3 (dk_at dksX7_back_0 0 rfl rfl)
theorem dX7_back_1 : decode cX7_back 1 = .ok (.istore_n 2, 1) := dk_61 (dk_at dksX7_back_0 1 rfl rfl)
theorem dX7_back_2 : decode cX7_back 2 = .ok (.iload_n 2, 1) := dk_28 (dk_at dksX7_back_0 2 rfl rfl)
theorem dX7_back_3 : decode cX7_back 3 = .ok (.sipush 993, 3) := dk_17 3 225 (dk_at dksX7_back_0 3 rfl rfl)
theorem dX7_back_6 : decode cX7_back 6 = .ok (.if_icmp .ge 21, 3) := dk_162 0 21 (dk_at dksX7_back_0 6 rfl rfl)
theorem dX7_back_9 : decode cX7_back 9 = .ok (.aload_n 0, 1) := dk_42 (dk_at dksX7_back_0 9 rfl rfl)
theorem dX7_back_10 : decode cX7_back 10 = .ok (.getfield 7, 3) := dk_180 0 7 (dk_at dksX7_back_0 10 rfl rfl)
theorem dX7_back_13 : decode cX7_back 13 = .ok (.iload_n 2, 1) := dk_28 (dk_at dksX7_back_0 13 rfl rfl)
theorem dX7_back_14 : decode cX7_back 14 = .ok (.aload_n 0, 1) := dk_42 (dk_at dksX7_back_0 14 rfl rfl)
theorem dX7_back_15 : decode cX7_back 15 = .ok (.getfield 13, 3) := dk_180 0 13 (dk_at dksX7_back_0 15 rfl rfl)
theorem dX7_back_18 : decode cX7_back 18 = .ok (.iload_n 2, 1) := dk_28 (dk_at dksX7_back_0 18 rfl rfl)
theorem dX7_back_19 : decode cX7_back 19 = .ok (.iaload, 1) := dk_46 (dk_at dksX7_back_0 19 rfl rfl)
theorem dX7_back_20 : decode cX7_back 20 = .ok (.iastore, 1) := dk_79 (dk_at dksX7_back_0 20 rfl rfl)
theorem dX7_back_21 : decode cX7_back 21 = .ok (.iinc 2 1, 3) := dk_132 2 1 (dk_at dksX7_back_0 21 rfl rfl)
theorem dX7_back_24 : decode cX7_back 24 = .ok (.goto (-22), 3) := dk_167 255 234 (dk_at dksX7_back_1 0 rfl rfl)
theorem dX7_back_27 : decode cX7_back 27 = .ok (.iload_n 1, 1) := dk_27 (dk_at dksX7_back_1 3 rfl rfl)
theorem dX7_back_28 : decode cX7_back 28 = .ok (.ireturn, 1) := dk_172 (dk_at dksX7_back_1 4 rfl rfl)
abbrev cX7_emptyIn : ByteArray := prog_19_method_86_code
def yX7_emptyIn : MethodName := ⟨RX7, "emptyIn", "()I"⟩
def dkwX7_emptyIn_2 : List UInt8 := [172]
abbrev dktX7_emptyIn_2 : List UInt8 := dkwX7_emptyIn_2 ++ []
def dkwX7_emptyIn_1 : List UInt8 := [154, 0, 9, 42, 27, 182, 1, 109, 172, 42, 182, 0, 153, 132, 1, 1, 167, 255, 229, 42, 2, 182, 1, 109]
abbrev dktX7_emptyIn_1 : List UInt8 := dkwX7_emptyIn_1 ++ dktX7_emptyIn_2
def dkwX7_emptyIn_0 : List UInt8 := [42, 3, 181, 0, 76, 42, 182, 1, 106, 3, 60, 27, 17, 7, 208, 163, 0, 26, 42, 182, 1, 70]
abbrev dktX7_emptyIn_0 : List UInt8 := dkwX7_emptyIn_0 ++ dktX7_emptyIn_1
theorem dksX7_emptyIn_0 : cX7_emptyIn.data.toList.drop 0 = dktX7_emptyIn_0 := by decide +kernel
theorem dksX7_emptyIn_1 : cX7_emptyIn.data.toList.drop 22 = dktX7_emptyIn_1 := dk_seg dksX7_emptyIn_0 22 rfl rfl
theorem dksX7_emptyIn_2 : cX7_emptyIn.data.toList.drop 46 = dktX7_emptyIn_2 := dk_seg dksX7_emptyIn_1 24 rfl rfl
theorem dX7_emptyIn_0 : decode cX7_emptyIn 0 = .ok (.aload_n 0, 1) := dk_42 (dk_at dksX7_emptyIn_0 0 rfl rfl)
theorem dX7_emptyIn_1 : decode cX7_emptyIn 1 = .ok (.iconst 0, 1) := dk_3 (dk_at dksX7_emptyIn_0 1 rfl rfl)
theorem dX7_emptyIn_2 : decode cX7_emptyIn 2 = .ok (.putfield 76, 3) := dk_181 0 76 (dk_at dksX7_emptyIn_0 2 rfl rfl)
theorem dX7_emptyIn_5 : decode cX7_emptyIn 5 = .ok (.aload_n 0, 1) := dk_42 (dk_at dksX7_emptyIn_0 5 rfl rfl)
theorem dX7_emptyIn_6 : decode cX7_emptyIn 6 = .ok (.invokevirtual 362, 3) := dk_182 1 106 (dk_at dksX7_emptyIn_0 6 rfl rfl)
theorem dX7_emptyIn_9 : decode cX7_emptyIn 9 = .ok (.iconst 0, 1) := dk_3 (dk_at dksX7_emptyIn_0 9 rfl rfl)
theorem dX7_emptyIn_10 : decode cX7_emptyIn 10 = .ok (.istore_n 1, 1) := dk_60 (dk_at dksX7_emptyIn_0 10 rfl rfl)
theorem dX7_emptyIn_11 : decode cX7_emptyIn 11 = .ok (.iload_n 1, 1) := dk_27 (dk_at dksX7_emptyIn_0 11 rfl rfl)
theorem dX7_emptyIn_12 : decode cX7_emptyIn 12 = .ok (.sipush 2000, 3) := dk_17 7 208 (dk_at dksX7_emptyIn_0 12 rfl rfl)
theorem dX7_emptyIn_15 : decode cX7_emptyIn 15 = .ok (.if_icmp .gt 26, 3) := dk_163 0 26 (dk_at dksX7_emptyIn_0 15 rfl rfl)
theorem dX7_emptyIn_18 : decode cX7_emptyIn 18 = .ok (.aload_n 0, 1) := dk_42 (dk_at dksX7_emptyIn_0 18 rfl rfl)
theorem dX7_emptyIn_19 : decode cX7_emptyIn 19 = .ok (.invokevirtual 326, 3) := dk_182 1 70 (dk_at dksX7_emptyIn_0 19 rfl rfl)
theorem dX7_emptyIn_22 : decode cX7_emptyIn 22 = .ok (.ifCond .ne 9, 3) := dk_154 0 9 (dk_at dksX7_emptyIn_1 0 rfl rfl)
theorem dX7_emptyIn_25 : decode cX7_emptyIn 25 = .ok (.aload_n 0, 1) := dk_42 (dk_at dksX7_emptyIn_1 3 rfl rfl)
theorem dX7_emptyIn_26 : decode cX7_emptyIn 26 = .ok (.iload_n 1, 1) := dk_27 (dk_at dksX7_emptyIn_1 4 rfl rfl)
theorem dX7_emptyIn_27 : decode cX7_emptyIn 27 = .ok (.invokevirtual 365, 3) := dk_182 1 109 (dk_at dksX7_emptyIn_1 5 rfl rfl)
theorem dX7_emptyIn_30 : decode cX7_emptyIn 30 = .ok (.ireturn, 1) := dk_172 (dk_at dksX7_emptyIn_1 8 rfl rfl)
theorem dX7_emptyIn_31 : decode cX7_emptyIn 31 = .ok (.aload_n 0, 1) := dk_42 (dk_at dksX7_emptyIn_1 9 rfl rfl)
theorem dX7_emptyIn_32 : decode cX7_emptyIn 32 = .ok (.invokevirtual 153, 3) := dk_182 0 153 (dk_at dksX7_emptyIn_1 10 rfl rfl)
theorem dX7_emptyIn_35 : decode cX7_emptyIn 35 = .ok (.iinc 1 1, 3) := dk_132 1 1 (dk_at dksX7_emptyIn_1 13 rfl rfl)
theorem dX7_emptyIn_38 : decode cX7_emptyIn 38 = .ok (.goto (-27), 3) := dk_167 255 229 (dk_at dksX7_emptyIn_1 16 rfl rfl)
theorem dX7_emptyIn_41 : decode cX7_emptyIn 41 = .ok (.aload_n 0, 1) := dk_42 (dk_at dksX7_emptyIn_1 19 rfl rfl)
theorem dX7_emptyIn_42 : decode cX7_emptyIn 42 = .ok (.iconst (-1), 1) := dk_2 (dk_at dksX7_emptyIn_1 20 rfl rfl)
theorem dX7_emptyIn_43 : decode cX7_emptyIn 43 = .ok (.invokevirtual 365, 3) := dk_182 1 109 (dk_at dksX7_emptyIn_1 21 rfl rfl)
theorem dX7_emptyIn_46 : decode cX7_emptyIn 46 = .ok (.ireturn, 1) := dk_172 (dk_at dksX7_emptyIn_2 0 rfl rfl)
abbrev cX7_ifRule : ByteArray := prog_19_method_88_code
def yX7_ifRule : MethodName := ⟨RX7, "ifRule", "(III)I"⟩
def dkwX7_ifRule_2 : List UInt8 := [42, 27, 28, 29, 182, 1, 115, 167, 0, 4, 3, 172]
abbrev dktX7_ifRule_2 : List UInt8 := dkwX7_ifRule_2 ++ []
def dkwX7_ifRule_1 : List UInt8 := [153, 0, 17, 29, 3, 16, 7, 184, 0, 83, 153, 0, 7, 4, 167, 0, 4, 3, 182, 1, 66, 153, 0, 13]
abbrev dktX7_ifRule_1 : List UInt8 := dkwX7_ifRule_1 ++ dktX7_ifRule_2
def dkwX7_ifRule_0 : List UInt8 := [42, 3, 181, 0, 76, 42, 27, 3, 5, 184, 0, 83, 153, 0, 28, 28, 3, 17, 1, 244, 184, 0, 83]
abbrev dktX7_ifRule_0 : List UInt8 := dkwX7_ifRule_0 ++ dktX7_ifRule_1
theorem dksX7_ifRule_0 : cX7_ifRule.data.toList.drop 0 = dktX7_ifRule_0 := by decide +kernel
theorem dksX7_ifRule_1 : cX7_ifRule.data.toList.drop 23 = dktX7_ifRule_1 := dk_seg dksX7_ifRule_0 23 rfl rfl
theorem dksX7_ifRule_2 : cX7_ifRule.data.toList.drop 47 = dktX7_ifRule_2 := dk_seg dksX7_ifRule_1 24 rfl rfl
theorem dX7_ifRule_0 : decode cX7_ifRule 0 = .ok (.aload_n 0, 1) := dk_42 (dk_at dksX7_ifRule_0 0 rfl rfl)
theorem dX7_ifRule_1 : decode cX7_ifRule 1 = .ok (.iconst 0, 1) := dk_3 (dk_at dksX7_ifRule_0 1 rfl rfl)
theorem dX7_ifRule_2 : decode cX7_ifRule 2 = .ok (.putfield 76, 3) := dk_181 0 76 (dk_at dksX7_ifRule_0 2 rfl rfl)
theorem dX7_ifRule_5 : decode cX7_ifRule 5 = .ok (.aload_n 0, 1) := dk_42 (dk_at dksX7_ifRule_0 5 rfl rfl)
theorem dX7_ifRule_6 : decode cX7_ifRule 6 = .ok (.iload_n 1, 1) := dk_27 (dk_at dksX7_ifRule_0 6 rfl rfl)
theorem dX7_ifRule_7 : decode cX7_ifRule 7 = .ok (.iconst 0, 1) := dk_3 (dk_at dksX7_ifRule_0 7 rfl rfl)
theorem dX7_ifRule_8 : decode cX7_ifRule 8 = .ok (.iconst 2, 1) := dk_5 (dk_at dksX7_ifRule_0 8 rfl rfl)
theorem dX7_ifRule_9 : decode cX7_ifRule 9 = .ok (.invokestatic 83, 3) := dk_184 0 83 (dk_at dksX7_ifRule_0 9 rfl rfl)
theorem dX7_ifRule_12 : decode cX7_ifRule 12 = .ok (.ifCond .eq 28, 3) := dk_153 0 28 (dk_at dksX7_ifRule_0 12 rfl rfl)
theorem dX7_ifRule_15 : decode cX7_ifRule 15 = .ok (.iload_n 2, 1) := dk_28 (dk_at dksX7_ifRule_0 15 rfl rfl)
theorem dX7_ifRule_16 : decode cX7_ifRule 16 = .ok (.iconst 0, 1) := dk_3 (dk_at dksX7_ifRule_0 16 rfl rfl)
theorem dX7_ifRule_17 : decode cX7_ifRule 17 = .ok (.sipush 500, 3) := dk_17 1 244 (dk_at dksX7_ifRule_0 17 rfl rfl)
theorem dX7_ifRule_20 : decode cX7_ifRule 20 = .ok (.invokestatic 83, 3) := dk_184 0 83 (dk_at dksX7_ifRule_0 20 rfl rfl)
theorem dX7_ifRule_23 : decode cX7_ifRule 23 = .ok (.ifCond .eq 17, 3) := dk_153 0 17 (dk_at dksX7_ifRule_1 0 rfl rfl)
theorem dX7_ifRule_26 : decode cX7_ifRule 26 = .ok (.iload_n 3, 1) := dk_29 (dk_at dksX7_ifRule_1 3 rfl rfl)
theorem dX7_ifRule_27 : decode cX7_ifRule 27 = .ok (.iconst 0, 1) := dk_3 (dk_at dksX7_ifRule_1 4 rfl rfl)
theorem dX7_ifRule_28 : decode cX7_ifRule 28 = .ok (.bipush 7, 2) := dk_16 7 (dk_at dksX7_ifRule_1 5 rfl rfl)
theorem dX7_ifRule_30 : decode cX7_ifRule 30 = .ok (.invokestatic 83, 3) := dk_184 0 83 (dk_at dksX7_ifRule_1 7 rfl rfl)
theorem dX7_ifRule_33 : decode cX7_ifRule 33 = .ok (.ifCond .eq 7, 3) := dk_153 0 7 (dk_at dksX7_ifRule_1 10 rfl rfl)
theorem dX7_ifRule_36 : decode cX7_ifRule 36 = .ok (.iconst 1, 1) := dk_4 (dk_at dksX7_ifRule_1 13 rfl rfl)
theorem dX7_ifRule_37 : decode cX7_ifRule 37 = .ok (.goto 4, 3) := dk_167 0 4 (dk_at dksX7_ifRule_1 14 rfl rfl)
theorem dX7_ifRule_40 : decode cX7_ifRule 40 = .ok (.iconst 0, 1) := dk_3 (dk_at dksX7_ifRule_1 17 rfl rfl)
theorem dX7_ifRule_41 : decode cX7_ifRule 41 = .ok (.invokevirtual 322, 3) := dk_182 1 66 (dk_at dksX7_ifRule_1 18 rfl rfl)
theorem dX7_ifRule_44 : decode cX7_ifRule 44 = .ok (.ifCond .eq 13, 3) := dk_153 0 13 (dk_at dksX7_ifRule_1 21 rfl rfl)
theorem dX7_ifRule_47 : decode cX7_ifRule 47 = .ok (.aload_n 0, 1) := dk_42 (dk_at dksX7_ifRule_2 0 rfl rfl)
theorem dX7_ifRule_48 : decode cX7_ifRule 48 = .ok (.iload_n 1, 1) := dk_27 (dk_at dksX7_ifRule_2 1 rfl rfl)
theorem dX7_ifRule_49 : decode cX7_ifRule 49 = .ok (.iload_n 2, 1) := dk_28 (dk_at dksX7_ifRule_2 2 rfl rfl)
theorem dX7_ifRule_50 : decode cX7_ifRule 50 = .ok (.iload_n 3, 1) := dk_29 (dk_at dksX7_ifRule_2 3 rfl rfl)
theorem dX7_ifRule_51 : decode cX7_ifRule 51 = .ok (.invokevirtual 371, 3) := dk_182 1 115 (dk_at dksX7_ifRule_2 4 rfl rfl)
theorem dX7_ifRule_54 : decode cX7_ifRule 54 = .ok (.goto 4, 3) := dk_167 0 4 (dk_at dksX7_ifRule_2 7 rfl rfl)
theorem dX7_ifRule_57 : decode cX7_ifRule 57 = .ok (.iconst 0, 1) := dk_3 (dk_at dksX7_ifRule_2 10 rfl rfl)
theorem dX7_ifRule_58 : decode cX7_ifRule 58 = .ok (.ireturn, 1) := dk_172 (dk_at dksX7_ifRule_2 11 rfl rfl)
abbrev cX7_grownBy : ByteArray := prog_19_method_87_code
def yX7_grownBy : MethodName := ⟨RX7, "grownBy", "(III)I"⟩
def dkwX7_grownBy_1 : List UInt8 := [42, 42, 180, 0, 7, 16, 10, 29, 96, 46, 42, 180, 0, 13, 16, 10, 29, 96, 46, 100, 182, 1, 109, 172]
abbrev dktX7_grownBy_1 : List UInt8 := dkwX7_grownBy_1 ++ []
def dkwX7_grownBy_0 : List UInt8 := [29, 16, 7, 160, 0, 5, 3, 172, 42, 182, 1, 106, 42, 180, 0, 7, 5, 27, 79, 42, 28, 182, 1, 112]
abbrev dktX7_grownBy_0 : List UInt8 := dkwX7_grownBy_0 ++ dktX7_grownBy_1
theorem dksX7_grownBy_0 : cX7_grownBy.data.toList.drop 0 = dktX7_grownBy_0 := by decide +kernel
theorem dksX7_grownBy_1 : cX7_grownBy.data.toList.drop 24 = dktX7_grownBy_1 := dk_seg dksX7_grownBy_0 24 rfl rfl
theorem dX7_grownBy_0 : decode cX7_grownBy 0 = .ok (.iload_n 3, 1) := dk_29 (dk_at dksX7_grownBy_0 0 rfl rfl)
theorem dX7_grownBy_1 : decode cX7_grownBy 1 = .ok (.bipush 7, 2) := dk_16 7 (dk_at dksX7_grownBy_0 1 rfl rfl)
theorem dX7_grownBy_3 : decode cX7_grownBy 3 = .ok (.if_icmp .ne 5, 3) := dk_160 0 5 (dk_at dksX7_grownBy_0 3 rfl rfl)
theorem dX7_grownBy_6 : decode cX7_grownBy 6 = .ok (.iconst 0, 1) := dk_3 (dk_at dksX7_grownBy_0 6 rfl rfl)
theorem dX7_grownBy_7 : decode cX7_grownBy 7 = .ok (.ireturn, 1) := dk_172 (dk_at dksX7_grownBy_0 7 rfl rfl)
theorem dX7_grownBy_8 : decode cX7_grownBy 8 = .ok (.aload_n 0, 1) := dk_42 (dk_at dksX7_grownBy_0 8 rfl rfl)
theorem dX7_grownBy_9 : decode cX7_grownBy 9 = .ok (.invokevirtual 362, 3) := dk_182 1 106 (dk_at dksX7_grownBy_0 9 rfl rfl)
theorem dX7_grownBy_12 : decode cX7_grownBy 12 = .ok (.aload_n 0, 1) := dk_42 (dk_at dksX7_grownBy_0 12 rfl rfl)
theorem dX7_grownBy_13 : decode cX7_grownBy 13 = .ok (.getfield 7, 3) := dk_180 0 7 (dk_at dksX7_grownBy_0 13 rfl rfl)
theorem dX7_grownBy_16 : decode cX7_grownBy 16 = .ok (.iconst 2, 1) := dk_5 (dk_at dksX7_grownBy_0 16 rfl rfl)
theorem dX7_grownBy_17 : decode cX7_grownBy 17 = .ok (.iload_n 1, 1) := dk_27 (dk_at dksX7_grownBy_0 17 rfl rfl)
theorem dX7_grownBy_18 : decode cX7_grownBy 18 = .ok (.iastore, 1) := dk_79 (dk_at dksX7_grownBy_0 18 rfl rfl)
theorem dX7_grownBy_19 : decode cX7_grownBy 19 = .ok (.aload_n 0, 1) := dk_42 (dk_at dksX7_grownBy_0 19 rfl rfl)
theorem dX7_grownBy_20 : decode cX7_grownBy 20 = .ok (.iload_n 2, 1) := dk_28 (dk_at dksX7_grownBy_0 20 rfl rfl)
theorem dX7_grownBy_21 : decode cX7_grownBy 21 = .ok (.invokevirtual 368, 3) := dk_182 1 112 (dk_at dksX7_grownBy_0 21 rfl rfl)
theorem dX7_grownBy_24 : decode cX7_grownBy 24 = .ok (.aload_n 0, 1) := dk_42 (dk_at dksX7_grownBy_1 0 rfl rfl)
theorem dX7_grownBy_25 : decode cX7_grownBy 25 = .ok (.aload_n 0, 1) := dk_42 (dk_at dksX7_grownBy_1 1 rfl rfl)
theorem dX7_grownBy_26 : decode cX7_grownBy 26 = .ok (.getfield 7, 3) := dk_180 0 7 (dk_at dksX7_grownBy_1 2 rfl rfl)
theorem dX7_grownBy_29 : decode cX7_grownBy 29 = .ok (.bipush 10, 2) := dk_16 10 (dk_at dksX7_grownBy_1 5 rfl rfl)
theorem dX7_grownBy_31 : decode cX7_grownBy 31 = .ok (.iload_n 3, 1) := dk_29 (dk_at dksX7_grownBy_1 7 rfl rfl)
theorem dX7_grownBy_32 : decode cX7_grownBy 32 = .ok (.iadd, 1) := dk_96 (dk_at dksX7_grownBy_1 8 rfl rfl)
theorem dX7_grownBy_33 : decode cX7_grownBy 33 = .ok (.iaload, 1) := dk_46 (dk_at dksX7_grownBy_1 9 rfl rfl)
theorem dX7_grownBy_34 : decode cX7_grownBy 34 = .ok (.aload_n 0, 1) := dk_42 (dk_at dksX7_grownBy_1 10 rfl rfl)
theorem dX7_grownBy_35 : decode cX7_grownBy 35 = .ok (.getfield 13, 3) := dk_180 0 13 (dk_at dksX7_grownBy_1 11 rfl rfl)
theorem dX7_grownBy_38 : decode cX7_grownBy 38 = .ok (.bipush 10, 2) := dk_16 10 (dk_at dksX7_grownBy_1 14 rfl rfl)
theorem dX7_grownBy_40 : decode cX7_grownBy 40 = .ok (.iload_n 3, 1) := dk_29 (dk_at dksX7_grownBy_1 16 rfl rfl)
theorem dX7_grownBy_41 : decode cX7_grownBy 41 = .ok (.iadd, 1) := dk_96 (dk_at dksX7_grownBy_1 17 rfl rfl)
theorem dX7_grownBy_42 : decode cX7_grownBy 42 = .ok (.iaload, 1) := dk_46 (dk_at dksX7_grownBy_1 18 rfl rfl)
theorem dX7_grownBy_43 : decode cX7_grownBy 43 = .ok (.isub, 1) := dk_100 (dk_at dksX7_grownBy_1 19 rfl rfl)
theorem dX7_grownBy_44 : decode cX7_grownBy 44 = .ok (.invokevirtual 365, 3) := dk_182 1 109 (dk_at dksX7_grownBy_1 20 rfl rfl)
theorem dX7_grownBy_47 : decode cX7_grownBy 47 = .ok (.ireturn, 1) := dk_172 (dk_at dksX7_grownBy_1 23 rfl rfl)
abbrev cX7_bestRule : ByteArray := prog_19_method_89_code
def yX7_bestRule : MethodName := ⟨RX7, "bestRule", "(I)I"⟩
def dkwX7_bestRule_3 : List UInt8 := [167, 255, 222, 28, 172]
abbrev dktX7_bestRule_3 : List UInt8 := dkwX7_bestRule_3 ++ []
def dkwX7_bestRule_2 : List UInt8 := [182, 1, 115, 54, 5, 21, 5, 29, 161, 0, 6, 167, 0, 9, 21, 5, 62, 21, 4, 61, 132, 4, 1]
abbrev dktX7_bestRule_2 : List UInt8 := dkwX7_bestRule_2 ++ dktX7_bestRule_3
def dkwX7_bestRule_1 : List UInt8 := [42, 3, 27, 5, 182, 1, 115, 62, 4, 54, 4, 21, 4, 6, 162, 0, 34, 42, 21, 4, 27, 5]
abbrev dktX7_bestRule_1 : List UInt8 := dkwX7_bestRule_1 ++ dktX7_bestRule_2
def dkwX7_bestRule_0 : List UInt8 := [42, 3, 181, 0, 76, 42, 27, 3, 17, 1, 244, 184, 0, 83, 182, 1, 66, 154, 0, 5, 3, 172, 3, 61]
abbrev dktX7_bestRule_0 : List UInt8 := dkwX7_bestRule_0 ++ dktX7_bestRule_1
theorem dksX7_bestRule_0 : cX7_bestRule.data.toList.drop 0 = dktX7_bestRule_0 := by decide +kernel
theorem dksX7_bestRule_1 : cX7_bestRule.data.toList.drop 24 = dktX7_bestRule_1 := dk_seg dksX7_bestRule_0 24 rfl rfl
theorem dksX7_bestRule_2 : cX7_bestRule.data.toList.drop 46 = dktX7_bestRule_2 := dk_seg dksX7_bestRule_1 22 rfl rfl
theorem dksX7_bestRule_3 : cX7_bestRule.data.toList.drop 69 = dktX7_bestRule_3 := dk_seg dksX7_bestRule_2 23 rfl rfl
theorem dX7_bestRule_0 : decode cX7_bestRule 0 = .ok (.aload_n 0, 1) := dk_42 (dk_at dksX7_bestRule_0 0 rfl rfl)
theorem dX7_bestRule_1 : decode cX7_bestRule 1 = .ok (.iconst 0, 1) := dk_3 (dk_at dksX7_bestRule_0 1 rfl rfl)
theorem dX7_bestRule_2 : decode cX7_bestRule 2 = .ok (.putfield 76, 3) := dk_181 0 76 (dk_at dksX7_bestRule_0 2 rfl rfl)
theorem dX7_bestRule_5 : decode cX7_bestRule 5 = .ok (.aload_n 0, 1) := dk_42 (dk_at dksX7_bestRule_0 5 rfl rfl)
theorem dX7_bestRule_6 : decode cX7_bestRule 6 = .ok (.iload_n 1, 1) := dk_27 (dk_at dksX7_bestRule_0 6 rfl rfl)
theorem dX7_bestRule_7 : decode cX7_bestRule 7 = .ok (.iconst 0, 1) := dk_3 (dk_at dksX7_bestRule_0 7 rfl rfl)
theorem dX7_bestRule_8 : decode cX7_bestRule 8 = .ok (.sipush 500, 3) := dk_17 1 244 (dk_at dksX7_bestRule_0 8 rfl rfl)
theorem dX7_bestRule_11 : decode cX7_bestRule 11 = .ok (.invokestatic 83, 3) := dk_184 0 83 (dk_at dksX7_bestRule_0 11 rfl rfl)
theorem dX7_bestRule_14 : decode cX7_bestRule 14 = .ok (.invokevirtual 322, 3) := dk_182 1 66 (dk_at dksX7_bestRule_0 14 rfl rfl)
theorem dX7_bestRule_17 : decode cX7_bestRule 17 = .ok (.ifCond .ne 5, 3) := dk_154 0 5 (dk_at dksX7_bestRule_0 17 rfl rfl)
theorem dX7_bestRule_20 : decode cX7_bestRule 20 = .ok (.iconst 0, 1) := dk_3 (dk_at dksX7_bestRule_0 20 rfl rfl)
theorem dX7_bestRule_21 : decode cX7_bestRule 21 = .ok (.ireturn, 1) := dk_172 (dk_at dksX7_bestRule_0 21 rfl rfl)
theorem dX7_bestRule_22 : decode cX7_bestRule 22 = .ok (.iconst 0, 1) := dk_3 (dk_at dksX7_bestRule_0 22 rfl rfl)
theorem dX7_bestRule_23 : decode cX7_bestRule 23 = .ok (.istore_n 2, 1) := dk_61 (dk_at dksX7_bestRule_0 23 rfl rfl)
theorem dX7_bestRule_24 : decode cX7_bestRule 24 = .ok (.aload_n 0, 1) := dk_42 (dk_at dksX7_bestRule_1 0 rfl rfl)
theorem dX7_bestRule_25 : decode cX7_bestRule 25 = .ok (.iconst 0, 1) := dk_3 (dk_at dksX7_bestRule_1 1 rfl rfl)
theorem dX7_bestRule_26 : decode cX7_bestRule 26 = .ok (.iload_n 1, 1) := dk_27 (dk_at dksX7_bestRule_1 2 rfl rfl)
theorem dX7_bestRule_27 : decode cX7_bestRule 27 = .ok (.iconst 2, 1) := dk_5 (dk_at dksX7_bestRule_1 3 rfl rfl)
theorem dX7_bestRule_28 : decode cX7_bestRule 28 = .ok (.invokevirtual 371, 3) := dk_182 1 115 (dk_at dksX7_bestRule_1 4 rfl rfl)
theorem dX7_bestRule_31 : decode cX7_bestRule 31 = .ok (.istore_n 3, 1) := dk_62 (dk_at dksX7_bestRule_1 7 rfl rfl)
theorem dX7_bestRule_32 : decode cX7_bestRule 32 = .ok (.iconst 1, 1) := dk_4 (dk_at dksX7_bestRule_1 8 rfl rfl)
theorem dX7_bestRule_33 : decode cX7_bestRule 33 = .ok (.istore 4, 2) := dk_54 4 (dk_at dksX7_bestRule_1 9 rfl rfl)
theorem dX7_bestRule_35 : decode cX7_bestRule 35 = .ok (.iload 4, 2) := dk_21 4 (dk_at dksX7_bestRule_1 11 rfl rfl)
theorem dX7_bestRule_37 : decode cX7_bestRule 37 = .ok (.iconst 3, 1) := dk_6 (dk_at dksX7_bestRule_1 13 rfl rfl)
theorem dX7_bestRule_38 : decode cX7_bestRule 38 = .ok (.if_icmp .ge 34, 3) := dk_162 0 34 (dk_at dksX7_bestRule_1 14 rfl rfl)
theorem dX7_bestRule_41 : decode cX7_bestRule 41 = .ok (.aload_n 0, 1) := dk_42 (dk_at dksX7_bestRule_1 17 rfl rfl)
theorem dX7_bestRule_42 : decode cX7_bestRule 42 = .ok (.iload 4, 2) := dk_21 4 (dk_at dksX7_bestRule_1 18 rfl rfl)
theorem dX7_bestRule_44 : decode cX7_bestRule 44 = .ok (.iload_n 1, 1) := dk_27 (dk_at dksX7_bestRule_1 20 rfl rfl)
theorem dX7_bestRule_45 : decode cX7_bestRule 45 = .ok (.iconst 2, 1) := dk_5 (dk_at dksX7_bestRule_1 21 rfl rfl)
theorem dX7_bestRule_46 : decode cX7_bestRule 46 = .ok (.invokevirtual 371, 3) := dk_182 1 115 (dk_at dksX7_bestRule_2 0 rfl rfl)
theorem dX7_bestRule_49 : decode cX7_bestRule 49 = .ok (.istore 5, 2) := dk_54 5 (dk_at dksX7_bestRule_2 3 rfl rfl)
theorem dX7_bestRule_51 : decode cX7_bestRule 51 = .ok (.iload 5, 2) := dk_21 5 (dk_at dksX7_bestRule_2 5 rfl rfl)
theorem dX7_bestRule_53 : decode cX7_bestRule 53 = .ok (.iload_n 3, 1) := dk_29 (dk_at dksX7_bestRule_2 7 rfl rfl)
theorem dX7_bestRule_54 : decode cX7_bestRule 54 = .ok (.if_icmp .lt 6, 3) := dk_161 0 6 (dk_at dksX7_bestRule_2 8 rfl rfl)
theorem dX7_bestRule_57 : decode cX7_bestRule 57 = .ok (.goto 9, 3) := dk_167 0 9 (dk_at dksX7_bestRule_2 11 rfl rfl)
theorem dX7_bestRule_60 : decode cX7_bestRule 60 = .ok (.iload 5, 2) := dk_21 5 (dk_at dksX7_bestRule_2 14 rfl rfl)
theorem dX7_bestRule_62 : decode cX7_bestRule 62 = .ok (.istore_n 3, 1) := dk_62 (dk_at dksX7_bestRule_2 16 rfl rfl)
theorem dX7_bestRule_63 : decode cX7_bestRule 63 = .ok (.iload 4, 2) := dk_21 4 (dk_at dksX7_bestRule_2 17 rfl rfl)
theorem dX7_bestRule_65 : decode cX7_bestRule 65 = .ok (.istore_n 2, 1) := dk_61 (dk_at dksX7_bestRule_2 19 rfl rfl)
theorem dX7_bestRule_66 : decode cX7_bestRule 66 = .ok (.iinc 4 1, 3) := dk_132 4 1 (dk_at dksX7_bestRule_2 20 rfl rfl)
theorem dX7_bestRule_69 : decode cX7_bestRule 69 = .ok (.goto (-34), 3) := dk_167 255 222 (dk_at dksX7_bestRule_3 0 rfl rfl)
theorem dX7_bestRule_72 : decode cX7_bestRule 72 = .ok (.iload_n 2, 1) := dk_28 (dk_at dksX7_bestRule_3 3 rfl rfl)
theorem dX7_bestRule_73 : decode cX7_bestRule 73 = .ok (.ireturn, 1) := dk_172 (dk_at dksX7_bestRule_3 4 rfl rfl)
abbrev cX7_lightIn : ByteArray := prog_19_method_90_code
def yX7_lightIn : MethodName := ⟨RX7, "lightIn", "(II)I"⟩
def dkwX7_lightIn_2 : List UInt8 := [182, 1, 112, 42, 42, 27, 182, 0, 140, 182, 1, 109, 172]
abbrev dktX7_lightIn_2 : List UInt8 := dkwX7_lightIn_2 ++ []
def dkwX7_lightIn_1 : List UInt8 := [153, 0, 7, 4, 167, 0, 4, 3, 182, 1, 66, 154, 0, 5, 3, 172, 42, 182, 1, 106, 42, 28]
abbrev dktX7_lightIn_1 : List UInt8 := dkwX7_lightIn_1 ++ dktX7_lightIn_2
def dkwX7_lightIn_0 : List UInt8 := [42, 3, 181, 0, 76, 42, 42, 27, 182, 1, 73, 153, 0, 18, 28, 3, 17, 1, 244, 184, 0, 83]
abbrev dktX7_lightIn_0 : List UInt8 := dkwX7_lightIn_0 ++ dktX7_lightIn_1
theorem dksX7_lightIn_0 : cX7_lightIn.data.toList.drop 0 = dktX7_lightIn_0 := by decide +kernel
theorem dksX7_lightIn_1 : cX7_lightIn.data.toList.drop 22 = dktX7_lightIn_1 := dk_seg dksX7_lightIn_0 22 rfl rfl
theorem dksX7_lightIn_2 : cX7_lightIn.data.toList.drop 44 = dktX7_lightIn_2 := dk_seg dksX7_lightIn_1 22 rfl rfl
theorem dX7_lightIn_0 : decode cX7_lightIn 0 = .ok (.aload_n 0, 1) := dk_42 (dk_at dksX7_lightIn_0 0 rfl rfl)
theorem dX7_lightIn_1 : decode cX7_lightIn 1 = .ok (.iconst 0, 1) := dk_3 (dk_at dksX7_lightIn_0 1 rfl rfl)
theorem dX7_lightIn_2 : decode cX7_lightIn 2 = .ok (.putfield 76, 3) := dk_181 0 76 (dk_at dksX7_lightIn_0 2 rfl rfl)
theorem dX7_lightIn_5 : decode cX7_lightIn 5 = .ok (.aload_n 0, 1) := dk_42 (dk_at dksX7_lightIn_0 5 rfl rfl)
theorem dX7_lightIn_6 : decode cX7_lightIn 6 = .ok (.aload_n 0, 1) := dk_42 (dk_at dksX7_lightIn_0 6 rfl rfl)
theorem dX7_lightIn_7 : decode cX7_lightIn 7 = .ok (.iload_n 1, 1) := dk_27 (dk_at dksX7_lightIn_0 7 rfl rfl)
theorem dX7_lightIn_8 : decode cX7_lightIn 8 = .ok (.invokevirtual 329, 3) := dk_182 1 73 (dk_at dksX7_lightIn_0 8 rfl rfl)
theorem dX7_lightIn_11 : decode cX7_lightIn 11 = .ok (.ifCond .eq 18, 3) := dk_153 0 18 (dk_at dksX7_lightIn_0 11 rfl rfl)
theorem dX7_lightIn_14 : decode cX7_lightIn 14 = .ok (.iload_n 2, 1) := dk_28 (dk_at dksX7_lightIn_0 14 rfl rfl)
theorem dX7_lightIn_15 : decode cX7_lightIn 15 = .ok (.iconst 0, 1) := dk_3 (dk_at dksX7_lightIn_0 15 rfl rfl)
theorem dX7_lightIn_16 : decode cX7_lightIn 16 = .ok (.sipush 500, 3) := dk_17 1 244 (dk_at dksX7_lightIn_0 16 rfl rfl)
theorem dX7_lightIn_19 : decode cX7_lightIn 19 = .ok (.invokestatic 83, 3) := dk_184 0 83 (dk_at dksX7_lightIn_0 19 rfl rfl)
theorem dX7_lightIn_22 : decode cX7_lightIn 22 = .ok (.ifCond .eq 7, 3) := dk_153 0 7 (dk_at dksX7_lightIn_1 0 rfl rfl)
theorem dX7_lightIn_25 : decode cX7_lightIn 25 = .ok (.iconst 1, 1) := dk_4 (dk_at dksX7_lightIn_1 3 rfl rfl)
theorem dX7_lightIn_26 : decode cX7_lightIn 26 = .ok (.goto 4, 3) := dk_167 0 4 (dk_at dksX7_lightIn_1 4 rfl rfl)
theorem dX7_lightIn_29 : decode cX7_lightIn 29 = .ok (.iconst 0, 1) := dk_3 (dk_at dksX7_lightIn_1 7 rfl rfl)
theorem dX7_lightIn_30 : decode cX7_lightIn 30 = .ok (.invokevirtual 322, 3) := dk_182 1 66 (dk_at dksX7_lightIn_1 8 rfl rfl)
theorem dX7_lightIn_33 : decode cX7_lightIn 33 = .ok (.ifCond .ne 5, 3) := dk_154 0 5 (dk_at dksX7_lightIn_1 11 rfl rfl)
theorem dX7_lightIn_36 : decode cX7_lightIn 36 = .ok (.iconst 0, 1) := dk_3 (dk_at dksX7_lightIn_1 14 rfl rfl)
theorem dX7_lightIn_37 : decode cX7_lightIn 37 = .ok (.ireturn, 1) := dk_172 (dk_at dksX7_lightIn_1 15 rfl rfl)
theorem dX7_lightIn_38 : decode cX7_lightIn 38 = .ok (.aload_n 0, 1) := dk_42 (dk_at dksX7_lightIn_1 16 rfl rfl)
theorem dX7_lightIn_39 : decode cX7_lightIn 39 = .ok (.invokevirtual 362, 3) := dk_182 1 106 (dk_at dksX7_lightIn_1 17 rfl rfl)
theorem dX7_lightIn_42 : decode cX7_lightIn 42 = .ok (.aload_n 0, 1) := dk_42 (dk_at dksX7_lightIn_1 20 rfl rfl)
theorem dX7_lightIn_43 : decode cX7_lightIn 43 = .ok (.iload_n 2, 1) := dk_28 (dk_at dksX7_lightIn_1 21 rfl rfl)
theorem dX7_lightIn_44 : decode cX7_lightIn 44 = .ok (.invokevirtual 368, 3) := dk_182 1 112 (dk_at dksX7_lightIn_2 0 rfl rfl)
theorem dX7_lightIn_47 : decode cX7_lightIn 47 = .ok (.aload_n 0, 1) := dk_42 (dk_at dksX7_lightIn_2 3 rfl rfl)
theorem dX7_lightIn_48 : decode cX7_lightIn 48 = .ok (.aload_n 0, 1) := dk_42 (dk_at dksX7_lightIn_2 4 rfl rfl)
theorem dX7_lightIn_49 : decode cX7_lightIn 49 = .ok (.iload_n 1, 1) := dk_27 (dk_at dksX7_lightIn_2 5 rfl rfl)
theorem dX7_lightIn_50 : decode cX7_lightIn 50 = .ok (.invokevirtual 140, 3) := dk_182 0 140 (dk_at dksX7_lightIn_2 6 rfl rfl)
theorem dX7_lightIn_53 : decode cX7_lightIn 53 = .ok (.invokevirtual 365, 3) := dk_182 1 109 (dk_at dksX7_lightIn_2 9 rfl rfl)
theorem dX7_lightIn_56 : decode cX7_lightIn 56 = .ok (.ireturn, 1) := dk_172 (dk_at dksX7_lightIn_2 12 rfl rfl)
abbrev cX7_couldJoin : ByteArray := prog_19_method_91_code
def yX7_couldJoin : MethodName := ⟨RX7, "couldJoin", "(I)I"⟩
def dkwX7_couldJoin_2 : List UInt8 := [167, 255, 231, 28, 172]
abbrev dktX7_couldJoin_2 : List UInt8 := dkwX7_couldJoin_2 ++ []
def dkwX7_couldJoin_1 : List UInt8 := [42, 180, 0, 7, 6, 46, 162, 0, 21, 42, 27, 29, 182, 0, 211, 153, 0, 6, 132, 2, 1, 132, 3, 1]
abbrev dktX7_couldJoin_1 : List UInt8 := dkwX7_couldJoin_1 ++ dktX7_couldJoin_2
def dkwX7_couldJoin_0 : List UInt8 := [42, 3, 181, 0, 76, 42, 42, 27, 182, 1, 34, 182, 1, 66, 154, 0, 5, 3, 172, 3, 61, 3, 62, 29]
abbrev dktX7_couldJoin_0 : List UInt8 := dkwX7_couldJoin_0 ++ dktX7_couldJoin_1
theorem dksX7_couldJoin_0 : cX7_couldJoin.data.toList.drop 0 = dktX7_couldJoin_0 := by decide +kernel
theorem dksX7_couldJoin_1 : cX7_couldJoin.data.toList.drop 24 = dktX7_couldJoin_1 := dk_seg dksX7_couldJoin_0 24 rfl rfl
theorem dksX7_couldJoin_2 : cX7_couldJoin.data.toList.drop 48 = dktX7_couldJoin_2 := dk_seg dksX7_couldJoin_1 24 rfl rfl
theorem dX7_couldJoin_0 : decode cX7_couldJoin 0 = .ok (.aload_n 0, 1) := dk_42 (dk_at dksX7_couldJoin_0 0 rfl rfl)
theorem dX7_couldJoin_1 : decode cX7_couldJoin 1 = .ok (.iconst 0, 1) := dk_3 (dk_at dksX7_couldJoin_0 1 rfl rfl)
theorem dX7_couldJoin_2 : decode cX7_couldJoin 2 = .ok (.putfield 76, 3) := dk_181 0 76 (dk_at dksX7_couldJoin_0 2 rfl rfl)
theorem dX7_couldJoin_5 : decode cX7_couldJoin 5 = .ok (.aload_n 0, 1) := dk_42 (dk_at dksX7_couldJoin_0 5 rfl rfl)
theorem dX7_couldJoin_6 : decode cX7_couldJoin 6 = .ok (.aload_n 0, 1) := dk_42 (dk_at dksX7_couldJoin_0 6 rfl rfl)
theorem dX7_couldJoin_7 : decode cX7_couldJoin 7 = .ok (.iload_n 1, 1) := dk_27 (dk_at dksX7_couldJoin_0 7 rfl rfl)
theorem dX7_couldJoin_8 : decode cX7_couldJoin 8 = .ok (.invokevirtual 290, 3) := dk_182 1 34 (dk_at dksX7_couldJoin_0 8 rfl rfl)
theorem dX7_couldJoin_11 : decode cX7_couldJoin 11 = .ok (.invokevirtual 322, 3) := dk_182 1 66 (dk_at dksX7_couldJoin_0 11 rfl rfl)
theorem dX7_couldJoin_14 : decode cX7_couldJoin 14 = .ok (.ifCond .ne 5, 3) := dk_154 0 5 (dk_at dksX7_couldJoin_0 14 rfl rfl)
theorem dX7_couldJoin_17 : decode cX7_couldJoin 17 = .ok (.iconst 0, 1) := dk_3 (dk_at dksX7_couldJoin_0 17 rfl rfl)
theorem dX7_couldJoin_18 : decode cX7_couldJoin 18 = .ok (.ireturn, 1) := dk_172 (dk_at dksX7_couldJoin_0 18 rfl rfl)
theorem dX7_couldJoin_19 : decode cX7_couldJoin 19 = .ok (.iconst 0, 1) := dk_3 (dk_at dksX7_couldJoin_0 19 rfl rfl)
theorem dX7_couldJoin_20 : decode cX7_couldJoin 20 = .ok (.istore_n 2, 1) := dk_61 (dk_at dksX7_couldJoin_0 20 rfl rfl)
theorem dX7_couldJoin_21 : decode cX7_couldJoin 21 = .ok (.iconst 0, 1) := dk_3 (dk_at dksX7_couldJoin_0 21 rfl rfl)
theorem dX7_couldJoin_22 : decode cX7_couldJoin 22 = .ok (.istore_n 3, 1) := dk_62 (dk_at dksX7_couldJoin_0 22 rfl rfl)
theorem dX7_couldJoin_23 : decode cX7_couldJoin 23 = .ok (.iload_n 3, 1) := dk_29 (dk_at dksX7_couldJoin_0 23 rfl rfl)
theorem dX7_couldJoin_24 : decode cX7_couldJoin 24 = .ok (.aload_n 0, 1) := dk_42 (dk_at dksX7_couldJoin_1 0 rfl rfl)
theorem dX7_couldJoin_25 : decode cX7_couldJoin 25 = .ok (.getfield 7, 3) := dk_180 0 7 (dk_at dksX7_couldJoin_1 1 rfl rfl)
theorem dX7_couldJoin_28 : decode cX7_couldJoin 28 = .ok (.iconst 3, 1) := dk_6 (dk_at dksX7_couldJoin_1 4 rfl rfl)
theorem dX7_couldJoin_29 : decode cX7_couldJoin 29 = .ok (.iaload, 1) := dk_46 (dk_at dksX7_couldJoin_1 5 rfl rfl)
theorem dX7_couldJoin_30 : decode cX7_couldJoin 30 = .ok (.if_icmp .ge 21, 3) := dk_162 0 21 (dk_at dksX7_couldJoin_1 6 rfl rfl)
theorem dX7_couldJoin_33 : decode cX7_couldJoin 33 = .ok (.aload_n 0, 1) := dk_42 (dk_at dksX7_couldJoin_1 9 rfl rfl)
theorem dX7_couldJoin_34 : decode cX7_couldJoin 34 = .ok (.iload_n 1, 1) := dk_27 (dk_at dksX7_couldJoin_1 10 rfl rfl)
theorem dX7_couldJoin_35 : decode cX7_couldJoin 35 = .ok (.iload_n 3, 1) := dk_29 (dk_at dksX7_couldJoin_1 11 rfl rfl)
theorem dX7_couldJoin_36 : decode cX7_couldJoin 36 = .ok (.invokevirtual 211, 3) := dk_182 0 211 (dk_at dksX7_couldJoin_1 12 rfl rfl)
theorem dX7_couldJoin_39 : decode cX7_couldJoin 39 = .ok (.ifCond .eq 6, 3) := dk_153 0 6 (dk_at dksX7_couldJoin_1 15 rfl rfl)
theorem dX7_couldJoin_42 : decode cX7_couldJoin 42 = .ok (.iinc 2 1, 3) := dk_132 2 1 (dk_at dksX7_couldJoin_1 18 rfl rfl)
theorem dX7_couldJoin_45 : decode cX7_couldJoin 45 = .ok (.iinc 3 1, 3) := dk_132 3 1 (dk_at dksX7_couldJoin_1 21 rfl rfl)
theorem dX7_couldJoin_48 : decode cX7_couldJoin 48 = .ok (.goto (-25), 3) := dk_167 255 231 (dk_at dksX7_couldJoin_2 0 rfl rfl)
theorem dX7_couldJoin_51 : decode cX7_couldJoin 51 = .ok (.iload_n 2, 1) := dk_28 (dk_at dksX7_couldJoin_2 3 rfl rfl)
theorem dX7_couldJoin_52 : decode cX7_couldJoin 52 = .ok (.ireturn, 1) := dk_172 (dk_at dksX7_couldJoin_2 4 rfl rfl)
abbrev cX7_come : ByteArray := prog_19_method_96_code
def yX7_come : MethodName := ⟨RX7, "come", "(II)I"⟩
def dkwX7_come_1 : List UInt8 := [4, 167, 0, 4, 3, 182, 1, 66, 153, 0, 12, 42, 27, 28, 182, 1, 28, 167, 0, 4, 3, 172]
abbrev dktX7_come_1 : List UInt8 := dkwX7_come_1 ++ []
def dkwX7_come_0 : List UInt8 := [42, 3, 181, 0, 76, 42, 42, 27, 182, 1, 73, 153, 0, 17, 28, 4, 16, 99, 184, 0, 83, 153, 0, 7]
abbrev dktX7_come_0 : List UInt8 := dkwX7_come_0 ++ dktX7_come_1
theorem dksX7_come_0 : cX7_come.data.toList.drop 0 = dktX7_come_0 := by decide +kernel
theorem dksX7_come_1 : cX7_come.data.toList.drop 24 = dktX7_come_1 := dk_seg dksX7_come_0 24 rfl rfl
theorem dX7_come_0 : decode cX7_come 0 = .ok (.aload_n 0, 1) := dk_42 (dk_at dksX7_come_0 0 rfl rfl)
theorem dX7_come_1 : decode cX7_come 1 = .ok (.iconst 0, 1) := dk_3 (dk_at dksX7_come_0 1 rfl rfl)
theorem dX7_come_2 : decode cX7_come 2 = .ok (.putfield 76, 3) := dk_181 0 76 (dk_at dksX7_come_0 2 rfl rfl)
theorem dX7_come_5 : decode cX7_come 5 = .ok (.aload_n 0, 1) := dk_42 (dk_at dksX7_come_0 5 rfl rfl)
theorem dX7_come_6 : decode cX7_come 6 = .ok (.aload_n 0, 1) := dk_42 (dk_at dksX7_come_0 6 rfl rfl)
theorem dX7_come_7 : decode cX7_come 7 = .ok (.iload_n 1, 1) := dk_27 (dk_at dksX7_come_0 7 rfl rfl)
theorem dX7_come_8 : decode cX7_come 8 = .ok (.invokevirtual 329, 3) := dk_182 1 73 (dk_at dksX7_come_0 8 rfl rfl)
theorem dX7_come_11 : decode cX7_come 11 = .ok (.ifCond .eq 17, 3) := dk_153 0 17 (dk_at dksX7_come_0 11 rfl rfl)
theorem dX7_come_14 : decode cX7_come 14 = .ok (.iload_n 2, 1) := dk_28 (dk_at dksX7_come_0 14 rfl rfl)
theorem dX7_come_15 : decode cX7_come 15 = .ok (.iconst 1, 1) := dk_4 (dk_at dksX7_come_0 15 rfl rfl)
theorem dX7_come_16 : decode cX7_come 16 = .ok (.bipush 99, 2) := dk_16 99 (dk_at dksX7_come_0 16 rfl rfl)
theorem dX7_come_18 : decode cX7_come 18 = .ok (.invokestatic 83, 3) := dk_184 0 83 (dk_at dksX7_come_0 18 rfl rfl)
theorem dX7_come_21 : decode cX7_come 21 = .ok (.ifCond .eq 7, 3) := dk_153 0 7 (dk_at dksX7_come_0 21 rfl rfl)
theorem dX7_come_24 : decode cX7_come 24 = .ok (.iconst 1, 1) := dk_4 (dk_at dksX7_come_1 0 rfl rfl)
theorem dX7_come_25 : decode cX7_come 25 = .ok (.goto 4, 3) := dk_167 0 4 (dk_at dksX7_come_1 1 rfl rfl)
theorem dX7_come_28 : decode cX7_come 28 = .ok (.iconst 0, 1) := dk_3 (dk_at dksX7_come_1 4 rfl rfl)
theorem dX7_come_29 : decode cX7_come 29 = .ok (.invokevirtual 322, 3) := dk_182 1 66 (dk_at dksX7_come_1 5 rfl rfl)
theorem dX7_come_32 : decode cX7_come 32 = .ok (.ifCond .eq 12, 3) := dk_153 0 12 (dk_at dksX7_come_1 8 rfl rfl)
theorem dX7_come_35 : decode cX7_come 35 = .ok (.aload_n 0, 1) := dk_42 (dk_at dksX7_come_1 11 rfl rfl)
theorem dX7_come_36 : decode cX7_come 36 = .ok (.iload_n 1, 1) := dk_27 (dk_at dksX7_come_1 12 rfl rfl)
theorem dX7_come_37 : decode cX7_come 37 = .ok (.iload_n 2, 1) := dk_28 (dk_at dksX7_come_1 13 rfl rfl)
theorem dX7_come_38 : decode cX7_come 38 = .ok (.invokevirtual 284, 3) := dk_182 1 28 (dk_at dksX7_come_1 14 rfl rfl)
theorem dX7_come_41 : decode cX7_come 41 = .ok (.goto 4, 3) := dk_167 0 4 (dk_at dksX7_come_1 17 rfl rfl)
theorem dX7_come_44 : decode cX7_come 44 = .ok (.iconst 0, 1) := dk_3 (dk_at dksX7_come_1 20 rfl rfl)
theorem dX7_come_45 : decode cX7_come 45 = .ok (.ireturn, 1) := dk_172 (dk_at dksX7_come_1 21 rfl rfl)
abbrev cX7_pass : ByteArray := prog_19_method_98_code
def yX7_pass : MethodName := ⟨RX7, "pass", "(I)I"⟩
def dkwX7_pass_1 : List UInt8 := [167, 0, 4, 3, 172]
abbrev dktX7_pass_1 : List UInt8 := dkwX7_pass_1 ++ []
def dkwX7_pass_0 : List UInt8 := [42, 3, 181, 0, 76, 42, 27, 4, 16, 60, 184, 0, 83, 182, 1, 66, 153, 0, 11, 42, 27, 182, 1, 31]
abbrev dktX7_pass_0 : List UInt8 := dkwX7_pass_0 ++ dktX7_pass_1
theorem dksX7_pass_0 : cX7_pass.data.toList.drop 0 = dktX7_pass_0 := by decide +kernel
theorem dksX7_pass_1 : cX7_pass.data.toList.drop 24 = dktX7_pass_1 := dk_seg dksX7_pass_0 24 rfl rfl
theorem dX7_pass_0 : decode cX7_pass 0 = .ok (.aload_n 0, 1) := dk_42 (dk_at dksX7_pass_0 0 rfl rfl)
theorem dX7_pass_1 : decode cX7_pass 1 = .ok (.iconst 0, 1) := dk_3 (dk_at dksX7_pass_0 1 rfl rfl)
theorem dX7_pass_2 : decode cX7_pass 2 = .ok (.putfield 76, 3) := dk_181 0 76 (dk_at dksX7_pass_0 2 rfl rfl)
theorem dX7_pass_5 : decode cX7_pass 5 = .ok (.aload_n 0, 1) := dk_42 (dk_at dksX7_pass_0 5 rfl rfl)
theorem dX7_pass_6 : decode cX7_pass 6 = .ok (.iload_n 1, 1) := dk_27 (dk_at dksX7_pass_0 6 rfl rfl)
theorem dX7_pass_7 : decode cX7_pass 7 = .ok (.iconst 1, 1) := dk_4 (dk_at dksX7_pass_0 7 rfl rfl)
theorem dX7_pass_8 : decode cX7_pass 8 = .ok (.bipush 60, 2) := dk_16 60 (dk_at dksX7_pass_0 8 rfl rfl)
theorem dX7_pass_10 : decode cX7_pass 10 = .ok (.invokestatic 83, 3) := dk_184 0 83 (dk_at dksX7_pass_0 10 rfl rfl)
theorem dX7_pass_13 : decode cX7_pass 13 = .ok (.invokevirtual 322, 3) := dk_182 1 66 (dk_at dksX7_pass_0 13 rfl rfl)
theorem dX7_pass_16 : decode cX7_pass 16 = .ok (.ifCond .eq 11, 3) := dk_153 0 11 (dk_at dksX7_pass_0 16 rfl rfl)
theorem dX7_pass_19 : decode cX7_pass 19 = .ok (.aload_n 0, 1) := dk_42 (dk_at dksX7_pass_0 19 rfl rfl)
theorem dX7_pass_20 : decode cX7_pass 20 = .ok (.iload_n 1, 1) := dk_27 (dk_at dksX7_pass_0 20 rfl rfl)
theorem dX7_pass_21 : decode cX7_pass 21 = .ok (.invokevirtual 287, 3) := dk_182 1 31 (dk_at dksX7_pass_0 21 rfl rfl)
theorem dX7_pass_24 : decode cX7_pass 24 = .ok (.goto 4, 3) := dk_167 0 4 (dk_at dksX7_pass_1 0 rfl rfl)
theorem dX7_pass_27 : decode cX7_pass 27 = .ok (.iconst 0, 1) := dk_3 (dk_at dksX7_pass_1 3 rfl rfl)
theorem dX7_pass_28 : decode cX7_pass 28 = .ok (.ireturn, 1) := dk_172 (dk_at dksX7_pass_1 4 rfl rfl)
abbrev cX7_call : ByteArray := prog_19_method_100_code
def yX7_call : MethodName := ⟨RX7, "call", "(I)I"⟩
def dkwX7_call_1 : List UInt8 := [167, 0, 4, 3, 172]
abbrev dktX7_call_1 : List UInt8 := dkwX7_call_1 ++ []
def dkwX7_call_0 : List UInt8 := [42, 3, 181, 0, 76, 42, 42, 27, 182, 1, 34, 182, 1, 66, 153, 0, 11, 42, 27, 182, 1, 37]
abbrev dktX7_call_0 : List UInt8 := dkwX7_call_0 ++ dktX7_call_1
theorem dksX7_call_0 : cX7_call.data.toList.drop 0 = dktX7_call_0 := by decide +kernel
theorem dksX7_call_1 : cX7_call.data.toList.drop 22 = dktX7_call_1 := dk_seg dksX7_call_0 22 rfl rfl
theorem dX7_call_0 : decode cX7_call 0 = .ok (.aload_n 0, 1) := dk_42 (dk_at dksX7_call_0 0 rfl rfl)
theorem dX7_call_1 : decode cX7_call 1 = .ok (.iconst 0, 1) := dk_3 (dk_at dksX7_call_0 1 rfl rfl)
theorem dX7_call_2 : decode cX7_call 2 = .ok (.putfield 76, 3) := dk_181 0 76 (dk_at dksX7_call_0 2 rfl rfl)
theorem dX7_call_5 : decode cX7_call 5 = .ok (.aload_n 0, 1) := dk_42 (dk_at dksX7_call_0 5 rfl rfl)
theorem dX7_call_6 : decode cX7_call 6 = .ok (.aload_n 0, 1) := dk_42 (dk_at dksX7_call_0 6 rfl rfl)
theorem dX7_call_7 : decode cX7_call 7 = .ok (.iload_n 1, 1) := dk_27 (dk_at dksX7_call_0 7 rfl rfl)
theorem dX7_call_8 : decode cX7_call 8 = .ok (.invokevirtual 290, 3) := dk_182 1 34 (dk_at dksX7_call_0 8 rfl rfl)
theorem dX7_call_11 : decode cX7_call 11 = .ok (.invokevirtual 322, 3) := dk_182 1 66 (dk_at dksX7_call_0 11 rfl rfl)
theorem dX7_call_14 : decode cX7_call 14 = .ok (.ifCond .eq 11, 3) := dk_153 0 11 (dk_at dksX7_call_0 14 rfl rfl)
theorem dX7_call_17 : decode cX7_call 17 = .ok (.aload_n 0, 1) := dk_42 (dk_at dksX7_call_0 17 rfl rfl)
theorem dX7_call_18 : decode cX7_call 18 = .ok (.iload_n 1, 1) := dk_27 (dk_at dksX7_call_0 18 rfl rfl)
theorem dX7_call_19 : decode cX7_call 19 = .ok (.invokevirtual 293, 3) := dk_182 1 37 (dk_at dksX7_call_0 19 rfl rfl)
theorem dX7_call_22 : decode cX7_call 22 = .ok (.goto 4, 3) := dk_167 0 4 (dk_at dksX7_call_1 0 rfl rfl)
theorem dX7_call_25 : decode cX7_call 25 = .ok (.iconst 0, 1) := dk_3 (dk_at dksX7_call_1 3 rfl rfl)
theorem dX7_call_26 : decode cX7_call 26 = .ok (.ireturn, 1) := dk_172 (dk_at dksX7_call_1 4 rfl rfl)
abbrev cX7_setBroken : ByteArray := prog_19_method_102_code
def yX7_setBroken : MethodName := ⟨RX7, "setBroken", "(IZ)I"⟩
def dkwX7_setBroken_1 : List UInt8 := [167, 0, 4, 3, 182, 1, 40, 167, 0, 4, 3, 172]
abbrev dktX7_setBroken_1 : List UInt8 := dkwX7_setBroken_1 ++ []
def dkwX7_setBroken_0 : List UInt8 := [42, 3, 181, 0, 76, 42, 42, 27, 182, 1, 73, 182, 1, 66, 153, 0, 20, 42, 27, 28, 153, 0, 7, 4]
abbrev dktX7_setBroken_0 : List UInt8 := dkwX7_setBroken_0 ++ dktX7_setBroken_1
theorem dksX7_setBroken_0 : cX7_setBroken.data.toList.drop 0 = dktX7_setBroken_0 := by decide +kernel
theorem dksX7_setBroken_1 : cX7_setBroken.data.toList.drop 24 = dktX7_setBroken_1 := dk_seg dksX7_setBroken_0 24 rfl rfl
theorem dX7_setBroken_0 : decode cX7_setBroken 0 = .ok (.aload_n 0, 1) := dk_42 (dk_at dksX7_setBroken_0 0 rfl rfl)
theorem dX7_setBroken_1 : decode cX7_setBroken 1 = .ok (.iconst 0, 1) := dk_3 (dk_at dksX7_setBroken_0 1 rfl rfl)
theorem dX7_setBroken_2 : decode cX7_setBroken 2 = .ok (.putfield 76, 3) := dk_181 0 76 (dk_at dksX7_setBroken_0 2 rfl rfl)
theorem dX7_setBroken_5 : decode cX7_setBroken 5 = .ok (.aload_n 0, 1) := dk_42 (dk_at dksX7_setBroken_0 5 rfl rfl)
theorem dX7_setBroken_6 : decode cX7_setBroken 6 = .ok (.aload_n 0, 1) := dk_42 (dk_at dksX7_setBroken_0 6 rfl rfl)
theorem dX7_setBroken_7 : decode cX7_setBroken 7 = .ok (.iload_n 1, 1) := dk_27 (dk_at dksX7_setBroken_0 7 rfl rfl)
theorem dX7_setBroken_8 : decode cX7_setBroken 8 = .ok (.invokevirtual 329, 3) := dk_182 1 73 (dk_at dksX7_setBroken_0 8 rfl rfl)
theorem dX7_setBroken_11 : decode cX7_setBroken 11 = .ok (.invokevirtual 322, 3) := dk_182 1 66 (dk_at dksX7_setBroken_0 11 rfl rfl)
theorem dX7_setBroken_14 : decode cX7_setBroken 14 = .ok (.ifCond .eq 20, 3) := dk_153 0 20 (dk_at dksX7_setBroken_0 14 rfl rfl)
theorem dX7_setBroken_17 : decode cX7_setBroken 17 = .ok (.aload_n 0, 1) := dk_42 (dk_at dksX7_setBroken_0 17 rfl rfl)
theorem dX7_setBroken_18 : decode cX7_setBroken 18 = .ok (.iload_n 1, 1) := dk_27 (dk_at dksX7_setBroken_0 18 rfl rfl)
theorem dX7_setBroken_19 : decode cX7_setBroken 19 = .ok (.iload_n 2, 1) := dk_28 (dk_at dksX7_setBroken_0 19 rfl rfl)
theorem dX7_setBroken_20 : decode cX7_setBroken 20 = .ok (.ifCond .eq 7, 3) := dk_153 0 7 (dk_at dksX7_setBroken_0 20 rfl rfl)
theorem dX7_setBroken_23 : decode cX7_setBroken 23 = .ok (.iconst 1, 1) := dk_4 (dk_at dksX7_setBroken_0 23 rfl rfl)
theorem dX7_setBroken_24 : decode cX7_setBroken 24 = .ok (.goto 4, 3) := dk_167 0 4 (dk_at dksX7_setBroken_1 0 rfl rfl)
theorem dX7_setBroken_27 : decode cX7_setBroken 27 = .ok (.iconst 0, 1) := dk_3 (dk_at dksX7_setBroken_1 3 rfl rfl)
theorem dX7_setBroken_28 : decode cX7_setBroken 28 = .ok (.invokevirtual 296, 3) := dk_182 1 40 (dk_at dksX7_setBroken_1 4 rfl rfl)
theorem dX7_setBroken_31 : decode cX7_setBroken 31 = .ok (.goto 4, 3) := dk_167 0 4 (dk_at dksX7_setBroken_1 7 rfl rfl)
theorem dX7_setBroken_34 : decode cX7_setBroken 34 = .ok (.iconst 0, 1) := dk_3 (dk_at dksX7_setBroken_1 10 rfl rfl)
theorem dX7_setBroken_35 : decode cX7_setBroken 35 = .ok (.ireturn, 1) := dk_172 (dk_at dksX7_setBroken_1 11 rfl rfl)
abbrev cX7_clash : ByteArray := prog_19_method_104_code
def yX7_clash : MethodName := ⟨RX7, "clash", "(IIZ)I"⟩
def dkwX7_clash_5 : List UInt8 := [172]
abbrev dktX7_clash_5 : List UInt8 := dkwX7_clash_5 ++ []
def dkwX7_clash_4 : List UInt8 := [162, 0, 20, 21, 4, 42, 21, 5, 182, 1, 79, 96, 54, 4, 132, 5, 1, 167, 255, 231, 21, 4, 5, 108]
abbrev dktX7_clash_4 : List UInt8 := dkwX7_clash_4 ++ dktX7_clash_5
def dkwX7_clash_3 : List UInt8 := [4, 167, 0, 4, 3, 182, 0, 205, 3, 54, 4, 3, 54, 5, 21, 5, 42, 180, 0, 7, 6, 46]
abbrev dktX7_clash_3 : List UInt8 := dkwX7_clash_3 ++ dktX7_clash_4
def dkwX7_clash_2 : List UInt8 := [182, 1, 124, 153, 0, 10, 42, 16, 251, 182, 1, 118, 172, 42, 182, 1, 121, 42, 27, 28, 29, 153, 0, 7]
abbrev dktX7_clash_2 : List UInt8 := dkwX7_clash_2 ++ dktX7_clash_3
def dkwX7_clash_1 : List UInt8 := [159, 0, 7, 4, 167, 0, 4, 3, 182, 1, 66, 154, 0, 5, 3, 172, 29, 153, 0, 19, 42, 27, 28]
abbrev dktX7_clash_1 : List UInt8 := dkwX7_clash_1 ++ dktX7_clash_2
def dkwX7_clash_0 : List UInt8 := [42, 3, 181, 0, 76, 42, 42, 27, 182, 1, 73, 153, 0, 20, 42, 28, 182, 1, 73, 153, 0, 12, 27, 28]
abbrev dktX7_clash_0 : List UInt8 := dkwX7_clash_0 ++ dktX7_clash_1
theorem dksX7_clash_0 : cX7_clash.data.toList.drop 0 = dktX7_clash_0 := by decide +kernel
theorem dksX7_clash_1 : cX7_clash.data.toList.drop 24 = dktX7_clash_1 := dk_seg dksX7_clash_0 24 rfl rfl
theorem dksX7_clash_2 : cX7_clash.data.toList.drop 47 = dktX7_clash_2 := dk_seg dksX7_clash_1 23 rfl rfl
theorem dksX7_clash_3 : cX7_clash.data.toList.drop 71 = dktX7_clash_3 := dk_seg dksX7_clash_2 24 rfl rfl
theorem dksX7_clash_4 : cX7_clash.data.toList.drop 93 = dktX7_clash_4 := dk_seg dksX7_clash_3 22 rfl rfl
theorem dksX7_clash_5 : cX7_clash.data.toList.drop 117 = dktX7_clash_5 := dk_seg dksX7_clash_4 24 rfl rfl
theorem dX7_clash_0 : decode cX7_clash 0 = .ok (.aload_n 0, 1) := dk_42 (dk_at dksX7_clash_0 0 rfl rfl)
theorem dX7_clash_1 : decode cX7_clash 1 = .ok (.iconst 0, 1) := dk_3 (dk_at dksX7_clash_0 1 rfl rfl)
theorem dX7_clash_2 : decode cX7_clash 2 = .ok (.putfield 76, 3) := dk_181 0 76 (dk_at dksX7_clash_0 2 rfl rfl)
theorem dX7_clash_5 : decode cX7_clash 5 = .ok (.aload_n 0, 1) := dk_42 (dk_at dksX7_clash_0 5 rfl rfl)
theorem dX7_clash_6 : decode cX7_clash 6 = .ok (.aload_n 0, 1) := dk_42 (dk_at dksX7_clash_0 6 rfl rfl)
theorem dX7_clash_7 : decode cX7_clash 7 = .ok (.iload_n 1, 1) := dk_27 (dk_at dksX7_clash_0 7 rfl rfl)
theorem dX7_clash_8 : decode cX7_clash 8 = .ok (.invokevirtual 329, 3) := dk_182 1 73 (dk_at dksX7_clash_0 8 rfl rfl)
theorem dX7_clash_11 : decode cX7_clash 11 = .ok (.ifCond .eq 20, 3) := dk_153 0 20 (dk_at dksX7_clash_0 11 rfl rfl)
theorem dX7_clash_14 : decode cX7_clash 14 = .ok (.aload_n 0, 1) := dk_42 (dk_at dksX7_clash_0 14 rfl rfl)
theorem dX7_clash_15 : decode cX7_clash 15 = .ok (.iload_n 2, 1) := dk_28 (dk_at dksX7_clash_0 15 rfl rfl)
theorem dX7_clash_16 : decode cX7_clash 16 = .ok (.invokevirtual 329, 3) := dk_182 1 73 (dk_at dksX7_clash_0 16 rfl rfl)
theorem dX7_clash_19 : decode cX7_clash 19 = .ok (.ifCond .eq 12, 3) := dk_153 0 12 (dk_at dksX7_clash_0 19 rfl rfl)
theorem dX7_clash_22 : decode cX7_clash 22 = .ok (.iload_n 1, 1) := dk_27 (dk_at dksX7_clash_0 22 rfl rfl)
theorem dX7_clash_23 : decode cX7_clash 23 = .ok (.iload_n 2, 1) := dk_28 (dk_at dksX7_clash_0 23 rfl rfl)
theorem dX7_clash_24 : decode cX7_clash 24 = .ok (.if_icmp .eq 7, 3) := dk_159 0 7 (dk_at dksX7_clash_1 0 rfl rfl)
theorem dX7_clash_27 : decode cX7_clash 27 = .ok (.iconst 1, 1) := dk_4 (dk_at dksX7_clash_1 3 rfl rfl)
theorem dX7_clash_28 : decode cX7_clash 28 = .ok (.goto 4, 3) := dk_167 0 4 (dk_at dksX7_clash_1 4 rfl rfl)
theorem dX7_clash_31 : decode cX7_clash 31 = .ok (.iconst 0, 1) := dk_3 (dk_at dksX7_clash_1 7 rfl rfl)
theorem dX7_clash_32 : decode cX7_clash 32 = .ok (.invokevirtual 322, 3) := dk_182 1 66 (dk_at dksX7_clash_1 8 rfl rfl)
theorem dX7_clash_35 : decode cX7_clash 35 = .ok (.ifCond .ne 5, 3) := dk_154 0 5 (dk_at dksX7_clash_1 11 rfl rfl)
theorem dX7_clash_38 : decode cX7_clash 38 = .ok (.iconst 0, 1) := dk_3 (dk_at dksX7_clash_1 14 rfl rfl)
theorem dX7_clash_39 : decode cX7_clash 39 = .ok (.ireturn, 1) := dk_172 (dk_at dksX7_clash_1 15 rfl rfl)
theorem dX7_clash_40 : decode cX7_clash 40 = .ok (.iload_n 3, 1) := dk_29 (dk_at dksX7_clash_1 16 rfl rfl)
theorem dX7_clash_41 : decode cX7_clash 41 = .ok (.ifCond .eq 19, 3) := dk_153 0 19 (dk_at dksX7_clash_1 17 rfl rfl)
theorem dX7_clash_44 : decode cX7_clash 44 = .ok (.aload_n 0, 1) := dk_42 (dk_at dksX7_clash_1 20 rfl rfl)
theorem dX7_clash_45 : decode cX7_clash 45 = .ok (.iload_n 1, 1) := dk_27 (dk_at dksX7_clash_1 21 rfl rfl)
theorem dX7_clash_46 : decode cX7_clash 46 = .ok (.iload_n 2, 1) := dk_28 (dk_at dksX7_clash_1 22 rfl rfl)
theorem dX7_clash_47 : decode cX7_clash 47 = .ok (.invokevirtual 380, 3) := dk_182 1 124 (dk_at dksX7_clash_2 0 rfl rfl)
theorem dX7_clash_50 : decode cX7_clash 50 = .ok (.ifCond .eq 10, 3) := dk_153 0 10 (dk_at dksX7_clash_2 3 rfl rfl)
theorem dX7_clash_53 : decode cX7_clash 53 = .ok (.aload_n 0, 1) := dk_42 (dk_at dksX7_clash_2 6 rfl rfl)
theorem dX7_clash_54 : decode cX7_clash 54 = .ok (.bipush (-5), 2) := dk_16 251 (dk_at dksX7_clash_2 7 rfl rfl)
theorem dX7_clash_56 : decode cX7_clash 56 = .ok (.invokevirtual 374, 3) := dk_182 1 118 (dk_at dksX7_clash_2 9 rfl rfl)
theorem dX7_clash_59 : decode cX7_clash 59 = .ok (.ireturn, 1) := dk_172 (dk_at dksX7_clash_2 12 rfl rfl)
theorem dX7_clash_60 : decode cX7_clash 60 = .ok (.aload_n 0, 1) := dk_42 (dk_at dksX7_clash_2 13 rfl rfl)
theorem dX7_clash_61 : decode cX7_clash 61 = .ok (.invokevirtual 377, 3) := dk_182 1 121 (dk_at dksX7_clash_2 14 rfl rfl)
theorem dX7_clash_64 : decode cX7_clash 64 = .ok (.aload_n 0, 1) := dk_42 (dk_at dksX7_clash_2 17 rfl rfl)
theorem dX7_clash_65 : decode cX7_clash 65 = .ok (.iload_n 1, 1) := dk_27 (dk_at dksX7_clash_2 18 rfl rfl)
theorem dX7_clash_66 : decode cX7_clash 66 = .ok (.iload_n 2, 1) := dk_28 (dk_at dksX7_clash_2 19 rfl rfl)
theorem dX7_clash_67 : decode cX7_clash 67 = .ok (.iload_n 3, 1) := dk_29 (dk_at dksX7_clash_2 20 rfl rfl)
theorem dX7_clash_68 : decode cX7_clash 68 = .ok (.ifCond .eq 7, 3) := dk_153 0 7 (dk_at dksX7_clash_2 21 rfl rfl)
theorem dX7_clash_71 : decode cX7_clash 71 = .ok (.iconst 1, 1) := dk_4 (dk_at dksX7_clash_3 0 rfl rfl)
theorem dX7_clash_72 : decode cX7_clash 72 = .ok (.goto 4, 3) := dk_167 0 4 (dk_at dksX7_clash_3 1 rfl rfl)
theorem dX7_clash_75 : decode cX7_clash 75 = .ok (.iconst 0, 1) := dk_3 (dk_at dksX7_clash_3 4 rfl rfl)
theorem dX7_clash_76 : decode cX7_clash 76 = .ok (.invokevirtual 205, 3) := dk_182 0 205 (dk_at dksX7_clash_3 5 rfl rfl)
theorem dX7_clash_79 : decode cX7_clash 79 = .ok (.iconst 0, 1) := dk_3 (dk_at dksX7_clash_3 8 rfl rfl)
theorem dX7_clash_80 : decode cX7_clash 80 = .ok (.istore 4, 2) := dk_54 4 (dk_at dksX7_clash_3 9 rfl rfl)
theorem dX7_clash_82 : decode cX7_clash 82 = .ok (.iconst 0, 1) := dk_3 (dk_at dksX7_clash_3 11 rfl rfl)
theorem dX7_clash_83 : decode cX7_clash 83 = .ok (.istore 5, 2) := dk_54 5 (dk_at dksX7_clash_3 12 rfl rfl)
theorem dX7_clash_85 : decode cX7_clash 85 = .ok (.iload 5, 2) := dk_21 5 (dk_at dksX7_clash_3 14 rfl rfl)
theorem dX7_clash_87 : decode cX7_clash 87 = .ok (.aload_n 0, 1) := dk_42 (dk_at dksX7_clash_3 16 rfl rfl)
theorem dX7_clash_88 : decode cX7_clash 88 = .ok (.getfield 7, 3) := dk_180 0 7 (dk_at dksX7_clash_3 17 rfl rfl)
theorem dX7_clash_91 : decode cX7_clash 91 = .ok (.iconst 3, 1) := dk_6 (dk_at dksX7_clash_3 20 rfl rfl)
theorem dX7_clash_92 : decode cX7_clash 92 = .ok (.iaload, 1) := dk_46 (dk_at dksX7_clash_3 21 rfl rfl)
theorem dX7_clash_93 : decode cX7_clash 93 = .ok (.if_icmp .ge 20, 3) := dk_162 0 20 (dk_at dksX7_clash_4 0 rfl rfl)
theorem dX7_clash_96 : decode cX7_clash 96 = .ok (.iload 4, 2) := dk_21 4 (dk_at dksX7_clash_4 3 rfl rfl)
theorem dX7_clash_98 : decode cX7_clash 98 = .ok (.aload_n 0, 1) := dk_42 (dk_at dksX7_clash_4 5 rfl rfl)
theorem dX7_clash_99 : decode cX7_clash 99 = .ok (.iload 5, 2) := dk_21 5 (dk_at dksX7_clash_4 6 rfl rfl)
theorem dX7_clash_101 : decode cX7_clash 101 = .ok (.invokevirtual 335, 3) := dk_182 1 79 (dk_at dksX7_clash_4 8 rfl rfl)
theorem dX7_clash_104 : decode cX7_clash 104 = .ok (.iadd, 1) := dk_96 (dk_at dksX7_clash_4 11 rfl rfl)
theorem dX7_clash_105 : decode cX7_clash 105 = .ok (.istore 4, 2) := dk_54 4 (dk_at dksX7_clash_4 12 rfl rfl)
theorem dX7_clash_107 : decode cX7_clash 107 = .ok (.iinc 5 1, 3) := dk_132 5 1 (dk_at dksX7_clash_4 14 rfl rfl)
theorem dX7_clash_110 : decode cX7_clash 110 = .ok (.goto (-25), 3) := dk_167 255 231 (dk_at dksX7_clash_4 17 rfl rfl)
theorem dX7_clash_113 : decode cX7_clash 113 = .ok (.iload 4, 2) := dk_21 4 (dk_at dksX7_clash_4 20 rfl rfl)
theorem dX7_clash_115 : decode cX7_clash 115 = .ok (.iconst 2, 1) := dk_5 (dk_at dksX7_clash_4 22 rfl rfl)
theorem dX7_clash_116 : decode cX7_clash 116 = .ok (.idiv, 1) := dk_108 (dk_at dksX7_clash_4 23 rfl rfl)
theorem dX7_clash_117 : decode cX7_clash 117 = .ok (.ireturn, 1) := dk_172 (dk_at dksX7_clash_5 0 rfl rfl)
abbrev cX7_areOfOnePhase : ByteArray := prog_19_method_103_code
def yX7_areOfOnePhase : MethodName := ⟨RX7, "areOfOnePhase", "(II)Z"⟩
def dkwX7_areOfOnePhase_1 : List UInt8 := [182, 0, 87, 153, 0, 5, 4, 172, 132, 3, 1, 167, 255, 223, 3, 172]
abbrev dktX7_areOfOnePhase_1 : List UInt8 := dkwX7_areOfOnePhase_1 ++ []
def dkwX7_areOfOnePhase_0 : List UInt8 := [3, 62, 29, 42, 180, 0, 7, 7, 46, 162, 0, 29, 42, 29, 27, 182, 0, 87, 153, 0, 14, 42, 29, 28]
abbrev dktX7_areOfOnePhase_0 : List UInt8 := dkwX7_areOfOnePhase_0 ++ dktX7_areOfOnePhase_1
theorem dksX7_areOfOnePhase_0 : cX7_areOfOnePhase.data.toList.drop 0 = dktX7_areOfOnePhase_0 := by decide +kernel
theorem dksX7_areOfOnePhase_1 : cX7_areOfOnePhase.data.toList.drop 24 = dktX7_areOfOnePhase_1 := dk_seg dksX7_areOfOnePhase_0 24 rfl rfl
theorem dX7_areOfOnePhase_0 : decode cX7_areOfOnePhase 0 = .ok (.iconst 0, 1) := dk_3 (dk_at dksX7_areOfOnePhase_0 0 rfl rfl)
theorem dX7_areOfOnePhase_1 : decode cX7_areOfOnePhase 1 = .ok (.istore_n 3, 1) := dk_62 (dk_at dksX7_areOfOnePhase_0 1 rfl rfl)
theorem dX7_areOfOnePhase_2 : decode cX7_areOfOnePhase 2 = .ok (.iload_n 3, 1) := dk_29 (dk_at dksX7_areOfOnePhase_0 2 rfl rfl)
theorem dX7_areOfOnePhase_3 : decode cX7_areOfOnePhase 3 = .ok (.aload_n 0, 1) := dk_42 (dk_at dksX7_areOfOnePhase_0 3 rfl rfl)
theorem dX7_areOfOnePhase_4 : decode cX7_areOfOnePhase 4 = .ok (.getfield 7, 3) := dk_180 0 7 (dk_at dksX7_areOfOnePhase_0 4 rfl rfl)
theorem dX7_areOfOnePhase_7 : decode cX7_areOfOnePhase 7 = .ok (.iconst 4, 1) := dk_7 (dk_at dksX7_areOfOnePhase_0 7 rfl rfl)
theorem dX7_areOfOnePhase_8 : decode cX7_areOfOnePhase 8 = .ok (.iaload, 1) := dk_46 (dk_at dksX7_areOfOnePhase_0 8 rfl rfl)
theorem dX7_areOfOnePhase_9 : decode cX7_areOfOnePhase 9 = .ok (.if_icmp .ge 29, 3) := dk_162 0 29 (dk_at dksX7_areOfOnePhase_0 9 rfl rfl)
theorem dX7_areOfOnePhase_12 : decode cX7_areOfOnePhase 12 = .ok (.aload_n 0, 1) := dk_42 (dk_at dksX7_areOfOnePhase_0 12 rfl rfl)
theorem dX7_areOfOnePhase_13 : decode cX7_areOfOnePhase 13 = .ok (.iload_n 3, 1) := dk_29 (dk_at dksX7_areOfOnePhase_0 13 rfl rfl)
theorem dX7_areOfOnePhase_14 : decode cX7_areOfOnePhase 14 = .ok (.iload_n 1, 1) := dk_27 (dk_at dksX7_areOfOnePhase_0 14 rfl rfl)
theorem dX7_areOfOnePhase_15 : decode cX7_areOfOnePhase 15 = .ok (.invokevirtual 87, 3) := dk_182 0 87 (dk_at dksX7_areOfOnePhase_0 15 rfl rfl)
theorem dX7_areOfOnePhase_18 : decode cX7_areOfOnePhase 18 = .ok (.ifCond .eq 14, 3) := dk_153 0 14 (dk_at dksX7_areOfOnePhase_0 18 rfl rfl)
theorem dX7_areOfOnePhase_21 : decode cX7_areOfOnePhase 21 = .ok (.aload_n 0, 1) := dk_42 (dk_at dksX7_areOfOnePhase_0 21 rfl rfl)
theorem dX7_areOfOnePhase_22 : decode cX7_areOfOnePhase 22 = .ok (.iload_n 3, 1) := dk_29 (dk_at dksX7_areOfOnePhase_0 22 rfl rfl)
theorem dX7_areOfOnePhase_23 : decode cX7_areOfOnePhase 23 = .ok (.iload_n 2, 1) := dk_28 (dk_at dksX7_areOfOnePhase_0 23 rfl rfl)
theorem dX7_areOfOnePhase_24 : decode cX7_areOfOnePhase 24 = .ok (.invokevirtual 87, 3) := dk_182 0 87 (dk_at dksX7_areOfOnePhase_1 0 rfl rfl)
theorem dX7_areOfOnePhase_27 : decode cX7_areOfOnePhase 27 = .ok (.ifCond .eq 5, 3) := dk_153 0 5 (dk_at dksX7_areOfOnePhase_1 3 rfl rfl)
theorem dX7_areOfOnePhase_30 : decode cX7_areOfOnePhase 30 = .ok (.iconst 1, 1) := dk_4 (dk_at dksX7_areOfOnePhase_1 6 rfl rfl)
theorem dX7_areOfOnePhase_31 : decode cX7_areOfOnePhase 31 = .ok (.ireturn, 1) := dk_172 (dk_at dksX7_areOfOnePhase_1 7 rfl rfl)
theorem dX7_areOfOnePhase_32 : decode cX7_areOfOnePhase 32 = .ok (.iinc 3 1, 3) := dk_132 3 1 (dk_at dksX7_areOfOnePhase_1 8 rfl rfl)
theorem dX7_areOfOnePhase_35 : decode cX7_areOfOnePhase 35 = .ok (.goto (-33), 3) := dk_167 255 223 (dk_at dksX7_areOfOnePhase_1 11 rfl rfl)
theorem dX7_areOfOnePhase_38 : decode cX7_areOfOnePhase 38 = .ok (.iconst 0, 1) := dk_3 (dk_at dksX7_areOfOnePhase_1 14 rfl rfl)
theorem dX7_areOfOnePhase_39 : decode cX7_areOfOnePhase 39 = .ok (.ireturn, 1) := dk_172 (dk_at dksX7_areOfOnePhase_1 15 rfl rfl)
abbrev cX7_setPhase : ByteArray := prog_19_method_106_code
def yX7_setPhase : MethodName := ⟨RX7, "setPhase", "(IZI)I"⟩
def dkwX7_setPhase_2 : List UInt8 := [28, 153, 0, 7, 3, 167, 0, 4, 4, 29, 182, 1, 46, 167, 0, 4, 3, 172]
abbrev dktX7_setPhase_2 : List UInt8 := dkwX7_setPhase_2 ++ []
def dkwX7_setPhase_1 : List UInt8 := [167, 0, 5, 16, 99, 184, 0, 83, 153, 0, 7, 4, 167, 0, 4, 3, 182, 1, 66, 153, 0, 21, 42, 27]
abbrev dktX7_setPhase_1 : List UInt8 := dkwX7_setPhase_1 ++ dktX7_setPhase_2
def dkwX7_setPhase_0 : List UInt8 := [42, 3, 181, 0, 76, 42, 42, 27, 182, 1, 34, 153, 0, 26, 29, 4, 28, 153, 0, 8, 16, 60]
abbrev dktX7_setPhase_0 : List UInt8 := dkwX7_setPhase_0 ++ dktX7_setPhase_1
theorem dksX7_setPhase_0 : cX7_setPhase.data.toList.drop 0 = dktX7_setPhase_0 := by decide +kernel
theorem dksX7_setPhase_1 : cX7_setPhase.data.toList.drop 22 = dktX7_setPhase_1 := dk_seg dksX7_setPhase_0 22 rfl rfl
theorem dksX7_setPhase_2 : cX7_setPhase.data.toList.drop 46 = dktX7_setPhase_2 := dk_seg dksX7_setPhase_1 24 rfl rfl
theorem dX7_setPhase_0 : decode cX7_setPhase 0 = .ok (.aload_n 0, 1) := dk_42 (dk_at dksX7_setPhase_0 0 rfl rfl)
theorem dX7_setPhase_1 : decode cX7_setPhase 1 = .ok (.iconst 0, 1) := dk_3 (dk_at dksX7_setPhase_0 1 rfl rfl)
theorem dX7_setPhase_2 : decode cX7_setPhase 2 = .ok (.putfield 76, 3) := dk_181 0 76 (dk_at dksX7_setPhase_0 2 rfl rfl)
theorem dX7_setPhase_5 : decode cX7_setPhase 5 = .ok (.aload_n 0, 1) := dk_42 (dk_at dksX7_setPhase_0 5 rfl rfl)
theorem dX7_setPhase_6 : decode cX7_setPhase 6 = .ok (.aload_n 0, 1) := dk_42 (dk_at dksX7_setPhase_0 6 rfl rfl)
theorem dX7_setPhase_7 : decode cX7_setPhase 7 = .ok (.iload_n 1, 1) := dk_27 (dk_at dksX7_setPhase_0 7 rfl rfl)
theorem dX7_setPhase_8 : decode cX7_setPhase 8 = .ok (.invokevirtual 290, 3) := dk_182 1 34 (dk_at dksX7_setPhase_0 8 rfl rfl)
theorem dX7_setPhase_11 : decode cX7_setPhase 11 = .ok (.ifCond .eq 26, 3) := dk_153 0 26 (dk_at dksX7_setPhase_0 11 rfl rfl)
theorem dX7_setPhase_14 : decode cX7_setPhase 14 = .ok (.iload_n 3, 1) := dk_29 (dk_at dksX7_setPhase_0 14 rfl rfl)
theorem dX7_setPhase_15 : decode cX7_setPhase 15 = .ok (.iconst 1, 1) := dk_4 (dk_at dksX7_setPhase_0 15 rfl rfl)
theorem dX7_setPhase_16 : decode cX7_setPhase 16 = .ok (.iload_n 2, 1) := dk_28 (dk_at dksX7_setPhase_0 16 rfl rfl)
theorem dX7_setPhase_17 : decode cX7_setPhase 17 = .ok (.ifCond .eq 8, 3) := dk_153 0 8 (dk_at dksX7_setPhase_0 17 rfl rfl)
theorem dX7_setPhase_20 : decode cX7_setPhase 20 = .ok (.bipush 60, 2) := dk_16 60 (dk_at dksX7_setPhase_0 20 rfl rfl)
theorem dX7_setPhase_22 : decode cX7_setPhase 22 = .ok (.goto 5, 3) := dk_167 0 5 (dk_at dksX7_setPhase_1 0 rfl rfl)
theorem dX7_setPhase_25 : decode cX7_setPhase 25 = .ok (.bipush 99, 2) := dk_16 99 (dk_at dksX7_setPhase_1 3 rfl rfl)
theorem dX7_setPhase_27 : decode cX7_setPhase 27 = .ok (.invokestatic 83, 3) := dk_184 0 83 (dk_at dksX7_setPhase_1 5 rfl rfl)
theorem dX7_setPhase_30 : decode cX7_setPhase 30 = .ok (.ifCond .eq 7, 3) := dk_153 0 7 (dk_at dksX7_setPhase_1 8 rfl rfl)
theorem dX7_setPhase_33 : decode cX7_setPhase 33 = .ok (.iconst 1, 1) := dk_4 (dk_at dksX7_setPhase_1 11 rfl rfl)
theorem dX7_setPhase_34 : decode cX7_setPhase 34 = .ok (.goto 4, 3) := dk_167 0 4 (dk_at dksX7_setPhase_1 12 rfl rfl)
theorem dX7_setPhase_37 : decode cX7_setPhase 37 = .ok (.iconst 0, 1) := dk_3 (dk_at dksX7_setPhase_1 15 rfl rfl)
theorem dX7_setPhase_38 : decode cX7_setPhase 38 = .ok (.invokevirtual 322, 3) := dk_182 1 66 (dk_at dksX7_setPhase_1 16 rfl rfl)
theorem dX7_setPhase_41 : decode cX7_setPhase 41 = .ok (.ifCond .eq 21, 3) := dk_153 0 21 (dk_at dksX7_setPhase_1 19 rfl rfl)
theorem dX7_setPhase_44 : decode cX7_setPhase 44 = .ok (.aload_n 0, 1) := dk_42 (dk_at dksX7_setPhase_1 22 rfl rfl)
theorem dX7_setPhase_45 : decode cX7_setPhase 45 = .ok (.iload_n 1, 1) := dk_27 (dk_at dksX7_setPhase_1 23 rfl rfl)
theorem dX7_setPhase_46 : decode cX7_setPhase 46 = .ok (.iload_n 2, 1) := dk_28 (dk_at dksX7_setPhase_2 0 rfl rfl)
theorem dX7_setPhase_47 : decode cX7_setPhase 47 = .ok (.ifCond .eq 7, 3) := dk_153 0 7 (dk_at dksX7_setPhase_2 1 rfl rfl)
theorem dX7_setPhase_50 : decode cX7_setPhase 50 = .ok (.iconst 0, 1) := dk_3 (dk_at dksX7_setPhase_2 4 rfl rfl)
theorem dX7_setPhase_51 : decode cX7_setPhase 51 = .ok (.goto 4, 3) := dk_167 0 4 (dk_at dksX7_setPhase_2 5 rfl rfl)
theorem dX7_setPhase_54 : decode cX7_setPhase 54 = .ok (.iconst 1, 1) := dk_4 (dk_at dksX7_setPhase_2 8 rfl rfl)
theorem dX7_setPhase_55 : decode cX7_setPhase 55 = .ok (.iload_n 3, 1) := dk_29 (dk_at dksX7_setPhase_2 9 rfl rfl)
theorem dX7_setPhase_56 : decode cX7_setPhase 56 = .ok (.invokevirtual 302, 3) := dk_182 1 46 (dk_at dksX7_setPhase_2 10 rfl rfl)
theorem dX7_setPhase_59 : decode cX7_setPhase 59 = .ok (.goto 4, 3) := dk_167 0 4 (dk_at dksX7_setPhase_2 13 rfl rfl)
theorem dX7_setPhase_62 : decode cX7_setPhase 62 = .ok (.iconst 0, 1) := dk_3 (dk_at dksX7_setPhase_2 16 rfl rfl)
theorem dX7_setPhase_63 : decode cX7_setPhase 63 = .ok (.ireturn, 1) := dk_172 (dk_at dksX7_setPhase_2 17 rfl rfl)
abbrev cX7_set : ByteArray := prog_19_method_108_code
def yX7_set : MethodName := ⟨RX7, "set", "(II)I"⟩
def dkwX7_set_3 : List UInt8 := [28, 182, 1, 43, 172]
abbrev dktX7_set_3 : List UInt8 := dkwX7_set_3 ++ []
def dkwX7_set_2 : List UInt8 := [5, 184, 0, 83, 153, 0, 7, 4, 167, 0, 4, 3, 182, 1, 66, 154, 0, 5, 3, 172, 42, 27, 6, 100]
abbrev dktX7_set_2 : List UInt8 := dkwX7_set_2 ++ dktX7_set_3
def dkwX7_set_1 : List UInt8 := [167, 0, 4, 3, 27, 6, 160, 0, 8, 16, 9, 167, 0, 14, 27, 7, 160, 0, 8, 16, 20, 167, 0, 4]
abbrev dktX7_set_1 : List UInt8 := dkwX7_set_1 ++ dktX7_set_2
def dkwX7_set_0 : List UInt8 := [42, 3, 181, 0, 76, 42, 27, 6, 8, 184, 0, 83, 153, 0, 45, 28, 27, 6, 160, 0, 7, 4]
abbrev dktX7_set_0 : List UInt8 := dkwX7_set_0 ++ dktX7_set_1
theorem dksX7_set_0 : cX7_set.data.toList.drop 0 = dktX7_set_0 := by decide +kernel
theorem dksX7_set_1 : cX7_set.data.toList.drop 22 = dktX7_set_1 := dk_seg dksX7_set_0 22 rfl rfl
theorem dksX7_set_2 : cX7_set.data.toList.drop 46 = dktX7_set_2 := dk_seg dksX7_set_1 24 rfl rfl
theorem dksX7_set_3 : cX7_set.data.toList.drop 70 = dktX7_set_3 := dk_seg dksX7_set_2 24 rfl rfl
theorem dX7_set_0 : decode cX7_set 0 = .ok (.aload_n 0, 1) := dk_42 (dk_at dksX7_set_0 0 rfl rfl)
theorem dX7_set_1 : decode cX7_set 1 = .ok (.iconst 0, 1) := dk_3 (dk_at dksX7_set_0 1 rfl rfl)
theorem dX7_set_2 : decode cX7_set 2 = .ok (.putfield 76, 3) := dk_181 0 76 (dk_at dksX7_set_0 2 rfl rfl)
theorem dX7_set_5 : decode cX7_set 5 = .ok (.aload_n 0, 1) := dk_42 (dk_at dksX7_set_0 5 rfl rfl)
theorem dX7_set_6 : decode cX7_set 6 = .ok (.iload_n 1, 1) := dk_27 (dk_at dksX7_set_0 6 rfl rfl)
theorem dX7_set_7 : decode cX7_set 7 = .ok (.iconst 3, 1) := dk_6 (dk_at dksX7_set_0 7 rfl rfl)
theorem dX7_set_8 : decode cX7_set 8 = .ok (.iconst 5, 1) := dk_8 (dk_at dksX7_set_0 8 rfl rfl)
theorem dX7_set_9 : decode cX7_set 9 = .ok (.invokestatic 83, 3) := dk_184 0 83 (dk_at dksX7_set_0 9 rfl rfl)
theorem dX7_set_12 : decode cX7_set 12 = .ok (.ifCond .eq 45, 3) := dk_153 0 45 (dk_at dksX7_set_0 12 rfl rfl)
theorem dX7_set_15 : decode cX7_set 15 = .ok (.iload_n 2, 1) := dk_28 (dk_at dksX7_set_0 15 rfl rfl)
theorem dX7_set_16 : decode cX7_set 16 = .ok (.iload_n 1, 1) := dk_27 (dk_at dksX7_set_0 16 rfl rfl)
theorem dX7_set_17 : decode cX7_set 17 = .ok (.iconst 3, 1) := dk_6 (dk_at dksX7_set_0 17 rfl rfl)
theorem dX7_set_18 : decode cX7_set 18 = .ok (.if_icmp .ne 7, 3) := dk_160 0 7 (dk_at dksX7_set_0 18 rfl rfl)
theorem dX7_set_21 : decode cX7_set 21 = .ok (.iconst 1, 1) := dk_4 (dk_at dksX7_set_0 21 rfl rfl)
theorem dX7_set_22 : decode cX7_set 22 = .ok (.goto 4, 3) := dk_167 0 4 (dk_at dksX7_set_1 0 rfl rfl)
theorem dX7_set_25 : decode cX7_set 25 = .ok (.iconst 0, 1) := dk_3 (dk_at dksX7_set_1 3 rfl rfl)
theorem dX7_set_26 : decode cX7_set 26 = .ok (.iload_n 1, 1) := dk_27 (dk_at dksX7_set_1 4 rfl rfl)
theorem dX7_set_27 : decode cX7_set 27 = .ok (.iconst 3, 1) := dk_6 (dk_at dksX7_set_1 5 rfl rfl)
theorem dX7_set_28 : decode cX7_set 28 = .ok (.if_icmp .ne 8, 3) := dk_160 0 8 (dk_at dksX7_set_1 6 rfl rfl)
theorem dX7_set_31 : decode cX7_set 31 = .ok (.bipush 9, 2) := dk_16 9 (dk_at dksX7_set_1 9 rfl rfl)
theorem dX7_set_33 : decode cX7_set 33 = .ok (.goto 14, 3) := dk_167 0 14 (dk_at dksX7_set_1 11 rfl rfl)
theorem dX7_set_36 : decode cX7_set 36 = .ok (.iload_n 1, 1) := dk_27 (dk_at dksX7_set_1 14 rfl rfl)
theorem dX7_set_37 : decode cX7_set 37 = .ok (.iconst 4, 1) := dk_7 (dk_at dksX7_set_1 15 rfl rfl)
theorem dX7_set_38 : decode cX7_set 38 = .ok (.if_icmp .ne 8, 3) := dk_160 0 8 (dk_at dksX7_set_1 16 rfl rfl)
theorem dX7_set_41 : decode cX7_set 41 = .ok (.bipush 20, 2) := dk_16 20 (dk_at dksX7_set_1 19 rfl rfl)
theorem dX7_set_43 : decode cX7_set 43 = .ok (.goto 4, 3) := dk_167 0 4 (dk_at dksX7_set_1 21 rfl rfl)
theorem dX7_set_46 : decode cX7_set 46 = .ok (.iconst 2, 1) := dk_5 (dk_at dksX7_set_2 0 rfl rfl)
theorem dX7_set_47 : decode cX7_set 47 = .ok (.invokestatic 83, 3) := dk_184 0 83 (dk_at dksX7_set_2 1 rfl rfl)
theorem dX7_set_50 : decode cX7_set 50 = .ok (.ifCond .eq 7, 3) := dk_153 0 7 (dk_at dksX7_set_2 4 rfl rfl)
theorem dX7_set_53 : decode cX7_set 53 = .ok (.iconst 1, 1) := dk_4 (dk_at dksX7_set_2 7 rfl rfl)
theorem dX7_set_54 : decode cX7_set 54 = .ok (.goto 4, 3) := dk_167 0 4 (dk_at dksX7_set_2 8 rfl rfl)
theorem dX7_set_57 : decode cX7_set 57 = .ok (.iconst 0, 1) := dk_3 (dk_at dksX7_set_2 11 rfl rfl)
theorem dX7_set_58 : decode cX7_set 58 = .ok (.invokevirtual 322, 3) := dk_182 1 66 (dk_at dksX7_set_2 12 rfl rfl)
theorem dX7_set_61 : decode cX7_set 61 = .ok (.ifCond .ne 5, 3) := dk_154 0 5 (dk_at dksX7_set_2 15 rfl rfl)
theorem dX7_set_64 : decode cX7_set 64 = .ok (.iconst 0, 1) := dk_3 (dk_at dksX7_set_2 18 rfl rfl)
theorem dX7_set_65 : decode cX7_set 65 = .ok (.ireturn, 1) := dk_172 (dk_at dksX7_set_2 19 rfl rfl)
theorem dX7_set_66 : decode cX7_set 66 = .ok (.aload_n 0, 1) := dk_42 (dk_at dksX7_set_2 20 rfl rfl)
theorem dX7_set_67 : decode cX7_set 67 = .ok (.iload_n 1, 1) := dk_27 (dk_at dksX7_set_2 21 rfl rfl)
theorem dX7_set_68 : decode cX7_set 68 = .ok (.iconst 3, 1) := dk_6 (dk_at dksX7_set_2 22 rfl rfl)
theorem dX7_set_69 : decode cX7_set 69 = .ok (.isub, 1) := dk_100 (dk_at dksX7_set_2 23 rfl rfl)
theorem dX7_set_70 : decode cX7_set 70 = .ok (.iload_n 2, 1) := dk_28 (dk_at dksX7_set_3 0 rfl rfl)
theorem dX7_set_71 : decode cX7_set 71 = .ok (.invokevirtual 299, 3) := dk_182 1 43 (dk_at dksX7_set_3 1 rfl rfl)
theorem dX7_set_74 : decode cX7_set 74 = .ok (.ireturn, 1) := dk_172 (dk_at dksX7_set_3 4 rfl rfl)
abbrev cX7_report : ByteArray := prog_19_method_111_code
def yX7_report : MethodName := ⟨RX7, "report", "()I"⟩
def dkwX7_report_5 : List UInt8 := [182, 0, 91, 4, 160, 0, 9, 42, 16, 33, 182, 1, 130, 132, 1, 1, 167, 255, 136, 42, 180, 1, 127, 172]
abbrev dktX7_report_5 : List UInt8 := dkwX7_report_5 ++ []
def dkwX7_report_4 : List UInt8 := [182, 1, 130, 42, 16, 48, 42, 27, 6, 182, 0, 91, 16, 10, 112, 96, 182, 1, 130, 42, 27, 5]
abbrev dktX7_report_4 : List UInt8 := dkwX7_report_4 ++ dktX7_report_5
def dkwX7_report_3 : List UInt8 := [42, 27, 6, 182, 0, 91, 16, 9, 164, 0, 19, 42, 16, 48, 42, 27, 6, 182, 0, 91, 16, 10, 108, 96]
abbrev dktX7_report_3 : List UInt8 := dkwX7_report_3 ++ dktX7_report_4
def dkwX7_report_2 : List UInt8 := [16, 71, 167, 0, 19, 42, 27, 182, 0, 140, 4, 160, 0, 8, 16, 65, 167, 0, 5, 16, 82, 182, 1, 130]
abbrev dktX7_report_2 : List UInt8 := dkwX7_report_2 ++ dktX7_report_3
def dkwX7_report_1 : List UInt8 := [158, 0, 9, 42, 16, 32, 182, 1, 130, 42, 27, 182, 1, 133, 42, 42, 27, 182, 0, 140, 154, 0, 8]
abbrev dktX7_report_1 : List UInt8 := dkwX7_report_1 ++ dktX7_report_2
def dkwX7_report_0 : List UInt8 := [42, 3, 181, 0, 76, 42, 3, 181, 1, 127, 3, 60, 27, 42, 180, 0, 7, 6, 46, 162, 0, 116, 27]
abbrev dktX7_report_0 : List UInt8 := dkwX7_report_0 ++ dktX7_report_1
theorem dksX7_report_0 : cX7_report.data.toList.drop 0 = dktX7_report_0 := by decide +kernel
theorem dksX7_report_1 : cX7_report.data.toList.drop 23 = dktX7_report_1 := dk_seg dksX7_report_0 23 rfl rfl
theorem dksX7_report_2 : cX7_report.data.toList.drop 46 = dktX7_report_2 := dk_seg dksX7_report_1 23 rfl rfl
theorem dksX7_report_3 : cX7_report.data.toList.drop 70 = dktX7_report_3 := dk_seg dksX7_report_2 24 rfl rfl
theorem dksX7_report_4 : cX7_report.data.toList.drop 94 = dktX7_report_4 := dk_seg dksX7_report_3 24 rfl rfl
theorem dksX7_report_5 : cX7_report.data.toList.drop 116 = dktX7_report_5 := dk_seg dksX7_report_4 22 rfl rfl
theorem dX7_report_0 : decode cX7_report 0 = .ok (.aload_n 0, 1) := dk_42 (dk_at dksX7_report_0 0 rfl rfl)
theorem dX7_report_1 : decode cX7_report 1 = .ok (.iconst 0, 1) := dk_3 (dk_at dksX7_report_0 1 rfl rfl)
theorem dX7_report_2 : decode cX7_report 2 = .ok (.putfield 76, 3) := dk_181 0 76 (dk_at dksX7_report_0 2 rfl rfl)
theorem dX7_report_5 : decode cX7_report 5 = .ok (.aload_n 0, 1) := dk_42 (dk_at dksX7_report_0 5 rfl rfl)
theorem dX7_report_6 : decode cX7_report 6 = .ok (.iconst 0, 1) := dk_3 (dk_at dksX7_report_0 6 rfl rfl)
theorem dX7_report_7 : decode cX7_report 7 = .ok (.putfield 383, 3) := dk_181 1 127 (dk_at dksX7_report_0 7 rfl rfl)
theorem dX7_report_10 : decode cX7_report 10 = .ok (.iconst 0, 1) := dk_3 (dk_at dksX7_report_0 10 rfl rfl)
theorem dX7_report_11 : decode cX7_report 11 = .ok (.istore_n 1, 1) := dk_60 (dk_at dksX7_report_0 11 rfl rfl)
theorem dX7_report_12 : decode cX7_report 12 = .ok (.iload_n 1, 1) := dk_27 (dk_at dksX7_report_0 12 rfl rfl)
theorem dX7_report_13 : decode cX7_report 13 = .ok (.aload_n 0, 1) := dk_42 (dk_at dksX7_report_0 13 rfl rfl)
theorem dX7_report_14 : decode cX7_report 14 = .ok (.getfield 7, 3) := dk_180 0 7 (dk_at dksX7_report_0 14 rfl rfl)
theorem dX7_report_17 : decode cX7_report 17 = .ok (.iconst 3, 1) := dk_6 (dk_at dksX7_report_0 17 rfl rfl)
theorem dX7_report_18 : decode cX7_report 18 = .ok (.iaload, 1) := dk_46 (dk_at dksX7_report_0 18 rfl rfl)
theorem dX7_report_19 : decode cX7_report 19 = .ok (.if_icmp .ge 116, 3) := dk_162 0 116 (dk_at dksX7_report_0 19 rfl rfl)
theorem dX7_report_22 : decode cX7_report 22 = .ok (.iload_n 1, 1) := dk_27 (dk_at dksX7_report_0 22 rfl rfl)
theorem dX7_report_23 : decode cX7_report 23 = .ok (.ifCond .le 9, 3) := dk_158 0 9 (dk_at dksX7_report_1 0 rfl rfl)
theorem dX7_report_26 : decode cX7_report 26 = .ok (.aload_n 0, 1) := dk_42 (dk_at dksX7_report_1 3 rfl rfl)
theorem dX7_report_27 : decode cX7_report 27 = .ok (.bipush 32, 2) := dk_16 32 (dk_at dksX7_report_1 4 rfl rfl)
theorem dX7_report_29 : decode cX7_report 29 = .ok (.invokevirtual 386, 3) := dk_182 1 130 (dk_at dksX7_report_1 6 rfl rfl)
theorem dX7_report_32 : decode cX7_report 32 = .ok (.aload_n 0, 1) := dk_42 (dk_at dksX7_report_1 9 rfl rfl)
theorem dX7_report_33 : decode cX7_report 33 = .ok (.iload_n 1, 1) := dk_27 (dk_at dksX7_report_1 10 rfl rfl)
theorem dX7_report_34 : decode cX7_report 34 = .ok (.invokevirtual 389, 3) := dk_182 1 133 (dk_at dksX7_report_1 11 rfl rfl)
theorem dX7_report_37 : decode cX7_report 37 = .ok (.aload_n 0, 1) := dk_42 (dk_at dksX7_report_1 14 rfl rfl)
theorem dX7_report_38 : decode cX7_report 38 = .ok (.aload_n 0, 1) := dk_42 (dk_at dksX7_report_1 15 rfl rfl)
theorem dX7_report_39 : decode cX7_report 39 = .ok (.iload_n 1, 1) := dk_27 (dk_at dksX7_report_1 16 rfl rfl)
theorem dX7_report_40 : decode cX7_report 40 = .ok (.invokevirtual 140, 3) := dk_182 0 140 (dk_at dksX7_report_1 17 rfl rfl)
theorem dX7_report_43 : decode cX7_report 43 = .ok (.ifCond .ne 8, 3) := dk_154 0 8 (dk_at dksX7_report_1 20 rfl rfl)
theorem dX7_report_46 : decode cX7_report 46 = .ok (.bipush 71, 2) := dk_16 71 (dk_at dksX7_report_2 0 rfl rfl)
theorem dX7_report_48 : decode cX7_report 48 = .ok (.goto 19, 3) := dk_167 0 19 (dk_at dksX7_report_2 2 rfl rfl)
theorem dX7_report_51 : decode cX7_report 51 = .ok (.aload_n 0, 1) := dk_42 (dk_at dksX7_report_2 5 rfl rfl)
theorem dX7_report_52 : decode cX7_report 52 = .ok (.iload_n 1, 1) := dk_27 (dk_at dksX7_report_2 6 rfl rfl)
theorem dX7_report_53 : decode cX7_report 53 = .ok (.invokevirtual 140, 3) := dk_182 0 140 (dk_at dksX7_report_2 7 rfl rfl)
theorem dX7_report_56 : decode cX7_report 56 = .ok (.iconst 1, 1) := dk_4 (dk_at dksX7_report_2 10 rfl rfl)
theorem dX7_report_57 : decode cX7_report 57 = .ok (.if_icmp .ne 8, 3) := dk_160 0 8 (dk_at dksX7_report_2 11 rfl rfl)
theorem dX7_report_60 : decode cX7_report 60 = .ok (.bipush 65, 2) := dk_16 65 (dk_at dksX7_report_2 14 rfl rfl)
theorem dX7_report_62 : decode cX7_report 62 = .ok (.goto 5, 3) := dk_167 0 5 (dk_at dksX7_report_2 16 rfl rfl)
theorem dX7_report_65 : decode cX7_report 65 = .ok (.bipush 82, 2) := dk_16 82 (dk_at dksX7_report_2 19 rfl rfl)
theorem dX7_report_67 : decode cX7_report 67 = .ok (.invokevirtual 386, 3) := dk_182 1 130 (dk_at dksX7_report_2 21 rfl rfl)
theorem dX7_report_70 : decode cX7_report 70 = .ok (.aload_n 0, 1) := dk_42 (dk_at dksX7_report_3 0 rfl rfl)
theorem dX7_report_71 : decode cX7_report 71 = .ok (.iload_n 1, 1) := dk_27 (dk_at dksX7_report_3 1 rfl rfl)
theorem dX7_report_72 : decode cX7_report 72 = .ok (.iconst 3, 1) := dk_6 (dk_at dksX7_report_3 2 rfl rfl)
theorem dX7_report_73 : decode cX7_report 73 = .ok (.invokevirtual 91, 3) := dk_182 0 91 (dk_at dksX7_report_3 3 rfl rfl)
theorem dX7_report_76 : decode cX7_report 76 = .ok (.bipush 9, 2) := dk_16 9 (dk_at dksX7_report_3 6 rfl rfl)
theorem dX7_report_78 : decode cX7_report 78 = .ok (.if_icmp .le 19, 3) := dk_164 0 19 (dk_at dksX7_report_3 8 rfl rfl)
theorem dX7_report_81 : decode cX7_report 81 = .ok (.aload_n 0, 1) := dk_42 (dk_at dksX7_report_3 11 rfl rfl)
theorem dX7_report_82 : decode cX7_report 82 = .ok (.bipush 48, 2) := dk_16 48 (dk_at dksX7_report_3 12 rfl rfl)
theorem dX7_report_84 : decode cX7_report 84 = .ok (.aload_n 0, 1) := dk_42 (dk_at dksX7_report_3 14 rfl rfl)
theorem dX7_report_85 : decode cX7_report 85 = .ok (.iload_n 1, 1) := dk_27 (dk_at dksX7_report_3 15 rfl rfl)
theorem dX7_report_86 : decode cX7_report 86 = .ok (.iconst 3, 1) := dk_6 (dk_at dksX7_report_3 16 rfl rfl)
theorem dX7_report_87 : decode cX7_report 87 = .ok (.invokevirtual 91, 3) := dk_182 0 91 (dk_at dksX7_report_3 17 rfl rfl)
theorem dX7_report_90 : decode cX7_report 90 = .ok (.bipush 10, 2) := dk_16 10 (dk_at dksX7_report_3 20 rfl rfl)
theorem dX7_report_92 : decode cX7_report 92 = .ok (.idiv, 1) := dk_108 (dk_at dksX7_report_3 22 rfl rfl)
theorem dX7_report_93 : decode cX7_report 93 = .ok (.iadd, 1) := dk_96 (dk_at dksX7_report_3 23 rfl rfl)
theorem dX7_report_94 : decode cX7_report 94 = .ok (.invokevirtual 386, 3) := dk_182 1 130 (dk_at dksX7_report_4 0 rfl rfl)
theorem dX7_report_97 : decode cX7_report 97 = .ok (.aload_n 0, 1) := dk_42 (dk_at dksX7_report_4 3 rfl rfl)
theorem dX7_report_98 : decode cX7_report 98 = .ok (.bipush 48, 2) := dk_16 48 (dk_at dksX7_report_4 4 rfl rfl)
theorem dX7_report_100 : decode cX7_report 100 = .ok (.aload_n 0, 1) := dk_42 (dk_at dksX7_report_4 6 rfl rfl)
theorem dX7_report_101 : decode cX7_report 101 = .ok (.iload_n 1, 1) := dk_27 (dk_at dksX7_report_4 7 rfl rfl)
theorem dX7_report_102 : decode cX7_report 102 = .ok (.iconst 3, 1) := dk_6 (dk_at dksX7_report_4 8 rfl rfl)
theorem dX7_report_103 : decode cX7_report 103 = .ok (.invokevirtual 91, 3) := dk_182 0 91 (dk_at dksX7_report_4 9 rfl rfl)
theorem dX7_report_106 : decode cX7_report 106 = .ok (.bipush 10, 2) := dk_16 10 (dk_at dksX7_report_4 12 rfl rfl)
theorem dX7_report_108 : decode cX7_report 108 = .ok (.irem, 1) := dk_112 (dk_at dksX7_report_4 14 rfl rfl)
theorem dX7_report_109 : decode cX7_report 109 = .ok (.iadd, 1) := dk_96 (dk_at dksX7_report_4 15 rfl rfl)
theorem dX7_report_110 : decode cX7_report 110 = .ok (.invokevirtual 386, 3) := dk_182 1 130 (dk_at dksX7_report_4 16 rfl rfl)
theorem dX7_report_113 : decode cX7_report 113 = .ok (.aload_n 0, 1) := dk_42 (dk_at dksX7_report_4 19 rfl rfl)
theorem dX7_report_114 : decode cX7_report 114 = .ok (.iload_n 1, 1) := dk_27 (dk_at dksX7_report_4 20 rfl rfl)
theorem dX7_report_115 : decode cX7_report 115 = .ok (.iconst 2, 1) := dk_5 (dk_at dksX7_report_4 21 rfl rfl)
theorem dX7_report_116 : decode cX7_report 116 = .ok (.invokevirtual 91, 3) := dk_182 0 91 (dk_at dksX7_report_5 0 rfl rfl)
theorem dX7_report_119 : decode cX7_report 119 = .ok (.iconst 1, 1) := dk_4 (dk_at dksX7_report_5 3 rfl rfl)
theorem dX7_report_120 : decode cX7_report 120 = .ok (.if_icmp .ne 9, 3) := dk_160 0 9 (dk_at dksX7_report_5 4 rfl rfl)
theorem dX7_report_123 : decode cX7_report 123 = .ok (.aload_n 0, 1) := dk_42 (dk_at dksX7_report_5 7 rfl rfl)
theorem dX7_report_124 : decode cX7_report 124 = .ok (.bipush 33, 2) := dk_16 33 (dk_at dksX7_report_5 8 rfl rfl)
theorem dX7_report_126 : decode cX7_report 126 = .ok (.invokevirtual 386, 3) := dk_182 1 130 (dk_at dksX7_report_5 10 rfl rfl)
theorem dX7_report_129 : decode cX7_report 129 = .ok (.iinc 1 1, 3) := dk_132 1 1 (dk_at dksX7_report_5 13 rfl rfl)
theorem dX7_report_132 : decode cX7_report 132 = .ok (.goto (-120), 3) := dk_167 255 136 (dk_at dksX7_report_5 16 rfl rfl)
theorem dX7_report_135 : decode cX7_report 135 = .ok (.aload_n 0, 1) := dk_42 (dk_at dksX7_report_5 19 rfl rfl)
theorem dX7_report_136 : decode cX7_report 136 = .ok (.getfield 383, 3) := dk_180 1 127 (dk_at dksX7_report_5 20 rfl rfl)
theorem dX7_report_139 : decode cX7_report 139 = .ok (.ireturn, 1) := dk_172 (dk_at dksX7_report_5 23 rfl rfl)
abbrev cX7_writes : ByteArray := prog_19_method_109_code
def yX7_writes : MethodName := ⟨RX7, "writes", "(I)V"⟩
def dkwX7_writes_0 : List UInt8 := [42, 180, 0, 48, 42, 180, 1, 127, 27, 79, 42, 89, 180, 1, 127, 4, 96, 181, 1, 127, 177]
abbrev dktX7_writes_0 : List UInt8 := dkwX7_writes_0 ++ []
theorem dksX7_writes_0 : cX7_writes.data.toList.drop 0 = dktX7_writes_0 := by decide +kernel
theorem dX7_writes_0 : decode cX7_writes 0 = .ok (.aload_n 0, 1) := dk_42 (dk_at dksX7_writes_0 0 rfl rfl)
theorem dX7_writes_1 : decode cX7_writes 1 = .ok (.getfield 48, 3) := dk_180 0 48 (dk_at dksX7_writes_0 1 rfl rfl)
theorem dX7_writes_4 : decode cX7_writes 4 = .ok (.aload_n 0, 1) := dk_42 (dk_at dksX7_writes_0 4 rfl rfl)
theorem dX7_writes_5 : decode cX7_writes 5 = .ok (.getfield 383, 3) := dk_180 1 127 (dk_at dksX7_writes_0 5 rfl rfl)
theorem dX7_writes_8 : decode cX7_writes 8 = .ok (.iload_n 1, 1) := dk_27 (dk_at dksX7_writes_0 8 rfl rfl)
theorem dX7_writes_9 : decode cX7_writes 9 = .ok (.iastore, 1) := dk_79 (dk_at dksX7_writes_0 9 rfl rfl)
theorem dX7_writes_10 : decode cX7_writes 10 = .ok (.aload_n 0, 1) := dk_42 (dk_at dksX7_writes_0 10 rfl rfl)
theorem dX7_writes_11 : decode cX7_writes 11 = .ok (.dup, 1) := dk_89 (dk_at dksX7_writes_0 11 rfl rfl)
theorem dX7_writes_12 : decode cX7_writes 12 = .ok (.getfield 383, 3) := dk_180 1 127 (dk_at dksX7_writes_0 12 rfl rfl)
theorem dX7_writes_15 : decode cX7_writes 15 = .ok (.iconst 1, 1) := dk_4 (dk_at dksX7_writes_0 15 rfl rfl)
theorem dX7_writes_16 : decode cX7_writes 16 = .ok (.iadd, 1) := dk_96 (dk_at dksX7_writes_0 16 rfl rfl)
theorem dX7_writes_17 : decode cX7_writes 17 = .ok (.putfield 383, 3) := dk_181 1 127 (dk_at dksX7_writes_0 17 rfl rfl)
theorem dX7_writes_20 : decode cX7_writes 20 = .ok (.return_, 1) := dk_177 (dk_at dksX7_writes_0 20 rfl rfl)
abbrev cX7_writesName : ByteArray := prog_19_method_110_code
def yX7_writesName : MethodName := ⟨RX7, "writesName", "(I)V"⟩
def dkwX7_writesName_1 : List UInt8 := [184, 1, 85, 182, 1, 130, 132, 2, 1, 167, 255, 225, 177]
abbrev dktX7_writesName_1 : List UInt8 := dkwX7_writesName_1 ++ []
def dkwX7_writesName_0 : List UInt8 := [3, 61, 42, 27, 3, 182, 0, 91, 28, 184, 1, 85, 2, 159, 0, 23, 42, 42, 27, 3, 182, 0, 91, 28]
abbrev dktX7_writesName_0 : List UInt8 := dkwX7_writesName_0 ++ dktX7_writesName_1
theorem dksX7_writesName_0 : cX7_writesName.data.toList.drop 0 = dktX7_writesName_0 := by decide +kernel
theorem dksX7_writesName_1 : cX7_writesName.data.toList.drop 24 = dktX7_writesName_1 := dk_seg dksX7_writesName_0 24 rfl rfl
theorem dX7_writesName_0 : decode cX7_writesName 0 = .ok (.iconst 0, 1) := dk_3 (dk_at dksX7_writesName_0 0 rfl rfl)
theorem dX7_writesName_1 : decode cX7_writesName 1 = .ok (.istore_n 2, 1) := dk_61 (dk_at dksX7_writesName_0 1 rfl rfl)
theorem dX7_writesName_2 : decode cX7_writesName 2 = .ok (.aload_n 0, 1) := dk_42 (dk_at dksX7_writesName_0 2 rfl rfl)
theorem dX7_writesName_3 : decode cX7_writesName 3 = .ok (.iload_n 1, 1) := dk_27 (dk_at dksX7_writesName_0 3 rfl rfl)
theorem dX7_writesName_4 : decode cX7_writesName 4 = .ok (.iconst 0, 1) := dk_3 (dk_at dksX7_writesName_0 4 rfl rfl)
theorem dX7_writesName_5 : decode cX7_writesName 5 = .ok (.invokevirtual 91, 3) := dk_182 0 91 (dk_at dksX7_writesName_0 5 rfl rfl)
theorem dX7_writesName_8 : decode cX7_writesName 8 = .ok (.iload_n 2, 1) := dk_28 (dk_at dksX7_writesName_0 8 rfl rfl)
theorem dX7_writesName_9 : decode cX7_writesName 9 = .ok (.invokestatic 341, 3) := dk_184 1 85 (dk_at dksX7_writesName_0 9 rfl rfl)
theorem dX7_writesName_12 : decode cX7_writesName 12 = .ok (.iconst (-1), 1) := dk_2 (dk_at dksX7_writesName_0 12 rfl rfl)
theorem dX7_writesName_13 : decode cX7_writesName 13 = .ok (.if_icmp .eq 23, 3) := dk_159 0 23 (dk_at dksX7_writesName_0 13 rfl rfl)
theorem dX7_writesName_16 : decode cX7_writesName 16 = .ok (.aload_n 0, 1) := dk_42 (dk_at dksX7_writesName_0 16 rfl rfl)
theorem dX7_writesName_17 : decode cX7_writesName 17 = .ok (.aload_n 0, 1) := dk_42 (dk_at dksX7_writesName_0 17 rfl rfl)
theorem dX7_writesName_18 : decode cX7_writesName 18 = .ok (.iload_n 1, 1) := dk_27 (dk_at dksX7_writesName_0 18 rfl rfl)
theorem dX7_writesName_19 : decode cX7_writesName 19 = .ok (.iconst 0, 1) := dk_3 (dk_at dksX7_writesName_0 19 rfl rfl)
theorem dX7_writesName_20 : decode cX7_writesName 20 = .ok (.invokevirtual 91, 3) := dk_182 0 91 (dk_at dksX7_writesName_0 20 rfl rfl)
theorem dX7_writesName_23 : decode cX7_writesName 23 = .ok (.iload_n 2, 1) := dk_28 (dk_at dksX7_writesName_0 23 rfl rfl)
theorem dX7_writesName_24 : decode cX7_writesName 24 = .ok (.invokestatic 341, 3) := dk_184 1 85 (dk_at dksX7_writesName_1 0 rfl rfl)
theorem dX7_writesName_27 : decode cX7_writesName 27 = .ok (.invokevirtual 386, 3) := dk_182 1 130 (dk_at dksX7_writesName_1 3 rfl rfl)
theorem dX7_writesName_30 : decode cX7_writesName 30 = .ok (.iinc 2 1, 3) := dk_132 2 1 (dk_at dksX7_writesName_1 6 rfl rfl)
theorem dX7_writesName_33 : decode cX7_writesName 33 = .ok (.goto (-31), 3) := dk_167 255 225 (dk_at dksX7_writesName_1 9 rfl rfl)
theorem dX7_writesName_36 : decode cX7_writesName 36 = .ok (.return_, 1) := dk_177 (dk_at dksX7_writesName_1 12 rfl rfl)
abbrev cX7_phases : ByteArray := prog_19_method_113_code
def yX7_phases : MethodName := ⟨RX7, "phases", "()I"⟩
def dkwX7_phases_2 : List UInt8 := [172]
abbrev dktX7_phases_2 : List UInt8 := dkwX7_phases_2 ++ []
def dkwX7_phases_1 : List UInt8 := [158, 0, 9, 42, 16, 32, 182, 1, 130, 42, 27, 182, 1, 136, 132, 1, 1, 167, 255, 228, 42, 180, 1, 127]
abbrev dktX7_phases_1 : List UInt8 := dkwX7_phases_1 ++ dktX7_phases_2
def dkwX7_phases_0 : List UInt8 := [42, 3, 181, 0, 76, 42, 3, 181, 1, 127, 3, 60, 27, 42, 180, 0, 7, 7, 46, 162, 0, 24, 27]
abbrev dktX7_phases_0 : List UInt8 := dkwX7_phases_0 ++ dktX7_phases_1
theorem dksX7_phases_0 : cX7_phases.data.toList.drop 0 = dktX7_phases_0 := by decide +kernel
theorem dksX7_phases_1 : cX7_phases.data.toList.drop 23 = dktX7_phases_1 := dk_seg dksX7_phases_0 23 rfl rfl
theorem dksX7_phases_2 : cX7_phases.data.toList.drop 47 = dktX7_phases_2 := dk_seg dksX7_phases_1 24 rfl rfl
theorem dX7_phases_0 : decode cX7_phases 0 = .ok (.aload_n 0, 1) := dk_42 (dk_at dksX7_phases_0 0 rfl rfl)
theorem dX7_phases_1 : decode cX7_phases 1 = .ok (.iconst 0, 1) := dk_3 (dk_at dksX7_phases_0 1 rfl rfl)
theorem dX7_phases_2 : decode cX7_phases 2 = .ok (.putfield 76, 3) := dk_181 0 76 (dk_at dksX7_phases_0 2 rfl rfl)
theorem dX7_phases_5 : decode cX7_phases 5 = .ok (.aload_n 0, 1) := dk_42 (dk_at dksX7_phases_0 5 rfl rfl)
theorem dX7_phases_6 : decode cX7_phases 6 = .ok (.iconst 0, 1) := dk_3 (dk_at dksX7_phases_0 6 rfl rfl)
theorem dX7_phases_7 : decode cX7_phases 7 = .ok (.putfield 383, 3) := dk_181 1 127 (dk_at dksX7_phases_0 7 rfl rfl)
theorem dX7_phases_10 : decode cX7_phases 10 = .ok (.iconst 0, 1) := dk_3 (dk_at dksX7_phases_0 10 rfl rfl)
theorem dX7_phases_11 : decode cX7_phases 11 = .ok (.istore_n 1, 1) := dk_60 (dk_at dksX7_phases_0 11 rfl rfl)
theorem dX7_phases_12 : decode cX7_phases 12 = .ok (.iload_n 1, 1) := dk_27 (dk_at dksX7_phases_0 12 rfl rfl)
theorem dX7_phases_13 : decode cX7_phases 13 = .ok (.aload_n 0, 1) := dk_42 (dk_at dksX7_phases_0 13 rfl rfl)
theorem dX7_phases_14 : decode cX7_phases 14 = .ok (.getfield 7, 3) := dk_180 0 7 (dk_at dksX7_phases_0 14 rfl rfl)
theorem dX7_phases_17 : decode cX7_phases 17 = .ok (.iconst 4, 1) := dk_7 (dk_at dksX7_phases_0 17 rfl rfl)
theorem dX7_phases_18 : decode cX7_phases 18 = .ok (.iaload, 1) := dk_46 (dk_at dksX7_phases_0 18 rfl rfl)
theorem dX7_phases_19 : decode cX7_phases 19 = .ok (.if_icmp .ge 24, 3) := dk_162 0 24 (dk_at dksX7_phases_0 19 rfl rfl)
theorem dX7_phases_22 : decode cX7_phases 22 = .ok (.iload_n 1, 1) := dk_27 (dk_at dksX7_phases_0 22 rfl rfl)
theorem dX7_phases_23 : decode cX7_phases 23 = .ok (.ifCond .le 9, 3) := dk_158 0 9 (dk_at dksX7_phases_1 0 rfl rfl)
theorem dX7_phases_26 : decode cX7_phases 26 = .ok (.aload_n 0, 1) := dk_42 (dk_at dksX7_phases_1 3 rfl rfl)
theorem dX7_phases_27 : decode cX7_phases 27 = .ok (.bipush 32, 2) := dk_16 32 (dk_at dksX7_phases_1 4 rfl rfl)
theorem dX7_phases_29 : decode cX7_phases 29 = .ok (.invokevirtual 386, 3) := dk_182 1 130 (dk_at dksX7_phases_1 6 rfl rfl)
theorem dX7_phases_32 : decode cX7_phases 32 = .ok (.aload_n 0, 1) := dk_42 (dk_at dksX7_phases_1 9 rfl rfl)
theorem dX7_phases_33 : decode cX7_phases 33 = .ok (.iload_n 1, 1) := dk_27 (dk_at dksX7_phases_1 10 rfl rfl)
theorem dX7_phases_34 : decode cX7_phases 34 = .ok (.invokevirtual 392, 3) := dk_182 1 136 (dk_at dksX7_phases_1 11 rfl rfl)
theorem dX7_phases_37 : decode cX7_phases 37 = .ok (.iinc 1 1, 3) := dk_132 1 1 (dk_at dksX7_phases_1 14 rfl rfl)
theorem dX7_phases_40 : decode cX7_phases 40 = .ok (.goto (-28), 3) := dk_167 255 228 (dk_at dksX7_phases_1 17 rfl rfl)
theorem dX7_phases_43 : decode cX7_phases 43 = .ok (.aload_n 0, 1) := dk_42 (dk_at dksX7_phases_1 20 rfl rfl)
theorem dX7_phases_44 : decode cX7_phases 44 = .ok (.getfield 383, 3) := dk_180 1 127 (dk_at dksX7_phases_1 21 rfl rfl)
theorem dX7_phases_47 : decode cX7_phases 47 = .ok (.ireturn, 1) := dk_172 (dk_at dksX7_phases_2 0 rfl rfl)
abbrev cX7_writesPhase : ByteArray := prog_19_method_112_code
def yX7_writesPhase : MethodName := ⟨RX7, "writesPhase", "(I)V"⟩
def dkwX7_writesPhase_4 : List UInt8 := [132, 3, 1, 167, 255, 214, 177]
abbrev dktX7_writesPhase_4 : List UInt8 := dkwX7_writesPhase_4 ++ []
def dkwX7_writesPhase_3 : List UInt8 := [154, 0, 6, 167, 0, 20, 28, 154, 0, 9, 42, 16, 44, 182, 1, 130, 3, 61, 42, 29, 182, 1, 133]
abbrev dktX7_writesPhase_3 : List UInt8 := dkwX7_writesPhase_3 ++ dktX7_writesPhase_4
def dkwX7_writesPhase_2 : List UInt8 := [182, 1, 130, 4, 61, 3, 62, 29, 42, 180, 0, 7, 6, 46, 162, 0, 38, 42, 27, 29, 182, 0, 87]
abbrev dktX7_writesPhase_2 : List UInt8 := dkwX7_writesPhase_2 ++ dktX7_writesPhase_3
def dkwX7_writesPhase_1 : List UInt8 := [182, 1, 130, 42, 27, 5, 182, 0, 79, 4, 160, 0, 9, 42, 16, 43, 182, 1, 130, 42, 16, 58]
abbrev dktX7_writesPhase_1 : List UInt8 := dkwX7_writesPhase_1 ++ dktX7_writesPhase_2
def dkwX7_writesPhase_0 : List UInt8 := [42, 16, 48, 27, 96, 182, 1, 130, 27, 42, 180, 0, 7, 16, 6, 46, 160, 0, 9, 42, 16, 42]
abbrev dktX7_writesPhase_0 : List UInt8 := dkwX7_writesPhase_0 ++ dktX7_writesPhase_1
theorem dksX7_writesPhase_0 : cX7_writesPhase.data.toList.drop 0 = dktX7_writesPhase_0 := by decide +kernel
theorem dksX7_writesPhase_1 : cX7_writesPhase.data.toList.drop 22 = dktX7_writesPhase_1 := dk_seg dksX7_writesPhase_0 22 rfl rfl
theorem dksX7_writesPhase_2 : cX7_writesPhase.data.toList.drop 44 = dktX7_writesPhase_2 := dk_seg dksX7_writesPhase_1 22 rfl rfl
theorem dksX7_writesPhase_3 : cX7_writesPhase.data.toList.drop 67 = dktX7_writesPhase_3 := dk_seg dksX7_writesPhase_2 23 rfl rfl
theorem dksX7_writesPhase_4 : cX7_writesPhase.data.toList.drop 90 = dktX7_writesPhase_4 := dk_seg dksX7_writesPhase_3 23 rfl rfl
theorem dX7_writesPhase_0 : decode cX7_writesPhase 0 = .ok (.aload_n 0, 1) := dk_42 (dk_at dksX7_writesPhase_0 0 rfl rfl)
theorem dX7_writesPhase_1 : decode cX7_writesPhase 1 = .ok (.bipush 48, 2) := dk_16 48 (dk_at dksX7_writesPhase_0 1 rfl rfl)
theorem dX7_writesPhase_3 : decode cX7_writesPhase 3 = .ok (.iload_n 1, 1) := dk_27 (dk_at dksX7_writesPhase_0 3 rfl rfl)
theorem dX7_writesPhase_4 : decode cX7_writesPhase 4 = .ok (.iadd, 1) := dk_96 (dk_at dksX7_writesPhase_0 4 rfl rfl)
theorem dX7_writesPhase_5 : decode cX7_writesPhase 5 = .ok (.invokevirtual 386, 3) := dk_182 1 130 (dk_at dksX7_writesPhase_0 5 rfl rfl)
theorem dX7_writesPhase_8 : decode cX7_writesPhase 8 = .ok (.iload_n 1, 1) := dk_27 (dk_at dksX7_writesPhase_0 8 rfl rfl)
theorem dX7_writesPhase_9 : decode cX7_writesPhase 9 = .ok (.aload_n 0, 1) := dk_42 (dk_at dksX7_writesPhase_0 9 rfl rfl)
theorem dX7_writesPhase_10 : decode cX7_writesPhase 10 = .ok (.getfield 7, 3) := dk_180 0 7 (dk_at dksX7_writesPhase_0 10 rfl rfl)
theorem dX7_writesPhase_13 : decode cX7_writesPhase 13 = .ok (.bipush 6, 2) := dk_16 6 (dk_at dksX7_writesPhase_0 13 rfl rfl)
theorem dX7_writesPhase_15 : decode cX7_writesPhase 15 = .ok (.iaload, 1) := dk_46 (dk_at dksX7_writesPhase_0 15 rfl rfl)
theorem dX7_writesPhase_16 : decode cX7_writesPhase 16 = .ok (.if_icmp .ne 9, 3) := dk_160 0 9 (dk_at dksX7_writesPhase_0 16 rfl rfl)
theorem dX7_writesPhase_19 : decode cX7_writesPhase 19 = .ok (.aload_n 0, 1) := dk_42 (dk_at dksX7_writesPhase_0 19 rfl rfl)
theorem dX7_writesPhase_20 : decode cX7_writesPhase 20 = .ok (.bipush 42, 2) := dk_16 42 (dk_at dksX7_writesPhase_0 20 rfl rfl)
theorem dX7_writesPhase_22 : decode cX7_writesPhase 22 = .ok (.invokevirtual 386, 3) := dk_182 1 130 (dk_at dksX7_writesPhase_1 0 rfl rfl)
theorem dX7_writesPhase_25 : decode cX7_writesPhase 25 = .ok (.aload_n 0, 1) := dk_42 (dk_at dksX7_writesPhase_1 3 rfl rfl)
theorem dX7_writesPhase_26 : decode cX7_writesPhase 26 = .ok (.iload_n 1, 1) := dk_27 (dk_at dksX7_writesPhase_1 4 rfl rfl)
theorem dX7_writesPhase_27 : decode cX7_writesPhase 27 = .ok (.iconst 2, 1) := dk_5 (dk_at dksX7_writesPhase_1 5 rfl rfl)
theorem dX7_writesPhase_28 : decode cX7_writesPhase 28 = .ok (.invokevirtual 79, 3) := dk_182 0 79 (dk_at dksX7_writesPhase_1 6 rfl rfl)
theorem dX7_writesPhase_31 : decode cX7_writesPhase 31 = .ok (.iconst 1, 1) := dk_4 (dk_at dksX7_writesPhase_1 9 rfl rfl)
theorem dX7_writesPhase_32 : decode cX7_writesPhase 32 = .ok (.if_icmp .ne 9, 3) := dk_160 0 9 (dk_at dksX7_writesPhase_1 10 rfl rfl)
theorem dX7_writesPhase_35 : decode cX7_writesPhase 35 = .ok (.aload_n 0, 1) := dk_42 (dk_at dksX7_writesPhase_1 13 rfl rfl)
theorem dX7_writesPhase_36 : decode cX7_writesPhase 36 = .ok (.bipush 43, 2) := dk_16 43 (dk_at dksX7_writesPhase_1 14 rfl rfl)
theorem dX7_writesPhase_38 : decode cX7_writesPhase 38 = .ok (.invokevirtual 386, 3) := dk_182 1 130 (dk_at dksX7_writesPhase_1 16 rfl rfl)
theorem dX7_writesPhase_41 : decode cX7_writesPhase 41 = .ok (.aload_n 0, 1) := dk_42 (dk_at dksX7_writesPhase_1 19 rfl rfl)
theorem dX7_writesPhase_42 : decode cX7_writesPhase 42 = .ok (.bipush 58, 2) := dk_16 58 (dk_at dksX7_writesPhase_1 20 rfl rfl)
theorem dX7_writesPhase_44 : decode cX7_writesPhase 44 = .ok (.invokevirtual 386, 3) := dk_182 1 130 (dk_at dksX7_writesPhase_2 0 rfl rfl)
theorem dX7_writesPhase_47 : decode cX7_writesPhase 47 = .ok (.iconst 1, 1) := dk_4 (dk_at dksX7_writesPhase_2 3 rfl rfl)
theorem dX7_writesPhase_48 : decode cX7_writesPhase 48 = .ok (.istore_n 2, 1) := dk_61 (dk_at dksX7_writesPhase_2 4 rfl rfl)
theorem dX7_writesPhase_49 : decode cX7_writesPhase 49 = .ok (.iconst 0, 1) := dk_3 (dk_at dksX7_writesPhase_2 5 rfl rfl)
theorem dX7_writesPhase_50 : decode cX7_writesPhase 50 = .ok (.istore_n 3, 1) := dk_62 (dk_at dksX7_writesPhase_2 6 rfl rfl)
theorem dX7_writesPhase_51 : decode cX7_writesPhase 51 = .ok (.iload_n 3, 1) := dk_29 (dk_at dksX7_writesPhase_2 7 rfl rfl)
theorem dX7_writesPhase_52 : decode cX7_writesPhase 52 = .ok (.aload_n 0, 1) := dk_42 (dk_at dksX7_writesPhase_2 8 rfl rfl)
theorem dX7_writesPhase_53 : decode cX7_writesPhase 53 = .ok (.getfield 7, 3) := dk_180 0 7 (dk_at dksX7_writesPhase_2 9 rfl rfl)
theorem dX7_writesPhase_56 : decode cX7_writesPhase 56 = .ok (.iconst 3, 1) := dk_6 (dk_at dksX7_writesPhase_2 12 rfl rfl)
theorem dX7_writesPhase_57 : decode cX7_writesPhase 57 = .ok (.iaload, 1) := dk_46 (dk_at dksX7_writesPhase_2 13 rfl rfl)
theorem dX7_writesPhase_58 : decode cX7_writesPhase 58 = .ok (.if_icmp .ge 38, 3) := dk_162 0 38 (dk_at dksX7_writesPhase_2 14 rfl rfl)
theorem dX7_writesPhase_61 : decode cX7_writesPhase 61 = .ok (.aload_n 0, 1) := dk_42 (dk_at dksX7_writesPhase_2 17 rfl rfl)
theorem dX7_writesPhase_62 : decode cX7_writesPhase 62 = .ok (.iload_n 1, 1) := dk_27 (dk_at dksX7_writesPhase_2 18 rfl rfl)
theorem dX7_writesPhase_63 : decode cX7_writesPhase 63 = .ok (.iload_n 3, 1) := dk_29 (dk_at dksX7_writesPhase_2 19 rfl rfl)
theorem dX7_writesPhase_64 : decode cX7_writesPhase 64 = .ok (.invokevirtual 87, 3) := dk_182 0 87 (dk_at dksX7_writesPhase_2 20 rfl rfl)
theorem dX7_writesPhase_67 : decode cX7_writesPhase 67 = .ok (.ifCond .ne 6, 3) := dk_154 0 6 (dk_at dksX7_writesPhase_3 0 rfl rfl)
theorem dX7_writesPhase_70 : decode cX7_writesPhase 70 = .ok (.goto 20, 3) := dk_167 0 20 (dk_at dksX7_writesPhase_3 3 rfl rfl)
theorem dX7_writesPhase_73 : decode cX7_writesPhase 73 = .ok (.iload_n 2, 1) := dk_28 (dk_at dksX7_writesPhase_3 6 rfl rfl)
theorem dX7_writesPhase_74 : decode cX7_writesPhase 74 = .ok (.ifCond .ne 9, 3) := dk_154 0 9 (dk_at dksX7_writesPhase_3 7 rfl rfl)
theorem dX7_writesPhase_77 : decode cX7_writesPhase 77 = .ok (.aload_n 0, 1) := dk_42 (dk_at dksX7_writesPhase_3 10 rfl rfl)
theorem dX7_writesPhase_78 : decode cX7_writesPhase 78 = .ok (.bipush 44, 2) := dk_16 44 (dk_at dksX7_writesPhase_3 11 rfl rfl)
theorem dX7_writesPhase_80 : decode cX7_writesPhase 80 = .ok (.invokevirtual 386, 3) := dk_182 1 130 (dk_at dksX7_writesPhase_3 13 rfl rfl)
theorem dX7_writesPhase_83 : decode cX7_writesPhase 83 = .ok (.iconst 0, 1) := dk_3 (dk_at dksX7_writesPhase_3 16 rfl rfl)
theorem dX7_writesPhase_84 : decode cX7_writesPhase 84 = .ok (.istore_n 2, 1) := dk_61 (dk_at dksX7_writesPhase_3 17 rfl rfl)
theorem dX7_writesPhase_85 : decode cX7_writesPhase 85 = .ok (.aload_n 0, 1) := dk_42 (dk_at dksX7_writesPhase_3 18 rfl rfl)
theorem dX7_writesPhase_86 : decode cX7_writesPhase 86 = .ok (.iload_n 3, 1) := dk_29 (dk_at dksX7_writesPhase_3 19 rfl rfl)
theorem dX7_writesPhase_87 : decode cX7_writesPhase 87 = .ok (.invokevirtual 389, 3) := dk_182 1 133 (dk_at dksX7_writesPhase_3 20 rfl rfl)
theorem dX7_writesPhase_90 : decode cX7_writesPhase 90 = .ok (.iinc 3 1, 3) := dk_132 3 1 (dk_at dksX7_writesPhase_4 0 rfl rfl)
theorem dX7_writesPhase_93 : decode cX7_writesPhase 93 = .ok (.goto (-42), 3) := dk_167 255 214 (dk_at dksX7_writesPhase_4 3 rfl rfl)
theorem dX7_writesPhase_96 : decode cX7_writesPhase 96 = .ok (.return_, 1) := dk_177 (dk_at dksX7_writesPhase_4 6 rfl rfl)
abbrev cX7_reportByte : ByteArray := prog_19_method_114_code
def yX7_reportByte : MethodName := ⟨RX7, "reportByte", "(I)I"⟩
def dkwX7_reportByte_1 : List UInt8 := [46, 167, 0, 4, 2, 172]
abbrev dktX7_reportByte_1 : List UInt8 := dkwX7_reportByte_1 ++ []
def dkwX7_reportByte_0 : List UInt8 := [42, 3, 181, 0, 76, 27, 3, 42, 180, 1, 127, 4, 100, 184, 0, 83, 153, 0, 12, 42, 180, 0, 48, 27]
abbrev dktX7_reportByte_0 : List UInt8 := dkwX7_reportByte_0 ++ dktX7_reportByte_1
theorem dksX7_reportByte_0 : cX7_reportByte.data.toList.drop 0 = dktX7_reportByte_0 := by decide +kernel
theorem dksX7_reportByte_1 : cX7_reportByte.data.toList.drop 24 = dktX7_reportByte_1 := dk_seg dksX7_reportByte_0 24 rfl rfl
theorem dX7_reportByte_0 : decode cX7_reportByte 0 = .ok (.aload_n 0, 1) := dk_42 (dk_at dksX7_reportByte_0 0 rfl rfl)
theorem dX7_reportByte_1 : decode cX7_reportByte 1 = .ok (.iconst 0, 1) := dk_3 (dk_at dksX7_reportByte_0 1 rfl rfl)
theorem dX7_reportByte_2 : decode cX7_reportByte 2 = .ok (.putfield 76, 3) := dk_181 0 76 (dk_at dksX7_reportByte_0 2 rfl rfl)
theorem dX7_reportByte_5 : decode cX7_reportByte 5 = .ok (.iload_n 1, 1) := dk_27 (dk_at dksX7_reportByte_0 5 rfl rfl)
theorem dX7_reportByte_6 : decode cX7_reportByte 6 = .ok (.iconst 0, 1) := dk_3 (dk_at dksX7_reportByte_0 6 rfl rfl)
theorem dX7_reportByte_7 : decode cX7_reportByte 7 = .ok (.aload_n 0, 1) := dk_42 (dk_at dksX7_reportByte_0 7 rfl rfl)
theorem dX7_reportByte_8 : decode cX7_reportByte 8 = .ok (.getfield 383, 3) := dk_180 1 127 (dk_at dksX7_reportByte_0 8 rfl rfl)
theorem dX7_reportByte_11 : decode cX7_reportByte 11 = .ok (.iconst 1, 1) := dk_4 (dk_at dksX7_reportByte_0 11 rfl rfl)
theorem dX7_reportByte_12 : decode cX7_reportByte 12 = .ok (.isub, 1) := dk_100 (dk_at dksX7_reportByte_0 12 rfl rfl)
theorem dX7_reportByte_13 : decode cX7_reportByte 13 = .ok (.invokestatic 83, 3) := dk_184 0 83 (dk_at dksX7_reportByte_0 13 rfl rfl)
theorem dX7_reportByte_16 : decode cX7_reportByte 16 = .ok (.ifCond .eq 12, 3) := dk_153 0 12 (dk_at dksX7_reportByte_0 16 rfl rfl)
theorem dX7_reportByte_19 : decode cX7_reportByte 19 = .ok (.aload_n 0, 1) := dk_42 (dk_at dksX7_reportByte_0 19 rfl rfl)
theorem dX7_reportByte_20 : decode cX7_reportByte 20 = .ok (.getfield 48, 3) := dk_180 0 48 (dk_at dksX7_reportByte_0 20 rfl rfl)
theorem dX7_reportByte_23 : decode cX7_reportByte 23 = .ok (.iload_n 1, 1) := dk_27 (dk_at dksX7_reportByte_0 23 rfl rfl)
theorem dX7_reportByte_24 : decode cX7_reportByte 24 = .ok (.iaload, 1) := dk_46 (dk_at dksX7_reportByte_1 0 rfl rfl)
theorem dX7_reportByte_25 : decode cX7_reportByte 25 = .ok (.goto 4, 3) := dk_167 0 4 (dk_at dksX7_reportByte_1 1 rfl rfl)
theorem dX7_reportByte_28 : decode cX7_reportByte 28 = .ok (.iconst (-1), 1) := dk_2 (dk_at dksX7_reportByte_1 4 rfl rfl)
theorem dX7_reportByte_29 : decode cX7_reportByte 29 = .ok (.ireturn, 1) := dk_172 (dk_at dksX7_reportByte_1 5 rfl rfl)
abbrev cX7_undo : ByteArray := prog_19_method_115_code
def yX7_undo : MethodName := ⟨RX7, "undo", "()I"⟩
def dkwX7_undo_2 : List UInt8 := [180, 0, 238, 104, 27, 96, 46, 79, 132, 1, 1, 167, 255, 225, 42, 180, 0, 238, 172]
abbrev dktX7_undo_2 : List UInt8 := dkwX7_undo_2 ++ []
def dkwX7_undo_1 : List UInt8 := [3, 60, 27, 17, 3, 225, 162, 0, 30, 42, 180, 0, 7, 27, 42, 180, 0, 19, 17, 3, 225, 42]
abbrev dktX7_undo_1 : List UInt8 := dkwX7_undo_1 ++ dktX7_undo_2
def dkwX7_undo_0 : List UInt8 := [42, 3, 181, 0, 76, 42, 180, 0, 238, 154, 0, 5, 2, 172, 42, 89, 180, 0, 238, 4, 100, 181, 0, 238]
abbrev dktX7_undo_0 : List UInt8 := dkwX7_undo_0 ++ dktX7_undo_1
theorem dksX7_undo_0 : cX7_undo.data.toList.drop 0 = dktX7_undo_0 := by decide +kernel
theorem dksX7_undo_1 : cX7_undo.data.toList.drop 24 = dktX7_undo_1 := dk_seg dksX7_undo_0 24 rfl rfl
theorem dksX7_undo_2 : cX7_undo.data.toList.drop 46 = dktX7_undo_2 := dk_seg dksX7_undo_1 22 rfl rfl
theorem dX7_undo_0 : decode cX7_undo 0 = .ok (.aload_n 0, 1) := dk_42 (dk_at dksX7_undo_0 0 rfl rfl)
theorem dX7_undo_1 : decode cX7_undo 1 = .ok (.iconst 0, 1) := dk_3 (dk_at dksX7_undo_0 1 rfl rfl)
theorem dX7_undo_2 : decode cX7_undo 2 = .ok (.putfield 76, 3) := dk_181 0 76 (dk_at dksX7_undo_0 2 rfl rfl)
theorem dX7_undo_5 : decode cX7_undo 5 = .ok (.aload_n 0, 1) := dk_42 (dk_at dksX7_undo_0 5 rfl rfl)
theorem dX7_undo_6 : decode cX7_undo 6 = .ok (.getfield 238, 3) := dk_180 0 238 (dk_at dksX7_undo_0 6 rfl rfl)
theorem dX7_undo_9 : decode cX7_undo 9 = .ok (.ifCond .ne 5, 3) := dk_154 0 5 (dk_at dksX7_undo_0 9 rfl rfl)
theorem dX7_undo_12 : decode cX7_undo 12 = .ok (.iconst (-1), 1) := dk_2 (dk_at dksX7_undo_0 12 rfl rfl)
theorem dX7_undo_13 : decode cX7_undo 13 = .ok (.ireturn, 1) := dk_172 (dk_at dksX7_undo_0 13 rfl rfl)
theorem dX7_undo_14 : decode cX7_undo 14 = .ok (.aload_n 0, 1) := dk_42 (dk_at dksX7_undo_0 14 rfl rfl)
theorem dX7_undo_15 : decode cX7_undo 15 = .ok (.dup, 1) := dk_89 (dk_at dksX7_undo_0 15 rfl rfl)
theorem dX7_undo_16 : decode cX7_undo 16 = .ok (.getfield 238, 3) := dk_180 0 238 (dk_at dksX7_undo_0 16 rfl rfl)
theorem dX7_undo_19 : decode cX7_undo 19 = .ok (.iconst 1, 1) := dk_4 (dk_at dksX7_undo_0 19 rfl rfl)
theorem dX7_undo_20 : decode cX7_undo 20 = .ok (.isub, 1) := dk_100 (dk_at dksX7_undo_0 20 rfl rfl)
theorem dX7_undo_21 : decode cX7_undo 21 = .ok (.putfield 238, 3) := dk_181 0 238 (dk_at dksX7_undo_0 21 rfl rfl)
theorem dX7_undo_24 : decode cX7_undo 24 = .ok (.iconst 0, 1) := dk_3 (dk_at dksX7_undo_1 0 rfl rfl)
theorem dX7_undo_25 : decode cX7_undo 25 = .ok (.istore_n 1, 1) := dk_60 (dk_at dksX7_undo_1 1 rfl rfl)
theorem dX7_undo_26 : decode cX7_undo 26 = .ok (.iload_n 1, 1) := dk_27 (dk_at dksX7_undo_1 2 rfl rfl)
theorem dX7_undo_27 : decode cX7_undo 27 = .ok (.sipush 993, 3) := dk_17 3 225 (dk_at dksX7_undo_1 3 rfl rfl)
theorem dX7_undo_30 : decode cX7_undo 30 = .ok (.if_icmp .ge 30, 3) := dk_162 0 30 (dk_at dksX7_undo_1 6 rfl rfl)
theorem dX7_undo_33 : decode cX7_undo 33 = .ok (.aload_n 0, 1) := dk_42 (dk_at dksX7_undo_1 9 rfl rfl)
theorem dX7_undo_34 : decode cX7_undo 34 = .ok (.getfield 7, 3) := dk_180 0 7 (dk_at dksX7_undo_1 10 rfl rfl)
theorem dX7_undo_37 : decode cX7_undo 37 = .ok (.iload_n 1, 1) := dk_27 (dk_at dksX7_undo_1 13 rfl rfl)
theorem dX7_undo_38 : decode cX7_undo 38 = .ok (.aload_n 0, 1) := dk_42 (dk_at dksX7_undo_1 14 rfl rfl)
theorem dX7_undo_39 : decode cX7_undo 39 = .ok (.getfield 19, 3) := dk_180 0 19 (dk_at dksX7_undo_1 15 rfl rfl)
theorem dX7_undo_42 : decode cX7_undo 42 = .ok (.sipush 993, 3) := dk_17 3 225 (dk_at dksX7_undo_1 18 rfl rfl)
theorem dX7_undo_45 : decode cX7_undo 45 = .ok (.aload_n 0, 1) := dk_42 (dk_at dksX7_undo_1 21 rfl rfl)
theorem dX7_undo_46 : decode cX7_undo 46 = .ok (.getfield 238, 3) := dk_180 0 238 (dk_at dksX7_undo_2 0 rfl rfl)
theorem dX7_undo_49 : decode cX7_undo 49 = .ok (.imul, 1) := dk_104 (dk_at dksX7_undo_2 3 rfl rfl)
theorem dX7_undo_50 : decode cX7_undo 50 = .ok (.iload_n 1, 1) := dk_27 (dk_at dksX7_undo_2 4 rfl rfl)
theorem dX7_undo_51 : decode cX7_undo 51 = .ok (.iadd, 1) := dk_96 (dk_at dksX7_undo_2 5 rfl rfl)
theorem dX7_undo_52 : decode cX7_undo 52 = .ok (.iaload, 1) := dk_46 (dk_at dksX7_undo_2 6 rfl rfl)
theorem dX7_undo_53 : decode cX7_undo 53 = .ok (.iastore, 1) := dk_79 (dk_at dksX7_undo_2 7 rfl rfl)
theorem dX7_undo_54 : decode cX7_undo 54 = .ok (.iinc 1 1, 3) := dk_132 1 1 (dk_at dksX7_undo_2 8 rfl rfl)
theorem dX7_undo_57 : decode cX7_undo 57 = .ok (.goto (-31), 3) := dk_167 255 225 (dk_at dksX7_undo_2 11 rfl rfl)
theorem dX7_undo_60 : decode cX7_undo 60 = .ok (.aload_n 0, 1) := dk_42 (dk_at dksX7_undo_2 14 rfl rfl)
theorem dX7_undo_61 : decode cX7_undo 61 = .ok (.getfield 238, 3) := dk_180 0 238 (dk_at dksX7_undo_2 15 rfl rfl)
theorem dX7_undo_64 : decode cX7_undo 64 = .ok (.ireturn, 1) := dk_172 (dk_at dksX7_undo_2 18 rfl rfl)
abbrev cX7_save : ByteArray := prog_19_method_116_code
def yX7_save : MethodName := ⟨RX7, "save", "(I)I"⟩
def dkwX7_save_2 : List UInt8 := [132, 2, 1, 167, 255, 228, 42, 180, 0, 25, 27, 4, 84, 42, 180, 0, 7, 8, 46, 172]
abbrev dktX7_save_2 : List UInt8 := dkwX7_save_2 ++ []
def dkwX7_save_1 : List UInt8 := [17, 3, 225, 162, 0, 27, 42, 180, 0, 22, 17, 3, 225, 27, 104, 28, 96, 42, 180, 0, 7, 28, 46, 79]
abbrev dktX7_save_1 : List UInt8 := dkwX7_save_1 ++ dktX7_save_2
def dkwX7_save_0 : List UInt8 := [42, 3, 181, 0, 76, 42, 27, 3, 4, 184, 0, 83, 182, 1, 66, 154, 0, 5, 3, 172, 3, 61, 28]
abbrev dktX7_save_0 : List UInt8 := dkwX7_save_0 ++ dktX7_save_1
theorem dksX7_save_0 : cX7_save.data.toList.drop 0 = dktX7_save_0 := by decide +kernel
theorem dksX7_save_1 : cX7_save.data.toList.drop 23 = dktX7_save_1 := dk_seg dksX7_save_0 23 rfl rfl
theorem dksX7_save_2 : cX7_save.data.toList.drop 47 = dktX7_save_2 := dk_seg dksX7_save_1 24 rfl rfl
theorem dX7_save_0 : decode cX7_save 0 = .ok (.aload_n 0, 1) := dk_42 (dk_at dksX7_save_0 0 rfl rfl)
theorem dX7_save_1 : decode cX7_save 1 = .ok (.iconst 0, 1) := dk_3 (dk_at dksX7_save_0 1 rfl rfl)
theorem dX7_save_2 : decode cX7_save 2 = .ok (.putfield 76, 3) := dk_181 0 76 (dk_at dksX7_save_0 2 rfl rfl)
theorem dX7_save_5 : decode cX7_save 5 = .ok (.aload_n 0, 1) := dk_42 (dk_at dksX7_save_0 5 rfl rfl)
theorem dX7_save_6 : decode cX7_save 6 = .ok (.iload_n 1, 1) := dk_27 (dk_at dksX7_save_0 6 rfl rfl)
theorem dX7_save_7 : decode cX7_save 7 = .ok (.iconst 0, 1) := dk_3 (dk_at dksX7_save_0 7 rfl rfl)
theorem dX7_save_8 : decode cX7_save 8 = .ok (.iconst 1, 1) := dk_4 (dk_at dksX7_save_0 8 rfl rfl)
theorem dX7_save_9 : decode cX7_save 9 = .ok (.invokestatic 83, 3) := dk_184 0 83 (dk_at dksX7_save_0 9 rfl rfl)
theorem dX7_save_12 : decode cX7_save 12 = .ok (.invokevirtual 322, 3) := dk_182 1 66 (dk_at dksX7_save_0 12 rfl rfl)
theorem dX7_save_15 : decode cX7_save 15 = .ok (.ifCond .ne 5, 3) := dk_154 0 5 (dk_at dksX7_save_0 15 rfl rfl)
theorem dX7_save_18 : decode cX7_save 18 = .ok (.iconst 0, 1) := dk_3 (dk_at dksX7_save_0 18 rfl rfl)
theorem dX7_save_19 : decode cX7_save 19 = .ok (.ireturn, 1) := dk_172 (dk_at dksX7_save_0 19 rfl rfl)
theorem dX7_save_20 : decode cX7_save 20 = .ok (.iconst 0, 1) := dk_3 (dk_at dksX7_save_0 20 rfl rfl)
theorem dX7_save_21 : decode cX7_save 21 = .ok (.istore_n 2, 1) := dk_61 (dk_at dksX7_save_0 21 rfl rfl)
theorem dX7_save_22 : decode cX7_save 22 = .ok (.iload_n 2, 1) := dk_28 (dk_at dksX7_save_0 22 rfl rfl)
theorem dX7_save_23 : decode cX7_save 23 = .ok (.sipush 993, 3) := dk_17 3 225 (dk_at dksX7_save_1 0 rfl rfl)
theorem dX7_save_26 : decode cX7_save 26 = .ok (.if_icmp .ge 27, 3) := dk_162 0 27 (dk_at dksX7_save_1 3 rfl rfl)
theorem dX7_save_29 : decode cX7_save 29 = .ok (.aload_n 0, 1) := dk_42 (dk_at dksX7_save_1 6 rfl rfl)
theorem dX7_save_30 : decode cX7_save 30 = .ok (.getfield 22, 3) := dk_180 0 22 (dk_at dksX7_save_1 7 rfl rfl)
theorem dX7_save_33 : decode cX7_save 33 = .ok (.sipush 993, 3) := dk_17 3 225 (dk_at dksX7_save_1 10 rfl rfl)
theorem dX7_save_36 : decode cX7_save 36 = .ok (.iload_n 1, 1) := dk_27 (dk_at dksX7_save_1 13 rfl rfl)
theorem dX7_save_37 : decode cX7_save 37 = .ok (.imul, 1) := dk_104 (dk_at dksX7_save_1 14 rfl rfl)
theorem dX7_save_38 : decode cX7_save 38 = .ok (.iload_n 2, 1) := dk_28 (dk_at dksX7_save_1 15 rfl rfl)
theorem dX7_save_39 : decode cX7_save 39 = .ok (.iadd, 1) := dk_96 (dk_at dksX7_save_1 16 rfl rfl)
theorem dX7_save_40 : decode cX7_save 40 = .ok (.aload_n 0, 1) := dk_42 (dk_at dksX7_save_1 17 rfl rfl)
theorem dX7_save_41 : decode cX7_save 41 = .ok (.getfield 7, 3) := dk_180 0 7 (dk_at dksX7_save_1 18 rfl rfl)
theorem dX7_save_44 : decode cX7_save 44 = .ok (.iload_n 2, 1) := dk_28 (dk_at dksX7_save_1 21 rfl rfl)
theorem dX7_save_45 : decode cX7_save 45 = .ok (.iaload, 1) := dk_46 (dk_at dksX7_save_1 22 rfl rfl)
theorem dX7_save_46 : decode cX7_save 46 = .ok (.iastore, 1) := dk_79 (dk_at dksX7_save_1 23 rfl rfl)
theorem dX7_save_47 : decode cX7_save 47 = .ok (.iinc 2 1, 3) := dk_132 2 1 (dk_at dksX7_save_2 0 rfl rfl)
theorem dX7_save_50 : decode cX7_save 50 = .ok (.goto (-28), 3) := dk_167 255 228 (dk_at dksX7_save_2 3 rfl rfl)
theorem dX7_save_53 : decode cX7_save 53 = .ok (.aload_n 0, 1) := dk_42 (dk_at dksX7_save_2 6 rfl rfl)
theorem dX7_save_54 : decode cX7_save 54 = .ok (.getfield 25, 3) := dk_180 0 25 (dk_at dksX7_save_2 7 rfl rfl)
theorem dX7_save_57 : decode cX7_save 57 = .ok (.iload_n 1, 1) := dk_27 (dk_at dksX7_save_2 10 rfl rfl)
theorem dX7_save_58 : decode cX7_save 58 = .ok (.iconst 1, 1) := dk_4 (dk_at dksX7_save_2 11 rfl rfl)
theorem dX7_save_59 : decode cX7_save 59 = .ok (.bastore, 1) := dk_84 (dk_at dksX7_save_2 12 rfl rfl)
theorem dX7_save_60 : decode cX7_save 60 = .ok (.aload_n 0, 1) := dk_42 (dk_at dksX7_save_2 13 rfl rfl)
theorem dX7_save_61 : decode cX7_save 61 = .ok (.getfield 7, 3) := dk_180 0 7 (dk_at dksX7_save_2 14 rfl rfl)
theorem dX7_save_64 : decode cX7_save 64 = .ok (.iconst 5, 1) := dk_8 (dk_at dksX7_save_2 17 rfl rfl)
theorem dX7_save_65 : decode cX7_save 65 = .ok (.iaload, 1) := dk_46 (dk_at dksX7_save_2 18 rfl rfl)
theorem dX7_save_66 : decode cX7_save 66 = .ok (.ireturn, 1) := dk_172 (dk_at dksX7_save_2 19 rfl rfl)
abbrev cX7_restore : ByteArray := prog_19_method_117_code
def yX7_restore : MethodName := ⟨RX7, "restore", "(I)I"⟩
def dkwX7_restore_3 : List UInt8 := [3, 181, 0, 238, 42, 180, 0, 7, 8, 46, 172]
abbrev dktX7_restore_3 : List UInt8 := dkwX7_restore_3 ++ []
def dkwX7_restore_2 : List UInt8 := [180, 0, 7, 28, 42, 180, 0, 22, 17, 3, 225, 27, 104, 28, 96, 46, 79, 132, 2, 1, 167, 255, 228, 42]
abbrev dktX7_restore_2 : List UInt8 := dkwX7_restore_2 ++ dktX7_restore_3
def dkwX7_restore_1 : List UInt8 := [27, 51, 154, 0, 10, 42, 5, 181, 0, 76, 3, 172, 3, 61, 28, 17, 3, 225, 162, 0, 27, 42]
abbrev dktX7_restore_1 : List UInt8 := dkwX7_restore_1 ++ dktX7_restore_2
def dkwX7_restore_0 : List UInt8 := [42, 3, 181, 0, 76, 42, 27, 3, 4, 184, 0, 83, 182, 1, 66, 154, 0, 5, 3, 172, 42, 180, 0, 25]
abbrev dktX7_restore_0 : List UInt8 := dkwX7_restore_0 ++ dktX7_restore_1
theorem dksX7_restore_0 : cX7_restore.data.toList.drop 0 = dktX7_restore_0 := by decide +kernel
theorem dksX7_restore_1 : cX7_restore.data.toList.drop 24 = dktX7_restore_1 := dk_seg dksX7_restore_0 24 rfl rfl
theorem dksX7_restore_2 : cX7_restore.data.toList.drop 46 = dktX7_restore_2 := dk_seg dksX7_restore_1 22 rfl rfl
theorem dksX7_restore_3 : cX7_restore.data.toList.drop 70 = dktX7_restore_3 := dk_seg dksX7_restore_2 24 rfl rfl
theorem dX7_restore_0 : decode cX7_restore 0 = .ok (.aload_n 0, 1) := dk_42 (dk_at dksX7_restore_0 0 rfl rfl)
theorem dX7_restore_1 : decode cX7_restore 1 = .ok (.iconst 0, 1) := dk_3 (dk_at dksX7_restore_0 1 rfl rfl)
theorem dX7_restore_2 : decode cX7_restore 2 = .ok (.putfield 76, 3) := dk_181 0 76 (dk_at dksX7_restore_0 2 rfl rfl)
theorem dX7_restore_5 : decode cX7_restore 5 = .ok (.aload_n 0, 1) := dk_42 (dk_at dksX7_restore_0 5 rfl rfl)
theorem dX7_restore_6 : decode cX7_restore 6 = .ok (.iload_n 1, 1) := dk_27 (dk_at dksX7_restore_0 6 rfl rfl)
theorem dX7_restore_7 : decode cX7_restore 7 = .ok (.iconst 0, 1) := dk_3 (dk_at dksX7_restore_0 7 rfl rfl)
theorem dX7_restore_8 : decode cX7_restore 8 = .ok (.iconst 1, 1) := dk_4 (dk_at dksX7_restore_0 8 rfl rfl)
theorem dX7_restore_9 : decode cX7_restore 9 = .ok (.invokestatic 83, 3) := dk_184 0 83 (dk_at dksX7_restore_0 9 rfl rfl)
theorem dX7_restore_12 : decode cX7_restore 12 = .ok (.invokevirtual 322, 3) := dk_182 1 66 (dk_at dksX7_restore_0 12 rfl rfl)
theorem dX7_restore_15 : decode cX7_restore 15 = .ok (.ifCond .ne 5, 3) := dk_154 0 5 (dk_at dksX7_restore_0 15 rfl rfl)
theorem dX7_restore_18 : decode cX7_restore 18 = .ok (.iconst 0, 1) := dk_3 (dk_at dksX7_restore_0 18 rfl rfl)
theorem dX7_restore_19 : decode cX7_restore 19 = .ok (.ireturn, 1) := dk_172 (dk_at dksX7_restore_0 19 rfl rfl)
theorem dX7_restore_20 : decode cX7_restore 20 = .ok (.aload_n 0, 1) := dk_42 (dk_at dksX7_restore_0 20 rfl rfl)
theorem dX7_restore_21 : decode cX7_restore 21 = .ok (.getfield 25, 3) := dk_180 0 25 (dk_at dksX7_restore_0 21 rfl rfl)
theorem dX7_restore_24 : decode cX7_restore 24 = .ok (.iload_n 1, 1) := dk_27 (dk_at dksX7_restore_1 0 rfl rfl)
theorem dX7_restore_25 : decode cX7_restore 25 = .ok (.baload, 1) := dk_51 (dk_at dksX7_restore_1 1 rfl rfl)
theorem dX7_restore_26 : decode cX7_restore 26 = .ok (.ifCond .ne 10, 3) := dk_154 0 10 (dk_at dksX7_restore_1 2 rfl rfl)
theorem dX7_restore_29 : decode cX7_restore 29 = .ok (.aload_n 0, 1) := dk_42 (dk_at dksX7_restore_1 5 rfl rfl)
theorem dX7_restore_30 : decode cX7_restore 30 = .ok (.iconst 2, 1) := dk_5 (dk_at dksX7_restore_1 6 rfl rfl)
theorem dX7_restore_31 : decode cX7_restore 31 = .ok (.putfield 76, 3) := dk_181 0 76 (dk_at dksX7_restore_1 7 rfl rfl)
theorem dX7_restore_34 : decode cX7_restore 34 = .ok (.iconst 0, 1) := dk_3 (dk_at dksX7_restore_1 10 rfl rfl)
theorem dX7_restore_35 : decode cX7_restore 35 = .ok (.ireturn, 1) := dk_172 (dk_at dksX7_restore_1 11 rfl rfl)
theorem dX7_restore_36 : decode cX7_restore 36 = .ok (.iconst 0, 1) := dk_3 (dk_at dksX7_restore_1 12 rfl rfl)
theorem dX7_restore_37 : decode cX7_restore 37 = .ok (.istore_n 2, 1) := dk_61 (dk_at dksX7_restore_1 13 rfl rfl)
theorem dX7_restore_38 : decode cX7_restore 38 = .ok (.iload_n 2, 1) := dk_28 (dk_at dksX7_restore_1 14 rfl rfl)
theorem dX7_restore_39 : decode cX7_restore 39 = .ok (.sipush 993, 3) := dk_17 3 225 (dk_at dksX7_restore_1 15 rfl rfl)
theorem dX7_restore_42 : decode cX7_restore 42 = .ok (.if_icmp .ge 27, 3) := dk_162 0 27 (dk_at dksX7_restore_1 18 rfl rfl)
theorem dX7_restore_45 : decode cX7_restore 45 = .ok (.aload_n 0, 1) := dk_42 (dk_at dksX7_restore_1 21 rfl rfl)
theorem dX7_restore_46 : decode cX7_restore 46 = .ok (.getfield 7, 3) := dk_180 0 7 (dk_at dksX7_restore_2 0 rfl rfl)
theorem dX7_restore_49 : decode cX7_restore 49 = .ok (.iload_n 2, 1) := dk_28 (dk_at dksX7_restore_2 3 rfl rfl)
theorem dX7_restore_50 : decode cX7_restore 50 = .ok (.aload_n 0, 1) := dk_42 (dk_at dksX7_restore_2 4 rfl rfl)
theorem dX7_restore_51 : decode cX7_restore 51 = .ok (.getfield 22, 3) := dk_180 0 22 (dk_at dksX7_restore_2 5 rfl rfl)
theorem dX7_restore_54 : decode cX7_restore 54 = .ok (.sipush 993, 3) := dk_17 3 225 (dk_at dksX7_restore_2 8 rfl rfl)
theorem dX7_restore_57 : decode cX7_restore 57 = .ok (.iload_n 1, 1) := dk_27 (dk_at dksX7_restore_2 11 rfl rfl)
theorem dX7_restore_58 : decode cX7_restore 58 = .ok (.imul, 1) := dk_104 (dk_at dksX7_restore_2 12 rfl rfl)
theorem dX7_restore_59 : decode cX7_restore 59 = .ok (.iload_n 2, 1) := dk_28 (dk_at dksX7_restore_2 13 rfl rfl)
theorem dX7_restore_60 : decode cX7_restore 60 = .ok (.iadd, 1) := dk_96 (dk_at dksX7_restore_2 14 rfl rfl)
theorem dX7_restore_61 : decode cX7_restore 61 = .ok (.iaload, 1) := dk_46 (dk_at dksX7_restore_2 15 rfl rfl)
theorem dX7_restore_62 : decode cX7_restore 62 = .ok (.iastore, 1) := dk_79 (dk_at dksX7_restore_2 16 rfl rfl)
theorem dX7_restore_63 : decode cX7_restore 63 = .ok (.iinc 2 1, 3) := dk_132 2 1 (dk_at dksX7_restore_2 17 rfl rfl)
theorem dX7_restore_66 : decode cX7_restore 66 = .ok (.goto (-28), 3) := dk_167 255 228 (dk_at dksX7_restore_2 20 rfl rfl)
theorem dX7_restore_69 : decode cX7_restore 69 = .ok (.aload_n 0, 1) := dk_42 (dk_at dksX7_restore_2 23 rfl rfl)
theorem dX7_restore_70 : decode cX7_restore 70 = .ok (.iconst 0, 1) := dk_3 (dk_at dksX7_restore_3 0 rfl rfl)
theorem dX7_restore_71 : decode cX7_restore 71 = .ok (.putfield 238, 3) := dk_181 0 238 (dk_at dksX7_restore_3 1 rfl rfl)
theorem dX7_restore_74 : decode cX7_restore 74 = .ok (.aload_n 0, 1) := dk_42 (dk_at dksX7_restore_3 4 rfl rfl)
theorem dX7_restore_75 : decode cX7_restore 75 = .ok (.getfield 7, 3) := dk_180 0 7 (dk_at dksX7_restore_3 5 rfl rfl)
theorem dX7_restore_78 : decode cX7_restore 78 = .ok (.iconst 5, 1) := dk_8 (dk_at dksX7_restore_3 8 rfl rfl)
theorem dX7_restore_79 : decode cX7_restore 79 = .ok (.iaload, 1) := dk_46 (dk_at dksX7_restore_3 9 rfl rfl)
theorem dX7_restore_80 : decode cX7_restore 80 = .ok (.ireturn, 1) := dk_172 (dk_at dksX7_restore_3 10 rfl rfl)
theorem q194 : (Jvm.Cond.initialized "LoopSignalsModel") ∈ lw_all := lw_g (lw_at lw_m1 46 rfl) rfl
theorem q1039 : (Jvm.Cond.selects "LoopSignalsModel" ({ cls := "java/lang/Object", name := "getClass", desc := "()Ljava/lang/Class;" } : Jvm.MethodName) ({ cls := "java/lang/Object", name := "getClass", desc := "()Ljava/lang/Class;" } : Jvm.MethodName)) ∈ lw_all := lw_g (lw_at lw_m4 171 rfl) rfl
theorem q1083 : (Jvm.Cond.selects "LoopSignalsModel" ({ cls := "java/lang/Object", name := "toString", desc := "()Ljava/lang/String;" } : Jvm.MethodName) ({ cls := "java/lang/Object", name := "toString", desc := "()Ljava/lang/String;" } : Jvm.MethodName)) ∈ lw_all := lw_g (lw_at lw_m4 215 rfl) rfl
theorem q1324 : (Jvm.Cond.selects "LoopSignalsModel" ({ cls := "java/lang/Object", name := "hashCode", desc := "()I" } : Jvm.MethodName) ({ cls := "java/lang/Object", name := "hashCode", desc := "()I" } : Jvm.MethodName)) ∈ lw_all := lw_g (lw_at lw_m5 216 rfl) rfl
theorem q1750 : (Jvm.Cond.selects "LoopSignalsModel" ({ cls := "java/lang/Object", name := "equals", desc := "(Ljava/lang/Object;)Z" } : Jvm.MethodName) ({ cls := "java/lang/Object", name := "equals", desc := "(Ljava/lang/Object;)Z" } : Jvm.MethodName)) ∈ lw_all := lw_g (lw_at lw_m7 162 rfl) rfl
theorem q3472 : (Jvm.Cond.instantiable "LoopSignalsModel" (26 : Nat)) ∈ lw_all := lw_g (lw_at lw_m14 204 rfl) rfl
theorem q3474 : (Jvm.Cond.instanceMethod ({ cls := "LoopSignalsModel", name := "<init>", desc := "()V" } : Jvm.MethodName)) ∈ lw_all := lw_g (lw_at lw_m14 206 rfl) rfl
theorem q3475 : (Jvm.Cond.code ({ cls := "LoopSignalsModel", name := "<init>", desc := "()V" } : Jvm.MethodName) prog_19_method_1_code (1 : Nat) (Option.none : Option Jvm.ClassFile.FieldType)) ∈ lw_all := lw_g (lw_at lw_m14 207 rfl) rfl
theorem q3476 : (Jvm.Cond.methodLink "LoopSignalsModel" (1 : Nat) ({ cls := "java/lang/Object", name := "<init>", desc := "()V" } : Jvm.MethodName)) ∈ lw_all := lw_g (lw_at lw_m14 208 rfl) rfl
theorem q3477 : (Jvm.Cond.stringRef "LoopSignalsModel" (51 : Nat) "junction 3 2 0; arm north; arm south; arm east; arm west; arm turn; clash north east; clash north west; clash south east; clash south west; clash turn south; clash turn east; clash turn west; phase 5 20 north south; phase 4 15 east west; phase 3 8 turn north") ∈ lw_tbl := lw_at lw_m14 209 rfl
theorem q3478 : (Jvm.Cond.methodLink "LoopSignalsModel" (53 : Nat) ({ cls := "LoopSignalsModel", name := "lays", desc := "(Ljava/lang/String;)V" } : Jvm.MethodName)) ∈ lw_all := lw_g (lw_at lw_m14 210 rfl) rfl
theorem q3479 : (Jvm.Cond.privateMethod ({ cls := "LoopSignalsModel", name := "lays", desc := "(Ljava/lang/String;)V" } : Jvm.MethodName)) ∈ lw_tbl := lw_at lw_m14 211 rfl
theorem q3480 : (Jvm.Cond.instanceMethod ({ cls := "LoopSignalsModel", name := "lays", desc := "(Ljava/lang/String;)V" } : Jvm.MethodName)) ∈ lw_all := lw_g (lw_at lw_m14 212 rfl) rfl
theorem q3481 : (Jvm.Cond.code ({ cls := "LoopSignalsModel", name := "lays", desc := "(Ljava/lang/String;)V" } : Jvm.MethodName) prog_19_method_2_code (3 : Nat) (Option.none : Option Jvm.ClassFile.FieldType)) ∈ lw_all := lw_g (lw_at lw_m14 213 rfl) rfl
theorem q3482 : (Jvm.Cond.methodLink "LoopSignalsModel" (57 : Nat) ({ cls := "java/lang/String", name := "length", desc := "()I" } : Jvm.MethodName)) ∈ lw_all := lw_g (lw_at lw_m14 214 rfl) rfl
theorem q3483 : (Jvm.Cond.methodLink "LoopSignalsModel" (63 : Nat) ({ cls := "java/lang/String", name := "charAt", desc := "(I)C" } : Jvm.MethodName)) ∈ lw_all := lw_g (lw_at lw_m14 215 rfl) rfl
theorem q3484 : (Jvm.Cond.methodLink "LoopSignalsModel" (70 : Nat) ({ cls := "LoopSignalsModel", name := "starts", desc := "()V" } : Jvm.MethodName)) ∈ lw_all := lw_g (lw_at lw_m14 216 rfl) rfl
theorem q3485 : (Jvm.Cond.privateMethod ({ cls := "LoopSignalsModel", name := "starts", desc := "()V" } : Jvm.MethodName)) ∈ lw_tbl := lw_at lw_m14 217 rfl
theorem q3486 : (Jvm.Cond.instanceMethod ({ cls := "LoopSignalsModel", name := "starts", desc := "()V" } : Jvm.MethodName)) ∈ lw_all := lw_g (lw_at lw_m14 218 rfl) rfl
theorem q3487 : (Jvm.Cond.code ({ cls := "LoopSignalsModel", name := "starts", desc := "()V" } : Jvm.MethodName) prog_19_method_39_code (1 : Nat) (Option.none : Option Jvm.ClassFile.FieldType)) ∈ lw_all := lw_g (lw_at lw_m14 219 rfl) rfl
theorem q3488 : (Jvm.Cond.methodLink "LoopSignalsModel" (177 : Nat) ({ cls := "LoopSignalsModel", name := "goes", desc := "()V" } : Jvm.MethodName)) ∈ lw_all := lw_g (lw_at lw_m14 220 rfl) rfl
theorem q3489 : (Jvm.Cond.privateMethod ({ cls := "LoopSignalsModel", name := "goes", desc := "()V" } : Jvm.MethodName)) ∈ lw_tbl := lw_at lw_m14 221 rfl
theorem q3490 : (Jvm.Cond.instanceMethod ({ cls := "LoopSignalsModel", name := "goes", desc := "()V" } : Jvm.MethodName)) ∈ lw_all := lw_g (lw_at lw_m14 222 rfl) rfl
theorem q3491 : (Jvm.Cond.code ({ cls := "LoopSignalsModel", name := "goes", desc := "()V" } : Jvm.MethodName) prog_19_method_38_code (2 : Nat) (Option.none : Option Jvm.ClassFile.FieldType)) ∈ lw_all := lw_g (lw_at lw_m14 223 rfl) rfl
theorem q3492 : (Jvm.Cond.methodLink "LoopSignalsModel" (162 : Nat) ({ cls := "LoopSignalsModel", name := "seen", desc := "(I)I" } : Jvm.MethodName)) ∈ lw_all := lw_g (lw_at lw_m14 224 rfl) rfl
theorem q3493 : (Jvm.Cond.privateMethod ({ cls := "LoopSignalsModel", name := "seen", desc := "(I)I" } : Jvm.MethodName)) ∈ lw_tbl := lw_at lw_m14 225 rfl
theorem q3494 : (Jvm.Cond.instanceMethod ({ cls := "LoopSignalsModel", name := "seen", desc := "(I)I" } : Jvm.MethodName)) ∈ lw_all := lw_g (lw_at lw_m14 226 rfl) rfl
theorem q3495 : (Jvm.Cond.code ({ cls := "LoopSignalsModel", name := "seen", desc := "(I)I" } : Jvm.MethodName) prog_19_method_37_code (2 : Nat) (Option.some Jvm.ClassFile.FieldType.int)) ∈ lw_all := lw_g (lw_at lw_m14 227 rfl) rfl
theorem q3496 : (Jvm.Cond.methodLink "LoopSignalsModel" (83 : Nat) ({ cls := "LoopSignalsModel", name := "in", desc := "(III)Z" } : Jvm.MethodName)) ∈ lw_all := lw_g (lw_at lw_m14 228 rfl) rfl
theorem q3497 : (Jvm.Cond.static ({ cls := "LoopSignalsModel", name := "in", desc := "(III)Z" } : Jvm.MethodName)) ∈ lw_all := lw_g (lw_at lw_m14 229 rfl) rfl
theorem q3498 : (Jvm.Cond.code ({ cls := "LoopSignalsModel", name := "in", desc := "(III)Z" } : Jvm.MethodName) prog_19_method_4_code (3 : Nat) (Option.some Jvm.ClassFile.FieldType.boolean)) ∈ lw_all := lw_g (lw_at lw_m14 230 rfl) rfl
theorem q3499 : (Jvm.Cond.methodLink "LoopSignalsModel" (102 : Nat) ({ cls := "java/lang/Math", name := "min", desc := "(II)I" } : Jvm.MethodName)) ∈ lw_all := lw_g (lw_at lw_m14 231 rfl) rfl
theorem q3500 : (Jvm.Cond.methodLink "LoopSignalsModel" (73 : Nat) ({ cls := "LoopSignalsModel", name := "readsSetup", desc := "()V" } : Jvm.MethodName)) ∈ lw_all := lw_g (lw_at lw_m14 232 rfl) rfl
theorem q3501 : (Jvm.Cond.privateMethod ({ cls := "LoopSignalsModel", name := "readsSetup", desc := "()V" } : Jvm.MethodName)) ∈ lw_tbl := lw_at lw_m14 233 rfl
theorem q3502 : (Jvm.Cond.instanceMethod ({ cls := "LoopSignalsModel", name := "readsSetup", desc := "()V" } : Jvm.MethodName)) ∈ lw_all := lw_g (lw_at lw_m14 234 rfl) rfl
theorem q3503 : (Jvm.Cond.code ({ cls := "LoopSignalsModel", name := "readsSetup", desc := "()V" } : Jvm.MethodName) prog_19_method_55_code (2 : Nat) (Option.none : Option Jvm.ClassFile.FieldType)) ∈ lw_all := lw_g (lw_at lw_m14 235 rfl) rfl
theorem q3504 : (Jvm.Cond.stringRef "LoopSignalsModel" (222 : Nat) "junction") ∈ lw_tbl := lw_at lw_m14 236 rfl
theorem q3505 : (Jvm.Cond.methodLink "LoopSignalsModel" (198 : Nat) ({ cls := "LoopSignalsModel", name := "isKey", desc := "(Ljava/lang/String;)Z" } : Jvm.MethodName)) ∈ lw_all := lw_g (lw_at lw_m14 237 rfl) rfl
theorem q3506 : (Jvm.Cond.privateMethod ({ cls := "LoopSignalsModel", name := "isKey", desc := "(Ljava/lang/String;)Z" } : Jvm.MethodName)) ∈ lw_tbl := lw_at lw_m14 238 rfl
theorem q3507 : (Jvm.Cond.instanceMethod ({ cls := "LoopSignalsModel", name := "isKey", desc := "(Ljava/lang/String;)Z" } : Jvm.MethodName)) ∈ lw_all := lw_g (lw_at lw_m14 239 rfl) rfl
theorem q3508 : (Jvm.Cond.code ({ cls := "LoopSignalsModel", name := "isKey", desc := "(Ljava/lang/String;)Z" } : Jvm.MethodName) prog_19_method_43_code (3 : Nat) (Option.some Jvm.ClassFile.FieldType.boolean)) ∈ lw_all := lw_g (lw_at lw_m15 0 rfl) rfl
theorem q3509 : (Jvm.Cond.methodLink "LoopSignalsModel" (183 : Nat) ({ cls := "LoopSignalsModel", name := "must", desc := "(ZI)Z" } : Jvm.MethodName)) ∈ lw_all := lw_g (lw_at lw_m15 1 rfl) rfl
theorem q3510 : (Jvm.Cond.privateMethod ({ cls := "LoopSignalsModel", name := "must", desc := "(ZI)Z" } : Jvm.MethodName)) ∈ lw_tbl := lw_at lw_m15 2 rfl
theorem q3511 : (Jvm.Cond.instanceMethod ({ cls := "LoopSignalsModel", name := "must", desc := "(ZI)Z" } : Jvm.MethodName)) ∈ lw_all := lw_g (lw_at lw_m15 3 rfl) rfl
theorem q3512 : (Jvm.Cond.code ({ cls := "LoopSignalsModel", name := "must", desc := "(ZI)Z" } : Jvm.MethodName) prog_19_method_40_code (3 : Nat) (Option.some Jvm.ClassFile.FieldType.boolean)) ∈ lw_all := lw_g (lw_at lw_m15 4 rfl) rfl
theorem q3513 : (Jvm.Cond.methodLink "LoopSignalsModel" (187 : Nat) ({ cls := "LoopSignalsModel", name := "passes", desc := "()V" } : Jvm.MethodName)) ∈ lw_all := lw_g (lw_at lw_m15 5 rfl) rfl
theorem q3514 : (Jvm.Cond.privateMethod ({ cls := "LoopSignalsModel", name := "passes", desc := "()V" } : Jvm.MethodName)) ∈ lw_tbl := lw_at lw_m15 6 rfl
theorem q3515 : (Jvm.Cond.instanceMethod ({ cls := "LoopSignalsModel", name := "passes", desc := "()V" } : Jvm.MethodName)) ∈ lw_all := lw_g (lw_at lw_m15 7 rfl) rfl
theorem q3516 : (Jvm.Cond.code ({ cls := "LoopSignalsModel", name := "passes", desc := "()V" } : Jvm.MethodName) prog_19_method_41_code (1 : Nat) (Option.none : Option Jvm.ClassFile.FieldType)) ∈ lw_all := lw_g (lw_at lw_m15 8 rfl) rfl
theorem q3517 : (Jvm.Cond.methodLink "LoopSignalsModel" (216 : Nat) ({ cls := "LoopSignalsModel", name := "number", desc := "(II)I" } : Jvm.MethodName)) ∈ lw_all := lw_g (lw_at lw_m15 9 rfl) rfl
theorem q3518 : (Jvm.Cond.privateMethod ({ cls := "LoopSignalsModel", name := "number", desc := "(II)I" } : Jvm.MethodName)) ∈ lw_tbl := lw_at lw_m15 10 rfl
theorem q3519 : (Jvm.Cond.instanceMethod ({ cls := "LoopSignalsModel", name := "number", desc := "(II)I" } : Jvm.MethodName)) ∈ lw_all := lw_g (lw_at lw_m15 11 rfl) rfl
theorem q3520 : (Jvm.Cond.code ({ cls := "LoopSignalsModel", name := "number", desc := "(II)I" } : Jvm.MethodName) prog_19_method_45_code (4 : Nat) (Option.some Jvm.ClassFile.FieldType.int)) ∈ lw_all := lw_g (lw_at lw_m15 12 rfl) rfl
theorem q3521 : (Jvm.Cond.methodLink "LoopSignalsModel" (224 : Nat) ({ cls := "LoopSignalsModel", name := "takesSign", desc := "(I)V" } : Jvm.MethodName)) ∈ lw_all := lw_g (lw_at lw_m15 13 rfl) rfl
theorem q3522 : (Jvm.Cond.privateMethod ({ cls := "LoopSignalsModel", name := "takesSign", desc := "(I)V" } : Jvm.MethodName)) ∈ lw_tbl := lw_at lw_m15 14 rfl
theorem q3523 : (Jvm.Cond.instanceMethod ({ cls := "LoopSignalsModel", name := "takesSign", desc := "(I)V" } : Jvm.MethodName)) ∈ lw_all := lw_g (lw_at lw_m15 15 rfl) rfl
theorem q3524 : (Jvm.Cond.code ({ cls := "LoopSignalsModel", name := "takesSign", desc := "(I)V" } : Jvm.MethodName) prog_19_method_44_code (2 : Nat) (Option.none : Option Jvm.ClassFile.FieldType)) ∈ lw_all := lw_g (lw_at lw_m15 16 rfl) rfl
theorem q3525 : (Jvm.Cond.methodLink "LoopSignalsModel" (180 : Nat) ({ cls := "LoopSignalsModel", name := "isSign", desc := "(I)Z" } : Jvm.MethodName)) ∈ lw_all := lw_g (lw_at lw_m15 17 rfl) rfl
theorem q3526 : (Jvm.Cond.privateMethod ({ cls := "LoopSignalsModel", name := "isSign", desc := "(I)Z" } : Jvm.MethodName)) ∈ lw_tbl := lw_at lw_m15 18 rfl
theorem q3527 : (Jvm.Cond.instanceMethod ({ cls := "LoopSignalsModel", name := "isSign", desc := "(I)Z" } : Jvm.MethodName)) ∈ lw_all := lw_g (lw_at lw_m15 19 rfl) rfl
theorem q3528 : (Jvm.Cond.code ({ cls := "LoopSignalsModel", name := "isSign", desc := "(I)Z" } : Jvm.MethodName) prog_19_method_42_code (2 : Nat) (Option.some Jvm.ClassFile.FieldType.boolean)) ∈ lw_all := lw_g (lw_at lw_m15 20 rfl) rfl
theorem q3529 : (Jvm.Cond.methodLink "LoopSignalsModel" (227 : Nat) ({ cls := "LoopSignalsModel", name := "readsArm", desc := "()V" } : Jvm.MethodName)) ∈ lw_all := lw_g (lw_at lw_m15 21 rfl) rfl
theorem q3530 : (Jvm.Cond.privateMethod ({ cls := "LoopSignalsModel", name := "readsArm", desc := "()V" } : Jvm.MethodName)) ∈ lw_tbl := lw_at lw_m15 22 rfl
theorem q3531 : (Jvm.Cond.instanceMethod ({ cls := "LoopSignalsModel", name := "readsArm", desc := "()V" } : Jvm.MethodName)) ∈ lw_all := lw_g (lw_at lw_m15 23 rfl) rfl
theorem q3532 : (Jvm.Cond.code ({ cls := "LoopSignalsModel", name := "readsArm", desc := "()V" } : Jvm.MethodName) prog_19_method_50_code (2 : Nat) (Option.none : Option Jvm.ClassFile.FieldType)) ∈ lw_all := lw_g (lw_at lw_m15 24 rfl) rfl
theorem q3533 : (Jvm.Cond.stringRef "LoopSignalsModel" (196 : Nat) "arm") ∈ lw_tbl := lw_at lw_m15 25 rfl
theorem q3534 : (Jvm.Cond.methodLink "LoopSignalsModel" (193 : Nat) ({ cls := "LoopSignalsModel", name := "looksAtName", desc := "()I" } : Jvm.MethodName)) ∈ lw_all := lw_g (lw_at lw_m15 26 rfl) rfl
theorem q3535 : (Jvm.Cond.privateMethod ({ cls := "LoopSignalsModel", name := "looksAtName", desc := "()I" } : Jvm.MethodName)) ∈ lw_tbl := lw_at lw_m15 27 rfl
theorem q3536 : (Jvm.Cond.instanceMethod ({ cls := "LoopSignalsModel", name := "looksAtName", desc := "()I" } : Jvm.MethodName)) ∈ lw_all := lw_g (lw_at lw_m15 28 rfl) rfl
theorem q3537 : (Jvm.Cond.code ({ cls := "LoopSignalsModel", name := "looksAtName", desc := "()I" } : Jvm.MethodName) prog_19_method_48_code (1 : Nat) (Option.some Jvm.ClassFile.FieldType.int)) ∈ lw_all := lw_g (lw_at lw_m15 29 rfl) rfl
theorem q3538 : (Jvm.Cond.methodLink "LoopSignalsModel" (190 : Nat) ({ cls := "LoopSignalsModel", name := "packed", desc := "(II)I" } : Jvm.MethodName)) ∈ lw_all := lw_g (lw_at lw_m15 30 rfl) rfl
theorem q3539 : (Jvm.Cond.privateMethod ({ cls := "LoopSignalsModel", name := "packed", desc := "(II)I" } : Jvm.MethodName)) ∈ lw_tbl := lw_at lw_m15 31 rfl
theorem q3540 : (Jvm.Cond.instanceMethod ({ cls := "LoopSignalsModel", name := "packed", desc := "(II)I" } : Jvm.MethodName)) ∈ lw_all := lw_g (lw_at lw_m15 32 rfl) rfl
theorem q3541 : (Jvm.Cond.code ({ cls := "LoopSignalsModel", name := "packed", desc := "(II)I" } : Jvm.MethodName) prog_19_method_46_code (5 : Nat) (Option.some Jvm.ClassFile.FieldType.int)) ∈ lw_all := lw_g (lw_at lw_m15 33 rfl) rfl
theorem q3542 : (Jvm.Cond.methodLink "LoopSignalsModel" (202 : Nat) ({ cls := "LoopSignalsModel", name := "named", desc := "(I)I" } : Jvm.MethodName)) ∈ lw_all := lw_g (lw_at lw_m15 34 rfl) rfl
theorem q3543 : (Jvm.Cond.privateMethod ({ cls := "LoopSignalsModel", name := "named", desc := "(I)I" } : Jvm.MethodName)) ∈ lw_tbl := lw_at lw_m15 35 rfl
theorem q3544 : (Jvm.Cond.instanceMethod ({ cls := "LoopSignalsModel", name := "named", desc := "(I)I" } : Jvm.MethodName)) ∈ lw_all := lw_g (lw_at lw_m15 36 rfl) rfl
theorem q3545 : (Jvm.Cond.code ({ cls := "LoopSignalsModel", name := "named", desc := "(I)I" } : Jvm.MethodName) prog_19_method_47_code (3 : Nat) (Option.some Jvm.ClassFile.FieldType.int)) ∈ lw_all := lw_g (lw_at lw_m15 37 rfl) rfl
theorem q3546 : (Jvm.Cond.methodLink "LoopSignalsModel" (91 : Nat) ({ cls := "LoopSignalsModel", name := "of", desc := "(II)I" } : Jvm.MethodName)) ∈ lw_all := lw_g (lw_at lw_m15 38 rfl) rfl
theorem q3547 : (Jvm.Cond.privateMethod ({ cls := "LoopSignalsModel", name := "of", desc := "(II)I" } : Jvm.MethodName)) ∈ lw_tbl := lw_at lw_m15 39 rfl
theorem q3548 : (Jvm.Cond.instanceMethod ({ cls := "LoopSignalsModel", name := "of", desc := "(II)I" } : Jvm.MethodName)) ∈ lw_all := lw_g (lw_at lw_m15 40 rfl) rfl
theorem q3549 : (Jvm.Cond.code ({ cls := "LoopSignalsModel", name := "of", desc := "(II)I" } : Jvm.MethodName) prog_19_method_6_code (3 : Nat) (Option.some Jvm.ClassFile.FieldType.int)) ∈ lw_all := lw_g (lw_at lw_m15 41 rfl) rfl
theorem q3550 : (Jvm.Cond.methodLink "LoopSignalsModel" (127 : Nat) ({ cls := "LoopSignalsModel", name := "puts", desc := "(III)V" } : Jvm.MethodName)) ∈ lw_all := lw_g (lw_at lw_m15 42 rfl) rfl
theorem q3551 : (Jvm.Cond.privateMethod ({ cls := "LoopSignalsModel", name := "puts", desc := "(III)V" } : Jvm.MethodName)) ∈ lw_tbl := lw_at lw_m15 43 rfl
theorem q3552 : (Jvm.Cond.instanceMethod ({ cls := "LoopSignalsModel", name := "puts", desc := "(III)V" } : Jvm.MethodName)) ∈ lw_all := lw_g (lw_at lw_m15 44 rfl) rfl
theorem q3553 : (Jvm.Cond.code ({ cls := "LoopSignalsModel", name := "puts", desc := "(III)V" } : Jvm.MethodName) prog_19_method_7_code (4 : Nat) (Option.none : Option Jvm.ClassFile.FieldType)) ∈ lw_all := lw_g (lw_at lw_m15 45 rfl) rfl
theorem q3554 : (Jvm.Cond.stringRef "LoopSignalsModel" (230 : Nat) "clash") ∈ lw_tbl := lw_at lw_m15 46 rfl
theorem q3555 : (Jvm.Cond.methodLink "LoopSignalsModel" (232 : Nat) ({ cls := "LoopSignalsModel", name := "readsClash", desc := "()V" } : Jvm.MethodName)) ∈ lw_all := lw_g (lw_at lw_m15 47 rfl) rfl
theorem q3556 : (Jvm.Cond.privateMethod ({ cls := "LoopSignalsModel", name := "readsClash", desc := "()V" } : Jvm.MethodName)) ∈ lw_tbl := lw_at lw_m15 48 rfl
theorem q3557 : (Jvm.Cond.instanceMethod ({ cls := "LoopSignalsModel", name := "readsClash", desc := "()V" } : Jvm.MethodName)) ∈ lw_all := lw_g (lw_at lw_m15 49 rfl) rfl
theorem q3558 : (Jvm.Cond.code ({ cls := "LoopSignalsModel", name := "readsClash", desc := "()V" } : Jvm.MethodName) prog_19_method_51_code (3 : Nat) (Option.none : Option Jvm.ClassFile.FieldType)) ∈ lw_all := lw_g (lw_at lw_m15 50 rfl) rfl
theorem q3559 : (Jvm.Cond.methodLink "LoopSignalsModel" (205 : Nat) ({ cls := "LoopSignalsModel", name := "putsClash", desc := "(III)V" } : Jvm.MethodName)) ∈ lw_all := lw_g (lw_at lw_m15 51 rfl) rfl
theorem q3560 : (Jvm.Cond.privateMethod ({ cls := "LoopSignalsModel", name := "putsClash", desc := "(III)V" } : Jvm.MethodName)) ∈ lw_tbl := lw_at lw_m15 52 rfl
theorem q3561 : (Jvm.Cond.instanceMethod ({ cls := "LoopSignalsModel", name := "putsClash", desc := "(III)V" } : Jvm.MethodName)) ∈ lw_all := lw_g (lw_at lw_m15 53 rfl) rfl
theorem q3562 : (Jvm.Cond.code ({ cls := "LoopSignalsModel", name := "putsClash", desc := "(III)V" } : Jvm.MethodName) prog_19_method_12_code (4 : Nat) (Option.none : Option Jvm.ClassFile.FieldType)) ∈ lw_all := lw_g (lw_at lw_m15 54 rfl) rfl
theorem q3563 : (Jvm.Cond.methodLink "LoopSignalsModel" (235 : Nat) ({ cls := "LoopSignalsModel", name := "readsPhase", desc := "()V" } : Jvm.MethodName)) ∈ lw_all := lw_g (lw_at lw_m15 55 rfl) rfl
theorem q3564 : (Jvm.Cond.privateMethod ({ cls := "LoopSignalsModel", name := "readsPhase", desc := "()V" } : Jvm.MethodName)) ∈ lw_tbl := lw_at lw_m15 56 rfl
theorem q3565 : (Jvm.Cond.instanceMethod ({ cls := "LoopSignalsModel", name := "readsPhase", desc := "()V" } : Jvm.MethodName)) ∈ lw_all := lw_g (lw_at lw_m15 57 rfl) rfl
theorem q3566 : (Jvm.Cond.code ({ cls := "LoopSignalsModel", name := "readsPhase", desc := "()V" } : Jvm.MethodName) prog_19_method_54_code (4 : Nat) (Option.none : Option Jvm.ClassFile.FieldType)) ∈ lw_all := lw_g (lw_at lw_m15 58 rfl) rfl
theorem q3567 : (Jvm.Cond.stringRef "LoopSignalsModel" (214 : Nat) "phase") ∈ lw_tbl := lw_at lw_m15 59 rfl
theorem q3568 : (Jvm.Cond.methodLink "LoopSignalsModel" (137 : Nat) ({ cls := "LoopSignalsModel", name := "putPhase", desc := "(III)V" } : Jvm.MethodName)) ∈ lw_all := lw_g (lw_at lw_m15 60 rfl) rfl
theorem q3569 : (Jvm.Cond.privateMethod ({ cls := "LoopSignalsModel", name := "putPhase", desc := "(III)V" } : Jvm.MethodName)) ∈ lw_tbl := lw_at lw_m15 61 rfl
theorem q3570 : (Jvm.Cond.instanceMethod ({ cls := "LoopSignalsModel", name := "putPhase", desc := "(III)V" } : Jvm.MethodName)) ∈ lw_all := lw_g (lw_at lw_m15 62 rfl) rfl
theorem q3571 : (Jvm.Cond.code ({ cls := "LoopSignalsModel", name := "putPhase", desc := "(III)V" } : Jvm.MethodName) prog_19_method_9_code (4 : Nat) (Option.none : Option Jvm.ClassFile.FieldType)) ∈ lw_all := lw_g (lw_at lw_m15 63 rfl) rfl
theorem q3572 : (Jvm.Cond.methodLink "LoopSignalsModel" (219 : Nat) ({ cls := "LoopSignalsModel", name := "readsMember", desc := "(I)V" } : Jvm.MethodName)) ∈ lw_all := lw_g (lw_at lw_m15 64 rfl) rfl
theorem q3573 : (Jvm.Cond.privateMethod ({ cls := "LoopSignalsModel", name := "readsMember", desc := "(I)V" } : Jvm.MethodName)) ∈ lw_tbl := lw_at lw_m15 65 rfl
theorem q3574 : (Jvm.Cond.instanceMethod ({ cls := "LoopSignalsModel", name := "readsMember", desc := "(I)V" } : Jvm.MethodName)) ∈ lw_all := lw_g (lw_at lw_m15 66 rfl) rfl
theorem q3575 : (Jvm.Cond.code ({ cls := "LoopSignalsModel", name := "readsMember", desc := "(I)V" } : Jvm.MethodName) prog_19_method_53_code (3 : Nat) (Option.none : Option Jvm.ClassFile.FieldType)) ∈ lw_all := lw_g (lw_at lw_m15 67 rfl) rfl
theorem q3576 : (Jvm.Cond.methodLink "LoopSignalsModel" (211 : Nat) ({ cls := "LoopSignalsModel", name := "canJoin", desc := "(II)Z" } : Jvm.MethodName)) ∈ lw_all := lw_g (lw_at lw_m15 68 rfl) rfl
theorem q3577 : (Jvm.Cond.privateMethod ({ cls := "LoopSignalsModel", name := "canJoin", desc := "(II)Z" } : Jvm.MethodName)) ∈ lw_tbl := lw_at lw_m15 69 rfl
theorem q3578 : (Jvm.Cond.instanceMethod ({ cls := "LoopSignalsModel", name := "canJoin", desc := "(II)Z" } : Jvm.MethodName)) ∈ lw_all := lw_g (lw_at lw_m15 70 rfl) rfl
theorem q3579 : (Jvm.Cond.code ({ cls := "LoopSignalsModel", name := "canJoin", desc := "(II)Z" } : Jvm.MethodName) prog_19_method_52_code (4 : Nat) (Option.some Jvm.ClassFile.FieldType.boolean)) ∈ lw_all := lw_g (lw_at lw_m15 71 rfl) rfl
theorem q3580 : (Jvm.Cond.methodLink "LoopSignalsModel" (87 : Nat) ({ cls := "LoopSignalsModel", name := "hasArm", desc := "(II)Z" } : Jvm.MethodName)) ∈ lw_all := lw_g (lw_at lw_m15 72 rfl) rfl
theorem q3581 : (Jvm.Cond.privateMethod ({ cls := "LoopSignalsModel", name := "hasArm", desc := "(II)Z" } : Jvm.MethodName)) ∈ lw_tbl := lw_at lw_m15 73 rfl
theorem q3582 : (Jvm.Cond.instanceMethod ({ cls := "LoopSignalsModel", name := "hasArm", desc := "(II)Z" } : Jvm.MethodName)) ∈ lw_all := lw_g (lw_at lw_m15 74 rfl) rfl
theorem q3583 : (Jvm.Cond.code ({ cls := "LoopSignalsModel", name := "hasArm", desc := "(II)Z" } : Jvm.MethodName) prog_19_method_10_code (3 : Nat) (Option.some Jvm.ClassFile.FieldType.boolean)) ∈ lw_all := lw_g (lw_at lw_m15 75 rfl) rfl
theorem q3584 : (Jvm.Cond.methodLink "LoopSignalsModel" (79 : Nat) ({ cls := "LoopSignalsModel", name := "ofPhase", desc := "(II)I" } : Jvm.MethodName)) ∈ lw_all := lw_g (lw_at lw_m15 76 rfl) rfl
theorem q3585 : (Jvm.Cond.privateMethod ({ cls := "LoopSignalsModel", name := "ofPhase", desc := "(II)I" } : Jvm.MethodName)) ∈ lw_tbl := lw_at lw_m15 77 rfl
theorem q3586 : (Jvm.Cond.instanceMethod ({ cls := "LoopSignalsModel", name := "ofPhase", desc := "(II)I" } : Jvm.MethodName)) ∈ lw_all := lw_g (lw_at lw_m15 78 rfl) rfl
theorem q3587 : (Jvm.Cond.code ({ cls := "LoopSignalsModel", name := "ofPhase", desc := "(II)I" } : Jvm.MethodName) prog_19_method_8_code (3 : Nat) (Option.some Jvm.ClassFile.FieldType.int)) ∈ lw_all := lw_g (lw_at lw_m15 79 rfl) rfl
theorem q3588 : (Jvm.Cond.methodLink "LoopSignalsModel" (208 : Nat) ({ cls := "LoopSignalsModel", name := "areClashing", desc := "(II)Z" } : Jvm.MethodName)) ∈ lw_all := lw_g (lw_at lw_m15 80 rfl) rfl
theorem q3589 : (Jvm.Cond.privateMethod ({ cls := "LoopSignalsModel", name := "areClashing", desc := "(II)Z" } : Jvm.MethodName)) ∈ lw_tbl := lw_at lw_m15 81 rfl
theorem q3590 : (Jvm.Cond.instanceMethod ({ cls := "LoopSignalsModel", name := "areClashing", desc := "(II)Z" } : Jvm.MethodName)) ∈ lw_all := lw_g (lw_at lw_m15 82 rfl) rfl
theorem q3591 : (Jvm.Cond.code ({ cls := "LoopSignalsModel", name := "areClashing", desc := "(II)Z" } : Jvm.MethodName) prog_19_method_11_code (3 : Nat) (Option.some Jvm.ClassFile.FieldType.boolean)) ∈ lw_all := lw_g (lw_at lw_m15 83 rfl) rfl
theorem q3592 : (Jvm.Cond.fieldLink "LoopSignalsModel" (7 : Nat) "LoopSignalsModel" "now" "[I") ∈ lw_all := lw_g (lw_at lw_m15 84 rfl) rfl
theorem q3593 : (Jvm.Cond.fieldLink "LoopSignalsModel" (13 : Nat) "LoopSignalsModel" "aside" "[I") ∈ lw_all := lw_g (lw_at lw_m15 85 rfl) rfl
theorem q3594 : (Jvm.Cond.fieldLink "LoopSignalsModel" (16 : Nat) "LoopSignalsModel" "reading" "[I") ∈ lw_all := lw_g (lw_at lw_m15 86 rfl) rfl
theorem q3595 : (Jvm.Cond.fieldLink "LoopSignalsModel" (19 : Nat) "LoopSignalsModel" "earlier" "[I") ∈ lw_all := lw_g (lw_at lw_m15 87 rfl) rfl
theorem q3596 : (Jvm.Cond.fieldLink "LoopSignalsModel" (22 : Nat) "LoopSignalsModel" "saved" "[I") ∈ lw_all := lw_g (lw_at lw_m15 88 rfl) rfl
theorem q3597 : (Jvm.Cond.fieldLink "LoopSignalsModel" (25 : Nat) "LoopSignalsModel" "isSaved" "[Z") ∈ lw_all := lw_g (lw_at lw_m15 89 rfl) rfl
theorem q3598 : (Jvm.Cond.fieldLink "LoopSignalsModel" (238 : Nat) "LoopSignalsModel" "undos" "I") ∈ lw_all := lw_g (lw_at lw_m15 90 rfl) rfl
theorem q3599 : (Jvm.Cond.fieldLink "LoopSignalsModel" (241 : Nat) "LoopSignalsModel" "refusals" "I") ∈ lw_all := lw_g (lw_at lw_m15 91 rfl) rfl
theorem q3600 : (Jvm.Cond.fieldLink "LoopSignalsModel" (76 : Nat) "LoopSignalsModel" "thrown" "I") ∈ lw_all := lw_g (lw_at lw_m15 92 rfl) rfl
theorem q3601 : (Jvm.Cond.fieldLink "LoopSignalsModel" (29 : Nat) "LoopSignalsModel" "buffer" "[I") ∈ lw_all := lw_g (lw_at lw_m15 93 rfl) rfl
theorem q3602 : (Jvm.Cond.fieldLink "LoopSignalsModel" (67 : Nat) "LoopSignalsModel" "fed" "I") ∈ lw_all := lw_g (lw_at lw_m15 94 rfl) rfl
theorem q3603 : (Jvm.Cond.fieldLink "LoopSignalsModel" (32 : Nat) "LoopSignalsModel" "errorAt" "I") ∈ lw_all := lw_g (lw_at lw_m15 95 rfl) rfl
theorem q3604 : (Jvm.Cond.fieldLink "LoopSignalsModel" (159 : Nat) "LoopSignalsModel" "spot" "I") ∈ lw_all := lw_g (lw_at lw_m15 96 rfl) rfl
theorem q3605 : (Jvm.Cond.fieldLink "LoopSignalsModel" (165 : Nat) "LoopSignalsModel" "begin" "I") ∈ lw_all := lw_g (lw_at lw_m15 97 rfl) rfl
theorem q3606 : (Jvm.Cond.fieldLink "LoopSignalsModel" (168 : Nat) "LoopSignalsModel" "token" "I") ∈ lw_all := lw_g (lw_at lw_m15 98 rfl) rfl
theorem q3607 : (Jvm.Cond.fieldLink "LoopSignalsModel" (171 : Nat) "LoopSignalsModel" "value" "I") ∈ lw_all := lw_g (lw_at lw_m15 99 rfl) rfl
theorem q3608 : (Jvm.Cond.fieldLink "LoopSignalsModel" (174 : Nat) "LoopSignalsModel" "code" "I") ∈ lw_all := lw_g (lw_at lw_m15 100 rfl) rfl
theorem q3609 : (Jvm.Cond.fieldLink "LoopSignalsModel" (36 : Nat) "LoopSignalsModel" "kinds" "[I") ∈ lw_all := lw_g (lw_at lw_m15 101 rfl) rfl
theorem q3610 : (Jvm.Cond.fieldLink "LoopSignalsModel" (39 : Nat) "LoopSignalsModel" "names" "[I") ∈ lw_all := lw_g (lw_at lw_m15 102 rfl) rfl
theorem q3611 : (Jvm.Cond.fieldLink "LoopSignalsModel" (42 : Nat) "LoopSignalsModel" "ones" "[I") ∈ lw_all := lw_g (lw_at lw_m15 103 rfl) rfl
theorem q3612 : (Jvm.Cond.fieldLink "LoopSignalsModel" (45 : Nat) "LoopSignalsModel" "twos" "[I") ∈ lw_all := lw_g (lw_at lw_m15 104 rfl) rfl
theorem q3613 : (Jvm.Cond.fieldLink "LoopSignalsModel" (266 : Nat) "LoopSignalsModel" "orders" "I") ∈ lw_all := lw_g (lw_at lw_m15 105 rfl) rfl
theorem q3614 : (Jvm.Cond.fieldLink "LoopSignalsModel" (309 : Nat) "LoopSignalsModel" "done" "I") ∈ lw_all := lw_g (lw_at lw_m15 106 rfl) rfl
theorem q3615 : (Jvm.Cond.fieldLink "LoopSignalsModel" (318 : Nat) "LoopSignalsModel" "isScript" "Z") ∈ lw_all := lw_g (lw_at lw_m15 107 rfl) rfl
theorem q3616 : (Jvm.Cond.fieldLink "LoopSignalsModel" (48 : Nat) "LoopSignalsModel" "out" "[I") ∈ lw_all := lw_g (lw_at lw_m15 108 rfl) rfl
theorem q3617 : (Jvm.Cond.fieldLink "LoopSignalsModel" (383 : Nat) "LoopSignalsModel" "written" "I") ∈ lw_all := lw_g (lw_at lw_m15 109 rfl) rfl
theorem q3618 : (Jvm.Cond.laysFinal "LoopSignalsModel" "LoopSignalsModel" "now" "[I") ∈ lw_all := lw_g (lw_at lw_m15 110 rfl) rfl
theorem q3619 : (Jvm.Cond.soleField "LoopSignalsModel" "now") ∈ lw_all := lw_g (lw_at lw_m15 111 rfl) rfl
theorem q3620 : (Jvm.Cond.laysFinal "LoopSignalsModel" "LoopSignalsModel" "aside" "[I") ∈ lw_all := lw_g (lw_at lw_m15 112 rfl) rfl
theorem q3621 : (Jvm.Cond.soleField "LoopSignalsModel" "aside") ∈ lw_all := lw_g (lw_at lw_m15 113 rfl) rfl
theorem q3622 : (Jvm.Cond.laysFinal "LoopSignalsModel" "LoopSignalsModel" "reading" "[I") ∈ lw_all := lw_g (lw_at lw_m15 114 rfl) rfl
theorem q3623 : (Jvm.Cond.soleField "LoopSignalsModel" "reading") ∈ lw_all := lw_g (lw_at lw_m15 115 rfl) rfl
theorem q3624 : (Jvm.Cond.laysFinal "LoopSignalsModel" "LoopSignalsModel" "earlier" "[I") ∈ lw_all := lw_g (lw_at lw_m15 116 rfl) rfl
theorem q3625 : (Jvm.Cond.soleField "LoopSignalsModel" "earlier") ∈ lw_all := lw_g (lw_at lw_m15 117 rfl) rfl
theorem q3626 : (Jvm.Cond.laysFinal "LoopSignalsModel" "LoopSignalsModel" "saved" "[I") ∈ lw_all := lw_g (lw_at lw_m15 118 rfl) rfl
theorem q3627 : (Jvm.Cond.soleField "LoopSignalsModel" "saved") ∈ lw_all := lw_g (lw_at lw_m15 119 rfl) rfl
theorem q3628 : (Jvm.Cond.laysFinal "LoopSignalsModel" "LoopSignalsModel" "isSaved" "[Z") ∈ lw_all := lw_g (lw_at lw_m15 120 rfl) rfl
theorem q3629 : (Jvm.Cond.soleField "LoopSignalsModel" "isSaved") ∈ lw_all := lw_g (lw_at lw_m15 121 rfl) rfl
theorem q3630 : (Jvm.Cond.lays "LoopSignalsModel" "LoopSignalsModel" "undos" "I") ∈ lw_all := lw_g (lw_at lw_m15 122 rfl) rfl
theorem q3631 : (Jvm.Cond.soleField "LoopSignalsModel" "undos") ∈ lw_all := lw_g (lw_at lw_m15 123 rfl) rfl
theorem q3632 : (Jvm.Cond.lays "LoopSignalsModel" "LoopSignalsModel" "refusals" "I") ∈ lw_all := lw_g (lw_at lw_m15 124 rfl) rfl
theorem q3633 : (Jvm.Cond.soleField "LoopSignalsModel" "refusals") ∈ lw_all := lw_g (lw_at lw_m15 125 rfl) rfl
theorem q3634 : (Jvm.Cond.lays "LoopSignalsModel" "LoopSignalsModel" "thrown" "I") ∈ lw_all := lw_g (lw_at lw_m15 126 rfl) rfl
theorem q3635 : (Jvm.Cond.soleField "LoopSignalsModel" "thrown") ∈ lw_all := lw_g (lw_at lw_m15 127 rfl) rfl
theorem q3636 : (Jvm.Cond.laysFinal "LoopSignalsModel" "LoopSignalsModel" "buffer" "[I") ∈ lw_all := lw_g (lw_at lw_m15 128 rfl) rfl
theorem q3637 : (Jvm.Cond.soleField "LoopSignalsModel" "buffer") ∈ lw_all := lw_g (lw_at lw_m15 129 rfl) rfl
theorem q3638 : (Jvm.Cond.lays "LoopSignalsModel" "LoopSignalsModel" "fed" "I") ∈ lw_all := lw_g (lw_at lw_m15 130 rfl) rfl
theorem q3639 : (Jvm.Cond.soleField "LoopSignalsModel" "fed") ∈ lw_all := lw_g (lw_at lw_m15 131 rfl) rfl
theorem q3640 : (Jvm.Cond.lays "LoopSignalsModel" "LoopSignalsModel" "errorAt" "I") ∈ lw_all := lw_g (lw_at lw_m15 132 rfl) rfl
theorem q3641 : (Jvm.Cond.soleField "LoopSignalsModel" "errorAt") ∈ lw_all := lw_g (lw_at lw_m15 133 rfl) rfl
theorem q3642 : (Jvm.Cond.lays "LoopSignalsModel" "LoopSignalsModel" "spot" "I") ∈ lw_all := lw_g (lw_at lw_m15 134 rfl) rfl
theorem q3643 : (Jvm.Cond.soleField "LoopSignalsModel" "spot") ∈ lw_all := lw_g (lw_at lw_m15 135 rfl) rfl
theorem q3644 : (Jvm.Cond.lays "LoopSignalsModel" "LoopSignalsModel" "begin" "I") ∈ lw_all := lw_g (lw_at lw_m15 136 rfl) rfl
theorem q3645 : (Jvm.Cond.soleField "LoopSignalsModel" "begin") ∈ lw_all := lw_g (lw_at lw_m15 137 rfl) rfl
theorem q3646 : (Jvm.Cond.lays "LoopSignalsModel" "LoopSignalsModel" "token" "I") ∈ lw_all := lw_g (lw_at lw_m15 138 rfl) rfl
theorem q3647 : (Jvm.Cond.soleField "LoopSignalsModel" "token") ∈ lw_all := lw_g (lw_at lw_m15 139 rfl) rfl
theorem q3648 : (Jvm.Cond.lays "LoopSignalsModel" "LoopSignalsModel" "value" "I") ∈ lw_all := lw_g (lw_at lw_m15 140 rfl) rfl
theorem q3649 : (Jvm.Cond.soleField "LoopSignalsModel" "value") ∈ lw_all := lw_g (lw_at lw_m15 141 rfl) rfl
theorem q3650 : (Jvm.Cond.lays "LoopSignalsModel" "LoopSignalsModel" "code" "I") ∈ lw_all := lw_g (lw_at lw_m15 142 rfl) rfl
theorem q3651 : (Jvm.Cond.soleField "LoopSignalsModel" "code") ∈ lw_all := lw_g (lw_at lw_m15 143 rfl) rfl
theorem q3652 : (Jvm.Cond.laysFinal "LoopSignalsModel" "LoopSignalsModel" "kinds" "[I") ∈ lw_all := lw_g (lw_at lw_m15 144 rfl) rfl
theorem q3653 : (Jvm.Cond.soleField "LoopSignalsModel" "kinds") ∈ lw_all := lw_g (lw_at lw_m15 145 rfl) rfl
theorem q3654 : (Jvm.Cond.laysFinal "LoopSignalsModel" "LoopSignalsModel" "names" "[I") ∈ lw_all := lw_g (lw_at lw_m15 146 rfl) rfl
theorem q3655 : (Jvm.Cond.soleField "LoopSignalsModel" "names") ∈ lw_all := lw_g (lw_at lw_m15 147 rfl) rfl
theorem q3656 : (Jvm.Cond.laysFinal "LoopSignalsModel" "LoopSignalsModel" "ones" "[I") ∈ lw_all := lw_g (lw_at lw_m15 148 rfl) rfl
theorem q3657 : (Jvm.Cond.soleField "LoopSignalsModel" "ones") ∈ lw_all := lw_g (lw_at lw_m15 149 rfl) rfl
theorem q3658 : (Jvm.Cond.laysFinal "LoopSignalsModel" "LoopSignalsModel" "twos" "[I") ∈ lw_all := lw_g (lw_at lw_m15 150 rfl) rfl
theorem q3659 : (Jvm.Cond.soleField "LoopSignalsModel" "twos") ∈ lw_all := lw_g (lw_at lw_m15 151 rfl) rfl
theorem q3660 : (Jvm.Cond.lays "LoopSignalsModel" "LoopSignalsModel" "orders" "I") ∈ lw_all := lw_g (lw_at lw_m15 152 rfl) rfl
theorem q3661 : (Jvm.Cond.soleField "LoopSignalsModel" "orders") ∈ lw_all := lw_g (lw_at lw_m15 153 rfl) rfl
theorem q3662 : (Jvm.Cond.lays "LoopSignalsModel" "LoopSignalsModel" "done" "I") ∈ lw_all := lw_g (lw_at lw_m15 154 rfl) rfl
theorem q3663 : (Jvm.Cond.soleField "LoopSignalsModel" "done") ∈ lw_all := lw_g (lw_at lw_m15 155 rfl) rfl
theorem q3664 : (Jvm.Cond.lays "LoopSignalsModel" "LoopSignalsModel" "isScript" "Z") ∈ lw_all := lw_g (lw_at lw_m15 156 rfl) rfl
theorem q3665 : (Jvm.Cond.soleField "LoopSignalsModel" "isScript") ∈ lw_all := lw_g (lw_at lw_m15 157 rfl) rfl
theorem q3666 : (Jvm.Cond.laysFinal "LoopSignalsModel" "LoopSignalsModel" "out" "[I") ∈ lw_all := lw_g (lw_at lw_m15 158 rfl) rfl
theorem q3667 : (Jvm.Cond.soleField "LoopSignalsModel" "out") ∈ lw_all := lw_g (lw_at lw_m15 159 rfl) rfl
theorem q3668 : (Jvm.Cond.lays "LoopSignalsModel" "LoopSignalsModel" "written" "I") ∈ lw_all := lw_g (lw_at lw_m15 160 rfl) rfl
theorem q3669 : (Jvm.Cond.soleField "LoopSignalsModel" "written") ∈ lw_all := lw_g (lw_at lw_m15 161 rfl) rfl
theorem q3670 : (Jvm.Cond.superclass "LoopSignalsModel" "java/lang/Object") ∈ lw_all := lw_g (lw_at lw_m15 162 rfl) rfl
theorem q3673 : (Jvm.Cond.instanceMethod ({ cls := "LoopSignalsModel", name := "thrown", desc := "()I" } : Jvm.MethodName)) ∈ lw_all := lw_g (lw_at lw_m15 165 rfl) rfl
theorem q3674 : (Jvm.Cond.selects "LoopSignalsModel" ({ cls := "LoopSignalsModel", name := "thrown", desc := "()I" } : Jvm.MethodName) ({ cls := "LoopSignalsModel", name := "thrown", desc := "()I" } : Jvm.MethodName)) ∈ lw_all := lw_g (lw_at lw_m15 166 rfl) rfl
theorem q3675 : (Jvm.Cond.code ({ cls := "LoopSignalsModel", name := "thrown", desc := "()I" } : Jvm.MethodName) prog_19_method_3_code (1 : Nat) (Option.some Jvm.ClassFile.FieldType.int)) ∈ lw_all := lw_g (lw_at lw_m15 167 rfl) rfl
theorem q3677 : (Jvm.Cond.instanceMethod ({ cls := "LoopSignalsModel", name := "feed", desc := "(IIIII)I" } : Jvm.MethodName)) ∈ lw_all := lw_g (lw_at lw_m15 169 rfl) rfl
theorem q3678 : (Jvm.Cond.selects "LoopSignalsModel" ({ cls := "LoopSignalsModel", name := "feed", desc := "(IIIII)I" } : Jvm.MethodName) ({ cls := "LoopSignalsModel", name := "feed", desc := "(IIIII)I" } : Jvm.MethodName)) ∈ lw_all := lw_g (lw_at lw_m15 170 rfl) rfl
theorem q3679 : (Jvm.Cond.code ({ cls := "LoopSignalsModel", name := "feed", desc := "(IIIII)I" } : Jvm.MethodName) prog_19_method_35_code (7 : Nat) (Option.some Jvm.ClassFile.FieldType.int)) ∈ lw_all := lw_g (lw_at lw_m15 171 rfl) rfl
theorem q3680 : (Jvm.Cond.methodLink "LoopSignalsModel" (156 : Nat) ({ cls := "LoopSignalsModel", name := "feeds", desc := "(I)V" } : Jvm.MethodName)) ∈ lw_all := lw_g (lw_at lw_m15 172 rfl) rfl
theorem q3681 : (Jvm.Cond.privateMethod ({ cls := "LoopSignalsModel", name := "feeds", desc := "(I)V" } : Jvm.MethodName)) ∈ lw_tbl := lw_at lw_m15 173 rfl
theorem q3682 : (Jvm.Cond.instanceMethod ({ cls := "LoopSignalsModel", name := "feeds", desc := "(I)V" } : Jvm.MethodName)) ∈ lw_all := lw_g (lw_at lw_m15 174 rfl) rfl
theorem q3683 : (Jvm.Cond.code ({ cls := "LoopSignalsModel", name := "feeds", desc := "(I)V" } : Jvm.MethodName) prog_19_method_34_code (4 : Nat) (Option.none : Option Jvm.ClassFile.FieldType)) ∈ lw_all := lw_g (lw_at lw_m15 175 rfl) rfl
theorem q3685 : (Jvm.Cond.instanceMethod ({ cls := "LoopSignalsModel", name := "errorPosition", desc := "()I" } : Jvm.MethodName)) ∈ lw_all := lw_g (lw_at lw_m15 177 rfl) rfl
theorem q3686 : (Jvm.Cond.selects "LoopSignalsModel" ({ cls := "LoopSignalsModel", name := "errorPosition", desc := "()I" } : Jvm.MethodName) ({ cls := "LoopSignalsModel", name := "errorPosition", desc := "()I" } : Jvm.MethodName)) ∈ lw_all := lw_g (lw_at lw_m15 178 rfl) rfl
theorem q3687 : (Jvm.Cond.code ({ cls := "LoopSignalsModel", name := "errorPosition", desc := "()I" } : Jvm.MethodName) prog_19_method_36_code (1 : Nat) (Option.some Jvm.ClassFile.FieldType.int)) ∈ lw_all := lw_g (lw_at lw_m15 179 rfl) rfl
theorem q3689 : (Jvm.Cond.instanceMethod ({ cls := "LoopSignalsModel", name := "load", desc := "()I" } : Jvm.MethodName)) ∈ lw_all := lw_g (lw_at lw_m15 181 rfl) rfl
theorem q3690 : (Jvm.Cond.selects "LoopSignalsModel" ({ cls := "LoopSignalsModel", name := "load", desc := "()I" } : Jvm.MethodName) ({ cls := "LoopSignalsModel", name := "load", desc := "()I" } : Jvm.MethodName)) ∈ lw_all := lw_g (lw_at lw_m15 182 rfl) rfl
theorem q3691 : (Jvm.Cond.code ({ cls := "LoopSignalsModel", name := "load", desc := "()I" } : Jvm.MethodName) prog_19_method_56_code (2 : Nat) (Option.some Jvm.ClassFile.FieldType.int)) ∈ lw_all := lw_g (lw_at lw_m15 183 rfl) rfl
theorem q3693 : (Jvm.Cond.instanceMethod ({ cls := "LoopSignalsModel", name := "play", desc := "()I" } : Jvm.MethodName)) ∈ lw_all := lw_g (lw_at lw_m15 185 rfl) rfl
theorem q3694 : (Jvm.Cond.selects "LoopSignalsModel" ({ cls := "LoopSignalsModel", name := "play", desc := "()I" } : Jvm.MethodName) ({ cls := "LoopSignalsModel", name := "play", desc := "()I" } : Jvm.MethodName)) ∈ lw_all := lw_g (lw_at lw_m15 186 rfl) rfl
theorem q3695 : (Jvm.Cond.code ({ cls := "LoopSignalsModel", name := "play", desc := "()I" } : Jvm.MethodName) prog_19_method_64_code (2 : Nat) (Option.some Jvm.ClassFile.FieldType.int)) ∈ lw_all := lw_g (lw_at lw_m15 187 rfl) rfl
theorem q3696 : (Jvm.Cond.methodLink "LoopSignalsModel" (263 : Nat) ({ cls := "LoopSignalsModel", name := "readsOrders", desc := "(I)V" } : Jvm.MethodName)) ∈ lw_all := lw_g (lw_at lw_m15 188 rfl) rfl
theorem q3697 : (Jvm.Cond.privateMethod ({ cls := "LoopSignalsModel", name := "readsOrders", desc := "(I)V" } : Jvm.MethodName)) ∈ lw_tbl := lw_at lw_m15 189 rfl
theorem q3698 : (Jvm.Cond.instanceMethod ({ cls := "LoopSignalsModel", name := "readsOrders", desc := "(I)V" } : Jvm.MethodName)) ∈ lw_all := lw_g (lw_at lw_m15 190 rfl) rfl
theorem q3699 : (Jvm.Cond.code ({ cls := "LoopSignalsModel", name := "readsOrders", desc := "(I)V" } : Jvm.MethodName) prog_19_method_61_code (2 : Nat) (Option.none : Option Jvm.ClassFile.FieldType)) ∈ lw_all := lw_g (lw_at lw_m15 191 rfl) rfl
theorem q3700 : (Jvm.Cond.methodLink "LoopSignalsModel" (281 : Nat) ({ cls := "LoopSignalsModel", name := "readsOrder", desc := "(I)V" } : Jvm.MethodName)) ∈ lw_all := lw_g (lw_at lw_m15 192 rfl) rfl
theorem q3701 : (Jvm.Cond.privateMethod ({ cls := "LoopSignalsModel", name := "readsOrder", desc := "(I)V" } : Jvm.MethodName)) ∈ lw_tbl := lw_at lw_m15 193 rfl
theorem q3702 : (Jvm.Cond.instanceMethod ({ cls := "LoopSignalsModel", name := "readsOrder", desc := "(I)V" } : Jvm.MethodName)) ∈ lw_all := lw_g (lw_at lw_m15 194 rfl) rfl
theorem q3703 : (Jvm.Cond.code ({ cls := "LoopSignalsModel", name := "readsOrder", desc := "(I)V" } : Jvm.MethodName) prog_19_method_60_code (4 : Nat) (Option.none : Option Jvm.ClassFile.FieldType)) ∈ lw_all := lw_g (lw_at lw_m15 195 rfl) rfl
theorem q3704 : (Jvm.Cond.methodLink "LoopSignalsModel" (272 : Nat) ({ cls := "LoopSignalsModel", name := "orderHere", desc := "()I" } : Jvm.MethodName)) ∈ lw_all := lw_g (lw_at lw_m15 196 rfl) rfl
theorem q3705 : (Jvm.Cond.privateMethod ({ cls := "LoopSignalsModel", name := "orderHere", desc := "()I" } : Jvm.MethodName)) ∈ lw_tbl := lw_at lw_m15 197 rfl
theorem q3706 : (Jvm.Cond.instanceMethod ({ cls := "LoopSignalsModel", name := "orderHere", desc := "()I" } : Jvm.MethodName)) ∈ lw_all := lw_g (lw_at lw_m15 198 rfl) rfl
theorem q3707 : (Jvm.Cond.code ({ cls := "LoopSignalsModel", name := "orderHere", desc := "()I" } : Jvm.MethodName) prog_19_method_57_code (1 : Nat) (Option.some Jvm.ClassFile.FieldType.int)) ∈ lw_all := lw_g (lw_at lw_m15 199 rfl) rfl
theorem q3708 : (Jvm.Cond.stringRef "LoopSignalsModel" (244 : Nat) "come") ∈ lw_tbl := lw_at lw_m15 200 rfl
theorem q3709 : (Jvm.Cond.stringRef "LoopSignalsModel" (246 : Nat) "tick") ∈ lw_tbl := lw_at lw_m15 201 rfl
theorem q3710 : (Jvm.Cond.stringRef "LoopSignalsModel" (247 : Nat) "call") ∈ lw_tbl := lw_at lw_m15 202 rfl
theorem q3711 : (Jvm.Cond.stringRef "LoopSignalsModel" (249 : Nat) "break") ∈ lw_tbl := lw_at lw_m15 203 rfl
theorem q3712 : (Jvm.Cond.stringRef "LoopSignalsModel" (251 : Nat) "mend") ∈ lw_tbl := lw_at lw_m15 204 rfl
theorem q3713 : (Jvm.Cond.stringRef "LoopSignalsModel" (253 : Nat) "rule") ∈ lw_tbl := lw_at lw_m15 205 rfl
theorem q3714 : (Jvm.Cond.stringRef "LoopSignalsModel" (255 : Nat) "gap") ∈ lw_tbl := lw_at lw_m15 206 rfl
theorem q3715 : (Jvm.Cond.stringRef "LoopSignalsModel" (257 : Nat) "least") ∈ lw_tbl := lw_at lw_m15 207 rfl
theorem q3716 : (Jvm.Cond.stringRef "LoopSignalsModel" (259 : Nat) "most") ∈ lw_tbl := lw_at lw_m15 208 rfl
theorem q3717 : (Jvm.Cond.stringRef "LoopSignalsModel" (261 : Nat) "again") ∈ lw_tbl := lw_at lw_m15 209 rfl
theorem q3718 : (Jvm.Cond.methodLink "LoopSignalsModel" (275 : Nat) ({ cls := "LoopSignalsModel", name := "readsAgain", desc := "(II)V" } : Jvm.MethodName)) ∈ lw_all := lw_g (lw_at lw_m15 210 rfl) rfl
theorem q3719 : (Jvm.Cond.privateMethod ({ cls := "LoopSignalsModel", name := "readsAgain", desc := "(II)V" } : Jvm.MethodName)) ∈ lw_tbl := lw_at lw_m15 211 rfl
theorem q3720 : (Jvm.Cond.instanceMethod ({ cls := "LoopSignalsModel", name := "readsAgain", desc := "(II)V" } : Jvm.MethodName)) ∈ lw_all := lw_g (lw_at lw_m15 212 rfl) rfl
theorem q3721 : (Jvm.Cond.code ({ cls := "LoopSignalsModel", name := "readsAgain", desc := "(II)V" } : Jvm.MethodName) prog_19_method_58_code (3 : Nat) (Option.none : Option Jvm.ClassFile.FieldType)) ∈ lw_all := lw_g (lw_at lw_m15 213 rfl) rfl
theorem q3722 : (Jvm.Cond.methodLink "LoopSignalsModel" (278 : Nat) ({ cls := "LoopSignalsModel", name := "readsSingle", desc := "(I)V" } : Jvm.MethodName)) ∈ lw_all := lw_g (lw_at lw_m15 214 rfl) rfl
theorem q3723 : (Jvm.Cond.privateMethod ({ cls := "LoopSignalsModel", name := "readsSingle", desc := "(I)V" } : Jvm.MethodName)) ∈ lw_tbl := lw_at lw_m15 215 rfl
theorem q3724 : (Jvm.Cond.instanceMethod ({ cls := "LoopSignalsModel", name := "readsSingle", desc := "(I)V" } : Jvm.MethodName)) ∈ lw_all := lw_g (lw_at lw_m15 216 rfl) rfl
theorem q3725 : (Jvm.Cond.code ({ cls := "LoopSignalsModel", name := "readsSingle", desc := "(I)V" } : Jvm.MethodName) prog_19_method_59_code (2 : Nat) (Option.none : Option Jvm.ClassFile.FieldType)) ∈ lw_all := lw_g (lw_at lw_m15 217 rfl) rfl
theorem q3726 : (Jvm.Cond.methodLink "LoopSignalsModel" (269 : Nat) ({ cls := "LoopSignalsModel", name := "takesName", desc := "()I" } : Jvm.MethodName)) ∈ lw_all := lw_g (lw_at lw_m15 218 rfl) rfl
theorem q3727 : (Jvm.Cond.privateMethod ({ cls := "LoopSignalsModel", name := "takesName", desc := "()I" } : Jvm.MethodName)) ∈ lw_tbl := lw_at lw_m15 219 rfl
theorem q3728 : (Jvm.Cond.instanceMethod ({ cls := "LoopSignalsModel", name := "takesName", desc := "()I" } : Jvm.MethodName)) ∈ lw_all := lw_g (lw_at lw_m15 220 rfl) rfl
theorem q3729 : (Jvm.Cond.code ({ cls := "LoopSignalsModel", name := "takesName", desc := "()I" } : Jvm.MethodName) prog_19_method_49_code (2 : Nat) (Option.some Jvm.ClassFile.FieldType.int)) ∈ lw_all := lw_g (lw_at lw_m15 221 rfl) rfl
theorem q3730 : (Jvm.Cond.methodLink "LoopSignalsModel" (315 : Nat) ({ cls := "LoopSignalsModel", name := "keeps", desc := "()V" } : Jvm.MethodName)) ∈ lw_all := lw_g (lw_at lw_m15 222 rfl) rfl
theorem q3731 : (Jvm.Cond.privateMethod ({ cls := "LoopSignalsModel", name := "keeps", desc := "()V" } : Jvm.MethodName)) ∈ lw_tbl := lw_at lw_m15 223 rfl
theorem q3732 : (Jvm.Cond.instanceMethod ({ cls := "LoopSignalsModel", name := "keeps", desc := "()V" } : Jvm.MethodName)) ∈ lw_all := lw_g (lw_at lw_m15 224 rfl) rfl
theorem q3733 : (Jvm.Cond.code ({ cls := "LoopSignalsModel", name := "keeps", desc := "()V" } : Jvm.MethodName) prog_19_method_92_code (2 : Nat) (Option.none : Option Jvm.ClassFile.FieldType)) ∈ lw_all := lw_g (lw_at lw_m15 225 rfl) rfl
theorem q3734 : (Jvm.Cond.methodLink "LoopSignalsModel" (306 : Nat) ({ cls := "LoopSignalsModel", name := "doesAll", desc := "(II)Z" } : Jvm.MethodName)) ∈ lw_all := lw_g (lw_at lw_m15 226 rfl) rfl
theorem q3735 : (Jvm.Cond.privateMethod ({ cls := "LoopSignalsModel", name := "doesAll", desc := "(II)Z" } : Jvm.MethodName)) ∈ lw_tbl := lw_at lw_m15 227 rfl
theorem q3736 : (Jvm.Cond.instanceMethod ({ cls := "LoopSignalsModel", name := "doesAll", desc := "(II)Z" } : Jvm.MethodName)) ∈ lw_all := lw_g (lw_at lw_m15 228 rfl) rfl
theorem q3737 : (Jvm.Cond.code ({ cls := "LoopSignalsModel", name := "doesAll", desc := "(II)Z" } : Jvm.MethodName) prog_19_method_63_code (5 : Nat) (Option.some Jvm.ClassFile.FieldType.boolean)) ∈ lw_all := lw_g (lw_at lw_m15 229 rfl) rfl
theorem q3738 : (Jvm.Cond.methodLink "LoopSignalsModel" (312 : Nat) ({ cls := "LoopSignalsModel", name := "does", desc := "(I)Z" } : Jvm.MethodName)) ∈ lw_all := lw_g (lw_at lw_m15 230 rfl) rfl
theorem q3739 : (Jvm.Cond.privateMethod ({ cls := "LoopSignalsModel", name := "does", desc := "(I)Z" } : Jvm.MethodName)) ∈ lw_tbl := lw_at lw_m15 231 rfl
theorem q3740 : (Jvm.Cond.instanceMethod ({ cls := "LoopSignalsModel", name := "does", desc := "(I)Z" } : Jvm.MethodName)) ∈ lw_all := lw_g (lw_at lw_m15 232 rfl) rfl
theorem q3741 : (Jvm.Cond.code ({ cls := "LoopSignalsModel", name := "does", desc := "(I)Z" } : Jvm.MethodName) prog_19_method_62_code (4 : Nat) (Option.some Jvm.ClassFile.FieldType.boolean)) ∈ lw_all := lw_g (lw_at lw_m15 233 rfl) rfl
theorem q3742 : (Jvm.Cond.methodLink "LoopSignalsModel" (284 : Nat) ({ cls := "LoopSignalsModel", name := "coming", desc := "(II)I" } : Jvm.MethodName)) ∈ lw_all := lw_g (lw_at lw_m15 234 rfl) rfl
theorem q3743 : (Jvm.Cond.privateMethod ({ cls := "LoopSignalsModel", name := "coming", desc := "(II)I" } : Jvm.MethodName)) ∈ lw_tbl := lw_at lw_m15 235 rfl
theorem q3744 : (Jvm.Cond.instanceMethod ({ cls := "LoopSignalsModel", name := "coming", desc := "(II)I" } : Jvm.MethodName)) ∈ lw_all := lw_g (lw_at lw_m15 236 rfl) rfl
theorem q3745 : (Jvm.Cond.code ({ cls := "LoopSignalsModel", name := "coming", desc := "(II)I" } : Jvm.MethodName) prog_19_method_95_code (4 : Nat) (Option.some Jvm.ClassFile.FieldType.int)) ∈ lw_all := lw_g (lw_at lw_m15 237 rfl) rfl
theorem q3746 : (Jvm.Cond.methodLink "LoopSignalsModel" (374 : Nat) ({ cls := "LoopSignalsModel", name := "refuses", desc := "(I)I" } : Jvm.MethodName)) ∈ lw_all := lw_g (lw_at lw_m15 238 rfl) rfl
theorem q3747 : (Jvm.Cond.privateMethod ({ cls := "LoopSignalsModel", name := "refuses", desc := "(I)I" } : Jvm.MethodName)) ∈ lw_tbl := lw_at lw_m15 239 rfl
theorem q3748 : (Jvm.Cond.instanceMethod ({ cls := "LoopSignalsModel", name := "refuses", desc := "(I)I" } : Jvm.MethodName)) ∈ lw_all := lw_g (lw_at lw_m16 0 rfl) rfl
theorem q3749 : (Jvm.Cond.code ({ cls := "LoopSignalsModel", name := "refuses", desc := "(I)I" } : Jvm.MethodName) prog_19_method_94_code (2 : Nat) (Option.some Jvm.ClassFile.FieldType.int)) ∈ lw_all := lw_g (lw_at lw_m16 1 rfl) rfl
theorem q3750 : (Jvm.Cond.methodLink "LoopSignalsModel" (377 : Nat) ({ cls := "LoopSignalsModel", name := "changes", desc := "()V" } : Jvm.MethodName)) ∈ lw_all := lw_g (lw_at lw_m16 2 rfl) rfl
theorem q3751 : (Jvm.Cond.privateMethod ({ cls := "LoopSignalsModel", name := "changes", desc := "()V" } : Jvm.MethodName)) ∈ lw_tbl := lw_at lw_m16 3 rfl
theorem q3752 : (Jvm.Cond.instanceMethod ({ cls := "LoopSignalsModel", name := "changes", desc := "()V" } : Jvm.MethodName)) ∈ lw_all := lw_g (lw_at lw_m16 4 rfl) rfl
theorem q3753 : (Jvm.Cond.code ({ cls := "LoopSignalsModel", name := "changes", desc := "()V" } : Jvm.MethodName) prog_19_method_93_code (1 : Nat) (Option.none : Option Jvm.ClassFile.FieldType)) ∈ lw_all := lw_g (lw_at lw_m16 5 rfl) rfl
theorem q3754 : (Jvm.Cond.methodLink "LoopSignalsModel" (123 : Nat) ({ cls := "LoopSignalsModel", name := "counts", desc := "(II)V" } : Jvm.MethodName)) ∈ lw_all := lw_g (lw_at lw_m16 6 rfl) rfl
theorem q3755 : (Jvm.Cond.privateMethod ({ cls := "LoopSignalsModel", name := "counts", desc := "(II)V" } : Jvm.MethodName)) ∈ lw_tbl := lw_at lw_m16 7 rfl
theorem q3756 : (Jvm.Cond.instanceMethod ({ cls := "LoopSignalsModel", name := "counts", desc := "(II)V" } : Jvm.MethodName)) ∈ lw_all := lw_g (lw_at lw_m16 8 rfl) rfl
theorem q3757 : (Jvm.Cond.code ({ cls := "LoopSignalsModel", name := "counts", desc := "(II)V" } : Jvm.MethodName) prog_19_method_14_code (3 : Nat) (Option.none : Option Jvm.ClassFile.FieldType)) ∈ lw_all := lw_g (lw_at lw_m16 9 rfl) rfl
theorem q3758 : (Jvm.Cond.methodLink "LoopSignalsModel" (287 : Nat) ({ cls := "LoopSignalsModel", name := "passing", desc := "(I)I" } : Jvm.MethodName)) ∈ lw_all := lw_g (lw_at lw_m16 10 rfl) rfl
theorem q3759 : (Jvm.Cond.privateMethod ({ cls := "LoopSignalsModel", name := "passing", desc := "(I)I" } : Jvm.MethodName)) ∈ lw_tbl := lw_at lw_m16 11 rfl
theorem q3760 : (Jvm.Cond.instanceMethod ({ cls := "LoopSignalsModel", name := "passing", desc := "(I)I" } : Jvm.MethodName)) ∈ lw_all := lw_g (lw_at lw_m16 12 rfl) rfl
theorem q3761 : (Jvm.Cond.code ({ cls := "LoopSignalsModel", name := "passing", desc := "(I)I" } : Jvm.MethodName) prog_19_method_97_code (2 : Nat) (Option.some Jvm.ClassFile.FieldType.int)) ∈ lw_all := lw_g (lw_at lw_m16 13 rfl) rfl
theorem q3762 : (Jvm.Cond.methodLink "LoopSignalsModel" (368 : Nat) ({ cls := "LoopSignalsModel", name := "ticksPass", desc := "(I)V" } : Jvm.MethodName)) ∈ lw_all := lw_g (lw_at lw_m16 14 rfl) rfl
theorem q3763 : (Jvm.Cond.privateMethod ({ cls := "LoopSignalsModel", name := "ticksPass", desc := "(I)V" } : Jvm.MethodName)) ∈ lw_tbl := lw_at lw_m16 15 rfl
theorem q3764 : (Jvm.Cond.instanceMethod ({ cls := "LoopSignalsModel", name := "ticksPass", desc := "(I)V" } : Jvm.MethodName)) ∈ lw_all := lw_g (lw_at lw_m16 16 rfl) rfl
theorem q3765 : (Jvm.Cond.code ({ cls := "LoopSignalsModel", name := "ticksPass", desc := "(I)V" } : Jvm.MethodName) prog_19_method_30_code (3 : Nat) (Option.none : Option Jvm.ClassFile.FieldType)) ∈ lw_all := lw_g (lw_at lw_m16 17 rfl) rfl
theorem q3766 : (Jvm.Cond.methodLink "LoopSignalsModel" (153 : Nat) ({ cls := "LoopSignalsModel", name := "tick", desc := "()V" } : Jvm.MethodName)) ∈ lw_all := lw_g (lw_at lw_m16 18 rfl) rfl
theorem q3767 : (Jvm.Cond.privateMethod ({ cls := "LoopSignalsModel", name := "tick", desc := "()V" } : Jvm.MethodName)) ∈ lw_tbl := lw_at lw_m16 19 rfl
theorem q3768 : (Jvm.Cond.instanceMethod ({ cls := "LoopSignalsModel", name := "tick", desc := "()V" } : Jvm.MethodName)) ∈ lw_all := lw_g (lw_at lw_m16 20 rfl) rfl
theorem q3769 : (Jvm.Cond.code ({ cls := "LoopSignalsModel", name := "tick", desc := "()V" } : Jvm.MethodName) prog_19_method_29_code (2 : Nat) (Option.none : Option Jvm.ClassFile.FieldType)) ∈ lw_all := lw_g (lw_at lw_m16 21 rfl) rfl
theorem q3770 : (Jvm.Cond.methodLink "LoopSignalsModel" (140 : Nat) ({ cls := "LoopSignalsModel", name := "lightOf", desc := "(I)I" } : Jvm.MethodName)) ∈ lw_all := lw_g (lw_at lw_m16 22 rfl) rfl
theorem q3771 : (Jvm.Cond.privateMethod ({ cls := "LoopSignalsModel", name := "lightOf", desc := "(I)I" } : Jvm.MethodName)) ∈ lw_tbl := lw_at lw_m16 23 rfl
theorem q3772 : (Jvm.Cond.instanceMethod ({ cls := "LoopSignalsModel", name := "lightOf", desc := "(I)I" } : Jvm.MethodName)) ∈ lw_all := lw_g (lw_at lw_m16 24 rfl) rfl
theorem q3773 : (Jvm.Cond.code ({ cls := "LoopSignalsModel", name := "lightOf", desc := "(I)I" } : Jvm.MethodName) prog_19_method_17_code (3 : Nat) (Option.some Jvm.ClassFile.FieldType.int)) ∈ lw_all := lw_g (lw_at lw_m16 25 rfl) rfl
theorem q3774 : (Jvm.Cond.methodLink "LoopSignalsModel" (143 : Nat) ({ cls := "LoopSignalsModel", name := "carGoes", desc := "(I)V" } : Jvm.MethodName)) ∈ lw_all := lw_g (lw_at lw_m16 26 rfl) rfl
theorem q3775 : (Jvm.Cond.privateMethod ({ cls := "LoopSignalsModel", name := "carGoes", desc := "(I)V" } : Jvm.MethodName)) ∈ lw_tbl := lw_at lw_m16 27 rfl
theorem q3776 : (Jvm.Cond.instanceMethod ({ cls := "LoopSignalsModel", name := "carGoes", desc := "(I)V" } : Jvm.MethodName)) ∈ lw_all := lw_g (lw_at lw_m16 28 rfl) rfl
theorem q3777 : (Jvm.Cond.code ({ cls := "LoopSignalsModel", name := "carGoes", desc := "(I)V" } : Jvm.MethodName) prog_19_method_26_code (3 : Nat) (Option.none : Option Jvm.ClassFile.FieldType)) ∈ lw_all := lw_g (lw_at lw_m16 29 rfl) rfl
theorem q3778 : (Jvm.Cond.methodLink "LoopSignalsModel" (99 : Nat) ({ cls := "LoopSignalsModel", name := "carAt", desc := "(II)I" } : Jvm.MethodName)) ∈ lw_all := lw_g (lw_at lw_m16 30 rfl) rfl
theorem q3779 : (Jvm.Cond.privateMethod ({ cls := "LoopSignalsModel", name := "carAt", desc := "(II)I" } : Jvm.MethodName)) ∈ lw_tbl := lw_at lw_m16 31 rfl
theorem q3780 : (Jvm.Cond.instanceMethod ({ cls := "LoopSignalsModel", name := "carAt", desc := "(II)I" } : Jvm.MethodName)) ∈ lw_all := lw_g (lw_at lw_m16 32 rfl) rfl
theorem q3781 : (Jvm.Cond.code ({ cls := "LoopSignalsModel", name := "carAt", desc := "(II)I" } : Jvm.MethodName) prog_19_method_13_code (3 : Nat) (Option.some Jvm.ClassFile.FieldType.int)) ∈ lw_all := lw_g (lw_at lw_m16 33 rfl) rfl
theorem q3782 : (Jvm.Cond.methodLink "LoopSignalsModel" (147 : Nat) ({ cls := "LoopSignalsModel", name := "endsGreen", desc := "()V" } : Jvm.MethodName)) ∈ lw_all := lw_g (lw_at lw_m16 34 rfl) rfl
theorem q3783 : (Jvm.Cond.privateMethod ({ cls := "LoopSignalsModel", name := "endsGreen", desc := "()V" } : Jvm.MethodName)) ∈ lw_tbl := lw_at lw_m16 35 rfl
theorem q3784 : (Jvm.Cond.instanceMethod ({ cls := "LoopSignalsModel", name := "endsGreen", desc := "()V" } : Jvm.MethodName)) ∈ lw_all := lw_g (lw_at lw_m16 36 rfl) rfl
theorem q3785 : (Jvm.Cond.code ({ cls := "LoopSignalsModel", name := "endsGreen", desc := "()V" } : Jvm.MethodName) prog_19_method_27_code (3 : Nat) (Option.none : Option Jvm.ClassFile.FieldType)) ∈ lw_all := lw_g (lw_at lw_m16 37 rfl) rfl
theorem q3786 : (Jvm.Cond.methodLink "LoopSignalsModel" (131 : Nat) ({ cls := "LoopSignalsModel", name := "best", desc := "()I" } : Jvm.MethodName)) ∈ lw_all := lw_g (lw_at lw_m16 38 rfl) rfl
theorem q3787 : (Jvm.Cond.privateMethod ({ cls := "LoopSignalsModel", name := "best", desc := "()I" } : Jvm.MethodName)) ∈ lw_tbl := lw_at lw_m16 39 rfl
theorem q3788 : (Jvm.Cond.instanceMethod ({ cls := "LoopSignalsModel", name := "best", desc := "()I" } : Jvm.MethodName)) ∈ lw_all := lw_g (lw_at lw_m16 40 rfl) rfl
theorem q3789 : (Jvm.Cond.code ({ cls := "LoopSignalsModel", name := "best", desc := "()I" } : Jvm.MethodName) prog_19_method_23_code (3 : Nat) (Option.some Jvm.ClassFile.FieldType.int)) ∈ lw_all := lw_g (lw_at lw_m16 41 rfl) rfl
theorem q3790 : (Jvm.Cond.methodLink "LoopSignalsModel" (114 : Nat) ({ cls := "LoopSignalsModel", name := "isWanted", desc := "(I)Z" } : Jvm.MethodName)) ∈ lw_all := lw_g (lw_at lw_m16 42 rfl) rfl
theorem q3791 : (Jvm.Cond.privateMethod ({ cls := "LoopSignalsModel", name := "isWanted", desc := "(I)Z" } : Jvm.MethodName)) ∈ lw_tbl := lw_at lw_m16 43 rfl
theorem q3792 : (Jvm.Cond.instanceMethod ({ cls := "LoopSignalsModel", name := "isWanted", desc := "(I)Z" } : Jvm.MethodName)) ∈ lw_all := lw_g (lw_at lw_m16 44 rfl) rfl
theorem q3793 : (Jvm.Cond.code ({ cls := "LoopSignalsModel", name := "isWanted", desc := "(I)Z" } : Jvm.MethodName) prog_19_method_19_code (3 : Nat) (Option.some Jvm.ClassFile.FieldType.boolean)) ∈ lw_all := lw_g (lw_at lw_m16 45 rfl) rfl
theorem q3794 : (Jvm.Cond.methodLink "LoopSignalsModel" (94 : Nat) ({ cls := "LoopSignalsModel", name := "asks", desc := "(I)Z" } : Jvm.MethodName)) ∈ lw_all := lw_g (lw_at lw_m16 46 rfl) rfl
theorem q3795 : (Jvm.Cond.privateMethod ({ cls := "LoopSignalsModel", name := "asks", desc := "(I)Z" } : Jvm.MethodName)) ∈ lw_tbl := lw_at lw_m16 47 rfl
theorem q3796 : (Jvm.Cond.instanceMethod ({ cls := "LoopSignalsModel", name := "asks", desc := "(I)Z" } : Jvm.MethodName)) ∈ lw_all := lw_g (lw_at lw_m16 48 rfl) rfl
theorem q3797 : (Jvm.Cond.code ({ cls := "LoopSignalsModel", name := "asks", desc := "(I)Z" } : Jvm.MethodName) prog_19_method_18_code (2 : Nat) (Option.some Jvm.ClassFile.FieldType.boolean)) ∈ lw_all := lw_g (lw_at lw_m16 49 rfl) rfl
theorem q3798 : (Jvm.Cond.methodLink "LoopSignalsModel" (117 : Nat) ({ cls := "LoopSignalsModel", name := "rankOf", desc := "(I)I" } : Jvm.MethodName)) ∈ lw_all := lw_g (lw_at lw_m16 50 rfl) rfl
theorem q3799 : (Jvm.Cond.privateMethod ({ cls := "LoopSignalsModel", name := "rankOf", desc := "(I)I" } : Jvm.MethodName)) ∈ lw_tbl := lw_at lw_m16 51 rfl
theorem q3800 : (Jvm.Cond.instanceMethod ({ cls := "LoopSignalsModel", name := "rankOf", desc := "(I)I" } : Jvm.MethodName)) ∈ lw_all := lw_g (lw_at lw_m16 52 rfl) rfl
theorem q3801 : (Jvm.Cond.code ({ cls := "LoopSignalsModel", name := "rankOf", desc := "(I)I" } : Jvm.MethodName) prog_19_method_22_code (2 : Nat) (Option.some Jvm.ClassFile.FieldType.int)) ∈ lw_all := lw_g (lw_at lw_m16 53 rfl) rfl
theorem q3802 : (Jvm.Cond.methodLink "LoopSignalsModel" (107 : Nat) ({ cls := "LoopSignalsModel", name := "carsOf", desc := "(I)I" } : Jvm.MethodName)) ∈ lw_all := lw_g (lw_at lw_m16 54 rfl) rfl
theorem q3803 : (Jvm.Cond.privateMethod ({ cls := "LoopSignalsModel", name := "carsOf", desc := "(I)I" } : Jvm.MethodName)) ∈ lw_tbl := lw_at lw_m16 55 rfl
theorem q3804 : (Jvm.Cond.instanceMethod ({ cls := "LoopSignalsModel", name := "carsOf", desc := "(I)I" } : Jvm.MethodName)) ∈ lw_all := lw_g (lw_at lw_m16 56 rfl) rfl
theorem q3805 : (Jvm.Cond.code ({ cls := "LoopSignalsModel", name := "carsOf", desc := "(I)I" } : Jvm.MethodName) prog_19_method_20_code (4 : Nat) (Option.some Jvm.ClassFile.FieldType.int)) ∈ lw_all := lw_g (lw_at lw_m16 57 rfl) rfl
theorem q3806 : (Jvm.Cond.methodLink "LoopSignalsModel" (111 : Nat) ({ cls := "LoopSignalsModel", name := "firstOf", desc := "(I)I" } : Jvm.MethodName)) ∈ lw_all := lw_g (lw_at lw_m16 58 rfl) rfl
theorem q3807 : (Jvm.Cond.privateMethod ({ cls := "LoopSignalsModel", name := "firstOf", desc := "(I)I" } : Jvm.MethodName)) ∈ lw_tbl := lw_at lw_m16 59 rfl
theorem q3808 : (Jvm.Cond.instanceMethod ({ cls := "LoopSignalsModel", name := "firstOf", desc := "(I)I" } : Jvm.MethodName)) ∈ lw_all := lw_g (lw_at lw_m16 60 rfl) rfl
theorem q3809 : (Jvm.Cond.code ({ cls := "LoopSignalsModel", name := "firstOf", desc := "(I)I" } : Jvm.MethodName) prog_19_method_21_code (4 : Nat) (Option.some Jvm.ClassFile.FieldType.int)) ∈ lw_all := lw_g (lw_at lw_m16 61 rfl) rfl
theorem q3810 : (Jvm.Cond.constant "LoopSignalsModel" (98 : Nat) (1000000 : Int32)) ∈ lw_all := lw_g (lw_at lw_m16 62 rfl) rfl
theorem q3811 : (Jvm.Cond.methodLink "LoopSignalsModel" (134 : Nat) ({ cls := "LoopSignalsModel", name := "busyArm", desc := "()I" } : Jvm.MethodName)) ∈ lw_all := lw_g (lw_at lw_m16 63 rfl) rfl
theorem q3812 : (Jvm.Cond.privateMethod ({ cls := "LoopSignalsModel", name := "busyArm", desc := "()I" } : Jvm.MethodName)) ∈ lw_tbl := lw_at lw_m16 64 rfl
theorem q3813 : (Jvm.Cond.instanceMethod ({ cls := "LoopSignalsModel", name := "busyArm", desc := "()I" } : Jvm.MethodName)) ∈ lw_all := lw_g (lw_at lw_m16 65 rfl) rfl
theorem q3814 : (Jvm.Cond.code ({ cls := "LoopSignalsModel", name := "busyArm", desc := "()I" } : Jvm.MethodName) prog_19_method_25_code (2 : Nat) (Option.some Jvm.ClassFile.FieldType.int)) ∈ lw_all := lw_g (lw_at lw_m16 66 rfl) rfl
theorem q3815 : (Jvm.Cond.methodLink "LoopSignalsModel" (120 : Nat) ({ cls := "LoopSignalsModel", name := "keepsBusy", desc := "(I)Z" } : Jvm.MethodName)) ∈ lw_all := lw_g (lw_at lw_m16 67 rfl) rfl
theorem q3816 : (Jvm.Cond.privateMethod ({ cls := "LoopSignalsModel", name := "keepsBusy", desc := "(I)Z" } : Jvm.MethodName)) ∈ lw_tbl := lw_at lw_m16 68 rfl
theorem q3817 : (Jvm.Cond.instanceMethod ({ cls := "LoopSignalsModel", name := "keepsBusy", desc := "(I)Z" } : Jvm.MethodName)) ∈ lw_all := lw_g (lw_at lw_m16 69 rfl) rfl
theorem q3818 : (Jvm.Cond.code ({ cls := "LoopSignalsModel", name := "keepsBusy", desc := "(I)Z" } : Jvm.MethodName) prog_19_method_24_code (2 : Nat) (Option.some Jvm.ClassFile.FieldType.boolean)) ∈ lw_all := lw_g (lw_at lw_m16 70 rfl) rfl
theorem q3819 : (Jvm.Cond.methodLink "LoopSignalsModel" (150 : Nat) ({ cls := "LoopSignalsModel", name := "comesOn", desc := "()V" } : Jvm.MethodName)) ∈ lw_all := lw_g (lw_at lw_m16 71 rfl) rfl
theorem q3820 : (Jvm.Cond.privateMethod ({ cls := "LoopSignalsModel", name := "comesOn", desc := "()V" } : Jvm.MethodName)) ∈ lw_tbl := lw_at lw_m16 72 rfl
theorem q3821 : (Jvm.Cond.instanceMethod ({ cls := "LoopSignalsModel", name := "comesOn", desc := "()V" } : Jvm.MethodName)) ∈ lw_all := lw_g (lw_at lw_m16 73 rfl) rfl
theorem q3822 : (Jvm.Cond.code ({ cls := "LoopSignalsModel", name := "comesOn", desc := "()V" } : Jvm.MethodName) prog_19_method_28_code (1 : Nat) (Option.none : Option Jvm.ClassFile.FieldType)) ∈ lw_all := lw_g (lw_at lw_m16 74 rfl) rfl
theorem q3823 : (Jvm.Cond.methodLink "LoopSignalsModel" (290 : Nat) ({ cls := "LoopSignalsModel", name := "isPhase", desc := "(I)Z" } : Jvm.MethodName)) ∈ lw_all := lw_g (lw_at lw_m16 75 rfl) rfl
theorem q3824 : (Jvm.Cond.privateMethod ({ cls := "LoopSignalsModel", name := "isPhase", desc := "(I)Z" } : Jvm.MethodName)) ∈ lw_tbl := lw_at lw_m16 76 rfl
theorem q3825 : (Jvm.Cond.instanceMethod ({ cls := "LoopSignalsModel", name := "isPhase", desc := "(I)Z" } : Jvm.MethodName)) ∈ lw_all := lw_g (lw_at lw_m16 77 rfl) rfl
theorem q3826 : (Jvm.Cond.code ({ cls := "LoopSignalsModel", name := "isPhase", desc := "(I)Z" } : Jvm.MethodName) prog_19_method_16_code (2 : Nat) (Option.some Jvm.ClassFile.FieldType.boolean)) ∈ lw_all := lw_g (lw_at lw_m16 78 rfl) rfl
theorem q3827 : (Jvm.Cond.methodLink "LoopSignalsModel" (293 : Nat) ({ cls := "LoopSignalsModel", name := "calling", desc := "(I)I" } : Jvm.MethodName)) ∈ lw_all := lw_g (lw_at lw_m16 79 rfl) rfl
theorem q3828 : (Jvm.Cond.privateMethod ({ cls := "LoopSignalsModel", name := "calling", desc := "(I)I" } : Jvm.MethodName)) ∈ lw_tbl := lw_at lw_m16 80 rfl
theorem q3829 : (Jvm.Cond.instanceMethod ({ cls := "LoopSignalsModel", name := "calling", desc := "(I)I" } : Jvm.MethodName)) ∈ lw_all := lw_g (lw_at lw_m16 81 rfl) rfl
theorem q3830 : (Jvm.Cond.code ({ cls := "LoopSignalsModel", name := "calling", desc := "(I)I" } : Jvm.MethodName) prog_19_method_99_code (4 : Nat) (Option.some Jvm.ClassFile.FieldType.int)) ∈ lw_all := lw_g (lw_at lw_m16 82 rfl) rfl
theorem q3831 : (Jvm.Cond.methodLink "LoopSignalsModel" (296 : Nat) ({ cls := "LoopSignalsModel", name := "breaking", desc := "(II)I" } : Jvm.MethodName)) ∈ lw_all := lw_g (lw_at lw_m16 83 rfl) rfl
theorem q3832 : (Jvm.Cond.privateMethod ({ cls := "LoopSignalsModel", name := "breaking", desc := "(II)I" } : Jvm.MethodName)) ∈ lw_tbl := lw_at lw_m16 84 rfl
theorem q3833 : (Jvm.Cond.instanceMethod ({ cls := "LoopSignalsModel", name := "breaking", desc := "(II)I" } : Jvm.MethodName)) ∈ lw_all := lw_g (lw_at lw_m16 85 rfl) rfl
theorem q3834 : (Jvm.Cond.code ({ cls := "LoopSignalsModel", name := "breaking", desc := "(II)I" } : Jvm.MethodName) prog_19_method_101_code (5 : Nat) (Option.some Jvm.ClassFile.FieldType.int)) ∈ lw_all := lw_g (lw_at lw_m16 86 rfl) rfl
theorem q3835 : (Jvm.Cond.methodLink "LoopSignalsModel" (299 : Nat) ({ cls := "LoopSignalsModel", name := "setting", desc := "(II)I" } : Jvm.MethodName)) ∈ lw_all := lw_g (lw_at lw_m16 87 rfl) rfl
theorem q3836 : (Jvm.Cond.privateMethod ({ cls := "LoopSignalsModel", name := "setting", desc := "(II)I" } : Jvm.MethodName)) ∈ lw_tbl := lw_at lw_m16 88 rfl
theorem q3837 : (Jvm.Cond.instanceMethod ({ cls := "LoopSignalsModel", name := "setting", desc := "(II)I" } : Jvm.MethodName)) ∈ lw_all := lw_g (lw_at lw_m16 89 rfl) rfl
theorem q3838 : (Jvm.Cond.code ({ cls := "LoopSignalsModel", name := "setting", desc := "(II)I" } : Jvm.MethodName) prog_19_method_107_code (4 : Nat) (Option.some Jvm.ClassFile.FieldType.int)) ∈ lw_all := lw_g (lw_at lw_m16 90 rfl) rfl
theorem q3839 : (Jvm.Cond.methodLink "LoopSignalsModel" (302 : Nat) ({ cls := "LoopSignalsModel", name := "ofPhaseSetting", desc := "(III)I" } : Jvm.MethodName)) ∈ lw_all := lw_g (lw_at lw_m16 91 rfl) rfl
theorem q3840 : (Jvm.Cond.privateMethod ({ cls := "LoopSignalsModel", name := "ofPhaseSetting", desc := "(III)I" } : Jvm.MethodName)) ∈ lw_tbl := lw_at lw_m16 92 rfl
theorem q3841 : (Jvm.Cond.instanceMethod ({ cls := "LoopSignalsModel", name := "ofPhaseSetting", desc := "(III)I" } : Jvm.MethodName)) ∈ lw_all := lw_g (lw_at lw_m16 93 rfl) rfl
theorem q3842 : (Jvm.Cond.code ({ cls := "LoopSignalsModel", name := "ofPhaseSetting", desc := "(III)I" } : Jvm.MethodName) prog_19_method_105_code (5 : Nat) (Option.some Jvm.ClassFile.FieldType.int)) ∈ lw_all := lw_g (lw_at lw_m16 94 rfl) rfl
theorem q3844 : (Jvm.Cond.instanceMethod ({ cls := "LoopSignalsModel", name := "size", desc := "(I)I" } : Jvm.MethodName)) ∈ lw_all := lw_g (lw_at lw_m16 96 rfl) rfl
theorem q3845 : (Jvm.Cond.selects "LoopSignalsModel" ({ cls := "LoopSignalsModel", name := "size", desc := "(I)I" } : Jvm.MethodName) ({ cls := "LoopSignalsModel", name := "size", desc := "(I)I" } : Jvm.MethodName)) ∈ lw_all := lw_g (lw_at lw_m16 97 rfl) rfl
theorem q3846 : (Jvm.Cond.code ({ cls := "LoopSignalsModel", name := "size", desc := "(I)I" } : Jvm.MethodName) prog_19_method_65_code (2 : Nat) (Option.some Jvm.ClassFile.FieldType.int)) ∈ lw_all := lw_g (lw_at lw_m16 98 rfl) rfl
theorem q3847 : (Jvm.Cond.methodLink "LoopSignalsModel" (322 : Nat) ({ cls := "LoopSignalsModel", name := "right", desc := "(Z)Z" } : Jvm.MethodName)) ∈ lw_all := lw_g (lw_at lw_m16 99 rfl) rfl
theorem q3848 : (Jvm.Cond.privateMethod ({ cls := "LoopSignalsModel", name := "right", desc := "(Z)Z" } : Jvm.MethodName)) ∈ lw_tbl := lw_at lw_m16 100 rfl
theorem q3849 : (Jvm.Cond.instanceMethod ({ cls := "LoopSignalsModel", name := "right", desc := "(Z)Z" } : Jvm.MethodName)) ∈ lw_all := lw_g (lw_at lw_m16 101 rfl) rfl
theorem q3850 : (Jvm.Cond.code ({ cls := "LoopSignalsModel", name := "right", desc := "(Z)Z" } : Jvm.MethodName) prog_19_method_5_code (2 : Nat) (Option.some Jvm.ClassFile.FieldType.boolean)) ∈ lw_all := lw_g (lw_at lw_m16 102 rfl) rfl
theorem q3851 : (Jvm.Cond.methodLink "LoopSignalsModel" (326 : Nat) ({ cls := "LoopSignalsModel", name := "allCars", desc := "()I" } : Jvm.MethodName)) ∈ lw_all := lw_g (lw_at lw_m16 103 rfl) rfl
theorem q3852 : (Jvm.Cond.privateMethod ({ cls := "LoopSignalsModel", name := "allCars", desc := "()I" } : Jvm.MethodName)) ∈ lw_tbl := lw_at lw_m16 104 rfl
theorem q3853 : (Jvm.Cond.instanceMethod ({ cls := "LoopSignalsModel", name := "allCars", desc := "()I" } : Jvm.MethodName)) ∈ lw_all := lw_g (lw_at lw_m16 105 rfl) rfl
theorem q3854 : (Jvm.Cond.code ({ cls := "LoopSignalsModel", name := "allCars", desc := "()I" } : Jvm.MethodName) prog_19_method_31_code (3 : Nat) (Option.some Jvm.ClassFile.FieldType.int)) ∈ lw_all := lw_g (lw_at lw_m16 106 rfl) rfl
theorem q3856 : (Jvm.Cond.instanceMethod ({ cls := "LoopSignalsModel", name := "arm", desc := "(II)I" } : Jvm.MethodName)) ∈ lw_all := lw_g (lw_at lw_m16 108 rfl) rfl
theorem q3857 : (Jvm.Cond.selects "LoopSignalsModel" ({ cls := "LoopSignalsModel", name := "arm", desc := "(II)I" } : Jvm.MethodName) ({ cls := "LoopSignalsModel", name := "arm", desc := "(II)I" } : Jvm.MethodName)) ∈ lw_all := lw_g (lw_at lw_m16 109 rfl) rfl
theorem q3858 : (Jvm.Cond.code ({ cls := "LoopSignalsModel", name := "arm", desc := "(II)I" } : Jvm.MethodName) prog_19_method_68_code (3 : Nat) (Option.some Jvm.ClassFile.FieldType.int)) ∈ lw_all := lw_g (lw_at lw_m16 110 rfl) rfl
theorem q3859 : (Jvm.Cond.methodLink "LoopSignalsModel" (329 : Nat) ({ cls := "LoopSignalsModel", name := "isArm", desc := "(I)Z" } : Jvm.MethodName)) ∈ lw_all := lw_g (lw_at lw_m16 111 rfl) rfl
theorem q3860 : (Jvm.Cond.privateMethod ({ cls := "LoopSignalsModel", name := "isArm", desc := "(I)Z" } : Jvm.MethodName)) ∈ lw_tbl := lw_at lw_m16 112 rfl
theorem q3861 : (Jvm.Cond.instanceMethod ({ cls := "LoopSignalsModel", name := "isArm", desc := "(I)Z" } : Jvm.MethodName)) ∈ lw_all := lw_g (lw_at lw_m16 113 rfl) rfl
theorem q3862 : (Jvm.Cond.code ({ cls := "LoopSignalsModel", name := "isArm", desc := "(I)Z" } : Jvm.MethodName) prog_19_method_15_code (2 : Nat) (Option.some Jvm.ClassFile.FieldType.boolean)) ∈ lw_all := lw_g (lw_at lw_m16 114 rfl) rfl
theorem q3863 : (Jvm.Cond.methodLink "LoopSignalsModel" (332 : Nat) ({ cls := "LoopSignalsModel", name := "phasesOf", desc := "(I)I" } : Jvm.MethodName)) ∈ lw_all := lw_g (lw_at lw_m16 115 rfl) rfl
theorem q3864 : (Jvm.Cond.privateMethod ({ cls := "LoopSignalsModel", name := "phasesOf", desc := "(I)I" } : Jvm.MethodName)) ∈ lw_tbl := lw_at lw_m16 116 rfl
theorem q3865 : (Jvm.Cond.instanceMethod ({ cls := "LoopSignalsModel", name := "phasesOf", desc := "(I)I" } : Jvm.MethodName)) ∈ lw_all := lw_g (lw_at lw_m16 117 rfl) rfl
theorem q3866 : (Jvm.Cond.code ({ cls := "LoopSignalsModel", name := "phasesOf", desc := "(I)I" } : Jvm.MethodName) prog_19_method_66_code (4 : Nat) (Option.some Jvm.ClassFile.FieldType.int)) ∈ lw_all := lw_g (lw_at lw_m16 118 rfl) rfl
theorem q3867 : (Jvm.Cond.methodLink "LoopSignalsModel" (335 : Nat) ({ cls := "LoopSignalsModel", name := "clashesOf", desc := "(I)I" } : Jvm.MethodName)) ∈ lw_all := lw_g (lw_at lw_m16 119 rfl) rfl
theorem q3868 : (Jvm.Cond.privateMethod ({ cls := "LoopSignalsModel", name := "clashesOf", desc := "(I)I" } : Jvm.MethodName)) ∈ lw_tbl := lw_at lw_m16 120 rfl
theorem q3869 : (Jvm.Cond.instanceMethod ({ cls := "LoopSignalsModel", name := "clashesOf", desc := "(I)I" } : Jvm.MethodName)) ∈ lw_all := lw_g (lw_at lw_m16 121 rfl) rfl
theorem q3870 : (Jvm.Cond.code ({ cls := "LoopSignalsModel", name := "clashesOf", desc := "(I)I" } : Jvm.MethodName) prog_19_method_67_code (4 : Nat) (Option.some Jvm.ClassFile.FieldType.int)) ∈ lw_all := lw_g (lw_at lw_m16 122 rfl) rfl
theorem q3872 : (Jvm.Cond.instanceMethod ({ cls := "LoopSignalsModel", name := "phase", desc := "(II)I" } : Jvm.MethodName)) ∈ lw_all := lw_g (lw_at lw_m16 124 rfl) rfl
theorem q3873 : (Jvm.Cond.selects "LoopSignalsModel" ({ cls := "LoopSignalsModel", name := "phase", desc := "(II)I" } : Jvm.MethodName) ({ cls := "LoopSignalsModel", name := "phase", desc := "(II)I" } : Jvm.MethodName)) ∈ lw_all := lw_g (lw_at lw_m16 125 rfl) rfl
theorem q3874 : (Jvm.Cond.code ({ cls := "LoopSignalsModel", name := "phase", desc := "(II)I" } : Jvm.MethodName) prog_19_method_70_code (3 : Nat) (Option.some Jvm.ClassFile.FieldType.int)) ∈ lw_all := lw_g (lw_at lw_m16 126 rfl) rfl
theorem q3875 : (Jvm.Cond.methodLink "LoopSignalsModel" (338 : Nat) ({ cls := "LoopSignalsModel", name := "armsOf", desc := "(I)I" } : Jvm.MethodName)) ∈ lw_all := lw_g (lw_at lw_m16 127 rfl) rfl
theorem q3876 : (Jvm.Cond.privateMethod ({ cls := "LoopSignalsModel", name := "armsOf", desc := "(I)I" } : Jvm.MethodName)) ∈ lw_tbl := lw_at lw_m16 128 rfl
theorem q3877 : (Jvm.Cond.instanceMethod ({ cls := "LoopSignalsModel", name := "armsOf", desc := "(I)I" } : Jvm.MethodName)) ∈ lw_all := lw_g (lw_at lw_m16 129 rfl) rfl
theorem q3878 : (Jvm.Cond.code ({ cls := "LoopSignalsModel", name := "armsOf", desc := "(I)I" } : Jvm.MethodName) prog_19_method_69_code (4 : Nat) (Option.some Jvm.ClassFile.FieldType.int)) ∈ lw_all := lw_g (lw_at lw_m16 130 rfl) rfl
theorem q3880 : (Jvm.Cond.instanceMethod ({ cls := "LoopSignalsModel", name := "has", desc := "(II)Z" } : Jvm.MethodName)) ∈ lw_all := lw_g (lw_at lw_m16 132 rfl) rfl
theorem q3881 : (Jvm.Cond.selects "LoopSignalsModel" ({ cls := "LoopSignalsModel", name := "has", desc := "(II)Z" } : Jvm.MethodName) ({ cls := "LoopSignalsModel", name := "has", desc := "(II)Z" } : Jvm.MethodName)) ∈ lw_all := lw_g (lw_at lw_m16 133 rfl) rfl
theorem q3882 : (Jvm.Cond.code ({ cls := "LoopSignalsModel", name := "has", desc := "(II)Z" } : Jvm.MethodName) prog_19_method_71_code (3 : Nat) (Option.some Jvm.ClassFile.FieldType.boolean)) ∈ lw_all := lw_g (lw_at lw_m16 134 rfl) rfl
theorem q3884 : (Jvm.Cond.instanceMethod ({ cls := "LoopSignalsModel", name := "doClash", desc := "(II)Z" } : Jvm.MethodName)) ∈ lw_all := lw_g (lw_at lw_m16 136 rfl) rfl
theorem q3885 : (Jvm.Cond.selects "LoopSignalsModel" ({ cls := "LoopSignalsModel", name := "doClash", desc := "(II)Z" } : Jvm.MethodName) ({ cls := "LoopSignalsModel", name := "doClash", desc := "(II)Z" } : Jvm.MethodName)) ∈ lw_all := lw_g (lw_at lw_m16 137 rfl) rfl
theorem q3886 : (Jvm.Cond.code ({ cls := "LoopSignalsModel", name := "doClash", desc := "(II)Z" } : Jvm.MethodName) prog_19_method_72_code (3 : Nat) (Option.some Jvm.ClassFile.FieldType.boolean)) ∈ lw_all := lw_g (lw_at lw_m16 138 rfl) rfl
theorem q3888 : (Jvm.Cond.instanceMethod ({ cls := "LoopSignalsModel", name := "car", desc := "(II)I" } : Jvm.MethodName)) ∈ lw_all := lw_g (lw_at lw_m16 140 rfl) rfl
theorem q3889 : (Jvm.Cond.selects "LoopSignalsModel" ({ cls := "LoopSignalsModel", name := "car", desc := "(II)I" } : Jvm.MethodName) ({ cls := "LoopSignalsModel", name := "car", desc := "(II)I" } : Jvm.MethodName)) ∈ lw_all := lw_g (lw_at lw_m16 141 rfl) rfl
theorem q3890 : (Jvm.Cond.code ({ cls := "LoopSignalsModel", name := "car", desc := "(II)I" } : Jvm.MethodName) prog_19_method_73_code (3 : Nat) (Option.some Jvm.ClassFile.FieldType.int)) ∈ lw_all := lw_g (lw_at lw_m16 142 rfl) rfl
theorem q3892 : (Jvm.Cond.instanceMethod ({ cls := "LoopSignalsModel", name := "letter", desc := "(II)I" } : Jvm.MethodName)) ∈ lw_all := lw_g (lw_at lw_m16 144 rfl) rfl
theorem q3893 : (Jvm.Cond.selects "LoopSignalsModel" ({ cls := "LoopSignalsModel", name := "letter", desc := "(II)I" } : Jvm.MethodName) ({ cls := "LoopSignalsModel", name := "letter", desc := "(II)I" } : Jvm.MethodName)) ∈ lw_all := lw_g (lw_at lw_m16 145 rfl) rfl
theorem q3894 : (Jvm.Cond.code ({ cls := "LoopSignalsModel", name := "letter", desc := "(II)I" } : Jvm.MethodName) prog_19_method_75_code (3 : Nat) (Option.some Jvm.ClassFile.FieldType.int)) ∈ lw_all := lw_g (lw_at lw_m16 146 rfl) rfl
theorem q3895 : (Jvm.Cond.methodLink "LoopSignalsModel" (341 : Nat) ({ cls := "LoopSignalsModel", name := "letterOf", desc := "(II)I" } : Jvm.MethodName)) ∈ lw_all := lw_g (lw_at lw_m16 147 rfl) rfl
theorem q3896 : (Jvm.Cond.static ({ cls := "LoopSignalsModel", name := "letterOf", desc := "(II)I" } : Jvm.MethodName)) ∈ lw_all := lw_g (lw_at lw_m16 148 rfl) rfl
theorem q3897 : (Jvm.Cond.code ({ cls := "LoopSignalsModel", name := "letterOf", desc := "(II)I" } : Jvm.MethodName) prog_19_method_74_code (5 : Nat) (Option.some Jvm.ClassFile.FieldType.int)) ∈ lw_all := lw_g (lw_at lw_m16 149 rfl) rfl
theorem q3899 : (Jvm.Cond.instanceMethod ({ cls := "LoopSignalsModel", name := "find", desc := "()I" } : Jvm.MethodName)) ∈ lw_all := lw_g (lw_at lw_m16 151 rfl) rfl
theorem q3900 : (Jvm.Cond.selects "LoopSignalsModel" ({ cls := "LoopSignalsModel", name := "find", desc := "()I" } : Jvm.MethodName) ({ cls := "LoopSignalsModel", name := "find", desc := "()I" } : Jvm.MethodName)) ∈ lw_all := lw_g (lw_at lw_m16 152 rfl) rfl
theorem q3901 : (Jvm.Cond.code ({ cls := "LoopSignalsModel", name := "find", desc := "()I" } : Jvm.MethodName) prog_19_method_76_code (2 : Nat) (Option.some Jvm.ClassFile.FieldType.int)) ∈ lw_all := lw_g (lw_at lw_m16 153 rfl) rfl
theorem q3903 : (Jvm.Cond.instanceMethod ({ cls := "LoopSignalsModel", name := "why", desc := "(II)I" } : Jvm.MethodName)) ∈ lw_all := lw_g (lw_at lw_m16 155 rfl) rfl
theorem q3904 : (Jvm.Cond.selects "LoopSignalsModel" ({ cls := "LoopSignalsModel", name := "why", desc := "(II)I" } : Jvm.MethodName) ({ cls := "LoopSignalsModel", name := "why", desc := "(II)I" } : Jvm.MethodName)) ∈ lw_all := lw_g (lw_at lw_m16 156 rfl) rfl
theorem q3905 : (Jvm.Cond.code ({ cls := "LoopSignalsModel", name := "why", desc := "(II)I" } : Jvm.MethodName) prog_19_method_79_code (4 : Nat) (Option.some Jvm.ClassFile.FieldType.int)) ∈ lw_all := lw_g (lw_at lw_m16 157 rfl) rfl
theorem q3906 : (Jvm.Cond.methodLink "LoopSignalsModel" (347 : Nat) ({ cls := "LoopSignalsModel", name := "reasonOf", desc := "(I)I" } : Jvm.MethodName)) ∈ lw_all := lw_g (lw_at lw_m16 158 rfl) rfl
theorem q3907 : (Jvm.Cond.privateMethod ({ cls := "LoopSignalsModel", name := "reasonOf", desc := "(I)I" } : Jvm.MethodName)) ∈ lw_tbl := lw_at lw_m16 159 rfl
theorem q3908 : (Jvm.Cond.instanceMethod ({ cls := "LoopSignalsModel", name := "reasonOf", desc := "(I)I" } : Jvm.MethodName)) ∈ lw_all := lw_g (lw_at lw_m16 160 rfl) rfl
theorem q3909 : (Jvm.Cond.code ({ cls := "LoopSignalsModel", name := "reasonOf", desc := "(I)I" } : Jvm.MethodName) prog_19_method_78_code (2 : Nat) (Option.some Jvm.ClassFile.FieldType.int)) ∈ lw_all := lw_g (lw_at lw_m16 161 rfl) rfl
theorem q3910 : (Jvm.Cond.methodLink "LoopSignalsModel" (344 : Nat) ({ cls := "LoopSignalsModel", name := "isCalledFor", desc := "(I)Z" } : Jvm.MethodName)) ∈ lw_all := lw_g (lw_at lw_m16 162 rfl) rfl
theorem q3911 : (Jvm.Cond.privateMethod ({ cls := "LoopSignalsModel", name := "isCalledFor", desc := "(I)Z" } : Jvm.MethodName)) ∈ lw_tbl := lw_at lw_m16 163 rfl
theorem q3912 : (Jvm.Cond.instanceMethod ({ cls := "LoopSignalsModel", name := "isCalledFor", desc := "(I)Z" } : Jvm.MethodName)) ∈ lw_all := lw_g (lw_at lw_m16 164 rfl) rfl
theorem q3913 : (Jvm.Cond.code ({ cls := "LoopSignalsModel", name := "isCalledFor", desc := "(I)Z" } : Jvm.MethodName) prog_19_method_77_code (3 : Nat) (Option.some Jvm.ClassFile.FieldType.boolean)) ∈ lw_all := lw_g (lw_at lw_m16 165 rfl) rfl
theorem q3915 : (Jvm.Cond.instanceMethod ({ cls := "LoopSignalsModel", name := "account", desc := "(I)I" } : Jvm.MethodName)) ∈ lw_all := lw_g (lw_at lw_m16 167 rfl) rfl
theorem q3916 : (Jvm.Cond.selects "LoopSignalsModel" ({ cls := "LoopSignalsModel", name := "account", desc := "(I)I" } : Jvm.MethodName) ({ cls := "LoopSignalsModel", name := "account", desc := "(I)I" } : Jvm.MethodName)) ∈ lw_all := lw_g (lw_at lw_m16 168 rfl) rfl
theorem q3917 : (Jvm.Cond.code ({ cls := "LoopSignalsModel", name := "account", desc := "(I)I" } : Jvm.MethodName) prog_19_method_80_code (2 : Nat) (Option.some Jvm.ClassFile.FieldType.int)) ∈ lw_all := lw_g (lw_at lw_m16 169 rfl) rfl
theorem q3919 : (Jvm.Cond.instanceMethod ({ cls := "LoopSignalsModel", name := "gap", desc := "()I" } : Jvm.MethodName)) ∈ lw_all := lw_g (lw_at lw_m16 171 rfl) rfl
theorem q3920 : (Jvm.Cond.selects "LoopSignalsModel" ({ cls := "LoopSignalsModel", name := "gap", desc := "()I" } : Jvm.MethodName) ({ cls := "LoopSignalsModel", name := "gap", desc := "()I" } : Jvm.MethodName)) ∈ lw_all := lw_g (lw_at lw_m16 172 rfl) rfl
theorem q3921 : (Jvm.Cond.code ({ cls := "LoopSignalsModel", name := "gap", desc := "()I" } : Jvm.MethodName) prog_19_method_82_code (4 : Nat) (Option.some Jvm.ClassFile.FieldType.int)) ∈ lw_all := lw_g (lw_at lw_m16 173 rfl) rfl
theorem q3922 : (Jvm.Cond.methodLink "LoopSignalsModel" (350 : Nat) ({ cls := "java/lang/Math", name := "abs", desc := "(I)I" } : Jvm.MethodName)) ∈ lw_all := lw_g (lw_at lw_m16 174 rfl) rfl
theorem q3923 : (Jvm.Cond.methodLink "LoopSignalsModel" (353 : Nat) ({ cls := "LoopSignalsModel", name := "isMixed", desc := "(I)Z" } : Jvm.MethodName)) ∈ lw_all := lw_g (lw_at lw_m16 175 rfl) rfl
theorem q3924 : (Jvm.Cond.privateMethod ({ cls := "LoopSignalsModel", name := "isMixed", desc := "(I)Z" } : Jvm.MethodName)) ∈ lw_tbl := lw_at lw_m16 176 rfl
theorem q3925 : (Jvm.Cond.instanceMethod ({ cls := "LoopSignalsModel", name := "isMixed", desc := "(I)Z" } : Jvm.MethodName)) ∈ lw_all := lw_g (lw_at lw_m16 177 rfl) rfl
theorem q3926 : (Jvm.Cond.code ({ cls := "LoopSignalsModel", name := "isMixed", desc := "(I)Z" } : Jvm.MethodName) prog_19_method_81_code (4 : Nat) (Option.some Jvm.ClassFile.FieldType.boolean)) ∈ lw_all := lw_g (lw_at lw_m16 178 rfl) rfl
theorem q3928 : (Jvm.Cond.instanceMethod ({ cls := "LoopSignalsModel", name := "meanWait", desc := "()D" } : Jvm.MethodName)) ∈ lw_all := lw_g (lw_at lw_m16 180 rfl) rfl
theorem q3929 : (Jvm.Cond.selects "LoopSignalsModel" ({ cls := "LoopSignalsModel", name := "meanWait", desc := "()D" } : Jvm.MethodName) ({ cls := "LoopSignalsModel", name := "meanWait", desc := "()D" } : Jvm.MethodName)) ∈ lw_all := lw_g (lw_at lw_m16 181 rfl) rfl
theorem q3930 : (Jvm.Cond.code ({ cls := "LoopSignalsModel", name := "meanWait", desc := "()D" } : Jvm.MethodName) prog_19_method_83_code (1 : Nat) (Option.some Jvm.ClassFile.FieldType.double)) ∈ lw_all := lw_g (lw_at lw_m16 182 rfl) rfl
theorem q3932 : (Jvm.Cond.instanceMethod ({ cls := "LoopSignalsModel", name := "greenBits", desc := "(I)I" } : Jvm.MethodName)) ∈ lw_all := lw_g (lw_at lw_m16 184 rfl) rfl
theorem q3933 : (Jvm.Cond.selects "LoopSignalsModel" ({ cls := "LoopSignalsModel", name := "greenBits", desc := "(I)I" } : Jvm.MethodName) ({ cls := "LoopSignalsModel", name := "greenBits", desc := "(I)I" } : Jvm.MethodName)) ∈ lw_all := lw_g (lw_at lw_m16 185 rfl) rfl
theorem q3934 : (Jvm.Cond.code ({ cls := "LoopSignalsModel", name := "greenBits", desc := "(I)I" } : Jvm.MethodName) prog_19_method_84_code (2 : Nat) (Option.some Jvm.ClassFile.FieldType.int)) ∈ lw_all := lw_g (lw_at lw_m16 186 rfl) rfl
theorem q3935 : (Jvm.Cond.methodLink "LoopSignalsModel" (356 : Nat) ({ cls := "java/lang/Float", name := "floatToIntBits", desc := "(F)I" } : Jvm.MethodName)) ∈ lw_all := lw_g (lw_at lw_m16 187 rfl) rfl
theorem q3937 : (Jvm.Cond.instanceMethod ({ cls := "LoopSignalsModel", name := "greenIn", desc := "(I)I" } : Jvm.MethodName)) ∈ lw_all := lw_g (lw_at lw_m16 189 rfl) rfl
theorem q3938 : (Jvm.Cond.selects "LoopSignalsModel" ({ cls := "LoopSignalsModel", name := "greenIn", desc := "(I)I" } : Jvm.MethodName) ({ cls := "LoopSignalsModel", name := "greenIn", desc := "(I)I" } : Jvm.MethodName)) ∈ lw_all := lw_g (lw_at lw_m16 190 rfl) rfl
theorem q3939 : (Jvm.Cond.code ({ cls := "LoopSignalsModel", name := "greenIn", desc := "(I)I" } : Jvm.MethodName) prog_19_method_85_code (3 : Nat) (Option.some Jvm.ClassFile.FieldType.int)) ∈ lw_all := lw_g (lw_at lw_m16 191 rfl) rfl
theorem q3940 : (Jvm.Cond.methodLink "LoopSignalsModel" (362 : Nat) ({ cls := "LoopSignalsModel", name := "tries", desc := "()V" } : Jvm.MethodName)) ∈ lw_all := lw_g (lw_at lw_m16 192 rfl) rfl
theorem q3941 : (Jvm.Cond.privateMethod ({ cls := "LoopSignalsModel", name := "tries", desc := "()V" } : Jvm.MethodName)) ∈ lw_tbl := lw_at lw_m16 193 rfl
theorem q3942 : (Jvm.Cond.instanceMethod ({ cls := "LoopSignalsModel", name := "tries", desc := "()V" } : Jvm.MethodName)) ∈ lw_all := lw_g (lw_at lw_m16 194 rfl) rfl
theorem q3943 : (Jvm.Cond.code ({ cls := "LoopSignalsModel", name := "tries", desc := "()V" } : Jvm.MethodName) prog_19_method_32_code (2 : Nat) (Option.none : Option Jvm.ClassFile.FieldType)) ∈ lw_all := lw_g (lw_at lw_m16 195 rfl) rfl
theorem q3944 : (Jvm.Cond.methodLink "LoopSignalsModel" (365 : Nat) ({ cls := "LoopSignalsModel", name := "back", desc := "(I)I" } : Jvm.MethodName)) ∈ lw_all := lw_g (lw_at lw_m16 196 rfl) rfl
theorem q3945 : (Jvm.Cond.privateMethod ({ cls := "LoopSignalsModel", name := "back", desc := "(I)I" } : Jvm.MethodName)) ∈ lw_tbl := lw_at lw_m16 197 rfl
theorem q3946 : (Jvm.Cond.instanceMethod ({ cls := "LoopSignalsModel", name := "back", desc := "(I)I" } : Jvm.MethodName)) ∈ lw_all := lw_g (lw_at lw_m16 198 rfl) rfl
theorem q3947 : (Jvm.Cond.code ({ cls := "LoopSignalsModel", name := "back", desc := "(I)I" } : Jvm.MethodName) prog_19_method_33_code (3 : Nat) (Option.some Jvm.ClassFile.FieldType.int)) ∈ lw_all := lw_g (lw_at lw_m16 199 rfl) rfl
theorem q3949 : (Jvm.Cond.instanceMethod ({ cls := "LoopSignalsModel", name := "emptyIn", desc := "()I" } : Jvm.MethodName)) ∈ lw_all := lw_g (lw_at lw_m16 201 rfl) rfl
theorem q3950 : (Jvm.Cond.selects "LoopSignalsModel" ({ cls := "LoopSignalsModel", name := "emptyIn", desc := "()I" } : Jvm.MethodName) ({ cls := "LoopSignalsModel", name := "emptyIn", desc := "()I" } : Jvm.MethodName)) ∈ lw_all := lw_g (lw_at lw_m16 202 rfl) rfl
theorem q3951 : (Jvm.Cond.code ({ cls := "LoopSignalsModel", name := "emptyIn", desc := "()I" } : Jvm.MethodName) prog_19_method_86_code (2 : Nat) (Option.some Jvm.ClassFile.FieldType.int)) ∈ lw_all := lw_g (lw_at lw_m16 203 rfl) rfl
theorem q3953 : (Jvm.Cond.instanceMethod ({ cls := "LoopSignalsModel", name := "ifRule", desc := "(III)I" } : Jvm.MethodName)) ∈ lw_all := lw_g (lw_at lw_m16 205 rfl) rfl
theorem q3954 : (Jvm.Cond.selects "LoopSignalsModel" ({ cls := "LoopSignalsModel", name := "ifRule", desc := "(III)I" } : Jvm.MethodName) ({ cls := "LoopSignalsModel", name := "ifRule", desc := "(III)I" } : Jvm.MethodName)) ∈ lw_all := lw_g (lw_at lw_m16 206 rfl) rfl
theorem q3955 : (Jvm.Cond.code ({ cls := "LoopSignalsModel", name := "ifRule", desc := "(III)I" } : Jvm.MethodName) prog_19_method_88_code (4 : Nat) (Option.some Jvm.ClassFile.FieldType.int)) ∈ lw_all := lw_g (lw_at lw_m16 207 rfl) rfl
theorem q3956 : (Jvm.Cond.methodLink "LoopSignalsModel" (371 : Nat) ({ cls := "LoopSignalsModel", name := "grownBy", desc := "(III)I" } : Jvm.MethodName)) ∈ lw_all := lw_g (lw_at lw_m16 208 rfl) rfl
theorem q3957 : (Jvm.Cond.privateMethod ({ cls := "LoopSignalsModel", name := "grownBy", desc := "(III)I" } : Jvm.MethodName)) ∈ lw_tbl := lw_at lw_m16 209 rfl
theorem q3958 : (Jvm.Cond.instanceMethod ({ cls := "LoopSignalsModel", name := "grownBy", desc := "(III)I" } : Jvm.MethodName)) ∈ lw_all := lw_g (lw_at lw_m16 210 rfl) rfl
theorem q3959 : (Jvm.Cond.code ({ cls := "LoopSignalsModel", name := "grownBy", desc := "(III)I" } : Jvm.MethodName) prog_19_method_87_code (4 : Nat) (Option.some Jvm.ClassFile.FieldType.int)) ∈ lw_all := lw_g (lw_at lw_m16 211 rfl) rfl
theorem q3961 : (Jvm.Cond.instanceMethod ({ cls := "LoopSignalsModel", name := "bestRule", desc := "(I)I" } : Jvm.MethodName)) ∈ lw_all := lw_g (lw_at lw_m16 213 rfl) rfl
theorem q3962 : (Jvm.Cond.selects "LoopSignalsModel" ({ cls := "LoopSignalsModel", name := "bestRule", desc := "(I)I" } : Jvm.MethodName) ({ cls := "LoopSignalsModel", name := "bestRule", desc := "(I)I" } : Jvm.MethodName)) ∈ lw_all := lw_g (lw_at lw_m16 214 rfl) rfl
theorem q3963 : (Jvm.Cond.code ({ cls := "LoopSignalsModel", name := "bestRule", desc := "(I)I" } : Jvm.MethodName) prog_19_method_89_code (6 : Nat) (Option.some Jvm.ClassFile.FieldType.int)) ∈ lw_all := lw_g (lw_at lw_m16 215 rfl) rfl
theorem q3965 : (Jvm.Cond.instanceMethod ({ cls := "LoopSignalsModel", name := "lightIn", desc := "(II)I" } : Jvm.MethodName)) ∈ lw_all := lw_g (lw_at lw_m16 217 rfl) rfl
theorem q3966 : (Jvm.Cond.selects "LoopSignalsModel" ({ cls := "LoopSignalsModel", name := "lightIn", desc := "(II)I" } : Jvm.MethodName) ({ cls := "LoopSignalsModel", name := "lightIn", desc := "(II)I" } : Jvm.MethodName)) ∈ lw_all := lw_g (lw_at lw_m16 218 rfl) rfl
theorem q3967 : (Jvm.Cond.code ({ cls := "LoopSignalsModel", name := "lightIn", desc := "(II)I" } : Jvm.MethodName) prog_19_method_90_code (3 : Nat) (Option.some Jvm.ClassFile.FieldType.int)) ∈ lw_all := lw_g (lw_at lw_m16 219 rfl) rfl
theorem q3969 : (Jvm.Cond.instanceMethod ({ cls := "LoopSignalsModel", name := "couldJoin", desc := "(I)I" } : Jvm.MethodName)) ∈ lw_all := lw_g (lw_at lw_m16 221 rfl) rfl
theorem q3970 : (Jvm.Cond.selects "LoopSignalsModel" ({ cls := "LoopSignalsModel", name := "couldJoin", desc := "(I)I" } : Jvm.MethodName) ({ cls := "LoopSignalsModel", name := "couldJoin", desc := "(I)I" } : Jvm.MethodName)) ∈ lw_all := lw_g (lw_at lw_m16 222 rfl) rfl
theorem q3971 : (Jvm.Cond.code ({ cls := "LoopSignalsModel", name := "couldJoin", desc := "(I)I" } : Jvm.MethodName) prog_19_method_91_code (4 : Nat) (Option.some Jvm.ClassFile.FieldType.int)) ∈ lw_all := lw_g (lw_at lw_m16 223 rfl) rfl
theorem q3973 : (Jvm.Cond.instanceMethod ({ cls := "LoopSignalsModel", name := "come", desc := "(II)I" } : Jvm.MethodName)) ∈ lw_all := lw_g (lw_at lw_m16 225 rfl) rfl
theorem q3974 : (Jvm.Cond.selects "LoopSignalsModel" ({ cls := "LoopSignalsModel", name := "come", desc := "(II)I" } : Jvm.MethodName) ({ cls := "LoopSignalsModel", name := "come", desc := "(II)I" } : Jvm.MethodName)) ∈ lw_all := lw_g (lw_at lw_m16 226 rfl) rfl
theorem q3975 : (Jvm.Cond.code ({ cls := "LoopSignalsModel", name := "come", desc := "(II)I" } : Jvm.MethodName) prog_19_method_96_code (3 : Nat) (Option.some Jvm.ClassFile.FieldType.int)) ∈ lw_all := lw_g (lw_at lw_m16 227 rfl) rfl
theorem q3977 : (Jvm.Cond.instanceMethod ({ cls := "LoopSignalsModel", name := "pass", desc := "(I)I" } : Jvm.MethodName)) ∈ lw_all := lw_g (lw_at lw_m16 229 rfl) rfl
theorem q3978 : (Jvm.Cond.selects "LoopSignalsModel" ({ cls := "LoopSignalsModel", name := "pass", desc := "(I)I" } : Jvm.MethodName) ({ cls := "LoopSignalsModel", name := "pass", desc := "(I)I" } : Jvm.MethodName)) ∈ lw_all := lw_g (lw_at lw_m16 230 rfl) rfl
theorem q3979 : (Jvm.Cond.code ({ cls := "LoopSignalsModel", name := "pass", desc := "(I)I" } : Jvm.MethodName) prog_19_method_98_code (2 : Nat) (Option.some Jvm.ClassFile.FieldType.int)) ∈ lw_all := lw_g (lw_at lw_m16 231 rfl) rfl
theorem q3981 : (Jvm.Cond.instanceMethod ({ cls := "LoopSignalsModel", name := "call", desc := "(I)I" } : Jvm.MethodName)) ∈ lw_all := lw_g (lw_at lw_m16 233 rfl) rfl
theorem q3982 : (Jvm.Cond.selects "LoopSignalsModel" ({ cls := "LoopSignalsModel", name := "call", desc := "(I)I" } : Jvm.MethodName) ({ cls := "LoopSignalsModel", name := "call", desc := "(I)I" } : Jvm.MethodName)) ∈ lw_all := lw_g (lw_at lw_m16 234 rfl) rfl
theorem q3983 : (Jvm.Cond.code ({ cls := "LoopSignalsModel", name := "call", desc := "(I)I" } : Jvm.MethodName) prog_19_method_100_code (2 : Nat) (Option.some Jvm.ClassFile.FieldType.int)) ∈ lw_all := lw_g (lw_at lw_m16 235 rfl) rfl
theorem q3985 : (Jvm.Cond.instanceMethod ({ cls := "LoopSignalsModel", name := "setBroken", desc := "(IZ)I" } : Jvm.MethodName)) ∈ lw_all := lw_g (lw_at lw_m16 237 rfl) rfl
theorem q3986 : (Jvm.Cond.selects "LoopSignalsModel" ({ cls := "LoopSignalsModel", name := "setBroken", desc := "(IZ)I" } : Jvm.MethodName) ({ cls := "LoopSignalsModel", name := "setBroken", desc := "(IZ)I" } : Jvm.MethodName)) ∈ lw_all := lw_g (lw_at lw_m16 238 rfl) rfl
theorem q3987 : (Jvm.Cond.code ({ cls := "LoopSignalsModel", name := "setBroken", desc := "(IZ)I" } : Jvm.MethodName) prog_19_method_102_code (3 : Nat) (Option.some Jvm.ClassFile.FieldType.int)) ∈ lw_all := lw_g (lw_at lw_m16 239 rfl) rfl
theorem q3989 : (Jvm.Cond.instanceMethod ({ cls := "LoopSignalsModel", name := "clash", desc := "(IIZ)I" } : Jvm.MethodName)) ∈ lw_all := lw_g (lw_at lw_m17 1 rfl) rfl
theorem q3990 : (Jvm.Cond.selects "LoopSignalsModel" ({ cls := "LoopSignalsModel", name := "clash", desc := "(IIZ)I" } : Jvm.MethodName) ({ cls := "LoopSignalsModel", name := "clash", desc := "(IIZ)I" } : Jvm.MethodName)) ∈ lw_all := lw_g (lw_at lw_m17 2 rfl) rfl
theorem q3991 : (Jvm.Cond.code ({ cls := "LoopSignalsModel", name := "clash", desc := "(IIZ)I" } : Jvm.MethodName) prog_19_method_104_code (6 : Nat) (Option.some Jvm.ClassFile.FieldType.int)) ∈ lw_all := lw_g (lw_at lw_m17 3 rfl) rfl
theorem q3992 : (Jvm.Cond.methodLink "LoopSignalsModel" (380 : Nat) ({ cls := "LoopSignalsModel", name := "areOfOnePhase", desc := "(II)Z" } : Jvm.MethodName)) ∈ lw_all := lw_g (lw_at lw_m17 4 rfl) rfl
theorem q3993 : (Jvm.Cond.privateMethod ({ cls := "LoopSignalsModel", name := "areOfOnePhase", desc := "(II)Z" } : Jvm.MethodName)) ∈ lw_tbl := lw_at lw_m17 5 rfl
theorem q3994 : (Jvm.Cond.instanceMethod ({ cls := "LoopSignalsModel", name := "areOfOnePhase", desc := "(II)Z" } : Jvm.MethodName)) ∈ lw_all := lw_g (lw_at lw_m17 6 rfl) rfl
theorem q3995 : (Jvm.Cond.code ({ cls := "LoopSignalsModel", name := "areOfOnePhase", desc := "(II)Z" } : Jvm.MethodName) prog_19_method_103_code (4 : Nat) (Option.some Jvm.ClassFile.FieldType.boolean)) ∈ lw_all := lw_g (lw_at lw_m17 7 rfl) rfl
theorem q3997 : (Jvm.Cond.instanceMethod ({ cls := "LoopSignalsModel", name := "setPhase", desc := "(IZI)I" } : Jvm.MethodName)) ∈ lw_all := lw_g (lw_at lw_m17 9 rfl) rfl
theorem q3998 : (Jvm.Cond.selects "LoopSignalsModel" ({ cls := "LoopSignalsModel", name := "setPhase", desc := "(IZI)I" } : Jvm.MethodName) ({ cls := "LoopSignalsModel", name := "setPhase", desc := "(IZI)I" } : Jvm.MethodName)) ∈ lw_all := lw_g (lw_at lw_m17 10 rfl) rfl
theorem q3999 : (Jvm.Cond.code ({ cls := "LoopSignalsModel", name := "setPhase", desc := "(IZI)I" } : Jvm.MethodName) prog_19_method_106_code (4 : Nat) (Option.some Jvm.ClassFile.FieldType.int)) ∈ lw_all := lw_g (lw_at lw_m17 11 rfl) rfl
theorem q4001 : (Jvm.Cond.instanceMethod ({ cls := "LoopSignalsModel", name := "set", desc := "(II)I" } : Jvm.MethodName)) ∈ lw_all := lw_g (lw_at lw_m17 13 rfl) rfl
theorem q4002 : (Jvm.Cond.selects "LoopSignalsModel" ({ cls := "LoopSignalsModel", name := "set", desc := "(II)I" } : Jvm.MethodName) ({ cls := "LoopSignalsModel", name := "set", desc := "(II)I" } : Jvm.MethodName)) ∈ lw_all := lw_g (lw_at lw_m17 14 rfl) rfl
theorem q4003 : (Jvm.Cond.code ({ cls := "LoopSignalsModel", name := "set", desc := "(II)I" } : Jvm.MethodName) prog_19_method_108_code (3 : Nat) (Option.some Jvm.ClassFile.FieldType.int)) ∈ lw_all := lw_g (lw_at lw_m17 15 rfl) rfl
theorem q4005 : (Jvm.Cond.instanceMethod ({ cls := "LoopSignalsModel", name := "report", desc := "()I" } : Jvm.MethodName)) ∈ lw_all := lw_g (lw_at lw_m17 17 rfl) rfl
theorem q4006 : (Jvm.Cond.selects "LoopSignalsModel" ({ cls := "LoopSignalsModel", name := "report", desc := "()I" } : Jvm.MethodName) ({ cls := "LoopSignalsModel", name := "report", desc := "()I" } : Jvm.MethodName)) ∈ lw_all := lw_g (lw_at lw_m17 18 rfl) rfl
theorem q4007 : (Jvm.Cond.code ({ cls := "LoopSignalsModel", name := "report", desc := "()I" } : Jvm.MethodName) prog_19_method_111_code (2 : Nat) (Option.some Jvm.ClassFile.FieldType.int)) ∈ lw_all := lw_g (lw_at lw_m17 19 rfl) rfl
theorem q4008 : (Jvm.Cond.methodLink "LoopSignalsModel" (386 : Nat) ({ cls := "LoopSignalsModel", name := "writes", desc := "(I)V" } : Jvm.MethodName)) ∈ lw_all := lw_g (lw_at lw_m17 20 rfl) rfl
theorem q4009 : (Jvm.Cond.privateMethod ({ cls := "LoopSignalsModel", name := "writes", desc := "(I)V" } : Jvm.MethodName)) ∈ lw_tbl := lw_at lw_m17 21 rfl
theorem q4010 : (Jvm.Cond.instanceMethod ({ cls := "LoopSignalsModel", name := "writes", desc := "(I)V" } : Jvm.MethodName)) ∈ lw_all := lw_g (lw_at lw_m17 22 rfl) rfl
theorem q4011 : (Jvm.Cond.code ({ cls := "LoopSignalsModel", name := "writes", desc := "(I)V" } : Jvm.MethodName) prog_19_method_109_code (2 : Nat) (Option.none : Option Jvm.ClassFile.FieldType)) ∈ lw_all := lw_g (lw_at lw_m17 23 rfl) rfl
theorem q4012 : (Jvm.Cond.methodLink "LoopSignalsModel" (389 : Nat) ({ cls := "LoopSignalsModel", name := "writesName", desc := "(I)V" } : Jvm.MethodName)) ∈ lw_all := lw_g (lw_at lw_m17 24 rfl) rfl
theorem q4013 : (Jvm.Cond.privateMethod ({ cls := "LoopSignalsModel", name := "writesName", desc := "(I)V" } : Jvm.MethodName)) ∈ lw_tbl := lw_at lw_m17 25 rfl
theorem q4014 : (Jvm.Cond.instanceMethod ({ cls := "LoopSignalsModel", name := "writesName", desc := "(I)V" } : Jvm.MethodName)) ∈ lw_all := lw_g (lw_at lw_m17 26 rfl) rfl
theorem q4015 : (Jvm.Cond.code ({ cls := "LoopSignalsModel", name := "writesName", desc := "(I)V" } : Jvm.MethodName) prog_19_method_110_code (3 : Nat) (Option.none : Option Jvm.ClassFile.FieldType)) ∈ lw_all := lw_g (lw_at lw_m17 27 rfl) rfl
theorem q4017 : (Jvm.Cond.instanceMethod ({ cls := "LoopSignalsModel", name := "phases", desc := "()I" } : Jvm.MethodName)) ∈ lw_all := lw_g (lw_at lw_m17 29 rfl) rfl
theorem q4018 : (Jvm.Cond.selects "LoopSignalsModel" ({ cls := "LoopSignalsModel", name := "phases", desc := "()I" } : Jvm.MethodName) ({ cls := "LoopSignalsModel", name := "phases", desc := "()I" } : Jvm.MethodName)) ∈ lw_all := lw_g (lw_at lw_m17 30 rfl) rfl
theorem q4019 : (Jvm.Cond.code ({ cls := "LoopSignalsModel", name := "phases", desc := "()I" } : Jvm.MethodName) prog_19_method_113_code (2 : Nat) (Option.some Jvm.ClassFile.FieldType.int)) ∈ lw_all := lw_g (lw_at lw_m17 31 rfl) rfl
theorem q4020 : (Jvm.Cond.methodLink "LoopSignalsModel" (392 : Nat) ({ cls := "LoopSignalsModel", name := "writesPhase", desc := "(I)V" } : Jvm.MethodName)) ∈ lw_all := lw_g (lw_at lw_m17 32 rfl) rfl
theorem q4021 : (Jvm.Cond.privateMethod ({ cls := "LoopSignalsModel", name := "writesPhase", desc := "(I)V" } : Jvm.MethodName)) ∈ lw_tbl := lw_at lw_m17 33 rfl
theorem q4022 : (Jvm.Cond.instanceMethod ({ cls := "LoopSignalsModel", name := "writesPhase", desc := "(I)V" } : Jvm.MethodName)) ∈ lw_all := lw_g (lw_at lw_m17 34 rfl) rfl
theorem q4023 : (Jvm.Cond.code ({ cls := "LoopSignalsModel", name := "writesPhase", desc := "(I)V" } : Jvm.MethodName) prog_19_method_112_code (4 : Nat) (Option.none : Option Jvm.ClassFile.FieldType)) ∈ lw_all := lw_g (lw_at lw_m17 35 rfl) rfl
theorem q4025 : (Jvm.Cond.instanceMethod ({ cls := "LoopSignalsModel", name := "reportByte", desc := "(I)I" } : Jvm.MethodName)) ∈ lw_all := lw_g (lw_at lw_m17 37 rfl) rfl
theorem q4026 : (Jvm.Cond.selects "LoopSignalsModel" ({ cls := "LoopSignalsModel", name := "reportByte", desc := "(I)I" } : Jvm.MethodName) ({ cls := "LoopSignalsModel", name := "reportByte", desc := "(I)I" } : Jvm.MethodName)) ∈ lw_all := lw_g (lw_at lw_m17 38 rfl) rfl
theorem q4027 : (Jvm.Cond.code ({ cls := "LoopSignalsModel", name := "reportByte", desc := "(I)I" } : Jvm.MethodName) prog_19_method_114_code (2 : Nat) (Option.some Jvm.ClassFile.FieldType.int)) ∈ lw_all := lw_g (lw_at lw_m17 39 rfl) rfl
theorem q4029 : (Jvm.Cond.instanceMethod ({ cls := "LoopSignalsModel", name := "undo", desc := "()I" } : Jvm.MethodName)) ∈ lw_all := lw_g (lw_at lw_m17 41 rfl) rfl
theorem q4030 : (Jvm.Cond.selects "LoopSignalsModel" ({ cls := "LoopSignalsModel", name := "undo", desc := "()I" } : Jvm.MethodName) ({ cls := "LoopSignalsModel", name := "undo", desc := "()I" } : Jvm.MethodName)) ∈ lw_all := lw_g (lw_at lw_m17 42 rfl) rfl
theorem q4031 : (Jvm.Cond.code ({ cls := "LoopSignalsModel", name := "undo", desc := "()I" } : Jvm.MethodName) prog_19_method_115_code (2 : Nat) (Option.some Jvm.ClassFile.FieldType.int)) ∈ lw_all := lw_g (lw_at lw_m17 43 rfl) rfl
theorem q4033 : (Jvm.Cond.instanceMethod ({ cls := "LoopSignalsModel", name := "save", desc := "(I)I" } : Jvm.MethodName)) ∈ lw_all := lw_g (lw_at lw_m17 45 rfl) rfl
theorem q4034 : (Jvm.Cond.selects "LoopSignalsModel" ({ cls := "LoopSignalsModel", name := "save", desc := "(I)I" } : Jvm.MethodName) ({ cls := "LoopSignalsModel", name := "save", desc := "(I)I" } : Jvm.MethodName)) ∈ lw_all := lw_g (lw_at lw_m17 46 rfl) rfl
theorem q4035 : (Jvm.Cond.code ({ cls := "LoopSignalsModel", name := "save", desc := "(I)I" } : Jvm.MethodName) prog_19_method_116_code (3 : Nat) (Option.some Jvm.ClassFile.FieldType.int)) ∈ lw_all := lw_g (lw_at lw_m17 47 rfl) rfl
theorem q4037 : (Jvm.Cond.instanceMethod ({ cls := "LoopSignalsModel", name := "restore", desc := "(I)I" } : Jvm.MethodName)) ∈ lw_all := lw_g (lw_at lw_m17 49 rfl) rfl
theorem q4038 : (Jvm.Cond.selects "LoopSignalsModel" ({ cls := "LoopSignalsModel", name := "restore", desc := "(I)I" } : Jvm.MethodName) ({ cls := "LoopSignalsModel", name := "restore", desc := "(I)I" } : Jvm.MethodName)) ∈ lw_all := lw_g (lw_at lw_m17 50 rfl) rfl
theorem q4039 : (Jvm.Cond.code ({ cls := "LoopSignalsModel", name := "restore", desc := "(I)I" } : Jvm.MethodName) prog_19_method_117_code (3 : Nat) (Option.some Jvm.ClassFile.FieldType.int)) ∈ lw_all := lw_g (lw_at lw_m17 51 rfl) rfl
theorem q4110 : (Jvm.Cond.castable "LoopSignalsModel" "java/lang/Object") ∈ lw_tbl := lw_at lw_m17 122 rfl
theorem in_X7 : ∀ w ∈ wsX70, w ∈ lw_all := lw_in wsX70 [3618, 3620, 3622, 3624, 3626, 3628, 3630, 3632, 3634, 3636, 3638, 3640, 3642, 3644, 3646, 3648, 3650, 3652, 3654, 3656, 3658, 3660, 3662, 3664, 3666, 3668] (by decide +kernel) (by decide +kernel)

