/-! LoopSignals$Junction -/
set_option maxRecDepth 100000
def RX2 : String := "LoopSignals$Junction"
def TX2 : u_T := fun k => match k with
  | 0 => ("LoopSignals$Junction", "arms", "Ljava/util/List;", true)
  | 1 => ("LoopSignals$Junction", "phases", "Ljava/util/List;", true)
  | 2 => ("LoopSignals$Junction", "byName", "Ljava/util/LinkedHashMap;", true)
  | 3 => ("LoopSignals$Junction", "clashes", "Ljava/util/LinkedHashSet;", true)
  | 4 => ("LoopSignals$Junction", "settings", "[I", true)
  | 5 => ("LoopSignals$Junction", "accounts", "[I", true)
  | 6 => ("LoopSignals$Junction", "tick", "I", false)
  | 7 => ("LoopSignals$Junction", "on", "I", false)
  | 8 => ("LoopSignals$Junction", "next", "I", false)
  | 9 => ("LoopSignals$Junction", "mode", "I", false)
  | _ => ("LoopSignals$Junction", "age", "I", false)
def tyX2 : Nat → FieldType := fun k => match k with
  | 0 => .object "java/util/List"
  | 1 => .object "java/util/List"
  | 2 => .object "java/util/LinkedHashMap"
  | 3 => .object "java/util/LinkedHashSet"
  | 4 => .array .int
  | 5 => .array .int
  | 6 => .int
  | 7 => .int
  | 8 => .int
  | 9 => .int
  | _ => .int
abbrev wsX20 : List Cond := u_ws RX2 TX2 11
theorem nmX2 : ∀ a, a < 11 → ∀ b, b < 11 → a ≠ b → (TX2 a).2.1 ≠ (TX2 b).2.1 := by decide +kernel
theorem tyX2_ok : ∀ k, k < 11 → parseFieldDescriptor (TX2 k).2.2.1 = some (tyX2 k) := by decide +kernel
abbrev cX2_init : ByteArray := prog_6_method_1_code
def yX2_init : MethodName := ⟨RX2, "<init>", "()V"⟩
def dkwX2_init_3 : List UInt8 := [181, 0, 44, 177]
abbrev dktX2_init_3 : List UInt8 := dkwX2_init_3 ++ []
def dkwX2_init_2 : List UInt8 := [183, 0, 32, 181, 0, 33, 42, 6, 188, 10, 181, 0, 37, 42, 16, 7, 188, 10, 181, 0, 41, 42, 2]
abbrev dktX2_init_2 : List UInt8 := dkwX2_init_2 ++ dktX2_init_3
def dkwX2_init_1 : List UInt8 := [183, 0, 11, 181, 0, 20, 42, 187, 0, 23, 89, 183, 0, 25, 181, 0, 26, 42, 187, 0, 30, 89]
abbrev dktX2_init_1 : List UInt8 := dkwX2_init_1 ++ dktX2_init_2
def dkwX2_init_0 : List UInt8 := [42, 183, 0, 3, 42, 187, 0, 9, 89, 7, 183, 0, 11, 181, 0, 14, 42, 187, 0, 9, 89, 7]
abbrev dktX2_init_0 : List UInt8 := dkwX2_init_0 ++ dktX2_init_1
theorem dksX2_init_0 : cX2_init.data.toList.drop 0 = dktX2_init_0 := by decide +kernel
theorem dksX2_init_1 : cX2_init.data.toList.drop 22 = dktX2_init_1 := dk_seg dksX2_init_0 22 rfl rfl
theorem dksX2_init_2 : cX2_init.data.toList.drop 44 = dktX2_init_2 := dk_seg dksX2_init_1 22 rfl rfl
theorem dksX2_init_3 : cX2_init.data.toList.drop 67 = dktX2_init_3 := dk_seg dksX2_init_2 23 rfl rfl
theorem dX2_init_0 : decode cX2_init 0 = .ok (.aload_n 0, 1) := dk_42 (dk_at dksX2_init_0 0 rfl rfl)
theorem dX2_init_1 : decode cX2_init 1 = .ok (.invokespecial 3, 3) := dk_183 0 3 (dk_at dksX2_init_0 1 rfl rfl)
theorem dX2_init_4 : decode cX2_init 4 = .ok (.aload_n 0, 1) := dk_42 (dk_at dksX2_init_0 4 rfl rfl)
theorem dX2_init_5 : decode cX2_init 5 = .ok (.new 9, 3) := dk_187 0 9 (dk_at dksX2_init_0 5 rfl rfl)
theorem dX2_init_8 : decode cX2_init 8 = .ok (.dup, 1) := dk_89 (dk_at dksX2_init_0 8 rfl rfl)
theorem dX2_init_9 : decode cX2_init 9 = .ok (.iconst 4, 1) := dk_7 (dk_at dksX2_init_0 9 rfl rfl)
theorem dX2_init_10 : decode cX2_init 10 = .ok (.invokespecial 11, 3) := dk_183 0 11 (dk_at dksX2_init_0 10 rfl rfl)
theorem dX2_init_13 : decode cX2_init 13 = .ok (.putfield 14, 3) := dk_181 0 14 (dk_at dksX2_init_0 13 rfl rfl)
theorem dX2_init_16 : decode cX2_init 16 = .ok (.aload_n 0, 1) := dk_42 (dk_at dksX2_init_0 16 rfl rfl)
theorem dX2_init_17 : decode cX2_init 17 = .ok (.new 9, 3) := dk_187 0 9 (dk_at dksX2_init_0 17 rfl rfl)
theorem dX2_init_20 : decode cX2_init 20 = .ok (.dup, 1) := dk_89 (dk_at dksX2_init_0 20 rfl rfl)
theorem dX2_init_21 : decode cX2_init 21 = .ok (.iconst 4, 1) := dk_7 (dk_at dksX2_init_0 21 rfl rfl)
theorem dX2_init_22 : decode cX2_init 22 = .ok (.invokespecial 11, 3) := dk_183 0 11 (dk_at dksX2_init_1 0 rfl rfl)
theorem dX2_init_25 : decode cX2_init 25 = .ok (.putfield 20, 3) := dk_181 0 20 (dk_at dksX2_init_1 3 rfl rfl)
theorem dX2_init_28 : decode cX2_init 28 = .ok (.aload_n 0, 1) := dk_42 (dk_at dksX2_init_1 6 rfl rfl)
theorem dX2_init_29 : decode cX2_init 29 = .ok (.new 23, 3) := dk_187 0 23 (dk_at dksX2_init_1 7 rfl rfl)
theorem dX2_init_32 : decode cX2_init 32 = .ok (.dup, 1) := dk_89 (dk_at dksX2_init_1 10 rfl rfl)
theorem dX2_init_33 : decode cX2_init 33 = .ok (.invokespecial 25, 3) := dk_183 0 25 (dk_at dksX2_init_1 11 rfl rfl)
theorem dX2_init_36 : decode cX2_init 36 = .ok (.putfield 26, 3) := dk_181 0 26 (dk_at dksX2_init_1 14 rfl rfl)
theorem dX2_init_39 : decode cX2_init 39 = .ok (.aload_n 0, 1) := dk_42 (dk_at dksX2_init_1 17 rfl rfl)
theorem dX2_init_40 : decode cX2_init 40 = .ok (.new 30, 3) := dk_187 0 30 (dk_at dksX2_init_1 18 rfl rfl)
theorem dX2_init_43 : decode cX2_init 43 = .ok (.dup, 1) := dk_89 (dk_at dksX2_init_1 21 rfl rfl)
theorem dX2_init_44 : decode cX2_init 44 = .ok (.invokespecial 32, 3) := dk_183 0 32 (dk_at dksX2_init_2 0 rfl rfl)
theorem dX2_init_47 : decode cX2_init 47 = .ok (.putfield 33, 3) := dk_181 0 33 (dk_at dksX2_init_2 3 rfl rfl)
theorem dX2_init_50 : decode cX2_init 50 = .ok (.aload_n 0, 1) := dk_42 (dk_at dksX2_init_2 6 rfl rfl)
theorem dX2_init_51 : decode cX2_init 51 = .ok (.iconst 3, 1) := dk_6 (dk_at dksX2_init_2 7 rfl rfl)
theorem dX2_init_52 : decode cX2_init 52 = .ok (.newarray .int, 2) := dk_188_10 (dk_at dksX2_init_2 8 rfl rfl)
theorem dX2_init_54 : decode cX2_init 54 = .ok (.putfield 37, 3) := dk_181 0 37 (dk_at dksX2_init_2 10 rfl rfl)
theorem dX2_init_57 : decode cX2_init 57 = .ok (.aload_n 0, 1) := dk_42 (dk_at dksX2_init_2 13 rfl rfl)
theorem dX2_init_58 : decode cX2_init 58 = .ok (.bipush 7, 2) := dk_16 7 (dk_at dksX2_init_2 14 rfl rfl)
theorem dX2_init_60 : decode cX2_init 60 = .ok (.newarray .int, 2) := dk_188_10 (dk_at dksX2_init_2 16 rfl rfl)
theorem dX2_init_62 : decode cX2_init 62 = .ok (.putfield 41, 3) := dk_181 0 41 (dk_at dksX2_init_2 18 rfl rfl)
theorem dX2_init_65 : decode cX2_init 65 = .ok (.aload_n 0, 1) := dk_42 (dk_at dksX2_init_2 21 rfl rfl)
theorem dX2_init_66 : decode cX2_init 66 = .ok (.iconst (-1), 1) := dk_2 (dk_at dksX2_init_2 22 rfl rfl)
theorem dX2_init_67 : decode cX2_init 67 = .ok (.putfield 44, 3) := dk_181 0 44 (dk_at dksX2_init_3 0 rfl rfl)
theorem dX2_init_70 : decode cX2_init 70 = .ok (.return_, 1) := dk_177 (dk_at dksX2_init_3 3 rfl rfl)
abbrev cX2_adds : ByteArray := prog_6_method_3_code
def yX2_adds : MethodName := ⟨RX2, "adds", "(LLoopSignals$Arm;)V"⟩
def dkwX2_adds_1 : List UInt8 := [192, 0, 119, 77, 42, 180, 0, 14, 43, 185, 0, 128, 2, 0, 62, 177]
abbrev dktX2_adds_1 : List UInt8 := dkwX2_adds_1 ++ []
def dkwX2_adds_0 : List UInt8 := [42, 180, 0, 26, 43, 180, 0, 114, 42, 180, 0, 14, 185, 0, 49, 1, 0, 184, 0, 118, 182, 0, 124]
abbrev dktX2_adds_0 : List UInt8 := dkwX2_adds_0 ++ dktX2_adds_1
theorem dksX2_adds_0 : cX2_adds.data.toList.drop 0 = dktX2_adds_0 := by decide +kernel
theorem dksX2_adds_1 : cX2_adds.data.toList.drop 23 = dktX2_adds_1 := dk_seg dksX2_adds_0 23 rfl rfl
theorem dX2_adds_0 : decode cX2_adds 0 = .ok (.aload_n 0, 1) := dk_42 (dk_at dksX2_adds_0 0 rfl rfl)
theorem dX2_adds_1 : decode cX2_adds 1 = .ok (.getfield 26, 3) := dk_180 0 26 (dk_at dksX2_adds_0 1 rfl rfl)
theorem dX2_adds_4 : decode cX2_adds 4 = .ok (.aload_n 1, 1) := dk_43 (dk_at dksX2_adds_0 4 rfl rfl)
theorem dX2_adds_5 : decode cX2_adds 5 = .ok (.getfield 114, 3) := dk_180 0 114 (dk_at dksX2_adds_0 5 rfl rfl)
theorem dX2_adds_8 : decode cX2_adds 8 = .ok (.aload_n 0, 1) := dk_42 (dk_at dksX2_adds_0 8 rfl rfl)
theorem dX2_adds_9 : decode cX2_adds 9 = .ok (.getfield 14, 3) := dk_180 0 14 (dk_at dksX2_adds_0 9 rfl rfl)
theorem dX2_adds_12 : decode cX2_adds 12 = .ok (.invokeinterface 49 1, 5) := by decide +kernel
theorem dX2_adds_17 : decode cX2_adds 17 = .ok (.invokestatic 118, 3) := dk_184 0 118 (dk_at dksX2_adds_0 17 rfl rfl)
theorem dX2_adds_20 : decode cX2_adds 20 = .ok (.invokevirtual 124, 3) := dk_182 0 124 (dk_at dksX2_adds_0 20 rfl rfl)
theorem dX2_adds_23 : decode cX2_adds 23 = .ok (.checkcast 119, 3) := dk_192 0 119 (dk_at dksX2_adds_1 0 rfl rfl)
theorem dX2_adds_26 : decode cX2_adds 26 = .ok (.astore_n 2, 1) := dk_77 (dk_at dksX2_adds_1 3 rfl rfl)
theorem dX2_adds_27 : decode cX2_adds 27 = .ok (.aload_n 0, 1) := dk_42 (dk_at dksX2_adds_1 4 rfl rfl)
theorem dX2_adds_28 : decode cX2_adds 28 = .ok (.getfield 14, 3) := dk_180 0 14 (dk_at dksX2_adds_1 5 rfl rfl)
theorem dX2_adds_31 : decode cX2_adds 31 = .ok (.aload_n 1, 1) := dk_43 (dk_at dksX2_adds_1 8 rfl rfl)
theorem dX2_adds_32 : decode cX2_adds 32 = .ok (.invokeinterface 128 2, 5) := by decide +kernel
theorem dX2_adds_37 : decode cX2_adds 37 = .ok (.istore_n 3, 1) := dk_62 (dk_at dksX2_adds_1 14 rfl rfl)
theorem dX2_adds_38 : decode cX2_adds 38 = .ok (.return_, 1) := dk_177 (dk_at dksX2_adds_1 15 rfl rfl)
abbrev cX2_clash : ByteArray := prog_6_method_5_code
def yX2_clash : MethodName := ⟨RX2, "clash", "(LLoopSignals$Couple;)V"⟩
def dkwX2_clash_0 : List UInt8 := [42, 180, 0, 33, 43, 182, 0, 132, 61, 177]
abbrev dktX2_clash_0 : List UInt8 := dkwX2_clash_0 ++ []
theorem dksX2_clash_0 : cX2_clash.data.toList.drop 0 = dktX2_clash_0 := by decide +kernel
theorem dX2_clash_0 : decode cX2_clash 0 = .ok (.aload_n 0, 1) := dk_42 (dk_at dksX2_clash_0 0 rfl rfl)
theorem dX2_clash_1 : decode cX2_clash 1 = .ok (.getfield 33, 3) := dk_180 0 33 (dk_at dksX2_clash_0 1 rfl rfl)
theorem dX2_clash_4 : decode cX2_clash 4 = .ok (.aload_n 1, 1) := dk_43 (dk_at dksX2_clash_0 4 rfl rfl)
theorem dX2_clash_5 : decode cX2_clash 5 = .ok (.invokevirtual 132, 3) := dk_182 0 132 (dk_at dksX2_clash_0 5 rfl rfl)
theorem dX2_clash_8 : decode cX2_clash 8 = .ok (.istore_n 2, 1) := dk_61 (dk_at dksX2_clash_0 8 rfl rfl)
theorem dX2_clash_9 : decode cX2_clash 9 = .ok (.return_, 1) := dk_177 (dk_at dksX2_clash_0 9 rfl rfl)
abbrev cX2_adds_2 : ByteArray := prog_6_method_4_code
def yX2_adds_2 : MethodName := ⟨RX2, "adds", "(LLoopSignals$Phase;)V"⟩
def dkwX2_adds_2_0 : List UInt8 := [42, 180, 0, 20, 43, 185, 0, 128, 2, 0, 61, 177]
abbrev dktX2_adds_2_0 : List UInt8 := dkwX2_adds_2_0 ++ []
theorem dksX2_adds_2_0 : cX2_adds_2.data.toList.drop 0 = dktX2_adds_2_0 := by decide +kernel
theorem dX2_adds_2_0 : decode cX2_adds_2 0 = .ok (.aload_n 0, 1) := dk_42 (dk_at dksX2_adds_2_0 0 rfl rfl)
theorem dX2_adds_2_1 : decode cX2_adds_2 1 = .ok (.getfield 20, 3) := dk_180 0 20 (dk_at dksX2_adds_2_0 1 rfl rfl)
theorem dX2_adds_2_4 : decode cX2_adds_2 4 = .ok (.aload_n 1, 1) := dk_43 (dk_at dksX2_adds_2_0 4 rfl rfl)
theorem dX2_adds_2_5 : decode cX2_adds_2 5 = .ok (.invokeinterface 128 2, 5) := by decide +kernel
theorem dX2_adds_2_10 : decode cX2_adds_2 10 = .ok (.istore_n 2, 1) := dk_61 (dk_at dksX2_adds_2_0 10 rfl rfl)
theorem dX2_adds_2_11 : decode cX2_adds_2 11 = .ok (.return_, 1) := dk_177 (dk_at dksX2_adds_2_0 11 rfl rfl)
abbrev cX2_named : ByteArray := prog_6_method_6_code
def yX2_named : MethodName := ⟨RX2, "named", "(Ljava/lang/String;)I"⟩
def dkwX2_named_1 : List UInt8 := [172]
abbrev dktX2_named_1 : List UInt8 := dkwX2_named_1 ++ []
def dkwX2_named_0 : List UInt8 := [42, 180, 0, 26, 43, 182, 0, 133, 192, 0, 119, 77, 44, 199, 0, 7, 2, 167, 0, 7, 44, 182, 0, 136]
abbrev dktX2_named_0 : List UInt8 := dkwX2_named_0 ++ dktX2_named_1
theorem dksX2_named_0 : cX2_named.data.toList.drop 0 = dktX2_named_0 := by decide +kernel
theorem dksX2_named_1 : cX2_named.data.toList.drop 24 = dktX2_named_1 := dk_seg dksX2_named_0 24 rfl rfl
theorem dX2_named_0 : decode cX2_named 0 = .ok (.aload_n 0, 1) := dk_42 (dk_at dksX2_named_0 0 rfl rfl)
theorem dX2_named_1 : decode cX2_named 1 = .ok (.getfield 26, 3) := dk_180 0 26 (dk_at dksX2_named_0 1 rfl rfl)
theorem dX2_named_4 : decode cX2_named 4 = .ok (.aload_n 1, 1) := dk_43 (dk_at dksX2_named_0 4 rfl rfl)
theorem dX2_named_5 : decode cX2_named 5 = .ok (.invokevirtual 133, 3) := dk_182 0 133 (dk_at dksX2_named_0 5 rfl rfl)
theorem dX2_named_8 : decode cX2_named 8 = .ok (.checkcast 119, 3) := dk_192 0 119 (dk_at dksX2_named_0 8 rfl rfl)
theorem dX2_named_11 : decode cX2_named 11 = .ok (.astore_n 2, 1) := dk_77 (dk_at dksX2_named_0 11 rfl rfl)
theorem dX2_named_12 : decode cX2_named 12 = .ok (.aload_n 2, 1) := dk_44 (dk_at dksX2_named_0 12 rfl rfl)
theorem dX2_named_13 : decode cX2_named 13 = .ok (.ifnonnull 7, 3) := dk_199 0 7 (dk_at dksX2_named_0 13 rfl rfl)
theorem dX2_named_16 : decode cX2_named 16 = .ok (.iconst (-1), 1) := dk_2 (dk_at dksX2_named_0 16 rfl rfl)
theorem dX2_named_17 : decode cX2_named 17 = .ok (.goto 7, 3) := dk_167 0 7 (dk_at dksX2_named_0 17 rfl rfl)
theorem dX2_named_20 : decode cX2_named 20 = .ok (.aload_n 2, 1) := dk_44 (dk_at dksX2_named_0 20 rfl rfl)
theorem dX2_named_21 : decode cX2_named 21 = .ok (.invokevirtual 136, 3) := dk_182 0 136 (dk_at dksX2_named_0 21 rfl rfl)
theorem dX2_named_24 : decode cX2_named 24 = .ok (.ireturn, 1) := dk_172 (dk_at dksX2_named_1 0 rfl rfl)
abbrev cX2_doClash : ByteArray := prog_6_method_9_code
def yX2_doClash : MethodName := ⟨RX2, "doClash", "(II)Z"⟩
def dkwX2_doClash_0 : List UInt8 := [42, 180, 0, 33, 187, 0, 90, 89, 27, 28, 183, 0, 139, 182, 0, 142, 172]
abbrev dktX2_doClash_0 : List UInt8 := dkwX2_doClash_0 ++ []
theorem dksX2_doClash_0 : cX2_doClash.data.toList.drop 0 = dktX2_doClash_0 := by decide +kernel
theorem dX2_doClash_0 : decode cX2_doClash 0 = .ok (.aload_n 0, 1) := dk_42 (dk_at dksX2_doClash_0 0 rfl rfl)
theorem dX2_doClash_1 : decode cX2_doClash 1 = .ok (.getfield 33, 3) := dk_180 0 33 (dk_at dksX2_doClash_0 1 rfl rfl)
theorem dX2_doClash_4 : decode cX2_doClash 4 = .ok (.new 90, 3) := dk_187 0 90 (dk_at dksX2_doClash_0 4 rfl rfl)
theorem dX2_doClash_7 : decode cX2_doClash 7 = .ok (.dup, 1) := dk_89 (dk_at dksX2_doClash_0 7 rfl rfl)
theorem dX2_doClash_8 : decode cX2_doClash 8 = .ok (.iload_n 1, 1) := dk_27 (dk_at dksX2_doClash_0 8 rfl rfl)
theorem dX2_doClash_9 : decode cX2_doClash 9 = .ok (.iload_n 2, 1) := dk_28 (dk_at dksX2_doClash_0 9 rfl rfl)
theorem dX2_doClash_10 : decode cX2_doClash 10 = .ok (.invokespecial 139, 3) := dk_183 0 139 (dk_at dksX2_doClash_0 10 rfl rfl)
theorem dX2_doClash_13 : decode cX2_doClash 13 = .ok (.invokevirtual 142, 3) := dk_182 0 142 (dk_at dksX2_doClash_0 13 rfl rfl)
theorem dX2_doClash_16 : decode cX2_doClash 16 = .ok (.ireturn, 1) := dk_172 (dk_at dksX2_doClash_0 16 rfl rfl)
abbrev cX2_passes : ByteArray := prog_6_method_25_code
def yX2_passes : MethodName := ⟨RX2, "passes", "(I)I"⟩
def dkwX2_passes_1 : List UInt8 := [180, 0, 105, 172]
abbrev dktX2_passes_1 : List UInt8 := dkwX2_passes_1 ++ []
def dkwX2_passes_0 : List UInt8 := [42, 180, 0, 102, 27, 96, 17, 39, 15, 164, 0, 8, 16, 253, 167, 0, 11, 42, 27, 182, 0, 251]
abbrev dktX2_passes_0 : List UInt8 := dkwX2_passes_0 ++ dktX2_passes_1
theorem dksX2_passes_0 : cX2_passes.data.toList.drop 0 = dktX2_passes_0 := by decide +kernel
theorem dksX2_passes_1 : cX2_passes.data.toList.drop 22 = dktX2_passes_1 := dk_seg dksX2_passes_0 22 rfl rfl
theorem dX2_passes_0 : decode cX2_passes 0 = .ok (.aload_n 0, 1) := dk_42 (dk_at dksX2_passes_0 0 rfl rfl)
theorem dX2_passes_1 : decode cX2_passes 1 = .ok (.getfield 102, 3) := dk_180 0 102 (dk_at dksX2_passes_0 1 rfl rfl)
theorem dX2_passes_4 : decode cX2_passes 4 = .ok (.iload_n 1, 1) := dk_27 (dk_at dksX2_passes_0 4 rfl rfl)
theorem dX2_passes_5 : decode cX2_passes 5 = .ok (.iadd, 1) := dk_96 (dk_at dksX2_passes_0 5 rfl rfl)
theorem dX2_passes_6 : decode cX2_passes 6 = .ok (.sipush 9999, 3) := dk_17 39 15 (dk_at dksX2_passes_0 6 rfl rfl)
theorem dX2_passes_9 : decode cX2_passes 9 = .ok (.if_icmp .le 8, 3) := dk_164 0 8 (dk_at dksX2_passes_0 9 rfl rfl)
theorem dX2_passes_12 : decode cX2_passes 12 = .ok (.bipush (-3), 2) := dk_16 253 (dk_at dksX2_passes_0 12 rfl rfl)
theorem dX2_passes_14 : decode cX2_passes 14 = .ok (.goto 11, 3) := dk_167 0 11 (dk_at dksX2_passes_0 14 rfl rfl)
theorem dX2_passes_17 : decode cX2_passes 17 = .ok (.aload_n 0, 1) := dk_42 (dk_at dksX2_passes_0 17 rfl rfl)
theorem dX2_passes_18 : decode cX2_passes 18 = .ok (.iload_n 1, 1) := dk_27 (dk_at dksX2_passes_0 18 rfl rfl)
theorem dX2_passes_19 : decode cX2_passes 19 = .ok (.invokevirtual 251, 3) := dk_182 0 251 (dk_at dksX2_passes_0 19 rfl rfl)
theorem dX2_passes_22 : decode cX2_passes 22 = .ok (.getfield 105, 3) := dk_180 0 105 (dk_at dksX2_passes_1 0 rfl rfl)
theorem dX2_passes_25 : decode cX2_passes 25 = .ok (.ireturn, 1) := dk_172 (dk_at dksX2_passes_1 3 rfl rfl)
abbrev cX2_behind : ByteArray := prog_6_method_24_code
def yX2_behind : MethodName := ⟨RX2, "behind", "(I)LLoopSignals$Junction;"⟩
def dkwX2_behind_0 : List UInt8 := [3, 61, 28, 27, 162, 0, 13, 42, 182, 0, 248, 132, 2, 1, 167, 255, 244, 42, 176]
abbrev dktX2_behind_0 : List UInt8 := dkwX2_behind_0 ++ []
theorem dksX2_behind_0 : cX2_behind.data.toList.drop 0 = dktX2_behind_0 := by decide +kernel
theorem dX2_behind_0 : decode cX2_behind 0 = .ok (.iconst 0, 1) := dk_3 (dk_at dksX2_behind_0 0 rfl rfl)
theorem dX2_behind_1 : decode cX2_behind 1 = .ok (.istore_n 2, 1) := dk_61 (dk_at dksX2_behind_0 1 rfl rfl)
theorem dX2_behind_2 : decode cX2_behind 2 = .ok (.iload_n 2, 1) := dk_28 (dk_at dksX2_behind_0 2 rfl rfl)
theorem dX2_behind_3 : decode cX2_behind 3 = .ok (.iload_n 1, 1) := dk_27 (dk_at dksX2_behind_0 3 rfl rfl)
theorem dX2_behind_4 : decode cX2_behind 4 = .ok (.if_icmp .ge 13, 3) := dk_162 0 13 (dk_at dksX2_behind_0 4 rfl rfl)
theorem dX2_behind_7 : decode cX2_behind 7 = .ok (.aload_n 0, 1) := dk_42 (dk_at dksX2_behind_0 7 rfl rfl)
theorem dX2_behind_8 : decode cX2_behind 8 = .ok (.invokevirtual 248, 3) := dk_182 0 248 (dk_at dksX2_behind_0 8 rfl rfl)
theorem dX2_behind_11 : decode cX2_behind 11 = .ok (.iinc 2 1, 3) := dk_132 2 1 (dk_at dksX2_behind_0 11 rfl rfl)
theorem dX2_behind_14 : decode cX2_behind 14 = .ok (.goto (-12), 3) := dk_167 255 244 (dk_at dksX2_behind_0 14 rfl rfl)
theorem dX2_behind_17 : decode cX2_behind 17 = .ok (.aload_n 0, 1) := dk_42 (dk_at dksX2_behind_0 17 rfl rfl)
theorem dX2_behind_18 : decode cX2_behind 18 = .ok (.areturn, 1) := dk_176 (dk_at dksX2_behind_0 18 rfl rfl)
abbrev cX2_ticks : ByteArray := prog_6_method_23_code
def yX2_ticks : MethodName := ⟨RX2, "ticks", "()V"⟩
def dkwX2_ticks_5 : List UInt8 := [167, 0, 21, 42, 180, 0, 111, 42, 180, 0, 37, 3, 46, 161, 0, 8, 42, 5, 182, 0, 231, 177]
abbrev dktX2_ticks_5 : List UInt8 := dkwX2_ticks_5 ++ []
def dkwX2_ticks_4 : List UInt8 := [154, 0, 10, 42, 182, 0, 242, 167, 0, 36, 42, 180, 0, 108, 5, 160, 0, 10, 42, 182, 0, 245]
abbrev dktX2_ticks_4 : List UInt8 := dkwX2_ticks_4 ++ dktX2_ticks_5
def dkwX2_ticks_3 : List UInt8 := [182, 0, 240, 132, 1, 1, 167, 255, 223, 42, 89, 180, 0, 111, 4, 96, 181, 0, 111, 42, 180, 0, 108]
abbrev dktX2_ticks_3 : List UInt8 := dkwX2_ticks_3 ++ dktX2_ticks_4
def dkwX2_ticks_2 : List UInt8 := [185, 0, 49, 1, 0, 162, 0, 26, 42, 27, 182, 0, 237, 154, 0, 12, 42, 42, 27, 182, 0, 161]
abbrev dktX2_ticks_2 : List UInt8 := dkwX2_ticks_2 ++ dktX2_ticks_3
def dkwX2_ticks_1 : List UInt8 := [153, 0, 7, 4, 167, 0, 4, 3, 184, 0, 227, 96, 79, 3, 60, 27, 42, 180, 0, 14]
abbrev dktX2_ticks_1 : List UInt8 := dkwX2_ticks_1 ++ dktX2_ticks_2
def dkwX2_ticks_0 : List UInt8 := [42, 89, 180, 0, 102, 4, 96, 181, 0, 102, 42, 180, 0, 41, 16, 6, 92, 46, 42, 180, 0, 108]
abbrev dktX2_ticks_0 : List UInt8 := dkwX2_ticks_0 ++ dktX2_ticks_1
theorem dksX2_ticks_0 : cX2_ticks.data.toList.drop 0 = dktX2_ticks_0 := by decide +kernel
theorem dksX2_ticks_1 : cX2_ticks.data.toList.drop 22 = dktX2_ticks_1 := dk_seg dksX2_ticks_0 22 rfl rfl
theorem dksX2_ticks_2 : cX2_ticks.data.toList.drop 42 = dktX2_ticks_2 := dk_seg dksX2_ticks_1 20 rfl rfl
theorem dksX2_ticks_3 : cX2_ticks.data.toList.drop 64 = dktX2_ticks_3 := dk_seg dksX2_ticks_2 22 rfl rfl
theorem dksX2_ticks_4 : cX2_ticks.data.toList.drop 87 = dktX2_ticks_4 := dk_seg dksX2_ticks_3 23 rfl rfl
theorem dksX2_ticks_5 : cX2_ticks.data.toList.drop 109 = dktX2_ticks_5 := dk_seg dksX2_ticks_4 22 rfl rfl
theorem dX2_ticks_0 : decode cX2_ticks 0 = .ok (.aload_n 0, 1) := dk_42 (dk_at dksX2_ticks_0 0 rfl rfl)
theorem dX2_ticks_1 : decode cX2_ticks 1 = .ok (.dup, 1) := dk_89 (dk_at dksX2_ticks_0 1 rfl rfl)
theorem dX2_ticks_2 : decode cX2_ticks 2 = .ok (.getfield 102, 3) := dk_180 0 102 (dk_at dksX2_ticks_0 2 rfl rfl)
theorem dX2_ticks_5 : decode cX2_ticks 5 = .ok (.iconst 1, 1) := dk_4 (dk_at dksX2_ticks_0 5 rfl rfl)
theorem dX2_ticks_6 : decode cX2_ticks 6 = .ok (.iadd, 1) := dk_96 (dk_at dksX2_ticks_0 6 rfl rfl)
theorem dX2_ticks_7 : decode cX2_ticks 7 = .ok (.putfield 102, 3) := dk_181 0 102 (dk_at dksX2_ticks_0 7 rfl rfl)
theorem dX2_ticks_10 : decode cX2_ticks 10 = .ok (.aload_n 0, 1) := dk_42 (dk_at dksX2_ticks_0 10 rfl rfl)
theorem dX2_ticks_11 : decode cX2_ticks 11 = .ok (.getfield 41, 3) := dk_180 0 41 (dk_at dksX2_ticks_0 11 rfl rfl)
theorem dX2_ticks_14 : decode cX2_ticks 14 = .ok (.bipush 6, 2) := dk_16 6 (dk_at dksX2_ticks_0 14 rfl rfl)
theorem dX2_ticks_16 : decode cX2_ticks 16 = .ok (.dup2, 1) := dk_92 (dk_at dksX2_ticks_0 16 rfl rfl)
theorem dX2_ticks_17 : decode cX2_ticks 17 = .ok (.iaload, 1) := dk_46 (dk_at dksX2_ticks_0 17 rfl rfl)
theorem dX2_ticks_18 : decode cX2_ticks 18 = .ok (.aload_n 0, 1) := dk_42 (dk_at dksX2_ticks_0 18 rfl rfl)
theorem dX2_ticks_19 : decode cX2_ticks 19 = .ok (.getfield 108, 3) := dk_180 0 108 (dk_at dksX2_ticks_0 19 rfl rfl)
theorem dX2_ticks_22 : decode cX2_ticks 22 = .ok (.ifCond .eq 7, 3) := dk_153 0 7 (dk_at dksX2_ticks_1 0 rfl rfl)
theorem dX2_ticks_25 : decode cX2_ticks 25 = .ok (.iconst 1, 1) := dk_4 (dk_at dksX2_ticks_1 3 rfl rfl)
theorem dX2_ticks_26 : decode cX2_ticks 26 = .ok (.goto 4, 3) := dk_167 0 4 (dk_at dksX2_ticks_1 4 rfl rfl)
theorem dX2_ticks_29 : decode cX2_ticks 29 = .ok (.iconst 0, 1) := dk_3 (dk_at dksX2_ticks_1 7 rfl rfl)
theorem dX2_ticks_30 : decode cX2_ticks 30 = .ok (.invokestatic 227, 3) := dk_184 0 227 (dk_at dksX2_ticks_1 8 rfl rfl)
theorem dX2_ticks_33 : decode cX2_ticks 33 = .ok (.iadd, 1) := dk_96 (dk_at dksX2_ticks_1 11 rfl rfl)
theorem dX2_ticks_34 : decode cX2_ticks 34 = .ok (.iastore, 1) := dk_79 (dk_at dksX2_ticks_1 12 rfl rfl)
theorem dX2_ticks_35 : decode cX2_ticks 35 = .ok (.iconst 0, 1) := dk_3 (dk_at dksX2_ticks_1 13 rfl rfl)
theorem dX2_ticks_36 : decode cX2_ticks 36 = .ok (.istore_n 1, 1) := dk_60 (dk_at dksX2_ticks_1 14 rfl rfl)
theorem dX2_ticks_37 : decode cX2_ticks 37 = .ok (.iload_n 1, 1) := dk_27 (dk_at dksX2_ticks_1 15 rfl rfl)
theorem dX2_ticks_38 : decode cX2_ticks 38 = .ok (.aload_n 0, 1) := dk_42 (dk_at dksX2_ticks_1 16 rfl rfl)
theorem dX2_ticks_39 : decode cX2_ticks 39 = .ok (.getfield 14, 3) := dk_180 0 14 (dk_at dksX2_ticks_1 17 rfl rfl)
theorem dX2_ticks_42 : decode cX2_ticks 42 = .ok (.invokeinterface 49 1, 5) := by decide +kernel
theorem dX2_ticks_47 : decode cX2_ticks 47 = .ok (.if_icmp .ge 26, 3) := dk_162 0 26 (dk_at dksX2_ticks_2 5 rfl rfl)
theorem dX2_ticks_50 : decode cX2_ticks 50 = .ok (.aload_n 0, 1) := dk_42 (dk_at dksX2_ticks_2 8 rfl rfl)
theorem dX2_ticks_51 : decode cX2_ticks 51 = .ok (.iload_n 1, 1) := dk_27 (dk_at dksX2_ticks_2 9 rfl rfl)
theorem dX2_ticks_52 : decode cX2_ticks 52 = .ok (.invokevirtual 237, 3) := dk_182 0 237 (dk_at dksX2_ticks_2 10 rfl rfl)
theorem dX2_ticks_55 : decode cX2_ticks 55 = .ok (.ifCond .ne 12, 3) := dk_154 0 12 (dk_at dksX2_ticks_2 13 rfl rfl)
theorem dX2_ticks_58 : decode cX2_ticks 58 = .ok (.aload_n 0, 1) := dk_42 (dk_at dksX2_ticks_2 16 rfl rfl)
theorem dX2_ticks_59 : decode cX2_ticks 59 = .ok (.aload_n 0, 1) := dk_42 (dk_at dksX2_ticks_2 17 rfl rfl)
theorem dX2_ticks_60 : decode cX2_ticks 60 = .ok (.iload_n 1, 1) := dk_27 (dk_at dksX2_ticks_2 18 rfl rfl)
theorem dX2_ticks_61 : decode cX2_ticks 61 = .ok (.invokevirtual 161, 3) := dk_182 0 161 (dk_at dksX2_ticks_2 19 rfl rfl)
theorem dX2_ticks_64 : decode cX2_ticks 64 = .ok (.invokevirtual 240, 3) := dk_182 0 240 (dk_at dksX2_ticks_3 0 rfl rfl)
theorem dX2_ticks_67 : decode cX2_ticks 67 = .ok (.iinc 1 1, 3) := dk_132 1 1 (dk_at dksX2_ticks_3 3 rfl rfl)
theorem dX2_ticks_70 : decode cX2_ticks 70 = .ok (.goto (-33), 3) := dk_167 255 223 (dk_at dksX2_ticks_3 6 rfl rfl)
theorem dX2_ticks_73 : decode cX2_ticks 73 = .ok (.aload_n 0, 1) := dk_42 (dk_at dksX2_ticks_3 9 rfl rfl)
theorem dX2_ticks_74 : decode cX2_ticks 74 = .ok (.dup, 1) := dk_89 (dk_at dksX2_ticks_3 10 rfl rfl)
theorem dX2_ticks_75 : decode cX2_ticks 75 = .ok (.getfield 111, 3) := dk_180 0 111 (dk_at dksX2_ticks_3 11 rfl rfl)
theorem dX2_ticks_78 : decode cX2_ticks 78 = .ok (.iconst 1, 1) := dk_4 (dk_at dksX2_ticks_3 14 rfl rfl)
theorem dX2_ticks_79 : decode cX2_ticks 79 = .ok (.iadd, 1) := dk_96 (dk_at dksX2_ticks_3 15 rfl rfl)
theorem dX2_ticks_80 : decode cX2_ticks 80 = .ok (.putfield 111, 3) := dk_181 0 111 (dk_at dksX2_ticks_3 16 rfl rfl)
theorem dX2_ticks_83 : decode cX2_ticks 83 = .ok (.aload_n 0, 1) := dk_42 (dk_at dksX2_ticks_3 19 rfl rfl)
theorem dX2_ticks_84 : decode cX2_ticks 84 = .ok (.getfield 108, 3) := dk_180 0 108 (dk_at dksX2_ticks_3 20 rfl rfl)
theorem dX2_ticks_87 : decode cX2_ticks 87 = .ok (.ifCond .ne 10, 3) := dk_154 0 10 (dk_at dksX2_ticks_4 0 rfl rfl)
theorem dX2_ticks_90 : decode cX2_ticks 90 = .ok (.aload_n 0, 1) := dk_42 (dk_at dksX2_ticks_4 3 rfl rfl)
theorem dX2_ticks_91 : decode cX2_ticks 91 = .ok (.invokevirtual 242, 3) := dk_182 0 242 (dk_at dksX2_ticks_4 4 rfl rfl)
theorem dX2_ticks_94 : decode cX2_ticks 94 = .ok (.goto 36, 3) := dk_167 0 36 (dk_at dksX2_ticks_4 7 rfl rfl)
theorem dX2_ticks_97 : decode cX2_ticks 97 = .ok (.aload_n 0, 1) := dk_42 (dk_at dksX2_ticks_4 10 rfl rfl)
theorem dX2_ticks_98 : decode cX2_ticks 98 = .ok (.getfield 108, 3) := dk_180 0 108 (dk_at dksX2_ticks_4 11 rfl rfl)
theorem dX2_ticks_101 : decode cX2_ticks 101 = .ok (.iconst 2, 1) := dk_5 (dk_at dksX2_ticks_4 14 rfl rfl)
theorem dX2_ticks_102 : decode cX2_ticks 102 = .ok (.if_icmp .ne 10, 3) := dk_160 0 10 (dk_at dksX2_ticks_4 15 rfl rfl)
theorem dX2_ticks_105 : decode cX2_ticks 105 = .ok (.aload_n 0, 1) := dk_42 (dk_at dksX2_ticks_4 18 rfl rfl)
theorem dX2_ticks_106 : decode cX2_ticks 106 = .ok (.invokevirtual 245, 3) := dk_182 0 245 (dk_at dksX2_ticks_4 19 rfl rfl)
theorem dX2_ticks_109 : decode cX2_ticks 109 = .ok (.goto 21, 3) := dk_167 0 21 (dk_at dksX2_ticks_5 0 rfl rfl)
theorem dX2_ticks_112 : decode cX2_ticks 112 = .ok (.aload_n 0, 1) := dk_42 (dk_at dksX2_ticks_5 3 rfl rfl)
theorem dX2_ticks_113 : decode cX2_ticks 113 = .ok (.getfield 111, 3) := dk_180 0 111 (dk_at dksX2_ticks_5 4 rfl rfl)
theorem dX2_ticks_116 : decode cX2_ticks 116 = .ok (.aload_n 0, 1) := dk_42 (dk_at dksX2_ticks_5 7 rfl rfl)
theorem dX2_ticks_117 : decode cX2_ticks 117 = .ok (.getfield 37, 3) := dk_180 0 37 (dk_at dksX2_ticks_5 8 rfl rfl)
theorem dX2_ticks_120 : decode cX2_ticks 120 = .ok (.iconst 0, 1) := dk_3 (dk_at dksX2_ticks_5 11 rfl rfl)
theorem dX2_ticks_121 : decode cX2_ticks 121 = .ok (.iaload, 1) := dk_46 (dk_at dksX2_ticks_5 12 rfl rfl)
theorem dX2_ticks_122 : decode cX2_ticks 122 = .ok (.if_icmp .lt 8, 3) := dk_161 0 8 (dk_at dksX2_ticks_5 13 rfl rfl)
theorem dX2_ticks_125 : decode cX2_ticks 125 = .ok (.aload_n 0, 1) := dk_42 (dk_at dksX2_ticks_5 16 rfl rfl)
theorem dX2_ticks_126 : decode cX2_ticks 126 = .ok (.iconst 2, 1) := dk_5 (dk_at dksX2_ticks_5 17 rfl rfl)
theorem dX2_ticks_127 : decode cX2_ticks 127 = .ok (.invokevirtual 231, 3) := dk_182 0 231 (dk_at dksX2_ticks_5 18 rfl rfl)
theorem dX2_ticks_130 : decode cX2_ticks 130 = .ok (.return_, 1) := dk_177 (dk_at dksX2_ticks_5 21 rfl rfl)
abbrev cX2_light : ByteArray := prog_6_method_11_code
def yX2_light : MethodName := ⟨RX2, "light", "(I)I"⟩
def dkwX2_light_2 : List UInt8 := [5, 172]
abbrev dktX2_light_2 : List UInt8 := dkwX2_light_2 ++ []
def dkwX2_light_1 : List UInt8 := [180, 0, 44, 27, 182, 0, 153, 153, 0, 5, 3, 172, 42, 180, 0, 108, 4, 160, 0, 7, 4, 167, 0, 4]
abbrev dktX2_light_1 : List UInt8 := dkwX2_light_1 ++ dktX2_light_2
def dkwX2_light_0 : List UInt8 := [42, 42, 180, 0, 105, 27, 182, 0, 153, 154, 0, 5, 5, 172, 42, 180, 0, 108, 153, 0, 15, 42, 42]
abbrev dktX2_light_0 : List UInt8 := dkwX2_light_0 ++ dktX2_light_1
theorem dksX2_light_0 : cX2_light.data.toList.drop 0 = dktX2_light_0 := by decide +kernel
theorem dksX2_light_1 : cX2_light.data.toList.drop 23 = dktX2_light_1 := dk_seg dksX2_light_0 23 rfl rfl
theorem dksX2_light_2 : cX2_light.data.toList.drop 47 = dktX2_light_2 := dk_seg dksX2_light_1 24 rfl rfl
theorem dX2_light_0 : decode cX2_light 0 = .ok (.aload_n 0, 1) := dk_42 (dk_at dksX2_light_0 0 rfl rfl)
theorem dX2_light_1 : decode cX2_light 1 = .ok (.aload_n 0, 1) := dk_42 (dk_at dksX2_light_0 1 rfl rfl)
theorem dX2_light_2 : decode cX2_light 2 = .ok (.getfield 105, 3) := dk_180 0 105 (dk_at dksX2_light_0 2 rfl rfl)
theorem dX2_light_5 : decode cX2_light 5 = .ok (.iload_n 1, 1) := dk_27 (dk_at dksX2_light_0 5 rfl rfl)
theorem dX2_light_6 : decode cX2_light 6 = .ok (.invokevirtual 153, 3) := dk_182 0 153 (dk_at dksX2_light_0 6 rfl rfl)
theorem dX2_light_9 : decode cX2_light 9 = .ok (.ifCond .ne 5, 3) := dk_154 0 5 (dk_at dksX2_light_0 9 rfl rfl)
theorem dX2_light_12 : decode cX2_light 12 = .ok (.iconst 2, 1) := dk_5 (dk_at dksX2_light_0 12 rfl rfl)
theorem dX2_light_13 : decode cX2_light 13 = .ok (.ireturn, 1) := dk_172 (dk_at dksX2_light_0 13 rfl rfl)
theorem dX2_light_14 : decode cX2_light 14 = .ok (.aload_n 0, 1) := dk_42 (dk_at dksX2_light_0 14 rfl rfl)
theorem dX2_light_15 : decode cX2_light 15 = .ok (.getfield 108, 3) := dk_180 0 108 (dk_at dksX2_light_0 15 rfl rfl)
theorem dX2_light_18 : decode cX2_light 18 = .ok (.ifCond .eq 15, 3) := dk_153 0 15 (dk_at dksX2_light_0 18 rfl rfl)
theorem dX2_light_21 : decode cX2_light 21 = .ok (.aload_n 0, 1) := dk_42 (dk_at dksX2_light_0 21 rfl rfl)
theorem dX2_light_22 : decode cX2_light 22 = .ok (.aload_n 0, 1) := dk_42 (dk_at dksX2_light_0 22 rfl rfl)
theorem dX2_light_23 : decode cX2_light 23 = .ok (.getfield 44, 3) := dk_180 0 44 (dk_at dksX2_light_1 0 rfl rfl)
theorem dX2_light_26 : decode cX2_light 26 = .ok (.iload_n 1, 1) := dk_27 (dk_at dksX2_light_1 3 rfl rfl)
theorem dX2_light_27 : decode cX2_light 27 = .ok (.invokevirtual 153, 3) := dk_182 0 153 (dk_at dksX2_light_1 4 rfl rfl)
theorem dX2_light_30 : decode cX2_light 30 = .ok (.ifCond .eq 5, 3) := dk_153 0 5 (dk_at dksX2_light_1 7 rfl rfl)
theorem dX2_light_33 : decode cX2_light 33 = .ok (.iconst 0, 1) := dk_3 (dk_at dksX2_light_1 10 rfl rfl)
theorem dX2_light_34 : decode cX2_light 34 = .ok (.ireturn, 1) := dk_172 (dk_at dksX2_light_1 11 rfl rfl)
theorem dX2_light_35 : decode cX2_light 35 = .ok (.aload_n 0, 1) := dk_42 (dk_at dksX2_light_1 12 rfl rfl)
theorem dX2_light_36 : decode cX2_light 36 = .ok (.getfield 108, 3) := dk_180 0 108 (dk_at dksX2_light_1 13 rfl rfl)
theorem dX2_light_39 : decode cX2_light 39 = .ok (.iconst 1, 1) := dk_4 (dk_at dksX2_light_1 16 rfl rfl)
theorem dX2_light_40 : decode cX2_light 40 = .ok (.if_icmp .ne 7, 3) := dk_160 0 7 (dk_at dksX2_light_1 17 rfl rfl)
theorem dX2_light_43 : decode cX2_light 43 = .ok (.iconst 1, 1) := dk_4 (dk_at dksX2_light_1 20 rfl rfl)
theorem dX2_light_44 : decode cX2_light 44 = .ok (.goto 4, 3) := dk_167 0 4 (dk_at dksX2_light_1 21 rfl rfl)
theorem dX2_light_47 : decode cX2_light 47 = .ok (.iconst 2, 1) := dk_5 (dk_at dksX2_light_2 0 rfl rfl)
theorem dX2_light_48 : decode cX2_light 48 = .ok (.ireturn, 1) := dk_172 (dk_at dksX2_light_2 1 rfl rfl)
abbrev cX2_isOf : ByteArray := prog_6_method_10_code
def yX2_isOf : MethodName := ⟨RX2, "isOf", "(II)Z"⟩
def dkwX2_isOf_0 : List UInt8 := [27, 2, 159, 0, 19, 42, 27, 182, 0, 145, 28, 182, 0, 149, 153, 0, 7, 4, 167, 0, 4, 3, 172]
abbrev dktX2_isOf_0 : List UInt8 := dkwX2_isOf_0 ++ []
theorem dksX2_isOf_0 : cX2_isOf.data.toList.drop 0 = dktX2_isOf_0 := by decide +kernel
theorem dX2_isOf_0 : decode cX2_isOf 0 = .ok (.iload_n 1, 1) := dk_27 (dk_at dksX2_isOf_0 0 rfl rfl)
theorem dX2_isOf_1 : decode cX2_isOf 1 = .ok (.iconst (-1), 1) := dk_2 (dk_at dksX2_isOf_0 1 rfl rfl)
theorem dX2_isOf_2 : decode cX2_isOf 2 = .ok (.if_icmp .eq 19, 3) := dk_159 0 19 (dk_at dksX2_isOf_0 2 rfl rfl)
theorem dX2_isOf_5 : decode cX2_isOf 5 = .ok (.aload_n 0, 1) := dk_42 (dk_at dksX2_isOf_0 5 rfl rfl)
theorem dX2_isOf_6 : decode cX2_isOf 6 = .ok (.iload_n 1, 1) := dk_27 (dk_at dksX2_isOf_0 6 rfl rfl)
theorem dX2_isOf_7 : decode cX2_isOf 7 = .ok (.invokevirtual 145, 3) := dk_182 0 145 (dk_at dksX2_isOf_0 7 rfl rfl)
theorem dX2_isOf_10 : decode cX2_isOf 10 = .ok (.iload_n 2, 1) := dk_28 (dk_at dksX2_isOf_0 10 rfl rfl)
theorem dX2_isOf_11 : decode cX2_isOf 11 = .ok (.invokevirtual 149, 3) := dk_182 0 149 (dk_at dksX2_isOf_0 11 rfl rfl)
theorem dX2_isOf_14 : decode cX2_isOf 14 = .ok (.ifCond .eq 7, 3) := dk_153 0 7 (dk_at dksX2_isOf_0 14 rfl rfl)
theorem dX2_isOf_17 : decode cX2_isOf 17 = .ok (.iconst 1, 1) := dk_4 (dk_at dksX2_isOf_0 17 rfl rfl)
theorem dX2_isOf_18 : decode cX2_isOf 18 = .ok (.goto 4, 3) := dk_167 0 4 (dk_at dksX2_isOf_0 18 rfl rfl)
theorem dX2_isOf_21 : decode cX2_isOf 21 = .ok (.iconst 0, 1) := dk_3 (dk_at dksX2_isOf_0 21 rfl rfl)
theorem dX2_isOf_22 : decode cX2_isOf 22 = .ok (.ireturn, 1) := dk_172 (dk_at dksX2_isOf_0 22 rfl rfl)
abbrev cX2_phase : ByteArray := prog_6_method_8_code
def yX2_phase : MethodName := ⟨RX2, "phase", "(I)LLoopSignals$Phase;"⟩
def dkwX2_phase_0 : List UInt8 := [42, 180, 0, 20, 27, 185, 0, 55, 2, 0, 192, 0, 69, 176]
abbrev dktX2_phase_0 : List UInt8 := dkwX2_phase_0 ++ []
theorem dksX2_phase_0 : cX2_phase.data.toList.drop 0 = dktX2_phase_0 := by decide +kernel
theorem dX2_phase_0 : decode cX2_phase 0 = .ok (.aload_n 0, 1) := dk_42 (dk_at dksX2_phase_0 0 rfl rfl)
theorem dX2_phase_1 : decode cX2_phase 1 = .ok (.getfield 20, 3) := dk_180 0 20 (dk_at dksX2_phase_0 1 rfl rfl)
theorem dX2_phase_4 : decode cX2_phase 4 = .ok (.iload_n 1, 1) := dk_27 (dk_at dksX2_phase_0 4 rfl rfl)
theorem dX2_phase_5 : decode cX2_phase 5 = .ok (.invokeinterface 55 2, 5) := by decide +kernel
theorem dX2_phase_10 : decode cX2_phase 10 = .ok (.checkcast 69, 3) := dk_192 0 69 (dk_at dksX2_phase_0 10 rfl rfl)
theorem dX2_phase_13 : decode cX2_phase 13 = .ok (.areturn, 1) := dk_176 (dk_at dksX2_phase_0 13 rfl rfl)
abbrev cX2_arm : ByteArray := prog_6_method_7_code
def yX2_arm : MethodName := ⟨RX2, "arm", "(I)LLoopSignals$Arm;"⟩
def dkwX2_arm_0 : List UInt8 := [42, 180, 0, 14, 27, 185, 0, 55, 2, 0, 192, 0, 59, 176]
abbrev dktX2_arm_0 : List UInt8 := dkwX2_arm_0 ++ []
theorem dksX2_arm_0 : cX2_arm.data.toList.drop 0 = dktX2_arm_0 := by decide +kernel
theorem dX2_arm_0 : decode cX2_arm 0 = .ok (.aload_n 0, 1) := dk_42 (dk_at dksX2_arm_0 0 rfl rfl)
theorem dX2_arm_1 : decode cX2_arm 1 = .ok (.getfield 14, 3) := dk_180 0 14 (dk_at dksX2_arm_0 1 rfl rfl)
theorem dX2_arm_4 : decode cX2_arm 4 = .ok (.iload_n 1, 1) := dk_27 (dk_at dksX2_arm_0 4 rfl rfl)
theorem dX2_arm_5 : decode cX2_arm 5 = .ok (.invokeinterface 55 2, 5) := by decide +kernel
theorem dX2_arm_10 : decode cX2_arm 10 = .ok (.checkcast 59, 3) := dk_192 0 59 (dk_at dksX2_arm_0 10 rfl rfl)
theorem dX2_arm_13 : decode cX2_arm 13 = .ok (.areturn, 1) := dk_176 (dk_at dksX2_arm_0 13 rfl rfl)
abbrev cX2_goes : ByteArray := prog_6_method_19_code
def yX2_goes : MethodName := ⟨RX2, "goes", "(LLoopSignals$Arm;)V"⟩
def dkwX2_goes_2 : List UInt8 := [4, 92, 46, 4, 96, 79, 43, 89, 180, 0, 212, 4, 96, 181, 0, 212, 177]
abbrev dktX2_goes_2 : List UInt8 := dkwX2_goes_2 ++ []
def dkwX2_goes_1 : List UInt8 := [180, 0, 41, 5, 92, 46, 42, 180, 0, 102, 43, 180, 0, 168, 182, 0, 209, 100, 96, 79, 42, 180, 0, 41]
abbrev dktX2_goes_1 : List UInt8 := dkwX2_goes_1 ++ dktX2_goes_2
def dkwX2_goes_0 : List UInt8 := [43, 89, 180, 0, 206, 4, 96, 181, 0, 206, 43, 180, 0, 168, 180, 0, 172, 154, 0, 4, 177, 42]
abbrev dktX2_goes_0 : List UInt8 := dkwX2_goes_0 ++ dktX2_goes_1
theorem dksX2_goes_0 : cX2_goes.data.toList.drop 0 = dktX2_goes_0 := by decide +kernel
theorem dksX2_goes_1 : cX2_goes.data.toList.drop 22 = dktX2_goes_1 := dk_seg dksX2_goes_0 22 rfl rfl
theorem dksX2_goes_2 : cX2_goes.data.toList.drop 46 = dktX2_goes_2 := dk_seg dksX2_goes_1 24 rfl rfl
theorem dX2_goes_0 : decode cX2_goes 0 = .ok (.aload_n 1, 1) := dk_43 (dk_at dksX2_goes_0 0 rfl rfl)
theorem dX2_goes_1 : decode cX2_goes 1 = .ok (.dup, 1) := dk_89 (dk_at dksX2_goes_0 1 rfl rfl)
theorem dX2_goes_2 : decode cX2_goes 2 = .ok (.getfield 206, 3) := dk_180 0 206 (dk_at dksX2_goes_0 2 rfl rfl)
theorem dX2_goes_5 : decode cX2_goes 5 = .ok (.iconst 1, 1) := dk_4 (dk_at dksX2_goes_0 5 rfl rfl)
theorem dX2_goes_6 : decode cX2_goes 6 = .ok (.iadd, 1) := dk_96 (dk_at dksX2_goes_0 6 rfl rfl)
theorem dX2_goes_7 : decode cX2_goes 7 = .ok (.putfield 206, 3) := dk_181 0 206 (dk_at dksX2_goes_0 7 rfl rfl)
theorem dX2_goes_10 : decode cX2_goes 10 = .ok (.aload_n 1, 1) := dk_43 (dk_at dksX2_goes_0 10 rfl rfl)
theorem dX2_goes_11 : decode cX2_goes 11 = .ok (.getfield 168, 3) := dk_180 0 168 (dk_at dksX2_goes_0 11 rfl rfl)
theorem dX2_goes_14 : decode cX2_goes 14 = .ok (.getfield 172, 3) := dk_180 0 172 (dk_at dksX2_goes_0 14 rfl rfl)
theorem dX2_goes_17 : decode cX2_goes 17 = .ok (.ifCond .ne 4, 3) := dk_154 0 4 (dk_at dksX2_goes_0 17 rfl rfl)
theorem dX2_goes_20 : decode cX2_goes 20 = .ok (.return_, 1) := dk_177 (dk_at dksX2_goes_0 20 rfl rfl)
theorem dX2_goes_21 : decode cX2_goes 21 = .ok (.aload_n 0, 1) := dk_42 (dk_at dksX2_goes_0 21 rfl rfl)
theorem dX2_goes_22 : decode cX2_goes 22 = .ok (.getfield 41, 3) := dk_180 0 41 (dk_at dksX2_goes_1 0 rfl rfl)
theorem dX2_goes_25 : decode cX2_goes 25 = .ok (.iconst 2, 1) := dk_5 (dk_at dksX2_goes_1 3 rfl rfl)
theorem dX2_goes_26 : decode cX2_goes 26 = .ok (.dup2, 1) := dk_92 (dk_at dksX2_goes_1 4 rfl rfl)
theorem dX2_goes_27 : decode cX2_goes 27 = .ok (.iaload, 1) := dk_46 (dk_at dksX2_goes_1 5 rfl rfl)
theorem dX2_goes_28 : decode cX2_goes 28 = .ok (.aload_n 0, 1) := dk_42 (dk_at dksX2_goes_1 6 rfl rfl)
theorem dX2_goes_29 : decode cX2_goes 29 = .ok (.getfield 102, 3) := dk_180 0 102 (dk_at dksX2_goes_1 7 rfl rfl)
theorem dX2_goes_32 : decode cX2_goes 32 = .ok (.aload_n 1, 1) := dk_43 (dk_at dksX2_goes_1 10 rfl rfl)
theorem dX2_goes_33 : decode cX2_goes 33 = .ok (.getfield 168, 3) := dk_180 0 168 (dk_at dksX2_goes_1 11 rfl rfl)
theorem dX2_goes_36 : decode cX2_goes 36 = .ok (.invokevirtual 209, 3) := dk_182 0 209 (dk_at dksX2_goes_1 14 rfl rfl)
theorem dX2_goes_39 : decode cX2_goes 39 = .ok (.isub, 1) := dk_100 (dk_at dksX2_goes_1 17 rfl rfl)
theorem dX2_goes_40 : decode cX2_goes 40 = .ok (.iadd, 1) := dk_96 (dk_at dksX2_goes_1 18 rfl rfl)
theorem dX2_goes_41 : decode cX2_goes 41 = .ok (.iastore, 1) := dk_79 (dk_at dksX2_goes_1 19 rfl rfl)
theorem dX2_goes_42 : decode cX2_goes 42 = .ok (.aload_n 0, 1) := dk_42 (dk_at dksX2_goes_1 20 rfl rfl)
theorem dX2_goes_43 : decode cX2_goes 43 = .ok (.getfield 41, 3) := dk_180 0 41 (dk_at dksX2_goes_1 21 rfl rfl)
theorem dX2_goes_46 : decode cX2_goes 46 = .ok (.iconst 1, 1) := dk_4 (dk_at dksX2_goes_2 0 rfl rfl)
theorem dX2_goes_47 : decode cX2_goes 47 = .ok (.dup2, 1) := dk_92 (dk_at dksX2_goes_2 1 rfl rfl)
theorem dX2_goes_48 : decode cX2_goes 48 = .ok (.iaload, 1) := dk_46 (dk_at dksX2_goes_2 2 rfl rfl)
theorem dX2_goes_49 : decode cX2_goes 49 = .ok (.iconst 1, 1) := dk_4 (dk_at dksX2_goes_2 3 rfl rfl)
theorem dX2_goes_50 : decode cX2_goes 50 = .ok (.iadd, 1) := dk_96 (dk_at dksX2_goes_2 4 rfl rfl)
theorem dX2_goes_51 : decode cX2_goes 51 = .ok (.iastore, 1) := dk_79 (dk_at dksX2_goes_2 5 rfl rfl)
theorem dX2_goes_52 : decode cX2_goes 52 = .ok (.aload_n 1, 1) := dk_43 (dk_at dksX2_goes_2 6 rfl rfl)
theorem dX2_goes_53 : decode cX2_goes 53 = .ok (.dup, 1) := dk_89 (dk_at dksX2_goes_2 7 rfl rfl)
theorem dX2_goes_54 : decode cX2_goes 54 = .ok (.getfield 212, 3) := dk_180 0 212 (dk_at dksX2_goes_2 8 rfl rfl)
theorem dX2_goes_57 : decode cX2_goes 57 = .ok (.iconst 1, 1) := dk_4 (dk_at dksX2_goes_2 11 rfl rfl)
theorem dX2_goes_58 : decode cX2_goes 58 = .ok (.iadd, 1) := dk_96 (dk_at dksX2_goes_2 12 rfl rfl)
theorem dX2_goes_59 : decode cX2_goes 59 = .ok (.putfield 212, 3) := dk_181 0 212 (dk_at dksX2_goes_2 13 rfl rfl)
theorem dX2_goes_62 : decode cX2_goes 62 = .ok (.return_, 1) := dk_177 (dk_at dksX2_goes_2 16 rfl rfl)
abbrev cX2_green : ByteArray := prog_6_method_21_code
def yX2_green : MethodName := ⟨RX2, "green", "()V"⟩
def dkwX2_green_3 : List UInt8 := [43, 180, 0, 221, 161, 0, 7, 4, 167, 0, 4, 3, 184, 0, 227, 96, 79, 42, 4, 182, 0, 231, 177]
abbrev dktX2_green_3 : List UInt8 := dkwX2_green_3 ++ []
def dkwX2_green_2 : List UInt8 := [182, 0, 224, 2, 159, 0, 4, 177, 42, 28, 181, 0, 44, 42, 180, 0, 41, 7, 92, 46, 42, 180, 0, 111]
abbrev dktX2_green_2 : List UInt8 := dkwX2_green_2 ++ dktX2_green_3
def dkwX2_green_1 : List UInt8 := [42, 182, 0, 218, 61, 28, 2, 159, 0, 22, 42, 180, 0, 111, 43, 180, 0, 221, 162, 0, 12, 42]
abbrev dktX2_green_1 : List UInt8 := dkwX2_green_1 ++ dktX2_green_2
def dkwX2_green_0 : List UInt8 := [42, 42, 180, 0, 105, 182, 0, 145, 76, 42, 180, 0, 111, 43, 180, 0, 215, 162, 0, 7, 2, 167, 0, 7]
abbrev dktX2_green_0 : List UInt8 := dkwX2_green_0 ++ dktX2_green_1
theorem dksX2_green_0 : cX2_green.data.toList.drop 0 = dktX2_green_0 := by decide +kernel
theorem dksX2_green_1 : cX2_green.data.toList.drop 24 = dktX2_green_1 := dk_seg dksX2_green_0 24 rfl rfl
theorem dksX2_green_2 : cX2_green.data.toList.drop 46 = dktX2_green_2 := dk_seg dksX2_green_1 22 rfl rfl
theorem dksX2_green_3 : cX2_green.data.toList.drop 70 = dktX2_green_3 := dk_seg dksX2_green_2 24 rfl rfl
theorem dX2_green_0 : decode cX2_green 0 = .ok (.aload_n 0, 1) := dk_42 (dk_at dksX2_green_0 0 rfl rfl)
theorem dX2_green_1 : decode cX2_green 1 = .ok (.aload_n 0, 1) := dk_42 (dk_at dksX2_green_0 1 rfl rfl)
theorem dX2_green_2 : decode cX2_green 2 = .ok (.getfield 105, 3) := dk_180 0 105 (dk_at dksX2_green_0 2 rfl rfl)
theorem dX2_green_5 : decode cX2_green 5 = .ok (.invokevirtual 145, 3) := dk_182 0 145 (dk_at dksX2_green_0 5 rfl rfl)
theorem dX2_green_8 : decode cX2_green 8 = .ok (.astore_n 1, 1) := dk_76 (dk_at dksX2_green_0 8 rfl rfl)
theorem dX2_green_9 : decode cX2_green 9 = .ok (.aload_n 0, 1) := dk_42 (dk_at dksX2_green_0 9 rfl rfl)
theorem dX2_green_10 : decode cX2_green 10 = .ok (.getfield 111, 3) := dk_180 0 111 (dk_at dksX2_green_0 10 rfl rfl)
theorem dX2_green_13 : decode cX2_green 13 = .ok (.aload_n 1, 1) := dk_43 (dk_at dksX2_green_0 13 rfl rfl)
theorem dX2_green_14 : decode cX2_green 14 = .ok (.getfield 215, 3) := dk_180 0 215 (dk_at dksX2_green_0 14 rfl rfl)
theorem dX2_green_17 : decode cX2_green 17 = .ok (.if_icmp .ge 7, 3) := dk_162 0 7 (dk_at dksX2_green_0 17 rfl rfl)
theorem dX2_green_20 : decode cX2_green 20 = .ok (.iconst (-1), 1) := dk_2 (dk_at dksX2_green_0 20 rfl rfl)
theorem dX2_green_21 : decode cX2_green 21 = .ok (.goto 7, 3) := dk_167 0 7 (dk_at dksX2_green_0 21 rfl rfl)
theorem dX2_green_24 : decode cX2_green 24 = .ok (.aload_n 0, 1) := dk_42 (dk_at dksX2_green_1 0 rfl rfl)
theorem dX2_green_25 : decode cX2_green 25 = .ok (.invokevirtual 218, 3) := dk_182 0 218 (dk_at dksX2_green_1 1 rfl rfl)
theorem dX2_green_28 : decode cX2_green 28 = .ok (.istore_n 2, 1) := dk_61 (dk_at dksX2_green_1 4 rfl rfl)
theorem dX2_green_29 : decode cX2_green 29 = .ok (.iload_n 2, 1) := dk_28 (dk_at dksX2_green_1 5 rfl rfl)
theorem dX2_green_30 : decode cX2_green 30 = .ok (.iconst (-1), 1) := dk_2 (dk_at dksX2_green_1 6 rfl rfl)
theorem dX2_green_31 : decode cX2_green 31 = .ok (.if_icmp .eq 22, 3) := dk_159 0 22 (dk_at dksX2_green_1 7 rfl rfl)
theorem dX2_green_34 : decode cX2_green 34 = .ok (.aload_n 0, 1) := dk_42 (dk_at dksX2_green_1 10 rfl rfl)
theorem dX2_green_35 : decode cX2_green 35 = .ok (.getfield 111, 3) := dk_180 0 111 (dk_at dksX2_green_1 11 rfl rfl)
theorem dX2_green_38 : decode cX2_green 38 = .ok (.aload_n 1, 1) := dk_43 (dk_at dksX2_green_1 14 rfl rfl)
theorem dX2_green_39 : decode cX2_green 39 = .ok (.getfield 221, 3) := dk_180 0 221 (dk_at dksX2_green_1 15 rfl rfl)
theorem dX2_green_42 : decode cX2_green 42 = .ok (.if_icmp .ge 12, 3) := dk_162 0 12 (dk_at dksX2_green_1 18 rfl rfl)
theorem dX2_green_45 : decode cX2_green 45 = .ok (.aload_n 0, 1) := dk_42 (dk_at dksX2_green_1 21 rfl rfl)
theorem dX2_green_46 : decode cX2_green 46 = .ok (.invokevirtual 224, 3) := dk_182 0 224 (dk_at dksX2_green_2 0 rfl rfl)
theorem dX2_green_49 : decode cX2_green 49 = .ok (.iconst (-1), 1) := dk_2 (dk_at dksX2_green_2 3 rfl rfl)
theorem dX2_green_50 : decode cX2_green 50 = .ok (.if_icmp .eq 4, 3) := dk_159 0 4 (dk_at dksX2_green_2 4 rfl rfl)
theorem dX2_green_53 : decode cX2_green 53 = .ok (.return_, 1) := dk_177 (dk_at dksX2_green_2 7 rfl rfl)
theorem dX2_green_54 : decode cX2_green 54 = .ok (.aload_n 0, 1) := dk_42 (dk_at dksX2_green_2 8 rfl rfl)
theorem dX2_green_55 : decode cX2_green 55 = .ok (.iload_n 2, 1) := dk_28 (dk_at dksX2_green_2 9 rfl rfl)
theorem dX2_green_56 : decode cX2_green 56 = .ok (.putfield 44, 3) := dk_181 0 44 (dk_at dksX2_green_2 10 rfl rfl)
theorem dX2_green_59 : decode cX2_green 59 = .ok (.aload_n 0, 1) := dk_42 (dk_at dksX2_green_2 13 rfl rfl)
theorem dX2_green_60 : decode cX2_green 60 = .ok (.getfield 41, 3) := dk_180 0 41 (dk_at dksX2_green_2 14 rfl rfl)
theorem dX2_green_63 : decode cX2_green 63 = .ok (.iconst 4, 1) := dk_7 (dk_at dksX2_green_2 17 rfl rfl)
theorem dX2_green_64 : decode cX2_green 64 = .ok (.dup2, 1) := dk_92 (dk_at dksX2_green_2 18 rfl rfl)
theorem dX2_green_65 : decode cX2_green 65 = .ok (.iaload, 1) := dk_46 (dk_at dksX2_green_2 19 rfl rfl)
theorem dX2_green_66 : decode cX2_green 66 = .ok (.aload_n 0, 1) := dk_42 (dk_at dksX2_green_2 20 rfl rfl)
theorem dX2_green_67 : decode cX2_green 67 = .ok (.getfield 111, 3) := dk_180 0 111 (dk_at dksX2_green_2 21 rfl rfl)
theorem dX2_green_70 : decode cX2_green 70 = .ok (.aload_n 1, 1) := dk_43 (dk_at dksX2_green_3 0 rfl rfl)
theorem dX2_green_71 : decode cX2_green 71 = .ok (.getfield 221, 3) := dk_180 0 221 (dk_at dksX2_green_3 1 rfl rfl)
theorem dX2_green_74 : decode cX2_green 74 = .ok (.if_icmp .lt 7, 3) := dk_161 0 7 (dk_at dksX2_green_3 4 rfl rfl)
theorem dX2_green_77 : decode cX2_green 77 = .ok (.iconst 1, 1) := dk_4 (dk_at dksX2_green_3 7 rfl rfl)
theorem dX2_green_78 : decode cX2_green 78 = .ok (.goto 4, 3) := dk_167 0 4 (dk_at dksX2_green_3 8 rfl rfl)
theorem dX2_green_81 : decode cX2_green 81 = .ok (.iconst 0, 1) := dk_3 (dk_at dksX2_green_3 11 rfl rfl)
theorem dX2_green_82 : decode cX2_green 82 = .ok (.invokestatic 227, 3) := dk_184 0 227 (dk_at dksX2_green_3 12 rfl rfl)
theorem dX2_green_85 : decode cX2_green 85 = .ok (.iadd, 1) := dk_96 (dk_at dksX2_green_3 15 rfl rfl)
theorem dX2_green_86 : decode cX2_green 86 = .ok (.iastore, 1) := dk_79 (dk_at dksX2_green_3 16 rfl rfl)
theorem dX2_green_87 : decode cX2_green 87 = .ok (.aload_n 0, 1) := dk_42 (dk_at dksX2_green_3 17 rfl rfl)
theorem dX2_green_88 : decode cX2_green 88 = .ok (.iconst 1, 1) := dk_4 (dk_at dksX2_green_3 18 rfl rfl)
theorem dX2_green_89 : decode cX2_green 89 = .ok (.invokevirtual 231, 3) := dk_182 0 231 (dk_at dksX2_green_3 19 rfl rfl)
theorem dX2_green_92 : decode cX2_green 92 = .ok (.return_, 1) := dk_177 (dk_at dksX2_green_3 22 rfl rfl)
abbrev cX2_best : ByteArray := prog_6_method_16_code
def yX2_best : MethodName := ⟨RX2, "best", "()I"⟩
def dkwX2_best_2 : List UInt8 := [132, 2, 1, 167, 255, 212, 27, 172]
abbrev dktX2_best_2 : List UInt8 := dkwX2_best_2 ++ []
def dkwX2_best_1 : List UInt8 := [153, 0, 23, 27, 2, 159, 0, 16, 42, 28, 182, 0, 197, 42, 27, 182, 0, 197, 162, 0, 5, 28, 60]
abbrev dktX2_best_1 : List UInt8 := dkwX2_best_1 ++ dktX2_best_2
def dkwX2_best_0 : List UInt8 := [2, 60, 3, 61, 28, 42, 180, 0, 20, 185, 0, 49, 1, 0, 162, 0, 37, 42, 28, 182, 0, 194]
abbrev dktX2_best_0 : List UInt8 := dkwX2_best_0 ++ dktX2_best_1
theorem dksX2_best_0 : cX2_best.data.toList.drop 0 = dktX2_best_0 := by decide +kernel
theorem dksX2_best_1 : cX2_best.data.toList.drop 22 = dktX2_best_1 := dk_seg dksX2_best_0 22 rfl rfl
theorem dksX2_best_2 : cX2_best.data.toList.drop 45 = dktX2_best_2 := dk_seg dksX2_best_1 23 rfl rfl
theorem dX2_best_0 : decode cX2_best 0 = .ok (.iconst (-1), 1) := dk_2 (dk_at dksX2_best_0 0 rfl rfl)
theorem dX2_best_1 : decode cX2_best 1 = .ok (.istore_n 1, 1) := dk_60 (dk_at dksX2_best_0 1 rfl rfl)
theorem dX2_best_2 : decode cX2_best 2 = .ok (.iconst 0, 1) := dk_3 (dk_at dksX2_best_0 2 rfl rfl)
theorem dX2_best_3 : decode cX2_best 3 = .ok (.istore_n 2, 1) := dk_61 (dk_at dksX2_best_0 3 rfl rfl)
theorem dX2_best_4 : decode cX2_best 4 = .ok (.iload_n 2, 1) := dk_28 (dk_at dksX2_best_0 4 rfl rfl)
theorem dX2_best_5 : decode cX2_best 5 = .ok (.aload_n 0, 1) := dk_42 (dk_at dksX2_best_0 5 rfl rfl)
theorem dX2_best_6 : decode cX2_best 6 = .ok (.getfield 20, 3) := dk_180 0 20 (dk_at dksX2_best_0 6 rfl rfl)
theorem dX2_best_9 : decode cX2_best 9 = .ok (.invokeinterface 49 1, 5) := by decide +kernel
theorem dX2_best_14 : decode cX2_best 14 = .ok (.if_icmp .ge 37, 3) := dk_162 0 37 (dk_at dksX2_best_0 14 rfl rfl)
theorem dX2_best_17 : decode cX2_best 17 = .ok (.aload_n 0, 1) := dk_42 (dk_at dksX2_best_0 17 rfl rfl)
theorem dX2_best_18 : decode cX2_best 18 = .ok (.iload_n 2, 1) := dk_28 (dk_at dksX2_best_0 18 rfl rfl)
theorem dX2_best_19 : decode cX2_best 19 = .ok (.invokevirtual 194, 3) := dk_182 0 194 (dk_at dksX2_best_0 19 rfl rfl)
theorem dX2_best_22 : decode cX2_best 22 = .ok (.ifCond .eq 23, 3) := dk_153 0 23 (dk_at dksX2_best_1 0 rfl rfl)
theorem dX2_best_25 : decode cX2_best 25 = .ok (.iload_n 1, 1) := dk_27 (dk_at dksX2_best_1 3 rfl rfl)
theorem dX2_best_26 : decode cX2_best 26 = .ok (.iconst (-1), 1) := dk_2 (dk_at dksX2_best_1 4 rfl rfl)
theorem dX2_best_27 : decode cX2_best 27 = .ok (.if_icmp .eq 16, 3) := dk_159 0 16 (dk_at dksX2_best_1 5 rfl rfl)
theorem dX2_best_30 : decode cX2_best 30 = .ok (.aload_n 0, 1) := dk_42 (dk_at dksX2_best_1 8 rfl rfl)
theorem dX2_best_31 : decode cX2_best 31 = .ok (.iload_n 2, 1) := dk_28 (dk_at dksX2_best_1 9 rfl rfl)
theorem dX2_best_32 : decode cX2_best 32 = .ok (.invokevirtual 197, 3) := dk_182 0 197 (dk_at dksX2_best_1 10 rfl rfl)
theorem dX2_best_35 : decode cX2_best 35 = .ok (.aload_n 0, 1) := dk_42 (dk_at dksX2_best_1 13 rfl rfl)
theorem dX2_best_36 : decode cX2_best 36 = .ok (.iload_n 1, 1) := dk_27 (dk_at dksX2_best_1 14 rfl rfl)
theorem dX2_best_37 : decode cX2_best 37 = .ok (.invokevirtual 197, 3) := dk_182 0 197 (dk_at dksX2_best_1 15 rfl rfl)
theorem dX2_best_40 : decode cX2_best 40 = .ok (.if_icmp .ge 5, 3) := dk_162 0 5 (dk_at dksX2_best_1 18 rfl rfl)
theorem dX2_best_43 : decode cX2_best 43 = .ok (.iload_n 2, 1) := dk_28 (dk_at dksX2_best_1 21 rfl rfl)
theorem dX2_best_44 : decode cX2_best 44 = .ok (.istore_n 1, 1) := dk_60 (dk_at dksX2_best_1 22 rfl rfl)
theorem dX2_best_45 : decode cX2_best 45 = .ok (.iinc 2 1, 3) := dk_132 2 1 (dk_at dksX2_best_2 0 rfl rfl)
theorem dX2_best_48 : decode cX2_best 48 = .ok (.goto (-44), 3) := dk_167 255 212 (dk_at dksX2_best_2 3 rfl rfl)
theorem dX2_best_51 : decode cX2_best 51 = .ok (.iload_n 1, 1) := dk_27 (dk_at dksX2_best_2 6 rfl rfl)
theorem dX2_best_52 : decode cX2_best 52 = .ok (.ireturn, 1) := dk_172 (dk_at dksX2_best_2 7 rfl rfl)
abbrev cX2_isWanted : ByteArray := prog_6_method_12_code
def yX2_isWanted : MethodName := ⟨RX2, "isWanted", "(I)Z"⟩
def dkwX2_isWanted_3 : List UInt8 := [132, 2, 1, 167, 255, 206, 3, 172]
abbrev dktX2_isWanted_3 : List UInt8 := dkwX2_isWanted_3 ++ []
def dkwX2_isWanted_2 : List UInt8 := [42, 180, 0, 105, 28, 182, 0, 153, 154, 0, 16, 42, 28, 182, 0, 161, 182, 0, 165, 153, 0, 5, 4, 172]
abbrev dktX2_isWanted_2 : List UInt8 := dkwX2_isWanted_2 ++ dktX2_isWanted_3
def dkwX2_isWanted_1 : List UInt8 := [61, 28, 42, 180, 0, 14, 185, 0, 49, 1, 0, 162, 0, 43, 42, 27, 28, 182, 0, 153, 153, 0, 28, 42]
abbrev dktX2_isWanted_1 : List UInt8 := dkwX2_isWanted_1 ++ dktX2_isWanted_2
def dkwX2_isWanted_0 : List UInt8 := [27, 42, 180, 0, 105, 160, 0, 5, 3, 172, 42, 27, 182, 0, 145, 180, 0, 157, 153, 0, 5, 4, 172, 3]
abbrev dktX2_isWanted_0 : List UInt8 := dkwX2_isWanted_0 ++ dktX2_isWanted_1
theorem dksX2_isWanted_0 : cX2_isWanted.data.toList.drop 0 = dktX2_isWanted_0 := by decide +kernel
theorem dksX2_isWanted_1 : cX2_isWanted.data.toList.drop 24 = dktX2_isWanted_1 := dk_seg dksX2_isWanted_0 24 rfl rfl
theorem dksX2_isWanted_2 : cX2_isWanted.data.toList.drop 48 = dktX2_isWanted_2 := dk_seg dksX2_isWanted_1 24 rfl rfl
theorem dksX2_isWanted_3 : cX2_isWanted.data.toList.drop 72 = dktX2_isWanted_3 := dk_seg dksX2_isWanted_2 24 rfl rfl
theorem dX2_isWanted_0 : decode cX2_isWanted 0 = .ok (.iload_n 1, 1) := dk_27 (dk_at dksX2_isWanted_0 0 rfl rfl)
theorem dX2_isWanted_1 : decode cX2_isWanted 1 = .ok (.aload_n 0, 1) := dk_42 (dk_at dksX2_isWanted_0 1 rfl rfl)
theorem dX2_isWanted_2 : decode cX2_isWanted 2 = .ok (.getfield 105, 3) := dk_180 0 105 (dk_at dksX2_isWanted_0 2 rfl rfl)
theorem dX2_isWanted_5 : decode cX2_isWanted 5 = .ok (.if_icmp .ne 5, 3) := dk_160 0 5 (dk_at dksX2_isWanted_0 5 rfl rfl)
theorem dX2_isWanted_8 : decode cX2_isWanted 8 = .ok (.iconst 0, 1) := dk_3 (dk_at dksX2_isWanted_0 8 rfl rfl)
theorem dX2_isWanted_9 : decode cX2_isWanted 9 = .ok (.ireturn, 1) := dk_172 (dk_at dksX2_isWanted_0 9 rfl rfl)
theorem dX2_isWanted_10 : decode cX2_isWanted 10 = .ok (.aload_n 0, 1) := dk_42 (dk_at dksX2_isWanted_0 10 rfl rfl)
theorem dX2_isWanted_11 : decode cX2_isWanted 11 = .ok (.iload_n 1, 1) := dk_27 (dk_at dksX2_isWanted_0 11 rfl rfl)
theorem dX2_isWanted_12 : decode cX2_isWanted 12 = .ok (.invokevirtual 145, 3) := dk_182 0 145 (dk_at dksX2_isWanted_0 12 rfl rfl)
theorem dX2_isWanted_15 : decode cX2_isWanted 15 = .ok (.getfield 157, 3) := dk_180 0 157 (dk_at dksX2_isWanted_0 15 rfl rfl)
theorem dX2_isWanted_18 : decode cX2_isWanted 18 = .ok (.ifCond .eq 5, 3) := dk_153 0 5 (dk_at dksX2_isWanted_0 18 rfl rfl)
theorem dX2_isWanted_21 : decode cX2_isWanted 21 = .ok (.iconst 1, 1) := dk_4 (dk_at dksX2_isWanted_0 21 rfl rfl)
theorem dX2_isWanted_22 : decode cX2_isWanted 22 = .ok (.ireturn, 1) := dk_172 (dk_at dksX2_isWanted_0 22 rfl rfl)
theorem dX2_isWanted_23 : decode cX2_isWanted 23 = .ok (.iconst 0, 1) := dk_3 (dk_at dksX2_isWanted_0 23 rfl rfl)
theorem dX2_isWanted_24 : decode cX2_isWanted 24 = .ok (.istore_n 2, 1) := dk_61 (dk_at dksX2_isWanted_1 0 rfl rfl)
theorem dX2_isWanted_25 : decode cX2_isWanted 25 = .ok (.iload_n 2, 1) := dk_28 (dk_at dksX2_isWanted_1 1 rfl rfl)
theorem dX2_isWanted_26 : decode cX2_isWanted 26 = .ok (.aload_n 0, 1) := dk_42 (dk_at dksX2_isWanted_1 2 rfl rfl)
theorem dX2_isWanted_27 : decode cX2_isWanted 27 = .ok (.getfield 14, 3) := dk_180 0 14 (dk_at dksX2_isWanted_1 3 rfl rfl)
theorem dX2_isWanted_30 : decode cX2_isWanted 30 = .ok (.invokeinterface 49 1, 5) := by decide +kernel
theorem dX2_isWanted_35 : decode cX2_isWanted 35 = .ok (.if_icmp .ge 43, 3) := dk_162 0 43 (dk_at dksX2_isWanted_1 11 rfl rfl)
theorem dX2_isWanted_38 : decode cX2_isWanted 38 = .ok (.aload_n 0, 1) := dk_42 (dk_at dksX2_isWanted_1 14 rfl rfl)
theorem dX2_isWanted_39 : decode cX2_isWanted 39 = .ok (.iload_n 1, 1) := dk_27 (dk_at dksX2_isWanted_1 15 rfl rfl)
theorem dX2_isWanted_40 : decode cX2_isWanted 40 = .ok (.iload_n 2, 1) := dk_28 (dk_at dksX2_isWanted_1 16 rfl rfl)
theorem dX2_isWanted_41 : decode cX2_isWanted 41 = .ok (.invokevirtual 153, 3) := dk_182 0 153 (dk_at dksX2_isWanted_1 17 rfl rfl)
theorem dX2_isWanted_44 : decode cX2_isWanted 44 = .ok (.ifCond .eq 28, 3) := dk_153 0 28 (dk_at dksX2_isWanted_1 20 rfl rfl)
theorem dX2_isWanted_47 : decode cX2_isWanted 47 = .ok (.aload_n 0, 1) := dk_42 (dk_at dksX2_isWanted_1 23 rfl rfl)
theorem dX2_isWanted_48 : decode cX2_isWanted 48 = .ok (.aload_n 0, 1) := dk_42 (dk_at dksX2_isWanted_2 0 rfl rfl)
theorem dX2_isWanted_49 : decode cX2_isWanted 49 = .ok (.getfield 105, 3) := dk_180 0 105 (dk_at dksX2_isWanted_2 1 rfl rfl)
theorem dX2_isWanted_52 : decode cX2_isWanted 52 = .ok (.iload_n 2, 1) := dk_28 (dk_at dksX2_isWanted_2 4 rfl rfl)
theorem dX2_isWanted_53 : decode cX2_isWanted 53 = .ok (.invokevirtual 153, 3) := dk_182 0 153 (dk_at dksX2_isWanted_2 5 rfl rfl)
theorem dX2_isWanted_56 : decode cX2_isWanted 56 = .ok (.ifCond .ne 16, 3) := dk_154 0 16 (dk_at dksX2_isWanted_2 8 rfl rfl)
theorem dX2_isWanted_59 : decode cX2_isWanted 59 = .ok (.aload_n 0, 1) := dk_42 (dk_at dksX2_isWanted_2 11 rfl rfl)
theorem dX2_isWanted_60 : decode cX2_isWanted 60 = .ok (.iload_n 2, 1) := dk_28 (dk_at dksX2_isWanted_2 12 rfl rfl)
theorem dX2_isWanted_61 : decode cX2_isWanted 61 = .ok (.invokevirtual 161, 3) := dk_182 0 161 (dk_at dksX2_isWanted_2 13 rfl rfl)
theorem dX2_isWanted_64 : decode cX2_isWanted 64 = .ok (.invokevirtual 165, 3) := dk_182 0 165 (dk_at dksX2_isWanted_2 16 rfl rfl)
theorem dX2_isWanted_67 : decode cX2_isWanted 67 = .ok (.ifCond .eq 5, 3) := dk_153 0 5 (dk_at dksX2_isWanted_2 19 rfl rfl)
theorem dX2_isWanted_70 : decode cX2_isWanted 70 = .ok (.iconst 1, 1) := dk_4 (dk_at dksX2_isWanted_2 22 rfl rfl)
theorem dX2_isWanted_71 : decode cX2_isWanted 71 = .ok (.ireturn, 1) := dk_172 (dk_at dksX2_isWanted_2 23 rfl rfl)
theorem dX2_isWanted_72 : decode cX2_isWanted 72 = .ok (.iinc 2 1, 3) := dk_132 2 1 (dk_at dksX2_isWanted_3 0 rfl rfl)
theorem dX2_isWanted_75 : decode cX2_isWanted 75 = .ok (.goto (-50), 3) := dk_167 255 206 (dk_at dksX2_isWanted_3 3 rfl rfl)
theorem dX2_isWanted_78 : decode cX2_isWanted 78 = .ok (.iconst 0, 1) := dk_3 (dk_at dksX2_isWanted_3 6 rfl rfl)
theorem dX2_isWanted_79 : decode cX2_isWanted 79 = .ok (.ireturn, 1) := dk_172 (dk_at dksX2_isWanted_3 7 rfl rfl)
abbrev cX2_rank : ByteArray := prog_6_method_15_code
def yX2_rank : MethodName := ⟨RX2, "rank", "(I)I"⟩
def dkwX2_rank_3 : List UInt8 := [185, 0, 49, 1, 0, 112, 167, 0, 17, 42, 27, 182, 0, 188, 116, 167, 0, 8, 42, 27, 182, 0, 191, 172]
abbrev dktX2_rank_3 : List UInt8 := dkwX2_rank_3 ++ []
def dkwX2_rank_2 : List UInt8 := [27, 42, 180, 0, 105, 100, 42, 180, 0, 20, 185, 0, 49, 1, 0, 96, 42, 180, 0, 20]
abbrev dktX2_rank_2 : List UInt8 := dkwX2_rank_2 ++ dktX2_rank_3
def dkwX2_rank_1 : List UInt8 := [171, 0, 0, 0, 0, 64, 0, 0, 0, 2, 0, 0, 0, 0, 0, 0, 0, 26, 0, 0, 0, 1, 0, 0, 0, 55]
abbrev dktX2_rank_1 : List UInt8 := dkwX2_rank_1 ++ dktX2_rank_2
def dkwX2_rank_0 : List UInt8 := [42, 180, 0, 37, 5, 46]
abbrev dktX2_rank_0 : List UInt8 := dkwX2_rank_0 ++ dktX2_rank_1
theorem dksX2_rank_0 : cX2_rank.data.toList.drop 0 = dktX2_rank_0 := by decide +kernel
theorem dksX2_rank_1 : cX2_rank.data.toList.drop 6 = dktX2_rank_1 := dk_seg dksX2_rank_0 6 rfl rfl
theorem dksX2_rank_2 : cX2_rank.data.toList.drop 32 = dktX2_rank_2 := dk_seg dksX2_rank_1 26 rfl rfl
theorem dksX2_rank_3 : cX2_rank.data.toList.drop 52 = dktX2_rank_3 := dk_seg dksX2_rank_2 20 rfl rfl
theorem dX2_rank_0 : decode cX2_rank 0 = .ok (.aload_n 0, 1) := dk_42 (dk_at dksX2_rank_0 0 rfl rfl)
theorem dX2_rank_1 : decode cX2_rank 1 = .ok (.getfield 37, 3) := dk_180 0 37 (dk_at dksX2_rank_0 1 rfl rfl)
theorem dX2_rank_4 : decode cX2_rank 4 = .ok (.iconst 2, 1) := dk_5 (dk_at dksX2_rank_0 4 rfl rfl)
theorem dX2_rank_5 : decode cX2_rank 5 = .ok (.iaload, 1) := dk_46 (dk_at dksX2_rank_0 5 rfl rfl)
theorem dX2_rank_6 : decode cX2_rank 6 = .ok (.lookupswitch 64 #[(0, 26), (1, 55)], 26) := by decide +kernel
theorem dX2_rank_32 : decode cX2_rank 32 = .ok (.iload_n 1, 1) := dk_27 (dk_at dksX2_rank_2 0 rfl rfl)
theorem dX2_rank_33 : decode cX2_rank 33 = .ok (.aload_n 0, 1) := dk_42 (dk_at dksX2_rank_2 1 rfl rfl)
theorem dX2_rank_34 : decode cX2_rank 34 = .ok (.getfield 105, 3) := dk_180 0 105 (dk_at dksX2_rank_2 2 rfl rfl)
theorem dX2_rank_37 : decode cX2_rank 37 = .ok (.isub, 1) := dk_100 (dk_at dksX2_rank_2 5 rfl rfl)
theorem dX2_rank_38 : decode cX2_rank 38 = .ok (.aload_n 0, 1) := dk_42 (dk_at dksX2_rank_2 6 rfl rfl)
theorem dX2_rank_39 : decode cX2_rank 39 = .ok (.getfield 20, 3) := dk_180 0 20 (dk_at dksX2_rank_2 7 rfl rfl)
theorem dX2_rank_42 : decode cX2_rank 42 = .ok (.invokeinterface 49 1, 5) := by decide +kernel
theorem dX2_rank_47 : decode cX2_rank 47 = .ok (.iadd, 1) := dk_96 (dk_at dksX2_rank_2 15 rfl rfl)
theorem dX2_rank_48 : decode cX2_rank 48 = .ok (.aload_n 0, 1) := dk_42 (dk_at dksX2_rank_2 16 rfl rfl)
theorem dX2_rank_49 : decode cX2_rank 49 = .ok (.getfield 20, 3) := dk_180 0 20 (dk_at dksX2_rank_2 17 rfl rfl)
theorem dX2_rank_52 : decode cX2_rank 52 = .ok (.invokeinterface 49 1, 5) := by decide +kernel
theorem dX2_rank_57 : decode cX2_rank 57 = .ok (.irem, 1) := dk_112 (dk_at dksX2_rank_3 5 rfl rfl)
theorem dX2_rank_58 : decode cX2_rank 58 = .ok (.goto 17, 3) := dk_167 0 17 (dk_at dksX2_rank_3 6 rfl rfl)
theorem dX2_rank_61 : decode cX2_rank 61 = .ok (.aload_n 0, 1) := dk_42 (dk_at dksX2_rank_3 9 rfl rfl)
theorem dX2_rank_62 : decode cX2_rank 62 = .ok (.iload_n 1, 1) := dk_27 (dk_at dksX2_rank_3 10 rfl rfl)
theorem dX2_rank_63 : decode cX2_rank 63 = .ok (.invokevirtual 188, 3) := dk_182 0 188 (dk_at dksX2_rank_3 11 rfl rfl)
theorem dX2_rank_66 : decode cX2_rank 66 = .ok (.ineg, 1) := dk_116 (dk_at dksX2_rank_3 14 rfl rfl)
theorem dX2_rank_67 : decode cX2_rank 67 = .ok (.goto 8, 3) := dk_167 0 8 (dk_at dksX2_rank_3 15 rfl rfl)
theorem dX2_rank_70 : decode cX2_rank 70 = .ok (.aload_n 0, 1) := dk_42 (dk_at dksX2_rank_3 18 rfl rfl)
theorem dX2_rank_71 : decode cX2_rank 71 = .ok (.iload_n 1, 1) := dk_27 (dk_at dksX2_rank_3 19 rfl rfl)
theorem dX2_rank_72 : decode cX2_rank 72 = .ok (.invokevirtual 191, 3) := dk_182 0 191 (dk_at dksX2_rank_3 20 rfl rfl)
theorem dX2_rank_75 : decode cX2_rank 75 = .ok (.ireturn, 1) := dk_172 (dk_at dksX2_rank_3 23 rfl rfl)
abbrev cX2_cars : ByteArray := prog_6_method_13_code
def yX2_cars : MethodName := ⟨RX2, "cars", "(I)I"⟩
def dkwX2_cars_2 : List UInt8 := [167, 255, 213, 28, 172]
abbrev dktX2_cars_2 : List UInt8 := dkwX2_cars_2 ++ []
def dkwX2_cars_1 : List UInt8 := [153, 0, 17, 42, 29, 182, 0, 161, 180, 0, 168, 180, 0, 172, 167, 0, 4, 3, 96, 61, 132, 3, 1]
abbrev dktX2_cars_1 : List UInt8 := dkwX2_cars_1 ++ dktX2_cars_2
def dkwX2_cars_0 : List UInt8 := [3, 61, 3, 62, 29, 42, 180, 0, 14, 185, 0, 49, 1, 0, 162, 0, 36, 28, 42, 27, 29, 182, 0, 153]
abbrev dktX2_cars_0 : List UInt8 := dkwX2_cars_0 ++ dktX2_cars_1
theorem dksX2_cars_0 : cX2_cars.data.toList.drop 0 = dktX2_cars_0 := by decide +kernel
theorem dksX2_cars_1 : cX2_cars.data.toList.drop 24 = dktX2_cars_1 := dk_seg dksX2_cars_0 24 rfl rfl
theorem dksX2_cars_2 : cX2_cars.data.toList.drop 47 = dktX2_cars_2 := dk_seg dksX2_cars_1 23 rfl rfl
theorem dX2_cars_0 : decode cX2_cars 0 = .ok (.iconst 0, 1) := dk_3 (dk_at dksX2_cars_0 0 rfl rfl)
theorem dX2_cars_1 : decode cX2_cars 1 = .ok (.istore_n 2, 1) := dk_61 (dk_at dksX2_cars_0 1 rfl rfl)
theorem dX2_cars_2 : decode cX2_cars 2 = .ok (.iconst 0, 1) := dk_3 (dk_at dksX2_cars_0 2 rfl rfl)
theorem dX2_cars_3 : decode cX2_cars 3 = .ok (.istore_n 3, 1) := dk_62 (dk_at dksX2_cars_0 3 rfl rfl)
theorem dX2_cars_4 : decode cX2_cars 4 = .ok (.iload_n 3, 1) := dk_29 (dk_at dksX2_cars_0 4 rfl rfl)
theorem dX2_cars_5 : decode cX2_cars 5 = .ok (.aload_n 0, 1) := dk_42 (dk_at dksX2_cars_0 5 rfl rfl)
theorem dX2_cars_6 : decode cX2_cars 6 = .ok (.getfield 14, 3) := dk_180 0 14 (dk_at dksX2_cars_0 6 rfl rfl)
theorem dX2_cars_9 : decode cX2_cars 9 = .ok (.invokeinterface 49 1, 5) := by decide +kernel
theorem dX2_cars_14 : decode cX2_cars 14 = .ok (.if_icmp .ge 36, 3) := dk_162 0 36 (dk_at dksX2_cars_0 14 rfl rfl)
theorem dX2_cars_17 : decode cX2_cars 17 = .ok (.iload_n 2, 1) := dk_28 (dk_at dksX2_cars_0 17 rfl rfl)
theorem dX2_cars_18 : decode cX2_cars 18 = .ok (.aload_n 0, 1) := dk_42 (dk_at dksX2_cars_0 18 rfl rfl)
theorem dX2_cars_19 : decode cX2_cars 19 = .ok (.iload_n 1, 1) := dk_27 (dk_at dksX2_cars_0 19 rfl rfl)
theorem dX2_cars_20 : decode cX2_cars 20 = .ok (.iload_n 3, 1) := dk_29 (dk_at dksX2_cars_0 20 rfl rfl)
theorem dX2_cars_21 : decode cX2_cars 21 = .ok (.invokevirtual 153, 3) := dk_182 0 153 (dk_at dksX2_cars_0 21 rfl rfl)
theorem dX2_cars_24 : decode cX2_cars 24 = .ok (.ifCond .eq 17, 3) := dk_153 0 17 (dk_at dksX2_cars_1 0 rfl rfl)
theorem dX2_cars_27 : decode cX2_cars 27 = .ok (.aload_n 0, 1) := dk_42 (dk_at dksX2_cars_1 3 rfl rfl)
theorem dX2_cars_28 : decode cX2_cars 28 = .ok (.iload_n 3, 1) := dk_29 (dk_at dksX2_cars_1 4 rfl rfl)
theorem dX2_cars_29 : decode cX2_cars 29 = .ok (.invokevirtual 161, 3) := dk_182 0 161 (dk_at dksX2_cars_1 5 rfl rfl)
theorem dX2_cars_32 : decode cX2_cars 32 = .ok (.getfield 168, 3) := dk_180 0 168 (dk_at dksX2_cars_1 8 rfl rfl)
theorem dX2_cars_35 : decode cX2_cars 35 = .ok (.getfield 172, 3) := dk_180 0 172 (dk_at dksX2_cars_1 11 rfl rfl)
theorem dX2_cars_38 : decode cX2_cars 38 = .ok (.goto 4, 3) := dk_167 0 4 (dk_at dksX2_cars_1 14 rfl rfl)
theorem dX2_cars_41 : decode cX2_cars 41 = .ok (.iconst 0, 1) := dk_3 (dk_at dksX2_cars_1 17 rfl rfl)
theorem dX2_cars_42 : decode cX2_cars 42 = .ok (.iadd, 1) := dk_96 (dk_at dksX2_cars_1 18 rfl rfl)
theorem dX2_cars_43 : decode cX2_cars 43 = .ok (.istore_n 2, 1) := dk_61 (dk_at dksX2_cars_1 19 rfl rfl)
theorem dX2_cars_44 : decode cX2_cars 44 = .ok (.iinc 3 1, 3) := dk_132 3 1 (dk_at dksX2_cars_1 20 rfl rfl)
theorem dX2_cars_47 : decode cX2_cars 47 = .ok (.goto (-43), 3) := dk_167 255 213 (dk_at dksX2_cars_2 0 rfl rfl)
theorem dX2_cars_50 : decode cX2_cars 50 = .ok (.iload_n 2, 1) := dk_28 (dk_at dksX2_cars_2 3 rfl rfl)
theorem dX2_cars_51 : decode cX2_cars 51 = .ok (.ireturn, 1) := dk_172 (dk_at dksX2_cars_2 4 rfl rfl)
abbrev cX2_oldest : ByteArray := prog_6_method_14_code
def yX2_oldest : MethodName := ⟨RX2, "oldest", "(I)I"⟩
def dkwX2_oldest_2 : List UInt8 := [180, 0, 168, 3, 182, 0, 178, 184, 0, 182, 61, 132, 3, 1, 167, 255, 200, 28, 172]
abbrev dktX2_oldest_2 : List UInt8 := dkwX2_oldest_2 ++ []
def dkwX2_oldest_1 : List UInt8 := [153, 0, 34, 42, 29, 182, 0, 161, 180, 0, 168, 180, 0, 172, 158, 0, 20, 28, 42, 29, 182, 0, 161]
abbrev dktX2_oldest_1 : List UInt8 := dkwX2_oldest_1 ++ dktX2_oldest_2
def dkwX2_oldest_0 : List UInt8 := [18, 177, 61, 3, 62, 29, 42, 180, 0, 14, 185, 0, 49, 1, 0, 162, 0, 49, 42, 27, 29, 182, 0, 153]
abbrev dktX2_oldest_0 : List UInt8 := dkwX2_oldest_0 ++ dktX2_oldest_1
theorem dksX2_oldest_0 : cX2_oldest.data.toList.drop 0 = dktX2_oldest_0 := by decide +kernel
theorem dksX2_oldest_1 : cX2_oldest.data.toList.drop 24 = dktX2_oldest_1 := dk_seg dksX2_oldest_0 24 rfl rfl
theorem dksX2_oldest_2 : cX2_oldest.data.toList.drop 47 = dktX2_oldest_2 := dk_seg dksX2_oldest_1 23 rfl rfl
theorem dX2_oldest_0 : decode cX2_oldest 0 = .ok (.ldc 177, 2) := dk_18 177 (dk_at dksX2_oldest_0 0 rfl rfl)
theorem dX2_oldest_2 : decode cX2_oldest 2 = .ok (.istore_n 2, 1) := dk_61 (dk_at dksX2_oldest_0 2 rfl rfl)
theorem dX2_oldest_3 : decode cX2_oldest 3 = .ok (.iconst 0, 1) := dk_3 (dk_at dksX2_oldest_0 3 rfl rfl)
theorem dX2_oldest_4 : decode cX2_oldest 4 = .ok (.istore_n 3, 1) := dk_62 (dk_at dksX2_oldest_0 4 rfl rfl)
theorem dX2_oldest_5 : decode cX2_oldest 5 = .ok (.iload_n 3, 1) := dk_29 (dk_at dksX2_oldest_0 5 rfl rfl)
theorem dX2_oldest_6 : decode cX2_oldest 6 = .ok (.aload_n 0, 1) := dk_42 (dk_at dksX2_oldest_0 6 rfl rfl)
theorem dX2_oldest_7 : decode cX2_oldest 7 = .ok (.getfield 14, 3) := dk_180 0 14 (dk_at dksX2_oldest_0 7 rfl rfl)
theorem dX2_oldest_10 : decode cX2_oldest 10 = .ok (.invokeinterface 49 1, 5) := by decide +kernel
theorem dX2_oldest_15 : decode cX2_oldest 15 = .ok (.if_icmp .ge 49, 3) := dk_162 0 49 (dk_at dksX2_oldest_0 15 rfl rfl)
theorem dX2_oldest_18 : decode cX2_oldest 18 = .ok (.aload_n 0, 1) := dk_42 (dk_at dksX2_oldest_0 18 rfl rfl)
theorem dX2_oldest_19 : decode cX2_oldest 19 = .ok (.iload_n 1, 1) := dk_27 (dk_at dksX2_oldest_0 19 rfl rfl)
theorem dX2_oldest_20 : decode cX2_oldest 20 = .ok (.iload_n 3, 1) := dk_29 (dk_at dksX2_oldest_0 20 rfl rfl)
theorem dX2_oldest_21 : decode cX2_oldest 21 = .ok (.invokevirtual 153, 3) := dk_182 0 153 (dk_at dksX2_oldest_0 21 rfl rfl)
theorem dX2_oldest_24 : decode cX2_oldest 24 = .ok (.ifCond .eq 34, 3) := dk_153 0 34 (dk_at dksX2_oldest_1 0 rfl rfl)
theorem dX2_oldest_27 : decode cX2_oldest 27 = .ok (.aload_n 0, 1) := dk_42 (dk_at dksX2_oldest_1 3 rfl rfl)
theorem dX2_oldest_28 : decode cX2_oldest 28 = .ok (.iload_n 3, 1) := dk_29 (dk_at dksX2_oldest_1 4 rfl rfl)
theorem dX2_oldest_29 : decode cX2_oldest 29 = .ok (.invokevirtual 161, 3) := dk_182 0 161 (dk_at dksX2_oldest_1 5 rfl rfl)
theorem dX2_oldest_32 : decode cX2_oldest 32 = .ok (.getfield 168, 3) := dk_180 0 168 (dk_at dksX2_oldest_1 8 rfl rfl)
theorem dX2_oldest_35 : decode cX2_oldest 35 = .ok (.getfield 172, 3) := dk_180 0 172 (dk_at dksX2_oldest_1 11 rfl rfl)
theorem dX2_oldest_38 : decode cX2_oldest 38 = .ok (.ifCond .le 20, 3) := dk_158 0 20 (dk_at dksX2_oldest_1 14 rfl rfl)
theorem dX2_oldest_41 : decode cX2_oldest 41 = .ok (.iload_n 2, 1) := dk_28 (dk_at dksX2_oldest_1 17 rfl rfl)
theorem dX2_oldest_42 : decode cX2_oldest 42 = .ok (.aload_n 0, 1) := dk_42 (dk_at dksX2_oldest_1 18 rfl rfl)
theorem dX2_oldest_43 : decode cX2_oldest 43 = .ok (.iload_n 3, 1) := dk_29 (dk_at dksX2_oldest_1 19 rfl rfl)
theorem dX2_oldest_44 : decode cX2_oldest 44 = .ok (.invokevirtual 161, 3) := dk_182 0 161 (dk_at dksX2_oldest_1 20 rfl rfl)
theorem dX2_oldest_47 : decode cX2_oldest 47 = .ok (.getfield 168, 3) := dk_180 0 168 (dk_at dksX2_oldest_2 0 rfl rfl)
theorem dX2_oldest_50 : decode cX2_oldest 50 = .ok (.iconst 0, 1) := dk_3 (dk_at dksX2_oldest_2 3 rfl rfl)
theorem dX2_oldest_51 : decode cX2_oldest 51 = .ok (.invokevirtual 178, 3) := dk_182 0 178 (dk_at dksX2_oldest_2 4 rfl rfl)
theorem dX2_oldest_54 : decode cX2_oldest 54 = .ok (.invokestatic 182, 3) := dk_184 0 182 (dk_at dksX2_oldest_2 7 rfl rfl)
theorem dX2_oldest_57 : decode cX2_oldest 57 = .ok (.istore_n 2, 1) := dk_61 (dk_at dksX2_oldest_2 10 rfl rfl)
theorem dX2_oldest_58 : decode cX2_oldest 58 = .ok (.iinc 3 1, 3) := dk_132 3 1 (dk_at dksX2_oldest_2 11 rfl rfl)
theorem dX2_oldest_61 : decode cX2_oldest 61 = .ok (.goto (-56), 3) := dk_167 255 200 (dk_at dksX2_oldest_2 14 rfl rfl)
theorem dX2_oldest_64 : decode cX2_oldest 64 = .ok (.iload_n 2, 1) := dk_28 (dk_at dksX2_oldest_2 17 rfl rfl)
theorem dX2_oldest_65 : decode cX2_oldest 65 = .ok (.ireturn, 1) := dk_172 (dk_at dksX2_oldest_2 18 rfl rfl)
abbrev cX2_busy : ByteArray := prog_6_method_18_code
def yX2_busy : MethodName := ⟨RX2, "busy", "()I"⟩
def dkwX2_busy_1 : List UInt8 := [172, 132, 1, 1, 167, 255, 230, 2, 172]
abbrev dktX2_busy_1 : List UInt8 := dkwX2_busy_1 ++ []
def dkwX2_busy_0 : List UInt8 := [3, 60, 27, 42, 180, 0, 14, 185, 0, 49, 1, 0, 162, 0, 19, 42, 27, 182, 0, 203, 153, 0, 5, 27]
abbrev dktX2_busy_0 : List UInt8 := dkwX2_busy_0 ++ dktX2_busy_1
theorem dksX2_busy_0 : cX2_busy.data.toList.drop 0 = dktX2_busy_0 := by decide +kernel
theorem dksX2_busy_1 : cX2_busy.data.toList.drop 24 = dktX2_busy_1 := dk_seg dksX2_busy_0 24 rfl rfl
theorem dX2_busy_0 : decode cX2_busy 0 = .ok (.iconst 0, 1) := dk_3 (dk_at dksX2_busy_0 0 rfl rfl)
theorem dX2_busy_1 : decode cX2_busy 1 = .ok (.istore_n 1, 1) := dk_60 (dk_at dksX2_busy_0 1 rfl rfl)
theorem dX2_busy_2 : decode cX2_busy 2 = .ok (.iload_n 1, 1) := dk_27 (dk_at dksX2_busy_0 2 rfl rfl)
theorem dX2_busy_3 : decode cX2_busy 3 = .ok (.aload_n 0, 1) := dk_42 (dk_at dksX2_busy_0 3 rfl rfl)
theorem dX2_busy_4 : decode cX2_busy 4 = .ok (.getfield 14, 3) := dk_180 0 14 (dk_at dksX2_busy_0 4 rfl rfl)
theorem dX2_busy_7 : decode cX2_busy 7 = .ok (.invokeinterface 49 1, 5) := by decide +kernel
theorem dX2_busy_12 : decode cX2_busy 12 = .ok (.if_icmp .ge 19, 3) := dk_162 0 19 (dk_at dksX2_busy_0 12 rfl rfl)
theorem dX2_busy_15 : decode cX2_busy 15 = .ok (.aload_n 0, 1) := dk_42 (dk_at dksX2_busy_0 15 rfl rfl)
theorem dX2_busy_16 : decode cX2_busy 16 = .ok (.iload_n 1, 1) := dk_27 (dk_at dksX2_busy_0 16 rfl rfl)
theorem dX2_busy_17 : decode cX2_busy 17 = .ok (.invokevirtual 203, 3) := dk_182 0 203 (dk_at dksX2_busy_0 17 rfl rfl)
theorem dX2_busy_20 : decode cX2_busy 20 = .ok (.ifCond .eq 5, 3) := dk_153 0 5 (dk_at dksX2_busy_0 20 rfl rfl)
theorem dX2_busy_23 : decode cX2_busy 23 = .ok (.iload_n 1, 1) := dk_27 (dk_at dksX2_busy_0 23 rfl rfl)
theorem dX2_busy_24 : decode cX2_busy 24 = .ok (.ireturn, 1) := dk_172 (dk_at dksX2_busy_1 0 rfl rfl)
theorem dX2_busy_25 : decode cX2_busy 25 = .ok (.iinc 1 1, 3) := dk_132 1 1 (dk_at dksX2_busy_1 1 rfl rfl)
theorem dX2_busy_28 : decode cX2_busy 28 = .ok (.goto (-26), 3) := dk_167 255 230 (dk_at dksX2_busy_1 4 rfl rfl)
theorem dX2_busy_31 : decode cX2_busy 31 = .ok (.iconst (-1), 1) := dk_2 (dk_at dksX2_busy_1 7 rfl rfl)
theorem dX2_busy_32 : decode cX2_busy 32 = .ok (.ireturn, 1) := dk_172 (dk_at dksX2_busy_1 8 rfl rfl)
abbrev cX2_isBusyBy : ByteArray := prog_6_method_17_code
def yX2_isBusyBy : MethodName := ⟨RX2, "isBusyBy", "(I)Z"⟩
def dkwX2_isBusyBy_2 : List UInt8 := [167, 0, 4, 3, 172]
abbrev dktX2_isBusyBy_2 : List UInt8 := dkwX2_isBusyBy_2 ++ []
def dkwX2_isBusyBy_1 : List UInt8 := [154, 0, 21, 42, 180, 0, 102, 44, 180, 0, 200, 100, 42, 180, 0, 37, 4, 46, 162, 0, 7, 4]
abbrev dktX2_isBusyBy_1 : List UInt8 := dkwX2_isBusyBy_1 ++ dktX2_isBusyBy_2
def dkwX2_isBusyBy_0 : List UInt8 := [42, 27, 182, 0, 161, 77, 42, 42, 180, 0, 105, 27, 182, 0, 153, 153, 0, 32, 44, 182, 0, 165]
abbrev dktX2_isBusyBy_0 : List UInt8 := dkwX2_isBusyBy_0 ++ dktX2_isBusyBy_1
theorem dksX2_isBusyBy_0 : cX2_isBusyBy.data.toList.drop 0 = dktX2_isBusyBy_0 := by decide +kernel
theorem dksX2_isBusyBy_1 : cX2_isBusyBy.data.toList.drop 22 = dktX2_isBusyBy_1 := dk_seg dksX2_isBusyBy_0 22 rfl rfl
theorem dksX2_isBusyBy_2 : cX2_isBusyBy.data.toList.drop 44 = dktX2_isBusyBy_2 := dk_seg dksX2_isBusyBy_1 22 rfl rfl
theorem dX2_isBusyBy_0 : decode cX2_isBusyBy 0 = .ok (.aload_n 0, 1) := dk_42 (dk_at dksX2_isBusyBy_0 0 rfl rfl)
theorem dX2_isBusyBy_1 : decode cX2_isBusyBy 1 = .ok (.iload_n 1, 1) := dk_27 (dk_at dksX2_isBusyBy_0 1 rfl rfl)
theorem dX2_isBusyBy_2 : decode cX2_isBusyBy 2 = .ok (.invokevirtual 161, 3) := dk_182 0 161 (dk_at dksX2_isBusyBy_0 2 rfl rfl)
theorem dX2_isBusyBy_5 : decode cX2_isBusyBy 5 = .ok (.astore_n 2, 1) := dk_77 (dk_at dksX2_isBusyBy_0 5 rfl rfl)
theorem dX2_isBusyBy_6 : decode cX2_isBusyBy 6 = .ok (.aload_n 0, 1) := dk_42 (dk_at dksX2_isBusyBy_0 6 rfl rfl)
theorem dX2_isBusyBy_7 : decode cX2_isBusyBy 7 = .ok (.aload_n 0, 1) := dk_42 (dk_at dksX2_isBusyBy_0 7 rfl rfl)
theorem dX2_isBusyBy_8 : decode cX2_isBusyBy 8 = .ok (.getfield 105, 3) := dk_180 0 105 (dk_at dksX2_isBusyBy_0 8 rfl rfl)
theorem dX2_isBusyBy_11 : decode cX2_isBusyBy 11 = .ok (.iload_n 1, 1) := dk_27 (dk_at dksX2_isBusyBy_0 11 rfl rfl)
theorem dX2_isBusyBy_12 : decode cX2_isBusyBy 12 = .ok (.invokevirtual 153, 3) := dk_182 0 153 (dk_at dksX2_isBusyBy_0 12 rfl rfl)
theorem dX2_isBusyBy_15 : decode cX2_isBusyBy 15 = .ok (.ifCond .eq 32, 3) := dk_153 0 32 (dk_at dksX2_isBusyBy_0 15 rfl rfl)
theorem dX2_isBusyBy_18 : decode cX2_isBusyBy 18 = .ok (.aload_n 2, 1) := dk_44 (dk_at dksX2_isBusyBy_0 18 rfl rfl)
theorem dX2_isBusyBy_19 : decode cX2_isBusyBy 19 = .ok (.invokevirtual 165, 3) := dk_182 0 165 (dk_at dksX2_isBusyBy_0 19 rfl rfl)
theorem dX2_isBusyBy_22 : decode cX2_isBusyBy 22 = .ok (.ifCond .ne 21, 3) := dk_154 0 21 (dk_at dksX2_isBusyBy_1 0 rfl rfl)
theorem dX2_isBusyBy_25 : decode cX2_isBusyBy 25 = .ok (.aload_n 0, 1) := dk_42 (dk_at dksX2_isBusyBy_1 3 rfl rfl)
theorem dX2_isBusyBy_26 : decode cX2_isBusyBy 26 = .ok (.getfield 102, 3) := dk_180 0 102 (dk_at dksX2_isBusyBy_1 4 rfl rfl)
theorem dX2_isBusyBy_29 : decode cX2_isBusyBy 29 = .ok (.aload_n 2, 1) := dk_44 (dk_at dksX2_isBusyBy_1 7 rfl rfl)
theorem dX2_isBusyBy_30 : decode cX2_isBusyBy 30 = .ok (.getfield 200, 3) := dk_180 0 200 (dk_at dksX2_isBusyBy_1 8 rfl rfl)
theorem dX2_isBusyBy_33 : decode cX2_isBusyBy 33 = .ok (.isub, 1) := dk_100 (dk_at dksX2_isBusyBy_1 11 rfl rfl)
theorem dX2_isBusyBy_34 : decode cX2_isBusyBy 34 = .ok (.aload_n 0, 1) := dk_42 (dk_at dksX2_isBusyBy_1 12 rfl rfl)
theorem dX2_isBusyBy_35 : decode cX2_isBusyBy 35 = .ok (.getfield 37, 3) := dk_180 0 37 (dk_at dksX2_isBusyBy_1 13 rfl rfl)
theorem dX2_isBusyBy_38 : decode cX2_isBusyBy 38 = .ok (.iconst 1, 1) := dk_4 (dk_at dksX2_isBusyBy_1 16 rfl rfl)
theorem dX2_isBusyBy_39 : decode cX2_isBusyBy 39 = .ok (.iaload, 1) := dk_46 (dk_at dksX2_isBusyBy_1 17 rfl rfl)
theorem dX2_isBusyBy_40 : decode cX2_isBusyBy 40 = .ok (.if_icmp .ge 7, 3) := dk_162 0 7 (dk_at dksX2_isBusyBy_1 18 rfl rfl)
theorem dX2_isBusyBy_43 : decode cX2_isBusyBy 43 = .ok (.iconst 1, 1) := dk_4 (dk_at dksX2_isBusyBy_1 21 rfl rfl)
theorem dX2_isBusyBy_44 : decode cX2_isBusyBy 44 = .ok (.goto 4, 3) := dk_167 0 4 (dk_at dksX2_isBusyBy_2 0 rfl rfl)
theorem dX2_isBusyBy_47 : decode cX2_isBusyBy 47 = .ok (.iconst 0, 1) := dk_3 (dk_at dksX2_isBusyBy_2 3 rfl rfl)
theorem dX2_isBusyBy_48 : decode cX2_isBusyBy 48 = .ok (.ireturn, 1) := dk_172 (dk_at dksX2_isBusyBy_2 4 rfl rfl)
abbrev cX2_turns : ByteArray := prog_6_method_20_code
def yX2_turns : MethodName := ⟨RX2, "turns", "(I)V"⟩
def dkwX2_turns_0 : List UInt8 := [42, 27, 181, 0, 108, 42, 3, 181, 0, 111, 177]
abbrev dktX2_turns_0 : List UInt8 := dkwX2_turns_0 ++ []
theorem dksX2_turns_0 : cX2_turns.data.toList.drop 0 = dktX2_turns_0 := by decide +kernel
theorem dX2_turns_0 : decode cX2_turns 0 = .ok (.aload_n 0, 1) := dk_42 (dk_at dksX2_turns_0 0 rfl rfl)
theorem dX2_turns_1 : decode cX2_turns 1 = .ok (.iload_n 1, 1) := dk_27 (dk_at dksX2_turns_0 1 rfl rfl)
theorem dX2_turns_2 : decode cX2_turns 2 = .ok (.putfield 108, 3) := dk_181 0 108 (dk_at dksX2_turns_0 2 rfl rfl)
theorem dX2_turns_5 : decode cX2_turns 5 = .ok (.aload_n 0, 1) := dk_42 (dk_at dksX2_turns_0 5 rfl rfl)
theorem dX2_turns_6 : decode cX2_turns 6 = .ok (.iconst 0, 1) := dk_3 (dk_at dksX2_turns_0 6 rfl rfl)
theorem dX2_turns_7 : decode cX2_turns 7 = .ok (.putfield 111, 3) := dk_181 0 111 (dk_at dksX2_turns_0 7 rfl rfl)
theorem dX2_turns_10 : decode cX2_turns 10 = .ok (.return_, 1) := dk_177 (dk_at dksX2_turns_0 10 rfl rfl)
abbrev cX2_red : ByteArray := prog_6_method_22_code
def yX2_red : MethodName := ⟨RX2, "red", "()V"⟩
def dkwX2_red_2 : List UInt8 := [6, 92, 46, 4, 96, 79, 42, 3, 182, 0, 231, 177]
abbrev dktX2_red_2 : List UInt8 := dkwX2_red_2 ++ []
def dkwX2_red_1 : List UInt8 := [181, 0, 157, 42, 42, 180, 0, 105, 182, 0, 145, 89, 180, 0, 234, 4, 96, 181, 0, 234, 42, 180, 0, 41]
abbrev dktX2_red_1 : List UInt8 := dkwX2_red_1 ++ dktX2_red_2
def dkwX2_red_0 : List UInt8 := [42, 42, 180, 0, 44, 181, 0, 105, 42, 2, 181, 0, 44, 42, 42, 180, 0, 105, 182, 0, 145, 3]
abbrev dktX2_red_0 : List UInt8 := dkwX2_red_0 ++ dktX2_red_1
theorem dksX2_red_0 : cX2_red.data.toList.drop 0 = dktX2_red_0 := by decide +kernel
theorem dksX2_red_1 : cX2_red.data.toList.drop 22 = dktX2_red_1 := dk_seg dksX2_red_0 22 rfl rfl
theorem dksX2_red_2 : cX2_red.data.toList.drop 46 = dktX2_red_2 := dk_seg dksX2_red_1 24 rfl rfl
theorem dX2_red_0 : decode cX2_red 0 = .ok (.aload_n 0, 1) := dk_42 (dk_at dksX2_red_0 0 rfl rfl)
theorem dX2_red_1 : decode cX2_red 1 = .ok (.aload_n 0, 1) := dk_42 (dk_at dksX2_red_0 1 rfl rfl)
theorem dX2_red_2 : decode cX2_red 2 = .ok (.getfield 44, 3) := dk_180 0 44 (dk_at dksX2_red_0 2 rfl rfl)
theorem dX2_red_5 : decode cX2_red 5 = .ok (.putfield 105, 3) := dk_181 0 105 (dk_at dksX2_red_0 5 rfl rfl)
theorem dX2_red_8 : decode cX2_red 8 = .ok (.aload_n 0, 1) := dk_42 (dk_at dksX2_red_0 8 rfl rfl)
theorem dX2_red_9 : decode cX2_red 9 = .ok (.iconst (-1), 1) := dk_2 (dk_at dksX2_red_0 9 rfl rfl)
theorem dX2_red_10 : decode cX2_red 10 = .ok (.putfield 44, 3) := dk_181 0 44 (dk_at dksX2_red_0 10 rfl rfl)
theorem dX2_red_13 : decode cX2_red 13 = .ok (.aload_n 0, 1) := dk_42 (dk_at dksX2_red_0 13 rfl rfl)
theorem dX2_red_14 : decode cX2_red 14 = .ok (.aload_n 0, 1) := dk_42 (dk_at dksX2_red_0 14 rfl rfl)
theorem dX2_red_15 : decode cX2_red 15 = .ok (.getfield 105, 3) := dk_180 0 105 (dk_at dksX2_red_0 15 rfl rfl)
theorem dX2_red_18 : decode cX2_red 18 = .ok (.invokevirtual 145, 3) := dk_182 0 145 (dk_at dksX2_red_0 18 rfl rfl)
theorem dX2_red_21 : decode cX2_red 21 = .ok (.iconst 0, 1) := dk_3 (dk_at dksX2_red_0 21 rfl rfl)
theorem dX2_red_22 : decode cX2_red 22 = .ok (.putfield 157, 3) := dk_181 0 157 (dk_at dksX2_red_1 0 rfl rfl)
theorem dX2_red_25 : decode cX2_red 25 = .ok (.aload_n 0, 1) := dk_42 (dk_at dksX2_red_1 3 rfl rfl)
theorem dX2_red_26 : decode cX2_red 26 = .ok (.aload_n 0, 1) := dk_42 (dk_at dksX2_red_1 4 rfl rfl)
theorem dX2_red_27 : decode cX2_red 27 = .ok (.getfield 105, 3) := dk_180 0 105 (dk_at dksX2_red_1 5 rfl rfl)
theorem dX2_red_30 : decode cX2_red 30 = .ok (.invokevirtual 145, 3) := dk_182 0 145 (dk_at dksX2_red_1 8 rfl rfl)
theorem dX2_red_33 : decode cX2_red 33 = .ok (.dup, 1) := dk_89 (dk_at dksX2_red_1 11 rfl rfl)
theorem dX2_red_34 : decode cX2_red 34 = .ok (.getfield 234, 3) := dk_180 0 234 (dk_at dksX2_red_1 12 rfl rfl)
theorem dX2_red_37 : decode cX2_red 37 = .ok (.iconst 1, 1) := dk_4 (dk_at dksX2_red_1 15 rfl rfl)
theorem dX2_red_38 : decode cX2_red 38 = .ok (.iadd, 1) := dk_96 (dk_at dksX2_red_1 16 rfl rfl)
theorem dX2_red_39 : decode cX2_red 39 = .ok (.putfield 234, 3) := dk_181 0 234 (dk_at dksX2_red_1 17 rfl rfl)
theorem dX2_red_42 : decode cX2_red 42 = .ok (.aload_n 0, 1) := dk_42 (dk_at dksX2_red_1 20 rfl rfl)
theorem dX2_red_43 : decode cX2_red 43 = .ok (.getfield 41, 3) := dk_180 0 41 (dk_at dksX2_red_1 21 rfl rfl)
theorem dX2_red_46 : decode cX2_red 46 = .ok (.iconst 3, 1) := dk_6 (dk_at dksX2_red_2 0 rfl rfl)
theorem dX2_red_47 : decode cX2_red 47 = .ok (.dup2, 1) := dk_92 (dk_at dksX2_red_2 1 rfl rfl)
theorem dX2_red_48 : decode cX2_red 48 = .ok (.iaload, 1) := dk_46 (dk_at dksX2_red_2 2 rfl rfl)
theorem dX2_red_49 : decode cX2_red 49 = .ok (.iconst 1, 1) := dk_4 (dk_at dksX2_red_2 3 rfl rfl)
theorem dX2_red_50 : decode cX2_red 50 = .ok (.iadd, 1) := dk_96 (dk_at dksX2_red_2 4 rfl rfl)
theorem dX2_red_51 : decode cX2_red 51 = .ok (.iastore, 1) := dk_79 (dk_at dksX2_red_2 5 rfl rfl)
theorem dX2_red_52 : decode cX2_red 52 = .ok (.aload_n 0, 1) := dk_42 (dk_at dksX2_red_2 6 rfl rfl)
theorem dX2_red_53 : decode cX2_red 53 = .ok (.iconst 0, 1) := dk_3 (dk_at dksX2_red_2 7 rfl rfl)
theorem dX2_red_54 : decode cX2_red 54 = .ok (.invokevirtual 231, 3) := dk_182 0 231 (dk_at dksX2_red_2 8 rfl rfl)
theorem dX2_red_57 : decode cX2_red 57 = .ok (.return_, 1) := dk_177 (dk_at dksX2_red_2 11 rfl rfl)
abbrev cX2_calls : ByteArray := prog_6_method_28_code
def yX2_calls : MethodName := ⟨RX2, "calls", "(I)I"⟩
def dkwX2_calls_2 : List UInt8 := [185, 0, 49, 1, 0, 42, 186, 1, 2, 0, 0, 184, 1, 6, 172]
abbrev dktX2_calls_2 : List UInt8 := dkwX2_calls_2 ++ []
def dkwX2_calls_1 : List UInt8 := [182, 0, 145, 4, 181, 0, 157, 42, 180, 0, 41, 8, 92, 46, 4, 96, 79, 42, 180, 0, 20]
abbrev dktX2_calls_1 : List UInt8 := dkwX2_calls_1 ++ dktX2_calls_2
def dkwX2_calls_0 : List UInt8 := [27, 42, 180, 0, 105, 159, 0, 14, 42, 27, 182, 0, 145, 180, 0, 157, 153, 0, 6, 16, 252, 172, 42, 27]
abbrev dktX2_calls_0 : List UInt8 := dkwX2_calls_0 ++ dktX2_calls_1
theorem dksX2_calls_0 : cX2_calls.data.toList.drop 0 = dktX2_calls_0 := by decide +kernel
theorem dksX2_calls_1 : cX2_calls.data.toList.drop 24 = dktX2_calls_1 := dk_seg dksX2_calls_0 24 rfl rfl
theorem dksX2_calls_2 : cX2_calls.data.toList.drop 45 = dktX2_calls_2 := dk_seg dksX2_calls_1 21 rfl rfl
theorem dX2_calls_0 : decode cX2_calls 0 = .ok (.iload_n 1, 1) := dk_27 (dk_at dksX2_calls_0 0 rfl rfl)
theorem dX2_calls_1 : decode cX2_calls 1 = .ok (.aload_n 0, 1) := dk_42 (dk_at dksX2_calls_0 1 rfl rfl)
theorem dX2_calls_2 : decode cX2_calls 2 = .ok (.getfield 105, 3) := dk_180 0 105 (dk_at dksX2_calls_0 2 rfl rfl)
theorem dX2_calls_5 : decode cX2_calls 5 = .ok (.if_icmp .eq 14, 3) := dk_159 0 14 (dk_at dksX2_calls_0 5 rfl rfl)
theorem dX2_calls_8 : decode cX2_calls 8 = .ok (.aload_n 0, 1) := dk_42 (dk_at dksX2_calls_0 8 rfl rfl)
theorem dX2_calls_9 : decode cX2_calls 9 = .ok (.iload_n 1, 1) := dk_27 (dk_at dksX2_calls_0 9 rfl rfl)
theorem dX2_calls_10 : decode cX2_calls 10 = .ok (.invokevirtual 145, 3) := dk_182 0 145 (dk_at dksX2_calls_0 10 rfl rfl)
theorem dX2_calls_13 : decode cX2_calls 13 = .ok (.getfield 157, 3) := dk_180 0 157 (dk_at dksX2_calls_0 13 rfl rfl)
theorem dX2_calls_16 : decode cX2_calls 16 = .ok (.ifCond .eq 6, 3) := dk_153 0 6 (dk_at dksX2_calls_0 16 rfl rfl)
theorem dX2_calls_19 : decode cX2_calls 19 = .ok (.bipush (-4), 2) := dk_16 252 (dk_at dksX2_calls_0 19 rfl rfl)
theorem dX2_calls_21 : decode cX2_calls 21 = .ok (.ireturn, 1) := dk_172 (dk_at dksX2_calls_0 21 rfl rfl)
theorem dX2_calls_22 : decode cX2_calls 22 = .ok (.aload_n 0, 1) := dk_42 (dk_at dksX2_calls_0 22 rfl rfl)
theorem dX2_calls_23 : decode cX2_calls 23 = .ok (.iload_n 1, 1) := dk_27 (dk_at dksX2_calls_0 23 rfl rfl)
theorem dX2_calls_24 : decode cX2_calls 24 = .ok (.invokevirtual 145, 3) := dk_182 0 145 (dk_at dksX2_calls_1 0 rfl rfl)
theorem dX2_calls_27 : decode cX2_calls 27 = .ok (.iconst 1, 1) := dk_4 (dk_at dksX2_calls_1 3 rfl rfl)
theorem dX2_calls_28 : decode cX2_calls 28 = .ok (.putfield 157, 3) := dk_181 0 157 (dk_at dksX2_calls_1 4 rfl rfl)
theorem dX2_calls_31 : decode cX2_calls 31 = .ok (.aload_n 0, 1) := dk_42 (dk_at dksX2_calls_1 7 rfl rfl)
theorem dX2_calls_32 : decode cX2_calls 32 = .ok (.getfield 41, 3) := dk_180 0 41 (dk_at dksX2_calls_1 8 rfl rfl)
theorem dX2_calls_35 : decode cX2_calls 35 = .ok (.iconst 5, 1) := dk_8 (dk_at dksX2_calls_1 11 rfl rfl)
theorem dX2_calls_36 : decode cX2_calls 36 = .ok (.dup2, 1) := dk_92 (dk_at dksX2_calls_1 12 rfl rfl)
theorem dX2_calls_37 : decode cX2_calls 37 = .ok (.iaload, 1) := dk_46 (dk_at dksX2_calls_1 13 rfl rfl)
theorem dX2_calls_38 : decode cX2_calls 38 = .ok (.iconst 1, 1) := dk_4 (dk_at dksX2_calls_1 14 rfl rfl)
theorem dX2_calls_39 : decode cX2_calls 39 = .ok (.iadd, 1) := dk_96 (dk_at dksX2_calls_1 15 rfl rfl)
theorem dX2_calls_40 : decode cX2_calls 40 = .ok (.iastore, 1) := dk_79 (dk_at dksX2_calls_1 16 rfl rfl)
theorem dX2_calls_41 : decode cX2_calls 41 = .ok (.aload_n 0, 1) := dk_42 (dk_at dksX2_calls_1 17 rfl rfl)
theorem dX2_calls_42 : decode cX2_calls 42 = .ok (.getfield 20, 3) := dk_180 0 20 (dk_at dksX2_calls_1 18 rfl rfl)
theorem dX2_calls_45 : decode cX2_calls 45 = .ok (.invokeinterface 49 1, 5) := by decide +kernel
theorem dX2_calls_50 : decode cX2_calls 50 = .ok (.aload_n 0, 1) := dk_42 (dk_at dksX2_calls_2 5 rfl rfl)
theorem dX2_calls_51 : decode cX2_calls 51 = .ok (.invokedynamic 258, 5) := by decide +kernel
theorem dX2_calls_56 : decode cX2_calls 56 = .ok (.invokestatic 262, 3) := dk_184 1 6 (dk_at dksX2_calls_2 11 rfl rfl)
theorem dX2_calls_59 : decode cX2_calls 59 = .ok (.ireturn, 1) := dk_172 (dk_at dksX2_calls_2 14 rfl rfl)
abbrev cX2_lambda_calls_0 : ByteArray := prog_6_method_51_code
def yX2_lambda_calls_0 : MethodName := ⟨RX2, "lambda$calls$0", "(I)Z"⟩
def dkwX2_lambda_calls_0_0 : List UInt8 := [42, 27, 182, 0, 145, 180, 0, 157, 172]
abbrev dktX2_lambda_calls_0_0 : List UInt8 := dkwX2_lambda_calls_0_0 ++ []
theorem dksX2_lambda_calls_0_0 : cX2_lambda_calls_0.data.toList.drop 0 = dktX2_lambda_calls_0_0 := by decide +kernel
theorem dX2_lambda_calls_0_0 : decode cX2_lambda_calls_0 0 = .ok (.aload_n 0, 1) := dk_42 (dk_at dksX2_lambda_calls_0_0 0 rfl rfl)
theorem dX2_lambda_calls_0_1 : decode cX2_lambda_calls_0 1 = .ok (.iload_n 1, 1) := dk_27 (dk_at dksX2_lambda_calls_0_0 1 rfl rfl)
theorem dX2_lambda_calls_0_2 : decode cX2_lambda_calls_0 2 = .ok (.invokevirtual 145, 3) := dk_182 0 145 (dk_at dksX2_lambda_calls_0_0 2 rfl rfl)
theorem dX2_lambda_calls_0_5 : decode cX2_lambda_calls_0 5 = .ok (.getfield 157, 3) := dk_180 0 157 (dk_at dksX2_lambda_calls_0_0 5 rfl rfl)
theorem dX2_lambda_calls_0_8 : decode cX2_lambda_calls_0 8 = .ok (.ireturn, 1) := dk_172 (dk_at dksX2_lambda_calls_0_0 8 rfl rfl)
abbrev cX2_sets : ByteArray := prog_6_method_32_code
def yX2_sets : MethodName := ⟨RX2, "sets", "(II)I"⟩
def dkwX2_sets_0 : List UInt8 := [42, 180, 0, 37, 27, 46, 62, 42, 180, 0, 37, 27, 28, 79, 29, 172]
abbrev dktX2_sets_0 : List UInt8 := dkwX2_sets_0 ++ []
theorem dksX2_sets_0 : cX2_sets.data.toList.drop 0 = dktX2_sets_0 := by decide +kernel
theorem dX2_sets_0 : decode cX2_sets 0 = .ok (.aload_n 0, 1) := dk_42 (dk_at dksX2_sets_0 0 rfl rfl)
theorem dX2_sets_1 : decode cX2_sets 1 = .ok (.getfield 37, 3) := dk_180 0 37 (dk_at dksX2_sets_0 1 rfl rfl)
theorem dX2_sets_4 : decode cX2_sets 4 = .ok (.iload_n 1, 1) := dk_27 (dk_at dksX2_sets_0 4 rfl rfl)
theorem dX2_sets_5 : decode cX2_sets 5 = .ok (.iaload, 1) := dk_46 (dk_at dksX2_sets_0 5 rfl rfl)
theorem dX2_sets_6 : decode cX2_sets 6 = .ok (.istore_n 3, 1) := dk_62 (dk_at dksX2_sets_0 6 rfl rfl)
theorem dX2_sets_7 : decode cX2_sets 7 = .ok (.aload_n 0, 1) := dk_42 (dk_at dksX2_sets_0 7 rfl rfl)
theorem dX2_sets_8 : decode cX2_sets 8 = .ok (.getfield 37, 3) := dk_180 0 37 (dk_at dksX2_sets_0 8 rfl rfl)
theorem dX2_sets_11 : decode cX2_sets 11 = .ok (.iload_n 1, 1) := dk_27 (dk_at dksX2_sets_0 11 rfl rfl)
theorem dX2_sets_12 : decode cX2_sets 12 = .ok (.iload_n 2, 1) := dk_28 (dk_at dksX2_sets_0 12 rfl rfl)
theorem dX2_sets_13 : decode cX2_sets 13 = .ok (.iastore, 1) := dk_79 (dk_at dksX2_sets_0 13 rfl rfl)
theorem dX2_sets_14 : decode cX2_sets 14 = .ok (.iload_n 3, 1) := dk_29 (dk_at dksX2_sets_0 14 rfl rfl)
theorem dX2_sets_15 : decode cX2_sets 15 = .ok (.ireturn, 1) := dk_172 (dk_at dksX2_sets_0 15 rfl rfl)
abbrev cX2_phases : ByteArray := prog_6_method_31_code
def yX2_phases : MethodName := ⟨RX2, "phases", "(IZI)I"⟩
def dkwX2_phases_3 : List UInt8 := [181, 0, 221, 21, 5, 172]
abbrev dktX2_phases_3 : List UInt8 := dkwX2_phases_3 ++ []
def dkwX2_phases_2 : List UInt8 := [25, 4, 180, 0, 221, 54, 5, 28, 153, 0, 12, 25, 4, 29, 181, 0, 215, 167, 0, 9, 25, 4, 29]
abbrev dktX2_phases_2 : List UInt8 := dkwX2_phases_2 ++ dktX2_phases_3
def dkwX2_phases_1 : List UInt8 := [25, 4, 180, 0, 215, 162, 0, 6, 16, 250, 172, 28, 153, 0, 11, 25, 4, 180, 0, 215, 167, 0, 8]
abbrev dktX2_phases_1 : List UInt8 := dkwX2_phases_1 ++ dktX2_phases_2
def dkwX2_phases_0 : List UInt8 := [42, 27, 182, 0, 145, 58, 4, 28, 153, 0, 15, 29, 25, 4, 180, 0, 221, 164, 0, 18, 167, 0, 12, 29]
abbrev dktX2_phases_0 : List UInt8 := dkwX2_phases_0 ++ dktX2_phases_1
theorem dksX2_phases_0 : cX2_phases.data.toList.drop 0 = dktX2_phases_0 := by decide +kernel
theorem dksX2_phases_1 : cX2_phases.data.toList.drop 24 = dktX2_phases_1 := dk_seg dksX2_phases_0 24 rfl rfl
theorem dksX2_phases_2 : cX2_phases.data.toList.drop 47 = dktX2_phases_2 := dk_seg dksX2_phases_1 23 rfl rfl
theorem dksX2_phases_3 : cX2_phases.data.toList.drop 70 = dktX2_phases_3 := dk_seg dksX2_phases_2 23 rfl rfl
theorem dX2_phases_0 : decode cX2_phases 0 = .ok (.aload_n 0, 1) := dk_42 (dk_at dksX2_phases_0 0 rfl rfl)
theorem dX2_phases_1 : decode cX2_phases 1 = .ok (.iload_n 1, 1) := dk_27 (dk_at dksX2_phases_0 1 rfl rfl)
theorem dX2_phases_2 : decode cX2_phases 2 = .ok (.invokevirtual 145, 3) := dk_182 0 145 (dk_at dksX2_phases_0 2 rfl rfl)
theorem dX2_phases_5 : decode cX2_phases 5 = .ok (.astore 4, 2) := dk_58 4 (dk_at dksX2_phases_0 5 rfl rfl)
theorem dX2_phases_7 : decode cX2_phases 7 = .ok (.iload_n 2, 1) := dk_28 (dk_at dksX2_phases_0 7 rfl rfl)
theorem dX2_phases_8 : decode cX2_phases 8 = .ok (.ifCond .eq 15, 3) := dk_153 0 15 (dk_at dksX2_phases_0 8 rfl rfl)
theorem dX2_phases_11 : decode cX2_phases 11 = .ok (.iload_n 3, 1) := dk_29 (dk_at dksX2_phases_0 11 rfl rfl)
theorem dX2_phases_12 : decode cX2_phases 12 = .ok (.aload 4, 2) := dk_25 4 (dk_at dksX2_phases_0 12 rfl rfl)
theorem dX2_phases_14 : decode cX2_phases 14 = .ok (.getfield 221, 3) := dk_180 0 221 (dk_at dksX2_phases_0 14 rfl rfl)
theorem dX2_phases_17 : decode cX2_phases 17 = .ok (.if_icmp .le 18, 3) := dk_164 0 18 (dk_at dksX2_phases_0 17 rfl rfl)
theorem dX2_phases_20 : decode cX2_phases 20 = .ok (.goto 12, 3) := dk_167 0 12 (dk_at dksX2_phases_0 20 rfl rfl)
theorem dX2_phases_23 : decode cX2_phases 23 = .ok (.iload_n 3, 1) := dk_29 (dk_at dksX2_phases_0 23 rfl rfl)
theorem dX2_phases_24 : decode cX2_phases 24 = .ok (.aload 4, 2) := dk_25 4 (dk_at dksX2_phases_1 0 rfl rfl)
theorem dX2_phases_26 : decode cX2_phases 26 = .ok (.getfield 215, 3) := dk_180 0 215 (dk_at dksX2_phases_1 2 rfl rfl)
theorem dX2_phases_29 : decode cX2_phases 29 = .ok (.if_icmp .ge 6, 3) := dk_162 0 6 (dk_at dksX2_phases_1 5 rfl rfl)
theorem dX2_phases_32 : decode cX2_phases 32 = .ok (.bipush (-6), 2) := dk_16 250 (dk_at dksX2_phases_1 8 rfl rfl)
theorem dX2_phases_34 : decode cX2_phases 34 = .ok (.ireturn, 1) := dk_172 (dk_at dksX2_phases_1 10 rfl rfl)
theorem dX2_phases_35 : decode cX2_phases 35 = .ok (.iload_n 2, 1) := dk_28 (dk_at dksX2_phases_1 11 rfl rfl)
theorem dX2_phases_36 : decode cX2_phases 36 = .ok (.ifCond .eq 11, 3) := dk_153 0 11 (dk_at dksX2_phases_1 12 rfl rfl)
theorem dX2_phases_39 : decode cX2_phases 39 = .ok (.aload 4, 2) := dk_25 4 (dk_at dksX2_phases_1 15 rfl rfl)
theorem dX2_phases_41 : decode cX2_phases 41 = .ok (.getfield 215, 3) := dk_180 0 215 (dk_at dksX2_phases_1 17 rfl rfl)
theorem dX2_phases_44 : decode cX2_phases 44 = .ok (.goto 8, 3) := dk_167 0 8 (dk_at dksX2_phases_1 20 rfl rfl)
theorem dX2_phases_47 : decode cX2_phases 47 = .ok (.aload 4, 2) := dk_25 4 (dk_at dksX2_phases_2 0 rfl rfl)
theorem dX2_phases_49 : decode cX2_phases 49 = .ok (.getfield 221, 3) := dk_180 0 221 (dk_at dksX2_phases_2 2 rfl rfl)
theorem dX2_phases_52 : decode cX2_phases 52 = .ok (.istore 5, 2) := dk_54 5 (dk_at dksX2_phases_2 5 rfl rfl)
theorem dX2_phases_54 : decode cX2_phases 54 = .ok (.iload_n 2, 1) := dk_28 (dk_at dksX2_phases_2 7 rfl rfl)
theorem dX2_phases_55 : decode cX2_phases 55 = .ok (.ifCond .eq 12, 3) := dk_153 0 12 (dk_at dksX2_phases_2 8 rfl rfl)
theorem dX2_phases_58 : decode cX2_phases 58 = .ok (.aload 4, 2) := dk_25 4 (dk_at dksX2_phases_2 11 rfl rfl)
theorem dX2_phases_60 : decode cX2_phases 60 = .ok (.iload_n 3, 1) := dk_29 (dk_at dksX2_phases_2 13 rfl rfl)
theorem dX2_phases_61 : decode cX2_phases 61 = .ok (.putfield 215, 3) := dk_181 0 215 (dk_at dksX2_phases_2 14 rfl rfl)
theorem dX2_phases_64 : decode cX2_phases 64 = .ok (.goto 9, 3) := dk_167 0 9 (dk_at dksX2_phases_2 17 rfl rfl)
theorem dX2_phases_67 : decode cX2_phases 67 = .ok (.aload 4, 2) := dk_25 4 (dk_at dksX2_phases_2 20 rfl rfl)
theorem dX2_phases_69 : decode cX2_phases 69 = .ok (.iload_n 3, 1) := dk_29 (dk_at dksX2_phases_2 22 rfl rfl)
theorem dX2_phases_70 : decode cX2_phases 70 = .ok (.putfield 221, 3) := dk_181 0 221 (dk_at dksX2_phases_3 0 rfl rfl)
theorem dX2_phases_73 : decode cX2_phases 73 = .ok (.iload 5, 2) := dk_21 5 (dk_at dksX2_phases_3 3 rfl rfl)
theorem dX2_phases_75 : decode cX2_phases 75 = .ok (.ireturn, 1) := dk_172 (dk_at dksX2_phases_3 5 rfl rfl)
abbrev cX2_comes : ByteArray := prog_6_method_27_code
def yX2_comes : MethodName := ⟨RX2, "comes", "(II)I"⟩
def dkwX2_comes_3 : List UInt8 := [180, 0, 168, 180, 0, 172, 172]
abbrev dktX2_comes_3 : List UInt8 := dkwX2_comes_3 ++ []
def dkwX2_comes_2 : List UInt8 := [167, 255, 236, 45, 42, 180, 0, 102, 181, 0, 200, 42, 180, 0, 41, 3, 92, 46, 28, 96, 79, 45]
abbrev dktX2_comes_2 : List UInt8 := dkwX2_comes_2 ++ dktX2_comes_3
def dkwX2_comes_1 : List UInt8 := [54, 4, 21, 4, 28, 162, 0, 20, 45, 180, 0, 168, 42, 180, 0, 102, 182, 0, 255, 132, 4, 1]
abbrev dktX2_comes_1 : List UInt8 := dkwX2_comes_1 ++ dktX2_comes_2
def dkwX2_comes_0 : List UInt8 := [42, 27, 182, 0, 161, 78, 45, 180, 0, 168, 180, 0, 172, 28, 96, 16, 99, 164, 0, 6, 16, 254, 172, 3]
abbrev dktX2_comes_0 : List UInt8 := dkwX2_comes_0 ++ dktX2_comes_1
theorem dksX2_comes_0 : cX2_comes.data.toList.drop 0 = dktX2_comes_0 := by decide +kernel
theorem dksX2_comes_1 : cX2_comes.data.toList.drop 24 = dktX2_comes_1 := dk_seg dksX2_comes_0 24 rfl rfl
theorem dksX2_comes_2 : cX2_comes.data.toList.drop 46 = dktX2_comes_2 := dk_seg dksX2_comes_1 22 rfl rfl
theorem dksX2_comes_3 : cX2_comes.data.toList.drop 68 = dktX2_comes_3 := dk_seg dksX2_comes_2 22 rfl rfl
theorem dX2_comes_0 : decode cX2_comes 0 = .ok (.aload_n 0, 1) := dk_42 (dk_at dksX2_comes_0 0 rfl rfl)
theorem dX2_comes_1 : decode cX2_comes 1 = .ok (.iload_n 1, 1) := dk_27 (dk_at dksX2_comes_0 1 rfl rfl)
theorem dX2_comes_2 : decode cX2_comes 2 = .ok (.invokevirtual 161, 3) := dk_182 0 161 (dk_at dksX2_comes_0 2 rfl rfl)
theorem dX2_comes_5 : decode cX2_comes 5 = .ok (.astore_n 3, 1) := dk_78 (dk_at dksX2_comes_0 5 rfl rfl)
theorem dX2_comes_6 : decode cX2_comes 6 = .ok (.aload_n 3, 1) := dk_45 (dk_at dksX2_comes_0 6 rfl rfl)
theorem dX2_comes_7 : decode cX2_comes 7 = .ok (.getfield 168, 3) := dk_180 0 168 (dk_at dksX2_comes_0 7 rfl rfl)
theorem dX2_comes_10 : decode cX2_comes 10 = .ok (.getfield 172, 3) := dk_180 0 172 (dk_at dksX2_comes_0 10 rfl rfl)
theorem dX2_comes_13 : decode cX2_comes 13 = .ok (.iload_n 2, 1) := dk_28 (dk_at dksX2_comes_0 13 rfl rfl)
theorem dX2_comes_14 : decode cX2_comes 14 = .ok (.iadd, 1) := dk_96 (dk_at dksX2_comes_0 14 rfl rfl)
theorem dX2_comes_15 : decode cX2_comes 15 = .ok (.bipush 99, 2) := dk_16 99 (dk_at dksX2_comes_0 15 rfl rfl)
theorem dX2_comes_17 : decode cX2_comes 17 = .ok (.if_icmp .le 6, 3) := dk_164 0 6 (dk_at dksX2_comes_0 17 rfl rfl)
theorem dX2_comes_20 : decode cX2_comes 20 = .ok (.bipush (-2), 2) := dk_16 254 (dk_at dksX2_comes_0 20 rfl rfl)
theorem dX2_comes_22 : decode cX2_comes 22 = .ok (.ireturn, 1) := dk_172 (dk_at dksX2_comes_0 22 rfl rfl)
theorem dX2_comes_23 : decode cX2_comes 23 = .ok (.iconst 0, 1) := dk_3 (dk_at dksX2_comes_0 23 rfl rfl)
theorem dX2_comes_24 : decode cX2_comes 24 = .ok (.istore 4, 2) := dk_54 4 (dk_at dksX2_comes_1 0 rfl rfl)
theorem dX2_comes_26 : decode cX2_comes 26 = .ok (.iload 4, 2) := dk_21 4 (dk_at dksX2_comes_1 2 rfl rfl)
theorem dX2_comes_28 : decode cX2_comes 28 = .ok (.iload_n 2, 1) := dk_28 (dk_at dksX2_comes_1 4 rfl rfl)
theorem dX2_comes_29 : decode cX2_comes 29 = .ok (.if_icmp .ge 20, 3) := dk_162 0 20 (dk_at dksX2_comes_1 5 rfl rfl)
theorem dX2_comes_32 : decode cX2_comes 32 = .ok (.aload_n 3, 1) := dk_45 (dk_at dksX2_comes_1 8 rfl rfl)
theorem dX2_comes_33 : decode cX2_comes 33 = .ok (.getfield 168, 3) := dk_180 0 168 (dk_at dksX2_comes_1 9 rfl rfl)
theorem dX2_comes_36 : decode cX2_comes 36 = .ok (.aload_n 0, 1) := dk_42 (dk_at dksX2_comes_1 12 rfl rfl)
theorem dX2_comes_37 : decode cX2_comes 37 = .ok (.getfield 102, 3) := dk_180 0 102 (dk_at dksX2_comes_1 13 rfl rfl)
theorem dX2_comes_40 : decode cX2_comes 40 = .ok (.invokevirtual 255, 3) := dk_182 0 255 (dk_at dksX2_comes_1 16 rfl rfl)
theorem dX2_comes_43 : decode cX2_comes 43 = .ok (.iinc 4 1, 3) := dk_132 4 1 (dk_at dksX2_comes_1 19 rfl rfl)
theorem dX2_comes_46 : decode cX2_comes 46 = .ok (.goto (-20), 3) := dk_167 255 236 (dk_at dksX2_comes_2 0 rfl rfl)
theorem dX2_comes_49 : decode cX2_comes 49 = .ok (.aload_n 3, 1) := dk_45 (dk_at dksX2_comes_2 3 rfl rfl)
theorem dX2_comes_50 : decode cX2_comes 50 = .ok (.aload_n 0, 1) := dk_42 (dk_at dksX2_comes_2 4 rfl rfl)
theorem dX2_comes_51 : decode cX2_comes 51 = .ok (.getfield 102, 3) := dk_180 0 102 (dk_at dksX2_comes_2 5 rfl rfl)
theorem dX2_comes_54 : decode cX2_comes 54 = .ok (.putfield 200, 3) := dk_181 0 200 (dk_at dksX2_comes_2 8 rfl rfl)
theorem dX2_comes_57 : decode cX2_comes 57 = .ok (.aload_n 0, 1) := dk_42 (dk_at dksX2_comes_2 11 rfl rfl)
theorem dX2_comes_58 : decode cX2_comes 58 = .ok (.getfield 41, 3) := dk_180 0 41 (dk_at dksX2_comes_2 12 rfl rfl)
theorem dX2_comes_61 : decode cX2_comes 61 = .ok (.iconst 0, 1) := dk_3 (dk_at dksX2_comes_2 15 rfl rfl)
theorem dX2_comes_62 : decode cX2_comes 62 = .ok (.dup2, 1) := dk_92 (dk_at dksX2_comes_2 16 rfl rfl)
theorem dX2_comes_63 : decode cX2_comes 63 = .ok (.iaload, 1) := dk_46 (dk_at dksX2_comes_2 17 rfl rfl)
theorem dX2_comes_64 : decode cX2_comes 64 = .ok (.iload_n 2, 1) := dk_28 (dk_at dksX2_comes_2 18 rfl rfl)
theorem dX2_comes_65 : decode cX2_comes 65 = .ok (.iadd, 1) := dk_96 (dk_at dksX2_comes_2 19 rfl rfl)
theorem dX2_comes_66 : decode cX2_comes 66 = .ok (.iastore, 1) := dk_79 (dk_at dksX2_comes_2 20 rfl rfl)
theorem dX2_comes_67 : decode cX2_comes 67 = .ok (.aload_n 3, 1) := dk_45 (dk_at dksX2_comes_2 21 rfl rfl)
theorem dX2_comes_68 : decode cX2_comes 68 = .ok (.getfield 168, 3) := dk_180 0 168 (dk_at dksX2_comes_3 0 rfl rfl)
theorem dX2_comes_71 : decode cX2_comes 71 = .ok (.getfield 172, 3) := dk_180 0 172 (dk_at dksX2_comes_3 3 rfl rfl)
theorem dX2_comes_74 : decode cX2_comes 74 = .ok (.ireturn, 1) := dk_172 (dk_at dksX2_comes_3 6 rfl rfl)
abbrev cX2_breaks : ByteArray := prog_6_method_29_code
def yX2_breaks : MethodName := ⟨RX2, "breaks", "(IZ)I"⟩
def dkwX2_breaks_1 : List UInt8 := [42, 180, 0, 14, 185, 0, 49, 1, 0, 42, 186, 1, 15, 0, 0, 184, 1, 6, 172]
abbrev dktX2_breaks_1 : List UInt8 := dkwX2_breaks_1 ++ []
def dkwX2_breaks_0 : List UInt8 := [42, 27, 182, 0, 161, 180, 1, 12, 28, 160, 0, 6, 16, 252, 172, 42, 27, 182, 0, 161, 28, 181, 1, 12]
abbrev dktX2_breaks_0 : List UInt8 := dkwX2_breaks_0 ++ dktX2_breaks_1
theorem dksX2_breaks_0 : cX2_breaks.data.toList.drop 0 = dktX2_breaks_0 := by decide +kernel
theorem dksX2_breaks_1 : cX2_breaks.data.toList.drop 24 = dktX2_breaks_1 := dk_seg dksX2_breaks_0 24 rfl rfl
theorem dX2_breaks_0 : decode cX2_breaks 0 = .ok (.aload_n 0, 1) := dk_42 (dk_at dksX2_breaks_0 0 rfl rfl)
theorem dX2_breaks_1 : decode cX2_breaks 1 = .ok (.iload_n 1, 1) := dk_27 (dk_at dksX2_breaks_0 1 rfl rfl)
theorem dX2_breaks_2 : decode cX2_breaks 2 = .ok (.invokevirtual 161, 3) := dk_182 0 161 (dk_at dksX2_breaks_0 2 rfl rfl)
theorem dX2_breaks_5 : decode cX2_breaks 5 = .ok (.getfield 268, 3) := dk_180 1 12 (dk_at dksX2_breaks_0 5 rfl rfl)
theorem dX2_breaks_8 : decode cX2_breaks 8 = .ok (.iload_n 2, 1) := dk_28 (dk_at dksX2_breaks_0 8 rfl rfl)
theorem dX2_breaks_9 : decode cX2_breaks 9 = .ok (.if_icmp .ne 6, 3) := dk_160 0 6 (dk_at dksX2_breaks_0 9 rfl rfl)
theorem dX2_breaks_12 : decode cX2_breaks 12 = .ok (.bipush (-4), 2) := dk_16 252 (dk_at dksX2_breaks_0 12 rfl rfl)
theorem dX2_breaks_14 : decode cX2_breaks 14 = .ok (.ireturn, 1) := dk_172 (dk_at dksX2_breaks_0 14 rfl rfl)
theorem dX2_breaks_15 : decode cX2_breaks 15 = .ok (.aload_n 0, 1) := dk_42 (dk_at dksX2_breaks_0 15 rfl rfl)
theorem dX2_breaks_16 : decode cX2_breaks 16 = .ok (.iload_n 1, 1) := dk_27 (dk_at dksX2_breaks_0 16 rfl rfl)
theorem dX2_breaks_17 : decode cX2_breaks 17 = .ok (.invokevirtual 161, 3) := dk_182 0 161 (dk_at dksX2_breaks_0 17 rfl rfl)
theorem dX2_breaks_20 : decode cX2_breaks 20 = .ok (.iload_n 2, 1) := dk_28 (dk_at dksX2_breaks_0 20 rfl rfl)
theorem dX2_breaks_21 : decode cX2_breaks 21 = .ok (.putfield 268, 3) := dk_181 1 12 (dk_at dksX2_breaks_0 21 rfl rfl)
theorem dX2_breaks_24 : decode cX2_breaks 24 = .ok (.aload_n 0, 1) := dk_42 (dk_at dksX2_breaks_1 0 rfl rfl)
theorem dX2_breaks_25 : decode cX2_breaks 25 = .ok (.getfield 14, 3) := dk_180 0 14 (dk_at dksX2_breaks_1 1 rfl rfl)
theorem dX2_breaks_28 : decode cX2_breaks 28 = .ok (.invokeinterface 49 1, 5) := by decide +kernel
theorem dX2_breaks_33 : decode cX2_breaks 33 = .ok (.aload_n 0, 1) := dk_42 (dk_at dksX2_breaks_1 9 rfl rfl)
theorem dX2_breaks_34 : decode cX2_breaks 34 = .ok (.invokedynamic 271, 5) := by decide +kernel
theorem dX2_breaks_39 : decode cX2_breaks 39 = .ok (.invokestatic 262, 3) := dk_184 1 6 (dk_at dksX2_breaks_1 15 rfl rfl)
theorem dX2_breaks_42 : decode cX2_breaks 42 = .ok (.ireturn, 1) := dk_172 (dk_at dksX2_breaks_1 18 rfl rfl)
abbrev cX2_lambda_breaks_1 : ByteArray := prog_6_method_50_code
def yX2_lambda_breaks_1 : MethodName := ⟨RX2, "lambda$breaks$1", "(I)Z"⟩
def dkwX2_lambda_breaks_1_0 : List UInt8 := [42, 27, 182, 0, 161, 180, 1, 12, 172]
abbrev dktX2_lambda_breaks_1_0 : List UInt8 := dkwX2_lambda_breaks_1_0 ++ []
theorem dksX2_lambda_breaks_1_0 : cX2_lambda_breaks_1.data.toList.drop 0 = dktX2_lambda_breaks_1_0 := by decide +kernel
theorem dX2_lambda_breaks_1_0 : decode cX2_lambda_breaks_1 0 = .ok (.aload_n 0, 1) := dk_42 (dk_at dksX2_lambda_breaks_1_0 0 rfl rfl)
theorem dX2_lambda_breaks_1_1 : decode cX2_lambda_breaks_1 1 = .ok (.iload_n 1, 1) := dk_27 (dk_at dksX2_lambda_breaks_1_0 1 rfl rfl)
theorem dX2_lambda_breaks_1_2 : decode cX2_lambda_breaks_1 2 = .ok (.invokevirtual 161, 3) := dk_182 0 161 (dk_at dksX2_lambda_breaks_1_0 2 rfl rfl)
theorem dX2_lambda_breaks_1_5 : decode cX2_lambda_breaks_1 5 = .ok (.getfield 268, 3) := dk_180 1 12 (dk_at dksX2_lambda_breaks_1_0 5 rfl rfl)
theorem dX2_lambda_breaks_1_8 : decode cX2_lambda_breaks_1 8 = .ok (.ireturn, 1) := dk_172 (dk_at dksX2_lambda_breaks_1_0 8 rfl rfl)
abbrev cX2_copy : ByteArray := prog_6_method_2_code
def yX2_copy : MethodName := ⟨RX2, "copy", "()LLoopSignals$Junction;"⟩
def dkwX2_copy_8 : List UInt8 := [180, 0, 111, 181, 0, 111, 43, 176]
abbrev dktX2_copy_8 : List UInt8 := dkwX2_copy_8 ++ []
def dkwX2_copy_7 : List UInt8 := [180, 0, 105, 181, 0, 105, 43, 42, 180, 0, 44, 181, 0, 44, 43, 42, 180, 0, 108, 181, 0, 108, 43, 42]
abbrev dktX2_copy_7 : List UInt8 := dkwX2_copy_7 ++ dktX2_copy_8
def dkwX2_copy_6 : List UInt8 := [180, 0, 41, 3, 43, 180, 0, 41, 3, 16, 7, 184, 0, 96, 43, 42, 180, 0, 102, 181, 0, 102, 43, 42]
abbrev dktX2_copy_6 : List UInt8 := dkwX2_copy_6 ++ dktX2_copy_7
def dkwX2_copy_5 : List UInt8 := [45, 182, 0, 92, 167, 255, 232, 42, 180, 0, 37, 3, 43, 180, 0, 37, 3, 6, 184, 0, 96, 42]
abbrev dktX2_copy_5 : List UInt8 := dkwX2_copy_5 ++ dktX2_copy_6
def dkwX2_copy_4 : List UInt8 := [182, 0, 77, 77, 44, 185, 0, 81, 1, 0, 153, 0, 21, 44, 185, 0, 87, 1, 0, 192, 0, 90, 78, 43]
abbrev dktX2_copy_4 : List UInt8 := dkwX2_copy_4 ++ dktX2_copy_5
def dkwX2_copy_3 : List UInt8 := [185, 0, 55, 2, 0, 192, 0, 69, 182, 0, 71, 182, 0, 74, 132, 2, 1, 167, 255, 220, 42, 180, 0, 33]
abbrev dktX2_copy_3 : List UInt8 := dkwX2_copy_3 ++ dktX2_copy_4
def dkwX2_copy_2 : List UInt8 := [167, 255, 220, 3, 61, 28, 42, 180, 0, 20, 185, 0, 49, 1, 0, 162, 0, 29, 43, 42, 180, 0, 20, 28]
abbrev dktX2_copy_2 : List UInt8 := dkwX2_copy_2 ++ dktX2_copy_3
def dkwX2_copy_1 : List UInt8 := [42, 180, 0, 14, 28, 185, 0, 55, 2, 0, 192, 0, 59, 182, 0, 61, 182, 0, 65, 132, 2, 1]
abbrev dktX2_copy_1 : List UInt8 := dkwX2_copy_1 ++ dktX2_copy_2
def dkwX2_copy_0 : List UInt8 := [187, 0, 15, 89, 183, 0, 48, 76, 3, 61, 28, 42, 180, 0, 14, 185, 0, 49, 1, 0, 162, 0, 29, 43]
abbrev dktX2_copy_0 : List UInt8 := dkwX2_copy_0 ++ dktX2_copy_1
theorem dksX2_copy_0 : cX2_copy.data.toList.drop 0 = dktX2_copy_0 := by decide +kernel
theorem dksX2_copy_1 : cX2_copy.data.toList.drop 24 = dktX2_copy_1 := dk_seg dksX2_copy_0 24 rfl rfl
theorem dksX2_copy_2 : cX2_copy.data.toList.drop 46 = dktX2_copy_2 := dk_seg dksX2_copy_1 22 rfl rfl
theorem dksX2_copy_3 : cX2_copy.data.toList.drop 70 = dktX2_copy_3 := dk_seg dksX2_copy_2 24 rfl rfl
theorem dksX2_copy_4 : cX2_copy.data.toList.drop 94 = dktX2_copy_4 := dk_seg dksX2_copy_3 24 rfl rfl
theorem dksX2_copy_5 : cX2_copy.data.toList.drop 118 = dktX2_copy_5 := dk_seg dksX2_copy_4 24 rfl rfl
theorem dksX2_copy_6 : cX2_copy.data.toList.drop 140 = dktX2_copy_6 := dk_seg dksX2_copy_5 22 rfl rfl
theorem dksX2_copy_7 : cX2_copy.data.toList.drop 164 = dktX2_copy_7 := dk_seg dksX2_copy_6 24 rfl rfl
theorem dksX2_copy_8 : cX2_copy.data.toList.drop 188 = dktX2_copy_8 := dk_seg dksX2_copy_7 24 rfl rfl
theorem dX2_copy_0 : decode cX2_copy 0 = .ok (.new 15, 3) := dk_187 0 15 (dk_at dksX2_copy_0 0 rfl rfl)
theorem dX2_copy_3 : decode cX2_copy 3 = .ok (.dup, 1) := dk_89 (dk_at dksX2_copy_0 3 rfl rfl)
theorem dX2_copy_4 : decode cX2_copy 4 = .ok (.invokespecial 48, 3) := dk_183 0 48 (dk_at dksX2_copy_0 4 rfl rfl)
theorem dX2_copy_7 : decode cX2_copy 7 = .ok (.astore_n 1, 1) := dk_76 (dk_at dksX2_copy_0 7 rfl rfl)
theorem dX2_copy_8 : decode cX2_copy 8 = .ok (.iconst 0, 1) := dk_3 (dk_at dksX2_copy_0 8 rfl rfl)
theorem dX2_copy_9 : decode cX2_copy 9 = .ok (.istore_n 2, 1) := dk_61 (dk_at dksX2_copy_0 9 rfl rfl)
theorem dX2_copy_10 : decode cX2_copy 10 = .ok (.iload_n 2, 1) := dk_28 (dk_at dksX2_copy_0 10 rfl rfl)
theorem dX2_copy_11 : decode cX2_copy 11 = .ok (.aload_n 0, 1) := dk_42 (dk_at dksX2_copy_0 11 rfl rfl)
theorem dX2_copy_12 : decode cX2_copy 12 = .ok (.getfield 14, 3) := dk_180 0 14 (dk_at dksX2_copy_0 12 rfl rfl)
theorem dX2_copy_15 : decode cX2_copy 15 = .ok (.invokeinterface 49 1, 5) := by decide +kernel
theorem dX2_copy_20 : decode cX2_copy 20 = .ok (.if_icmp .ge 29, 3) := dk_162 0 29 (dk_at dksX2_copy_0 20 rfl rfl)
theorem dX2_copy_23 : decode cX2_copy 23 = .ok (.aload_n 1, 1) := dk_43 (dk_at dksX2_copy_0 23 rfl rfl)
theorem dX2_copy_24 : decode cX2_copy 24 = .ok (.aload_n 0, 1) := dk_42 (dk_at dksX2_copy_1 0 rfl rfl)
theorem dX2_copy_25 : decode cX2_copy 25 = .ok (.getfield 14, 3) := dk_180 0 14 (dk_at dksX2_copy_1 1 rfl rfl)
theorem dX2_copy_28 : decode cX2_copy 28 = .ok (.iload_n 2, 1) := dk_28 (dk_at dksX2_copy_1 4 rfl rfl)
theorem dX2_copy_29 : decode cX2_copy 29 = .ok (.invokeinterface 55 2, 5) := by decide +kernel
theorem dX2_copy_34 : decode cX2_copy 34 = .ok (.checkcast 59, 3) := dk_192 0 59 (dk_at dksX2_copy_1 10 rfl rfl)
theorem dX2_copy_37 : decode cX2_copy 37 = .ok (.invokevirtual 61, 3) := dk_182 0 61 (dk_at dksX2_copy_1 13 rfl rfl)
theorem dX2_copy_40 : decode cX2_copy 40 = .ok (.invokevirtual 65, 3) := dk_182 0 65 (dk_at dksX2_copy_1 16 rfl rfl)
theorem dX2_copy_43 : decode cX2_copy 43 = .ok (.iinc 2 1, 3) := dk_132 2 1 (dk_at dksX2_copy_1 19 rfl rfl)
theorem dX2_copy_46 : decode cX2_copy 46 = .ok (.goto (-36), 3) := dk_167 255 220 (dk_at dksX2_copy_2 0 rfl rfl)
theorem dX2_copy_49 : decode cX2_copy 49 = .ok (.iconst 0, 1) := dk_3 (dk_at dksX2_copy_2 3 rfl rfl)
theorem dX2_copy_50 : decode cX2_copy 50 = .ok (.istore_n 2, 1) := dk_61 (dk_at dksX2_copy_2 4 rfl rfl)
theorem dX2_copy_51 : decode cX2_copy 51 = .ok (.iload_n 2, 1) := dk_28 (dk_at dksX2_copy_2 5 rfl rfl)
theorem dX2_copy_52 : decode cX2_copy 52 = .ok (.aload_n 0, 1) := dk_42 (dk_at dksX2_copy_2 6 rfl rfl)
theorem dX2_copy_53 : decode cX2_copy 53 = .ok (.getfield 20, 3) := dk_180 0 20 (dk_at dksX2_copy_2 7 rfl rfl)
theorem dX2_copy_56 : decode cX2_copy 56 = .ok (.invokeinterface 49 1, 5) := by decide +kernel
theorem dX2_copy_61 : decode cX2_copy 61 = .ok (.if_icmp .ge 29, 3) := dk_162 0 29 (dk_at dksX2_copy_2 15 rfl rfl)
theorem dX2_copy_64 : decode cX2_copy 64 = .ok (.aload_n 1, 1) := dk_43 (dk_at dksX2_copy_2 18 rfl rfl)
theorem dX2_copy_65 : decode cX2_copy 65 = .ok (.aload_n 0, 1) := dk_42 (dk_at dksX2_copy_2 19 rfl rfl)
theorem dX2_copy_66 : decode cX2_copy 66 = .ok (.getfield 20, 3) := dk_180 0 20 (dk_at dksX2_copy_2 20 rfl rfl)
theorem dX2_copy_69 : decode cX2_copy 69 = .ok (.iload_n 2, 1) := dk_28 (dk_at dksX2_copy_2 23 rfl rfl)
theorem dX2_copy_70 : decode cX2_copy 70 = .ok (.invokeinterface 55 2, 5) := by decide +kernel
theorem dX2_copy_75 : decode cX2_copy 75 = .ok (.checkcast 69, 3) := dk_192 0 69 (dk_at dksX2_copy_3 5 rfl rfl)
theorem dX2_copy_78 : decode cX2_copy 78 = .ok (.invokevirtual 71, 3) := dk_182 0 71 (dk_at dksX2_copy_3 8 rfl rfl)
theorem dX2_copy_81 : decode cX2_copy 81 = .ok (.invokevirtual 74, 3) := dk_182 0 74 (dk_at dksX2_copy_3 11 rfl rfl)
theorem dX2_copy_84 : decode cX2_copy 84 = .ok (.iinc 2 1, 3) := dk_132 2 1 (dk_at dksX2_copy_3 14 rfl rfl)
theorem dX2_copy_87 : decode cX2_copy 87 = .ok (.goto (-36), 3) := dk_167 255 220 (dk_at dksX2_copy_3 17 rfl rfl)
theorem dX2_copy_90 : decode cX2_copy 90 = .ok (.aload_n 0, 1) := dk_42 (dk_at dksX2_copy_3 20 rfl rfl)
theorem dX2_copy_91 : decode cX2_copy 91 = .ok (.getfield 33, 3) := dk_180 0 33 (dk_at dksX2_copy_3 21 rfl rfl)
theorem dX2_copy_94 : decode cX2_copy 94 = .ok (.invokevirtual 77, 3) := dk_182 0 77 (dk_at dksX2_copy_4 0 rfl rfl)
theorem dX2_copy_97 : decode cX2_copy 97 = .ok (.astore_n 2, 1) := dk_77 (dk_at dksX2_copy_4 3 rfl rfl)
theorem dX2_copy_98 : decode cX2_copy 98 = .ok (.aload_n 2, 1) := dk_44 (dk_at dksX2_copy_4 4 rfl rfl)
theorem dX2_copy_99 : decode cX2_copy 99 = .ok (.invokeinterface 81 1, 5) := by decide +kernel
theorem dX2_copy_104 : decode cX2_copy 104 = .ok (.ifCond .eq 21, 3) := dk_153 0 21 (dk_at dksX2_copy_4 10 rfl rfl)
theorem dX2_copy_107 : decode cX2_copy 107 = .ok (.aload_n 2, 1) := dk_44 (dk_at dksX2_copy_4 13 rfl rfl)
theorem dX2_copy_108 : decode cX2_copy 108 = .ok (.invokeinterface 87 1, 5) := by decide +kernel
theorem dX2_copy_113 : decode cX2_copy 113 = .ok (.checkcast 90, 3) := dk_192 0 90 (dk_at dksX2_copy_4 19 rfl rfl)
theorem dX2_copy_116 : decode cX2_copy 116 = .ok (.astore_n 3, 1) := dk_78 (dk_at dksX2_copy_4 22 rfl rfl)
theorem dX2_copy_117 : decode cX2_copy 117 = .ok (.aload_n 1, 1) := dk_43 (dk_at dksX2_copy_4 23 rfl rfl)
theorem dX2_copy_118 : decode cX2_copy 118 = .ok (.aload_n 3, 1) := dk_45 (dk_at dksX2_copy_5 0 rfl rfl)
theorem dX2_copy_119 : decode cX2_copy 119 = .ok (.invokevirtual 92, 3) := dk_182 0 92 (dk_at dksX2_copy_5 1 rfl rfl)
theorem dX2_copy_122 : decode cX2_copy 122 = .ok (.goto (-24), 3) := dk_167 255 232 (dk_at dksX2_copy_5 4 rfl rfl)
theorem dX2_copy_125 : decode cX2_copy 125 = .ok (.aload_n 0, 1) := dk_42 (dk_at dksX2_copy_5 7 rfl rfl)
theorem dX2_copy_126 : decode cX2_copy 126 = .ok (.getfield 37, 3) := dk_180 0 37 (dk_at dksX2_copy_5 8 rfl rfl)
theorem dX2_copy_129 : decode cX2_copy 129 = .ok (.iconst 0, 1) := dk_3 (dk_at dksX2_copy_5 11 rfl rfl)
theorem dX2_copy_130 : decode cX2_copy 130 = .ok (.aload_n 1, 1) := dk_43 (dk_at dksX2_copy_5 12 rfl rfl)
theorem dX2_copy_131 : decode cX2_copy 131 = .ok (.getfield 37, 3) := dk_180 0 37 (dk_at dksX2_copy_5 13 rfl rfl)
theorem dX2_copy_134 : decode cX2_copy 134 = .ok (.iconst 0, 1) := dk_3 (dk_at dksX2_copy_5 16 rfl rfl)
theorem dX2_copy_135 : decode cX2_copy 135 = .ok (.iconst 3, 1) := dk_6 (dk_at dksX2_copy_5 17 rfl rfl)
theorem dX2_copy_136 : decode cX2_copy 136 = .ok (.invokestatic 96, 3) := dk_184 0 96 (dk_at dksX2_copy_5 18 rfl rfl)
theorem dX2_copy_139 : decode cX2_copy 139 = .ok (.aload_n 0, 1) := dk_42 (dk_at dksX2_copy_5 21 rfl rfl)
theorem dX2_copy_140 : decode cX2_copy 140 = .ok (.getfield 41, 3) := dk_180 0 41 (dk_at dksX2_copy_6 0 rfl rfl)
theorem dX2_copy_143 : decode cX2_copy 143 = .ok (.iconst 0, 1) := dk_3 (dk_at dksX2_copy_6 3 rfl rfl)
theorem dX2_copy_144 : decode cX2_copy 144 = .ok (.aload_n 1, 1) := dk_43 (dk_at dksX2_copy_6 4 rfl rfl)
theorem dX2_copy_145 : decode cX2_copy 145 = .ok (.getfield 41, 3) := dk_180 0 41 (dk_at dksX2_copy_6 5 rfl rfl)
theorem dX2_copy_148 : decode cX2_copy 148 = .ok (.iconst 0, 1) := dk_3 (dk_at dksX2_copy_6 8 rfl rfl)
theorem dX2_copy_149 : decode cX2_copy 149 = .ok (.bipush 7, 2) := dk_16 7 (dk_at dksX2_copy_6 9 rfl rfl)
theorem dX2_copy_151 : decode cX2_copy 151 = .ok (.invokestatic 96, 3) := dk_184 0 96 (dk_at dksX2_copy_6 11 rfl rfl)
theorem dX2_copy_154 : decode cX2_copy 154 = .ok (.aload_n 1, 1) := dk_43 (dk_at dksX2_copy_6 14 rfl rfl)
theorem dX2_copy_155 : decode cX2_copy 155 = .ok (.aload_n 0, 1) := dk_42 (dk_at dksX2_copy_6 15 rfl rfl)
theorem dX2_copy_156 : decode cX2_copy 156 = .ok (.getfield 102, 3) := dk_180 0 102 (dk_at dksX2_copy_6 16 rfl rfl)
theorem dX2_copy_159 : decode cX2_copy 159 = .ok (.putfield 102, 3) := dk_181 0 102 (dk_at dksX2_copy_6 19 rfl rfl)
theorem dX2_copy_162 : decode cX2_copy 162 = .ok (.aload_n 1, 1) := dk_43 (dk_at dksX2_copy_6 22 rfl rfl)
theorem dX2_copy_163 : decode cX2_copy 163 = .ok (.aload_n 0, 1) := dk_42 (dk_at dksX2_copy_6 23 rfl rfl)
theorem dX2_copy_164 : decode cX2_copy 164 = .ok (.getfield 105, 3) := dk_180 0 105 (dk_at dksX2_copy_7 0 rfl rfl)
theorem dX2_copy_167 : decode cX2_copy 167 = .ok (.putfield 105, 3) := dk_181 0 105 (dk_at dksX2_copy_7 3 rfl rfl)
theorem dX2_copy_170 : decode cX2_copy 170 = .ok (.aload_n 1, 1) := dk_43 (dk_at dksX2_copy_7 6 rfl rfl)
theorem dX2_copy_171 : decode cX2_copy 171 = .ok (.aload_n 0, 1) := dk_42 (dk_at dksX2_copy_7 7 rfl rfl)
theorem dX2_copy_172 : decode cX2_copy 172 = .ok (.getfield 44, 3) := dk_180 0 44 (dk_at dksX2_copy_7 8 rfl rfl)
theorem dX2_copy_175 : decode cX2_copy 175 = .ok (.putfield 44, 3) := dk_181 0 44 (dk_at dksX2_copy_7 11 rfl rfl)
theorem dX2_copy_178 : decode cX2_copy 178 = .ok (.aload_n 1, 1) := dk_43 (dk_at dksX2_copy_7 14 rfl rfl)
theorem dX2_copy_179 : decode cX2_copy 179 = .ok (.aload_n 0, 1) := dk_42 (dk_at dksX2_copy_7 15 rfl rfl)
theorem dX2_copy_180 : decode cX2_copy 180 = .ok (.getfield 108, 3) := dk_180 0 108 (dk_at dksX2_copy_7 16 rfl rfl)
theorem dX2_copy_183 : decode cX2_copy 183 = .ok (.putfield 108, 3) := dk_181 0 108 (dk_at dksX2_copy_7 19 rfl rfl)
theorem dX2_copy_186 : decode cX2_copy 186 = .ok (.aload_n 1, 1) := dk_43 (dk_at dksX2_copy_7 22 rfl rfl)
theorem dX2_copy_187 : decode cX2_copy 187 = .ok (.aload_n 0, 1) := dk_42 (dk_at dksX2_copy_7 23 rfl rfl)
theorem dX2_copy_188 : decode cX2_copy 188 = .ok (.getfield 111, 3) := dk_180 0 111 (dk_at dksX2_copy_8 0 rfl rfl)
theorem dX2_copy_191 : decode cX2_copy 191 = .ok (.putfield 111, 3) := dk_181 0 111 (dk_at dksX2_copy_8 3 rfl rfl)
theorem dX2_copy_194 : decode cX2_copy 194 = .ok (.aload_n 1, 1) := dk_43 (dk_at dksX2_copy_8 6 rfl rfl)
theorem dX2_copy_195 : decode cX2_copy 195 = .ok (.areturn, 1) := dk_176 (dk_at dksX2_copy_8 7 rfl rfl)
abbrev cX2_gap : ByteArray := prog_6_method_40_code
def yX2_gap : MethodName := ⟨RX2, "gap", "()I"⟩
def dkwX2_gap_4 : List UInt8 := [186, 1, 55, 0, 0, 184, 1, 6, 96, 172]
abbrev dktX2_gap_4 : List UInt8 := dkwX2_gap_4 ++ []
def dkwX2_gap_3 : List UInt8 := [167, 255, 228, 132, 2, 1, 167, 255, 205, 27, 42, 180, 0, 20, 185, 0, 49, 1, 0, 42]
abbrev dktX2_gap_3 : List UInt8 := dkwX2_gap_3 ++ dktX2_gap_4
def dkwX2_gap_2 : List UInt8 := [185, 0, 49, 1, 0, 162, 0, 21, 27, 42, 28, 29, 182, 1, 52, 184, 0, 227, 96, 60, 132, 3, 1]
abbrev dktX2_gap_2 : List UInt8 := dkwX2_gap_2 ++ dktX2_gap_3
def dkwX2_gap_1 : List UInt8 := [28, 42, 180, 0, 14, 185, 0, 49, 1, 0, 162, 0, 44, 28, 4, 96, 62, 29, 42, 180, 0, 14]
abbrev dktX2_gap_1 : List UInt8 := dkwX2_gap_1 ++ dktX2_gap_2
def dkwX2_gap_0 : List UInt8 := [42, 180, 0, 41, 3, 46, 42, 180, 0, 41, 4, 46, 100, 42, 182, 1, 46, 100, 184, 1, 49, 60, 3, 61]
abbrev dktX2_gap_0 : List UInt8 := dkwX2_gap_0 ++ dktX2_gap_1
theorem dksX2_gap_0 : cX2_gap.data.toList.drop 0 = dktX2_gap_0 := by decide +kernel
theorem dksX2_gap_1 : cX2_gap.data.toList.drop 24 = dktX2_gap_1 := dk_seg dksX2_gap_0 24 rfl rfl
theorem dksX2_gap_2 : cX2_gap.data.toList.drop 46 = dktX2_gap_2 := dk_seg dksX2_gap_1 22 rfl rfl
theorem dksX2_gap_3 : cX2_gap.data.toList.drop 69 = dktX2_gap_3 := dk_seg dksX2_gap_2 23 rfl rfl
theorem dksX2_gap_4 : cX2_gap.data.toList.drop 89 = dktX2_gap_4 := dk_seg dksX2_gap_3 20 rfl rfl
theorem dX2_gap_0 : decode cX2_gap 0 = .ok (.aload_n 0, 1) := dk_42 (dk_at dksX2_gap_0 0 rfl rfl)
theorem dX2_gap_1 : decode cX2_gap 1 = .ok (.getfield 41, 3) := dk_180 0 41 (dk_at dksX2_gap_0 1 rfl rfl)
theorem dX2_gap_4 : decode cX2_gap 4 = .ok (.iconst 0, 1) := dk_3 (dk_at dksX2_gap_0 4 rfl rfl)
theorem dX2_gap_5 : decode cX2_gap 5 = .ok (.iaload, 1) := dk_46 (dk_at dksX2_gap_0 5 rfl rfl)
theorem dX2_gap_6 : decode cX2_gap 6 = .ok (.aload_n 0, 1) := dk_42 (dk_at dksX2_gap_0 6 rfl rfl)
theorem dX2_gap_7 : decode cX2_gap 7 = .ok (.getfield 41, 3) := dk_180 0 41 (dk_at dksX2_gap_0 7 rfl rfl)
theorem dX2_gap_10 : decode cX2_gap 10 = .ok (.iconst 1, 1) := dk_4 (dk_at dksX2_gap_0 10 rfl rfl)
theorem dX2_gap_11 : decode cX2_gap 11 = .ok (.iaload, 1) := dk_46 (dk_at dksX2_gap_0 11 rfl rfl)
theorem dX2_gap_12 : decode cX2_gap 12 = .ok (.isub, 1) := dk_100 (dk_at dksX2_gap_0 12 rfl rfl)
theorem dX2_gap_13 : decode cX2_gap 13 = .ok (.aload_n 0, 1) := dk_42 (dk_at dksX2_gap_0 13 rfl rfl)
theorem dX2_gap_14 : decode cX2_gap 14 = .ok (.invokevirtual 302, 3) := dk_182 1 46 (dk_at dksX2_gap_0 14 rfl rfl)
theorem dX2_gap_17 : decode cX2_gap 17 = .ok (.isub, 1) := dk_100 (dk_at dksX2_gap_0 17 rfl rfl)
theorem dX2_gap_18 : decode cX2_gap 18 = .ok (.invokestatic 305, 3) := dk_184 1 49 (dk_at dksX2_gap_0 18 rfl rfl)
theorem dX2_gap_21 : decode cX2_gap 21 = .ok (.istore_n 1, 1) := dk_60 (dk_at dksX2_gap_0 21 rfl rfl)
theorem dX2_gap_22 : decode cX2_gap 22 = .ok (.iconst 0, 1) := dk_3 (dk_at dksX2_gap_0 22 rfl rfl)
theorem dX2_gap_23 : decode cX2_gap 23 = .ok (.istore_n 2, 1) := dk_61 (dk_at dksX2_gap_0 23 rfl rfl)
theorem dX2_gap_24 : decode cX2_gap 24 = .ok (.iload_n 2, 1) := dk_28 (dk_at dksX2_gap_1 0 rfl rfl)
theorem dX2_gap_25 : decode cX2_gap 25 = .ok (.aload_n 0, 1) := dk_42 (dk_at dksX2_gap_1 1 rfl rfl)
theorem dX2_gap_26 : decode cX2_gap 26 = .ok (.getfield 14, 3) := dk_180 0 14 (dk_at dksX2_gap_1 2 rfl rfl)
theorem dX2_gap_29 : decode cX2_gap 29 = .ok (.invokeinterface 49 1, 5) := by decide +kernel
theorem dX2_gap_34 : decode cX2_gap 34 = .ok (.if_icmp .ge 44, 3) := dk_162 0 44 (dk_at dksX2_gap_1 10 rfl rfl)
theorem dX2_gap_37 : decode cX2_gap 37 = .ok (.iload_n 2, 1) := dk_28 (dk_at dksX2_gap_1 13 rfl rfl)
theorem dX2_gap_38 : decode cX2_gap 38 = .ok (.iconst 1, 1) := dk_4 (dk_at dksX2_gap_1 14 rfl rfl)
theorem dX2_gap_39 : decode cX2_gap 39 = .ok (.iadd, 1) := dk_96 (dk_at dksX2_gap_1 15 rfl rfl)
theorem dX2_gap_40 : decode cX2_gap 40 = .ok (.istore_n 3, 1) := dk_62 (dk_at dksX2_gap_1 16 rfl rfl)
theorem dX2_gap_41 : decode cX2_gap 41 = .ok (.iload_n 3, 1) := dk_29 (dk_at dksX2_gap_1 17 rfl rfl)
theorem dX2_gap_42 : decode cX2_gap 42 = .ok (.aload_n 0, 1) := dk_42 (dk_at dksX2_gap_1 18 rfl rfl)
theorem dX2_gap_43 : decode cX2_gap 43 = .ok (.getfield 14, 3) := dk_180 0 14 (dk_at dksX2_gap_1 19 rfl rfl)
theorem dX2_gap_46 : decode cX2_gap 46 = .ok (.invokeinterface 49 1, 5) := by decide +kernel
theorem dX2_gap_51 : decode cX2_gap 51 = .ok (.if_icmp .ge 21, 3) := dk_162 0 21 (dk_at dksX2_gap_2 5 rfl rfl)
theorem dX2_gap_54 : decode cX2_gap 54 = .ok (.iload_n 1, 1) := dk_27 (dk_at dksX2_gap_2 8 rfl rfl)
theorem dX2_gap_55 : decode cX2_gap 55 = .ok (.aload_n 0, 1) := dk_42 (dk_at dksX2_gap_2 9 rfl rfl)
theorem dX2_gap_56 : decode cX2_gap 56 = .ok (.iload_n 2, 1) := dk_28 (dk_at dksX2_gap_2 10 rfl rfl)
theorem dX2_gap_57 : decode cX2_gap 57 = .ok (.iload_n 3, 1) := dk_29 (dk_at dksX2_gap_2 11 rfl rfl)
theorem dX2_gap_58 : decode cX2_gap 58 = .ok (.invokevirtual 308, 3) := dk_182 1 52 (dk_at dksX2_gap_2 12 rfl rfl)
theorem dX2_gap_61 : decode cX2_gap 61 = .ok (.invokestatic 227, 3) := dk_184 0 227 (dk_at dksX2_gap_2 15 rfl rfl)
theorem dX2_gap_64 : decode cX2_gap 64 = .ok (.iadd, 1) := dk_96 (dk_at dksX2_gap_2 18 rfl rfl)
theorem dX2_gap_65 : decode cX2_gap 65 = .ok (.istore_n 1, 1) := dk_60 (dk_at dksX2_gap_2 19 rfl rfl)
theorem dX2_gap_66 : decode cX2_gap 66 = .ok (.iinc 3 1, 3) := dk_132 3 1 (dk_at dksX2_gap_2 20 rfl rfl)
theorem dX2_gap_69 : decode cX2_gap 69 = .ok (.goto (-28), 3) := dk_167 255 228 (dk_at dksX2_gap_3 0 rfl rfl)
theorem dX2_gap_72 : decode cX2_gap 72 = .ok (.iinc 2 1, 3) := dk_132 2 1 (dk_at dksX2_gap_3 3 rfl rfl)
theorem dX2_gap_75 : decode cX2_gap 75 = .ok (.goto (-51), 3) := dk_167 255 205 (dk_at dksX2_gap_3 6 rfl rfl)
theorem dX2_gap_78 : decode cX2_gap 78 = .ok (.iload_n 1, 1) := dk_27 (dk_at dksX2_gap_3 9 rfl rfl)
theorem dX2_gap_79 : decode cX2_gap 79 = .ok (.aload_n 0, 1) := dk_42 (dk_at dksX2_gap_3 10 rfl rfl)
theorem dX2_gap_80 : decode cX2_gap 80 = .ok (.getfield 20, 3) := dk_180 0 20 (dk_at dksX2_gap_3 11 rfl rfl)
theorem dX2_gap_83 : decode cX2_gap 83 = .ok (.invokeinterface 49 1, 5) := by decide +kernel
theorem dX2_gap_88 : decode cX2_gap 88 = .ok (.aload_n 0, 1) := dk_42 (dk_at dksX2_gap_3 19 rfl rfl)
theorem dX2_gap_89 : decode cX2_gap 89 = .ok (.invokedynamic 311, 5) := by decide +kernel
theorem dX2_gap_94 : decode cX2_gap 94 = .ok (.invokestatic 262, 3) := dk_184 1 6 (dk_at dksX2_gap_4 5 rfl rfl)
theorem dX2_gap_97 : decode cX2_gap 97 = .ok (.iadd, 1) := dk_96 (dk_at dksX2_gap_4 8 rfl rfl)
theorem dX2_gap_98 : decode cX2_gap 98 = .ok (.ireturn, 1) := dk_172 (dk_at dksX2_gap_4 9 rfl rfl)
abbrev cX2_waiting : ByteArray := prog_6_method_26_code
def yX2_waiting : MethodName := ⟨RX2, "waiting", "()I"⟩
def dkwX2_waiting_1 : List UInt8 := [180, 0, 168, 180, 0, 172, 96, 60, 132, 2, 1, 167, 255, 226, 27, 172]
abbrev dktX2_waiting_1 : List UInt8 := dkwX2_waiting_1 ++ []
def dkwX2_waiting_0 : List UInt8 := [3, 60, 3, 61, 28, 42, 180, 0, 14, 185, 0, 49, 1, 0, 162, 0, 23, 27, 42, 28, 182, 0, 161]
abbrev dktX2_waiting_0 : List UInt8 := dkwX2_waiting_0 ++ dktX2_waiting_1
theorem dksX2_waiting_0 : cX2_waiting.data.toList.drop 0 = dktX2_waiting_0 := by decide +kernel
theorem dksX2_waiting_1 : cX2_waiting.data.toList.drop 23 = dktX2_waiting_1 := dk_seg dksX2_waiting_0 23 rfl rfl
theorem dX2_waiting_0 : decode cX2_waiting 0 = .ok (.iconst 0, 1) := dk_3 (dk_at dksX2_waiting_0 0 rfl rfl)
theorem dX2_waiting_1 : decode cX2_waiting 1 = .ok (.istore_n 1, 1) := dk_60 (dk_at dksX2_waiting_0 1 rfl rfl)
theorem dX2_waiting_2 : decode cX2_waiting 2 = .ok (.iconst 0, 1) := dk_3 (dk_at dksX2_waiting_0 2 rfl rfl)
theorem dX2_waiting_3 : decode cX2_waiting 3 = .ok (.istore_n 2, 1) := dk_61 (dk_at dksX2_waiting_0 3 rfl rfl)
theorem dX2_waiting_4 : decode cX2_waiting 4 = .ok (.iload_n 2, 1) := dk_28 (dk_at dksX2_waiting_0 4 rfl rfl)
theorem dX2_waiting_5 : decode cX2_waiting 5 = .ok (.aload_n 0, 1) := dk_42 (dk_at dksX2_waiting_0 5 rfl rfl)
theorem dX2_waiting_6 : decode cX2_waiting 6 = .ok (.getfield 14, 3) := dk_180 0 14 (dk_at dksX2_waiting_0 6 rfl rfl)
theorem dX2_waiting_9 : decode cX2_waiting 9 = .ok (.invokeinterface 49 1, 5) := by decide +kernel
theorem dX2_waiting_14 : decode cX2_waiting 14 = .ok (.if_icmp .ge 23, 3) := dk_162 0 23 (dk_at dksX2_waiting_0 14 rfl rfl)
theorem dX2_waiting_17 : decode cX2_waiting 17 = .ok (.iload_n 1, 1) := dk_27 (dk_at dksX2_waiting_0 17 rfl rfl)
theorem dX2_waiting_18 : decode cX2_waiting 18 = .ok (.aload_n 0, 1) := dk_42 (dk_at dksX2_waiting_0 18 rfl rfl)
theorem dX2_waiting_19 : decode cX2_waiting 19 = .ok (.iload_n 2, 1) := dk_28 (dk_at dksX2_waiting_0 19 rfl rfl)
theorem dX2_waiting_20 : decode cX2_waiting 20 = .ok (.invokevirtual 161, 3) := dk_182 0 161 (dk_at dksX2_waiting_0 20 rfl rfl)
theorem dX2_waiting_23 : decode cX2_waiting 23 = .ok (.getfield 168, 3) := dk_180 0 168 (dk_at dksX2_waiting_1 0 rfl rfl)
theorem dX2_waiting_26 : decode cX2_waiting 26 = .ok (.getfield 172, 3) := dk_180 0 172 (dk_at dksX2_waiting_1 3 rfl rfl)
theorem dX2_waiting_29 : decode cX2_waiting 29 = .ok (.iadd, 1) := dk_96 (dk_at dksX2_waiting_1 6 rfl rfl)
theorem dX2_waiting_30 : decode cX2_waiting 30 = .ok (.istore_n 1, 1) := dk_60 (dk_at dksX2_waiting_1 7 rfl rfl)
theorem dX2_waiting_31 : decode cX2_waiting 31 = .ok (.iinc 2 1, 3) := dk_132 2 1 (dk_at dksX2_waiting_1 8 rfl rfl)
theorem dX2_waiting_34 : decode cX2_waiting 34 = .ok (.goto (-30), 3) := dk_167 255 226 (dk_at dksX2_waiting_1 11 rfl rfl)
theorem dX2_waiting_37 : decode cX2_waiting 37 = .ok (.iload_n 1, 1) := dk_27 (dk_at dksX2_waiting_1 14 rfl rfl)
theorem dX2_waiting_38 : decode cX2_waiting 38 = .ok (.ireturn, 1) := dk_172 (dk_at dksX2_waiting_1 15 rfl rfl)
abbrev cX2_isBad : ByteArray := prog_6_method_38_code
def yX2_isBad : MethodName := ⟨RX2, "isBad", "(II)Z"⟩
def dkwX2_isBad_1 : List UInt8 := [159, 0, 7, 4, 167, 0, 4, 3, 172]
abbrev dktX2_isBad_1 : List UInt8 := dkwX2_isBad_1 ++ []
def dkwX2_isBad_0 : List UInt8 := [42, 27, 28, 182, 1, 37, 153, 0, 25, 42, 27, 182, 0, 237, 5, 159, 0, 16, 42, 28, 182, 0, 237, 5]
abbrev dktX2_isBad_0 : List UInt8 := dkwX2_isBad_0 ++ dktX2_isBad_1
theorem dksX2_isBad_0 : cX2_isBad.data.toList.drop 0 = dktX2_isBad_0 := by decide +kernel
theorem dksX2_isBad_1 : cX2_isBad.data.toList.drop 24 = dktX2_isBad_1 := dk_seg dksX2_isBad_0 24 rfl rfl
theorem dX2_isBad_0 : decode cX2_isBad 0 = .ok (.aload_n 0, 1) := dk_42 (dk_at dksX2_isBad_0 0 rfl rfl)
theorem dX2_isBad_1 : decode cX2_isBad 1 = .ok (.iload_n 1, 1) := dk_27 (dk_at dksX2_isBad_0 1 rfl rfl)
theorem dX2_isBad_2 : decode cX2_isBad 2 = .ok (.iload_n 2, 1) := dk_28 (dk_at dksX2_isBad_0 2 rfl rfl)
theorem dX2_isBad_3 : decode cX2_isBad 3 = .ok (.invokevirtual 293, 3) := dk_182 1 37 (dk_at dksX2_isBad_0 3 rfl rfl)
theorem dX2_isBad_6 : decode cX2_isBad 6 = .ok (.ifCond .eq 25, 3) := dk_153 0 25 (dk_at dksX2_isBad_0 6 rfl rfl)
theorem dX2_isBad_9 : decode cX2_isBad 9 = .ok (.aload_n 0, 1) := dk_42 (dk_at dksX2_isBad_0 9 rfl rfl)
theorem dX2_isBad_10 : decode cX2_isBad 10 = .ok (.iload_n 1, 1) := dk_27 (dk_at dksX2_isBad_0 10 rfl rfl)
theorem dX2_isBad_11 : decode cX2_isBad 11 = .ok (.invokevirtual 237, 3) := dk_182 0 237 (dk_at dksX2_isBad_0 11 rfl rfl)
theorem dX2_isBad_14 : decode cX2_isBad 14 = .ok (.iconst 2, 1) := dk_5 (dk_at dksX2_isBad_0 14 rfl rfl)
theorem dX2_isBad_15 : decode cX2_isBad 15 = .ok (.if_icmp .eq 16, 3) := dk_159 0 16 (dk_at dksX2_isBad_0 15 rfl rfl)
theorem dX2_isBad_18 : decode cX2_isBad 18 = .ok (.aload_n 0, 1) := dk_42 (dk_at dksX2_isBad_0 18 rfl rfl)
theorem dX2_isBad_19 : decode cX2_isBad 19 = .ok (.iload_n 2, 1) := dk_28 (dk_at dksX2_isBad_0 19 rfl rfl)
theorem dX2_isBad_20 : decode cX2_isBad 20 = .ok (.invokevirtual 237, 3) := dk_182 0 237 (dk_at dksX2_isBad_0 20 rfl rfl)
theorem dX2_isBad_23 : decode cX2_isBad 23 = .ok (.iconst 2, 1) := dk_5 (dk_at dksX2_isBad_0 23 rfl rfl)
theorem dX2_isBad_24 : decode cX2_isBad 24 = .ok (.if_icmp .eq 7, 3) := dk_159 0 7 (dk_at dksX2_isBad_1 0 rfl rfl)
theorem dX2_isBad_27 : decode cX2_isBad 27 = .ok (.iconst 1, 1) := dk_4 (dk_at dksX2_isBad_1 3 rfl rfl)
theorem dX2_isBad_28 : decode cX2_isBad 28 = .ok (.goto 4, 3) := dk_167 0 4 (dk_at dksX2_isBad_1 4 rfl rfl)
theorem dX2_isBad_31 : decode cX2_isBad 31 = .ok (.iconst 0, 1) := dk_3 (dk_at dksX2_isBad_1 7 rfl rfl)
theorem dX2_isBad_32 : decode cX2_isBad 32 = .ok (.ireturn, 1) := dk_172 (dk_at dksX2_isBad_1 8 rfl rfl)
abbrev cX2_lambda_gap_6 : ByteArray := prog_6_method_45_code
def yX2_lambda_gap_6 : MethodName := ⟨RX2, "lambda$gap$6", "(I)Z"⟩
def dkwX2_lambda_gap_6_0 : List UInt8 := [42, 27, 182, 1, 84, 172]
abbrev dktX2_lambda_gap_6_0 : List UInt8 := dkwX2_lambda_gap_6_0 ++ []
theorem dksX2_lambda_gap_6_0 : cX2_lambda_gap_6.data.toList.drop 0 = dktX2_lambda_gap_6_0 := by decide +kernel
theorem dX2_lambda_gap_6_0 : decode cX2_lambda_gap_6 0 = .ok (.aload_n 0, 1) := dk_42 (dk_at dksX2_lambda_gap_6_0 0 rfl rfl)
theorem dX2_lambda_gap_6_1 : decode cX2_lambda_gap_6 1 = .ok (.iload_n 1, 1) := dk_27 (dk_at dksX2_lambda_gap_6_0 1 rfl rfl)
theorem dX2_lambda_gap_6_2 : decode cX2_lambda_gap_6 2 = .ok (.invokevirtual 340, 3) := dk_182 1 84 (dk_at dksX2_lambda_gap_6_0 2 rfl rfl)
theorem dX2_lambda_gap_6_5 : decode cX2_lambda_gap_6 5 = .ok (.ireturn, 1) := dk_172 (dk_at dksX2_lambda_gap_6_0 5 rfl rfl)
abbrev cX2_hasClash : ByteArray := prog_6_method_39_code
def yX2_hasClash : MethodName := ⟨RX2, "hasClash", "(I)Z"⟩
def dkwX2_hasClash_2 : List UInt8 := [182, 0, 153, 153, 0, 5, 4, 172, 167, 255, 211, 3, 172]
abbrev dktX2_hasClash_2 : List UInt8 := dkwX2_hasClash_2 ++ []
def dkwX2_hasClash_1 : List UInt8 := [192, 0, 90, 78, 42, 27, 45, 180, 1, 40, 182, 0, 153, 153, 0, 17, 42, 27, 45, 180, 1, 43]
abbrev dktX2_hasClash_1 : List UInt8 := dkwX2_hasClash_1 ++ dktX2_hasClash_2
def dkwX2_hasClash_0 : List UInt8 := [42, 180, 0, 33, 182, 0, 77, 77, 44, 185, 0, 81, 1, 0, 153, 0, 42, 44, 185, 0, 87, 1, 0]
abbrev dktX2_hasClash_0 : List UInt8 := dkwX2_hasClash_0 ++ dktX2_hasClash_1
theorem dksX2_hasClash_0 : cX2_hasClash.data.toList.drop 0 = dktX2_hasClash_0 := by decide +kernel
theorem dksX2_hasClash_1 : cX2_hasClash.data.toList.drop 23 = dktX2_hasClash_1 := dk_seg dksX2_hasClash_0 23 rfl rfl
theorem dksX2_hasClash_2 : cX2_hasClash.data.toList.drop 45 = dktX2_hasClash_2 := dk_seg dksX2_hasClash_1 22 rfl rfl
theorem dX2_hasClash_0 : decode cX2_hasClash 0 = .ok (.aload_n 0, 1) := dk_42 (dk_at dksX2_hasClash_0 0 rfl rfl)
theorem dX2_hasClash_1 : decode cX2_hasClash 1 = .ok (.getfield 33, 3) := dk_180 0 33 (dk_at dksX2_hasClash_0 1 rfl rfl)
theorem dX2_hasClash_4 : decode cX2_hasClash 4 = .ok (.invokevirtual 77, 3) := dk_182 0 77 (dk_at dksX2_hasClash_0 4 rfl rfl)
theorem dX2_hasClash_7 : decode cX2_hasClash 7 = .ok (.astore_n 2, 1) := dk_77 (dk_at dksX2_hasClash_0 7 rfl rfl)
theorem dX2_hasClash_8 : decode cX2_hasClash 8 = .ok (.aload_n 2, 1) := dk_44 (dk_at dksX2_hasClash_0 8 rfl rfl)
theorem dX2_hasClash_9 : decode cX2_hasClash 9 = .ok (.invokeinterface 81 1, 5) := by decide +kernel
theorem dX2_hasClash_14 : decode cX2_hasClash 14 = .ok (.ifCond .eq 42, 3) := dk_153 0 42 (dk_at dksX2_hasClash_0 14 rfl rfl)
theorem dX2_hasClash_17 : decode cX2_hasClash 17 = .ok (.aload_n 2, 1) := dk_44 (dk_at dksX2_hasClash_0 17 rfl rfl)
theorem dX2_hasClash_18 : decode cX2_hasClash 18 = .ok (.invokeinterface 87 1, 5) := by decide +kernel
theorem dX2_hasClash_23 : decode cX2_hasClash 23 = .ok (.checkcast 90, 3) := dk_192 0 90 (dk_at dksX2_hasClash_1 0 rfl rfl)
theorem dX2_hasClash_26 : decode cX2_hasClash 26 = .ok (.astore_n 3, 1) := dk_78 (dk_at dksX2_hasClash_1 3 rfl rfl)
theorem dX2_hasClash_27 : decode cX2_hasClash 27 = .ok (.aload_n 0, 1) := dk_42 (dk_at dksX2_hasClash_1 4 rfl rfl)
theorem dX2_hasClash_28 : decode cX2_hasClash 28 = .ok (.iload_n 1, 1) := dk_27 (dk_at dksX2_hasClash_1 5 rfl rfl)
theorem dX2_hasClash_29 : decode cX2_hasClash 29 = .ok (.aload_n 3, 1) := dk_45 (dk_at dksX2_hasClash_1 6 rfl rfl)
theorem dX2_hasClash_30 : decode cX2_hasClash 30 = .ok (.getfield 296, 3) := dk_180 1 40 (dk_at dksX2_hasClash_1 7 rfl rfl)
theorem dX2_hasClash_33 : decode cX2_hasClash 33 = .ok (.invokevirtual 153, 3) := dk_182 0 153 (dk_at dksX2_hasClash_1 10 rfl rfl)
theorem dX2_hasClash_36 : decode cX2_hasClash 36 = .ok (.ifCond .eq 17, 3) := dk_153 0 17 (dk_at dksX2_hasClash_1 13 rfl rfl)
theorem dX2_hasClash_39 : decode cX2_hasClash 39 = .ok (.aload_n 0, 1) := dk_42 (dk_at dksX2_hasClash_1 16 rfl rfl)
theorem dX2_hasClash_40 : decode cX2_hasClash 40 = .ok (.iload_n 1, 1) := dk_27 (dk_at dksX2_hasClash_1 17 rfl rfl)
theorem dX2_hasClash_41 : decode cX2_hasClash 41 = .ok (.aload_n 3, 1) := dk_45 (dk_at dksX2_hasClash_1 18 rfl rfl)
theorem dX2_hasClash_42 : decode cX2_hasClash 42 = .ok (.getfield 299, 3) := dk_180 1 43 (dk_at dksX2_hasClash_1 19 rfl rfl)
theorem dX2_hasClash_45 : decode cX2_hasClash 45 = .ok (.invokevirtual 153, 3) := dk_182 0 153 (dk_at dksX2_hasClash_2 0 rfl rfl)
theorem dX2_hasClash_48 : decode cX2_hasClash 48 = .ok (.ifCond .eq 5, 3) := dk_153 0 5 (dk_at dksX2_hasClash_2 3 rfl rfl)
theorem dX2_hasClash_51 : decode cX2_hasClash 51 = .ok (.iconst 1, 1) := dk_4 (dk_at dksX2_hasClash_2 6 rfl rfl)
theorem dX2_hasClash_52 : decode cX2_hasClash 52 = .ok (.ireturn, 1) := dk_172 (dk_at dksX2_hasClash_2 7 rfl rfl)
theorem dX2_hasClash_53 : decode cX2_hasClash 53 = .ok (.goto (-45), 3) := dk_167 255 211 (dk_at dksX2_hasClash_2 8 rfl rfl)
theorem dX2_hasClash_56 : decode cX2_hasClash 56 = .ok (.iconst 0, 1) := dk_3 (dk_at dksX2_hasClash_2 11 rfl rfl)
theorem dX2_hasClash_57 : decode cX2_hasClash 57 = .ok (.ireturn, 1) := dk_172 (dk_at dksX2_hasClash_2 12 rfl rfl)
abbrev cX2_told : ByteArray := prog_6_method_42_code
def yX2_told : MethodName := ⟨RX2, "told", "()Ljava/lang/String;"⟩
def dkwX2_told_5 : List UInt8 := [182, 1, 74, 176]
abbrev dktX2_told_5 : List UInt8 := dkwX2_told_5 ++ []
def dkwX2_told_4 : List UInt8 := [153, 0, 9, 19, 1, 70, 167, 0, 6, 19, 1, 72, 182, 1, 64, 87, 132, 2, 1, 167, 255, 153, 43]
abbrev dktX2_told_4 : List UInt8 := dkwX2_told_4 ++ dktX2_told_5
def dkwX2_told_3 : List UInt8 := [167, 0, 5, 16, 82, 182, 1, 60, 45, 180, 0, 168, 180, 0, 172, 182, 1, 67, 45, 180, 1, 12]
abbrev dktX2_told_3 : List UInt8 := dkwX2_told_3 ++ dktX2_told_4
def dkwX2_told_2 : List UInt8 := [42, 28, 182, 0, 237, 154, 0, 8, 16, 71, 167, 0, 19, 42, 28, 182, 0, 237, 4, 160, 0, 8, 16, 65]
abbrev dktX2_told_2 : List UInt8 := dkwX2_told_2 ++ dktX2_told_3
def dkwX2_told_1 : List UInt8 := [28, 182, 0, 161, 78, 28, 158, 0, 10, 43, 16, 32, 182, 1, 60, 87, 43, 45, 180, 0, 114, 182, 1, 64]
abbrev dktX2_told_1 : List UInt8 := dkwX2_told_1 ++ dktX2_told_2
def dkwX2_told_0 : List UInt8 := [187, 1, 57, 89, 183, 1, 59, 76, 3, 61, 28, 42, 180, 0, 14, 185, 0, 49, 1, 0, 162, 0, 96, 42]
abbrev dktX2_told_0 : List UInt8 := dkwX2_told_0 ++ dktX2_told_1
theorem dksX2_told_0 : cX2_told.data.toList.drop 0 = dktX2_told_0 := by decide +kernel
theorem dksX2_told_1 : cX2_told.data.toList.drop 24 = dktX2_told_1 := dk_seg dksX2_told_0 24 rfl rfl
theorem dksX2_told_2 : cX2_told.data.toList.drop 48 = dktX2_told_2 := dk_seg dksX2_told_1 24 rfl rfl
theorem dksX2_told_3 : cX2_told.data.toList.drop 72 = dktX2_told_3 := dk_seg dksX2_told_2 24 rfl rfl
theorem dksX2_told_4 : cX2_told.data.toList.drop 94 = dktX2_told_4 := dk_seg dksX2_told_3 22 rfl rfl
theorem dksX2_told_5 : cX2_told.data.toList.drop 117 = dktX2_told_5 := dk_seg dksX2_told_4 23 rfl rfl
theorem dX2_told_0 : decode cX2_told 0 = .ok (.new 313, 3) := dk_187 1 57 (dk_at dksX2_told_0 0 rfl rfl)
theorem dX2_told_3 : decode cX2_told 3 = .ok (.dup, 1) := dk_89 (dk_at dksX2_told_0 3 rfl rfl)
theorem dX2_told_4 : decode cX2_told 4 = .ok (.invokespecial 315, 3) := dk_183 1 59 (dk_at dksX2_told_0 4 rfl rfl)
theorem dX2_told_7 : decode cX2_told 7 = .ok (.astore_n 1, 1) := dk_76 (dk_at dksX2_told_0 7 rfl rfl)
theorem dX2_told_8 : decode cX2_told 8 = .ok (.iconst 0, 1) := dk_3 (dk_at dksX2_told_0 8 rfl rfl)
theorem dX2_told_9 : decode cX2_told 9 = .ok (.istore_n 2, 1) := dk_61 (dk_at dksX2_told_0 9 rfl rfl)
theorem dX2_told_10 : decode cX2_told 10 = .ok (.iload_n 2, 1) := dk_28 (dk_at dksX2_told_0 10 rfl rfl)
theorem dX2_told_11 : decode cX2_told 11 = .ok (.aload_n 0, 1) := dk_42 (dk_at dksX2_told_0 11 rfl rfl)
theorem dX2_told_12 : decode cX2_told 12 = .ok (.getfield 14, 3) := dk_180 0 14 (dk_at dksX2_told_0 12 rfl rfl)
theorem dX2_told_15 : decode cX2_told 15 = .ok (.invokeinterface 49 1, 5) := by decide +kernel
theorem dX2_told_20 : decode cX2_told 20 = .ok (.if_icmp .ge 96, 3) := dk_162 0 96 (dk_at dksX2_told_0 20 rfl rfl)
theorem dX2_told_23 : decode cX2_told 23 = .ok (.aload_n 0, 1) := dk_42 (dk_at dksX2_told_0 23 rfl rfl)
theorem dX2_told_24 : decode cX2_told 24 = .ok (.iload_n 2, 1) := dk_28 (dk_at dksX2_told_1 0 rfl rfl)
theorem dX2_told_25 : decode cX2_told 25 = .ok (.invokevirtual 161, 3) := dk_182 0 161 (dk_at dksX2_told_1 1 rfl rfl)
theorem dX2_told_28 : decode cX2_told 28 = .ok (.astore_n 3, 1) := dk_78 (dk_at dksX2_told_1 4 rfl rfl)
theorem dX2_told_29 : decode cX2_told 29 = .ok (.iload_n 2, 1) := dk_28 (dk_at dksX2_told_1 5 rfl rfl)
theorem dX2_told_30 : decode cX2_told 30 = .ok (.ifCond .le 10, 3) := dk_158 0 10 (dk_at dksX2_told_1 6 rfl rfl)
theorem dX2_told_33 : decode cX2_told 33 = .ok (.aload_n 1, 1) := dk_43 (dk_at dksX2_told_1 9 rfl rfl)
theorem dX2_told_34 : decode cX2_told 34 = .ok (.bipush 32, 2) := dk_16 32 (dk_at dksX2_told_1 10 rfl rfl)
theorem dX2_told_36 : decode cX2_told 36 = .ok (.invokevirtual 316, 3) := dk_182 1 60 (dk_at dksX2_told_1 12 rfl rfl)
theorem dX2_told_39 : decode cX2_told 39 = .ok (.pop, 1) := dk_87 (dk_at dksX2_told_1 15 rfl rfl)
theorem dX2_told_40 : decode cX2_told 40 = .ok (.aload_n 1, 1) := dk_43 (dk_at dksX2_told_1 16 rfl rfl)
theorem dX2_told_41 : decode cX2_told 41 = .ok (.aload_n 3, 1) := dk_45 (dk_at dksX2_told_1 17 rfl rfl)
theorem dX2_told_42 : decode cX2_told 42 = .ok (.getfield 114, 3) := dk_180 0 114 (dk_at dksX2_told_1 18 rfl rfl)
theorem dX2_told_45 : decode cX2_told 45 = .ok (.invokevirtual 320, 3) := dk_182 1 64 (dk_at dksX2_told_1 21 rfl rfl)
theorem dX2_told_48 : decode cX2_told 48 = .ok (.aload_n 0, 1) := dk_42 (dk_at dksX2_told_2 0 rfl rfl)
theorem dX2_told_49 : decode cX2_told 49 = .ok (.iload_n 2, 1) := dk_28 (dk_at dksX2_told_2 1 rfl rfl)
theorem dX2_told_50 : decode cX2_told 50 = .ok (.invokevirtual 237, 3) := dk_182 0 237 (dk_at dksX2_told_2 2 rfl rfl)
theorem dX2_told_53 : decode cX2_told 53 = .ok (.ifCond .ne 8, 3) := dk_154 0 8 (dk_at dksX2_told_2 5 rfl rfl)
theorem dX2_told_56 : decode cX2_told 56 = .ok (.bipush 71, 2) := dk_16 71 (dk_at dksX2_told_2 8 rfl rfl)
theorem dX2_told_58 : decode cX2_told 58 = .ok (.goto 19, 3) := dk_167 0 19 (dk_at dksX2_told_2 10 rfl rfl)
theorem dX2_told_61 : decode cX2_told 61 = .ok (.aload_n 0, 1) := dk_42 (dk_at dksX2_told_2 13 rfl rfl)
theorem dX2_told_62 : decode cX2_told 62 = .ok (.iload_n 2, 1) := dk_28 (dk_at dksX2_told_2 14 rfl rfl)
theorem dX2_told_63 : decode cX2_told 63 = .ok (.invokevirtual 237, 3) := dk_182 0 237 (dk_at dksX2_told_2 15 rfl rfl)
theorem dX2_told_66 : decode cX2_told 66 = .ok (.iconst 1, 1) := dk_4 (dk_at dksX2_told_2 18 rfl rfl)
theorem dX2_told_67 : decode cX2_told 67 = .ok (.if_icmp .ne 8, 3) := dk_160 0 8 (dk_at dksX2_told_2 19 rfl rfl)
theorem dX2_told_70 : decode cX2_told 70 = .ok (.bipush 65, 2) := dk_16 65 (dk_at dksX2_told_2 22 rfl rfl)
theorem dX2_told_72 : decode cX2_told 72 = .ok (.goto 5, 3) := dk_167 0 5 (dk_at dksX2_told_3 0 rfl rfl)
theorem dX2_told_75 : decode cX2_told 75 = .ok (.bipush 82, 2) := dk_16 82 (dk_at dksX2_told_3 3 rfl rfl)
theorem dX2_told_77 : decode cX2_told 77 = .ok (.invokevirtual 316, 3) := dk_182 1 60 (dk_at dksX2_told_3 5 rfl rfl)
theorem dX2_told_80 : decode cX2_told 80 = .ok (.aload_n 3, 1) := dk_45 (dk_at dksX2_told_3 8 rfl rfl)
theorem dX2_told_81 : decode cX2_told 81 = .ok (.getfield 168, 3) := dk_180 0 168 (dk_at dksX2_told_3 9 rfl rfl)
theorem dX2_told_84 : decode cX2_told 84 = .ok (.getfield 172, 3) := dk_180 0 172 (dk_at dksX2_told_3 12 rfl rfl)
theorem dX2_told_87 : decode cX2_told 87 = .ok (.invokevirtual 323, 3) := dk_182 1 67 (dk_at dksX2_told_3 15 rfl rfl)
theorem dX2_told_90 : decode cX2_told 90 = .ok (.aload_n 3, 1) := dk_45 (dk_at dksX2_told_3 18 rfl rfl)
theorem dX2_told_91 : decode cX2_told 91 = .ok (.getfield 268, 3) := dk_180 1 12 (dk_at dksX2_told_3 19 rfl rfl)
theorem dX2_told_94 : decode cX2_told 94 = .ok (.ifCond .eq 9, 3) := dk_153 0 9 (dk_at dksX2_told_4 0 rfl rfl)
theorem dX2_told_97 : decode cX2_told 97 = .ok (.ldc_w 326, 3) := dk_19 1 70 (dk_at dksX2_told_4 3 rfl rfl)
theorem dX2_told_100 : decode cX2_told 100 = .ok (.goto 6, 3) := dk_167 0 6 (dk_at dksX2_told_4 6 rfl rfl)
theorem dX2_told_103 : decode cX2_told 103 = .ok (.ldc_w 328, 3) := dk_19 1 72 (dk_at dksX2_told_4 9 rfl rfl)
theorem dX2_told_106 : decode cX2_told 106 = .ok (.invokevirtual 320, 3) := dk_182 1 64 (dk_at dksX2_told_4 12 rfl rfl)
theorem dX2_told_109 : decode cX2_told 109 = .ok (.pop, 1) := dk_87 (dk_at dksX2_told_4 15 rfl rfl)
theorem dX2_told_110 : decode cX2_told 110 = .ok (.iinc 2 1, 3) := dk_132 2 1 (dk_at dksX2_told_4 16 rfl rfl)
theorem dX2_told_113 : decode cX2_told 113 = .ok (.goto (-103), 3) := dk_167 255 153 (dk_at dksX2_told_4 19 rfl rfl)
theorem dX2_told_116 : decode cX2_told 116 = .ok (.aload_n 1, 1) := dk_43 (dk_at dksX2_told_4 22 rfl rfl)
theorem dX2_told_117 : decode cX2_told 117 = .ok (.invokevirtual 330, 3) := dk_182 1 74 (dk_at dksX2_told_5 0 rfl rfl)
theorem dX2_told_120 : decode cX2_told 120 = .ok (.areturn, 1) := dk_176 (dk_at dksX2_told_5 3 rfl rfl)
abbrev cX2_toldPhases : ByteArray := prog_6_method_43_code
def yX2_toldPhases : MethodName := ⟨RX2, "toldPhases", "()Ljava/lang/String;"⟩
def dkwX2_toldPhases_6 : List UInt8 := [16, 44, 62, 132, 4, 1, 167, 255, 205, 132, 2, 1, 167, 255, 115, 43, 182, 1, 74, 176]
abbrev dktX2_toldPhases_6 : List UInt8 := dkwX2_toldPhases_6 ++ []
def dkwX2_toldPhases_5 : List UInt8 := [154, 0, 6, 167, 0, 24, 43, 29, 182, 1, 60, 42, 21, 4, 182, 0, 161, 180, 0, 114, 182, 1, 64, 87]
abbrev dktX2_toldPhases_5 : List UInt8 := dkwX2_toldPhases_5 ++ dktX2_toldPhases_6
def dkwX2_toldPhases_4 : List UInt8 := [54, 4, 21, 4, 42, 180, 0, 14, 185, 0, 49, 1, 0, 162, 0, 43, 42, 28, 21, 4, 182, 0, 153]
abbrev dktX2_toldPhases_4 : List UInt8 := dkwX2_toldPhases_4 ++ dktX2_toldPhases_5
def dkwX2_toldPhases_3 : List UInt8 := [180, 0, 157, 153, 0, 9, 19, 1, 82, 167, 0, 6, 19, 1, 72, 182, 1, 64, 87, 16, 58, 62, 3]
abbrev dktX2_toldPhases_3 : List UInt8 := dkwX2_toldPhases_3 ++ dktX2_toldPhases_4
def dkwX2_toldPhases_2 : List UInt8 := [180, 0, 105, 160, 0, 9, 19, 1, 80, 167, 0, 6, 19, 1, 72, 182, 1, 64, 42, 28, 182, 0, 145]
abbrev dktX2_toldPhases_2 : List UInt8 := dkwX2_toldPhases_2 ++ dktX2_toldPhases_3
def dkwX2_toldPhases_1 : List UInt8 := [28, 158, 0, 9, 19, 1, 78, 167, 0, 6, 19, 1, 72, 182, 1, 64, 28, 182, 1, 67, 28, 42]
abbrev dktX2_toldPhases_1 : List UInt8 := dkwX2_toldPhases_1 ++ dktX2_toldPhases_2
def dkwX2_toldPhases_0 : List UInt8 := [187, 1, 57, 89, 183, 1, 59, 76, 3, 61, 28, 42, 180, 0, 20, 185, 0, 49, 1, 0, 162, 0, 134, 43]
abbrev dktX2_toldPhases_0 : List UInt8 := dkwX2_toldPhases_0 ++ dktX2_toldPhases_1
theorem dksX2_toldPhases_0 : cX2_toldPhases.data.toList.drop 0 = dktX2_toldPhases_0 := by decide +kernel
theorem dksX2_toldPhases_1 : cX2_toldPhases.data.toList.drop 24 = dktX2_toldPhases_1 := dk_seg dksX2_toldPhases_0 24 rfl rfl
theorem dksX2_toldPhases_2 : cX2_toldPhases.data.toList.drop 46 = dktX2_toldPhases_2 := dk_seg dksX2_toldPhases_1 22 rfl rfl
theorem dksX2_toldPhases_3 : cX2_toldPhases.data.toList.drop 69 = dktX2_toldPhases_3 := dk_seg dksX2_toldPhases_2 23 rfl rfl
theorem dksX2_toldPhases_4 : cX2_toldPhases.data.toList.drop 92 = dktX2_toldPhases_4 := dk_seg dksX2_toldPhases_3 23 rfl rfl
theorem dksX2_toldPhases_5 : cX2_toldPhases.data.toList.drop 115 = dktX2_toldPhases_5 := dk_seg dksX2_toldPhases_4 23 rfl rfl
theorem dksX2_toldPhases_6 : cX2_toldPhases.data.toList.drop 139 = dktX2_toldPhases_6 := dk_seg dksX2_toldPhases_5 24 rfl rfl
theorem dX2_toldPhases_0 : decode cX2_toldPhases 0 = .ok (.new 313, 3) := dk_187 1 57 (dk_at dksX2_toldPhases_0 0 rfl rfl)
theorem dX2_toldPhases_3 : decode cX2_toldPhases 3 = .ok (.dup, 1) := dk_89 (dk_at dksX2_toldPhases_0 3 rfl rfl)
theorem dX2_toldPhases_4 : decode cX2_toldPhases 4 = .ok (.invokespecial 315, 3) := dk_183 1 59 (dk_at dksX2_toldPhases_0 4 rfl rfl)
theorem dX2_toldPhases_7 : decode cX2_toldPhases 7 = .ok (.astore_n 1, 1) := dk_76 (dk_at dksX2_toldPhases_0 7 rfl rfl)
theorem dX2_toldPhases_8 : decode cX2_toldPhases 8 = .ok (.iconst 0, 1) := dk_3 (dk_at dksX2_toldPhases_0 8 rfl rfl)
theorem dX2_toldPhases_9 : decode cX2_toldPhases 9 = .ok (.istore_n 2, 1) := dk_61 (dk_at dksX2_toldPhases_0 9 rfl rfl)
theorem dX2_toldPhases_10 : decode cX2_toldPhases 10 = .ok (.iload_n 2, 1) := dk_28 (dk_at dksX2_toldPhases_0 10 rfl rfl)
theorem dX2_toldPhases_11 : decode cX2_toldPhases 11 = .ok (.aload_n 0, 1) := dk_42 (dk_at dksX2_toldPhases_0 11 rfl rfl)
theorem dX2_toldPhases_12 : decode cX2_toldPhases 12 = .ok (.getfield 20, 3) := dk_180 0 20 (dk_at dksX2_toldPhases_0 12 rfl rfl)
theorem dX2_toldPhases_15 : decode cX2_toldPhases 15 = .ok (.invokeinterface 49 1, 5) := by decide +kernel
theorem dX2_toldPhases_20 : decode cX2_toldPhases 20 = .ok (.if_icmp .ge 134, 3) := dk_162 0 134 (dk_at dksX2_toldPhases_0 20 rfl rfl)
theorem dX2_toldPhases_23 : decode cX2_toldPhases 23 = .ok (.aload_n 1, 1) := dk_43 (dk_at dksX2_toldPhases_0 23 rfl rfl)
theorem dX2_toldPhases_24 : decode cX2_toldPhases 24 = .ok (.iload_n 2, 1) := dk_28 (dk_at dksX2_toldPhases_1 0 rfl rfl)
theorem dX2_toldPhases_25 : decode cX2_toldPhases 25 = .ok (.ifCond .le 9, 3) := dk_158 0 9 (dk_at dksX2_toldPhases_1 1 rfl rfl)
theorem dX2_toldPhases_28 : decode cX2_toldPhases 28 = .ok (.ldc_w 334, 3) := dk_19 1 78 (dk_at dksX2_toldPhases_1 4 rfl rfl)
theorem dX2_toldPhases_31 : decode cX2_toldPhases 31 = .ok (.goto 6, 3) := dk_167 0 6 (dk_at dksX2_toldPhases_1 7 rfl rfl)
theorem dX2_toldPhases_34 : decode cX2_toldPhases 34 = .ok (.ldc_w 328, 3) := dk_19 1 72 (dk_at dksX2_toldPhases_1 10 rfl rfl)
theorem dX2_toldPhases_37 : decode cX2_toldPhases 37 = .ok (.invokevirtual 320, 3) := dk_182 1 64 (dk_at dksX2_toldPhases_1 13 rfl rfl)
theorem dX2_toldPhases_40 : decode cX2_toldPhases 40 = .ok (.iload_n 2, 1) := dk_28 (dk_at dksX2_toldPhases_1 16 rfl rfl)
theorem dX2_toldPhases_41 : decode cX2_toldPhases 41 = .ok (.invokevirtual 323, 3) := dk_182 1 67 (dk_at dksX2_toldPhases_1 17 rfl rfl)
theorem dX2_toldPhases_44 : decode cX2_toldPhases 44 = .ok (.iload_n 2, 1) := dk_28 (dk_at dksX2_toldPhases_1 20 rfl rfl)
theorem dX2_toldPhases_45 : decode cX2_toldPhases 45 = .ok (.aload_n 0, 1) := dk_42 (dk_at dksX2_toldPhases_1 21 rfl rfl)
theorem dX2_toldPhases_46 : decode cX2_toldPhases 46 = .ok (.getfield 105, 3) := dk_180 0 105 (dk_at dksX2_toldPhases_2 0 rfl rfl)
theorem dX2_toldPhases_49 : decode cX2_toldPhases 49 = .ok (.if_icmp .ne 9, 3) := dk_160 0 9 (dk_at dksX2_toldPhases_2 3 rfl rfl)
theorem dX2_toldPhases_52 : decode cX2_toldPhases 52 = .ok (.ldc_w 336, 3) := dk_19 1 80 (dk_at dksX2_toldPhases_2 6 rfl rfl)
theorem dX2_toldPhases_55 : decode cX2_toldPhases 55 = .ok (.goto 6, 3) := dk_167 0 6 (dk_at dksX2_toldPhases_2 9 rfl rfl)
theorem dX2_toldPhases_58 : decode cX2_toldPhases 58 = .ok (.ldc_w 328, 3) := dk_19 1 72 (dk_at dksX2_toldPhases_2 12 rfl rfl)
theorem dX2_toldPhases_61 : decode cX2_toldPhases 61 = .ok (.invokevirtual 320, 3) := dk_182 1 64 (dk_at dksX2_toldPhases_2 15 rfl rfl)
theorem dX2_toldPhases_64 : decode cX2_toldPhases 64 = .ok (.aload_n 0, 1) := dk_42 (dk_at dksX2_toldPhases_2 18 rfl rfl)
theorem dX2_toldPhases_65 : decode cX2_toldPhases 65 = .ok (.iload_n 2, 1) := dk_28 (dk_at dksX2_toldPhases_2 19 rfl rfl)
theorem dX2_toldPhases_66 : decode cX2_toldPhases 66 = .ok (.invokevirtual 145, 3) := dk_182 0 145 (dk_at dksX2_toldPhases_2 20 rfl rfl)
theorem dX2_toldPhases_69 : decode cX2_toldPhases 69 = .ok (.getfield 157, 3) := dk_180 0 157 (dk_at dksX2_toldPhases_3 0 rfl rfl)
theorem dX2_toldPhases_72 : decode cX2_toldPhases 72 = .ok (.ifCond .eq 9, 3) := dk_153 0 9 (dk_at dksX2_toldPhases_3 3 rfl rfl)
theorem dX2_toldPhases_75 : decode cX2_toldPhases 75 = .ok (.ldc_w 338, 3) := dk_19 1 82 (dk_at dksX2_toldPhases_3 6 rfl rfl)
theorem dX2_toldPhases_78 : decode cX2_toldPhases 78 = .ok (.goto 6, 3) := dk_167 0 6 (dk_at dksX2_toldPhases_3 9 rfl rfl)
theorem dX2_toldPhases_81 : decode cX2_toldPhases 81 = .ok (.ldc_w 328, 3) := dk_19 1 72 (dk_at dksX2_toldPhases_3 12 rfl rfl)
theorem dX2_toldPhases_84 : decode cX2_toldPhases 84 = .ok (.invokevirtual 320, 3) := dk_182 1 64 (dk_at dksX2_toldPhases_3 15 rfl rfl)
theorem dX2_toldPhases_87 : decode cX2_toldPhases 87 = .ok (.pop, 1) := dk_87 (dk_at dksX2_toldPhases_3 18 rfl rfl)
theorem dX2_toldPhases_88 : decode cX2_toldPhases 88 = .ok (.bipush 58, 2) := dk_16 58 (dk_at dksX2_toldPhases_3 19 rfl rfl)
theorem dX2_toldPhases_90 : decode cX2_toldPhases 90 = .ok (.istore_n 3, 1) := dk_62 (dk_at dksX2_toldPhases_3 21 rfl rfl)
theorem dX2_toldPhases_91 : decode cX2_toldPhases 91 = .ok (.iconst 0, 1) := dk_3 (dk_at dksX2_toldPhases_3 22 rfl rfl)
theorem dX2_toldPhases_92 : decode cX2_toldPhases 92 = .ok (.istore 4, 2) := dk_54 4 (dk_at dksX2_toldPhases_4 0 rfl rfl)
theorem dX2_toldPhases_94 : decode cX2_toldPhases 94 = .ok (.iload 4, 2) := dk_21 4 (dk_at dksX2_toldPhases_4 2 rfl rfl)
theorem dX2_toldPhases_96 : decode cX2_toldPhases 96 = .ok (.aload_n 0, 1) := dk_42 (dk_at dksX2_toldPhases_4 4 rfl rfl)
theorem dX2_toldPhases_97 : decode cX2_toldPhases 97 = .ok (.getfield 14, 3) := dk_180 0 14 (dk_at dksX2_toldPhases_4 5 rfl rfl)
theorem dX2_toldPhases_100 : decode cX2_toldPhases 100 = .ok (.invokeinterface 49 1, 5) := by decide +kernel
theorem dX2_toldPhases_105 : decode cX2_toldPhases 105 = .ok (.if_icmp .ge 43, 3) := dk_162 0 43 (dk_at dksX2_toldPhases_4 13 rfl rfl)
theorem dX2_toldPhases_108 : decode cX2_toldPhases 108 = .ok (.aload_n 0, 1) := dk_42 (dk_at dksX2_toldPhases_4 16 rfl rfl)
theorem dX2_toldPhases_109 : decode cX2_toldPhases 109 = .ok (.iload_n 2, 1) := dk_28 (dk_at dksX2_toldPhases_4 17 rfl rfl)
theorem dX2_toldPhases_110 : decode cX2_toldPhases 110 = .ok (.iload 4, 2) := dk_21 4 (dk_at dksX2_toldPhases_4 18 rfl rfl)
theorem dX2_toldPhases_112 : decode cX2_toldPhases 112 = .ok (.invokevirtual 153, 3) := dk_182 0 153 (dk_at dksX2_toldPhases_4 20 rfl rfl)
theorem dX2_toldPhases_115 : decode cX2_toldPhases 115 = .ok (.ifCond .ne 6, 3) := dk_154 0 6 (dk_at dksX2_toldPhases_5 0 rfl rfl)
theorem dX2_toldPhases_118 : decode cX2_toldPhases 118 = .ok (.goto 24, 3) := dk_167 0 24 (dk_at dksX2_toldPhases_5 3 rfl rfl)
theorem dX2_toldPhases_121 : decode cX2_toldPhases 121 = .ok (.aload_n 1, 1) := dk_43 (dk_at dksX2_toldPhases_5 6 rfl rfl)
theorem dX2_toldPhases_122 : decode cX2_toldPhases 122 = .ok (.iload_n 3, 1) := dk_29 (dk_at dksX2_toldPhases_5 7 rfl rfl)
theorem dX2_toldPhases_123 : decode cX2_toldPhases 123 = .ok (.invokevirtual 316, 3) := dk_182 1 60 (dk_at dksX2_toldPhases_5 8 rfl rfl)
theorem dX2_toldPhases_126 : decode cX2_toldPhases 126 = .ok (.aload_n 0, 1) := dk_42 (dk_at dksX2_toldPhases_5 11 rfl rfl)
theorem dX2_toldPhases_127 : decode cX2_toldPhases 127 = .ok (.iload 4, 2) := dk_21 4 (dk_at dksX2_toldPhases_5 12 rfl rfl)
theorem dX2_toldPhases_129 : decode cX2_toldPhases 129 = .ok (.invokevirtual 161, 3) := dk_182 0 161 (dk_at dksX2_toldPhases_5 14 rfl rfl)
theorem dX2_toldPhases_132 : decode cX2_toldPhases 132 = .ok (.getfield 114, 3) := dk_180 0 114 (dk_at dksX2_toldPhases_5 17 rfl rfl)
theorem dX2_toldPhases_135 : decode cX2_toldPhases 135 = .ok (.invokevirtual 320, 3) := dk_182 1 64 (dk_at dksX2_toldPhases_5 20 rfl rfl)
theorem dX2_toldPhases_138 : decode cX2_toldPhases 138 = .ok (.pop, 1) := dk_87 (dk_at dksX2_toldPhases_5 23 rfl rfl)
theorem dX2_toldPhases_139 : decode cX2_toldPhases 139 = .ok (.bipush 44, 2) := dk_16 44 (dk_at dksX2_toldPhases_6 0 rfl rfl)
theorem dX2_toldPhases_141 : decode cX2_toldPhases 141 = .ok (.istore_n 3, 1) := dk_62 (dk_at dksX2_toldPhases_6 2 rfl rfl)
theorem dX2_toldPhases_142 : decode cX2_toldPhases 142 = .ok (.iinc 4 1, 3) := dk_132 4 1 (dk_at dksX2_toldPhases_6 3 rfl rfl)
theorem dX2_toldPhases_145 : decode cX2_toldPhases 145 = .ok (.goto (-51), 3) := dk_167 255 205 (dk_at dksX2_toldPhases_6 6 rfl rfl)
theorem dX2_toldPhases_148 : decode cX2_toldPhases 148 = .ok (.iinc 2 1, 3) := dk_132 2 1 (dk_at dksX2_toldPhases_6 9 rfl rfl)
theorem dX2_toldPhases_151 : decode cX2_toldPhases 151 = .ok (.goto (-141), 3) := dk_167 255 115 (dk_at dksX2_toldPhases_6 12 rfl rfl)
theorem dX2_toldPhases_154 : decode cX2_toldPhases 154 = .ok (.aload_n 1, 1) := dk_43 (dk_at dksX2_toldPhases_6 15 rfl rfl)
theorem dX2_toldPhases_155 : decode cX2_toldPhases 155 = .ok (.invokevirtual 330, 3) := dk_182 1 74 (dk_at dksX2_toldPhases_6 16 rfl rfl)
theorem dX2_toldPhases_158 : decode cX2_toldPhases 158 = .ok (.areturn, 1) := dk_176 (dk_at dksX2_toldPhases_6 19 rfl rfl)
abbrev cX2_phasesOf : ByteArray := prog_6_method_34_code
def yX2_phasesOf : MethodName := ⟨RX2, "phasesOf", "(I)I"⟩
def dkwX2_phasesOf_0 : List UInt8 := [42, 180, 0, 20, 185, 0, 49, 1, 0, 42, 27, 186, 1, 26, 0, 0, 184, 1, 6, 172]
abbrev dktX2_phasesOf_0 : List UInt8 := dkwX2_phasesOf_0 ++ []
theorem dksX2_phasesOf_0 : cX2_phasesOf.data.toList.drop 0 = dktX2_phasesOf_0 := by decide +kernel
theorem dX2_phasesOf_0 : decode cX2_phasesOf 0 = .ok (.aload_n 0, 1) := dk_42 (dk_at dksX2_phasesOf_0 0 rfl rfl)
theorem dX2_phasesOf_1 : decode cX2_phasesOf 1 = .ok (.getfield 20, 3) := dk_180 0 20 (dk_at dksX2_phasesOf_0 1 rfl rfl)
theorem dX2_phasesOf_4 : decode cX2_phasesOf 4 = .ok (.invokeinterface 49 1, 5) := by decide +kernel
theorem dX2_phasesOf_9 : decode cX2_phasesOf 9 = .ok (.aload_n 0, 1) := dk_42 (dk_at dksX2_phasesOf_0 9 rfl rfl)
theorem dX2_phasesOf_10 : decode cX2_phasesOf 10 = .ok (.iload_n 1, 1) := dk_27 (dk_at dksX2_phasesOf_0 10 rfl rfl)
theorem dX2_phasesOf_11 : decode cX2_phasesOf 11 = .ok (.invokedynamic 282, 5) := by decide +kernel
theorem dX2_phasesOf_16 : decode cX2_phasesOf 16 = .ok (.invokestatic 262, 3) := dk_184 1 6 (dk_at dksX2_phasesOf_0 16 rfl rfl)
theorem dX2_phasesOf_19 : decode cX2_phasesOf 19 = .ok (.ireturn, 1) := dk_172 (dk_at dksX2_phasesOf_0 19 rfl rfl)
abbrev cX2_lambda_phasesOf_4 : ByteArray := prog_6_method_47_code
def yX2_lambda_phasesOf_4 : MethodName := ⟨RX2, "lambda$phasesOf$4", "(II)Z"⟩
def dkwX2_lambda_phasesOf_4_0 : List UInt8 := [42, 28, 27, 182, 0, 153, 172]
abbrev dktX2_lambda_phasesOf_4_0 : List UInt8 := dkwX2_lambda_phasesOf_4_0 ++ []
theorem dksX2_lambda_phasesOf_4_0 : cX2_lambda_phasesOf_4.data.toList.drop 0 = dktX2_lambda_phasesOf_4_0 := by decide +kernel
theorem dX2_lambda_phasesOf_4_0 : decode cX2_lambda_phasesOf_4 0 = .ok (.aload_n 0, 1) := dk_42 (dk_at dksX2_lambda_phasesOf_4_0 0 rfl rfl)
theorem dX2_lambda_phasesOf_4_1 : decode cX2_lambda_phasesOf_4 1 = .ok (.iload_n 2, 1) := dk_28 (dk_at dksX2_lambda_phasesOf_4_0 1 rfl rfl)
theorem dX2_lambda_phasesOf_4_2 : decode cX2_lambda_phasesOf_4 2 = .ok (.iload_n 1, 1) := dk_27 (dk_at dksX2_lambda_phasesOf_4_0 2 rfl rfl)
theorem dX2_lambda_phasesOf_4_3 : decode cX2_lambda_phasesOf_4 3 = .ok (.invokevirtual 153, 3) := dk_182 0 153 (dk_at dksX2_lambda_phasesOf_4_0 3 rfl rfl)
theorem dX2_lambda_phasesOf_4_6 : decode cX2_lambda_phasesOf_4 6 = .ok (.ireturn, 1) := dk_172 (dk_at dksX2_lambda_phasesOf_4_0 6 rfl rfl)
abbrev cX2_clashesOf : ByteArray := prog_6_method_33_code
def yX2_clashesOf : MethodName := ⟨RX2, "clashesOf", "(I)I"⟩
def dkwX2_clashesOf_0 : List UInt8 := [42, 180, 0, 14, 185, 0, 49, 1, 0, 42, 27, 186, 1, 23, 0, 0, 184, 1, 6, 172]
abbrev dktX2_clashesOf_0 : List UInt8 := dkwX2_clashesOf_0 ++ []
theorem dksX2_clashesOf_0 : cX2_clashesOf.data.toList.drop 0 = dktX2_clashesOf_0 := by decide +kernel
theorem dX2_clashesOf_0 : decode cX2_clashesOf 0 = .ok (.aload_n 0, 1) := dk_42 (dk_at dksX2_clashesOf_0 0 rfl rfl)
theorem dX2_clashesOf_1 : decode cX2_clashesOf 1 = .ok (.getfield 14, 3) := dk_180 0 14 (dk_at dksX2_clashesOf_0 1 rfl rfl)
theorem dX2_clashesOf_4 : decode cX2_clashesOf 4 = .ok (.invokeinterface 49 1, 5) := by decide +kernel
theorem dX2_clashesOf_9 : decode cX2_clashesOf 9 = .ok (.aload_n 0, 1) := dk_42 (dk_at dksX2_clashesOf_0 9 rfl rfl)
theorem dX2_clashesOf_10 : decode cX2_clashesOf 10 = .ok (.iload_n 1, 1) := dk_27 (dk_at dksX2_clashesOf_0 10 rfl rfl)
theorem dX2_clashesOf_11 : decode cX2_clashesOf 11 = .ok (.invokedynamic 279, 5) := by decide +kernel
theorem dX2_clashesOf_16 : decode cX2_clashesOf 16 = .ok (.invokestatic 262, 3) := dk_184 1 6 (dk_at dksX2_clashesOf_0 16 rfl rfl)
theorem dX2_clashesOf_19 : decode cX2_clashesOf 19 = .ok (.ireturn, 1) := dk_172 (dk_at dksX2_clashesOf_0 19 rfl rfl)
abbrev cX2_lambda_clashesOf_3 : ByteArray := prog_6_method_48_code
def yX2_lambda_clashesOf_3 : MethodName := ⟨RX2, "lambda$clashesOf$3", "(II)Z"⟩
def dkwX2_lambda_clashesOf_3_0 : List UInt8 := [42, 27, 28, 182, 1, 37, 172]
abbrev dktX2_lambda_clashesOf_3_0 : List UInt8 := dkwX2_lambda_clashesOf_3_0 ++ []
theorem dksX2_lambda_clashesOf_3_0 : cX2_lambda_clashesOf_3.data.toList.drop 0 = dktX2_lambda_clashesOf_3_0 := by decide +kernel
theorem dX2_lambda_clashesOf_3_0 : decode cX2_lambda_clashesOf_3 0 = .ok (.aload_n 0, 1) := dk_42 (dk_at dksX2_lambda_clashesOf_3_0 0 rfl rfl)
theorem dX2_lambda_clashesOf_3_1 : decode cX2_lambda_clashesOf_3 1 = .ok (.iload_n 1, 1) := dk_27 (dk_at dksX2_lambda_clashesOf_3_0 1 rfl rfl)
theorem dX2_lambda_clashesOf_3_2 : decode cX2_lambda_clashesOf_3 2 = .ok (.iload_n 2, 1) := dk_28 (dk_at dksX2_lambda_clashesOf_3_0 2 rfl rfl)
theorem dX2_lambda_clashesOf_3_3 : decode cX2_lambda_clashesOf_3 3 = .ok (.invokevirtual 293, 3) := dk_182 1 37 (dk_at dksX2_lambda_clashesOf_3_0 3 rfl rfl)
theorem dX2_lambda_clashesOf_3_6 : decode cX2_lambda_clashesOf_3 6 = .ok (.ireturn, 1) := dk_172 (dk_at dksX2_lambda_clashesOf_3_0 6 rfl rfl)
abbrev cX2_why : ByteArray := prog_6_method_36_code
def yX2_why : MethodName := ⟨RX2, "why", "(I)I"⟩
def dkwX2_why_5 : List UInt8 := [182, 0, 218, 27, 182, 0, 153, 153, 0, 8, 16, 8, 167, 0, 5, 16, 7, 172]
abbrev dktX2_why_5 : List UInt8 := dkwX2_why_5 ++ []
def dkwX2_why_4 : List UInt8 := [180, 0, 111, 42, 42, 180, 0, 105, 182, 0, 145, 180, 0, 221, 162, 0, 6, 16, 6, 172, 42, 42]
abbrev dktX2_why_4 : List UInt8 := dkwX2_why_4 ++ dktX2_why_5
def dkwX2_why_3 : List UInt8 := [42, 180, 0, 105, 182, 0, 145, 180, 0, 215, 162, 0, 5, 8, 172, 42, 182, 0, 224, 2, 159, 0, 24, 42]
abbrev dktX2_why_3 : List UInt8 := dkwX2_why_3 ++ dktX2_why_4
def dkwX2_why_2 : List UInt8 := [182, 0, 161, 182, 0, 165, 154, 0, 13, 42, 27, 182, 1, 31, 154, 0, 5, 7, 172, 42, 180, 0, 111, 42]
abbrev dktX2_why_2 : List UInt8 := dkwX2_why_2 ++ dktX2_why_3
def dkwX2_why_1 : List UInt8 := [153, 0, 21, 42, 42, 180, 0, 44, 27, 182, 0, 153, 153, 0, 7, 5, 167, 0, 4, 6, 172, 42, 27]
abbrev dktX2_why_1 : List UInt8 := dkwX2_why_1 ++ dktX2_why_2
def dkwX2_why_0 : List UInt8 := [42, 27, 182, 0, 237, 154, 0, 5, 3, 172, 42, 27, 182, 1, 28, 154, 0, 5, 4, 172, 42, 180, 0, 108]
abbrev dktX2_why_0 : List UInt8 := dkwX2_why_0 ++ dktX2_why_1
theorem dksX2_why_0 : cX2_why.data.toList.drop 0 = dktX2_why_0 := by decide +kernel
theorem dksX2_why_1 : cX2_why.data.toList.drop 24 = dktX2_why_1 := dk_seg dksX2_why_0 24 rfl rfl
theorem dksX2_why_2 : cX2_why.data.toList.drop 47 = dktX2_why_2 := dk_seg dksX2_why_1 23 rfl rfl
theorem dksX2_why_3 : cX2_why.data.toList.drop 71 = dktX2_why_3 := dk_seg dksX2_why_2 24 rfl rfl
theorem dksX2_why_4 : cX2_why.data.toList.drop 95 = dktX2_why_4 := dk_seg dksX2_why_3 24 rfl rfl
theorem dksX2_why_5 : cX2_why.data.toList.drop 117 = dktX2_why_5 := dk_seg dksX2_why_4 22 rfl rfl
theorem dX2_why_0 : decode cX2_why 0 = .ok (.aload_n 0, 1) := dk_42 (dk_at dksX2_why_0 0 rfl rfl)
theorem dX2_why_1 : decode cX2_why 1 = .ok (.iload_n 1, 1) := dk_27 (dk_at dksX2_why_0 1 rfl rfl)
theorem dX2_why_2 : decode cX2_why 2 = .ok (.invokevirtual 237, 3) := dk_182 0 237 (dk_at dksX2_why_0 2 rfl rfl)
theorem dX2_why_5 : decode cX2_why 5 = .ok (.ifCond .ne 5, 3) := dk_154 0 5 (dk_at dksX2_why_0 5 rfl rfl)
theorem dX2_why_8 : decode cX2_why 8 = .ok (.iconst 0, 1) := dk_3 (dk_at dksX2_why_0 8 rfl rfl)
theorem dX2_why_9 : decode cX2_why 9 = .ok (.ireturn, 1) := dk_172 (dk_at dksX2_why_0 9 rfl rfl)
theorem dX2_why_10 : decode cX2_why 10 = .ok (.aload_n 0, 1) := dk_42 (dk_at dksX2_why_0 10 rfl rfl)
theorem dX2_why_11 : decode cX2_why 11 = .ok (.iload_n 1, 1) := dk_27 (dk_at dksX2_why_0 11 rfl rfl)
theorem dX2_why_12 : decode cX2_why 12 = .ok (.invokevirtual 284, 3) := dk_182 1 28 (dk_at dksX2_why_0 12 rfl rfl)
theorem dX2_why_15 : decode cX2_why 15 = .ok (.ifCond .ne 5, 3) := dk_154 0 5 (dk_at dksX2_why_0 15 rfl rfl)
theorem dX2_why_18 : decode cX2_why 18 = .ok (.iconst 1, 1) := dk_4 (dk_at dksX2_why_0 18 rfl rfl)
theorem dX2_why_19 : decode cX2_why 19 = .ok (.ireturn, 1) := dk_172 (dk_at dksX2_why_0 19 rfl rfl)
theorem dX2_why_20 : decode cX2_why 20 = .ok (.aload_n 0, 1) := dk_42 (dk_at dksX2_why_0 20 rfl rfl)
theorem dX2_why_21 : decode cX2_why 21 = .ok (.getfield 108, 3) := dk_180 0 108 (dk_at dksX2_why_0 21 rfl rfl)
theorem dX2_why_24 : decode cX2_why 24 = .ok (.ifCond .eq 21, 3) := dk_153 0 21 (dk_at dksX2_why_1 0 rfl rfl)
theorem dX2_why_27 : decode cX2_why 27 = .ok (.aload_n 0, 1) := dk_42 (dk_at dksX2_why_1 3 rfl rfl)
theorem dX2_why_28 : decode cX2_why 28 = .ok (.aload_n 0, 1) := dk_42 (dk_at dksX2_why_1 4 rfl rfl)
theorem dX2_why_29 : decode cX2_why 29 = .ok (.getfield 44, 3) := dk_180 0 44 (dk_at dksX2_why_1 5 rfl rfl)
theorem dX2_why_32 : decode cX2_why 32 = .ok (.iload_n 1, 1) := dk_27 (dk_at dksX2_why_1 8 rfl rfl)
theorem dX2_why_33 : decode cX2_why 33 = .ok (.invokevirtual 153, 3) := dk_182 0 153 (dk_at dksX2_why_1 9 rfl rfl)
theorem dX2_why_36 : decode cX2_why 36 = .ok (.ifCond .eq 7, 3) := dk_153 0 7 (dk_at dksX2_why_1 12 rfl rfl)
theorem dX2_why_39 : decode cX2_why 39 = .ok (.iconst 2, 1) := dk_5 (dk_at dksX2_why_1 15 rfl rfl)
theorem dX2_why_40 : decode cX2_why 40 = .ok (.goto 4, 3) := dk_167 0 4 (dk_at dksX2_why_1 16 rfl rfl)
theorem dX2_why_43 : decode cX2_why 43 = .ok (.iconst 3, 1) := dk_6 (dk_at dksX2_why_1 19 rfl rfl)
theorem dX2_why_44 : decode cX2_why 44 = .ok (.ireturn, 1) := dk_172 (dk_at dksX2_why_1 20 rfl rfl)
theorem dX2_why_45 : decode cX2_why 45 = .ok (.aload_n 0, 1) := dk_42 (dk_at dksX2_why_1 21 rfl rfl)
theorem dX2_why_46 : decode cX2_why 46 = .ok (.iload_n 1, 1) := dk_27 (dk_at dksX2_why_1 22 rfl rfl)
theorem dX2_why_47 : decode cX2_why 47 = .ok (.invokevirtual 161, 3) := dk_182 0 161 (dk_at dksX2_why_2 0 rfl rfl)
theorem dX2_why_50 : decode cX2_why 50 = .ok (.invokevirtual 165, 3) := dk_182 0 165 (dk_at dksX2_why_2 3 rfl rfl)
theorem dX2_why_53 : decode cX2_why 53 = .ok (.ifCond .ne 13, 3) := dk_154 0 13 (dk_at dksX2_why_2 6 rfl rfl)
theorem dX2_why_56 : decode cX2_why 56 = .ok (.aload_n 0, 1) := dk_42 (dk_at dksX2_why_2 9 rfl rfl)
theorem dX2_why_57 : decode cX2_why 57 = .ok (.iload_n 1, 1) := dk_27 (dk_at dksX2_why_2 10 rfl rfl)
theorem dX2_why_58 : decode cX2_why 58 = .ok (.invokevirtual 287, 3) := dk_182 1 31 (dk_at dksX2_why_2 11 rfl rfl)
theorem dX2_why_61 : decode cX2_why 61 = .ok (.ifCond .ne 5, 3) := dk_154 0 5 (dk_at dksX2_why_2 14 rfl rfl)
theorem dX2_why_64 : decode cX2_why 64 = .ok (.iconst 4, 1) := dk_7 (dk_at dksX2_why_2 17 rfl rfl)
theorem dX2_why_65 : decode cX2_why 65 = .ok (.ireturn, 1) := dk_172 (dk_at dksX2_why_2 18 rfl rfl)
theorem dX2_why_66 : decode cX2_why 66 = .ok (.aload_n 0, 1) := dk_42 (dk_at dksX2_why_2 19 rfl rfl)
theorem dX2_why_67 : decode cX2_why 67 = .ok (.getfield 111, 3) := dk_180 0 111 (dk_at dksX2_why_2 20 rfl rfl)
theorem dX2_why_70 : decode cX2_why 70 = .ok (.aload_n 0, 1) := dk_42 (dk_at dksX2_why_2 23 rfl rfl)
theorem dX2_why_71 : decode cX2_why 71 = .ok (.aload_n 0, 1) := dk_42 (dk_at dksX2_why_3 0 rfl rfl)
theorem dX2_why_72 : decode cX2_why 72 = .ok (.getfield 105, 3) := dk_180 0 105 (dk_at dksX2_why_3 1 rfl rfl)
theorem dX2_why_75 : decode cX2_why 75 = .ok (.invokevirtual 145, 3) := dk_182 0 145 (dk_at dksX2_why_3 4 rfl rfl)
theorem dX2_why_78 : decode cX2_why 78 = .ok (.getfield 215, 3) := dk_180 0 215 (dk_at dksX2_why_3 7 rfl rfl)
theorem dX2_why_81 : decode cX2_why 81 = .ok (.if_icmp .ge 5, 3) := dk_162 0 5 (dk_at dksX2_why_3 10 rfl rfl)
theorem dX2_why_84 : decode cX2_why 84 = .ok (.iconst 5, 1) := dk_8 (dk_at dksX2_why_3 13 rfl rfl)
theorem dX2_why_85 : decode cX2_why 85 = .ok (.ireturn, 1) := dk_172 (dk_at dksX2_why_3 14 rfl rfl)
theorem dX2_why_86 : decode cX2_why 86 = .ok (.aload_n 0, 1) := dk_42 (dk_at dksX2_why_3 15 rfl rfl)
theorem dX2_why_87 : decode cX2_why 87 = .ok (.invokevirtual 224, 3) := dk_182 0 224 (dk_at dksX2_why_3 16 rfl rfl)
theorem dX2_why_90 : decode cX2_why 90 = .ok (.iconst (-1), 1) := dk_2 (dk_at dksX2_why_3 19 rfl rfl)
theorem dX2_why_91 : decode cX2_why 91 = .ok (.if_icmp .eq 24, 3) := dk_159 0 24 (dk_at dksX2_why_3 20 rfl rfl)
theorem dX2_why_94 : decode cX2_why 94 = .ok (.aload_n 0, 1) := dk_42 (dk_at dksX2_why_3 23 rfl rfl)
theorem dX2_why_95 : decode cX2_why 95 = .ok (.getfield 111, 3) := dk_180 0 111 (dk_at dksX2_why_4 0 rfl rfl)
theorem dX2_why_98 : decode cX2_why 98 = .ok (.aload_n 0, 1) := dk_42 (dk_at dksX2_why_4 3 rfl rfl)
theorem dX2_why_99 : decode cX2_why 99 = .ok (.aload_n 0, 1) := dk_42 (dk_at dksX2_why_4 4 rfl rfl)
theorem dX2_why_100 : decode cX2_why 100 = .ok (.getfield 105, 3) := dk_180 0 105 (dk_at dksX2_why_4 5 rfl rfl)
theorem dX2_why_103 : decode cX2_why 103 = .ok (.invokevirtual 145, 3) := dk_182 0 145 (dk_at dksX2_why_4 8 rfl rfl)
theorem dX2_why_106 : decode cX2_why 106 = .ok (.getfield 221, 3) := dk_180 0 221 (dk_at dksX2_why_4 11 rfl rfl)
theorem dX2_why_109 : decode cX2_why 109 = .ok (.if_icmp .ge 6, 3) := dk_162 0 6 (dk_at dksX2_why_4 14 rfl rfl)
theorem dX2_why_112 : decode cX2_why 112 = .ok (.bipush 6, 2) := dk_16 6 (dk_at dksX2_why_4 17 rfl rfl)
theorem dX2_why_114 : decode cX2_why 114 = .ok (.ireturn, 1) := dk_172 (dk_at dksX2_why_4 19 rfl rfl)
theorem dX2_why_115 : decode cX2_why 115 = .ok (.aload_n 0, 1) := dk_42 (dk_at dksX2_why_4 20 rfl rfl)
theorem dX2_why_116 : decode cX2_why 116 = .ok (.aload_n 0, 1) := dk_42 (dk_at dksX2_why_4 21 rfl rfl)
theorem dX2_why_117 : decode cX2_why 117 = .ok (.invokevirtual 218, 3) := dk_182 0 218 (dk_at dksX2_why_5 0 rfl rfl)
theorem dX2_why_120 : decode cX2_why 120 = .ok (.iload_n 1, 1) := dk_27 (dk_at dksX2_why_5 3 rfl rfl)
theorem dX2_why_121 : decode cX2_why 121 = .ok (.invokevirtual 153, 3) := dk_182 0 153 (dk_at dksX2_why_5 4 rfl rfl)
theorem dX2_why_124 : decode cX2_why 124 = .ok (.ifCond .eq 8, 3) := dk_153 0 8 (dk_at dksX2_why_5 7 rfl rfl)
theorem dX2_why_127 : decode cX2_why 127 = .ok (.bipush 8, 2) := dk_16 8 (dk_at dksX2_why_5 10 rfl rfl)
theorem dX2_why_129 : decode cX2_why 129 = .ok (.goto 5, 3) := dk_167 0 5 (dk_at dksX2_why_5 12 rfl rfl)
theorem dX2_why_132 : decode cX2_why 132 = .ok (.bipush 7, 2) := dk_16 7 (dk_at dksX2_why_5 15 rfl rfl)
theorem dX2_why_134 : decode cX2_why 134 = .ok (.ireturn, 1) := dk_172 (dk_at dksX2_why_5 17 rfl rfl)
abbrev cX2_isCalledFor : ByteArray := prog_6_method_35_code
def yX2_isCalledFor : MethodName := ⟨RX2, "isCalledFor", "(I)Z"⟩
def dkwX2_isCalledFor_1 : List UInt8 := [167, 0, 4, 3, 172]
abbrev dktX2_isCalledFor_1 : List UInt8 := dkwX2_isCalledFor_1 ++ []
def dkwX2_isCalledFor_0 : List UInt8 := [42, 180, 0, 20, 185, 0, 49, 1, 0, 42, 27, 186, 1, 27, 0, 0, 184, 1, 6, 158, 0, 7, 4]
abbrev dktX2_isCalledFor_0 : List UInt8 := dkwX2_isCalledFor_0 ++ dktX2_isCalledFor_1
theorem dksX2_isCalledFor_0 : cX2_isCalledFor.data.toList.drop 0 = dktX2_isCalledFor_0 := by decide +kernel
theorem dksX2_isCalledFor_1 : cX2_isCalledFor.data.toList.drop 23 = dktX2_isCalledFor_1 := dk_seg dksX2_isCalledFor_0 23 rfl rfl
theorem dX2_isCalledFor_0 : decode cX2_isCalledFor 0 = .ok (.aload_n 0, 1) := dk_42 (dk_at dksX2_isCalledFor_0 0 rfl rfl)
theorem dX2_isCalledFor_1 : decode cX2_isCalledFor 1 = .ok (.getfield 20, 3) := dk_180 0 20 (dk_at dksX2_isCalledFor_0 1 rfl rfl)
theorem dX2_isCalledFor_4 : decode cX2_isCalledFor 4 = .ok (.invokeinterface 49 1, 5) := by decide +kernel
theorem dX2_isCalledFor_9 : decode cX2_isCalledFor 9 = .ok (.aload_n 0, 1) := dk_42 (dk_at dksX2_isCalledFor_0 9 rfl rfl)
theorem dX2_isCalledFor_10 : decode cX2_isCalledFor 10 = .ok (.iload_n 1, 1) := dk_27 (dk_at dksX2_isCalledFor_0 10 rfl rfl)
theorem dX2_isCalledFor_11 : decode cX2_isCalledFor 11 = .ok (.invokedynamic 283, 5) := by decide +kernel
theorem dX2_isCalledFor_16 : decode cX2_isCalledFor 16 = .ok (.invokestatic 262, 3) := dk_184 1 6 (dk_at dksX2_isCalledFor_0 16 rfl rfl)
theorem dX2_isCalledFor_19 : decode cX2_isCalledFor 19 = .ok (.ifCond .le 7, 3) := dk_158 0 7 (dk_at dksX2_isCalledFor_0 19 rfl rfl)
theorem dX2_isCalledFor_22 : decode cX2_isCalledFor 22 = .ok (.iconst 1, 1) := dk_4 (dk_at dksX2_isCalledFor_0 22 rfl rfl)
theorem dX2_isCalledFor_23 : decode cX2_isCalledFor 23 = .ok (.goto 4, 3) := dk_167 0 4 (dk_at dksX2_isCalledFor_1 0 rfl rfl)
theorem dX2_isCalledFor_26 : decode cX2_isCalledFor 26 = .ok (.iconst 0, 1) := dk_3 (dk_at dksX2_isCalledFor_1 3 rfl rfl)
theorem dX2_isCalledFor_27 : decode cX2_isCalledFor 27 = .ok (.ireturn, 1) := dk_172 (dk_at dksX2_isCalledFor_1 4 rfl rfl)
abbrev cX2_lambda_isCalledFor_5 : ByteArray := prog_6_method_46_code
def yX2_lambda_isCalledFor_5 : MethodName := ⟨RX2, "lambda$isCalledFor$5", "(II)Z"⟩
def dkwX2_lambda_isCalledFor_5_1 : List UInt8 := [3, 172]
abbrev dktX2_lambda_isCalledFor_5_1 : List UInt8 := dkwX2_lambda_isCalledFor_5_1 ++ []
def dkwX2_lambda_isCalledFor_5_0 : List UInt8 := [42, 28, 27, 182, 0, 153, 153, 0, 18, 42, 28, 182, 0, 145, 180, 0, 157, 153, 0, 7, 4, 167, 0, 4]
abbrev dktX2_lambda_isCalledFor_5_0 : List UInt8 := dkwX2_lambda_isCalledFor_5_0 ++ dktX2_lambda_isCalledFor_5_1
theorem dksX2_lambda_isCalledFor_5_0 : cX2_lambda_isCalledFor_5.data.toList.drop 0 = dktX2_lambda_isCalledFor_5_0 := by decide +kernel
theorem dksX2_lambda_isCalledFor_5_1 : cX2_lambda_isCalledFor_5.data.toList.drop 24 = dktX2_lambda_isCalledFor_5_1 := dk_seg dksX2_lambda_isCalledFor_5_0 24 rfl rfl
theorem dX2_lambda_isCalledFor_5_0 : decode cX2_lambda_isCalledFor_5 0 = .ok (.aload_n 0, 1) := dk_42 (dk_at dksX2_lambda_isCalledFor_5_0 0 rfl rfl)
theorem dX2_lambda_isCalledFor_5_1 : decode cX2_lambda_isCalledFor_5 1 = .ok (.iload_n 2, 1) := dk_28 (dk_at dksX2_lambda_isCalledFor_5_0 1 rfl rfl)
theorem dX2_lambda_isCalledFor_5_2 : decode cX2_lambda_isCalledFor_5 2 = .ok (.iload_n 1, 1) := dk_27 (dk_at dksX2_lambda_isCalledFor_5_0 2 rfl rfl)
theorem dX2_lambda_isCalledFor_5_3 : decode cX2_lambda_isCalledFor_5 3 = .ok (.invokevirtual 153, 3) := dk_182 0 153 (dk_at dksX2_lambda_isCalledFor_5_0 3 rfl rfl)
theorem dX2_lambda_isCalledFor_5_6 : decode cX2_lambda_isCalledFor_5 6 = .ok (.ifCond .eq 18, 3) := dk_153 0 18 (dk_at dksX2_lambda_isCalledFor_5_0 6 rfl rfl)
theorem dX2_lambda_isCalledFor_5_9 : decode cX2_lambda_isCalledFor_5 9 = .ok (.aload_n 0, 1) := dk_42 (dk_at dksX2_lambda_isCalledFor_5_0 9 rfl rfl)
theorem dX2_lambda_isCalledFor_5_10 : decode cX2_lambda_isCalledFor_5 10 = .ok (.iload_n 2, 1) := dk_28 (dk_at dksX2_lambda_isCalledFor_5_0 10 rfl rfl)
theorem dX2_lambda_isCalledFor_5_11 : decode cX2_lambda_isCalledFor_5 11 = .ok (.invokevirtual 145, 3) := dk_182 0 145 (dk_at dksX2_lambda_isCalledFor_5_0 11 rfl rfl)
theorem dX2_lambda_isCalledFor_5_14 : decode cX2_lambda_isCalledFor_5 14 = .ok (.getfield 157, 3) := dk_180 0 157 (dk_at dksX2_lambda_isCalledFor_5_0 14 rfl rfl)
theorem dX2_lambda_isCalledFor_5_17 : decode cX2_lambda_isCalledFor_5 17 = .ok (.ifCond .eq 7, 3) := dk_153 0 7 (dk_at dksX2_lambda_isCalledFor_5_0 17 rfl rfl)
theorem dX2_lambda_isCalledFor_5_20 : decode cX2_lambda_isCalledFor_5 20 = .ok (.iconst 1, 1) := dk_4 (dk_at dksX2_lambda_isCalledFor_5_0 20 rfl rfl)
theorem dX2_lambda_isCalledFor_5_21 : decode cX2_lambda_isCalledFor_5 21 = .ok (.goto 4, 3) := dk_167 0 4 (dk_at dksX2_lambda_isCalledFor_5_0 21 rfl rfl)
theorem dX2_lambda_isCalledFor_5_24 : decode cX2_lambda_isCalledFor_5 24 = .ok (.iconst 0, 1) := dk_3 (dk_at dksX2_lambda_isCalledFor_5_1 0 rfl rfl)
theorem dX2_lambda_isCalledFor_5_25 : decode cX2_lambda_isCalledFor_5 25 = .ok (.ireturn, 1) := dk_172 (dk_at dksX2_lambda_isCalledFor_5_1 1 rfl rfl)
abbrev cX2_cause : ByteArray := prog_6_method_37_code
def yX2_cause : MethodName := ⟨RX2, "cause", "(I)I"⟩
def dkwX2_cause_4 : List UInt8 := [182, 0, 218, 96, 167, 0, 4, 3, 172]
abbrev dktX2_cause_4 : List UInt8 := dkwX2_cause_4 ++ []
def dkwX2_cause_3 : List UInt8 := [96, 42, 180, 0, 111, 100, 167, 0, 26, 17, 1, 44, 42, 182, 0, 224, 96, 167, 0, 15, 17, 1, 144, 42]
abbrev dktX2_cause_3 : List UInt8 := dkwX2_cause_3 ++ dktX2_cause_4
def dkwX2_cause_2 : List UInt8 := [16, 100, 42, 180, 0, 44, 96, 167, 0, 49, 17, 0, 200, 42, 42, 180, 0, 105, 182, 0, 145, 180, 0, 215]
abbrev dktX2_cause_2 : List UInt8 := dkwX2_cause_2 ++ dktX2_cause_3
def dkwX2_cause_1 : List UInt8 := [170, 0, 0, 0, 0, 0, 98, 0, 0, 0, 2, 0, 0, 0, 8, 0, 0, 0, 43, 0, 0, 0, 43, 0, 0, 0, 98, 0, 0, 0, 53, 0, 0, 0, 76, 0, 0, 0, 87, 0, 0, 0, 87]
abbrev dktX2_cause_1 : List UInt8 := dkwX2_cause_1 ++ dktX2_cause_2
def dkwX2_cause_0 : List UInt8 := [42, 27, 182, 1, 34]
abbrev dktX2_cause_0 : List UInt8 := dkwX2_cause_0 ++ dktX2_cause_1
theorem dksX2_cause_0 : cX2_cause.data.toList.drop 0 = dktX2_cause_0 := by decide +kernel
theorem dksX2_cause_1 : cX2_cause.data.toList.drop 5 = dktX2_cause_1 := dk_seg dksX2_cause_0 5 rfl rfl
theorem dksX2_cause_2 : cX2_cause.data.toList.drop 48 = dktX2_cause_2 := dk_seg dksX2_cause_1 43 rfl rfl
theorem dksX2_cause_3 : cX2_cause.data.toList.drop 72 = dktX2_cause_3 := dk_seg dksX2_cause_2 24 rfl rfl
theorem dksX2_cause_4 : cX2_cause.data.toList.drop 96 = dktX2_cause_4 := dk_seg dksX2_cause_3 24 rfl rfl
theorem dX2_cause_0 : decode cX2_cause 0 = .ok (.aload_n 0, 1) := dk_42 (dk_at dksX2_cause_0 0 rfl rfl)
theorem dX2_cause_1 : decode cX2_cause 1 = .ok (.iload_n 1, 1) := dk_27 (dk_at dksX2_cause_0 1 rfl rfl)
theorem dX2_cause_2 : decode cX2_cause 2 = .ok (.invokevirtual 290, 3) := dk_182 1 34 (dk_at dksX2_cause_0 2 rfl rfl)
theorem dX2_cause_5 : decode cX2_cause 5 = .ok (.tableswitch 98 2 8 #[43, 43, 98, 53, 76, 87, 87], 43) := by decide +kernel
theorem dX2_cause_48 : decode cX2_cause 48 = .ok (.bipush 100, 2) := dk_16 100 (dk_at dksX2_cause_2 0 rfl rfl)
theorem dX2_cause_50 : decode cX2_cause 50 = .ok (.aload_n 0, 1) := dk_42 (dk_at dksX2_cause_2 2 rfl rfl)
theorem dX2_cause_51 : decode cX2_cause 51 = .ok (.getfield 44, 3) := dk_180 0 44 (dk_at dksX2_cause_2 3 rfl rfl)
theorem dX2_cause_54 : decode cX2_cause 54 = .ok (.iadd, 1) := dk_96 (dk_at dksX2_cause_2 6 rfl rfl)
theorem dX2_cause_55 : decode cX2_cause 55 = .ok (.goto 49, 3) := dk_167 0 49 (dk_at dksX2_cause_2 7 rfl rfl)
theorem dX2_cause_58 : decode cX2_cause 58 = .ok (.sipush 200, 3) := dk_17 0 200 (dk_at dksX2_cause_2 10 rfl rfl)
theorem dX2_cause_61 : decode cX2_cause 61 = .ok (.aload_n 0, 1) := dk_42 (dk_at dksX2_cause_2 13 rfl rfl)
theorem dX2_cause_62 : decode cX2_cause 62 = .ok (.aload_n 0, 1) := dk_42 (dk_at dksX2_cause_2 14 rfl rfl)
theorem dX2_cause_63 : decode cX2_cause 63 = .ok (.getfield 105, 3) := dk_180 0 105 (dk_at dksX2_cause_2 15 rfl rfl)
theorem dX2_cause_66 : decode cX2_cause 66 = .ok (.invokevirtual 145, 3) := dk_182 0 145 (dk_at dksX2_cause_2 18 rfl rfl)
theorem dX2_cause_69 : decode cX2_cause 69 = .ok (.getfield 215, 3) := dk_180 0 215 (dk_at dksX2_cause_2 21 rfl rfl)
theorem dX2_cause_72 : decode cX2_cause 72 = .ok (.iadd, 1) := dk_96 (dk_at dksX2_cause_3 0 rfl rfl)
theorem dX2_cause_73 : decode cX2_cause 73 = .ok (.aload_n 0, 1) := dk_42 (dk_at dksX2_cause_3 1 rfl rfl)
theorem dX2_cause_74 : decode cX2_cause 74 = .ok (.getfield 111, 3) := dk_180 0 111 (dk_at dksX2_cause_3 2 rfl rfl)
theorem dX2_cause_77 : decode cX2_cause 77 = .ok (.isub, 1) := dk_100 (dk_at dksX2_cause_3 5 rfl rfl)
theorem dX2_cause_78 : decode cX2_cause 78 = .ok (.goto 26, 3) := dk_167 0 26 (dk_at dksX2_cause_3 6 rfl rfl)
theorem dX2_cause_81 : decode cX2_cause 81 = .ok (.sipush 300, 3) := dk_17 1 44 (dk_at dksX2_cause_3 9 rfl rfl)
theorem dX2_cause_84 : decode cX2_cause 84 = .ok (.aload_n 0, 1) := dk_42 (dk_at dksX2_cause_3 12 rfl rfl)
theorem dX2_cause_85 : decode cX2_cause 85 = .ok (.invokevirtual 224, 3) := dk_182 0 224 (dk_at dksX2_cause_3 13 rfl rfl)
theorem dX2_cause_88 : decode cX2_cause 88 = .ok (.iadd, 1) := dk_96 (dk_at dksX2_cause_3 16 rfl rfl)
theorem dX2_cause_89 : decode cX2_cause 89 = .ok (.goto 15, 3) := dk_167 0 15 (dk_at dksX2_cause_3 17 rfl rfl)
theorem dX2_cause_92 : decode cX2_cause 92 = .ok (.sipush 400, 3) := dk_17 1 144 (dk_at dksX2_cause_3 20 rfl rfl)
theorem dX2_cause_95 : decode cX2_cause 95 = .ok (.aload_n 0, 1) := dk_42 (dk_at dksX2_cause_3 23 rfl rfl)
theorem dX2_cause_96 : decode cX2_cause 96 = .ok (.invokevirtual 218, 3) := dk_182 0 218 (dk_at dksX2_cause_4 0 rfl rfl)
theorem dX2_cause_99 : decode cX2_cause 99 = .ok (.iadd, 1) := dk_96 (dk_at dksX2_cause_4 3 rfl rfl)
theorem dX2_cause_100 : decode cX2_cause 100 = .ok (.goto 4, 3) := dk_167 0 4 (dk_at dksX2_cause_4 4 rfl rfl)
theorem dX2_cause_103 : decode cX2_cause 103 = .ok (.iconst 0, 1) := dk_3 (dk_at dksX2_cause_4 7 rfl rfl)
theorem dX2_cause_104 : decode cX2_cause 104 = .ok (.ireturn, 1) := dk_172 (dk_at dksX2_cause_4 8 rfl rfl)
abbrev cX2_couldJoin : ByteArray := prog_6_method_41_code
def yX2_couldJoin : MethodName := ⟨RX2, "couldJoin", "(II)Z"⟩
def dkwX2_couldJoin_1 : List UInt8 := [186, 1, 56, 0, 0, 184, 1, 6, 154, 0, 7, 4, 167, 0, 4, 3, 172]
abbrev dktX2_couldJoin_1 : List UInt8 := dkwX2_couldJoin_1 ++ []
def dkwX2_couldJoin_0 : List UInt8 := [42, 27, 28, 182, 0, 153, 153, 0, 5, 3, 172, 42, 180, 0, 14, 185, 0, 49, 1, 0, 42, 27, 28]
abbrev dktX2_couldJoin_0 : List UInt8 := dkwX2_couldJoin_0 ++ dktX2_couldJoin_1
theorem dksX2_couldJoin_0 : cX2_couldJoin.data.toList.drop 0 = dktX2_couldJoin_0 := by decide +kernel
theorem dksX2_couldJoin_1 : cX2_couldJoin.data.toList.drop 23 = dktX2_couldJoin_1 := dk_seg dksX2_couldJoin_0 23 rfl rfl
theorem dX2_couldJoin_0 : decode cX2_couldJoin 0 = .ok (.aload_n 0, 1) := dk_42 (dk_at dksX2_couldJoin_0 0 rfl rfl)
theorem dX2_couldJoin_1 : decode cX2_couldJoin 1 = .ok (.iload_n 1, 1) := dk_27 (dk_at dksX2_couldJoin_0 1 rfl rfl)
theorem dX2_couldJoin_2 : decode cX2_couldJoin 2 = .ok (.iload_n 2, 1) := dk_28 (dk_at dksX2_couldJoin_0 2 rfl rfl)
theorem dX2_couldJoin_3 : decode cX2_couldJoin 3 = .ok (.invokevirtual 153, 3) := dk_182 0 153 (dk_at dksX2_couldJoin_0 3 rfl rfl)
theorem dX2_couldJoin_6 : decode cX2_couldJoin 6 = .ok (.ifCond .eq 5, 3) := dk_153 0 5 (dk_at dksX2_couldJoin_0 6 rfl rfl)
theorem dX2_couldJoin_9 : decode cX2_couldJoin 9 = .ok (.iconst 0, 1) := dk_3 (dk_at dksX2_couldJoin_0 9 rfl rfl)
theorem dX2_couldJoin_10 : decode cX2_couldJoin 10 = .ok (.ireturn, 1) := dk_172 (dk_at dksX2_couldJoin_0 10 rfl rfl)
theorem dX2_couldJoin_11 : decode cX2_couldJoin 11 = .ok (.aload_n 0, 1) := dk_42 (dk_at dksX2_couldJoin_0 11 rfl rfl)
theorem dX2_couldJoin_12 : decode cX2_couldJoin 12 = .ok (.getfield 14, 3) := dk_180 0 14 (dk_at dksX2_couldJoin_0 12 rfl rfl)
theorem dX2_couldJoin_15 : decode cX2_couldJoin 15 = .ok (.invokeinterface 49 1, 5) := by decide +kernel
theorem dX2_couldJoin_20 : decode cX2_couldJoin 20 = .ok (.aload_n 0, 1) := dk_42 (dk_at dksX2_couldJoin_0 20 rfl rfl)
theorem dX2_couldJoin_21 : decode cX2_couldJoin 21 = .ok (.iload_n 1, 1) := dk_27 (dk_at dksX2_couldJoin_0 21 rfl rfl)
theorem dX2_couldJoin_22 : decode cX2_couldJoin 22 = .ok (.iload_n 2, 1) := dk_28 (dk_at dksX2_couldJoin_0 22 rfl rfl)
theorem dX2_couldJoin_23 : decode cX2_couldJoin 23 = .ok (.invokedynamic 312, 5) := by decide +kernel
theorem dX2_couldJoin_28 : decode cX2_couldJoin 28 = .ok (.invokestatic 262, 3) := dk_184 1 6 (dk_at dksX2_couldJoin_1 5 rfl rfl)
theorem dX2_couldJoin_31 : decode cX2_couldJoin 31 = .ok (.ifCond .ne 7, 3) := dk_154 0 7 (dk_at dksX2_couldJoin_1 8 rfl rfl)
theorem dX2_couldJoin_34 : decode cX2_couldJoin 34 = .ok (.iconst 1, 1) := dk_4 (dk_at dksX2_couldJoin_1 11 rfl rfl)
theorem dX2_couldJoin_35 : decode cX2_couldJoin 35 = .ok (.goto 4, 3) := dk_167 0 4 (dk_at dksX2_couldJoin_1 12 rfl rfl)
theorem dX2_couldJoin_38 : decode cX2_couldJoin 38 = .ok (.iconst 0, 1) := dk_3 (dk_at dksX2_couldJoin_1 15 rfl rfl)
theorem dX2_couldJoin_39 : decode cX2_couldJoin 39 = .ok (.ireturn, 1) := dk_172 (dk_at dksX2_couldJoin_1 16 rfl rfl)
abbrev cX2_lambda_couldJoin_7 : ByteArray := prog_6_method_44_code
def yX2_lambda_couldJoin_7 : MethodName := ⟨RX2, "lambda$couldJoin$7", "(III)Z"⟩
def dkwX2_lambda_couldJoin_7_0 : List UInt8 := [42, 27, 29, 182, 0, 153, 153, 0, 16, 42, 29, 28, 182, 1, 37, 153, 0, 7, 4, 167, 0, 4, 3, 172]
abbrev dktX2_lambda_couldJoin_7_0 : List UInt8 := dkwX2_lambda_couldJoin_7_0 ++ []
theorem dksX2_lambda_couldJoin_7_0 : cX2_lambda_couldJoin_7.data.toList.drop 0 = dktX2_lambda_couldJoin_7_0 := by decide +kernel
theorem dX2_lambda_couldJoin_7_0 : decode cX2_lambda_couldJoin_7 0 = .ok (.aload_n 0, 1) := dk_42 (dk_at dksX2_lambda_couldJoin_7_0 0 rfl rfl)
theorem dX2_lambda_couldJoin_7_1 : decode cX2_lambda_couldJoin_7 1 = .ok (.iload_n 1, 1) := dk_27 (dk_at dksX2_lambda_couldJoin_7_0 1 rfl rfl)
theorem dX2_lambda_couldJoin_7_2 : decode cX2_lambda_couldJoin_7 2 = .ok (.iload_n 3, 1) := dk_29 (dk_at dksX2_lambda_couldJoin_7_0 2 rfl rfl)
theorem dX2_lambda_couldJoin_7_3 : decode cX2_lambda_couldJoin_7 3 = .ok (.invokevirtual 153, 3) := dk_182 0 153 (dk_at dksX2_lambda_couldJoin_7_0 3 rfl rfl)
theorem dX2_lambda_couldJoin_7_6 : decode cX2_lambda_couldJoin_7 6 = .ok (.ifCond .eq 16, 3) := dk_153 0 16 (dk_at dksX2_lambda_couldJoin_7_0 6 rfl rfl)
theorem dX2_lambda_couldJoin_7_9 : decode cX2_lambda_couldJoin_7 9 = .ok (.aload_n 0, 1) := dk_42 (dk_at dksX2_lambda_couldJoin_7_0 9 rfl rfl)
theorem dX2_lambda_couldJoin_7_10 : decode cX2_lambda_couldJoin_7 10 = .ok (.iload_n 3, 1) := dk_29 (dk_at dksX2_lambda_couldJoin_7_0 10 rfl rfl)
theorem dX2_lambda_couldJoin_7_11 : decode cX2_lambda_couldJoin_7 11 = .ok (.iload_n 2, 1) := dk_28 (dk_at dksX2_lambda_couldJoin_7_0 11 rfl rfl)
theorem dX2_lambda_couldJoin_7_12 : decode cX2_lambda_couldJoin_7 12 = .ok (.invokevirtual 293, 3) := dk_182 1 37 (dk_at dksX2_lambda_couldJoin_7_0 12 rfl rfl)
theorem dX2_lambda_couldJoin_7_15 : decode cX2_lambda_couldJoin_7 15 = .ok (.ifCond .eq 7, 3) := dk_153 0 7 (dk_at dksX2_lambda_couldJoin_7_0 15 rfl rfl)
theorem dX2_lambda_couldJoin_7_18 : decode cX2_lambda_couldJoin_7 18 = .ok (.iconst 1, 1) := dk_4 (dk_at dksX2_lambda_couldJoin_7_0 18 rfl rfl)
theorem dX2_lambda_couldJoin_7_19 : decode cX2_lambda_couldJoin_7 19 = .ok (.goto 4, 3) := dk_167 0 4 (dk_at dksX2_lambda_couldJoin_7_0 19 rfl rfl)
theorem dX2_lambda_couldJoin_7_22 : decode cX2_lambda_couldJoin_7 22 = .ok (.iconst 0, 1) := dk_3 (dk_at dksX2_lambda_couldJoin_7_0 22 rfl rfl)
theorem dX2_lambda_couldJoin_7_23 : decode cX2_lambda_couldJoin_7 23 = .ok (.ireturn, 1) := dk_172 (dk_at dksX2_lambda_couldJoin_7_0 23 rfl rfl)
abbrev cX2_clashes : ByteArray := prog_6_method_30_code
def yX2_clashes : MethodName := ⟨RX2, "clashes", "(IIZ)I"⟩
def dkwX2_clashes_3 : List UInt8 := [180, 0, 33, 182, 1, 22, 172]
abbrev dktX2_clashes_3 : List UInt8 := dkwX2_clashes_3 ++ []
def dkwX2_clashes_2 : List UInt8 := [180, 0, 33, 25, 4, 182, 0, 132, 167, 0, 12, 42, 180, 0, 33, 25, 4, 182, 1, 19, 54, 5, 42]
abbrev dktX2_clashes_2 : List UInt8 := dkwX2_clashes_2 ++ dktX2_clashes_3
def dkwX2_clashes_1 : List UInt8 := [42, 27, 28, 186, 1, 16, 0, 0, 184, 1, 6, 158, 0, 6, 16, 251, 172, 29, 153, 0, 15, 42]
abbrev dktX2_clashes_1 : List UInt8 := dkwX2_clashes_1 ++ dktX2_clashes_2
def dkwX2_clashes_0 : List UInt8 := [187, 0, 90, 89, 27, 28, 183, 0, 139, 58, 4, 29, 153, 0, 29, 42, 180, 0, 20, 185, 0, 49, 1, 0]
abbrev dktX2_clashes_0 : List UInt8 := dkwX2_clashes_0 ++ dktX2_clashes_1
theorem dksX2_clashes_0 : cX2_clashes.data.toList.drop 0 = dktX2_clashes_0 := by decide +kernel
theorem dksX2_clashes_1 : cX2_clashes.data.toList.drop 24 = dktX2_clashes_1 := dk_seg dksX2_clashes_0 24 rfl rfl
theorem dksX2_clashes_2 : cX2_clashes.data.toList.drop 46 = dktX2_clashes_2 := dk_seg dksX2_clashes_1 22 rfl rfl
theorem dksX2_clashes_3 : cX2_clashes.data.toList.drop 69 = dktX2_clashes_3 := dk_seg dksX2_clashes_2 23 rfl rfl
theorem dX2_clashes_0 : decode cX2_clashes 0 = .ok (.new 90, 3) := dk_187 0 90 (dk_at dksX2_clashes_0 0 rfl rfl)
theorem dX2_clashes_3 : decode cX2_clashes 3 = .ok (.dup, 1) := dk_89 (dk_at dksX2_clashes_0 3 rfl rfl)
theorem dX2_clashes_4 : decode cX2_clashes 4 = .ok (.iload_n 1, 1) := dk_27 (dk_at dksX2_clashes_0 4 rfl rfl)
theorem dX2_clashes_5 : decode cX2_clashes 5 = .ok (.iload_n 2, 1) := dk_28 (dk_at dksX2_clashes_0 5 rfl rfl)
theorem dX2_clashes_6 : decode cX2_clashes 6 = .ok (.invokespecial 139, 3) := dk_183 0 139 (dk_at dksX2_clashes_0 6 rfl rfl)
theorem dX2_clashes_9 : decode cX2_clashes 9 = .ok (.astore 4, 2) := dk_58 4 (dk_at dksX2_clashes_0 9 rfl rfl)
theorem dX2_clashes_11 : decode cX2_clashes 11 = .ok (.iload_n 3, 1) := dk_29 (dk_at dksX2_clashes_0 11 rfl rfl)
theorem dX2_clashes_12 : decode cX2_clashes 12 = .ok (.ifCond .eq 29, 3) := dk_153 0 29 (dk_at dksX2_clashes_0 12 rfl rfl)
theorem dX2_clashes_15 : decode cX2_clashes 15 = .ok (.aload_n 0, 1) := dk_42 (dk_at dksX2_clashes_0 15 rfl rfl)
theorem dX2_clashes_16 : decode cX2_clashes 16 = .ok (.getfield 20, 3) := dk_180 0 20 (dk_at dksX2_clashes_0 16 rfl rfl)
theorem dX2_clashes_19 : decode cX2_clashes 19 = .ok (.invokeinterface 49 1, 5) := by decide +kernel
theorem dX2_clashes_24 : decode cX2_clashes 24 = .ok (.aload_n 0, 1) := dk_42 (dk_at dksX2_clashes_1 0 rfl rfl)
theorem dX2_clashes_25 : decode cX2_clashes 25 = .ok (.iload_n 1, 1) := dk_27 (dk_at dksX2_clashes_1 1 rfl rfl)
theorem dX2_clashes_26 : decode cX2_clashes 26 = .ok (.iload_n 2, 1) := dk_28 (dk_at dksX2_clashes_1 2 rfl rfl)
theorem dX2_clashes_27 : decode cX2_clashes 27 = .ok (.invokedynamic 272, 5) := by decide +kernel
theorem dX2_clashes_32 : decode cX2_clashes 32 = .ok (.invokestatic 262, 3) := dk_184 1 6 (dk_at dksX2_clashes_1 8 rfl rfl)
theorem dX2_clashes_35 : decode cX2_clashes 35 = .ok (.ifCond .le 6, 3) := dk_158 0 6 (dk_at dksX2_clashes_1 11 rfl rfl)
theorem dX2_clashes_38 : decode cX2_clashes 38 = .ok (.bipush (-5), 2) := dk_16 251 (dk_at dksX2_clashes_1 14 rfl rfl)
theorem dX2_clashes_40 : decode cX2_clashes 40 = .ok (.ireturn, 1) := dk_172 (dk_at dksX2_clashes_1 16 rfl rfl)
theorem dX2_clashes_41 : decode cX2_clashes 41 = .ok (.iload_n 3, 1) := dk_29 (dk_at dksX2_clashes_1 17 rfl rfl)
theorem dX2_clashes_42 : decode cX2_clashes 42 = .ok (.ifCond .eq 15, 3) := dk_153 0 15 (dk_at dksX2_clashes_1 18 rfl rfl)
theorem dX2_clashes_45 : decode cX2_clashes 45 = .ok (.aload_n 0, 1) := dk_42 (dk_at dksX2_clashes_1 21 rfl rfl)
theorem dX2_clashes_46 : decode cX2_clashes 46 = .ok (.getfield 33, 3) := dk_180 0 33 (dk_at dksX2_clashes_2 0 rfl rfl)
theorem dX2_clashes_49 : decode cX2_clashes 49 = .ok (.aload 4, 2) := dk_25 4 (dk_at dksX2_clashes_2 3 rfl rfl)
theorem dX2_clashes_51 : decode cX2_clashes 51 = .ok (.invokevirtual 132, 3) := dk_182 0 132 (dk_at dksX2_clashes_2 5 rfl rfl)
theorem dX2_clashes_54 : decode cX2_clashes 54 = .ok (.goto 12, 3) := dk_167 0 12 (dk_at dksX2_clashes_2 8 rfl rfl)
theorem dX2_clashes_57 : decode cX2_clashes 57 = .ok (.aload_n 0, 1) := dk_42 (dk_at dksX2_clashes_2 11 rfl rfl)
theorem dX2_clashes_58 : decode cX2_clashes 58 = .ok (.getfield 33, 3) := dk_180 0 33 (dk_at dksX2_clashes_2 12 rfl rfl)
theorem dX2_clashes_61 : decode cX2_clashes 61 = .ok (.aload 4, 2) := dk_25 4 (dk_at dksX2_clashes_2 15 rfl rfl)
theorem dX2_clashes_63 : decode cX2_clashes 63 = .ok (.invokevirtual 275, 3) := dk_182 1 19 (dk_at dksX2_clashes_2 17 rfl rfl)
theorem dX2_clashes_66 : decode cX2_clashes 66 = .ok (.istore 5, 2) := dk_54 5 (dk_at dksX2_clashes_2 20 rfl rfl)
theorem dX2_clashes_68 : decode cX2_clashes 68 = .ok (.aload_n 0, 1) := dk_42 (dk_at dksX2_clashes_2 22 rfl rfl)
theorem dX2_clashes_69 : decode cX2_clashes 69 = .ok (.getfield 33, 3) := dk_180 0 33 (dk_at dksX2_clashes_3 0 rfl rfl)
theorem dX2_clashes_72 : decode cX2_clashes 72 = .ok (.invokevirtual 278, 3) := dk_182 1 22 (dk_at dksX2_clashes_3 3 rfl rfl)
theorem dX2_clashes_75 : decode cX2_clashes 75 = .ok (.ireturn, 1) := dk_172 (dk_at dksX2_clashes_3 6 rfl rfl)
abbrev cX2_lambda_clashes_2 : ByteArray := prog_6_method_49_code
def yX2_lambda_clashes_2 : MethodName := ⟨RX2, "lambda$clashes$2", "(III)Z"⟩
def dkwX2_lambda_clashes_2_0 : List UInt8 := [42, 29, 27, 182, 0, 153, 153, 0, 16, 42, 29, 28, 182, 0, 153, 153, 0, 7, 4, 167, 0, 4, 3, 172]
abbrev dktX2_lambda_clashes_2_0 : List UInt8 := dkwX2_lambda_clashes_2_0 ++ []
theorem dksX2_lambda_clashes_2_0 : cX2_lambda_clashes_2.data.toList.drop 0 = dktX2_lambda_clashes_2_0 := by decide +kernel
theorem dX2_lambda_clashes_2_0 : decode cX2_lambda_clashes_2 0 = .ok (.aload_n 0, 1) := dk_42 (dk_at dksX2_lambda_clashes_2_0 0 rfl rfl)
theorem dX2_lambda_clashes_2_1 : decode cX2_lambda_clashes_2 1 = .ok (.iload_n 3, 1) := dk_29 (dk_at dksX2_lambda_clashes_2_0 1 rfl rfl)
theorem dX2_lambda_clashes_2_2 : decode cX2_lambda_clashes_2 2 = .ok (.iload_n 1, 1) := dk_27 (dk_at dksX2_lambda_clashes_2_0 2 rfl rfl)
theorem dX2_lambda_clashes_2_3 : decode cX2_lambda_clashes_2 3 = .ok (.invokevirtual 153, 3) := dk_182 0 153 (dk_at dksX2_lambda_clashes_2_0 3 rfl rfl)
theorem dX2_lambda_clashes_2_6 : decode cX2_lambda_clashes_2 6 = .ok (.ifCond .eq 16, 3) := dk_153 0 16 (dk_at dksX2_lambda_clashes_2_0 6 rfl rfl)
theorem dX2_lambda_clashes_2_9 : decode cX2_lambda_clashes_2 9 = .ok (.aload_n 0, 1) := dk_42 (dk_at dksX2_lambda_clashes_2_0 9 rfl rfl)
theorem dX2_lambda_clashes_2_10 : decode cX2_lambda_clashes_2 10 = .ok (.iload_n 3, 1) := dk_29 (dk_at dksX2_lambda_clashes_2_0 10 rfl rfl)
theorem dX2_lambda_clashes_2_11 : decode cX2_lambda_clashes_2 11 = .ok (.iload_n 2, 1) := dk_28 (dk_at dksX2_lambda_clashes_2_0 11 rfl rfl)
theorem dX2_lambda_clashes_2_12 : decode cX2_lambda_clashes_2 12 = .ok (.invokevirtual 153, 3) := dk_182 0 153 (dk_at dksX2_lambda_clashes_2_0 12 rfl rfl)
theorem dX2_lambda_clashes_2_15 : decode cX2_lambda_clashes_2 15 = .ok (.ifCond .eq 7, 3) := dk_153 0 7 (dk_at dksX2_lambda_clashes_2_0 15 rfl rfl)
theorem dX2_lambda_clashes_2_18 : decode cX2_lambda_clashes_2 18 = .ok (.iconst 1, 1) := dk_4 (dk_at dksX2_lambda_clashes_2_0 18 rfl rfl)
theorem dX2_lambda_clashes_2_19 : decode cX2_lambda_clashes_2 19 = .ok (.goto 4, 3) := dk_167 0 4 (dk_at dksX2_lambda_clashes_2_0 19 rfl rfl)
theorem dX2_lambda_clashes_2_22 : decode cX2_lambda_clashes_2 22 = .ok (.iconst 0, 1) := dk_3 (dk_at dksX2_lambda_clashes_2_0 22 rfl rfl)
theorem dX2_lambda_clashes_2_23 : decode cX2_lambda_clashes_2 23 = .ok (.ireturn, 1) := dk_172 (dk_at dksX2_lambda_clashes_2_0 23 rfl rfl)
theorem q152 : (Jvm.Cond.initialized "LoopSignals$Junction") ∈ lw_all := lw_g (lw_at lw_m1 4 rfl) rfl
theorem q245 : (Jvm.Cond.instantiable "LoopSignals$Junction" (11 : Nat)) ∈ lw_all := lw_g (lw_at lw_m1 97 rfl) rfl
theorem q247 : (Jvm.Cond.instanceMethod ({ cls := "LoopSignals$Junction", name := "<init>", desc := "()V" } : Jvm.MethodName)) ∈ lw_all := lw_g (lw_at lw_m1 99 rfl) rfl
theorem q248 : (Jvm.Cond.code ({ cls := "LoopSignals$Junction", name := "<init>", desc := "()V" } : Jvm.MethodName) prog_6_method_1_code (1 : Nat) (Option.none : Option Jvm.ClassFile.FieldType)) ∈ lw_all := lw_g (lw_at lw_m1 100 rfl) rfl
theorem q249 : (Jvm.Cond.methodLink "LoopSignals$Junction" (3 : Nat) ({ cls := "java/lang/Object", name := "<init>", desc := "()V" } : Jvm.MethodName)) ∈ lw_all := lw_g (lw_at lw_m1 101 rfl) rfl
theorem q250 : (Jvm.Cond.classLink "LoopSignals$Junction" (9 : Nat) "java/util/ArrayList") ∈ lw_all := lw_g (lw_at lw_m1 102 rfl) rfl
theorem q252 : (Jvm.Cond.methodLink "LoopSignals$Junction" (11 : Nat) ({ cls := "java/util/ArrayList", name := "<init>", desc := "(I)V" } : Jvm.MethodName)) ∈ lw_all := lw_g (lw_at lw_m1 104 rfl) rfl
theorem q590 : (Jvm.Cond.classLink "LoopSignals$Junction" (23 : Nat) "java/util/LinkedHashMap") ∈ lw_all := lw_g (lw_at lw_m2 202 rfl) rfl
theorem q592 : (Jvm.Cond.methodLink "LoopSignals$Junction" (25 : Nat) ({ cls := "java/util/LinkedHashMap", name := "<init>", desc := "()V" } : Jvm.MethodName)) ∈ lw_all := lw_g (lw_at lw_m2 204 rfl) rfl
theorem q649 : (Jvm.Cond.classLink "LoopSignals$Junction" (30 : Nat) "java/util/LinkedHashSet") ∈ lw_all := lw_g (lw_at lw_m3 21 rfl) rfl
theorem q651 : (Jvm.Cond.methodLink "LoopSignals$Junction" (32 : Nat) ({ cls := "java/util/LinkedHashSet", name := "<init>", desc := "()V" } : Jvm.MethodName)) ∈ lw_all := lw_g (lw_at lw_m3 23 rfl) rfl
theorem q1011 : (Jvm.Cond.selects "LoopSignals$Junction" ({ cls := "java/lang/Object", name := "toString", desc := "()Ljava/lang/String;" } : Jvm.MethodName) ({ cls := "java/lang/Object", name := "toString", desc := "()Ljava/lang/String;" } : Jvm.MethodName)) ∈ lw_all := lw_g (lw_at lw_m4 143 rfl) rfl
theorem q1030 : (Jvm.Cond.selects "LoopSignals$Junction" ({ cls := "java/lang/Object", name := "getClass", desc := "()Ljava/lang/Class;" } : Jvm.MethodName) ({ cls := "java/lang/Object", name := "getClass", desc := "()Ljava/lang/Class;" } : Jvm.MethodName)) ∈ lw_all := lw_g (lw_at lw_m4 162 rfl) rfl
theorem q1146 : (Jvm.Cond.fieldLink "LoopSignals$Junction" (14 : Nat) "LoopSignals$Junction" "arms" "Ljava/util/List;") ∈ lw_all := lw_g (lw_at lw_m5 38 rfl) rfl
theorem q1149 : (Jvm.Cond.fieldLink "LoopSignals$Junction" (20 : Nat) "LoopSignals$Junction" "phases" "Ljava/util/List;") ∈ lw_all := lw_g (lw_at lw_m5 41 rfl) rfl
theorem q1153 : (Jvm.Cond.fieldLink "LoopSignals$Junction" (26 : Nat) "LoopSignals$Junction" "byName" "Ljava/util/LinkedHashMap;") ∈ lw_all := lw_g (lw_at lw_m5 45 rfl) rfl
theorem q1154 : (Jvm.Cond.fieldLink "LoopSignals$Junction" (33 : Nat) "LoopSignals$Junction" "clashes" "Ljava/util/LinkedHashSet;") ∈ lw_all := lw_g (lw_at lw_m5 46 rfl) rfl
theorem q1156 : (Jvm.Cond.fieldLink "LoopSignals$Junction" (37 : Nat) "LoopSignals$Junction" "settings" "[I") ∈ lw_all := lw_g (lw_at lw_m5 48 rfl) rfl
theorem q1159 : (Jvm.Cond.fieldLink "LoopSignals$Junction" (41 : Nat) "LoopSignals$Junction" "accounts" "[I") ∈ lw_all := lw_g (lw_at lw_m5 51 rfl) rfl
theorem q1161 : (Jvm.Cond.fieldLink "LoopSignals$Junction" (102 : Nat) "LoopSignals$Junction" "tick" "I") ∈ lw_all := lw_g (lw_at lw_m5 53 rfl) rfl
theorem q1163 : (Jvm.Cond.fieldLink "LoopSignals$Junction" (105 : Nat) "LoopSignals$Junction" "on" "I") ∈ lw_all := lw_g (lw_at lw_m5 55 rfl) rfl
theorem q1165 : (Jvm.Cond.fieldLink "LoopSignals$Junction" (44 : Nat) "LoopSignals$Junction" "next" "I") ∈ lw_all := lw_g (lw_at lw_m5 57 rfl) rfl
theorem q1167 : (Jvm.Cond.fieldLink "LoopSignals$Junction" (108 : Nat) "LoopSignals$Junction" "mode" "I") ∈ lw_all := lw_g (lw_at lw_m5 59 rfl) rfl
theorem q1169 : (Jvm.Cond.fieldLink "LoopSignals$Junction" (111 : Nat) "LoopSignals$Junction" "age" "I") ∈ lw_all := lw_g (lw_at lw_m5 61 rfl) rfl
theorem q1171 : (Jvm.Cond.laysFinal "LoopSignals$Junction" "LoopSignals$Junction" "arms" "Ljava/util/List;") ∈ lw_all := lw_g (lw_at lw_m5 63 rfl) rfl
theorem q1172 : (Jvm.Cond.soleField "LoopSignals$Junction" "arms") ∈ lw_all := lw_g (lw_at lw_m5 64 rfl) rfl
theorem q1173 : (Jvm.Cond.laysFinal "LoopSignals$Junction" "LoopSignals$Junction" "phases" "Ljava/util/List;") ∈ lw_all := lw_g (lw_at lw_m5 65 rfl) rfl
theorem q1174 : (Jvm.Cond.soleField "LoopSignals$Junction" "phases") ∈ lw_all := lw_g (lw_at lw_m5 66 rfl) rfl
theorem q1175 : (Jvm.Cond.laysFinal "LoopSignals$Junction" "LoopSignals$Junction" "byName" "Ljava/util/LinkedHashMap;") ∈ lw_all := lw_g (lw_at lw_m5 67 rfl) rfl
theorem q1176 : (Jvm.Cond.soleField "LoopSignals$Junction" "byName") ∈ lw_all := lw_g (lw_at lw_m5 68 rfl) rfl
theorem q1177 : (Jvm.Cond.laysFinal "LoopSignals$Junction" "LoopSignals$Junction" "clashes" "Ljava/util/LinkedHashSet;") ∈ lw_all := lw_g (lw_at lw_m5 69 rfl) rfl
theorem q1178 : (Jvm.Cond.soleField "LoopSignals$Junction" "clashes") ∈ lw_all := lw_g (lw_at lw_m5 70 rfl) rfl
theorem q1179 : (Jvm.Cond.laysFinal "LoopSignals$Junction" "LoopSignals$Junction" "settings" "[I") ∈ lw_all := lw_g (lw_at lw_m5 71 rfl) rfl
theorem q1180 : (Jvm.Cond.soleField "LoopSignals$Junction" "settings") ∈ lw_all := lw_g (lw_at lw_m5 72 rfl) rfl
theorem q1181 : (Jvm.Cond.laysFinal "LoopSignals$Junction" "LoopSignals$Junction" "accounts" "[I") ∈ lw_all := lw_g (lw_at lw_m5 73 rfl) rfl
theorem q1182 : (Jvm.Cond.soleField "LoopSignals$Junction" "accounts") ∈ lw_all := lw_g (lw_at lw_m5 74 rfl) rfl
theorem q1183 : (Jvm.Cond.lays "LoopSignals$Junction" "LoopSignals$Junction" "tick" "I") ∈ lw_all := lw_g (lw_at lw_m5 75 rfl) rfl
theorem q1184 : (Jvm.Cond.soleField "LoopSignals$Junction" "tick") ∈ lw_all := lw_g (lw_at lw_m5 76 rfl) rfl
theorem q1185 : (Jvm.Cond.lays "LoopSignals$Junction" "LoopSignals$Junction" "on" "I") ∈ lw_all := lw_g (lw_at lw_m5 77 rfl) rfl
theorem q1186 : (Jvm.Cond.soleField "LoopSignals$Junction" "on") ∈ lw_all := lw_g (lw_at lw_m5 78 rfl) rfl
theorem q1187 : (Jvm.Cond.lays "LoopSignals$Junction" "LoopSignals$Junction" "next" "I") ∈ lw_all := lw_g (lw_at lw_m5 79 rfl) rfl
theorem q1188 : (Jvm.Cond.soleField "LoopSignals$Junction" "next") ∈ lw_all := lw_g (lw_at lw_m5 80 rfl) rfl
theorem q1189 : (Jvm.Cond.lays "LoopSignals$Junction" "LoopSignals$Junction" "mode" "I") ∈ lw_all := lw_g (lw_at lw_m5 81 rfl) rfl
theorem q1190 : (Jvm.Cond.soleField "LoopSignals$Junction" "mode") ∈ lw_all := lw_g (lw_at lw_m5 82 rfl) rfl
theorem q1191 : (Jvm.Cond.lays "LoopSignals$Junction" "LoopSignals$Junction" "age" "I") ∈ lw_all := lw_g (lw_at lw_m5 83 rfl) rfl
theorem q1192 : (Jvm.Cond.soleField "LoopSignals$Junction" "age") ∈ lw_all := lw_g (lw_at lw_m5 84 rfl) rfl
theorem q1193 : (Jvm.Cond.superclass "LoopSignals$Junction" "java/lang/Object") ∈ lw_all := lw_g (lw_at lw_m5 85 rfl) rfl
theorem q1214 : (Jvm.Cond.fieldLinkNest "LoopSignals$Junction" (172 : Nat) "LoopSignals$Line" "many" "I" "LoopSignals") ∈ lw_tbl := lw_at lw_m5 106 rfl
theorem q1228 : (Jvm.Cond.fieldLinkNest "LoopSignals$Junction" (114 : Nat) "LoopSignals$Arm" "name" "Ljava/lang/String;" "LoopSignals") ∈ lw_tbl := lw_at lw_m5 120 rfl
theorem q1231 : (Jvm.Cond.fieldLinkNest "LoopSignals$Junction" (168 : Nat) "LoopSignals$Arm" "line" "LLoopSignals$Line;" "LoopSignals") ∈ lw_tbl := lw_at lw_m5 123 rfl
theorem q1234 : (Jvm.Cond.fieldLinkNest "LoopSignals$Junction" (200 : Nat) "LoopSignals$Arm" "seen" "I" "LoopSignals") ∈ lw_tbl := lw_at lw_m5 126 rfl
theorem q1237 : (Jvm.Cond.fieldLinkNest "LoopSignals$Junction" (212 : Nat) "LoopSignals$Arm" "went" "I" "LoopSignals") ∈ lw_tbl := lw_at lw_m5 129 rfl
theorem q1240 : (Jvm.Cond.fieldLinkNest "LoopSignals$Junction" (206 : Nat) "LoopSignals$Arm" "greens" "I" "LoopSignals") ∈ lw_tbl := lw_at lw_m5 132 rfl
theorem q1243 : (Jvm.Cond.fieldLinkNest "LoopSignals$Junction" (268 : Nat) "LoopSignals$Arm" "isBroken" "Z" "LoopSignals") ∈ lw_tbl := lw_at lw_m5 135 rfl
theorem q1259 : (Jvm.Cond.instanceMethod ({ cls := "LoopSignals$Junction", name := "adds", desc := "(LLoopSignals$Arm;)V" } : Jvm.MethodName)) ∈ lw_all := lw_g (lw_at lw_m5 151 rfl) rfl
theorem q1260 : (Jvm.Cond.selects "LoopSignals$Junction" ({ cls := "LoopSignals$Junction", name := "adds", desc := "(LLoopSignals$Arm;)V" } : Jvm.MethodName) ({ cls := "LoopSignals$Junction", name := "adds", desc := "(LLoopSignals$Arm;)V" } : Jvm.MethodName)) ∈ lw_all := lw_g (lw_at lw_m5 152 rfl) rfl
theorem q1261 : (Jvm.Cond.code ({ cls := "LoopSignals$Junction", name := "adds", desc := "(LLoopSignals$Arm;)V" } : Jvm.MethodName) prog_6_method_3_code (4 : Nat) (Option.none : Option Jvm.ClassFile.FieldType)) ∈ lw_all := lw_g (lw_at lw_m5 153 rfl) rfl
theorem q1262 : (Jvm.Cond.interfaceEntry "LoopSignals$Junction" (49 : Nat)) ∈ lw_tbl := lw_at lw_m5 154 rfl
theorem q1263 : (Jvm.Cond.methodLink "LoopSignals$Junction" (49 : Nat) ({ cls := "java/util/List", name := "size", desc := "()I" } : Jvm.MethodName)) ∈ lw_all := lw_g (lw_at lw_m5 155 rfl) rfl
theorem q1272 : (Jvm.Cond.methodLink "LoopSignals$Junction" (118 : Nat) ({ cls := "java/lang/Integer", name := "valueOf", desc := "(I)Ljava/lang/Integer;" } : Jvm.MethodName)) ∈ lw_all := lw_g (lw_at lw_m5 164 rfl) rfl
theorem q1292 : (Jvm.Cond.methodLink "LoopSignals$Junction" (124 : Nat) ({ cls := "java/util/LinkedHashMap", name := "put", desc := "(Ljava/lang/Object;Ljava/lang/Object;)Ljava/lang/Object;" } : Jvm.MethodName)) ∈ lw_all := lw_g (lw_at lw_m5 184 rfl) rfl
theorem q1310 : (Jvm.Cond.selects "LoopSignals$Junction" ({ cls := "java/lang/Object", name := "hashCode", desc := "()I" } : Jvm.MethodName) ({ cls := "java/lang/Object", name := "hashCode", desc := "()I" } : Jvm.MethodName)) ∈ lw_all := lw_g (lw_at lw_m5 202 rfl) rfl
theorem q1739 : (Jvm.Cond.selects "LoopSignals$Junction" ({ cls := "java/lang/Object", name := "equals", desc := "(Ljava/lang/Object;)Z" } : Jvm.MethodName) ({ cls := "java/lang/Object", name := "equals", desc := "(Ljava/lang/Object;)Z" } : Jvm.MethodName)) ∈ lw_all := lw_g (lw_at lw_m7 151 rfl) rfl
theorem q1851 : (Jvm.Cond.classLink "LoopSignals$Junction" (119 : Nat) "java/lang/Integer") ∈ lw_all := lw_g (lw_at lw_m8 23 rfl) rfl
theorem q1852 : (Jvm.Cond.interfaceEntry "LoopSignals$Junction" (128 : Nat)) ∈ lw_tbl := lw_at lw_m8 24 rfl
theorem q1853 : (Jvm.Cond.methodLink "LoopSignals$Junction" (128 : Nat) ({ cls := "java/util/List", name := "add", desc := "(Ljava/lang/Object;)Z" } : Jvm.MethodName)) ∈ lw_all := lw_g (lw_at lw_m8 25 rfl) rfl
theorem q1899 : (Jvm.Cond.fieldLinkNest "LoopSignals$Junction" (296 : Nat) "LoopSignals$Couple" "lesser" "I" "LoopSignals") ∈ lw_tbl := lw_at lw_m8 71 rfl
theorem q1901 : (Jvm.Cond.fieldLinkNest "LoopSignals$Junction" (299 : Nat) "LoopSignals$Couple" "greater" "I" "LoopSignals") ∈ lw_tbl := lw_at lw_m8 73 rfl
theorem q1908 : (Jvm.Cond.instanceMethod ({ cls := "LoopSignals$Junction", name := "clash", desc := "(LLoopSignals$Couple;)V" } : Jvm.MethodName)) ∈ lw_all := lw_g (lw_at lw_m8 80 rfl) rfl
theorem q1909 : (Jvm.Cond.selects "LoopSignals$Junction" ({ cls := "LoopSignals$Junction", name := "clash", desc := "(LLoopSignals$Couple;)V" } : Jvm.MethodName) ({ cls := "LoopSignals$Junction", name := "clash", desc := "(LLoopSignals$Couple;)V" } : Jvm.MethodName)) ∈ lw_all := lw_g (lw_at lw_m8 81 rfl) rfl
theorem q1910 : (Jvm.Cond.code ({ cls := "LoopSignals$Junction", name := "clash", desc := "(LLoopSignals$Couple;)V" } : Jvm.MethodName) prog_6_method_5_code (3 : Nat) (Option.none : Option Jvm.ClassFile.FieldType)) ∈ lw_all := lw_g (lw_at lw_m8 82 rfl) rfl
theorem q1911 : (Jvm.Cond.methodLink "LoopSignals$Junction" (132 : Nat) ({ cls := "java/util/LinkedHashSet", name := "add", desc := "(Ljava/lang/Object;)Z" } : Jvm.MethodName)) ∈ lw_all := lw_g (lw_at lw_m8 83 rfl) rfl
theorem q1960 : (Jvm.Cond.fieldLinkNest "LoopSignals$Junction" (215 : Nat) "LoopSignals$Phase" "least" "I" "LoopSignals") ∈ lw_tbl := lw_at lw_m8 132 rfl
theorem q1964 : (Jvm.Cond.fieldLinkNest "LoopSignals$Junction" (221 : Nat) "LoopSignals$Phase" "most" "I" "LoopSignals") ∈ lw_tbl := lw_at lw_m8 136 rfl
theorem q1966 : (Jvm.Cond.fieldLinkNest "LoopSignals$Junction" (234 : Nat) "LoopSignals$Phase" "times" "I" "LoopSignals") ∈ lw_tbl := lw_at lw_m8 138 rfl
theorem q1969 : (Jvm.Cond.fieldLinkNest "LoopSignals$Junction" (157 : Nat) "LoopSignals$Phase" "isCalled" "Z" "LoopSignals") ∈ lw_tbl := lw_at lw_m8 141 rfl
theorem q2010 : (Jvm.Cond.instanceMethod ({ cls := "LoopSignals$Junction", name := "adds", desc := "(LLoopSignals$Phase;)V" } : Jvm.MethodName)) ∈ lw_all := lw_g (lw_at lw_m8 182 rfl) rfl
theorem q2011 : (Jvm.Cond.selects "LoopSignals$Junction" ({ cls := "LoopSignals$Junction", name := "adds", desc := "(LLoopSignals$Phase;)V" } : Jvm.MethodName) ({ cls := "LoopSignals$Junction", name := "adds", desc := "(LLoopSignals$Phase;)V" } : Jvm.MethodName)) ∈ lw_all := lw_g (lw_at lw_m8 183 rfl) rfl
theorem q2012 : (Jvm.Cond.code ({ cls := "LoopSignals$Junction", name := "adds", desc := "(LLoopSignals$Phase;)V" } : Jvm.MethodName) prog_6_method_4_code (3 : Nat) (Option.none : Option Jvm.ClassFile.FieldType)) ∈ lw_all := lw_g (lw_at lw_m8 184 rfl) rfl
theorem q2255 : (Jvm.Cond.instanceMethod ({ cls := "LoopSignals$Junction", name := "named", desc := "(Ljava/lang/String;)I" } : Jvm.MethodName)) ∈ lw_all := lw_g (lw_at lw_m9 187 rfl) rfl
theorem q2256 : (Jvm.Cond.selects "LoopSignals$Junction" ({ cls := "LoopSignals$Junction", name := "named", desc := "(Ljava/lang/String;)I" } : Jvm.MethodName) ({ cls := "LoopSignals$Junction", name := "named", desc := "(Ljava/lang/String;)I" } : Jvm.MethodName)) ∈ lw_all := lw_g (lw_at lw_m9 188 rfl) rfl
theorem q2257 : (Jvm.Cond.code ({ cls := "LoopSignals$Junction", name := "named", desc := "(Ljava/lang/String;)I" } : Jvm.MethodName) prog_6_method_6_code (3 : Nat) (Option.some Jvm.ClassFile.FieldType.int)) ∈ lw_all := lw_g (lw_at lw_m9 189 rfl) rfl
theorem q2258 : (Jvm.Cond.methodLink "LoopSignals$Junction" (133 : Nat) ({ cls := "java/util/LinkedHashMap", name := "get", desc := "(Ljava/lang/Object;)Ljava/lang/Object;" } : Jvm.MethodName)) ∈ lw_all := lw_g (lw_at lw_m9 190 rfl) rfl
theorem q2273 : (Jvm.Cond.methodLink "LoopSignals$Junction" (136 : Nat) ({ cls := "java/lang/Integer", name := "intValue", desc := "()I" } : Jvm.MethodName)) ∈ lw_all := lw_g (lw_at lw_m9 205 rfl) rfl
theorem q2321 : (Jvm.Cond.instanceMethod ({ cls := "LoopSignals$Junction", name := "doClash", desc := "(II)Z" } : Jvm.MethodName)) ∈ lw_all := lw_g (lw_at lw_m10 13 rfl) rfl
theorem q2322 : (Jvm.Cond.selects "LoopSignals$Junction" ({ cls := "LoopSignals$Junction", name := "doClash", desc := "(II)Z" } : Jvm.MethodName) ({ cls := "LoopSignals$Junction", name := "doClash", desc := "(II)Z" } : Jvm.MethodName)) ∈ lw_all := lw_g (lw_at lw_m10 14 rfl) rfl
theorem q2323 : (Jvm.Cond.code ({ cls := "LoopSignals$Junction", name := "doClash", desc := "(II)Z" } : Jvm.MethodName) prog_6_method_9_code (3 : Nat) (Option.some Jvm.ClassFile.FieldType.boolean)) ∈ lw_all := lw_g (lw_at lw_m10 15 rfl) rfl
theorem q2324 : (Jvm.Cond.classLink "LoopSignals$Junction" (90 : Nat) "LoopSignals$Couple") ∈ lw_all := lw_g (lw_at lw_m10 16 rfl) rfl
theorem q2325 : (Jvm.Cond.methodLink "LoopSignals$Junction" (139 : Nat) ({ cls := "LoopSignals$Couple", name := "<init>", desc := "(II)V" } : Jvm.MethodName)) ∈ lw_all := lw_g (lw_at lw_m10 17 rfl) rfl
theorem q2326 : (Jvm.Cond.methodLink "LoopSignals$Junction" (142 : Nat) ({ cls := "java/util/LinkedHashSet", name := "contains", desc := "(Ljava/lang/Object;)Z" } : Jvm.MethodName)) ∈ lw_all := lw_g (lw_at lw_m10 18 rfl) rfl
theorem q2481 : (Jvm.Cond.instanceMethod ({ cls := "LoopSignals$Junction", name := "passes", desc := "(I)I" } : Jvm.MethodName)) ∈ lw_all := lw_g (lw_at lw_m10 173 rfl) rfl
theorem q2482 : (Jvm.Cond.selects "LoopSignals$Junction" ({ cls := "LoopSignals$Junction", name := "passes", desc := "(I)I" } : Jvm.MethodName) ({ cls := "LoopSignals$Junction", name := "passes", desc := "(I)I" } : Jvm.MethodName)) ∈ lw_all := lw_g (lw_at lw_m10 174 rfl) rfl
theorem q2483 : (Jvm.Cond.code ({ cls := "LoopSignals$Junction", name := "passes", desc := "(I)I" } : Jvm.MethodName) prog_6_method_25_code (2 : Nat) (Option.some Jvm.ClassFile.FieldType.int)) ∈ lw_all := lw_g (lw_at lw_m10 175 rfl) rfl
theorem q2484 : (Jvm.Cond.methodLink "LoopSignals$Junction" (251 : Nat) ({ cls := "LoopSignals$Junction", name := "behind", desc := "(I)LLoopSignals$Junction;" } : Jvm.MethodName)) ∈ lw_all := lw_g (lw_at lw_m10 176 rfl) rfl
theorem q2485 : (Jvm.Cond.instanceMethod ({ cls := "LoopSignals$Junction", name := "behind", desc := "(I)LLoopSignals$Junction;" } : Jvm.MethodName)) ∈ lw_all := lw_g (lw_at lw_m10 177 rfl) rfl
theorem q2486 : (Jvm.Cond.selects "LoopSignals$Junction" ({ cls := "LoopSignals$Junction", name := "behind", desc := "(I)LLoopSignals$Junction;" } : Jvm.MethodName) ({ cls := "LoopSignals$Junction", name := "behind", desc := "(I)LLoopSignals$Junction;" } : Jvm.MethodName)) ∈ lw_all := lw_g (lw_at lw_m10 178 rfl) rfl
theorem q2487 : (Jvm.Cond.code ({ cls := "LoopSignals$Junction", name := "behind", desc := "(I)LLoopSignals$Junction;" } : Jvm.MethodName) prog_6_method_24_code (3 : Nat) (Option.some (Jvm.ClassFile.FieldType.object "LoopSignals$Junction"))) ∈ lw_all := lw_g (lw_at lw_m10 179 rfl) rfl
theorem q2488 : (Jvm.Cond.methodLink "LoopSignals$Junction" (248 : Nat) ({ cls := "LoopSignals$Junction", name := "ticks", desc := "()V" } : Jvm.MethodName)) ∈ lw_all := lw_g (lw_at lw_m10 180 rfl) rfl
theorem q2489 : (Jvm.Cond.privateMethod ({ cls := "LoopSignals$Junction", name := "ticks", desc := "()V" } : Jvm.MethodName)) ∈ lw_tbl := lw_at lw_m10 181 rfl
theorem q2490 : (Jvm.Cond.instanceMethod ({ cls := "LoopSignals$Junction", name := "ticks", desc := "()V" } : Jvm.MethodName)) ∈ lw_all := lw_g (lw_at lw_m10 182 rfl) rfl
theorem q2491 : (Jvm.Cond.code ({ cls := "LoopSignals$Junction", name := "ticks", desc := "()V" } : Jvm.MethodName) prog_6_method_23_code (2 : Nat) (Option.none : Option Jvm.ClassFile.FieldType)) ∈ lw_all := lw_g (lw_at lw_m10 183 rfl) rfl
theorem q2492 : (Jvm.Cond.methodLinkNest "LoopSignals$Junction" (227 : Nat) ({ cls := "LoopSignals", name := "one", desc := "(Z)I" } : Jvm.MethodName) "LoopSignals") ∈ lw_tbl := lw_at lw_m10 184 rfl
theorem q2493 : (Jvm.Cond.methodLink "LoopSignals$Junction" (237 : Nat) ({ cls := "LoopSignals$Junction", name := "light", desc := "(I)I" } : Jvm.MethodName)) ∈ lw_all := lw_g (lw_at lw_m10 185 rfl) rfl
theorem q2494 : (Jvm.Cond.instanceMethod ({ cls := "LoopSignals$Junction", name := "light", desc := "(I)I" } : Jvm.MethodName)) ∈ lw_all := lw_g (lw_at lw_m10 186 rfl) rfl
theorem q2495 : (Jvm.Cond.selects "LoopSignals$Junction" ({ cls := "LoopSignals$Junction", name := "light", desc := "(I)I" } : Jvm.MethodName) ({ cls := "LoopSignals$Junction", name := "light", desc := "(I)I" } : Jvm.MethodName)) ∈ lw_all := lw_g (lw_at lw_m10 187 rfl) rfl
theorem q2496 : (Jvm.Cond.code ({ cls := "LoopSignals$Junction", name := "light", desc := "(I)I" } : Jvm.MethodName) prog_6_method_11_code (2 : Nat) (Option.some Jvm.ClassFile.FieldType.int)) ∈ lw_all := lw_g (lw_at lw_m10 188 rfl) rfl
theorem q2497 : (Jvm.Cond.methodLink "LoopSignals$Junction" (153 : Nat) ({ cls := "LoopSignals$Junction", name := "isOf", desc := "(II)Z" } : Jvm.MethodName)) ∈ lw_all := lw_g (lw_at lw_m10 189 rfl) rfl
theorem q2498 : (Jvm.Cond.instanceMethod ({ cls := "LoopSignals$Junction", name := "isOf", desc := "(II)Z" } : Jvm.MethodName)) ∈ lw_all := lw_g (lw_at lw_m10 190 rfl) rfl
theorem q2499 : (Jvm.Cond.selects "LoopSignals$Junction" ({ cls := "LoopSignals$Junction", name := "isOf", desc := "(II)Z" } : Jvm.MethodName) ({ cls := "LoopSignals$Junction", name := "isOf", desc := "(II)Z" } : Jvm.MethodName)) ∈ lw_all := lw_g (lw_at lw_m10 191 rfl) rfl
theorem q2500 : (Jvm.Cond.code ({ cls := "LoopSignals$Junction", name := "isOf", desc := "(II)Z" } : Jvm.MethodName) prog_6_method_10_code (3 : Nat) (Option.some Jvm.ClassFile.FieldType.boolean)) ∈ lw_all := lw_g (lw_at lw_m10 192 rfl) rfl
theorem q2501 : (Jvm.Cond.methodLink "LoopSignals$Junction" (145 : Nat) ({ cls := "LoopSignals$Junction", name := "phase", desc := "(I)LLoopSignals$Phase;" } : Jvm.MethodName)) ∈ lw_all := lw_g (lw_at lw_m10 193 rfl) rfl
theorem q2502 : (Jvm.Cond.instanceMethod ({ cls := "LoopSignals$Junction", name := "phase", desc := "(I)LLoopSignals$Phase;" } : Jvm.MethodName)) ∈ lw_all := lw_g (lw_at lw_m10 194 rfl) rfl
theorem q2503 : (Jvm.Cond.selects "LoopSignals$Junction" ({ cls := "LoopSignals$Junction", name := "phase", desc := "(I)LLoopSignals$Phase;" } : Jvm.MethodName) ({ cls := "LoopSignals$Junction", name := "phase", desc := "(I)LLoopSignals$Phase;" } : Jvm.MethodName)) ∈ lw_all := lw_g (lw_at lw_m10 195 rfl) rfl
theorem q2504 : (Jvm.Cond.code ({ cls := "LoopSignals$Junction", name := "phase", desc := "(I)LLoopSignals$Phase;" } : Jvm.MethodName) prog_6_method_8_code (2 : Nat) (Option.some (Jvm.ClassFile.FieldType.object "LoopSignals$Phase"))) ∈ lw_all := lw_g (lw_at lw_m10 196 rfl) rfl
theorem q2505 : (Jvm.Cond.interfaceEntry "LoopSignals$Junction" (55 : Nat)) ∈ lw_tbl := lw_at lw_m10 197 rfl
theorem q2506 : (Jvm.Cond.methodLink "LoopSignals$Junction" (55 : Nat) ({ cls := "java/util/List", name := "get", desc := "(I)Ljava/lang/Object;" } : Jvm.MethodName)) ∈ lw_all := lw_g (lw_at lw_m10 198 rfl) rfl
theorem q2522 : (Jvm.Cond.classLink "LoopSignals$Junction" (69 : Nat) "LoopSignals$Phase") ∈ lw_all := lw_g (lw_at lw_m10 214 rfl) rfl
theorem q2523 : (Jvm.Cond.methodLink "LoopSignals$Junction" (149 : Nat) ({ cls := "LoopSignals$Phase", name := "has", desc := "(I)Z" } : Jvm.MethodName)) ∈ lw_all := lw_g (lw_at lw_m10 215 rfl) rfl
theorem q2524 : (Jvm.Cond.methodLink "LoopSignals$Junction" (161 : Nat) ({ cls := "LoopSignals$Junction", name := "arm", desc := "(I)LLoopSignals$Arm;" } : Jvm.MethodName)) ∈ lw_all := lw_g (lw_at lw_m10 216 rfl) rfl
theorem q2525 : (Jvm.Cond.instanceMethod ({ cls := "LoopSignals$Junction", name := "arm", desc := "(I)LLoopSignals$Arm;" } : Jvm.MethodName)) ∈ lw_all := lw_g (lw_at lw_m10 217 rfl) rfl
theorem q2526 : (Jvm.Cond.selects "LoopSignals$Junction" ({ cls := "LoopSignals$Junction", name := "arm", desc := "(I)LLoopSignals$Arm;" } : Jvm.MethodName) ({ cls := "LoopSignals$Junction", name := "arm", desc := "(I)LLoopSignals$Arm;" } : Jvm.MethodName)) ∈ lw_all := lw_g (lw_at lw_m10 218 rfl) rfl
theorem q2527 : (Jvm.Cond.code ({ cls := "LoopSignals$Junction", name := "arm", desc := "(I)LLoopSignals$Arm;" } : Jvm.MethodName) prog_6_method_7_code (2 : Nat) (Option.some (Jvm.ClassFile.FieldType.object "LoopSignals$Arm"))) ∈ lw_all := lw_g (lw_at lw_m10 219 rfl) rfl
theorem q2528 : (Jvm.Cond.classLink "LoopSignals$Junction" (59 : Nat) "LoopSignals$Arm") ∈ lw_all := lw_g (lw_at lw_m10 220 rfl) rfl
theorem q2529 : (Jvm.Cond.methodLink "LoopSignals$Junction" (240 : Nat) ({ cls := "LoopSignals$Junction", name := "goes", desc := "(LLoopSignals$Arm;)V" } : Jvm.MethodName)) ∈ lw_all := lw_g (lw_at lw_m10 221 rfl) rfl
theorem q2530 : (Jvm.Cond.privateMethod ({ cls := "LoopSignals$Junction", name := "goes", desc := "(LLoopSignals$Arm;)V" } : Jvm.MethodName)) ∈ lw_tbl := lw_at lw_m10 222 rfl
theorem q2531 : (Jvm.Cond.instanceMethod ({ cls := "LoopSignals$Junction", name := "goes", desc := "(LLoopSignals$Arm;)V" } : Jvm.MethodName)) ∈ lw_all := lw_g (lw_at lw_m10 223 rfl) rfl
theorem q2532 : (Jvm.Cond.code ({ cls := "LoopSignals$Junction", name := "goes", desc := "(LLoopSignals$Arm;)V" } : Jvm.MethodName) prog_6_method_19_code (2 : Nat) (Option.none : Option Jvm.ClassFile.FieldType)) ∈ lw_all := lw_g (lw_at lw_m10 224 rfl) rfl
theorem q2533 : (Jvm.Cond.methodLink "LoopSignals$Junction" (209 : Nat) ({ cls := "LoopSignals$Line", name := "goes", desc := "()I" } : Jvm.MethodName)) ∈ lw_all := lw_g (lw_at lw_m10 225 rfl) rfl
theorem q2537 : (Jvm.Cond.methodLink "LoopSignals$Junction" (242 : Nat) ({ cls := "LoopSignals$Junction", name := "green", desc := "()V" } : Jvm.MethodName)) ∈ lw_all := lw_g (lw_at lw_m10 229 rfl) rfl
theorem q2538 : (Jvm.Cond.privateMethod ({ cls := "LoopSignals$Junction", name := "green", desc := "()V" } : Jvm.MethodName)) ∈ lw_tbl := lw_at lw_m10 230 rfl
theorem q2539 : (Jvm.Cond.instanceMethod ({ cls := "LoopSignals$Junction", name := "green", desc := "()V" } : Jvm.MethodName)) ∈ lw_all := lw_g (lw_at lw_m10 231 rfl) rfl
theorem q2540 : (Jvm.Cond.code ({ cls := "LoopSignals$Junction", name := "green", desc := "()V" } : Jvm.MethodName) prog_6_method_21_code (3 : Nat) (Option.none : Option Jvm.ClassFile.FieldType)) ∈ lw_all := lw_g (lw_at lw_m10 232 rfl) rfl
theorem q2541 : (Jvm.Cond.methodLink "LoopSignals$Junction" (218 : Nat) ({ cls := "LoopSignals$Junction", name := "best", desc := "()I" } : Jvm.MethodName)) ∈ lw_all := lw_g (lw_at lw_m10 233 rfl) rfl
theorem q2542 : (Jvm.Cond.instanceMethod ({ cls := "LoopSignals$Junction", name := "best", desc := "()I" } : Jvm.MethodName)) ∈ lw_all := lw_g (lw_at lw_m10 234 rfl) rfl
theorem q2543 : (Jvm.Cond.selects "LoopSignals$Junction" ({ cls := "LoopSignals$Junction", name := "best", desc := "()I" } : Jvm.MethodName) ({ cls := "LoopSignals$Junction", name := "best", desc := "()I" } : Jvm.MethodName)) ∈ lw_all := lw_g (lw_at lw_m10 235 rfl) rfl
theorem q2544 : (Jvm.Cond.code ({ cls := "LoopSignals$Junction", name := "best", desc := "()I" } : Jvm.MethodName) prog_6_method_16_code (3 : Nat) (Option.some Jvm.ClassFile.FieldType.int)) ∈ lw_all := lw_g (lw_at lw_m10 236 rfl) rfl
theorem q2545 : (Jvm.Cond.methodLink "LoopSignals$Junction" (194 : Nat) ({ cls := "LoopSignals$Junction", name := "isWanted", desc := "(I)Z" } : Jvm.MethodName)) ∈ lw_all := lw_g (lw_at lw_m10 237 rfl) rfl
theorem q2546 : (Jvm.Cond.instanceMethod ({ cls := "LoopSignals$Junction", name := "isWanted", desc := "(I)Z" } : Jvm.MethodName)) ∈ lw_all := lw_g (lw_at lw_m10 238 rfl) rfl
theorem q2547 : (Jvm.Cond.selects "LoopSignals$Junction" ({ cls := "LoopSignals$Junction", name := "isWanted", desc := "(I)Z" } : Jvm.MethodName) ({ cls := "LoopSignals$Junction", name := "isWanted", desc := "(I)Z" } : Jvm.MethodName)) ∈ lw_all := lw_g (lw_at lw_m10 239 rfl) rfl
theorem q2548 : (Jvm.Cond.code ({ cls := "LoopSignals$Junction", name := "isWanted", desc := "(I)Z" } : Jvm.MethodName) prog_6_method_12_code (3 : Nat) (Option.some Jvm.ClassFile.FieldType.boolean)) ∈ lw_all := lw_g (lw_at lw_m11 0 rfl) rfl
theorem q2549 : (Jvm.Cond.methodLink "LoopSignals$Junction" (165 : Nat) ({ cls := "LoopSignals$Arm", name := "asks", desc := "()Z" } : Jvm.MethodName)) ∈ lw_all := lw_g (lw_at lw_m11 1 rfl) rfl
theorem q2553 : (Jvm.Cond.methodLink "LoopSignals$Junction" (197 : Nat) ({ cls := "LoopSignals$Junction", name := "rank", desc := "(I)I" } : Jvm.MethodName)) ∈ lw_all := lw_g (lw_at lw_m11 5 rfl) rfl
theorem q2554 : (Jvm.Cond.privateMethod ({ cls := "LoopSignals$Junction", name := "rank", desc := "(I)I" } : Jvm.MethodName)) ∈ lw_tbl := lw_at lw_m11 6 rfl
theorem q2555 : (Jvm.Cond.instanceMethod ({ cls := "LoopSignals$Junction", name := "rank", desc := "(I)I" } : Jvm.MethodName)) ∈ lw_all := lw_g (lw_at lw_m11 7 rfl) rfl
theorem q2556 : (Jvm.Cond.code ({ cls := "LoopSignals$Junction", name := "rank", desc := "(I)I" } : Jvm.MethodName) prog_6_method_15_code (2 : Nat) (Option.some Jvm.ClassFile.FieldType.int)) ∈ lw_all := lw_g (lw_at lw_m11 8 rfl) rfl
theorem q2557 : (Jvm.Cond.methodLink "LoopSignals$Junction" (188 : Nat) ({ cls := "LoopSignals$Junction", name := "cars", desc := "(I)I" } : Jvm.MethodName)) ∈ lw_all := lw_g (lw_at lw_m11 9 rfl) rfl
theorem q2558 : (Jvm.Cond.instanceMethod ({ cls := "LoopSignals$Junction", name := "cars", desc := "(I)I" } : Jvm.MethodName)) ∈ lw_all := lw_g (lw_at lw_m11 10 rfl) rfl
theorem q2559 : (Jvm.Cond.selects "LoopSignals$Junction" ({ cls := "LoopSignals$Junction", name := "cars", desc := "(I)I" } : Jvm.MethodName) ({ cls := "LoopSignals$Junction", name := "cars", desc := "(I)I" } : Jvm.MethodName)) ∈ lw_all := lw_g (lw_at lw_m11 11 rfl) rfl
theorem q2560 : (Jvm.Cond.code ({ cls := "LoopSignals$Junction", name := "cars", desc := "(I)I" } : Jvm.MethodName) prog_6_method_13_code (4 : Nat) (Option.some Jvm.ClassFile.FieldType.int)) ∈ lw_all := lw_g (lw_at lw_m11 12 rfl) rfl
theorem q2561 : (Jvm.Cond.methodLink "LoopSignals$Junction" (191 : Nat) ({ cls := "LoopSignals$Junction", name := "oldest", desc := "(I)I" } : Jvm.MethodName)) ∈ lw_all := lw_g (lw_at lw_m11 13 rfl) rfl
theorem q2562 : (Jvm.Cond.privateMethod ({ cls := "LoopSignals$Junction", name := "oldest", desc := "(I)I" } : Jvm.MethodName)) ∈ lw_tbl := lw_at lw_m11 14 rfl
theorem q2563 : (Jvm.Cond.instanceMethod ({ cls := "LoopSignals$Junction", name := "oldest", desc := "(I)I" } : Jvm.MethodName)) ∈ lw_all := lw_g (lw_at lw_m11 15 rfl) rfl
theorem q2564 : (Jvm.Cond.code ({ cls := "LoopSignals$Junction", name := "oldest", desc := "(I)I" } : Jvm.MethodName) prog_6_method_14_code (4 : Nat) (Option.some Jvm.ClassFile.FieldType.int)) ∈ lw_all := lw_g (lw_at lw_m11 16 rfl) rfl
theorem q2565 : (Jvm.Cond.constant "LoopSignals$Junction" (177 : Nat) (1000000 : Int32)) ∈ lw_all := lw_g (lw_at lw_m11 17 rfl) rfl
theorem q2566 : (Jvm.Cond.methodLink "LoopSignals$Junction" (178 : Nat) ({ cls := "LoopSignals$Line", name := "at", desc := "(I)I" } : Jvm.MethodName)) ∈ lw_all := lw_g (lw_at lw_m11 18 rfl) rfl
theorem q2571 : (Jvm.Cond.methodLink "LoopSignals$Junction" (182 : Nat) ({ cls := "java/lang/Math", name := "min", desc := "(II)I" } : Jvm.MethodName)) ∈ lw_all := lw_g (lw_at lw_m11 23 rfl) rfl
theorem q2572 : (Jvm.Cond.methodLink "LoopSignals$Junction" (224 : Nat) ({ cls := "LoopSignals$Junction", name := "busy", desc := "()I" } : Jvm.MethodName)) ∈ lw_all := lw_g (lw_at lw_m11 24 rfl) rfl
theorem q2573 : (Jvm.Cond.instanceMethod ({ cls := "LoopSignals$Junction", name := "busy", desc := "()I" } : Jvm.MethodName)) ∈ lw_all := lw_g (lw_at lw_m11 25 rfl) rfl
theorem q2574 : (Jvm.Cond.selects "LoopSignals$Junction" ({ cls := "LoopSignals$Junction", name := "busy", desc := "()I" } : Jvm.MethodName) ({ cls := "LoopSignals$Junction", name := "busy", desc := "()I" } : Jvm.MethodName)) ∈ lw_all := lw_g (lw_at lw_m11 26 rfl) rfl
theorem q2575 : (Jvm.Cond.code ({ cls := "LoopSignals$Junction", name := "busy", desc := "()I" } : Jvm.MethodName) prog_6_method_18_code (2 : Nat) (Option.some Jvm.ClassFile.FieldType.int)) ∈ lw_all := lw_g (lw_at lw_m11 27 rfl) rfl
theorem q2576 : (Jvm.Cond.methodLink "LoopSignals$Junction" (203 : Nat) ({ cls := "LoopSignals$Junction", name := "isBusyBy", desc := "(I)Z" } : Jvm.MethodName)) ∈ lw_all := lw_g (lw_at lw_m11 28 rfl) rfl
theorem q2577 : (Jvm.Cond.privateMethod ({ cls := "LoopSignals$Junction", name := "isBusyBy", desc := "(I)Z" } : Jvm.MethodName)) ∈ lw_tbl := lw_at lw_m11 29 rfl
theorem q2578 : (Jvm.Cond.instanceMethod ({ cls := "LoopSignals$Junction", name := "isBusyBy", desc := "(I)Z" } : Jvm.MethodName)) ∈ lw_all := lw_g (lw_at lw_m11 30 rfl) rfl
theorem q2579 : (Jvm.Cond.code ({ cls := "LoopSignals$Junction", name := "isBusyBy", desc := "(I)Z" } : Jvm.MethodName) prog_6_method_17_code (3 : Nat) (Option.some Jvm.ClassFile.FieldType.boolean)) ∈ lw_all := lw_g (lw_at lw_m11 31 rfl) rfl
theorem q2580 : (Jvm.Cond.methodLink "LoopSignals$Junction" (231 : Nat) ({ cls := "LoopSignals$Junction", name := "turns", desc := "(I)V" } : Jvm.MethodName)) ∈ lw_all := lw_g (lw_at lw_m11 32 rfl) rfl
theorem q2581 : (Jvm.Cond.privateMethod ({ cls := "LoopSignals$Junction", name := "turns", desc := "(I)V" } : Jvm.MethodName)) ∈ lw_tbl := lw_at lw_m11 33 rfl
theorem q2582 : (Jvm.Cond.instanceMethod ({ cls := "LoopSignals$Junction", name := "turns", desc := "(I)V" } : Jvm.MethodName)) ∈ lw_all := lw_g (lw_at lw_m11 34 rfl) rfl
theorem q2583 : (Jvm.Cond.code ({ cls := "LoopSignals$Junction", name := "turns", desc := "(I)V" } : Jvm.MethodName) prog_6_method_20_code (2 : Nat) (Option.none : Option Jvm.ClassFile.FieldType)) ∈ lw_all := lw_g (lw_at lw_m11 35 rfl) rfl
theorem q2584 : (Jvm.Cond.methodLink "LoopSignals$Junction" (245 : Nat) ({ cls := "LoopSignals$Junction", name := "red", desc := "()V" } : Jvm.MethodName)) ∈ lw_all := lw_g (lw_at lw_m11 36 rfl) rfl
theorem q2585 : (Jvm.Cond.privateMethod ({ cls := "LoopSignals$Junction", name := "red", desc := "()V" } : Jvm.MethodName)) ∈ lw_tbl := lw_at lw_m11 37 rfl
theorem q2586 : (Jvm.Cond.instanceMethod ({ cls := "LoopSignals$Junction", name := "red", desc := "()V" } : Jvm.MethodName)) ∈ lw_all := lw_g (lw_at lw_m11 38 rfl) rfl
theorem q2587 : (Jvm.Cond.code ({ cls := "LoopSignals$Junction", name := "red", desc := "()V" } : Jvm.MethodName) prog_6_method_22_code (1 : Nat) (Option.none : Option Jvm.ClassFile.FieldType)) ∈ lw_all := lw_g (lw_at lw_m11 39 rfl) rfl
theorem q2608 : (Jvm.Cond.instanceMethod ({ cls := "LoopSignals$Junction", name := "calls", desc := "(I)I" } : Jvm.MethodName)) ∈ lw_all := lw_g (lw_at lw_m11 60 rfl) rfl
theorem q2609 : (Jvm.Cond.selects "LoopSignals$Junction" ({ cls := "LoopSignals$Junction", name := "calls", desc := "(I)I" } : Jvm.MethodName) ({ cls := "LoopSignals$Junction", name := "calls", desc := "(I)I" } : Jvm.MethodName)) ∈ lw_all := lw_g (lw_at lw_m11 61 rfl) rfl
theorem q2610 : (Jvm.Cond.code ({ cls := "LoopSignals$Junction", name := "calls", desc := "(I)I" } : Jvm.MethodName) prog_6_method_28_code (2 : Nat) (Option.some Jvm.ClassFile.FieldType.int)) ∈ lw_all := lw_g (lw_at lw_m11 62 rfl) rfl
theorem q2611 : (Jvm.Cond.privateMethod ({ cls := "LoopSignals$Junction", name := "lambda$calls$0", desc := "(I)Z" } : Jvm.MethodName)) ∈ lw_tbl := lw_at lw_m11 63 rfl
theorem q2612 : (Jvm.Cond.instanceMethod ({ cls := "LoopSignals$Junction", name := "lambda$calls$0", desc := "(I)Z" } : Jvm.MethodName)) ∈ lw_all := lw_g (lw_at lw_m11 64 rfl) rfl
theorem q2613 : (Jvm.Cond.code ({ cls := "LoopSignals$Junction", name := "lambda$calls$0", desc := "(I)Z" } : Jvm.MethodName) prog_6_method_51_code (2 : Nat) (Option.some Jvm.ClassFile.FieldType.boolean)) ∈ lw_all := lw_g (lw_at lw_m11 65 rfl) rfl
theorem q2614 : (Jvm.Cond.methodLink "LoopSignals$Junction" (262 : Nat) ({ cls := "LoopSignals$Holds", name := "count", desc := "(ILLoopSignals$Holds;)I" } : Jvm.MethodName)) ∈ lw_all := lw_g (lw_at lw_m11 66 rfl) rfl
theorem q2622 : (Jvm.Cond.instanceMethod ({ cls := "LoopSignals$Junction", name := "sets", desc := "(II)I" } : Jvm.MethodName)) ∈ lw_all := lw_g (lw_at lw_m11 74 rfl) rfl
theorem q2623 : (Jvm.Cond.selects "LoopSignals$Junction" ({ cls := "LoopSignals$Junction", name := "sets", desc := "(II)I" } : Jvm.MethodName) ({ cls := "LoopSignals$Junction", name := "sets", desc := "(II)I" } : Jvm.MethodName)) ∈ lw_all := lw_g (lw_at lw_m11 75 rfl) rfl
theorem q2624 : (Jvm.Cond.code ({ cls := "LoopSignals$Junction", name := "sets", desc := "(II)I" } : Jvm.MethodName) prog_6_method_32_code (4 : Nat) (Option.some Jvm.ClassFile.FieldType.int)) ∈ lw_all := lw_g (lw_at lw_m11 76 rfl) rfl
theorem q2632 : (Jvm.Cond.instanceMethod ({ cls := "LoopSignals$Junction", name := "phases", desc := "(IZI)I" } : Jvm.MethodName)) ∈ lw_all := lw_g (lw_at lw_m11 84 rfl) rfl
theorem q2633 : (Jvm.Cond.selects "LoopSignals$Junction" ({ cls := "LoopSignals$Junction", name := "phases", desc := "(IZI)I" } : Jvm.MethodName) ({ cls := "LoopSignals$Junction", name := "phases", desc := "(IZI)I" } : Jvm.MethodName)) ∈ lw_all := lw_g (lw_at lw_m11 85 rfl) rfl
theorem q2634 : (Jvm.Cond.code ({ cls := "LoopSignals$Junction", name := "phases", desc := "(IZI)I" } : Jvm.MethodName) prog_6_method_31_code (6 : Nat) (Option.some Jvm.ClassFile.FieldType.int)) ∈ lw_all := lw_g (lw_at lw_m11 86 rfl) rfl
theorem q2646 : (Jvm.Cond.instanceMethod ({ cls := "LoopSignals$Junction", name := "comes", desc := "(II)I" } : Jvm.MethodName)) ∈ lw_all := lw_g (lw_at lw_m11 98 rfl) rfl
theorem q2647 : (Jvm.Cond.selects "LoopSignals$Junction" ({ cls := "LoopSignals$Junction", name := "comes", desc := "(II)I" } : Jvm.MethodName) ({ cls := "LoopSignals$Junction", name := "comes", desc := "(II)I" } : Jvm.MethodName)) ∈ lw_all := lw_g (lw_at lw_m11 99 rfl) rfl
theorem q2648 : (Jvm.Cond.code ({ cls := "LoopSignals$Junction", name := "comes", desc := "(II)I" } : Jvm.MethodName) prog_6_method_27_code (5 : Nat) (Option.some Jvm.ClassFile.FieldType.int)) ∈ lw_all := lw_g (lw_at lw_m11 100 rfl) rfl
theorem q2649 : (Jvm.Cond.methodLink "LoopSignals$Junction" (255 : Nat) ({ cls := "LoopSignals$Line", name := "comes", desc := "(I)V" } : Jvm.MethodName)) ∈ lw_all := lw_g (lw_at lw_m11 101 rfl) rfl
theorem q2660 : (Jvm.Cond.instanceMethod ({ cls := "LoopSignals$Junction", name := "breaks", desc := "(IZ)I" } : Jvm.MethodName)) ∈ lw_all := lw_g (lw_at lw_m11 112 rfl) rfl
theorem q2661 : (Jvm.Cond.selects "LoopSignals$Junction" ({ cls := "LoopSignals$Junction", name := "breaks", desc := "(IZ)I" } : Jvm.MethodName) ({ cls := "LoopSignals$Junction", name := "breaks", desc := "(IZ)I" } : Jvm.MethodName)) ∈ lw_all := lw_g (lw_at lw_m11 113 rfl) rfl
theorem q2662 : (Jvm.Cond.code ({ cls := "LoopSignals$Junction", name := "breaks", desc := "(IZ)I" } : Jvm.MethodName) prog_6_method_29_code (3 : Nat) (Option.some Jvm.ClassFile.FieldType.int)) ∈ lw_all := lw_g (lw_at lw_m11 114 rfl) rfl
theorem q2663 : (Jvm.Cond.privateMethod ({ cls := "LoopSignals$Junction", name := "lambda$breaks$1", desc := "(I)Z" } : Jvm.MethodName)) ∈ lw_tbl := lw_at lw_m11 115 rfl
theorem q2664 : (Jvm.Cond.instanceMethod ({ cls := "LoopSignals$Junction", name := "lambda$breaks$1", desc := "(I)Z" } : Jvm.MethodName)) ∈ lw_all := lw_g (lw_at lw_m11 116 rfl) rfl
theorem q2665 : (Jvm.Cond.code ({ cls := "LoopSignals$Junction", name := "lambda$breaks$1", desc := "(I)Z" } : Jvm.MethodName) prog_6_method_50_code (2 : Nat) (Option.some Jvm.ClassFile.FieldType.boolean)) ∈ lw_all := lw_g (lw_at lw_m11 117 rfl) rfl
theorem q2669 : (Jvm.Cond.instanceMethod ({ cls := "LoopSignals$Junction", name := "copy", desc := "()LLoopSignals$Junction;" } : Jvm.MethodName)) ∈ lw_all := lw_g (lw_at lw_m11 121 rfl) rfl
theorem q2670 : (Jvm.Cond.selects "LoopSignals$Junction" ({ cls := "LoopSignals$Junction", name := "copy", desc := "()LLoopSignals$Junction;" } : Jvm.MethodName) ({ cls := "LoopSignals$Junction", name := "copy", desc := "()LLoopSignals$Junction;" } : Jvm.MethodName)) ∈ lw_all := lw_g (lw_at lw_m11 122 rfl) rfl
theorem q2671 : (Jvm.Cond.code ({ cls := "LoopSignals$Junction", name := "copy", desc := "()LLoopSignals$Junction;" } : Jvm.MethodName) prog_6_method_2_code (4 : Nat) (Option.some (Jvm.ClassFile.FieldType.object "LoopSignals$Junction"))) ∈ lw_all := lw_g (lw_at lw_m11 123 rfl) rfl
theorem q2672 : (Jvm.Cond.classLink "LoopSignals$Junction" (15 : Nat) "LoopSignals$Junction") ∈ lw_all := lw_g (lw_at lw_m11 124 rfl) rfl
theorem q2673 : (Jvm.Cond.methodLink "LoopSignals$Junction" (48 : Nat) ({ cls := "LoopSignals$Junction", name := "<init>", desc := "()V" } : Jvm.MethodName)) ∈ lw_all := lw_g (lw_at lw_m11 125 rfl) rfl
theorem q2674 : (Jvm.Cond.methodLink "LoopSignals$Junction" (61 : Nat) ({ cls := "LoopSignals$Arm", name := "copy", desc := "()LLoopSignals$Arm;" } : Jvm.MethodName)) ∈ lw_all := lw_g (lw_at lw_m11 126 rfl) rfl
theorem q2687 : (Jvm.Cond.methodLink "LoopSignals$Junction" (65 : Nat) ({ cls := "LoopSignals$Junction", name := "adds", desc := "(LLoopSignals$Arm;)V" } : Jvm.MethodName)) ∈ lw_all := lw_g (lw_at lw_m11 139 rfl) rfl
theorem q2688 : (Jvm.Cond.methodLink "LoopSignals$Junction" (71 : Nat) ({ cls := "LoopSignals$Phase", name := "copy", desc := "()LLoopSignals$Phase;" } : Jvm.MethodName)) ∈ lw_all := lw_g (lw_at lw_m11 140 rfl) rfl
theorem q2700 : (Jvm.Cond.methodLink "LoopSignals$Junction" (74 : Nat) ({ cls := "LoopSignals$Junction", name := "adds", desc := "(LLoopSignals$Phase;)V" } : Jvm.MethodName)) ∈ lw_all := lw_g (lw_at lw_m11 152 rfl) rfl
theorem q2701 : (Jvm.Cond.methodLink "LoopSignals$Junction" (77 : Nat) ({ cls := "java/util/LinkedHashSet", name := "iterator", desc := "()Ljava/util/Iterator;" } : Jvm.MethodName)) ∈ lw_all := lw_g (lw_at lw_m11 153 rfl) rfl
theorem q2802 : (Jvm.Cond.interfaceEntry "LoopSignals$Junction" (81 : Nat)) ∈ lw_tbl := lw_at lw_m12 14 rfl
theorem q2803 : (Jvm.Cond.methodLink "LoopSignals$Junction" (81 : Nat) ({ cls := "java/util/Iterator", name := "hasNext", desc := "()Z" } : Jvm.MethodName)) ∈ lw_all := lw_g (lw_at lw_m12 15 rfl) rfl
theorem q2818 : (Jvm.Cond.interfaceEntry "LoopSignals$Junction" (87 : Nat)) ∈ lw_tbl := lw_at lw_m12 30 rfl
theorem q2819 : (Jvm.Cond.methodLink "LoopSignals$Junction" (87 : Nat) ({ cls := "java/util/Iterator", name := "next", desc := "()Ljava/lang/Object;" } : Jvm.MethodName)) ∈ lw_all := lw_g (lw_at lw_m12 31 rfl) rfl
theorem q2874 : (Jvm.Cond.methodLink "LoopSignals$Junction" (92 : Nat) ({ cls := "LoopSignals$Junction", name := "clash", desc := "(LLoopSignals$Couple;)V" } : Jvm.MethodName)) ∈ lw_all := lw_g (lw_at lw_m12 86 rfl) rfl
theorem q2875 : (Jvm.Cond.methodLink "LoopSignals$Junction" (96 : Nat) ({ cls := "java/lang/System", name := "arraycopy", desc := "(Ljava/lang/Object;ILjava/lang/Object;II)V" } : Jvm.MethodName)) ∈ lw_all := lw_g (lw_at lw_m12 87 rfl) rfl
theorem q2961 : (Jvm.Cond.instanceMethod ({ cls := "LoopSignals$Junction", name := "gap", desc := "()I" } : Jvm.MethodName)) ∈ lw_all := lw_g (lw_at lw_m12 173 rfl) rfl
theorem q2962 : (Jvm.Cond.selects "LoopSignals$Junction" ({ cls := "LoopSignals$Junction", name := "gap", desc := "()I" } : Jvm.MethodName) ({ cls := "LoopSignals$Junction", name := "gap", desc := "()I" } : Jvm.MethodName)) ∈ lw_all := lw_g (lw_at lw_m12 174 rfl) rfl
theorem q2963 : (Jvm.Cond.code ({ cls := "LoopSignals$Junction", name := "gap", desc := "()I" } : Jvm.MethodName) prog_6_method_40_code (4 : Nat) (Option.some Jvm.ClassFile.FieldType.int)) ∈ lw_all := lw_g (lw_at lw_m12 175 rfl) rfl
theorem q2964 : (Jvm.Cond.methodLink "LoopSignals$Junction" (302 : Nat) ({ cls := "LoopSignals$Junction", name := "waiting", desc := "()I" } : Jvm.MethodName)) ∈ lw_all := lw_g (lw_at lw_m12 176 rfl) rfl
theorem q2965 : (Jvm.Cond.instanceMethod ({ cls := "LoopSignals$Junction", name := "waiting", desc := "()I" } : Jvm.MethodName)) ∈ lw_all := lw_g (lw_at lw_m12 177 rfl) rfl
theorem q2966 : (Jvm.Cond.selects "LoopSignals$Junction" ({ cls := "LoopSignals$Junction", name := "waiting", desc := "()I" } : Jvm.MethodName) ({ cls := "LoopSignals$Junction", name := "waiting", desc := "()I" } : Jvm.MethodName)) ∈ lw_all := lw_g (lw_at lw_m12 178 rfl) rfl
theorem q2967 : (Jvm.Cond.code ({ cls := "LoopSignals$Junction", name := "waiting", desc := "()I" } : Jvm.MethodName) prog_6_method_26_code (3 : Nat) (Option.some Jvm.ClassFile.FieldType.int)) ∈ lw_all := lw_g (lw_at lw_m12 179 rfl) rfl
theorem q2968 : (Jvm.Cond.methodLink "LoopSignals$Junction" (305 : Nat) ({ cls := "java/lang/Math", name := "abs", desc := "(I)I" } : Jvm.MethodName)) ∈ lw_all := lw_g (lw_at lw_m12 180 rfl) rfl
theorem q2971 : (Jvm.Cond.methodLink "LoopSignals$Junction" (308 : Nat) ({ cls := "LoopSignals$Junction", name := "isBad", desc := "(II)Z" } : Jvm.MethodName)) ∈ lw_all := lw_g (lw_at lw_m12 183 rfl) rfl
theorem q2972 : (Jvm.Cond.privateMethod ({ cls := "LoopSignals$Junction", name := "isBad", desc := "(II)Z" } : Jvm.MethodName)) ∈ lw_tbl := lw_at lw_m12 184 rfl
theorem q2973 : (Jvm.Cond.instanceMethod ({ cls := "LoopSignals$Junction", name := "isBad", desc := "(II)Z" } : Jvm.MethodName)) ∈ lw_all := lw_g (lw_at lw_m12 185 rfl) rfl
theorem q2974 : (Jvm.Cond.code ({ cls := "LoopSignals$Junction", name := "isBad", desc := "(II)Z" } : Jvm.MethodName) prog_6_method_38_code (3 : Nat) (Option.some Jvm.ClassFile.FieldType.boolean)) ∈ lw_all := lw_g (lw_at lw_m12 186 rfl) rfl
theorem q2975 : (Jvm.Cond.methodLink "LoopSignals$Junction" (293 : Nat) ({ cls := "LoopSignals$Junction", name := "doClash", desc := "(II)Z" } : Jvm.MethodName)) ∈ lw_all := lw_g (lw_at lw_m12 187 rfl) rfl
theorem q2976 : (Jvm.Cond.privateMethod ({ cls := "LoopSignals$Junction", name := "lambda$gap$6", desc := "(I)Z" } : Jvm.MethodName)) ∈ lw_tbl := lw_at lw_m12 188 rfl
theorem q2977 : (Jvm.Cond.instanceMethod ({ cls := "LoopSignals$Junction", name := "lambda$gap$6", desc := "(I)Z" } : Jvm.MethodName)) ∈ lw_all := lw_g (lw_at lw_m12 189 rfl) rfl
theorem q2978 : (Jvm.Cond.code ({ cls := "LoopSignals$Junction", name := "lambda$gap$6", desc := "(I)Z" } : Jvm.MethodName) prog_6_method_45_code (2 : Nat) (Option.some Jvm.ClassFile.FieldType.boolean)) ∈ lw_all := lw_g (lw_at lw_m12 190 rfl) rfl
theorem q2979 : (Jvm.Cond.methodLink "LoopSignals$Junction" (340 : Nat) ({ cls := "LoopSignals$Junction", name := "hasClash", desc := "(I)Z" } : Jvm.MethodName)) ∈ lw_all := lw_g (lw_at lw_m12 191 rfl) rfl
theorem q2980 : (Jvm.Cond.privateMethod ({ cls := "LoopSignals$Junction", name := "hasClash", desc := "(I)Z" } : Jvm.MethodName)) ∈ lw_tbl := lw_at lw_m12 192 rfl
theorem q2981 : (Jvm.Cond.instanceMethod ({ cls := "LoopSignals$Junction", name := "hasClash", desc := "(I)Z" } : Jvm.MethodName)) ∈ lw_all := lw_g (lw_at lw_m12 193 rfl) rfl
theorem q2982 : (Jvm.Cond.code ({ cls := "LoopSignals$Junction", name := "hasClash", desc := "(I)Z" } : Jvm.MethodName) prog_6_method_39_code (4 : Nat) (Option.some Jvm.ClassFile.FieldType.boolean)) ∈ lw_all := lw_g (lw_at lw_m12 194 rfl) rfl
theorem q2998 : (Jvm.Cond.instanceMethod ({ cls := "LoopSignals$Junction", name := "told", desc := "()Ljava/lang/String;" } : Jvm.MethodName)) ∈ lw_all := lw_g (lw_at lw_m12 210 rfl) rfl
theorem q2999 : (Jvm.Cond.selects "LoopSignals$Junction" ({ cls := "LoopSignals$Junction", name := "told", desc := "()Ljava/lang/String;" } : Jvm.MethodName) ({ cls := "LoopSignals$Junction", name := "told", desc := "()Ljava/lang/String;" } : Jvm.MethodName)) ∈ lw_all := lw_g (lw_at lw_m12 211 rfl) rfl
theorem q3000 : (Jvm.Cond.code ({ cls := "LoopSignals$Junction", name := "told", desc := "()Ljava/lang/String;" } : Jvm.MethodName) prog_6_method_42_code (4 : Nat) (Option.some (Jvm.ClassFile.FieldType.object "java/lang/String"))) ∈ lw_all := lw_g (lw_at lw_m12 212 rfl) rfl
theorem q3001 : (Jvm.Cond.classLink "LoopSignals$Junction" (313 : Nat) "java/lang/StringBuilder") ∈ lw_all := lw_g (lw_at lw_m12 213 rfl) rfl
theorem q3002 : (Jvm.Cond.methodLink "LoopSignals$Junction" (315 : Nat) ({ cls := "java/lang/StringBuilder", name := "<init>", desc := "()V" } : Jvm.MethodName)) ∈ lw_all := lw_g (lw_at lw_m12 214 rfl) rfl
theorem q3003 : (Jvm.Cond.methodLink "LoopSignals$Junction" (316 : Nat) ({ cls := "java/lang/StringBuilder", name := "append", desc := "(C)Ljava/lang/StringBuilder;" } : Jvm.MethodName)) ∈ lw_all := lw_g (lw_at lw_m12 215 rfl) rfl
theorem q3004 : (Jvm.Cond.methodLink "LoopSignals$Junction" (320 : Nat) ({ cls := "java/lang/StringBuilder", name := "append", desc := "(Ljava/lang/String;)Ljava/lang/StringBuilder;" } : Jvm.MethodName)) ∈ lw_all := lw_g (lw_at lw_m12 216 rfl) rfl
theorem q3005 : (Jvm.Cond.methodLink "LoopSignals$Junction" (323 : Nat) ({ cls := "java/lang/StringBuilder", name := "append", desc := "(I)Ljava/lang/StringBuilder;" } : Jvm.MethodName)) ∈ lw_all := lw_g (lw_at lw_m12 217 rfl) rfl
theorem q3006 : (Jvm.Cond.stringRef "LoopSignals$Junction" (326 : Nat) "!") ∈ lw_tbl := lw_at lw_m12 218 rfl
theorem q3007 : (Jvm.Cond.stringRef "LoopSignals$Junction" (328 : Nat) "") ∈ lw_tbl := lw_at lw_m12 219 rfl
theorem q3008 : (Jvm.Cond.methodLink "LoopSignals$Junction" (330 : Nat) ({ cls := "java/lang/StringBuilder", name := "toString", desc := "()Ljava/lang/String;" } : Jvm.MethodName)) ∈ lw_all := lw_g (lw_at lw_m12 220 rfl) rfl
theorem q3015 : (Jvm.Cond.instanceMethod ({ cls := "LoopSignals$Junction", name := "toldPhases", desc := "()Ljava/lang/String;" } : Jvm.MethodName)) ∈ lw_all := lw_g (lw_at lw_m12 227 rfl) rfl
theorem q3016 : (Jvm.Cond.selects "LoopSignals$Junction" ({ cls := "LoopSignals$Junction", name := "toldPhases", desc := "()Ljava/lang/String;" } : Jvm.MethodName) ({ cls := "LoopSignals$Junction", name := "toldPhases", desc := "()Ljava/lang/String;" } : Jvm.MethodName)) ∈ lw_all := lw_g (lw_at lw_m12 228 rfl) rfl
theorem q3017 : (Jvm.Cond.code ({ cls := "LoopSignals$Junction", name := "toldPhases", desc := "()Ljava/lang/String;" } : Jvm.MethodName) prog_6_method_43_code (5 : Nat) (Option.some (Jvm.ClassFile.FieldType.object "java/lang/String"))) ∈ lw_all := lw_g (lw_at lw_m12 229 rfl) rfl
theorem q3018 : (Jvm.Cond.stringRef "LoopSignals$Junction" (334 : Nat) " ") ∈ lw_tbl := lw_at lw_m12 230 rfl
theorem q3019 : (Jvm.Cond.stringRef "LoopSignals$Junction" (336 : Nat) "*") ∈ lw_tbl := lw_at lw_m12 231 rfl
theorem q3020 : (Jvm.Cond.stringRef "LoopSignals$Junction" (338 : Nat) "+") ∈ lw_tbl := lw_at lw_m12 232 rfl
theorem q3128 : (Jvm.Cond.instanceMethod ({ cls := "LoopSignals$Junction", name := "phasesOf", desc := "(I)I" } : Jvm.MethodName)) ∈ lw_all := lw_g (lw_at lw_m13 100 rfl) rfl
theorem q3129 : (Jvm.Cond.selects "LoopSignals$Junction" ({ cls := "LoopSignals$Junction", name := "phasesOf", desc := "(I)I" } : Jvm.MethodName) ({ cls := "LoopSignals$Junction", name := "phasesOf", desc := "(I)I" } : Jvm.MethodName)) ∈ lw_all := lw_g (lw_at lw_m13 101 rfl) rfl
theorem q3130 : (Jvm.Cond.code ({ cls := "LoopSignals$Junction", name := "phasesOf", desc := "(I)I" } : Jvm.MethodName) prog_6_method_34_code (2 : Nat) (Option.some Jvm.ClassFile.FieldType.int)) ∈ lw_all := lw_g (lw_at lw_m13 102 rfl) rfl
theorem q3131 : (Jvm.Cond.privateMethod ({ cls := "LoopSignals$Junction", name := "lambda$phasesOf$4", desc := "(II)Z" } : Jvm.MethodName)) ∈ lw_tbl := lw_at lw_m13 103 rfl
theorem q3132 : (Jvm.Cond.instanceMethod ({ cls := "LoopSignals$Junction", name := "lambda$phasesOf$4", desc := "(II)Z" } : Jvm.MethodName)) ∈ lw_all := lw_g (lw_at lw_m13 104 rfl) rfl
theorem q3133 : (Jvm.Cond.code ({ cls := "LoopSignals$Junction", name := "lambda$phasesOf$4", desc := "(II)Z" } : Jvm.MethodName) prog_6_method_47_code (3 : Nat) (Option.some Jvm.ClassFile.FieldType.boolean)) ∈ lw_all := lw_g (lw_at lw_m13 105 rfl) rfl
theorem q3137 : (Jvm.Cond.instanceMethod ({ cls := "LoopSignals$Junction", name := "clashesOf", desc := "(I)I" } : Jvm.MethodName)) ∈ lw_all := lw_g (lw_at lw_m13 109 rfl) rfl
theorem q3138 : (Jvm.Cond.selects "LoopSignals$Junction" ({ cls := "LoopSignals$Junction", name := "clashesOf", desc := "(I)I" } : Jvm.MethodName) ({ cls := "LoopSignals$Junction", name := "clashesOf", desc := "(I)I" } : Jvm.MethodName)) ∈ lw_all := lw_g (lw_at lw_m13 110 rfl) rfl
theorem q3139 : (Jvm.Cond.code ({ cls := "LoopSignals$Junction", name := "clashesOf", desc := "(I)I" } : Jvm.MethodName) prog_6_method_33_code (2 : Nat) (Option.some Jvm.ClassFile.FieldType.int)) ∈ lw_all := lw_g (lw_at lw_m13 111 rfl) rfl
theorem q3140 : (Jvm.Cond.privateMethod ({ cls := "LoopSignals$Junction", name := "lambda$clashesOf$3", desc := "(II)Z" } : Jvm.MethodName)) ∈ lw_tbl := lw_at lw_m13 112 rfl
theorem q3141 : (Jvm.Cond.instanceMethod ({ cls := "LoopSignals$Junction", name := "lambda$clashesOf$3", desc := "(II)Z" } : Jvm.MethodName)) ∈ lw_all := lw_g (lw_at lw_m13 113 rfl) rfl
theorem q3142 : (Jvm.Cond.code ({ cls := "LoopSignals$Junction", name := "lambda$clashesOf$3", desc := "(II)Z" } : Jvm.MethodName) prog_6_method_48_code (3 : Nat) (Option.some Jvm.ClassFile.FieldType.boolean)) ∈ lw_all := lw_g (lw_at lw_m13 114 rfl) rfl
theorem q3226 : (Jvm.Cond.instanceMethod ({ cls := "LoopSignals$Junction", name := "why", desc := "(I)I" } : Jvm.MethodName)) ∈ lw_all := lw_g (lw_at lw_m13 198 rfl) rfl
theorem q3227 : (Jvm.Cond.selects "LoopSignals$Junction" ({ cls := "LoopSignals$Junction", name := "why", desc := "(I)I" } : Jvm.MethodName) ({ cls := "LoopSignals$Junction", name := "why", desc := "(I)I" } : Jvm.MethodName)) ∈ lw_all := lw_g (lw_at lw_m13 199 rfl) rfl
theorem q3228 : (Jvm.Cond.code ({ cls := "LoopSignals$Junction", name := "why", desc := "(I)I" } : Jvm.MethodName) prog_6_method_36_code (2 : Nat) (Option.some Jvm.ClassFile.FieldType.int)) ∈ lw_all := lw_g (lw_at lw_m13 200 rfl) rfl
theorem q3229 : (Jvm.Cond.methodLink "LoopSignals$Junction" (284 : Nat) ({ cls := "LoopSignals$Junction", name := "phasesOf", desc := "(I)I" } : Jvm.MethodName)) ∈ lw_all := lw_g (lw_at lw_m13 201 rfl) rfl
theorem q3230 : (Jvm.Cond.methodLink "LoopSignals$Junction" (287 : Nat) ({ cls := "LoopSignals$Junction", name := "isCalledFor", desc := "(I)Z" } : Jvm.MethodName)) ∈ lw_all := lw_g (lw_at lw_m13 202 rfl) rfl
theorem q3231 : (Jvm.Cond.privateMethod ({ cls := "LoopSignals$Junction", name := "isCalledFor", desc := "(I)Z" } : Jvm.MethodName)) ∈ lw_tbl := lw_at lw_m13 203 rfl
theorem q3232 : (Jvm.Cond.instanceMethod ({ cls := "LoopSignals$Junction", name := "isCalledFor", desc := "(I)Z" } : Jvm.MethodName)) ∈ lw_all := lw_g (lw_at lw_m13 204 rfl) rfl
theorem q3233 : (Jvm.Cond.code ({ cls := "LoopSignals$Junction", name := "isCalledFor", desc := "(I)Z" } : Jvm.MethodName) prog_6_method_35_code (2 : Nat) (Option.some Jvm.ClassFile.FieldType.boolean)) ∈ lw_all := lw_g (lw_at lw_m13 205 rfl) rfl
theorem q3234 : (Jvm.Cond.privateMethod ({ cls := "LoopSignals$Junction", name := "lambda$isCalledFor$5", desc := "(II)Z" } : Jvm.MethodName)) ∈ lw_tbl := lw_at lw_m13 206 rfl
theorem q3235 : (Jvm.Cond.instanceMethod ({ cls := "LoopSignals$Junction", name := "lambda$isCalledFor$5", desc := "(II)Z" } : Jvm.MethodName)) ∈ lw_all := lw_g (lw_at lw_m13 207 rfl) rfl
theorem q3236 : (Jvm.Cond.code ({ cls := "LoopSignals$Junction", name := "lambda$isCalledFor$5", desc := "(II)Z" } : Jvm.MethodName) prog_6_method_46_code (3 : Nat) (Option.some Jvm.ClassFile.FieldType.boolean)) ∈ lw_all := lw_g (lw_at lw_m13 208 rfl) rfl
theorem q3238 : (Jvm.Cond.instanceMethod ({ cls := "LoopSignals$Junction", name := "cause", desc := "(I)I" } : Jvm.MethodName)) ∈ lw_all := lw_g (lw_at lw_m13 210 rfl) rfl
theorem q3239 : (Jvm.Cond.selects "LoopSignals$Junction" ({ cls := "LoopSignals$Junction", name := "cause", desc := "(I)I" } : Jvm.MethodName) ({ cls := "LoopSignals$Junction", name := "cause", desc := "(I)I" } : Jvm.MethodName)) ∈ lw_all := lw_g (lw_at lw_m13 211 rfl) rfl
theorem q3240 : (Jvm.Cond.code ({ cls := "LoopSignals$Junction", name := "cause", desc := "(I)I" } : Jvm.MethodName) prog_6_method_37_code (2 : Nat) (Option.some Jvm.ClassFile.FieldType.int)) ∈ lw_all := lw_g (lw_at lw_m13 212 rfl) rfl
theorem q3241 : (Jvm.Cond.methodLink "LoopSignals$Junction" (290 : Nat) ({ cls := "LoopSignals$Junction", name := "why", desc := "(I)I" } : Jvm.MethodName)) ∈ lw_all := lw_g (lw_at lw_m13 213 rfl) rfl
theorem q3312 : (Jvm.Cond.instanceMethod ({ cls := "LoopSignals$Junction", name := "couldJoin", desc := "(II)Z" } : Jvm.MethodName)) ∈ lw_all := lw_g (lw_at lw_m14 44 rfl) rfl
theorem q3313 : (Jvm.Cond.selects "LoopSignals$Junction" ({ cls := "LoopSignals$Junction", name := "couldJoin", desc := "(II)Z" } : Jvm.MethodName) ({ cls := "LoopSignals$Junction", name := "couldJoin", desc := "(II)Z" } : Jvm.MethodName)) ∈ lw_all := lw_g (lw_at lw_m14 45 rfl) rfl
theorem q3314 : (Jvm.Cond.code ({ cls := "LoopSignals$Junction", name := "couldJoin", desc := "(II)Z" } : Jvm.MethodName) prog_6_method_41_code (3 : Nat) (Option.some Jvm.ClassFile.FieldType.boolean)) ∈ lw_all := lw_g (lw_at lw_m14 46 rfl) rfl
theorem q3315 : (Jvm.Cond.privateMethod ({ cls := "LoopSignals$Junction", name := "lambda$couldJoin$7", desc := "(III)Z" } : Jvm.MethodName)) ∈ lw_tbl := lw_at lw_m14 47 rfl
theorem q3316 : (Jvm.Cond.instanceMethod ({ cls := "LoopSignals$Junction", name := "lambda$couldJoin$7", desc := "(III)Z" } : Jvm.MethodName)) ∈ lw_all := lw_g (lw_at lw_m14 48 rfl) rfl
theorem q3317 : (Jvm.Cond.code ({ cls := "LoopSignals$Junction", name := "lambda$couldJoin$7", desc := "(III)Z" } : Jvm.MethodName) prog_6_method_44_code (4 : Nat) (Option.some Jvm.ClassFile.FieldType.boolean)) ∈ lw_all := lw_g (lw_at lw_m14 49 rfl) rfl
theorem q3378 : (Jvm.Cond.instanceMethod ({ cls := "LoopSignals$Junction", name := "clashes", desc := "(IIZ)I" } : Jvm.MethodName)) ∈ lw_all := lw_g (lw_at lw_m14 110 rfl) rfl
theorem q3379 : (Jvm.Cond.selects "LoopSignals$Junction" ({ cls := "LoopSignals$Junction", name := "clashes", desc := "(IIZ)I" } : Jvm.MethodName) ({ cls := "LoopSignals$Junction", name := "clashes", desc := "(IIZ)I" } : Jvm.MethodName)) ∈ lw_all := lw_g (lw_at lw_m14 111 rfl) rfl
theorem q3380 : (Jvm.Cond.code ({ cls := "LoopSignals$Junction", name := "clashes", desc := "(IIZ)I" } : Jvm.MethodName) prog_6_method_30_code (6 : Nat) (Option.some Jvm.ClassFile.FieldType.int)) ∈ lw_all := lw_g (lw_at lw_m14 112 rfl) rfl
theorem q3381 : (Jvm.Cond.privateMethod ({ cls := "LoopSignals$Junction", name := "lambda$clashes$2", desc := "(III)Z" } : Jvm.MethodName)) ∈ lw_tbl := lw_at lw_m14 113 rfl
theorem q3382 : (Jvm.Cond.instanceMethod ({ cls := "LoopSignals$Junction", name := "lambda$clashes$2", desc := "(III)Z" } : Jvm.MethodName)) ∈ lw_all := lw_g (lw_at lw_m14 114 rfl) rfl
theorem q3383 : (Jvm.Cond.code ({ cls := "LoopSignals$Junction", name := "lambda$clashes$2", desc := "(III)Z" } : Jvm.MethodName) prog_6_method_49_code (4 : Nat) (Option.some Jvm.ClassFile.FieldType.boolean)) ∈ lw_all := lw_g (lw_at lw_m14 115 rfl) rfl
theorem q3384 : (Jvm.Cond.methodLink "LoopSignals$Junction" (275 : Nat) ({ cls := "java/util/LinkedHashSet", name := "remove", desc := "(Ljava/lang/Object;)Z" } : Jvm.MethodName)) ∈ lw_all := lw_g (lw_at lw_m14 116 rfl) rfl
theorem q3414 : (Jvm.Cond.methodLink "LoopSignals$Junction" (278 : Nat) ({ cls := "java/util/LinkedHashSet", name := "size", desc := "()I" } : Jvm.MethodName)) ∈ lw_all := lw_g (lw_at lw_m14 146 rfl) rfl
theorem q4087 : (Jvm.Cond.castable "LoopSignals$Junction" "java/lang/Object") ∈ lw_tbl := lw_at lw_m17 99 rfl
theorem in_X2 : ∀ w ∈ wsX20, w ∈ lw_all := lw_in wsX20 [1171, 1173, 1175, 1177, 1179, 1181, 1183, 1185, 1187, 1189, 1191] (by decide +kernel) (by decide +kernel)

