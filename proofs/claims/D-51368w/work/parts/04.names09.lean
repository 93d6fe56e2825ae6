/-! LoopSignals$Arm -/
set_option maxRecDepth 100000
def RX3 : String := "LoopSignals$Arm"
def TX3 : u_T := fun k => match k with
  | 0 => ("LoopSignals$Arm", "name", "Ljava/lang/String;", true)
  | 1 => ("LoopSignals$Arm", "line", "LLoopSignals$Line;", true)
  | 2 => ("LoopSignals$Arm", "seen", "I", false)
  | 3 => ("LoopSignals$Arm", "went", "I", false)
  | 4 => ("LoopSignals$Arm", "greens", "I", false)
  | _ => ("LoopSignals$Arm", "isBroken", "Z", false)
def tyX3 : Nat → FieldType := fun k => match k with
  | 0 => .object "java/lang/String"
  | 1 => .object "LoopSignals$Line"
  | 2 => .int
  | 3 => .int
  | 4 => .int
  | _ => .boolean
abbrev wsX30 : List Cond := u_ws RX3 TX3 6
theorem nmX3 : ∀ a, a < 6 → ∀ b, b < 6 → a ≠ b → (TX3 a).2.1 ≠ (TX3 b).2.1 := by decide +kernel
theorem tyX3_ok : ∀ k, k < 6 → parseFieldDescriptor (TX3 k).2.2.1 = some (tyX3 k) := by decide +kernel
abbrev cX3_init : ByteArray := prog_3_method_1_code
def yX3_init : MethodName := ⟨RX3, "<init>", "(Ljava/lang/String;LLoopSignals$Line;)V"⟩
def dkwX3_init_0 : List UInt8 := [42, 183, 0, 3, 42, 16, 157, 181, 0, 9, 42, 43, 181, 0, 15, 42, 44, 181, 0, 19, 177]
abbrev dktX3_init_0 : List UInt8 := dkwX3_init_0 ++ []
theorem dksX3_init_0 : cX3_init.data.toList.drop 0 = dktX3_init_0 := by decide +kernel
theorem dX3_init_0 : decode cX3_init 0 = .ok (.aload_n 0, 1) := dk_42 (dk_at dksX3_init_0 0 rfl rfl)
theorem dX3_init_1 : decode cX3_init 1 = .ok (.invokespecial 3, 3) := dk_183 0 3 (dk_at dksX3_init_0 1 rfl rfl)
theorem dX3_init_4 : decode cX3_init 4 = .ok (.aload_n 0, 1) := dk_42 (dk_at dksX3_init_0 4 rfl rfl)
theorem dX3_init_5 : decode cX3_init 5 = .ok (.bipush (-99), 2) := dk_16 157 (dk_at dksX3_init_0 5 rfl rfl)
theorem dX3_init_7 : decode cX3_init 7 = .ok (.putfield 9, 3) := dk_181 0 9 (dk_at dksX3_init_0 7 rfl rfl)
theorem dX3_init_10 : decode cX3_init 10 = .ok (.aload_n 0, 1) := dk_42 (dk_at dksX3_init_0 10 rfl rfl)
theorem dX3_init_11 : decode cX3_init 11 = .ok (.aload_n 1, 1) := dk_43 (dk_at dksX3_init_0 11 rfl rfl)
theorem dX3_init_12 : decode cX3_init 12 = .ok (.putfield 15, 3) := dk_181 0 15 (dk_at dksX3_init_0 12 rfl rfl)
theorem dX3_init_15 : decode cX3_init 15 = .ok (.aload_n 0, 1) := dk_42 (dk_at dksX3_init_0 15 rfl rfl)
theorem dX3_init_16 : decode cX3_init 16 = .ok (.aload_n 2, 1) := dk_44 (dk_at dksX3_init_0 16 rfl rfl)
theorem dX3_init_17 : decode cX3_init 17 = .ok (.putfield 19, 3) := dk_181 0 19 (dk_at dksX3_init_0 17 rfl rfl)
theorem dX3_init_20 : decode cX3_init 20 = .ok (.return_, 1) := dk_177 (dk_at dksX3_init_0 20 rfl rfl)
abbrev cX3_asks : ByteArray := prog_3_method_3_code
def yX3_asks : MethodName := ⟨RX3, "asks", "()Z"⟩
def dkwX3_asks_0 : List UInt8 := [42, 180, 0, 38, 154, 0, 13, 42, 180, 0, 19, 180, 0, 42, 158, 0, 7, 4, 167, 0, 4, 3, 172]
abbrev dktX3_asks_0 : List UInt8 := dkwX3_asks_0 ++ []
theorem dksX3_asks_0 : cX3_asks.data.toList.drop 0 = dktX3_asks_0 := by decide +kernel
theorem dX3_asks_0 : decode cX3_asks 0 = .ok (.aload_n 0, 1) := dk_42 (dk_at dksX3_asks_0 0 rfl rfl)
theorem dX3_asks_1 : decode cX3_asks 1 = .ok (.getfield 38, 3) := dk_180 0 38 (dk_at dksX3_asks_0 1 rfl rfl)
theorem dX3_asks_4 : decode cX3_asks 4 = .ok (.ifCond .ne 13, 3) := dk_154 0 13 (dk_at dksX3_asks_0 4 rfl rfl)
theorem dX3_asks_7 : decode cX3_asks 7 = .ok (.aload_n 0, 1) := dk_42 (dk_at dksX3_asks_0 7 rfl rfl)
theorem dX3_asks_8 : decode cX3_asks 8 = .ok (.getfield 19, 3) := dk_180 0 19 (dk_at dksX3_asks_0 8 rfl rfl)
theorem dX3_asks_11 : decode cX3_asks 11 = .ok (.getfield 42, 3) := dk_180 0 42 (dk_at dksX3_asks_0 11 rfl rfl)
theorem dX3_asks_14 : decode cX3_asks 14 = .ok (.ifCond .le 7, 3) := dk_158 0 7 (dk_at dksX3_asks_0 14 rfl rfl)
theorem dX3_asks_17 : decode cX3_asks 17 = .ok (.iconst 1, 1) := dk_4 (dk_at dksX3_asks_0 17 rfl rfl)
theorem dX3_asks_18 : decode cX3_asks 18 = .ok (.goto 4, 3) := dk_167 0 4 (dk_at dksX3_asks_0 18 rfl rfl)
theorem dX3_asks_21 : decode cX3_asks 21 = .ok (.iconst 0, 1) := dk_3 (dk_at dksX3_asks_0 21 rfl rfl)
theorem dX3_asks_22 : decode cX3_asks 22 = .ok (.ireturn, 1) := dk_172 (dk_at dksX3_asks_0 22 rfl rfl)
abbrev cX3_copy : ByteArray := prog_3_method_2_code
def yX3_copy : MethodName := ⟨RX3, "copy", "()LLoopSignals$Arm;"⟩
def dkwX3_copy_2 : List UInt8 := [181, 0, 38, 43, 176]
abbrev dktX3_copy_2 : List UInt8 := dkwX3_copy_2 ++ []
def dkwX3_copy_1 : List UInt8 := [181, 0, 9, 43, 42, 180, 0, 32, 181, 0, 32, 43, 42, 180, 0, 35, 181, 0, 35, 43, 42, 180, 0, 38]
abbrev dktX3_copy_1 : List UInt8 := dkwX3_copy_1 ++ dktX3_copy_2
def dkwX3_copy_0 : List UInt8 := [187, 0, 10, 89, 42, 180, 0, 15, 42, 180, 0, 19, 182, 0, 23, 183, 0, 29, 76, 43, 42, 180, 0, 9]
abbrev dktX3_copy_0 : List UInt8 := dkwX3_copy_0 ++ dktX3_copy_1
theorem dksX3_copy_0 : cX3_copy.data.toList.drop 0 = dktX3_copy_0 := by decide +kernel
theorem dksX3_copy_1 : cX3_copy.data.toList.drop 24 = dktX3_copy_1 := dk_seg dksX3_copy_0 24 rfl rfl
theorem dksX3_copy_2 : cX3_copy.data.toList.drop 48 = dktX3_copy_2 := dk_seg dksX3_copy_1 24 rfl rfl
theorem dX3_copy_0 : decode cX3_copy 0 = .ok (.new 10, 3) := dk_187 0 10 (dk_at dksX3_copy_0 0 rfl rfl)
theorem dX3_copy_3 : decode cX3_copy 3 = .ok (.dup, 1) := dk_89 (dk_at dksX3_copy_0 3 rfl rfl)
theorem dX3_copy_4 : decode cX3_copy 4 = .ok (.aload_n 0, 1) := dk_42 (dk_at dksX3_copy_0 4 rfl rfl)
theorem dX3_copy_5 : decode cX3_copy 5 = .ok (.getfield 15, 3) := dk_180 0 15 (dk_at dksX3_copy_0 5 rfl rfl)
theorem dX3_copy_8 : decode cX3_copy 8 = .ok (.aload_n 0, 1) := dk_42 (dk_at dksX3_copy_0 8 rfl rfl)
theorem dX3_copy_9 : decode cX3_copy 9 = .ok (.getfield 19, 3) := dk_180 0 19 (dk_at dksX3_copy_0 9 rfl rfl)
theorem dX3_copy_12 : decode cX3_copy 12 = .ok (.invokevirtual 23, 3) := dk_182 0 23 (dk_at dksX3_copy_0 12 rfl rfl)
theorem dX3_copy_15 : decode cX3_copy 15 = .ok (.invokespecial 29, 3) := dk_183 0 29 (dk_at dksX3_copy_0 15 rfl rfl)
theorem dX3_copy_18 : decode cX3_copy 18 = .ok (.astore_n 1, 1) := dk_76 (dk_at dksX3_copy_0 18 rfl rfl)
theorem dX3_copy_19 : decode cX3_copy 19 = .ok (.aload_n 1, 1) := dk_43 (dk_at dksX3_copy_0 19 rfl rfl)
theorem dX3_copy_20 : decode cX3_copy 20 = .ok (.aload_n 0, 1) := dk_42 (dk_at dksX3_copy_0 20 rfl rfl)
theorem dX3_copy_21 : decode cX3_copy 21 = .ok (.getfield 9, 3) := dk_180 0 9 (dk_at dksX3_copy_0 21 rfl rfl)
theorem dX3_copy_24 : decode cX3_copy 24 = .ok (.putfield 9, 3) := dk_181 0 9 (dk_at dksX3_copy_1 0 rfl rfl)
theorem dX3_copy_27 : decode cX3_copy 27 = .ok (.aload_n 1, 1) := dk_43 (dk_at dksX3_copy_1 3 rfl rfl)
theorem dX3_copy_28 : decode cX3_copy 28 = .ok (.aload_n 0, 1) := dk_42 (dk_at dksX3_copy_1 4 rfl rfl)
theorem dX3_copy_29 : decode cX3_copy 29 = .ok (.getfield 32, 3) := dk_180 0 32 (dk_at dksX3_copy_1 5 rfl rfl)
theorem dX3_copy_32 : decode cX3_copy 32 = .ok (.putfield 32, 3) := dk_181 0 32 (dk_at dksX3_copy_1 8 rfl rfl)
theorem dX3_copy_35 : decode cX3_copy 35 = .ok (.aload_n 1, 1) := dk_43 (dk_at dksX3_copy_1 11 rfl rfl)
theorem dX3_copy_36 : decode cX3_copy 36 = .ok (.aload_n 0, 1) := dk_42 (dk_at dksX3_copy_1 12 rfl rfl)
theorem dX3_copy_37 : decode cX3_copy 37 = .ok (.getfield 35, 3) := dk_180 0 35 (dk_at dksX3_copy_1 13 rfl rfl)
theorem dX3_copy_40 : decode cX3_copy 40 = .ok (.putfield 35, 3) := dk_181 0 35 (dk_at dksX3_copy_1 16 rfl rfl)
theorem dX3_copy_43 : decode cX3_copy 43 = .ok (.aload_n 1, 1) := dk_43 (dk_at dksX3_copy_1 19 rfl rfl)
theorem dX3_copy_44 : decode cX3_copy 44 = .ok (.aload_n 0, 1) := dk_42 (dk_at dksX3_copy_1 20 rfl rfl)
theorem dX3_copy_45 : decode cX3_copy 45 = .ok (.getfield 38, 3) := dk_180 0 38 (dk_at dksX3_copy_1 21 rfl rfl)
theorem dX3_copy_48 : decode cX3_copy 48 = .ok (.putfield 38, 3) := dk_181 0 38 (dk_at dksX3_copy_2 0 rfl rfl)
theorem dX3_copy_51 : decode cX3_copy 51 = .ok (.aload_n 1, 1) := dk_43 (dk_at dksX3_copy_2 3 rfl rfl)
theorem dX3_copy_52 : decode cX3_copy 52 = .ok (.areturn, 1) := dk_176 (dk_at dksX3_copy_2 4 rfl rfl)
theorem q182 : (Jvm.Cond.initialized "LoopSignals$Arm") ∈ lw_all := lw_g (lw_at lw_m1 34 rfl) rfl
theorem q1009 : (Jvm.Cond.selects "LoopSignals$Arm" ({ cls := "java/lang/Object", name := "toString", desc := "()Ljava/lang/String;" } : Jvm.MethodName) ({ cls := "java/lang/Object", name := "toString", desc := "()Ljava/lang/String;" } : Jvm.MethodName)) ∈ lw_all := lw_g (lw_at lw_m4 141 rfl) rfl
theorem q1028 : (Jvm.Cond.selects "LoopSignals$Arm" ({ cls := "java/lang/Object", name := "getClass", desc := "()Ljava/lang/Class;" } : Jvm.MethodName) ({ cls := "java/lang/Object", name := "getClass", desc := "()Ljava/lang/Class;" } : Jvm.MethodName)) ∈ lw_all := lw_g (lw_at lw_m4 160 rfl) rfl
theorem q1203 : (Jvm.Cond.instantiable "LoopSignals$Arm" (6 : Nat)) ∈ lw_all := lw_g (lw_at lw_m5 95 rfl) rfl
theorem q1213 : (Jvm.Cond.fieldLinkNest "LoopSignals$Arm" (42 : Nat) "LoopSignals$Line" "many" "I" "LoopSignals") ∈ lw_tbl := lw_at lw_m5 105 rfl
theorem q1224 : (Jvm.Cond.instanceMethod ({ cls := "LoopSignals$Arm", name := "<init>", desc := "(Ljava/lang/String;LLoopSignals$Line;)V" } : Jvm.MethodName)) ∈ lw_all := lw_g (lw_at lw_m5 116 rfl) rfl
theorem q1225 : (Jvm.Cond.code ({ cls := "LoopSignals$Arm", name := "<init>", desc := "(Ljava/lang/String;LLoopSignals$Line;)V" } : Jvm.MethodName) prog_3_method_1_code (3 : Nat) (Option.none : Option Jvm.ClassFile.FieldType)) ∈ lw_all := lw_g (lw_at lw_m5 117 rfl) rfl
theorem q1226 : (Jvm.Cond.methodLink "LoopSignals$Arm" (3 : Nat) ({ cls := "java/lang/Object", name := "<init>", desc := "()V" } : Jvm.MethodName)) ∈ lw_all := lw_g (lw_at lw_m5 118 rfl) rfl
theorem q1227 : (Jvm.Cond.fieldLink "LoopSignals$Arm" (15 : Nat) "LoopSignals$Arm" "name" "Ljava/lang/String;") ∈ lw_all := lw_g (lw_at lw_m5 119 rfl) rfl
theorem q1230 : (Jvm.Cond.fieldLink "LoopSignals$Arm" (19 : Nat) "LoopSignals$Arm" "line" "LLoopSignals$Line;") ∈ lw_all := lw_g (lw_at lw_m5 122 rfl) rfl
theorem q1233 : (Jvm.Cond.fieldLink "LoopSignals$Arm" (9 : Nat) "LoopSignals$Arm" "seen" "I") ∈ lw_all := lw_g (lw_at lw_m5 125 rfl) rfl
theorem q1236 : (Jvm.Cond.fieldLink "LoopSignals$Arm" (32 : Nat) "LoopSignals$Arm" "went" "I") ∈ lw_all := lw_g (lw_at lw_m5 128 rfl) rfl
theorem q1239 : (Jvm.Cond.fieldLink "LoopSignals$Arm" (35 : Nat) "LoopSignals$Arm" "greens" "I") ∈ lw_all := lw_g (lw_at lw_m5 131 rfl) rfl
theorem q1242 : (Jvm.Cond.fieldLink "LoopSignals$Arm" (38 : Nat) "LoopSignals$Arm" "isBroken" "Z") ∈ lw_all := lw_g (lw_at lw_m5 134 rfl) rfl
theorem q1245 : (Jvm.Cond.laysFinal "LoopSignals$Arm" "LoopSignals$Arm" "name" "Ljava/lang/String;") ∈ lw_all := lw_g (lw_at lw_m5 137 rfl) rfl
theorem q1246 : (Jvm.Cond.soleField "LoopSignals$Arm" "name") ∈ lw_all := lw_g (lw_at lw_m5 138 rfl) rfl
theorem q1247 : (Jvm.Cond.laysFinal "LoopSignals$Arm" "LoopSignals$Arm" "line" "LLoopSignals$Line;") ∈ lw_all := lw_g (lw_at lw_m5 139 rfl) rfl
theorem q1248 : (Jvm.Cond.soleField "LoopSignals$Arm" "line") ∈ lw_all := lw_g (lw_at lw_m5 140 rfl) rfl
theorem q1249 : (Jvm.Cond.lays "LoopSignals$Arm" "LoopSignals$Arm" "seen" "I") ∈ lw_all := lw_g (lw_at lw_m5 141 rfl) rfl
theorem q1250 : (Jvm.Cond.soleField "LoopSignals$Arm" "seen") ∈ lw_all := lw_g (lw_at lw_m5 142 rfl) rfl
theorem q1251 : (Jvm.Cond.lays "LoopSignals$Arm" "LoopSignals$Arm" "went" "I") ∈ lw_all := lw_g (lw_at lw_m5 143 rfl) rfl
theorem q1252 : (Jvm.Cond.soleField "LoopSignals$Arm" "went") ∈ lw_all := lw_g (lw_at lw_m5 144 rfl) rfl
theorem q1253 : (Jvm.Cond.lays "LoopSignals$Arm" "LoopSignals$Arm" "greens" "I") ∈ lw_all := lw_g (lw_at lw_m5 145 rfl) rfl
theorem q1254 : (Jvm.Cond.soleField "LoopSignals$Arm" "greens") ∈ lw_all := lw_g (lw_at lw_m5 146 rfl) rfl
theorem q1255 : (Jvm.Cond.lays "LoopSignals$Arm" "LoopSignals$Arm" "isBroken" "Z") ∈ lw_all := lw_g (lw_at lw_m5 147 rfl) rfl
theorem q1256 : (Jvm.Cond.soleField "LoopSignals$Arm" "isBroken") ∈ lw_all := lw_g (lw_at lw_m5 148 rfl) rfl
theorem q1257 : (Jvm.Cond.superclass "LoopSignals$Arm" "java/lang/Object") ∈ lw_all := lw_g (lw_at lw_m5 149 rfl) rfl
theorem q1306 : (Jvm.Cond.selects "LoopSignals$Arm" ({ cls := "java/lang/Object", name := "hashCode", desc := "()I" } : Jvm.MethodName) ({ cls := "java/lang/Object", name := "hashCode", desc := "()I" } : Jvm.MethodName)) ∈ lw_all := lw_g (lw_at lw_m5 198 rfl) rfl
theorem q1734 : (Jvm.Cond.selects "LoopSignals$Arm" ({ cls := "java/lang/Object", name := "equals", desc := "(Ljava/lang/Object;)Z" } : Jvm.MethodName) ({ cls := "java/lang/Object", name := "equals", desc := "(Ljava/lang/Object;)Z" } : Jvm.MethodName)) ∈ lw_all := lw_g (lw_at lw_m7 146 rfl) rfl
theorem q2550 : (Jvm.Cond.instanceMethod ({ cls := "LoopSignals$Arm", name := "asks", desc := "()Z" } : Jvm.MethodName)) ∈ lw_all := lw_g (lw_at lw_m11 2 rfl) rfl
theorem q2551 : (Jvm.Cond.selects "LoopSignals$Arm" ({ cls := "LoopSignals$Arm", name := "asks", desc := "()Z" } : Jvm.MethodName) ({ cls := "LoopSignals$Arm", name := "asks", desc := "()Z" } : Jvm.MethodName)) ∈ lw_all := lw_g (lw_at lw_m11 3 rfl) rfl
theorem q2552 : (Jvm.Cond.code ({ cls := "LoopSignals$Arm", name := "asks", desc := "()Z" } : Jvm.MethodName) prog_3_method_3_code (1 : Nat) (Option.some Jvm.ClassFile.FieldType.boolean)) ∈ lw_all := lw_g (lw_at lw_m11 4 rfl) rfl
theorem q2675 : (Jvm.Cond.instanceMethod ({ cls := "LoopSignals$Arm", name := "copy", desc := "()LLoopSignals$Arm;" } : Jvm.MethodName)) ∈ lw_all := lw_g (lw_at lw_m11 127 rfl) rfl
theorem q2676 : (Jvm.Cond.selects "LoopSignals$Arm" ({ cls := "LoopSignals$Arm", name := "copy", desc := "()LLoopSignals$Arm;" } : Jvm.MethodName) ({ cls := "LoopSignals$Arm", name := "copy", desc := "()LLoopSignals$Arm;" } : Jvm.MethodName)) ∈ lw_all := lw_g (lw_at lw_m11 128 rfl) rfl
theorem q2677 : (Jvm.Cond.code ({ cls := "LoopSignals$Arm", name := "copy", desc := "()LLoopSignals$Arm;" } : Jvm.MethodName) prog_3_method_2_code (2 : Nat) (Option.some (Jvm.ClassFile.FieldType.object "LoopSignals$Arm"))) ∈ lw_all := lw_g (lw_at lw_m11 129 rfl) rfl
theorem q2678 : (Jvm.Cond.classLink "LoopSignals$Arm" (10 : Nat) "LoopSignals$Arm") ∈ lw_all := lw_g (lw_at lw_m11 130 rfl) rfl
theorem q2679 : (Jvm.Cond.methodLink "LoopSignals$Arm" (23 : Nat) ({ cls := "LoopSignals$Line", name := "copy", desc := "()LLoopSignals$Line;" } : Jvm.MethodName)) ∈ lw_all := lw_g (lw_at lw_m11 131 rfl) rfl
theorem q2686 : (Jvm.Cond.methodLink "LoopSignals$Arm" (29 : Nat) ({ cls := "LoopSignals$Arm", name := "<init>", desc := "(Ljava/lang/String;LLoopSignals$Line;)V" } : Jvm.MethodName)) ∈ lw_all := lw_g (lw_at lw_m11 138 rfl) rfl
theorem q4101 : (Jvm.Cond.castable "LoopSignals$Arm" "java/lang/Object") ∈ lw_tbl := lw_at lw_m17 113 rfl
theorem in_X3 : ∀ w ∈ wsX30, w ∈ lw_all := lw_in wsX30 [1245, 1247, 1249, 1251, 1253, 1255] (by decide +kernel) (by decide +kernel)

/-! LoopSignals$Line -/
set_option maxRecDepth 100000
def RX4 : String := "LoopSignals$Line"
def TX4 : u_T := fun k => match k with
  | 0 => ("LoopSignals$Line", "ticks", "[I", true)
  | 1 => ("LoopSignals$Line", "head", "I", false)
  | _ => ("LoopSignals$Line", "many", "I", false)
def tyX4 : Nat → FieldType := fun k => match k with
  | 0 => .array .int
  | 1 => .int
  | _ => .int
abbrev wsX40 : List Cond := u_ws RX4 TX4 3
theorem nmX4 : ∀ a, a < 3 → ∀ b, b < 3 → a ≠ b → (TX4 a).2.1 ≠ (TX4 b).2.1 := by decide +kernel
theorem tyX4_ok : ∀ k, k < 3 → parseFieldDescriptor (TX4 k).2.2.1 = some (tyX4 k) := by decide +kernel
abbrev cX4_init : ByteArray := prog_7_method_1_code
def yX4_init : MethodName := ⟨RX4, "<init>", "()V"⟩
def dkwX4_init_0 : List UInt8 := [42, 183, 0, 3, 42, 16, 99, 188, 10, 181, 0, 9, 177]
abbrev dktX4_init_0 : List UInt8 := dkwX4_init_0 ++ []
theorem dksX4_init_0 : cX4_init.data.toList.drop 0 = dktX4_init_0 := by decide +kernel
theorem dX4_init_0 : decode cX4_init 0 = .ok (.aload_n 0, 1) := dk_42 (dk_at dksX4_init_0 0 rfl rfl)
theorem dX4_init_1 : decode cX4_init 1 = .ok (.invokespecial 3, 3) := dk_183 0 3 (dk_at dksX4_init_0 1 rfl rfl)
theorem dX4_init_4 : decode cX4_init 4 = .ok (.aload_n 0, 1) := dk_42 (dk_at dksX4_init_0 4 rfl rfl)
theorem dX4_init_5 : decode cX4_init 5 = .ok (.bipush 99, 2) := dk_16 99 (dk_at dksX4_init_0 5 rfl rfl)
theorem dX4_init_7 : decode cX4_init 7 = .ok (.newarray .int, 2) := dk_188_10 (dk_at dksX4_init_0 7 rfl rfl)
theorem dX4_init_9 : decode cX4_init 9 = .ok (.putfield 9, 3) := dk_181 0 9 (dk_at dksX4_init_0 9 rfl rfl)
theorem dX4_init_12 : decode cX4_init 12 = .ok (.return_, 1) := dk_177 (dk_at dksX4_init_0 12 rfl rfl)
abbrev cX4_goes : ByteArray := prog_7_method_5_code
def yX4_goes : MethodName := ⟨RX4, "goes", "()I"⟩
def dkwX4_goes_1 : List UInt8 := [89, 180, 0, 26, 4, 100, 181, 0, 26, 27, 172]
abbrev dktX4_goes_1 : List UInt8 := dkwX4_goes_1 ++ []
def dkwX4_goes_0 : List UInt8 := [42, 180, 0, 9, 42, 180, 0, 22, 46, 60, 42, 42, 180, 0, 22, 4, 96, 16, 99, 112, 181, 0, 22, 42]
abbrev dktX4_goes_0 : List UInt8 := dkwX4_goes_0 ++ dktX4_goes_1
theorem dksX4_goes_0 : cX4_goes.data.toList.drop 0 = dktX4_goes_0 := by decide +kernel
theorem dksX4_goes_1 : cX4_goes.data.toList.drop 24 = dktX4_goes_1 := dk_seg dksX4_goes_0 24 rfl rfl
theorem dX4_goes_0 : decode cX4_goes 0 = .ok (.aload_n 0, 1) := dk_42 (dk_at dksX4_goes_0 0 rfl rfl)
theorem dX4_goes_1 : decode cX4_goes 1 = .ok (.getfield 9, 3) := dk_180 0 9 (dk_at dksX4_goes_0 1 rfl rfl)
theorem dX4_goes_4 : decode cX4_goes 4 = .ok (.aload_n 0, 1) := dk_42 (dk_at dksX4_goes_0 4 rfl rfl)
theorem dX4_goes_5 : decode cX4_goes 5 = .ok (.getfield 22, 3) := dk_180 0 22 (dk_at dksX4_goes_0 5 rfl rfl)
theorem dX4_goes_8 : decode cX4_goes 8 = .ok (.iaload, 1) := dk_46 (dk_at dksX4_goes_0 8 rfl rfl)
theorem dX4_goes_9 : decode cX4_goes 9 = .ok (.istore_n 1, 1) := dk_60 (dk_at dksX4_goes_0 9 rfl rfl)
theorem dX4_goes_10 : decode cX4_goes 10 = .ok (.aload_n 0, 1) := dk_42 (dk_at dksX4_goes_0 10 rfl rfl)
theorem dX4_goes_11 : decode cX4_goes 11 = .ok (.aload_n 0, 1) := dk_42 (dk_at dksX4_goes_0 11 rfl rfl)
theorem dX4_goes_12 : decode cX4_goes 12 = .ok (.getfield 22, 3) := dk_180 0 22 (dk_at dksX4_goes_0 12 rfl rfl)
theorem dX4_goes_15 : decode cX4_goes 15 = .ok (.iconst 1, 1) := dk_4 (dk_at dksX4_goes_0 15 rfl rfl)
theorem dX4_goes_16 : decode cX4_goes 16 = .ok (.iadd, 1) := dk_96 (dk_at dksX4_goes_0 16 rfl rfl)
theorem dX4_goes_17 : decode cX4_goes 17 = .ok (.bipush 99, 2) := dk_16 99 (dk_at dksX4_goes_0 17 rfl rfl)
theorem dX4_goes_19 : decode cX4_goes 19 = .ok (.irem, 1) := dk_112 (dk_at dksX4_goes_0 19 rfl rfl)
theorem dX4_goes_20 : decode cX4_goes 20 = .ok (.putfield 22, 3) := dk_181 0 22 (dk_at dksX4_goes_0 20 rfl rfl)
theorem dX4_goes_23 : decode cX4_goes 23 = .ok (.aload_n 0, 1) := dk_42 (dk_at dksX4_goes_0 23 rfl rfl)
theorem dX4_goes_24 : decode cX4_goes 24 = .ok (.dup, 1) := dk_89 (dk_at dksX4_goes_1 0 rfl rfl)
theorem dX4_goes_25 : decode cX4_goes 25 = .ok (.getfield 26, 3) := dk_180 0 26 (dk_at dksX4_goes_1 1 rfl rfl)
theorem dX4_goes_28 : decode cX4_goes 28 = .ok (.iconst 1, 1) := dk_4 (dk_at dksX4_goes_1 4 rfl rfl)
theorem dX4_goes_29 : decode cX4_goes 29 = .ok (.isub, 1) := dk_100 (dk_at dksX4_goes_1 5 rfl rfl)
theorem dX4_goes_30 : decode cX4_goes 30 = .ok (.putfield 26, 3) := dk_181 0 26 (dk_at dksX4_goes_1 6 rfl rfl)
theorem dX4_goes_33 : decode cX4_goes 33 = .ok (.iload_n 1, 1) := dk_27 (dk_at dksX4_goes_1 9 rfl rfl)
theorem dX4_goes_34 : decode cX4_goes 34 = .ok (.ireturn, 1) := dk_172 (dk_at dksX4_goes_1 10 rfl rfl)
abbrev cX4_at : ByteArray := prog_7_method_4_code
def yX4_at : MethodName := ⟨RX4, "at", "(I)I"⟩
def dkwX4_at_1 : List UInt8 := [27, 96, 16, 99, 112, 46, 167, 0, 4, 2, 172]
abbrev dktX4_at_1 : List UInt8 := dkwX4_at_1 ++ []
def dkwX4_at_0 : List UInt8 := [27, 133, 9, 42, 180, 0, 26, 4, 100, 133, 184, 0, 29, 153, 0, 20, 42, 180, 0, 9, 42, 180, 0, 22]
abbrev dktX4_at_0 : List UInt8 := dkwX4_at_0 ++ dktX4_at_1
theorem dksX4_at_0 : cX4_at.data.toList.drop 0 = dktX4_at_0 := by decide +kernel
theorem dksX4_at_1 : cX4_at.data.toList.drop 24 = dktX4_at_1 := dk_seg dksX4_at_0 24 rfl rfl
theorem dX4_at_0 : decode cX4_at 0 = .ok (.iload_n 1, 1) := dk_27 (dk_at dksX4_at_0 0 rfl rfl)
theorem dX4_at_1 : decode cX4_at 1 = .ok (.i2l, 1) := dk_133 (dk_at dksX4_at_0 1 rfl rfl)
theorem dX4_at_2 : decode cX4_at 2 = .ok (.lconst 0, 1) := dk_9 (dk_at dksX4_at_0 2 rfl rfl)
theorem dX4_at_3 : decode cX4_at 3 = .ok (.aload_n 0, 1) := dk_42 (dk_at dksX4_at_0 3 rfl rfl)
theorem dX4_at_4 : decode cX4_at 4 = .ok (.getfield 26, 3) := dk_180 0 26 (dk_at dksX4_at_0 4 rfl rfl)
theorem dX4_at_7 : decode cX4_at 7 = .ok (.iconst 1, 1) := dk_4 (dk_at dksX4_at_0 7 rfl rfl)
theorem dX4_at_8 : decode cX4_at 8 = .ok (.isub, 1) := dk_100 (dk_at dksX4_at_0 8 rfl rfl)
theorem dX4_at_9 : decode cX4_at 9 = .ok (.i2l, 1) := dk_133 (dk_at dksX4_at_0 9 rfl rfl)
theorem dX4_at_10 : decode cX4_at 10 = .ok (.invokestatic 29, 3) := dk_184 0 29 (dk_at dksX4_at_0 10 rfl rfl)
theorem dX4_at_13 : decode cX4_at 13 = .ok (.ifCond .eq 20, 3) := dk_153 0 20 (dk_at dksX4_at_0 13 rfl rfl)
theorem dX4_at_16 : decode cX4_at 16 = .ok (.aload_n 0, 1) := dk_42 (dk_at dksX4_at_0 16 rfl rfl)
theorem dX4_at_17 : decode cX4_at 17 = .ok (.getfield 9, 3) := dk_180 0 9 (dk_at dksX4_at_0 17 rfl rfl)
theorem dX4_at_20 : decode cX4_at 20 = .ok (.aload_n 0, 1) := dk_42 (dk_at dksX4_at_0 20 rfl rfl)
theorem dX4_at_21 : decode cX4_at 21 = .ok (.getfield 22, 3) := dk_180 0 22 (dk_at dksX4_at_0 21 rfl rfl)
theorem dX4_at_24 : decode cX4_at 24 = .ok (.iload_n 1, 1) := dk_27 (dk_at dksX4_at_1 0 rfl rfl)
theorem dX4_at_25 : decode cX4_at 25 = .ok (.iadd, 1) := dk_96 (dk_at dksX4_at_1 1 rfl rfl)
theorem dX4_at_26 : decode cX4_at 26 = .ok (.bipush 99, 2) := dk_16 99 (dk_at dksX4_at_1 2 rfl rfl)
theorem dX4_at_28 : decode cX4_at 28 = .ok (.irem, 1) := dk_112 (dk_at dksX4_at_1 4 rfl rfl)
theorem dX4_at_29 : decode cX4_at 29 = .ok (.iaload, 1) := dk_46 (dk_at dksX4_at_1 5 rfl rfl)
theorem dX4_at_30 : decode cX4_at 30 = .ok (.goto 4, 3) := dk_167 0 4 (dk_at dksX4_at_1 6 rfl rfl)
theorem dX4_at_33 : decode cX4_at 33 = .ok (.iconst (-1), 1) := dk_2 (dk_at dksX4_at_1 9 rfl rfl)
theorem dX4_at_34 : decode cX4_at 34 = .ok (.ireturn, 1) := dk_172 (dk_at dksX4_at_1 10 rfl rfl)
abbrev cX4_comes : ByteArray := prog_7_method_3_code
def yX4_comes : MethodName := ⟨RX4, "comes", "(I)V"⟩
def dkwX4_comes_1 : List UInt8 := [96, 181, 0, 26, 177]
abbrev dktX4_comes_1 : List UInt8 := dkwX4_comes_1 ++ []
def dkwX4_comes_0 : List UInt8 := [42, 180, 0, 9, 42, 180, 0, 22, 42, 180, 0, 26, 96, 16, 99, 112, 27, 79, 42, 89, 180, 0, 26, 4]
abbrev dktX4_comes_0 : List UInt8 := dkwX4_comes_0 ++ dktX4_comes_1
theorem dksX4_comes_0 : cX4_comes.data.toList.drop 0 = dktX4_comes_0 := by decide +kernel
theorem dksX4_comes_1 : cX4_comes.data.toList.drop 24 = dktX4_comes_1 := dk_seg dksX4_comes_0 24 rfl rfl
theorem dX4_comes_0 : decode cX4_comes 0 = .ok (.aload_n 0, 1) := dk_42 (dk_at dksX4_comes_0 0 rfl rfl)
theorem dX4_comes_1 : decode cX4_comes 1 = .ok (.getfield 9, 3) := dk_180 0 9 (dk_at dksX4_comes_0 1 rfl rfl)
theorem dX4_comes_4 : decode cX4_comes 4 = .ok (.aload_n 0, 1) := dk_42 (dk_at dksX4_comes_0 4 rfl rfl)
theorem dX4_comes_5 : decode cX4_comes 5 = .ok (.getfield 22, 3) := dk_180 0 22 (dk_at dksX4_comes_0 5 rfl rfl)
theorem dX4_comes_8 : decode cX4_comes 8 = .ok (.aload_n 0, 1) := dk_42 (dk_at dksX4_comes_0 8 rfl rfl)
theorem dX4_comes_9 : decode cX4_comes 9 = .ok (.getfield 26, 3) := dk_180 0 26 (dk_at dksX4_comes_0 9 rfl rfl)
theorem dX4_comes_12 : decode cX4_comes 12 = .ok (.iadd, 1) := dk_96 (dk_at dksX4_comes_0 12 rfl rfl)
theorem dX4_comes_13 : decode cX4_comes 13 = .ok (.bipush 99, 2) := dk_16 99 (dk_at dksX4_comes_0 13 rfl rfl)
theorem dX4_comes_15 : decode cX4_comes 15 = .ok (.irem, 1) := dk_112 (dk_at dksX4_comes_0 15 rfl rfl)
theorem dX4_comes_16 : decode cX4_comes 16 = .ok (.iload_n 1, 1) := dk_27 (dk_at dksX4_comes_0 16 rfl rfl)
theorem dX4_comes_17 : decode cX4_comes 17 = .ok (.iastore, 1) := dk_79 (dk_at dksX4_comes_0 17 rfl rfl)
theorem dX4_comes_18 : decode cX4_comes 18 = .ok (.aload_n 0, 1) := dk_42 (dk_at dksX4_comes_0 18 rfl rfl)
theorem dX4_comes_19 : decode cX4_comes 19 = .ok (.dup, 1) := dk_89 (dk_at dksX4_comes_0 19 rfl rfl)
theorem dX4_comes_20 : decode cX4_comes 20 = .ok (.getfield 26, 3) := dk_180 0 26 (dk_at dksX4_comes_0 20 rfl rfl)
theorem dX4_comes_23 : decode cX4_comes 23 = .ok (.iconst 1, 1) := dk_4 (dk_at dksX4_comes_0 23 rfl rfl)
theorem dX4_comes_24 : decode cX4_comes 24 = .ok (.iadd, 1) := dk_96 (dk_at dksX4_comes_1 0 rfl rfl)
theorem dX4_comes_25 : decode cX4_comes 25 = .ok (.putfield 26, 3) := dk_181 0 26 (dk_at dksX4_comes_1 1 rfl rfl)
theorem dX4_comes_28 : decode cX4_comes 28 = .ok (.return_, 1) := dk_177 (dk_at dksX4_comes_1 4 rfl rfl)
abbrev cX4_copy : ByteArray := prog_7_method_2_code
def yX4_copy : MethodName := ⟨RX4, "copy", "()LLoopSignals$Line;"⟩
def dkwX4_copy_1 : List UInt8 := [42, 180, 0, 22, 181, 0, 22, 43, 42, 180, 0, 26, 181, 0, 26, 43, 176]
abbrev dktX4_copy_1 : List UInt8 := dkwX4_copy_1 ++ []
def dkwX4_copy_0 : List UInt8 := [187, 0, 10, 89, 183, 0, 15, 76, 42, 180, 0, 9, 3, 43, 180, 0, 9, 3, 16, 99, 184, 0, 16, 43]
abbrev dktX4_copy_0 : List UInt8 := dkwX4_copy_0 ++ dktX4_copy_1
theorem dksX4_copy_0 : cX4_copy.data.toList.drop 0 = dktX4_copy_0 := by decide +kernel
theorem dksX4_copy_1 : cX4_copy.data.toList.drop 24 = dktX4_copy_1 := dk_seg dksX4_copy_0 24 rfl rfl
theorem dX4_copy_0 : decode cX4_copy 0 = .ok (.new 10, 3) := dk_187 0 10 (dk_at dksX4_copy_0 0 rfl rfl)
theorem dX4_copy_3 : decode cX4_copy 3 = .ok (.dup, 1) := dk_89 (dk_at dksX4_copy_0 3 rfl rfl)
theorem dX4_copy_4 : decode cX4_copy 4 = .ok (.invokespecial 15, 3) := dk_183 0 15 (dk_at dksX4_copy_0 4 rfl rfl)
theorem dX4_copy_7 : decode cX4_copy 7 = .ok (.astore_n 1, 1) := dk_76 (dk_at dksX4_copy_0 7 rfl rfl)
theorem dX4_copy_8 : decode cX4_copy 8 = .ok (.aload_n 0, 1) := dk_42 (dk_at dksX4_copy_0 8 rfl rfl)
theorem dX4_copy_9 : decode cX4_copy 9 = .ok (.getfield 9, 3) := dk_180 0 9 (dk_at dksX4_copy_0 9 rfl rfl)
theorem dX4_copy_12 : decode cX4_copy 12 = .ok (.iconst 0, 1) := dk_3 (dk_at dksX4_copy_0 12 rfl rfl)
theorem dX4_copy_13 : decode cX4_copy 13 = .ok (.aload_n 1, 1) := dk_43 (dk_at dksX4_copy_0 13 rfl rfl)
theorem dX4_copy_14 : decode cX4_copy 14 = .ok (.getfield 9, 3) := dk_180 0 9 (dk_at dksX4_copy_0 14 rfl rfl)
theorem dX4_copy_17 : decode cX4_copy 17 = .ok (.iconst 0, 1) := dk_3 (dk_at dksX4_copy_0 17 rfl rfl)
theorem dX4_copy_18 : decode cX4_copy 18 = .ok (.bipush 99, 2) := dk_16 99 (dk_at dksX4_copy_0 18 rfl rfl)
theorem dX4_copy_20 : decode cX4_copy 20 = .ok (.invokestatic 16, 3) := dk_184 0 16 (dk_at dksX4_copy_0 20 rfl rfl)
theorem dX4_copy_23 : decode cX4_copy 23 = .ok (.aload_n 1, 1) := dk_43 (dk_at dksX4_copy_0 23 rfl rfl)
theorem dX4_copy_24 : decode cX4_copy 24 = .ok (.aload_n 0, 1) := dk_42 (dk_at dksX4_copy_1 0 rfl rfl)
theorem dX4_copy_25 : decode cX4_copy 25 = .ok (.getfield 22, 3) := dk_180 0 22 (dk_at dksX4_copy_1 1 rfl rfl)
theorem dX4_copy_28 : decode cX4_copy 28 = .ok (.putfield 22, 3) := dk_181 0 22 (dk_at dksX4_copy_1 4 rfl rfl)
theorem dX4_copy_31 : decode cX4_copy 31 = .ok (.aload_n 1, 1) := dk_43 (dk_at dksX4_copy_1 7 rfl rfl)
theorem dX4_copy_32 : decode cX4_copy 32 = .ok (.aload_n 0, 1) := dk_42 (dk_at dksX4_copy_1 8 rfl rfl)
theorem dX4_copy_33 : decode cX4_copy 33 = .ok (.getfield 26, 3) := dk_180 0 26 (dk_at dksX4_copy_1 9 rfl rfl)
theorem dX4_copy_36 : decode cX4_copy 36 = .ok (.putfield 26, 3) := dk_181 0 26 (dk_at dksX4_copy_1 12 rfl rfl)
theorem dX4_copy_39 : decode cX4_copy 39 = .ok (.aload_n 1, 1) := dk_43 (dk_at dksX4_copy_1 15 rfl rfl)
theorem dX4_copy_40 : decode cX4_copy 40 = .ok (.areturn, 1) := dk_176 (dk_at dksX4_copy_1 16 rfl rfl)
theorem q183 : (Jvm.Cond.initialized "LoopSignals$Line") ∈ lw_all := lw_g (lw_at lw_m1 35 rfl) rfl
theorem q1012 : (Jvm.Cond.selects "LoopSignals$Line" ({ cls := "java/lang/Object", name := "toString", desc := "()Ljava/lang/String;" } : Jvm.MethodName) ({ cls := "java/lang/Object", name := "toString", desc := "()Ljava/lang/String;" } : Jvm.MethodName)) ∈ lw_all := lw_g (lw_at lw_m4 144 rfl) rfl
theorem q1031 : (Jvm.Cond.selects "LoopSignals$Line" ({ cls := "java/lang/Object", name := "getClass", desc := "()Ljava/lang/Class;" } : Jvm.MethodName) ({ cls := "java/lang/Object", name := "getClass", desc := "()Ljava/lang/Class;" } : Jvm.MethodName)) ∈ lw_all := lw_g (lw_at lw_m4 163 rfl) rfl
theorem q1205 : (Jvm.Cond.instantiable "LoopSignals$Line" (3 : Nat)) ∈ lw_all := lw_g (lw_at lw_m5 97 rfl) rfl
theorem q1207 : (Jvm.Cond.instanceMethod ({ cls := "LoopSignals$Line", name := "<init>", desc := "()V" } : Jvm.MethodName)) ∈ lw_all := lw_g (lw_at lw_m5 99 rfl) rfl
theorem q1208 : (Jvm.Cond.code ({ cls := "LoopSignals$Line", name := "<init>", desc := "()V" } : Jvm.MethodName) prog_7_method_1_code (1 : Nat) (Option.none : Option Jvm.ClassFile.FieldType)) ∈ lw_all := lw_g (lw_at lw_m5 100 rfl) rfl
theorem q1209 : (Jvm.Cond.methodLink "LoopSignals$Line" (3 : Nat) ({ cls := "java/lang/Object", name := "<init>", desc := "()V" } : Jvm.MethodName)) ∈ lw_all := lw_g (lw_at lw_m5 101 rfl) rfl
theorem q1210 : (Jvm.Cond.fieldLink "LoopSignals$Line" (9 : Nat) "LoopSignals$Line" "ticks" "[I") ∈ lw_all := lw_g (lw_at lw_m5 102 rfl) rfl
theorem q1211 : (Jvm.Cond.fieldLink "LoopSignals$Line" (22 : Nat) "LoopSignals$Line" "head" "I") ∈ lw_all := lw_g (lw_at lw_m5 103 rfl) rfl
theorem q1212 : (Jvm.Cond.fieldLink "LoopSignals$Line" (26 : Nat) "LoopSignals$Line" "many" "I") ∈ lw_all := lw_g (lw_at lw_m5 104 rfl) rfl
theorem q1216 : (Jvm.Cond.laysFinal "LoopSignals$Line" "LoopSignals$Line" "ticks" "[I") ∈ lw_all := lw_g (lw_at lw_m5 108 rfl) rfl
theorem q1217 : (Jvm.Cond.soleField "LoopSignals$Line" "ticks") ∈ lw_all := lw_g (lw_at lw_m5 109 rfl) rfl
theorem q1218 : (Jvm.Cond.lays "LoopSignals$Line" "LoopSignals$Line" "head" "I") ∈ lw_all := lw_g (lw_at lw_m5 110 rfl) rfl
theorem q1219 : (Jvm.Cond.soleField "LoopSignals$Line" "head") ∈ lw_all := lw_g (lw_at lw_m5 111 rfl) rfl
theorem q1220 : (Jvm.Cond.lays "LoopSignals$Line" "LoopSignals$Line" "many" "I") ∈ lw_all := lw_g (lw_at lw_m5 112 rfl) rfl
theorem q1221 : (Jvm.Cond.soleField "LoopSignals$Line" "many") ∈ lw_all := lw_g (lw_at lw_m5 113 rfl) rfl
theorem q1222 : (Jvm.Cond.superclass "LoopSignals$Line" "java/lang/Object") ∈ lw_all := lw_g (lw_at lw_m5 114 rfl) rfl
theorem q1311 : (Jvm.Cond.selects "LoopSignals$Line" ({ cls := "java/lang/Object", name := "hashCode", desc := "()I" } : Jvm.MethodName) ({ cls := "java/lang/Object", name := "hashCode", desc := "()I" } : Jvm.MethodName)) ∈ lw_all := lw_g (lw_at lw_m5 203 rfl) rfl
theorem q1740 : (Jvm.Cond.selects "LoopSignals$Line" ({ cls := "java/lang/Object", name := "equals", desc := "(Ljava/lang/Object;)Z" } : Jvm.MethodName) ({ cls := "java/lang/Object", name := "equals", desc := "(Ljava/lang/Object;)Z" } : Jvm.MethodName)) ∈ lw_all := lw_g (lw_at lw_m7 152 rfl) rfl
theorem q2534 : (Jvm.Cond.instanceMethod ({ cls := "LoopSignals$Line", name := "goes", desc := "()I" } : Jvm.MethodName)) ∈ lw_all := lw_g (lw_at lw_m10 226 rfl) rfl
theorem q2535 : (Jvm.Cond.selects "LoopSignals$Line" ({ cls := "LoopSignals$Line", name := "goes", desc := "()I" } : Jvm.MethodName) ({ cls := "LoopSignals$Line", name := "goes", desc := "()I" } : Jvm.MethodName)) ∈ lw_all := lw_g (lw_at lw_m10 227 rfl) rfl
theorem q2536 : (Jvm.Cond.code ({ cls := "LoopSignals$Line", name := "goes", desc := "()I" } : Jvm.MethodName) prog_7_method_5_code (2 : Nat) (Option.some Jvm.ClassFile.FieldType.int)) ∈ lw_all := lw_g (lw_at lw_m10 228 rfl) rfl
theorem q2567 : (Jvm.Cond.instanceMethod ({ cls := "LoopSignals$Line", name := "at", desc := "(I)I" } : Jvm.MethodName)) ∈ lw_all := lw_g (lw_at lw_m11 19 rfl) rfl
theorem q2568 : (Jvm.Cond.selects "LoopSignals$Line" ({ cls := "LoopSignals$Line", name := "at", desc := "(I)I" } : Jvm.MethodName) ({ cls := "LoopSignals$Line", name := "at", desc := "(I)I" } : Jvm.MethodName)) ∈ lw_all := lw_g (lw_at lw_m11 20 rfl) rfl
theorem q2569 : (Jvm.Cond.code ({ cls := "LoopSignals$Line", name := "at", desc := "(I)I" } : Jvm.MethodName) prog_7_method_4_code (2 : Nat) (Option.some Jvm.ClassFile.FieldType.int)) ∈ lw_all := lw_g (lw_at lw_m11 21 rfl) rfl
theorem q2570 : (Jvm.Cond.methodLinkNest "LoopSignals$Line" (29 : Nat) ({ cls := "LoopSignals", name := "in", desc := "(JJJ)Z" } : Jvm.MethodName) "LoopSignals") ∈ lw_tbl := lw_at lw_m11 22 rfl
theorem q2650 : (Jvm.Cond.instanceMethod ({ cls := "LoopSignals$Line", name := "comes", desc := "(I)V" } : Jvm.MethodName)) ∈ lw_all := lw_g (lw_at lw_m11 102 rfl) rfl
theorem q2651 : (Jvm.Cond.selects "LoopSignals$Line" ({ cls := "LoopSignals$Line", name := "comes", desc := "(I)V" } : Jvm.MethodName) ({ cls := "LoopSignals$Line", name := "comes", desc := "(I)V" } : Jvm.MethodName)) ∈ lw_all := lw_g (lw_at lw_m11 103 rfl) rfl
theorem q2652 : (Jvm.Cond.code ({ cls := "LoopSignals$Line", name := "comes", desc := "(I)V" } : Jvm.MethodName) prog_7_method_3_code (2 : Nat) (Option.none : Option Jvm.ClassFile.FieldType)) ∈ lw_all := lw_g (lw_at lw_m11 104 rfl) rfl
theorem q2680 : (Jvm.Cond.instanceMethod ({ cls := "LoopSignals$Line", name := "copy", desc := "()LLoopSignals$Line;" } : Jvm.MethodName)) ∈ lw_all := lw_g (lw_at lw_m11 132 rfl) rfl
theorem q2681 : (Jvm.Cond.selects "LoopSignals$Line" ({ cls := "LoopSignals$Line", name := "copy", desc := "()LLoopSignals$Line;" } : Jvm.MethodName) ({ cls := "LoopSignals$Line", name := "copy", desc := "()LLoopSignals$Line;" } : Jvm.MethodName)) ∈ lw_all := lw_g (lw_at lw_m11 133 rfl) rfl
theorem q2682 : (Jvm.Cond.code ({ cls := "LoopSignals$Line", name := "copy", desc := "()LLoopSignals$Line;" } : Jvm.MethodName) prog_7_method_2_code (2 : Nat) (Option.some (Jvm.ClassFile.FieldType.object "LoopSignals$Line"))) ∈ lw_all := lw_g (lw_at lw_m11 134 rfl) rfl
theorem q2683 : (Jvm.Cond.classLink "LoopSignals$Line" (10 : Nat) "LoopSignals$Line") ∈ lw_all := lw_g (lw_at lw_m11 135 rfl) rfl
theorem q2684 : (Jvm.Cond.methodLink "LoopSignals$Line" (15 : Nat) ({ cls := "LoopSignals$Line", name := "<init>", desc := "()V" } : Jvm.MethodName)) ∈ lw_all := lw_g (lw_at lw_m11 136 rfl) rfl
theorem q2685 : (Jvm.Cond.methodLink "LoopSignals$Line" (16 : Nat) ({ cls := "java/lang/System", name := "arraycopy", desc := "(Ljava/lang/Object;ILjava/lang/Object;II)V" } : Jvm.MethodName)) ∈ lw_all := lw_g (lw_at lw_m11 137 rfl) rfl
theorem q4102 : (Jvm.Cond.castable "LoopSignals$Line" "java/lang/Object") ∈ lw_tbl := lw_at lw_m17 114 rfl
theorem in_X4 : ∀ w ∈ wsX40, w ∈ lw_all := lw_in wsX40 [1216, 1218, 1220] (by decide +kernel) (by decide +kernel)

/-! LoopSignals$Couple -/
set_option maxRecDepth 100000
def RX5 : String := "LoopSignals$Couple"
def TX5 : u_T := fun k => match k with
  | 0 => ("LoopSignals$Couple", "lesser", "I", true)
  | _ => ("LoopSignals$Couple", "greater", "I", true)
def tyX5 : Nat → FieldType := fun k => match k with
  | 0 => .int
  | _ => .int
abbrev wsX50 : List Cond := u_ws RX5 TX5 2
theorem nmX5 : ∀ a, a < 2 → ∀ b, b < 2 → a ≠ b → (TX5 a).2.1 ≠ (TX5 b).2.1 := by decide +kernel
theorem tyX5_ok : ∀ k, k < 2 → parseFieldDescriptor (TX5 k).2.2.1 = some (tyX5 k) := by decide +kernel
abbrev cX5_hashCode : ByteArray := prog_4_method_3_code
def yX5_hashCode : MethodName := ⟨RX5, "hashCode", "()I"⟩
def dkwX5_hashCode_0 : List UInt8 := [16, 8, 42, 180, 0, 15, 104, 42, 180, 0, 24, 96, 172]
abbrev dktX5_hashCode_0 : List UInt8 := dkwX5_hashCode_0 ++ []
theorem dksX5_hashCode_0 : cX5_hashCode.data.toList.drop 0 = dktX5_hashCode_0 := by decide +kernel
theorem dX5_hashCode_0 : decode cX5_hashCode 0 = .ok (.bipush 8, 2) := dk_16 8 (dk_at dksX5_hashCode_0 0 rfl rfl)
theorem dX5_hashCode_2 : decode cX5_hashCode 2 = .ok (.aload_n 0, 1) := dk_42 (dk_at dksX5_hashCode_0 2 rfl rfl)
theorem dX5_hashCode_3 : decode cX5_hashCode 3 = .ok (.getfield 15, 3) := dk_180 0 15 (dk_at dksX5_hashCode_0 3 rfl rfl)
theorem dX5_hashCode_6 : decode cX5_hashCode 6 = .ok (.imul, 1) := dk_104 (dk_at dksX5_hashCode_0 6 rfl rfl)
theorem dX5_hashCode_7 : decode cX5_hashCode 7 = .ok (.aload_n 0, 1) := dk_42 (dk_at dksX5_hashCode_0 7 rfl rfl)
theorem dX5_hashCode_8 : decode cX5_hashCode 8 = .ok (.getfield 24, 3) := dk_180 0 24 (dk_at dksX5_hashCode_0 8 rfl rfl)
theorem dX5_hashCode_11 : decode cX5_hashCode 11 = .ok (.iadd, 1) := dk_96 (dk_at dksX5_hashCode_0 11 rfl rfl)
theorem dX5_hashCode_12 : decode cX5_hashCode 12 = .ok (.ireturn, 1) := dk_172 (dk_at dksX5_hashCode_0 12 rfl rfl)
abbrev cX5_equals : ByteArray := prog_4_method_2_code
def yX5_equals : MethodName := ⟨RX5, "equals", "(Ljava/lang/Object;)Z"⟩
def dkwX5_equals_1 : List UInt8 := [180, 0, 24, 42, 180, 0, 24, 160, 0, 7, 4, 167, 0, 4, 3, 172]
abbrev dktX5_equals_1 : List UInt8 := dkwX5_equals_1 ++ []
def dkwX5_equals_0 : List UInt8 := [43, 193, 0, 16, 153, 0, 34, 43, 192, 0, 16, 77, 44, 180, 0, 15, 42, 180, 0, 15, 160, 0, 18, 44]
abbrev dktX5_equals_0 : List UInt8 := dkwX5_equals_0 ++ dktX5_equals_1
theorem dksX5_equals_0 : cX5_equals.data.toList.drop 0 = dktX5_equals_0 := by decide +kernel
theorem dksX5_equals_1 : cX5_equals.data.toList.drop 24 = dktX5_equals_1 := dk_seg dksX5_equals_0 24 rfl rfl
theorem dX5_equals_0 : decode cX5_equals 0 = .ok (.aload_n 1, 1) := dk_43 (dk_at dksX5_equals_0 0 rfl rfl)
theorem dX5_equals_1 : decode cX5_equals 1 = .ok (.instanceof 16, 3) := dk_193 0 16 (dk_at dksX5_equals_0 1 rfl rfl)
theorem dX5_equals_4 : decode cX5_equals 4 = .ok (.ifCond .eq 34, 3) := dk_153 0 34 (dk_at dksX5_equals_0 4 rfl rfl)
theorem dX5_equals_7 : decode cX5_equals 7 = .ok (.aload_n 1, 1) := dk_43 (dk_at dksX5_equals_0 7 rfl rfl)
theorem dX5_equals_8 : decode cX5_equals 8 = .ok (.checkcast 16, 3) := dk_192 0 16 (dk_at dksX5_equals_0 8 rfl rfl)
theorem dX5_equals_11 : decode cX5_equals 11 = .ok (.astore_n 2, 1) := dk_77 (dk_at dksX5_equals_0 11 rfl rfl)
theorem dX5_equals_12 : decode cX5_equals 12 = .ok (.aload_n 2, 1) := dk_44 (dk_at dksX5_equals_0 12 rfl rfl)
theorem dX5_equals_13 : decode cX5_equals 13 = .ok (.getfield 15, 3) := dk_180 0 15 (dk_at dksX5_equals_0 13 rfl rfl)
theorem dX5_equals_16 : decode cX5_equals 16 = .ok (.aload_n 0, 1) := dk_42 (dk_at dksX5_equals_0 16 rfl rfl)
theorem dX5_equals_17 : decode cX5_equals 17 = .ok (.getfield 15, 3) := dk_180 0 15 (dk_at dksX5_equals_0 17 rfl rfl)
theorem dX5_equals_20 : decode cX5_equals 20 = .ok (.if_icmp .ne 18, 3) := dk_160 0 18 (dk_at dksX5_equals_0 20 rfl rfl)
theorem dX5_equals_23 : decode cX5_equals 23 = .ok (.aload_n 2, 1) := dk_44 (dk_at dksX5_equals_0 23 rfl rfl)
theorem dX5_equals_24 : decode cX5_equals 24 = .ok (.getfield 24, 3) := dk_180 0 24 (dk_at dksX5_equals_1 0 rfl rfl)
theorem dX5_equals_27 : decode cX5_equals 27 = .ok (.aload_n 0, 1) := dk_42 (dk_at dksX5_equals_1 3 rfl rfl)
theorem dX5_equals_28 : decode cX5_equals 28 = .ok (.getfield 24, 3) := dk_180 0 24 (dk_at dksX5_equals_1 4 rfl rfl)
theorem dX5_equals_31 : decode cX5_equals 31 = .ok (.if_icmp .ne 7, 3) := dk_160 0 7 (dk_at dksX5_equals_1 7 rfl rfl)
theorem dX5_equals_34 : decode cX5_equals 34 = .ok (.iconst 1, 1) := dk_4 (dk_at dksX5_equals_1 10 rfl rfl)
theorem dX5_equals_35 : decode cX5_equals 35 = .ok (.goto 4, 3) := dk_167 0 4 (dk_at dksX5_equals_1 11 rfl rfl)
theorem dX5_equals_38 : decode cX5_equals 38 = .ok (.iconst 0, 1) := dk_3 (dk_at dksX5_equals_1 14 rfl rfl)
theorem dX5_equals_39 : decode cX5_equals 39 = .ok (.ireturn, 1) := dk_172 (dk_at dksX5_equals_1 15 rfl rfl)
abbrev cX5_init : ByteArray := prog_4_method_1_code
def yX5_init : MethodName := ⟨RX5, "<init>", "(II)V"⟩
def dkwX5_init_0 : List UInt8 := [42, 183, 0, 3, 42, 27, 28, 184, 0, 9, 181, 0, 15, 42, 27, 28, 184, 0, 21, 181, 0, 24, 177]
abbrev dktX5_init_0 : List UInt8 := dkwX5_init_0 ++ []
theorem dksX5_init_0 : cX5_init.data.toList.drop 0 = dktX5_init_0 := by decide +kernel
theorem dX5_init_0 : decode cX5_init 0 = .ok (.aload_n 0, 1) := dk_42 (dk_at dksX5_init_0 0 rfl rfl)
theorem dX5_init_1 : decode cX5_init 1 = .ok (.invokespecial 3, 3) := dk_183 0 3 (dk_at dksX5_init_0 1 rfl rfl)
theorem dX5_init_4 : decode cX5_init 4 = .ok (.aload_n 0, 1) := dk_42 (dk_at dksX5_init_0 4 rfl rfl)
theorem dX5_init_5 : decode cX5_init 5 = .ok (.iload_n 1, 1) := dk_27 (dk_at dksX5_init_0 5 rfl rfl)
theorem dX5_init_6 : decode cX5_init 6 = .ok (.iload_n 2, 1) := dk_28 (dk_at dksX5_init_0 6 rfl rfl)
theorem dX5_init_7 : decode cX5_init 7 = .ok (.invokestatic 9, 3) := dk_184 0 9 (dk_at dksX5_init_0 7 rfl rfl)
theorem dX5_init_10 : decode cX5_init 10 = .ok (.putfield 15, 3) := dk_181 0 15 (dk_at dksX5_init_0 10 rfl rfl)
theorem dX5_init_13 : decode cX5_init 13 = .ok (.aload_n 0, 1) := dk_42 (dk_at dksX5_init_0 13 rfl rfl)
theorem dX5_init_14 : decode cX5_init 14 = .ok (.iload_n 1, 1) := dk_27 (dk_at dksX5_init_0 14 rfl rfl)
theorem dX5_init_15 : decode cX5_init 15 = .ok (.iload_n 2, 1) := dk_28 (dk_at dksX5_init_0 15 rfl rfl)
theorem dX5_init_16 : decode cX5_init 16 = .ok (.invokestatic 21, 3) := dk_184 0 21 (dk_at dksX5_init_0 16 rfl rfl)
theorem dX5_init_19 : decode cX5_init 19 = .ok (.putfield 24, 3) := dk_181 0 24 (dk_at dksX5_init_0 19 rfl rfl)
theorem dX5_init_22 : decode cX5_init 22 = .ok (.return_, 1) := dk_177 (dk_at dksX5_init_0 22 rfl rfl)
theorem q191 : (Jvm.Cond.initialized "LoopSignals$Couple") ∈ lw_all := lw_g (lw_at lw_m1 43 rfl) rfl
theorem q1010 : (Jvm.Cond.selects "LoopSignals$Couple" ({ cls := "java/lang/Object", name := "toString", desc := "()Ljava/lang/String;" } : Jvm.MethodName) ({ cls := "java/lang/Object", name := "toString", desc := "()Ljava/lang/String;" } : Jvm.MethodName)) ∈ lw_all := lw_g (lw_at lw_m4 142 rfl) rfl
theorem q1029 : (Jvm.Cond.selects "LoopSignals$Couple" ({ cls := "java/lang/Object", name := "getClass", desc := "()Ljava/lang/Class;" } : Jvm.MethodName) ({ cls := "java/lang/Object", name := "getClass", desc := "()Ljava/lang/Class;" } : Jvm.MethodName)) ∈ lw_all := lw_g (lw_at lw_m4 161 rfl) rfl
theorem q1307 : (Jvm.Cond.selects "LoopSignals$Couple" ({ cls := "java/lang/Object", name := "hashCode", desc := "()I" } : Jvm.MethodName) ({ cls := "LoopSignals$Couple", name := "hashCode", desc := "()I" } : Jvm.MethodName)) ∈ lw_all := lw_g (lw_at lw_m5 199 rfl) rfl
theorem q1308 : (Jvm.Cond.instanceMethod ({ cls := "LoopSignals$Couple", name := "hashCode", desc := "()I" } : Jvm.MethodName)) ∈ lw_all := lw_g (lw_at lw_m5 200 rfl) rfl
theorem q1309 : (Jvm.Cond.code ({ cls := "LoopSignals$Couple", name := "hashCode", desc := "()I" } : Jvm.MethodName) prog_4_method_3_code (1 : Nat) (Option.some Jvm.ClassFile.FieldType.int)) ∈ lw_all := lw_g (lw_at lw_m5 201 rfl) rfl
theorem q1735 : (Jvm.Cond.selects "LoopSignals$Couple" ({ cls := "java/lang/Object", name := "equals", desc := "(Ljava/lang/Object;)Z" } : Jvm.MethodName) ({ cls := "LoopSignals$Couple", name := "equals", desc := "(Ljava/lang/Object;)Z" } : Jvm.MethodName)) ∈ lw_all := lw_g (lw_at lw_m7 147 rfl) rfl
theorem q1736 : (Jvm.Cond.instanceMethod ({ cls := "LoopSignals$Couple", name := "equals", desc := "(Ljava/lang/Object;)Z" } : Jvm.MethodName)) ∈ lw_all := lw_g (lw_at lw_m7 148 rfl) rfl
theorem q1737 : (Jvm.Cond.code ({ cls := "LoopSignals$Couple", name := "equals", desc := "(Ljava/lang/Object;)Z" } : Jvm.MethodName) prog_4_method_2_code (3 : Nat) (Option.some Jvm.ClassFile.FieldType.boolean)) ∈ lw_all := lw_g (lw_at lw_m7 149 rfl) rfl
theorem q1738 : (Jvm.Cond.classLink "LoopSignals$Couple" (16 : Nat) "LoopSignals$Couple") ∈ lw_all := lw_g (lw_at lw_m7 150 rfl) rfl
theorem q1891 : (Jvm.Cond.instantiable "LoopSignals$Couple" (2 : Nat)) ∈ lw_all := lw_g (lw_at lw_m8 63 rfl) rfl
theorem q1893 : (Jvm.Cond.instanceMethod ({ cls := "LoopSignals$Couple", name := "<init>", desc := "(II)V" } : Jvm.MethodName)) ∈ lw_all := lw_g (lw_at lw_m8 65 rfl) rfl
theorem q1894 : (Jvm.Cond.code ({ cls := "LoopSignals$Couple", name := "<init>", desc := "(II)V" } : Jvm.MethodName) prog_4_method_1_code (3 : Nat) (Option.none : Option Jvm.ClassFile.FieldType)) ∈ lw_all := lw_g (lw_at lw_m8 66 rfl) rfl
theorem q1895 : (Jvm.Cond.methodLink "LoopSignals$Couple" (3 : Nat) ({ cls := "java/lang/Object", name := "<init>", desc := "()V" } : Jvm.MethodName)) ∈ lw_all := lw_g (lw_at lw_m8 67 rfl) rfl
theorem q1896 : (Jvm.Cond.methodLink "LoopSignals$Couple" (9 : Nat) ({ cls := "java/lang/Math", name := "min", desc := "(II)I" } : Jvm.MethodName)) ∈ lw_all := lw_g (lw_at lw_m8 68 rfl) rfl
theorem q1897 : (Jvm.Cond.methodLink "LoopSignals$Couple" (21 : Nat) ({ cls := "java/lang/Math", name := "max", desc := "(II)I" } : Jvm.MethodName)) ∈ lw_all := lw_g (lw_at lw_m8 69 rfl) rfl
theorem q1898 : (Jvm.Cond.fieldLink "LoopSignals$Couple" (15 : Nat) "LoopSignals$Couple" "lesser" "I") ∈ lw_all := lw_g (lw_at lw_m8 70 rfl) rfl
theorem q1900 : (Jvm.Cond.fieldLink "LoopSignals$Couple" (24 : Nat) "LoopSignals$Couple" "greater" "I") ∈ lw_all := lw_g (lw_at lw_m8 72 rfl) rfl
theorem q1902 : (Jvm.Cond.laysFinal "LoopSignals$Couple" "LoopSignals$Couple" "lesser" "I") ∈ lw_all := lw_g (lw_at lw_m8 74 rfl) rfl
theorem q1903 : (Jvm.Cond.soleField "LoopSignals$Couple" "lesser") ∈ lw_all := lw_g (lw_at lw_m8 75 rfl) rfl
theorem q1904 : (Jvm.Cond.laysFinal "LoopSignals$Couple" "LoopSignals$Couple" "greater" "I") ∈ lw_all := lw_g (lw_at lw_m8 76 rfl) rfl
theorem q1905 : (Jvm.Cond.soleField "LoopSignals$Couple" "greater") ∈ lw_all := lw_g (lw_at lw_m8 77 rfl) rfl
theorem q1906 : (Jvm.Cond.superclass "LoopSignals$Couple" "java/lang/Object") ∈ lw_all := lw_g (lw_at lw_m8 78 rfl) rfl
theorem q4107 : (Jvm.Cond.castable "LoopSignals$Couple" "java/lang/Object") ∈ lw_tbl := lw_at lw_m17 119 rfl
theorem in_X5 : ∀ w ∈ wsX50, w ∈ lw_all := lw_in wsX50 [1902, 1904] (by decide +kernel) (by decide +kernel)

/-! LoopSignals$Phase -/
set_option maxRecDepth 100000
def RX6 : String := "LoopSignals$Phase"
def TX6 : u_T := fun k => match k with
  | 0 => ("LoopSignals$Phase", "arms", "Ljava/util/BitSet;", true)
  | 1 => ("LoopSignals$Phase", "least", "I", false)
  | 2 => ("LoopSignals$Phase", "most", "I", false)
  | 3 => ("LoopSignals$Phase", "times", "I", false)
  | _ => ("LoopSignals$Phase", "isCalled", "Z", false)
def tyX6 : Nat → FieldType := fun k => match k with
  | 0 => .object "java/util/BitSet"
  | 1 => .int
  | 2 => .int
  | 3 => .int
  | _ => .boolean
abbrev wsX60 : List Cond := u_ws RX6 TX6 5
theorem nmX6 : ∀ a, a < 5 → ∀ b, b < 5 → a ≠ b → (TX6 a).2.1 ≠ (TX6 b).2.1 := by decide +kernel
theorem tyX6_ok : ∀ k, k < 5 → parseFieldDescriptor (TX6 k).2.2.1 = some (tyX6 k) := by decide +kernel
abbrev cX6_init : ByteArray := prog_10_method_1_code
def yX6_init : MethodName := ⟨RX6, "<init>", "()V"⟩
def dkwX6_init_0 : List UInt8 := [42, 183, 0, 3, 42, 187, 0, 9, 89, 16, 8, 183, 0, 11, 181, 0, 14, 177]
abbrev dktX6_init_0 : List UInt8 := dkwX6_init_0 ++ []
theorem dksX6_init_0 : cX6_init.data.toList.drop 0 = dktX6_init_0 := by decide +kernel
theorem dX6_init_0 : decode cX6_init 0 = .ok (.aload_n 0, 1) := dk_42 (dk_at dksX6_init_0 0 rfl rfl)
theorem dX6_init_1 : decode cX6_init 1 = .ok (.invokespecial 3, 3) := dk_183 0 3 (dk_at dksX6_init_0 1 rfl rfl)
theorem dX6_init_4 : decode cX6_init 4 = .ok (.aload_n 0, 1) := dk_42 (dk_at dksX6_init_0 4 rfl rfl)
theorem dX6_init_5 : decode cX6_init 5 = .ok (.new 9, 3) := dk_187 0 9 (dk_at dksX6_init_0 5 rfl rfl)
theorem dX6_init_8 : decode cX6_init 8 = .ok (.dup, 1) := dk_89 (dk_at dksX6_init_0 8 rfl rfl)
theorem dX6_init_9 : decode cX6_init 9 = .ok (.bipush 8, 2) := dk_16 8 (dk_at dksX6_init_0 9 rfl rfl)
theorem dX6_init_11 : decode cX6_init 11 = .ok (.invokespecial 11, 3) := dk_183 0 11 (dk_at dksX6_init_0 11 rfl rfl)
theorem dX6_init_14 : decode cX6_init 14 = .ok (.putfield 14, 3) := dk_181 0 14 (dk_at dksX6_init_0 14 rfl rfl)
theorem dX6_init_17 : decode cX6_init 17 = .ok (.return_, 1) := dk_177 (dk_at dksX6_init_0 17 rfl rfl)
abbrev cX6_has : ByteArray := prog_10_method_3_code
def yX6_has : MethodName := ⟨RX6, "has", "(I)Z"⟩
def dkwX6_has_0 : List UInt8 := [42, 180, 0, 14, 27, 182, 0, 39, 172]
abbrev dktX6_has_0 : List UInt8 := dkwX6_has_0 ++ []
theorem dksX6_has_0 : cX6_has.data.toList.drop 0 = dktX6_has_0 := by decide +kernel
theorem dX6_has_0 : decode cX6_has 0 = .ok (.aload_n 0, 1) := dk_42 (dk_at dksX6_has_0 0 rfl rfl)
theorem dX6_has_1 : decode cX6_has 1 = .ok (.getfield 14, 3) := dk_180 0 14 (dk_at dksX6_has_0 1 rfl rfl)
theorem dX6_has_4 : decode cX6_has 4 = .ok (.iload_n 1, 1) := dk_27 (dk_at dksX6_has_0 4 rfl rfl)
theorem dX6_has_5 : decode cX6_has 5 = .ok (.invokevirtual 39, 3) := dk_182 0 39 (dk_at dksX6_has_0 5 rfl rfl)
theorem dX6_has_8 : decode cX6_has 8 = .ok (.ireturn, 1) := dk_172 (dk_at dksX6_has_0 8 rfl rfl)
abbrev cX6_copy : ByteArray := prog_10_method_2_code
def yX6_copy : MethodName := ⟨RX6, "copy", "()LLoopSignals$Phase;"⟩
def dkwX6_copy_2 : List UInt8 := [181, 0, 35, 43, 176]
abbrev dktX6_copy_2 : List UInt8 := dkwX6_copy_2 ++ []
def dkwX6_copy_1 : List UInt8 := [181, 0, 25, 43, 42, 180, 0, 29, 181, 0, 29, 43, 42, 180, 0, 32, 181, 0, 32, 43, 42, 180, 0, 35]
abbrev dktX6_copy_1 : List UInt8 := dkwX6_copy_1 ++ dktX6_copy_2
def dkwX6_copy_0 : List UInt8 := [187, 0, 15, 89, 183, 0, 20, 76, 43, 180, 0, 14, 42, 180, 0, 14, 182, 0, 21, 43, 42, 180, 0, 25]
abbrev dktX6_copy_0 : List UInt8 := dkwX6_copy_0 ++ dktX6_copy_1
theorem dksX6_copy_0 : cX6_copy.data.toList.drop 0 = dktX6_copy_0 := by decide +kernel
theorem dksX6_copy_1 : cX6_copy.data.toList.drop 24 = dktX6_copy_1 := dk_seg dksX6_copy_0 24 rfl rfl
theorem dksX6_copy_2 : cX6_copy.data.toList.drop 48 = dktX6_copy_2 := dk_seg dksX6_copy_1 24 rfl rfl
theorem dX6_copy_0 : decode cX6_copy 0 = .ok (.new 15, 3) := dk_187 0 15 (dk_at dksX6_copy_0 0 rfl rfl)
theorem dX6_copy_3 : decode cX6_copy 3 = .ok (.dup, 1) := dk_89 (dk_at dksX6_copy_0 3 rfl rfl)
theorem dX6_copy_4 : decode cX6_copy 4 = .ok (.invokespecial 20, 3) := dk_183 0 20 (dk_at dksX6_copy_0 4 rfl rfl)
theorem dX6_copy_7 : decode cX6_copy 7 = .ok (.astore_n 1, 1) := dk_76 (dk_at dksX6_copy_0 7 rfl rfl)
theorem dX6_copy_8 : decode cX6_copy 8 = .ok (.aload_n 1, 1) := dk_43 (dk_at dksX6_copy_0 8 rfl rfl)
theorem dX6_copy_9 : decode cX6_copy 9 = .ok (.getfield 14, 3) := dk_180 0 14 (dk_at dksX6_copy_0 9 rfl rfl)
theorem dX6_copy_12 : decode cX6_copy 12 = .ok (.aload_n 0, 1) := dk_42 (dk_at dksX6_copy_0 12 rfl rfl)
theorem dX6_copy_13 : decode cX6_copy 13 = .ok (.getfield 14, 3) := dk_180 0 14 (dk_at dksX6_copy_0 13 rfl rfl)
theorem dX6_copy_16 : decode cX6_copy 16 = .ok (.invokevirtual 21, 3) := dk_182 0 21 (dk_at dksX6_copy_0 16 rfl rfl)
theorem dX6_copy_19 : decode cX6_copy 19 = .ok (.aload_n 1, 1) := dk_43 (dk_at dksX6_copy_0 19 rfl rfl)
theorem dX6_copy_20 : decode cX6_copy 20 = .ok (.aload_n 0, 1) := dk_42 (dk_at dksX6_copy_0 20 rfl rfl)
theorem dX6_copy_21 : decode cX6_copy 21 = .ok (.getfield 25, 3) := dk_180 0 25 (dk_at dksX6_copy_0 21 rfl rfl)
theorem dX6_copy_24 : decode cX6_copy 24 = .ok (.putfield 25, 3) := dk_181 0 25 (dk_at dksX6_copy_1 0 rfl rfl)
theorem dX6_copy_27 : decode cX6_copy 27 = .ok (.aload_n 1, 1) := dk_43 (dk_at dksX6_copy_1 3 rfl rfl)
theorem dX6_copy_28 : decode cX6_copy 28 = .ok (.aload_n 0, 1) := dk_42 (dk_at dksX6_copy_1 4 rfl rfl)
theorem dX6_copy_29 : decode cX6_copy 29 = .ok (.getfield 29, 3) := dk_180 0 29 (dk_at dksX6_copy_1 5 rfl rfl)
theorem dX6_copy_32 : decode cX6_copy 32 = .ok (.putfield 29, 3) := dk_181 0 29 (dk_at dksX6_copy_1 8 rfl rfl)
theorem dX6_copy_35 : decode cX6_copy 35 = .ok (.aload_n 1, 1) := dk_43 (dk_at dksX6_copy_1 11 rfl rfl)
theorem dX6_copy_36 : decode cX6_copy 36 = .ok (.aload_n 0, 1) := dk_42 (dk_at dksX6_copy_1 12 rfl rfl)
theorem dX6_copy_37 : decode cX6_copy 37 = .ok (.getfield 32, 3) := dk_180 0 32 (dk_at dksX6_copy_1 13 rfl rfl)
theorem dX6_copy_40 : decode cX6_copy 40 = .ok (.putfield 32, 3) := dk_181 0 32 (dk_at dksX6_copy_1 16 rfl rfl)
theorem dX6_copy_43 : decode cX6_copy 43 = .ok (.aload_n 1, 1) := dk_43 (dk_at dksX6_copy_1 19 rfl rfl)
theorem dX6_copy_44 : decode cX6_copy 44 = .ok (.aload_n 0, 1) := dk_42 (dk_at dksX6_copy_1 20 rfl rfl)
theorem dX6_copy_45 : decode cX6_copy 45 = .ok (.getfield 35, 3) := dk_180 0 35 (dk_at dksX6_copy_1 21 rfl rfl)
theorem dX6_copy_48 : decode cX6_copy 48 = .ok (.putfield 35, 3) := dk_181 0 35 (dk_at dksX6_copy_2 0 rfl rfl)
theorem dX6_copy_51 : decode cX6_copy 51 = .ok (.aload_n 1, 1) := dk_43 (dk_at dksX6_copy_2 3 rfl rfl)
theorem dX6_copy_52 : decode cX6_copy 52 = .ok (.areturn, 1) := dk_176 (dk_at dksX6_copy_2 4 rfl rfl)
theorem q192 : (Jvm.Cond.initialized "LoopSignals$Phase") ∈ lw_all := lw_g (lw_at lw_m1 44 rfl) rfl
theorem q1014 : (Jvm.Cond.selects "LoopSignals$Phase" ({ cls := "java/lang/Object", name := "toString", desc := "()Ljava/lang/String;" } : Jvm.MethodName) ({ cls := "java/lang/Object", name := "toString", desc := "()Ljava/lang/String;" } : Jvm.MethodName)) ∈ lw_all := lw_g (lw_at lw_m4 146 rfl) rfl
theorem q1033 : (Jvm.Cond.selects "LoopSignals$Phase" ({ cls := "java/lang/Object", name := "getClass", desc := "()Ljava/lang/Class;" } : Jvm.MethodName) ({ cls := "java/lang/Object", name := "getClass", desc := "()Ljava/lang/Class;" } : Jvm.MethodName)) ∈ lw_all := lw_g (lw_at lw_m4 165 rfl) rfl
theorem q1313 : (Jvm.Cond.selects "LoopSignals$Phase" ({ cls := "java/lang/Object", name := "hashCode", desc := "()I" } : Jvm.MethodName) ({ cls := "java/lang/Object", name := "hashCode", desc := "()I" } : Jvm.MethodName)) ∈ lw_all := lw_g (lw_at lw_m5 205 rfl) rfl
theorem q1742 : (Jvm.Cond.selects "LoopSignals$Phase" ({ cls := "java/lang/Object", name := "equals", desc := "(Ljava/lang/Object;)Z" } : Jvm.MethodName) ({ cls := "java/lang/Object", name := "equals", desc := "(Ljava/lang/Object;)Z" } : Jvm.MethodName)) ∈ lw_all := lw_g (lw_at lw_m7 154 rfl) rfl
theorem q1925 : (Jvm.Cond.instantiable "LoopSignals$Phase" (5 : Nat)) ∈ lw_all := lw_g (lw_at lw_m8 97 rfl) rfl
theorem q1927 : (Jvm.Cond.instanceMethod ({ cls := "LoopSignals$Phase", name := "<init>", desc := "()V" } : Jvm.MethodName)) ∈ lw_all := lw_g (lw_at lw_m8 99 rfl) rfl
theorem q1928 : (Jvm.Cond.code ({ cls := "LoopSignals$Phase", name := "<init>", desc := "()V" } : Jvm.MethodName) prog_10_method_1_code (1 : Nat) (Option.none : Option Jvm.ClassFile.FieldType)) ∈ lw_all := lw_g (lw_at lw_m8 100 rfl) rfl
theorem q1929 : (Jvm.Cond.methodLink "LoopSignals$Phase" (3 : Nat) ({ cls := "java/lang/Object", name := "<init>", desc := "()V" } : Jvm.MethodName)) ∈ lw_all := lw_g (lw_at lw_m8 101 rfl) rfl
theorem q1930 : (Jvm.Cond.classLink "LoopSignals$Phase" (9 : Nat) "java/util/BitSet") ∈ lw_all := lw_g (lw_at lw_m8 102 rfl) rfl
theorem q1932 : (Jvm.Cond.methodLink "LoopSignals$Phase" (11 : Nat) ({ cls := "java/util/BitSet", name := "<init>", desc := "(I)V" } : Jvm.MethodName)) ∈ lw_all := lw_g (lw_at lw_m8 104 rfl) rfl
theorem q1954 : (Jvm.Cond.fieldLink "LoopSignals$Phase" (14 : Nat) "LoopSignals$Phase" "arms" "Ljava/util/BitSet;") ∈ lw_all := lw_g (lw_at lw_m8 126 rfl) rfl
theorem q1957 : (Jvm.Cond.fieldLink "LoopSignals$Phase" (25 : Nat) "LoopSignals$Phase" "least" "I") ∈ lw_all := lw_g (lw_at lw_m8 129 rfl) rfl
theorem q1961 : (Jvm.Cond.fieldLink "LoopSignals$Phase" (29 : Nat) "LoopSignals$Phase" "most" "I") ∈ lw_all := lw_g (lw_at lw_m8 133 rfl) rfl
theorem q1965 : (Jvm.Cond.fieldLink "LoopSignals$Phase" (32 : Nat) "LoopSignals$Phase" "times" "I") ∈ lw_all := lw_g (lw_at lw_m8 137 rfl) rfl
theorem q1968 : (Jvm.Cond.fieldLink "LoopSignals$Phase" (35 : Nat) "LoopSignals$Phase" "isCalled" "Z") ∈ lw_all := lw_g (lw_at lw_m8 140 rfl) rfl
theorem q1971 : (Jvm.Cond.laysFinal "LoopSignals$Phase" "LoopSignals$Phase" "arms" "Ljava/util/BitSet;") ∈ lw_all := lw_g (lw_at lw_m8 143 rfl) rfl
theorem q1972 : (Jvm.Cond.soleField "LoopSignals$Phase" "arms") ∈ lw_all := lw_g (lw_at lw_m8 144 rfl) rfl
theorem q1973 : (Jvm.Cond.lays "LoopSignals$Phase" "LoopSignals$Phase" "least" "I") ∈ lw_all := lw_g (lw_at lw_m8 145 rfl) rfl
theorem q1974 : (Jvm.Cond.soleField "LoopSignals$Phase" "least") ∈ lw_all := lw_g (lw_at lw_m8 146 rfl) rfl
theorem q1975 : (Jvm.Cond.lays "LoopSignals$Phase" "LoopSignals$Phase" "most" "I") ∈ lw_all := lw_g (lw_at lw_m8 147 rfl) rfl
theorem q1976 : (Jvm.Cond.soleField "LoopSignals$Phase" "most") ∈ lw_all := lw_g (lw_at lw_m8 148 rfl) rfl
theorem q1977 : (Jvm.Cond.lays "LoopSignals$Phase" "LoopSignals$Phase" "times" "I") ∈ lw_all := lw_g (lw_at lw_m8 149 rfl) rfl
theorem q1978 : (Jvm.Cond.soleField "LoopSignals$Phase" "times") ∈ lw_all := lw_g (lw_at lw_m8 150 rfl) rfl
theorem q1979 : (Jvm.Cond.lays "LoopSignals$Phase" "LoopSignals$Phase" "isCalled" "Z") ∈ lw_all := lw_g (lw_at lw_m8 151 rfl) rfl
theorem q1980 : (Jvm.Cond.soleField "LoopSignals$Phase" "isCalled") ∈ lw_all := lw_g (lw_at lw_m8 152 rfl) rfl
theorem q1981 : (Jvm.Cond.superclass "LoopSignals$Phase" "java/lang/Object") ∈ lw_all := lw_g (lw_at lw_m8 153 rfl) rfl
theorem q2310 : (Jvm.Cond.instanceMethod ({ cls := "LoopSignals$Phase", name := "has", desc := "(I)Z" } : Jvm.MethodName)) ∈ lw_all := lw_g (lw_at lw_m10 2 rfl) rfl
theorem q2311 : (Jvm.Cond.selects "LoopSignals$Phase" ({ cls := "LoopSignals$Phase", name := "has", desc := "(I)Z" } : Jvm.MethodName) ({ cls := "LoopSignals$Phase", name := "has", desc := "(I)Z" } : Jvm.MethodName)) ∈ lw_all := lw_g (lw_at lw_m10 3 rfl) rfl
theorem q2312 : (Jvm.Cond.code ({ cls := "LoopSignals$Phase", name := "has", desc := "(I)Z" } : Jvm.MethodName) prog_10_method_3_code (2 : Nat) (Option.some Jvm.ClassFile.FieldType.boolean)) ∈ lw_all := lw_g (lw_at lw_m10 4 rfl) rfl
theorem q2313 : (Jvm.Cond.methodLink "LoopSignals$Phase" (39 : Nat) ({ cls := "java/util/BitSet", name := "get", desc := "(I)Z" } : Jvm.MethodName)) ∈ lw_all := lw_g (lw_at lw_m10 5 rfl) rfl
theorem q2689 : (Jvm.Cond.instanceMethod ({ cls := "LoopSignals$Phase", name := "copy", desc := "()LLoopSignals$Phase;" } : Jvm.MethodName)) ∈ lw_all := lw_g (lw_at lw_m11 141 rfl) rfl
theorem q2690 : (Jvm.Cond.selects "LoopSignals$Phase" ({ cls := "LoopSignals$Phase", name := "copy", desc := "()LLoopSignals$Phase;" } : Jvm.MethodName) ({ cls := "LoopSignals$Phase", name := "copy", desc := "()LLoopSignals$Phase;" } : Jvm.MethodName)) ∈ lw_all := lw_g (lw_at lw_m11 142 rfl) rfl
theorem q2691 : (Jvm.Cond.code ({ cls := "LoopSignals$Phase", name := "copy", desc := "()LLoopSignals$Phase;" } : Jvm.MethodName) prog_10_method_2_code (2 : Nat) (Option.some (Jvm.ClassFile.FieldType.object "LoopSignals$Phase"))) ∈ lw_all := lw_g (lw_at lw_m11 143 rfl) rfl
theorem q2692 : (Jvm.Cond.classLink "LoopSignals$Phase" (15 : Nat) "LoopSignals$Phase") ∈ lw_all := lw_g (lw_at lw_m11 144 rfl) rfl
theorem q2693 : (Jvm.Cond.methodLink "LoopSignals$Phase" (20 : Nat) ({ cls := "LoopSignals$Phase", name := "<init>", desc := "()V" } : Jvm.MethodName)) ∈ lw_all := lw_g (lw_at lw_m11 145 rfl) rfl
theorem q2694 : (Jvm.Cond.methodLink "LoopSignals$Phase" (21 : Nat) ({ cls := "java/util/BitSet", name := "or", desc := "(Ljava/util/BitSet;)V" } : Jvm.MethodName)) ∈ lw_all := lw_g (lw_at lw_m11 146 rfl) rfl
theorem q4108 : (Jvm.Cond.castable "LoopSignals$Phase" "java/lang/Object") ∈ lw_tbl := lw_at lw_m17 120 rfl
theorem in_X6 : ∀ w ∈ wsX60, w ∈ lw_all := lw_in wsX60 [1971, 1973, 1975, 1977, 1979] (by decide +kernel) (by decide +kernel)

/-! LoopSignals$Reader -/
set_option maxRecDepth 100000
def RX8 : String := "LoopSignals$Reader"
abbrev cX8_init : ByteArray := prog_11_method_1_code
def yX8_init : MethodName := ⟨RX8, "<init>", "(LLoopSignals;)V"⟩
def dkwX8_init_1 : List UInt8 := [181, 0, 28, 42, 18, 31, 181, 0, 33, 42, 182, 0, 37, 177]
abbrev dktX8_init_1 : List UInt8 := dkwX8_init_1 ++ []
def dkwX8_init_0 : List UInt8 := [42, 43, 181, 0, 3, 42, 183, 0, 9, 42, 42, 180, 0, 3, 180, 0, 15, 181, 0, 19, 42, 178, 0, 22]
abbrev dktX8_init_0 : List UInt8 := dkwX8_init_0 ++ dktX8_init_1
theorem dksX8_init_0 : cX8_init.data.toList.drop 0 = dktX8_init_0 := by decide +kernel
theorem dksX8_init_1 : cX8_init.data.toList.drop 24 = dktX8_init_1 := dk_seg dksX8_init_0 24 rfl rfl
theorem dX8_init_0 : decode cX8_init 0 = .ok (.aload_n 0, 1) := dk_42 (dk_at dksX8_init_0 0 rfl rfl)
theorem dX8_init_1 : decode cX8_init 1 = .ok (.aload_n 1, 1) := dk_43 (dk_at dksX8_init_0 1 rfl rfl)
theorem dX8_init_2 : decode cX8_init 2 = .ok (.putfield 3, 3) := dk_181 0 3 (dk_at dksX8_init_0 2 rfl rfl)
theorem dX8_init_5 : decode cX8_init 5 = .ok (.aload_n 0, 1) := dk_42 (dk_at dksX8_init_0 5 rfl rfl)
theorem dX8_init_6 : decode cX8_init 6 = .ok (.invokespecial 9, 3) := dk_183 0 9 (dk_at dksX8_init_0 6 rfl rfl)
theorem dX8_init_9 : decode cX8_init 9 = .ok (.aload_n 0, 1) := dk_42 (dk_at dksX8_init_0 9 rfl rfl)
theorem dX8_init_10 : decode cX8_init 10 = .ok (.aload_n 0, 1) := dk_42 (dk_at dksX8_init_0 10 rfl rfl)
theorem dX8_init_11 : decode cX8_init 11 = .ok (.getfield 3, 3) := dk_180 0 3 (dk_at dksX8_init_0 11 rfl rfl)
theorem dX8_init_14 : decode cX8_init 14 = .ok (.getfield 15, 3) := dk_180 0 15 (dk_at dksX8_init_0 14 rfl rfl)
theorem dX8_init_17 : decode cX8_init 17 = .ok (.putfield 19, 3) := dk_181 0 19 (dk_at dksX8_init_0 17 rfl rfl)
theorem dX8_init_20 : decode cX8_init 20 = .ok (.aload_n 0, 1) := dk_42 (dk_at dksX8_init_0 20 rfl rfl)
theorem dX8_init_21 : decode cX8_init 21 = .ok (.getstatic 22, 3) := dk_178 0 22 (dk_at dksX8_init_0 21 rfl rfl)
theorem dX8_init_24 : decode cX8_init 24 = .ok (.putfield 28, 3) := dk_181 0 28 (dk_at dksX8_init_1 0 rfl rfl)
theorem dX8_init_27 : decode cX8_init 27 = .ok (.aload_n 0, 1) := dk_42 (dk_at dksX8_init_1 3 rfl rfl)
theorem dX8_init_28 : decode cX8_init 28 = .ok (.ldc 31, 2) := dk_18 31 (dk_at dksX8_init_1 4 rfl rfl)
theorem dX8_init_30 : decode cX8_init 30 = .ok (.putfield 33, 3) := dk_181 0 33 (dk_at dksX8_init_1 6 rfl rfl)
theorem dX8_init_33 : decode cX8_init 33 = .ok (.aload_n 0, 1) := dk_42 (dk_at dksX8_init_1 9 rfl rfl)
theorem dX8_init_34 : decode cX8_init 34 = .ok (.invokevirtual 37, 3) := dk_182 0 37 (dk_at dksX8_init_1 10 rfl rfl)
theorem dX8_init_37 : decode cX8_init 37 = .ok (.return_, 1) := dk_177 (dk_at dksX8_init_1 13 rfl rfl)
abbrev cX8_next : ByteArray := prog_11_method_3_code
def yX8_next : MethodName := ⟨RX8, "next", "()V"⟩
def dkwX8_next_12 : List UInt8 := [160, 0, 9, 178, 0, 93, 167, 0, 6, 178, 0, 96, 181, 0, 28, 177]
abbrev dktX8_next_12 : List UInt8 := dkwX8_next_12 ++ []
def dkwX8_next_11 : List UInt8 := [180, 0, 44, 4, 96, 181, 0, 44, 42, 27, 16, 59, 159, 0, 15, 27, 16, 40, 159, 0, 9, 27, 16, 41]
abbrev dktX8_next_11 : List UInt8 := dkwX8_next_11 ++ dktX8_next_12
def dkwX8_next_10 : List UInt8 := [180, 0, 44, 4, 96, 181, 0, 44, 167, 255, 197, 42, 178, 0, 90, 181, 0, 28, 167, 0, 44, 42, 89]
abbrev dktX8_next_10 : List UInt8 := dkwX8_next_10 ++ dktX8_next_11
def dkwX8_next_9 : List UInt8 := [180, 0, 80, 104, 42, 42, 180, 0, 44, 182, 0, 47, 96, 16, 48, 100, 184, 0, 84, 181, 0, 80, 42, 89]
abbrev dktX8_next_9 : List UInt8 := dkwX8_next_9 ++ dktX8_next_10
def dkwX8_next_8 : List UInt8 := [182, 0, 47, 133, 20, 0, 76, 20, 0, 78, 184, 0, 58, 153, 0, 44, 42, 18, 83, 16, 10, 42]
abbrev dktX8_next_8 : List UInt8 := dkwX8_next_8 ++ dktX8_next_9
def dkwX8_next_7 : List UInt8 := [27, 133, 20, 0, 76, 20, 0, 78, 184, 0, 58, 153, 0, 80, 42, 3, 181, 0, 80, 42, 42, 180, 0, 44]
abbrev dktX8_next_7 : List UInt8 := dkwX8_next_7 ++ dktX8_next_8
def dkwX8_next_6 : List UInt8 := [181, 0, 44, 167, 255, 211, 42, 44, 182, 0, 69, 181, 0, 33, 42, 178, 0, 73, 181, 0, 28, 167, 0, 135]
abbrev dktX8_next_6 : List UInt8 := dkwX8_next_6 ++ dktX8_next_7
def dkwX8_next_5 : List UInt8 := [153, 0, 30, 44, 42, 42, 180, 0, 44, 182, 0, 47, 146, 182, 0, 65, 87, 42, 89, 180, 0, 44, 4, 96]
abbrev dktX8_next_5 : List UInt8 := dkwX8_next_5 ++ dktX8_next_6
def dkwX8_next_4 : List UInt8 := [183, 0, 64, 77, 42, 42, 180, 0, 44, 182, 0, 47, 133, 20, 0, 54, 20, 0, 56, 184, 0, 58]
abbrev dktX8_next_4 : List UInt8 := dkwX8_next_4 ++ dktX8_next_5
def dkwX8_next_3 : List UInt8 := [181, 0, 28, 167, 0, 223, 27, 133, 20, 0, 54, 20, 0, 56, 184, 0, 58, 153, 0, 77, 187, 0, 62, 89]
abbrev dktX8_next_3 : List UInt8 := dkwX8_next_3 ++ dktX8_next_4
def dkwX8_next_2 : List UInt8 := [42, 18, 31, 181, 0, 33, 42, 42, 180, 0, 44, 182, 0, 47, 60, 27, 2, 160, 0, 13, 42, 178, 0, 22]
abbrev dktX8_next_2 : List UInt8 := dkwX8_next_2 ++ dktX8_next_3
def dkwX8_next_1 : List UInt8 := [160, 0, 16, 42, 89, 180, 0, 44, 4, 96, 181, 0, 44, 167, 255, 220, 42, 42, 180, 0, 44, 181, 0, 51]
abbrev dktX8_next_1 : List UInt8 := dkwX8_next_1 ++ dktX8_next_2
def dkwX8_next_0 : List UInt8 := [42, 42, 180, 0, 44, 182, 0, 47, 16, 32, 159, 0, 16, 42, 42, 180, 0, 44, 182, 0, 47, 16, 10]
abbrev dktX8_next_0 : List UInt8 := dkwX8_next_0 ++ dktX8_next_1
theorem dksX8_next_0 : cX8_next.data.toList.drop 0 = dktX8_next_0 := by decide +kernel
theorem dksX8_next_1 : cX8_next.data.toList.drop 23 = dktX8_next_1 := dk_seg dksX8_next_0 23 rfl rfl
theorem dksX8_next_2 : cX8_next.data.toList.drop 47 = dktX8_next_2 := dk_seg dksX8_next_1 24 rfl rfl
theorem dksX8_next_3 : cX8_next.data.toList.drop 71 = dktX8_next_3 := dk_seg dksX8_next_2 24 rfl rfl
theorem dksX8_next_4 : cX8_next.data.toList.drop 95 = dktX8_next_4 := dk_seg dksX8_next_3 24 rfl rfl
theorem dksX8_next_5 : cX8_next.data.toList.drop 117 = dktX8_next_5 := dk_seg dksX8_next_4 22 rfl rfl
theorem dksX8_next_6 : cX8_next.data.toList.drop 141 = dktX8_next_6 := dk_seg dksX8_next_5 24 rfl rfl
theorem dksX8_next_7 : cX8_next.data.toList.drop 165 = dktX8_next_7 := dk_seg dksX8_next_6 24 rfl rfl
theorem dksX8_next_8 : cX8_next.data.toList.drop 189 = dktX8_next_8 := dk_seg dksX8_next_7 24 rfl rfl
theorem dksX8_next_9 : cX8_next.data.toList.drop 211 = dktX8_next_9 := dk_seg dksX8_next_8 22 rfl rfl
theorem dksX8_next_10 : cX8_next.data.toList.drop 235 = dktX8_next_10 := dk_seg dksX8_next_9 24 rfl rfl
theorem dksX8_next_11 : cX8_next.data.toList.drop 258 = dktX8_next_11 := dk_seg dksX8_next_10 23 rfl rfl
theorem dksX8_next_12 : cX8_next.data.toList.drop 282 = dktX8_next_12 := dk_seg dksX8_next_11 24 rfl rfl
theorem dX8_next_0 : decode cX8_next 0 = .ok (.aload_n 0, 1) := dk_42 (dk_at dksX8_next_0 0 rfl rfl)
theorem dX8_next_1 : decode cX8_next 1 = .ok (.aload_n 0, 1) := dk_42 (dk_at dksX8_next_0 1 rfl rfl)
theorem dX8_next_2 : decode cX8_next 2 = .ok (.getfield 44, 3) := dk_180 0 44 (dk_at dksX8_next_0 2 rfl rfl)
theorem dX8_next_5 : decode cX8_next 5 = .ok (.invokevirtual 47, 3) := dk_182 0 47 (dk_at dksX8_next_0 5 rfl rfl)
theorem dX8_next_8 : decode cX8_next 8 = .ok (.bipush 32, 2) := dk_16 32 (dk_at dksX8_next_0 8 rfl rfl)
theorem dX8_next_10 : decode cX8_next 10 = .ok (.if_icmp .eq 16, 3) := dk_159 0 16 (dk_at dksX8_next_0 10 rfl rfl)
theorem dX8_next_13 : decode cX8_next 13 = .ok (.aload_n 0, 1) := dk_42 (dk_at dksX8_next_0 13 rfl rfl)
theorem dX8_next_14 : decode cX8_next 14 = .ok (.aload_n 0, 1) := dk_42 (dk_at dksX8_next_0 14 rfl rfl)
theorem dX8_next_15 : decode cX8_next 15 = .ok (.getfield 44, 3) := dk_180 0 44 (dk_at dksX8_next_0 15 rfl rfl)
theorem dX8_next_18 : decode cX8_next 18 = .ok (.invokevirtual 47, 3) := dk_182 0 47 (dk_at dksX8_next_0 18 rfl rfl)
theorem dX8_next_21 : decode cX8_next 21 = .ok (.bipush 10, 2) := dk_16 10 (dk_at dksX8_next_0 21 rfl rfl)
theorem dX8_next_23 : decode cX8_next 23 = .ok (.if_icmp .ne 16, 3) := dk_160 0 16 (dk_at dksX8_next_1 0 rfl rfl)
theorem dX8_next_26 : decode cX8_next 26 = .ok (.aload_n 0, 1) := dk_42 (dk_at dksX8_next_1 3 rfl rfl)
theorem dX8_next_27 : decode cX8_next 27 = .ok (.dup, 1) := dk_89 (dk_at dksX8_next_1 4 rfl rfl)
theorem dX8_next_28 : decode cX8_next 28 = .ok (.getfield 44, 3) := dk_180 0 44 (dk_at dksX8_next_1 5 rfl rfl)
theorem dX8_next_31 : decode cX8_next 31 = .ok (.iconst 1, 1) := dk_4 (dk_at dksX8_next_1 8 rfl rfl)
theorem dX8_next_32 : decode cX8_next 32 = .ok (.iadd, 1) := dk_96 (dk_at dksX8_next_1 9 rfl rfl)
theorem dX8_next_33 : decode cX8_next 33 = .ok (.putfield 44, 3) := dk_181 0 44 (dk_at dksX8_next_1 10 rfl rfl)
theorem dX8_next_36 : decode cX8_next 36 = .ok (.goto (-36), 3) := dk_167 255 220 (dk_at dksX8_next_1 13 rfl rfl)
theorem dX8_next_39 : decode cX8_next 39 = .ok (.aload_n 0, 1) := dk_42 (dk_at dksX8_next_1 16 rfl rfl)
theorem dX8_next_40 : decode cX8_next 40 = .ok (.aload_n 0, 1) := dk_42 (dk_at dksX8_next_1 17 rfl rfl)
theorem dX8_next_41 : decode cX8_next 41 = .ok (.getfield 44, 3) := dk_180 0 44 (dk_at dksX8_next_1 18 rfl rfl)
theorem dX8_next_44 : decode cX8_next 44 = .ok (.putfield 51, 3) := dk_181 0 51 (dk_at dksX8_next_1 21 rfl rfl)
theorem dX8_next_47 : decode cX8_next 47 = .ok (.aload_n 0, 1) := dk_42 (dk_at dksX8_next_2 0 rfl rfl)
theorem dX8_next_48 : decode cX8_next 48 = .ok (.ldc 31, 2) := dk_18 31 (dk_at dksX8_next_2 1 rfl rfl)
theorem dX8_next_50 : decode cX8_next 50 = .ok (.putfield 33, 3) := dk_181 0 33 (dk_at dksX8_next_2 3 rfl rfl)
theorem dX8_next_53 : decode cX8_next 53 = .ok (.aload_n 0, 1) := dk_42 (dk_at dksX8_next_2 6 rfl rfl)
theorem dX8_next_54 : decode cX8_next 54 = .ok (.aload_n 0, 1) := dk_42 (dk_at dksX8_next_2 7 rfl rfl)
theorem dX8_next_55 : decode cX8_next 55 = .ok (.getfield 44, 3) := dk_180 0 44 (dk_at dksX8_next_2 8 rfl rfl)
theorem dX8_next_58 : decode cX8_next 58 = .ok (.invokevirtual 47, 3) := dk_182 0 47 (dk_at dksX8_next_2 11 rfl rfl)
theorem dX8_next_61 : decode cX8_next 61 = .ok (.istore_n 1, 1) := dk_60 (dk_at dksX8_next_2 14 rfl rfl)
theorem dX8_next_62 : decode cX8_next 62 = .ok (.iload_n 1, 1) := dk_27 (dk_at dksX8_next_2 15 rfl rfl)
theorem dX8_next_63 : decode cX8_next 63 = .ok (.iconst (-1), 1) := dk_2 (dk_at dksX8_next_2 16 rfl rfl)
theorem dX8_next_64 : decode cX8_next 64 = .ok (.if_icmp .ne 13, 3) := dk_160 0 13 (dk_at dksX8_next_2 17 rfl rfl)
theorem dX8_next_67 : decode cX8_next 67 = .ok (.aload_n 0, 1) := dk_42 (dk_at dksX8_next_2 20 rfl rfl)
theorem dX8_next_68 : decode cX8_next 68 = .ok (.getstatic 22, 3) := dk_178 0 22 (dk_at dksX8_next_2 21 rfl rfl)
theorem dX8_next_71 : decode cX8_next 71 = .ok (.putfield 28, 3) := dk_181 0 28 (dk_at dksX8_next_3 0 rfl rfl)
theorem dX8_next_74 : decode cX8_next 74 = .ok (.goto 223, 3) := dk_167 0 223 (dk_at dksX8_next_3 3 rfl rfl)
theorem dX8_next_77 : decode cX8_next 77 = .ok (.iload_n 1, 1) := dk_27 (dk_at dksX8_next_3 6 rfl rfl)
theorem dX8_next_78 : decode cX8_next 78 = .ok (.i2l, 1) := dk_133 (dk_at dksX8_next_3 7 rfl rfl)
theorem dX8_next_79 : decode cX8_next 79 = .ok (.ldc2_w 54, 3) := dk_20 0 54 (dk_at dksX8_next_3 8 rfl rfl)
theorem dX8_next_82 : decode cX8_next 82 = .ok (.ldc2_w 56, 3) := dk_20 0 56 (dk_at dksX8_next_3 11 rfl rfl)
theorem dX8_next_85 : decode cX8_next 85 = .ok (.invokestatic 58, 3) := dk_184 0 58 (dk_at dksX8_next_3 14 rfl rfl)
theorem dX8_next_88 : decode cX8_next 88 = .ok (.ifCond .eq 77, 3) := dk_153 0 77 (dk_at dksX8_next_3 17 rfl rfl)
theorem dX8_next_91 : decode cX8_next 91 = .ok (.new 62, 3) := dk_187 0 62 (dk_at dksX8_next_3 20 rfl rfl)
theorem dX8_next_94 : decode cX8_next 94 = .ok (.dup, 1) := dk_89 (dk_at dksX8_next_3 23 rfl rfl)
theorem dX8_next_95 : decode cX8_next 95 = .ok (.invokespecial 64, 3) := dk_183 0 64 (dk_at dksX8_next_4 0 rfl rfl)
theorem dX8_next_98 : decode cX8_next 98 = .ok (.astore_n 2, 1) := dk_77 (dk_at dksX8_next_4 3 rfl rfl)
theorem dX8_next_99 : decode cX8_next 99 = .ok (.aload_n 0, 1) := dk_42 (dk_at dksX8_next_4 4 rfl rfl)
theorem dX8_next_100 : decode cX8_next 100 = .ok (.aload_n 0, 1) := dk_42 (dk_at dksX8_next_4 5 rfl rfl)
theorem dX8_next_101 : decode cX8_next 101 = .ok (.getfield 44, 3) := dk_180 0 44 (dk_at dksX8_next_4 6 rfl rfl)
theorem dX8_next_104 : decode cX8_next 104 = .ok (.invokevirtual 47, 3) := dk_182 0 47 (dk_at dksX8_next_4 9 rfl rfl)
theorem dX8_next_107 : decode cX8_next 107 = .ok (.i2l, 1) := dk_133 (dk_at dksX8_next_4 12 rfl rfl)
theorem dX8_next_108 : decode cX8_next 108 = .ok (.ldc2_w 54, 3) := dk_20 0 54 (dk_at dksX8_next_4 13 rfl rfl)
theorem dX8_next_111 : decode cX8_next 111 = .ok (.ldc2_w 56, 3) := dk_20 0 56 (dk_at dksX8_next_4 16 rfl rfl)
theorem dX8_next_114 : decode cX8_next 114 = .ok (.invokestatic 58, 3) := dk_184 0 58 (dk_at dksX8_next_4 19 rfl rfl)
theorem dX8_next_117 : decode cX8_next 117 = .ok (.ifCond .eq 30, 3) := dk_153 0 30 (dk_at dksX8_next_5 0 rfl rfl)
theorem dX8_next_120 : decode cX8_next 120 = .ok (.aload_n 2, 1) := dk_44 (dk_at dksX8_next_5 3 rfl rfl)
theorem dX8_next_121 : decode cX8_next 121 = .ok (.aload_n 0, 1) := dk_42 (dk_at dksX8_next_5 4 rfl rfl)
theorem dX8_next_122 : decode cX8_next 122 = .ok (.aload_n 0, 1) := dk_42 (dk_at dksX8_next_5 5 rfl rfl)
theorem dX8_next_123 : decode cX8_next 123 = .ok (.getfield 44, 3) := dk_180 0 44 (dk_at dksX8_next_5 6 rfl rfl)
theorem dX8_next_126 : decode cX8_next 126 = .ok (.invokevirtual 47, 3) := dk_182 0 47 (dk_at dksX8_next_5 9 rfl rfl)
theorem dX8_next_129 : decode cX8_next 129 = .ok (.i2c, 1) := dk_146 (dk_at dksX8_next_5 12 rfl rfl)
theorem dX8_next_130 : decode cX8_next 130 = .ok (.invokevirtual 65, 3) := dk_182 0 65 (dk_at dksX8_next_5 13 rfl rfl)
theorem dX8_next_133 : decode cX8_next 133 = .ok (.pop, 1) := dk_87 (dk_at dksX8_next_5 16 rfl rfl)
theorem dX8_next_134 : decode cX8_next 134 = .ok (.aload_n 0, 1) := dk_42 (dk_at dksX8_next_5 17 rfl rfl)
theorem dX8_next_135 : decode cX8_next 135 = .ok (.dup, 1) := dk_89 (dk_at dksX8_next_5 18 rfl rfl)
theorem dX8_next_136 : decode cX8_next 136 = .ok (.getfield 44, 3) := dk_180 0 44 (dk_at dksX8_next_5 19 rfl rfl)
theorem dX8_next_139 : decode cX8_next 139 = .ok (.iconst 1, 1) := dk_4 (dk_at dksX8_next_5 22 rfl rfl)
theorem dX8_next_140 : decode cX8_next 140 = .ok (.iadd, 1) := dk_96 (dk_at dksX8_next_5 23 rfl rfl)
theorem dX8_next_141 : decode cX8_next 141 = .ok (.putfield 44, 3) := dk_181 0 44 (dk_at dksX8_next_6 0 rfl rfl)
theorem dX8_next_144 : decode cX8_next 144 = .ok (.goto (-45), 3) := dk_167 255 211 (dk_at dksX8_next_6 3 rfl rfl)
theorem dX8_next_147 : decode cX8_next 147 = .ok (.aload_n 0, 1) := dk_42 (dk_at dksX8_next_6 6 rfl rfl)
theorem dX8_next_148 : decode cX8_next 148 = .ok (.aload_n 2, 1) := dk_44 (dk_at dksX8_next_6 7 rfl rfl)
theorem dX8_next_149 : decode cX8_next 149 = .ok (.invokevirtual 69, 3) := dk_182 0 69 (dk_at dksX8_next_6 8 rfl rfl)
theorem dX8_next_152 : decode cX8_next 152 = .ok (.putfield 33, 3) := dk_181 0 33 (dk_at dksX8_next_6 11 rfl rfl)
theorem dX8_next_155 : decode cX8_next 155 = .ok (.aload_n 0, 1) := dk_42 (dk_at dksX8_next_6 14 rfl rfl)
theorem dX8_next_156 : decode cX8_next 156 = .ok (.getstatic 73, 3) := dk_178 0 73 (dk_at dksX8_next_6 15 rfl rfl)
theorem dX8_next_159 : decode cX8_next 159 = .ok (.putfield 28, 3) := dk_181 0 28 (dk_at dksX8_next_6 18 rfl rfl)
theorem dX8_next_162 : decode cX8_next 162 = .ok (.goto 135, 3) := dk_167 0 135 (dk_at dksX8_next_6 21 rfl rfl)
theorem dX8_next_165 : decode cX8_next 165 = .ok (.iload_n 1, 1) := dk_27 (dk_at dksX8_next_7 0 rfl rfl)
theorem dX8_next_166 : decode cX8_next 166 = .ok (.i2l, 1) := dk_133 (dk_at dksX8_next_7 1 rfl rfl)
theorem dX8_next_167 : decode cX8_next 167 = .ok (.ldc2_w 76, 3) := dk_20 0 76 (dk_at dksX8_next_7 2 rfl rfl)
theorem dX8_next_170 : decode cX8_next 170 = .ok (.ldc2_w 78, 3) := dk_20 0 78 (dk_at dksX8_next_7 5 rfl rfl)
theorem dX8_next_173 : decode cX8_next 173 = .ok (.invokestatic 58, 3) := dk_184 0 58 (dk_at dksX8_next_7 8 rfl rfl)
theorem dX8_next_176 : decode cX8_next 176 = .ok (.ifCond .eq 80, 3) := dk_153 0 80 (dk_at dksX8_next_7 11 rfl rfl)
theorem dX8_next_179 : decode cX8_next 179 = .ok (.aload_n 0, 1) := dk_42 (dk_at dksX8_next_7 14 rfl rfl)
theorem dX8_next_180 : decode cX8_next 180 = .ok (.iconst 0, 1) := dk_3 (dk_at dksX8_next_7 15 rfl rfl)
theorem dX8_next_181 : decode cX8_next 181 = .ok (.putfield 80, 3) := dk_181 0 80 (dk_at dksX8_next_7 16 rfl rfl)
theorem dX8_next_184 : decode cX8_next 184 = .ok (.aload_n 0, 1) := dk_42 (dk_at dksX8_next_7 19 rfl rfl)
theorem dX8_next_185 : decode cX8_next 185 = .ok (.aload_n 0, 1) := dk_42 (dk_at dksX8_next_7 20 rfl rfl)
theorem dX8_next_186 : decode cX8_next 186 = .ok (.getfield 44, 3) := dk_180 0 44 (dk_at dksX8_next_7 21 rfl rfl)
theorem dX8_next_189 : decode cX8_next 189 = .ok (.invokevirtual 47, 3) := dk_182 0 47 (dk_at dksX8_next_8 0 rfl rfl)
theorem dX8_next_192 : decode cX8_next 192 = .ok (.i2l, 1) := dk_133 (dk_at dksX8_next_8 3 rfl rfl)
theorem dX8_next_193 : decode cX8_next 193 = .ok (.ldc2_w 76, 3) := dk_20 0 76 (dk_at dksX8_next_8 4 rfl rfl)
theorem dX8_next_196 : decode cX8_next 196 = .ok (.ldc2_w 78, 3) := dk_20 0 78 (dk_at dksX8_next_8 7 rfl rfl)
theorem dX8_next_199 : decode cX8_next 199 = .ok (.invokestatic 58, 3) := dk_184 0 58 (dk_at dksX8_next_8 10 rfl rfl)
theorem dX8_next_202 : decode cX8_next 202 = .ok (.ifCond .eq 44, 3) := dk_153 0 44 (dk_at dksX8_next_8 13 rfl rfl)
theorem dX8_next_205 : decode cX8_next 205 = .ok (.aload_n 0, 1) := dk_42 (dk_at dksX8_next_8 16 rfl rfl)
theorem dX8_next_206 : decode cX8_next 206 = .ok (.ldc 83, 2) := dk_18 83 (dk_at dksX8_next_8 17 rfl rfl)
theorem dX8_next_208 : decode cX8_next 208 = .ok (.bipush 10, 2) := dk_16 10 (dk_at dksX8_next_8 19 rfl rfl)
theorem dX8_next_210 : decode cX8_next 210 = .ok (.aload_n 0, 1) := dk_42 (dk_at dksX8_next_8 21 rfl rfl)
theorem dX8_next_211 : decode cX8_next 211 = .ok (.getfield 80, 3) := dk_180 0 80 (dk_at dksX8_next_9 0 rfl rfl)
theorem dX8_next_214 : decode cX8_next 214 = .ok (.imul, 1) := dk_104 (dk_at dksX8_next_9 3 rfl rfl)
theorem dX8_next_215 : decode cX8_next 215 = .ok (.aload_n 0, 1) := dk_42 (dk_at dksX8_next_9 4 rfl rfl)
theorem dX8_next_216 : decode cX8_next 216 = .ok (.aload_n 0, 1) := dk_42 (dk_at dksX8_next_9 5 rfl rfl)
theorem dX8_next_217 : decode cX8_next 217 = .ok (.getfield 44, 3) := dk_180 0 44 (dk_at dksX8_next_9 6 rfl rfl)
theorem dX8_next_220 : decode cX8_next 220 = .ok (.invokevirtual 47, 3) := dk_182 0 47 (dk_at dksX8_next_9 9 rfl rfl)
theorem dX8_next_223 : decode cX8_next 223 = .ok (.iadd, 1) := dk_96 (dk_at dksX8_next_9 12 rfl rfl)
theorem dX8_next_224 : decode cX8_next 224 = .ok (.bipush 48, 2) := dk_16 48 (dk_at dksX8_next_9 13 rfl rfl)
theorem dX8_next_226 : decode cX8_next 226 = .ok (.isub, 1) := dk_100 (dk_at dksX8_next_9 15 rfl rfl)
theorem dX8_next_227 : decode cX8_next 227 = .ok (.invokestatic 84, 3) := dk_184 0 84 (dk_at dksX8_next_9 16 rfl rfl)
theorem dX8_next_230 : decode cX8_next 230 = .ok (.putfield 80, 3) := dk_181 0 80 (dk_at dksX8_next_9 19 rfl rfl)
theorem dX8_next_233 : decode cX8_next 233 = .ok (.aload_n 0, 1) := dk_42 (dk_at dksX8_next_9 22 rfl rfl)
theorem dX8_next_234 : decode cX8_next 234 = .ok (.dup, 1) := dk_89 (dk_at dksX8_next_9 23 rfl rfl)
theorem dX8_next_235 : decode cX8_next 235 = .ok (.getfield 44, 3) := dk_180 0 44 (dk_at dksX8_next_10 0 rfl rfl)
theorem dX8_next_238 : decode cX8_next 238 = .ok (.iconst 1, 1) := dk_4 (dk_at dksX8_next_10 3 rfl rfl)
theorem dX8_next_239 : decode cX8_next 239 = .ok (.iadd, 1) := dk_96 (dk_at dksX8_next_10 4 rfl rfl)
theorem dX8_next_240 : decode cX8_next 240 = .ok (.putfield 44, 3) := dk_181 0 44 (dk_at dksX8_next_10 5 rfl rfl)
theorem dX8_next_243 : decode cX8_next 243 = .ok (.goto (-59), 3) := dk_167 255 197 (dk_at dksX8_next_10 8 rfl rfl)
theorem dX8_next_246 : decode cX8_next 246 = .ok (.aload_n 0, 1) := dk_42 (dk_at dksX8_next_10 11 rfl rfl)
theorem dX8_next_247 : decode cX8_next 247 = .ok (.getstatic 90, 3) := dk_178 0 90 (dk_at dksX8_next_10 12 rfl rfl)
theorem dX8_next_250 : decode cX8_next 250 = .ok (.putfield 28, 3) := dk_181 0 28 (dk_at dksX8_next_10 15 rfl rfl)
theorem dX8_next_253 : decode cX8_next 253 = .ok (.goto 44, 3) := dk_167 0 44 (dk_at dksX8_next_10 18 rfl rfl)
theorem dX8_next_256 : decode cX8_next 256 = .ok (.aload_n 0, 1) := dk_42 (dk_at dksX8_next_10 21 rfl rfl)
theorem dX8_next_257 : decode cX8_next 257 = .ok (.dup, 1) := dk_89 (dk_at dksX8_next_10 22 rfl rfl)
theorem dX8_next_258 : decode cX8_next 258 = .ok (.getfield 44, 3) := dk_180 0 44 (dk_at dksX8_next_11 0 rfl rfl)
theorem dX8_next_261 : decode cX8_next 261 = .ok (.iconst 1, 1) := dk_4 (dk_at dksX8_next_11 3 rfl rfl)
theorem dX8_next_262 : decode cX8_next 262 = .ok (.iadd, 1) := dk_96 (dk_at dksX8_next_11 4 rfl rfl)
theorem dX8_next_263 : decode cX8_next 263 = .ok (.putfield 44, 3) := dk_181 0 44 (dk_at dksX8_next_11 5 rfl rfl)
theorem dX8_next_266 : decode cX8_next 266 = .ok (.aload_n 0, 1) := dk_42 (dk_at dksX8_next_11 8 rfl rfl)
theorem dX8_next_267 : decode cX8_next 267 = .ok (.iload_n 1, 1) := dk_27 (dk_at dksX8_next_11 9 rfl rfl)
theorem dX8_next_268 : decode cX8_next 268 = .ok (.bipush 59, 2) := dk_16 59 (dk_at dksX8_next_11 10 rfl rfl)
theorem dX8_next_270 : decode cX8_next 270 = .ok (.if_icmp .eq 15, 3) := dk_159 0 15 (dk_at dksX8_next_11 12 rfl rfl)
theorem dX8_next_273 : decode cX8_next 273 = .ok (.iload_n 1, 1) := dk_27 (dk_at dksX8_next_11 15 rfl rfl)
theorem dX8_next_274 : decode cX8_next 274 = .ok (.bipush 40, 2) := dk_16 40 (dk_at dksX8_next_11 16 rfl rfl)
theorem dX8_next_276 : decode cX8_next 276 = .ok (.if_icmp .eq 9, 3) := dk_159 0 9 (dk_at dksX8_next_11 18 rfl rfl)
theorem dX8_next_279 : decode cX8_next 279 = .ok (.iload_n 1, 1) := dk_27 (dk_at dksX8_next_11 21 rfl rfl)
theorem dX8_next_280 : decode cX8_next 280 = .ok (.bipush 41, 2) := dk_16 41 (dk_at dksX8_next_11 22 rfl rfl)
theorem dX8_next_282 : decode cX8_next 282 = .ok (.if_icmp .ne 9, 3) := dk_160 0 9 (dk_at dksX8_next_12 0 rfl rfl)
theorem dX8_next_285 : decode cX8_next 285 = .ok (.getstatic 93, 3) := dk_178 0 93 (dk_at dksX8_next_12 3 rfl rfl)
theorem dX8_next_288 : decode cX8_next 288 = .ok (.goto 6, 3) := dk_167 0 6 (dk_at dksX8_next_12 6 rfl rfl)
theorem dX8_next_291 : decode cX8_next 291 = .ok (.getstatic 96, 3) := dk_178 0 96 (dk_at dksX8_next_12 9 rfl rfl)
theorem dX8_next_294 : decode cX8_next 294 = .ok (.putfield 28, 3) := dk_181 0 28 (dk_at dksX8_next_12 12 rfl rfl)
theorem dX8_next_297 : decode cX8_next 297 = .ok (.return_, 1) := dk_177 (dk_at dksX8_next_12 15 rfl rfl)
abbrev cX8_see : ByteArray := prog_11_method_2_code
def yX8_see : MethodName := ⟨RX8, "see", "(I)I"⟩
def dkwX8_see_1 : List UInt8 := [2, 172]
abbrev dktX8_see_1 : List UInt8 := dkwX8_see_1 ++ []
def dkwX8_see_0 : List UInt8 := [27, 42, 180, 0, 19, 162, 0, 19, 42, 180, 0, 3, 180, 0, 40, 27, 51, 17, 0, 255, 126, 167, 0, 4]
abbrev dktX8_see_0 : List UInt8 := dkwX8_see_0 ++ dktX8_see_1
theorem dksX8_see_0 : cX8_see.data.toList.drop 0 = dktX8_see_0 := by decide +kernel
theorem dksX8_see_1 : cX8_see.data.toList.drop 24 = dktX8_see_1 := dk_seg dksX8_see_0 24 rfl rfl
theorem dX8_see_0 : decode cX8_see 0 = .ok (.iload_n 1, 1) := dk_27 (dk_at dksX8_see_0 0 rfl rfl)
theorem dX8_see_1 : decode cX8_see 1 = .ok (.aload_n 0, 1) := dk_42 (dk_at dksX8_see_0 1 rfl rfl)
theorem dX8_see_2 : decode cX8_see 2 = .ok (.getfield 19, 3) := dk_180 0 19 (dk_at dksX8_see_0 2 rfl rfl)
theorem dX8_see_5 : decode cX8_see 5 = .ok (.if_icmp .ge 19, 3) := dk_162 0 19 (dk_at dksX8_see_0 5 rfl rfl)
theorem dX8_see_8 : decode cX8_see 8 = .ok (.aload_n 0, 1) := dk_42 (dk_at dksX8_see_0 8 rfl rfl)
theorem dX8_see_9 : decode cX8_see 9 = .ok (.getfield 3, 3) := dk_180 0 3 (dk_at dksX8_see_0 9 rfl rfl)
theorem dX8_see_12 : decode cX8_see 12 = .ok (.getfield 40, 3) := dk_180 0 40 (dk_at dksX8_see_0 12 rfl rfl)
theorem dX8_see_15 : decode cX8_see 15 = .ok (.iload_n 1, 1) := dk_27 (dk_at dksX8_see_0 15 rfl rfl)
theorem dX8_see_16 : decode cX8_see 16 = .ok (.baload, 1) := dk_51 (dk_at dksX8_see_0 16 rfl rfl)
theorem dX8_see_17 : decode cX8_see 17 = .ok (.sipush 255, 3) := dk_17 0 255 (dk_at dksX8_see_0 17 rfl rfl)
theorem dX8_see_20 : decode cX8_see 20 = .ok (.iand, 1) := dk_126 (dk_at dksX8_see_0 20 rfl rfl)
theorem dX8_see_21 : decode cX8_see 21 = .ok (.goto 4, 3) := dk_167 0 4 (dk_at dksX8_see_0 21 rfl rfl)
theorem dX8_see_24 : decode cX8_see 24 = .ok (.iconst (-1), 1) := dk_2 (dk_at dksX8_see_1 0 rfl rfl)
theorem dX8_see_25 : decode cX8_see 25 = .ok (.ireturn, 1) := dk_172 (dk_at dksX8_see_1 1 rfl rfl)
abbrev cX8_passes : ByteArray := prog_11_method_11_code
def yX8_passes : MethodName := ⟨RX8, "passes", "(Ljava/lang/String;)Z"⟩
def dkwX8_passes_0 : List UInt8 := [42, 180, 0, 33, 43, 182, 0, 112, 61, 28, 153, 0, 7, 42, 182, 0, 37, 28, 172]
abbrev dktX8_passes_0 : List UInt8 := dkwX8_passes_0 ++ []
theorem dksX8_passes_0 : cX8_passes.data.toList.drop 0 = dktX8_passes_0 := by decide +kernel
theorem dX8_passes_0 : decode cX8_passes 0 = .ok (.aload_n 0, 1) := dk_42 (dk_at dksX8_passes_0 0 rfl rfl)
theorem dX8_passes_1 : decode cX8_passes 1 = .ok (.getfield 33, 3) := dk_180 0 33 (dk_at dksX8_passes_0 1 rfl rfl)
theorem dX8_passes_4 : decode cX8_passes 4 = .ok (.aload_n 1, 1) := dk_43 (dk_at dksX8_passes_0 4 rfl rfl)
theorem dX8_passes_5 : decode cX8_passes 5 = .ok (.invokevirtual 112, 3) := dk_182 0 112 (dk_at dksX8_passes_0 5 rfl rfl)
theorem dX8_passes_8 : decode cX8_passes 8 = .ok (.istore_n 2, 1) := dk_61 (dk_at dksX8_passes_0 8 rfl rfl)
theorem dX8_passes_9 : decode cX8_passes 9 = .ok (.iload_n 2, 1) := dk_28 (dk_at dksX8_passes_0 9 rfl rfl)
theorem dX8_passes_10 : decode cX8_passes 10 = .ok (.ifCond .eq 7, 3) := dk_153 0 7 (dk_at dksX8_passes_0 10 rfl rfl)
theorem dX8_passes_13 : decode cX8_passes 13 = .ok (.aload_n 0, 1) := dk_42 (dk_at dksX8_passes_0 13 rfl rfl)
theorem dX8_passes_14 : decode cX8_passes 14 = .ok (.invokevirtual 37, 3) := dk_182 0 37 (dk_at dksX8_passes_0 14 rfl rfl)
theorem dX8_passes_17 : decode cX8_passes 17 = .ok (.iload_n 2, 1) := dk_28 (dk_at dksX8_passes_0 17 rfl rfl)
theorem dX8_passes_18 : decode cX8_passes 18 = .ok (.ireturn, 1) := dk_172 (dk_at dksX8_passes_0 18 rfl rfl)
abbrev cX8_must : ByteArray := prog_11_method_4_code
def yX8_must : MethodName := ⟨RX8, "must", "(ZI)V"⟩
def dkwX8_must_0 : List UInt8 := [27, 154, 0, 16, 187, 0, 99, 89, 28, 42, 180, 0, 51, 183, 0, 101, 191, 177]
abbrev dktX8_must_0 : List UInt8 := dkwX8_must_0 ++ []
theorem dksX8_must_0 : cX8_must.data.toList.drop 0 = dktX8_must_0 := by decide +kernel
theorem dX8_must_0 : decode cX8_must 0 = .ok (.iload_n 1, 1) := dk_27 (dk_at dksX8_must_0 0 rfl rfl)
theorem dX8_must_1 : decode cX8_must 1 = .ok (.ifCond .ne 16, 3) := dk_154 0 16 (dk_at dksX8_must_0 1 rfl rfl)
theorem dX8_must_4 : decode cX8_must 4 = .ok (.new 99, 3) := dk_187 0 99 (dk_at dksX8_must_0 4 rfl rfl)
theorem dX8_must_7 : decode cX8_must 7 = .ok (.dup, 1) := dk_89 (dk_at dksX8_must_0 7 rfl rfl)
theorem dX8_must_8 : decode cX8_must 8 = .ok (.iload_n 2, 1) := dk_28 (dk_at dksX8_must_0 8 rfl rfl)
theorem dX8_must_9 : decode cX8_must 9 = .ok (.aload_n 0, 1) := dk_42 (dk_at dksX8_must_0 9 rfl rfl)
theorem dX8_must_10 : decode cX8_must 10 = .ok (.getfield 51, 3) := dk_180 0 51 (dk_at dksX8_must_0 10 rfl rfl)
theorem dX8_must_13 : decode cX8_must 13 = .ok (.invokespecial 101, 3) := dk_183 0 101 (dk_at dksX8_must_0 13 rfl rfl)
theorem dX8_must_16 : decode cX8_must 16 = .ok (.athrow, 1) := dk_191 (dk_at dksX8_must_0 16 rfl rfl)
theorem dX8_must_17 : decode cX8_must 17 = .ok (.return_, 1) := dk_177 (dk_at dksX8_must_0 17 rfl rfl)
abbrev cX8_number : ByteArray := prog_11_method_9_code
def yX8_number : MethodName := ⟨RX8, "number", "(II)I"⟩
def dkwX8_number_2 : List UInt8 := [29, 172]
abbrev dktX8_number_2 : List UInt8 := dkwX8_number_2 ++ []
def dkwX8_number_1 : List UInt8 := [180, 0, 80, 133, 27, 133, 28, 133, 184, 0, 58, 5, 182, 0, 108, 42, 180, 0, 80, 62, 42, 182, 0, 37]
abbrev dktX8_number_1 : List UInt8 := dkwX8_number_1 ++ dktX8_number_2
def dkwX8_number_0 : List UInt8 := [42, 42, 180, 0, 28, 178, 0, 90, 166, 0, 7, 4, 167, 0, 4, 3, 4, 182, 0, 108, 42, 42]
abbrev dktX8_number_0 : List UInt8 := dkwX8_number_0 ++ dktX8_number_1
theorem dksX8_number_0 : cX8_number.data.toList.drop 0 = dktX8_number_0 := by decide +kernel
theorem dksX8_number_1 : cX8_number.data.toList.drop 22 = dktX8_number_1 := dk_seg dksX8_number_0 22 rfl rfl
theorem dksX8_number_2 : cX8_number.data.toList.drop 46 = dktX8_number_2 := dk_seg dksX8_number_1 24 rfl rfl
theorem dX8_number_0 : decode cX8_number 0 = .ok (.aload_n 0, 1) := dk_42 (dk_at dksX8_number_0 0 rfl rfl)
theorem dX8_number_1 : decode cX8_number 1 = .ok (.aload_n 0, 1) := dk_42 (dk_at dksX8_number_0 1 rfl rfl)
theorem dX8_number_2 : decode cX8_number 2 = .ok (.getfield 28, 3) := dk_180 0 28 (dk_at dksX8_number_0 2 rfl rfl)
theorem dX8_number_5 : decode cX8_number 5 = .ok (.getstatic 90, 3) := dk_178 0 90 (dk_at dksX8_number_0 5 rfl rfl)
theorem dX8_number_8 : decode cX8_number 8 = .ok (.if_acmp .ne 7, 3) := dk_166 0 7 (dk_at dksX8_number_0 8 rfl rfl)
theorem dX8_number_11 : decode cX8_number 11 = .ok (.iconst 1, 1) := dk_4 (dk_at dksX8_number_0 11 rfl rfl)
theorem dX8_number_12 : decode cX8_number 12 = .ok (.goto 4, 3) := dk_167 0 4 (dk_at dksX8_number_0 12 rfl rfl)
theorem dX8_number_15 : decode cX8_number 15 = .ok (.iconst 0, 1) := dk_3 (dk_at dksX8_number_0 15 rfl rfl)
theorem dX8_number_16 : decode cX8_number 16 = .ok (.iconst 1, 1) := dk_4 (dk_at dksX8_number_0 16 rfl rfl)
theorem dX8_number_17 : decode cX8_number 17 = .ok (.invokevirtual 108, 3) := dk_182 0 108 (dk_at dksX8_number_0 17 rfl rfl)
theorem dX8_number_20 : decode cX8_number 20 = .ok (.aload_n 0, 1) := dk_42 (dk_at dksX8_number_0 20 rfl rfl)
theorem dX8_number_21 : decode cX8_number 21 = .ok (.aload_n 0, 1) := dk_42 (dk_at dksX8_number_0 21 rfl rfl)
theorem dX8_number_22 : decode cX8_number 22 = .ok (.getfield 80, 3) := dk_180 0 80 (dk_at dksX8_number_1 0 rfl rfl)
theorem dX8_number_25 : decode cX8_number 25 = .ok (.i2l, 1) := dk_133 (dk_at dksX8_number_1 3 rfl rfl)
theorem dX8_number_26 : decode cX8_number 26 = .ok (.iload_n 1, 1) := dk_27 (dk_at dksX8_number_1 4 rfl rfl)
theorem dX8_number_27 : decode cX8_number 27 = .ok (.i2l, 1) := dk_133 (dk_at dksX8_number_1 5 rfl rfl)
theorem dX8_number_28 : decode cX8_number 28 = .ok (.iload_n 2, 1) := dk_28 (dk_at dksX8_number_1 6 rfl rfl)
theorem dX8_number_29 : decode cX8_number 29 = .ok (.i2l, 1) := dk_133 (dk_at dksX8_number_1 7 rfl rfl)
theorem dX8_number_30 : decode cX8_number 30 = .ok (.invokestatic 58, 3) := dk_184 0 58 (dk_at dksX8_number_1 8 rfl rfl)
theorem dX8_number_33 : decode cX8_number 33 = .ok (.iconst 2, 1) := dk_5 (dk_at dksX8_number_1 11 rfl rfl)
theorem dX8_number_34 : decode cX8_number 34 = .ok (.invokevirtual 108, 3) := dk_182 0 108 (dk_at dksX8_number_1 12 rfl rfl)
theorem dX8_number_37 : decode cX8_number 37 = .ok (.aload_n 0, 1) := dk_42 (dk_at dksX8_number_1 15 rfl rfl)
theorem dX8_number_38 : decode cX8_number 38 = .ok (.getfield 80, 3) := dk_180 0 80 (dk_at dksX8_number_1 16 rfl rfl)
theorem dX8_number_41 : decode cX8_number 41 = .ok (.istore_n 3, 1) := dk_62 (dk_at dksX8_number_1 19 rfl rfl)
theorem dX8_number_42 : decode cX8_number 42 = .ok (.aload_n 0, 1) := dk_42 (dk_at dksX8_number_1 20 rfl rfl)
theorem dX8_number_43 : decode cX8_number 43 = .ok (.invokevirtual 37, 3) := dk_182 0 37 (dk_at dksX8_number_1 21 rfl rfl)
theorem dX8_number_46 : decode cX8_number 46 = .ok (.iload_n 3, 1) := dk_29 (dk_at dksX8_number_2 0 rfl rfl)
theorem dX8_number_47 : decode cX8_number 47 = .ok (.ireturn, 1) := dk_172 (dk_at dksX8_number_2 1 rfl rfl)
abbrev cX8_sign : ByteArray := prog_11_method_8_code
def yX8_sign : MethodName := ⟨RX8, "sign", "(I)V"⟩
def dkwX8_sign_0 : List UInt8 := [42, 42, 27, 182, 0, 104, 4, 182, 0, 108, 42, 182, 0, 37, 177]
abbrev dktX8_sign_0 : List UInt8 := dkwX8_sign_0 ++ []
theorem dksX8_sign_0 : cX8_sign.data.toList.drop 0 = dktX8_sign_0 := by decide +kernel
theorem dX8_sign_0 : decode cX8_sign 0 = .ok (.aload_n 0, 1) := dk_42 (dk_at dksX8_sign_0 0 rfl rfl)
theorem dX8_sign_1 : decode cX8_sign 1 = .ok (.aload_n 0, 1) := dk_42 (dk_at dksX8_sign_0 1 rfl rfl)
theorem dX8_sign_2 : decode cX8_sign 2 = .ok (.iload_n 1, 1) := dk_27 (dk_at dksX8_sign_0 2 rfl rfl)
theorem dX8_sign_3 : decode cX8_sign 3 = .ok (.invokevirtual 104, 3) := dk_182 0 104 (dk_at dksX8_sign_0 3 rfl rfl)
theorem dX8_sign_6 : decode cX8_sign 6 = .ok (.iconst 1, 1) := dk_4 (dk_at dksX8_sign_0 6 rfl rfl)
theorem dX8_sign_7 : decode cX8_sign 7 = .ok (.invokevirtual 108, 3) := dk_182 0 108 (dk_at dksX8_sign_0 7 rfl rfl)
theorem dX8_sign_10 : decode cX8_sign 10 = .ok (.aload_n 0, 1) := dk_42 (dk_at dksX8_sign_0 10 rfl rfl)
theorem dX8_sign_11 : decode cX8_sign 11 = .ok (.invokevirtual 37, 3) := dk_182 0 37 (dk_at dksX8_sign_0 11 rfl rfl)
theorem dX8_sign_14 : decode cX8_sign 14 = .ok (.return_, 1) := dk_177 (dk_at dksX8_sign_0 14 rfl rfl)
abbrev cX8_isSign : ByteArray := prog_11_method_7_code
def yX8_isSign : MethodName := ⟨RX8, "isSign", "(I)Z"⟩
def dkwX8_isSign_1 : List UInt8 := [160, 0, 7, 4, 167, 0, 4, 3, 172]
abbrev dktX8_isSign_1 : List UInt8 := dkwX8_isSign_1 ++ []
def dkwX8_isSign_0 : List UInt8 := [42, 180, 0, 28, 178, 0, 93, 166, 0, 23, 42, 180, 0, 3, 180, 0, 40, 42, 180, 0, 51, 51, 27]
abbrev dktX8_isSign_0 : List UInt8 := dkwX8_isSign_0 ++ dktX8_isSign_1
theorem dksX8_isSign_0 : cX8_isSign.data.toList.drop 0 = dktX8_isSign_0 := by decide +kernel
theorem dksX8_isSign_1 : cX8_isSign.data.toList.drop 23 = dktX8_isSign_1 := dk_seg dksX8_isSign_0 23 rfl rfl
theorem dX8_isSign_0 : decode cX8_isSign 0 = .ok (.aload_n 0, 1) := dk_42 (dk_at dksX8_isSign_0 0 rfl rfl)
theorem dX8_isSign_1 : decode cX8_isSign 1 = .ok (.getfield 28, 3) := dk_180 0 28 (dk_at dksX8_isSign_0 1 rfl rfl)
theorem dX8_isSign_4 : decode cX8_isSign 4 = .ok (.getstatic 93, 3) := dk_178 0 93 (dk_at dksX8_isSign_0 4 rfl rfl)
theorem dX8_isSign_7 : decode cX8_isSign 7 = .ok (.if_acmp .ne 23, 3) := dk_166 0 23 (dk_at dksX8_isSign_0 7 rfl rfl)
theorem dX8_isSign_10 : decode cX8_isSign 10 = .ok (.aload_n 0, 1) := dk_42 (dk_at dksX8_isSign_0 10 rfl rfl)
theorem dX8_isSign_11 : decode cX8_isSign 11 = .ok (.getfield 3, 3) := dk_180 0 3 (dk_at dksX8_isSign_0 11 rfl rfl)
theorem dX8_isSign_14 : decode cX8_isSign 14 = .ok (.getfield 40, 3) := dk_180 0 40 (dk_at dksX8_isSign_0 14 rfl rfl)
theorem dX8_isSign_17 : decode cX8_isSign 17 = .ok (.aload_n 0, 1) := dk_42 (dk_at dksX8_isSign_0 17 rfl rfl)
theorem dX8_isSign_18 : decode cX8_isSign 18 = .ok (.getfield 51, 3) := dk_180 0 51 (dk_at dksX8_isSign_0 18 rfl rfl)
theorem dX8_isSign_21 : decode cX8_isSign 21 = .ok (.baload, 1) := dk_51 (dk_at dksX8_isSign_0 21 rfl rfl)
theorem dX8_isSign_22 : decode cX8_isSign 22 = .ok (.iload_n 1, 1) := dk_27 (dk_at dksX8_isSign_0 22 rfl rfl)
theorem dX8_isSign_23 : decode cX8_isSign 23 = .ok (.if_icmp .ne 7, 3) := dk_160 0 7 (dk_at dksX8_isSign_1 0 rfl rfl)
theorem dX8_isSign_26 : decode cX8_isSign 26 = .ok (.iconst 1, 1) := dk_4 (dk_at dksX8_isSign_1 3 rfl rfl)
theorem dX8_isSign_27 : decode cX8_isSign 27 = .ok (.goto 4, 3) := dk_167 0 4 (dk_at dksX8_isSign_1 4 rfl rfl)
theorem dX8_isSign_30 : decode cX8_isSign 30 = .ok (.iconst 0, 1) := dk_3 (dk_at dksX8_isSign_1 7 rfl rfl)
theorem dX8_isSign_31 : decode cX8_isSign 31 = .ok (.ireturn, 1) := dk_172 (dk_at dksX8_isSign_1 8 rfl rfl)
abbrev cX8_word : ByteArray := prog_11_method_10_code
def yX8_word : MethodName := ⟨RX8, "word", "()Ljava/lang/String;"⟩
theorem dX8_word_0 : decode cX8_word 0 = .ok (.aload_n 0, 1) := by decide +kernel
theorem dX8_word_1 : decode cX8_word 1 = .ok (.getfield 33, 3) := by decide +kernel
theorem dX8_word_4 : decode cX8_word 4 = .ok (.areturn, 1) := by decide +kernel
abbrev cX8_here : ByteArray := prog_11_method_12_code
def yX8_here : MethodName := ⟨RX8, "here", "()Ljava/lang/String;"⟩
def dkwX8_here_2 : List UInt8 := [176]
abbrev dktX8_here_2 : List UInt8 := dkwX8_here_2 ++ []
def dkwX8_here_1 : List UInt8 := [180, 0, 33, 182, 0, 118, 16, 6, 163, 0, 7, 4, 167, 0, 4, 3, 5, 182, 0, 108, 42, 180, 0, 33]
abbrev dktX8_here_1 : List UInt8 := dkwX8_here_1 ++ dktX8_here_2
def dkwX8_here_0 : List UInt8 := [42, 42, 180, 0, 28, 178, 0, 73, 166, 0, 7, 4, 167, 0, 4, 3, 4, 182, 0, 108, 42, 42]
abbrev dktX8_here_0 : List UInt8 := dkwX8_here_0 ++ dktX8_here_1
theorem dksX8_here_0 : cX8_here.data.toList.drop 0 = dktX8_here_0 := by decide +kernel
theorem dksX8_here_1 : cX8_here.data.toList.drop 22 = dktX8_here_1 := dk_seg dksX8_here_0 22 rfl rfl
theorem dksX8_here_2 : cX8_here.data.toList.drop 46 = dktX8_here_2 := dk_seg dksX8_here_1 24 rfl rfl
theorem dX8_here_0 : decode cX8_here 0 = .ok (.aload_n 0, 1) := dk_42 (dk_at dksX8_here_0 0 rfl rfl)
theorem dX8_here_1 : decode cX8_here 1 = .ok (.aload_n 0, 1) := dk_42 (dk_at dksX8_here_0 1 rfl rfl)
theorem dX8_here_2 : decode cX8_here 2 = .ok (.getfield 28, 3) := dk_180 0 28 (dk_at dksX8_here_0 2 rfl rfl)
theorem dX8_here_5 : decode cX8_here 5 = .ok (.getstatic 73, 3) := dk_178 0 73 (dk_at dksX8_here_0 5 rfl rfl)
theorem dX8_here_8 : decode cX8_here 8 = .ok (.if_acmp .ne 7, 3) := dk_166 0 7 (dk_at dksX8_here_0 8 rfl rfl)
theorem dX8_here_11 : decode cX8_here 11 = .ok (.iconst 1, 1) := dk_4 (dk_at dksX8_here_0 11 rfl rfl)
theorem dX8_here_12 : decode cX8_here 12 = .ok (.goto 4, 3) := dk_167 0 4 (dk_at dksX8_here_0 12 rfl rfl)
theorem dX8_here_15 : decode cX8_here 15 = .ok (.iconst 0, 1) := dk_3 (dk_at dksX8_here_0 15 rfl rfl)
theorem dX8_here_16 : decode cX8_here 16 = .ok (.iconst 1, 1) := dk_4 (dk_at dksX8_here_0 16 rfl rfl)
theorem dX8_here_17 : decode cX8_here 17 = .ok (.invokevirtual 108, 3) := dk_182 0 108 (dk_at dksX8_here_0 17 rfl rfl)
theorem dX8_here_20 : decode cX8_here 20 = .ok (.aload_n 0, 1) := dk_42 (dk_at dksX8_here_0 20 rfl rfl)
theorem dX8_here_21 : decode cX8_here 21 = .ok (.aload_n 0, 1) := dk_42 (dk_at dksX8_here_0 21 rfl rfl)
theorem dX8_here_22 : decode cX8_here 22 = .ok (.getfield 33, 3) := dk_180 0 33 (dk_at dksX8_here_1 0 rfl rfl)
theorem dX8_here_25 : decode cX8_here 25 = .ok (.invokevirtual 118, 3) := dk_182 0 118 (dk_at dksX8_here_1 3 rfl rfl)
theorem dX8_here_28 : decode cX8_here 28 = .ok (.bipush 6, 2) := dk_16 6 (dk_at dksX8_here_1 6 rfl rfl)
theorem dX8_here_30 : decode cX8_here 30 = .ok (.if_icmp .gt 7, 3) := dk_163 0 7 (dk_at dksX8_here_1 8 rfl rfl)
theorem dX8_here_33 : decode cX8_here 33 = .ok (.iconst 1, 1) := dk_4 (dk_at dksX8_here_1 11 rfl rfl)
theorem dX8_here_34 : decode cX8_here 34 = .ok (.goto 4, 3) := dk_167 0 4 (dk_at dksX8_here_1 12 rfl rfl)
theorem dX8_here_37 : decode cX8_here 37 = .ok (.iconst 0, 1) := dk_3 (dk_at dksX8_here_1 15 rfl rfl)
theorem dX8_here_38 : decode cX8_here 38 = .ok (.iconst 2, 1) := dk_5 (dk_at dksX8_here_1 16 rfl rfl)
theorem dX8_here_39 : decode cX8_here 39 = .ok (.invokevirtual 108, 3) := dk_182 0 108 (dk_at dksX8_here_1 17 rfl rfl)
theorem dX8_here_42 : decode cX8_here 42 = .ok (.aload_n 0, 1) := dk_42 (dk_at dksX8_here_1 20 rfl rfl)
theorem dX8_here_43 : decode cX8_here 43 = .ok (.getfield 33, 3) := dk_180 0 33 (dk_at dksX8_here_1 21 rfl rfl)
theorem dX8_here_46 : decode cX8_here 46 = .ok (.areturn, 1) := dk_176 (dk_at dksX8_here_2 0 rfl rfl)
abbrev cX8_name : ByteArray := prog_11_method_13_code
def yX8_name : MethodName := ⟨RX8, "name", "()Ljava/lang/String;"⟩
def dkwX8_name_0 : List UInt8 := [42, 182, 0, 121, 76, 42, 182, 0, 37, 43, 176]
abbrev dktX8_name_0 : List UInt8 := dkwX8_name_0 ++ []
theorem dksX8_name_0 : cX8_name.data.toList.drop 0 = dktX8_name_0 := by decide +kernel
theorem dX8_name_0 : decode cX8_name 0 = .ok (.aload_n 0, 1) := dk_42 (dk_at dksX8_name_0 0 rfl rfl)
theorem dX8_name_1 : decode cX8_name 1 = .ok (.invokevirtual 121, 3) := dk_182 0 121 (dk_at dksX8_name_0 1 rfl rfl)
theorem dX8_name_4 : decode cX8_name 4 = .ok (.astore_n 1, 1) := dk_76 (dk_at dksX8_name_0 4 rfl rfl)
theorem dX8_name_5 : decode cX8_name 5 = .ok (.aload_n 0, 1) := dk_42 (dk_at dksX8_name_0 5 rfl rfl)
theorem dX8_name_6 : decode cX8_name 6 = .ok (.invokevirtual 37, 3) := dk_182 0 37 (dk_at dksX8_name_0 6 rfl rfl)
theorem dX8_name_9 : decode cX8_name 9 = .ok (.aload_n 1, 1) := dk_43 (dk_at dksX8_name_0 9 rfl rfl)
theorem dX8_name_10 : decode cX8_name 10 = .ok (.areturn, 1) := dk_176 (dk_at dksX8_name_0 10 rfl rfl)
abbrev cX8_isWord : ByteArray := prog_11_method_6_code
def yX8_isWord : MethodName := ⟨RX8, "isWord", "()Z"⟩
def dkwX8_isWord_0 : List UInt8 := [42, 180, 0, 28, 178, 0, 73, 166, 0, 7, 4, 167, 0, 4, 3, 172]
abbrev dktX8_isWord_0 : List UInt8 := dkwX8_isWord_0 ++ []
theorem dksX8_isWord_0 : cX8_isWord.data.toList.drop 0 = dktX8_isWord_0 := by decide +kernel
theorem dX8_isWord_0 : decode cX8_isWord 0 = .ok (.aload_n 0, 1) := dk_42 (dk_at dksX8_isWord_0 0 rfl rfl)
theorem dX8_isWord_1 : decode cX8_isWord 1 = .ok (.getfield 28, 3) := dk_180 0 28 (dk_at dksX8_isWord_0 1 rfl rfl)
theorem dX8_isWord_4 : decode cX8_isWord 4 = .ok (.getstatic 73, 3) := dk_178 0 73 (dk_at dksX8_isWord_0 4 rfl rfl)
theorem dX8_isWord_7 : decode cX8_isWord 7 = .ok (.if_acmp .ne 7, 3) := dk_166 0 7 (dk_at dksX8_isWord_0 7 rfl rfl)
theorem dX8_isWord_10 : decode cX8_isWord 10 = .ok (.iconst 1, 1) := dk_4 (dk_at dksX8_isWord_0 10 rfl rfl)
theorem dX8_isWord_11 : decode cX8_isWord 11 = .ok (.goto 4, 3) := dk_167 0 4 (dk_at dksX8_isWord_0 11 rfl rfl)
theorem dX8_isWord_14 : decode cX8_isWord 14 = .ok (.iconst 0, 1) := dk_3 (dk_at dksX8_isWord_0 14 rfl rfl)
theorem dX8_isWord_15 : decode cX8_isWord 15 = .ok (.ireturn, 1) := dk_172 (dk_at dksX8_isWord_0 15 rfl rfl)
abbrev cX8_isEnd : ByteArray := prog_11_method_5_code
def yX8_isEnd : MethodName := ⟨RX8, "isEnd", "()Z"⟩
def dkwX8_isEnd_0 : List UInt8 := [42, 180, 0, 28, 178, 0, 22, 166, 0, 7, 4, 167, 0, 4, 3, 172]
abbrev dktX8_isEnd_0 : List UInt8 := dkwX8_isEnd_0 ++ []
theorem dksX8_isEnd_0 : cX8_isEnd.data.toList.drop 0 = dktX8_isEnd_0 := by decide +kernel
theorem dX8_isEnd_0 : decode cX8_isEnd 0 = .ok (.aload_n 0, 1) := dk_42 (dk_at dksX8_isEnd_0 0 rfl rfl)
theorem dX8_isEnd_1 : decode cX8_isEnd 1 = .ok (.getfield 28, 3) := dk_180 0 28 (dk_at dksX8_isEnd_0 1 rfl rfl)
theorem dX8_isEnd_4 : decode cX8_isEnd 4 = .ok (.getstatic 22, 3) := dk_178 0 22 (dk_at dksX8_isEnd_0 4 rfl rfl)
theorem dX8_isEnd_7 : decode cX8_isEnd 7 = .ok (.if_acmp .ne 7, 3) := dk_166 0 7 (dk_at dksX8_isEnd_0 7 rfl rfl)
theorem dX8_isEnd_10 : decode cX8_isEnd 10 = .ok (.iconst 1, 1) := dk_4 (dk_at dksX8_isEnd_0 10 rfl rfl)
theorem dX8_isEnd_11 : decode cX8_isEnd 11 = .ok (.goto 4, 3) := dk_167 0 4 (dk_at dksX8_isEnd_0 11 rfl rfl)
theorem dX8_isEnd_14 : decode cX8_isEnd 14 = .ok (.iconst 0, 1) := dk_3 (dk_at dksX8_isEnd_0 14 rfl rfl)
theorem dX8_isEnd_15 : decode cX8_isEnd 15 = .ok (.ireturn, 1) := dk_172 (dk_at dksX8_isEnd_0 15 rfl rfl)
theorem q195 : (Jvm.Cond.initialized "LoopSignals$Reader") ∈ lw_all := lw_g (lw_at lw_m1 47 rfl) rfl
theorem q2018 : (Jvm.Cond.fieldLinkNest "LoopSignals$Reader" (40 : Nat) "LoopSignals" "buffer" "[B" "LoopSignals") ∈ lw_tbl := lw_at lw_m8 190 rfl
theorem q2020 : (Jvm.Cond.fieldLinkNest "LoopSignals$Reader" (15 : Nat) "LoopSignals" "length" "I" "LoopSignals") ∈ lw_tbl := lw_at lw_m8 192 rfl
theorem q2070 : (Jvm.Cond.instanceMethod ({ cls := "LoopSignals$Reader", name := "<init>", desc := "(LLoopSignals;)V" } : Jvm.MethodName)) ∈ lw_all := lw_g (lw_at lw_m9 2 rfl) rfl
theorem q2071 : (Jvm.Cond.code ({ cls := "LoopSignals$Reader", name := "<init>", desc := "(LLoopSignals;)V" } : Jvm.MethodName) prog_11_method_1_code (2 : Nat) (Option.none : Option Jvm.ClassFile.FieldType)) ∈ lw_all := lw_g (lw_at lw_m9 3 rfl) rfl
theorem q2072 : (Jvm.Cond.methodLink "LoopSignals$Reader" (9 : Nat) ({ cls := "java/lang/Object", name := "<init>", desc := "()V" } : Jvm.MethodName)) ∈ lw_all := lw_g (lw_at lw_m9 4 rfl) rfl
theorem q2073 : (Jvm.Cond.fieldLink "LoopSignals$Reader" (22 : Nat) "LoopSignals$Sort" "END" "LLoopSignals$Sort;") ∈ lw_all := lw_g (lw_at lw_m9 5 rfl) rfl
theorem q2075 : (Jvm.Cond.stringRef "LoopSignals$Reader" (31 : Nat) "") ∈ lw_tbl := lw_at lw_m9 7 rfl
theorem q2076 : (Jvm.Cond.methodLink "LoopSignals$Reader" (37 : Nat) ({ cls := "LoopSignals$Reader", name := "next", desc := "()V" } : Jvm.MethodName)) ∈ lw_all := lw_g (lw_at lw_m9 8 rfl) rfl
theorem q2077 : (Jvm.Cond.instanceMethod ({ cls := "LoopSignals$Reader", name := "next", desc := "()V" } : Jvm.MethodName)) ∈ lw_all := lw_g (lw_at lw_m9 9 rfl) rfl
theorem q2078 : (Jvm.Cond.sameMethod "LoopSignals$Reader" "LoopSignals$Reader" "next" "()V") ∈ lw_all := lw_g (lw_at lw_m9 10 rfl) rfl
theorem q2081 : (Jvm.Cond.code ({ cls := "LoopSignals$Reader", name := "next", desc := "()V" } : Jvm.MethodName) prog_11_method_3_code (3 : Nat) (Option.none : Option Jvm.ClassFile.FieldType)) ∈ lw_all := lw_g (lw_at lw_m9 13 rfl) rfl
theorem q2082 : (Jvm.Cond.methodLink "LoopSignals$Reader" (47 : Nat) ({ cls := "LoopSignals$Reader", name := "see", desc := "(I)I" } : Jvm.MethodName)) ∈ lw_all := lw_g (lw_at lw_m9 14 rfl) rfl
theorem q2083 : (Jvm.Cond.privateMethod ({ cls := "LoopSignals$Reader", name := "see", desc := "(I)I" } : Jvm.MethodName)) ∈ lw_tbl := lw_at lw_m9 15 rfl
theorem q2084 : (Jvm.Cond.instanceMethod ({ cls := "LoopSignals$Reader", name := "see", desc := "(I)I" } : Jvm.MethodName)) ∈ lw_all := lw_g (lw_at lw_m9 16 rfl) rfl
theorem q2085 : (Jvm.Cond.instantiable "LoopSignals$Reader" (7 : Nat)) ∈ lw_all := lw_g (lw_at lw_m9 17 rfl) rfl
theorem q2086 : (Jvm.Cond.code ({ cls := "LoopSignals$Reader", name := "see", desc := "(I)I" } : Jvm.MethodName) prog_11_method_2_code (2 : Nat) (Option.some Jvm.ClassFile.FieldType.int)) ∈ lw_all := lw_g (lw_at lw_m9 18 rfl) rfl
theorem q2087 : (Jvm.Cond.constantLong "LoopSignals$Reader" (54 : Nat) (97 : Int64)) ∈ lw_all := lw_g (lw_at lw_m9 19 rfl) rfl
theorem q2088 : (Jvm.Cond.constantLong "LoopSignals$Reader" (56 : Nat) (122 : Int64)) ∈ lw_all := lw_g (lw_at lw_m9 20 rfl) rfl
theorem q2089 : (Jvm.Cond.methodLinkNest "LoopSignals$Reader" (58 : Nat) ({ cls := "LoopSignals", name := "in", desc := "(JJJ)Z" } : Jvm.MethodName) "LoopSignals") ∈ lw_tbl := lw_at lw_m9 21 rfl
theorem q2092 : (Jvm.Cond.classLink "LoopSignals$Reader" (62 : Nat) "java/lang/StringBuilder") ∈ lw_all := lw_g (lw_at lw_m9 24 rfl) rfl
theorem q2093 : (Jvm.Cond.methodLink "LoopSignals$Reader" (64 : Nat) ({ cls := "java/lang/StringBuilder", name := "<init>", desc := "()V" } : Jvm.MethodName)) ∈ lw_all := lw_g (lw_at lw_m9 25 rfl) rfl
theorem q2094 : (Jvm.Cond.methodLink "LoopSignals$Reader" (65 : Nat) ({ cls := "java/lang/StringBuilder", name := "append", desc := "(C)Ljava/lang/StringBuilder;" } : Jvm.MethodName)) ∈ lw_all := lw_g (lw_at lw_m9 26 rfl) rfl
theorem q2095 : (Jvm.Cond.methodLink "LoopSignals$Reader" (69 : Nat) ({ cls := "java/lang/StringBuilder", name := "toString", desc := "()Ljava/lang/String;" } : Jvm.MethodName)) ∈ lw_all := lw_g (lw_at lw_m9 27 rfl) rfl
theorem q2096 : (Jvm.Cond.fieldLink "LoopSignals$Reader" (73 : Nat) "LoopSignals$Sort" "WORD" "LLoopSignals$Sort;") ∈ lw_all := lw_g (lw_at lw_m9 28 rfl) rfl
theorem q2098 : (Jvm.Cond.constantLong "LoopSignals$Reader" (76 : Nat) (48 : Int64)) ∈ lw_all := lw_g (lw_at lw_m9 30 rfl) rfl
theorem q2099 : (Jvm.Cond.constantLong "LoopSignals$Reader" (78 : Nat) (57 : Int64)) ∈ lw_all := lw_g (lw_at lw_m9 31 rfl) rfl
theorem q2100 : (Jvm.Cond.constant "LoopSignals$Reader" (83 : Nat) (1000000 : Int32)) ∈ lw_all := lw_g (lw_at lw_m9 32 rfl) rfl
theorem q2101 : (Jvm.Cond.methodLink "LoopSignals$Reader" (84 : Nat) ({ cls := "java/lang/Math", name := "min", desc := "(II)I" } : Jvm.MethodName)) ∈ lw_all := lw_g (lw_at lw_m9 33 rfl) rfl
theorem q2102 : (Jvm.Cond.fieldLink "LoopSignals$Reader" (90 : Nat) "LoopSignals$Sort" "NUMBER" "LLoopSignals$Sort;") ∈ lw_all := lw_g (lw_at lw_m9 34 rfl) rfl
theorem q2104 : (Jvm.Cond.fieldLink "LoopSignals$Reader" (93 : Nat) "LoopSignals$Sort" "SIGN" "LLoopSignals$Sort;") ∈ lw_all := lw_g (lw_at lw_m9 36 rfl) rfl
theorem q2106 : (Jvm.Cond.fieldLink "LoopSignals$Reader" (96 : Nat) "LoopSignals$Sort" "BAD" "LLoopSignals$Sort;") ∈ lw_all := lw_g (lw_at lw_m9 38 rfl) rfl
theorem q2112 : (Jvm.Cond.fieldLink "LoopSignals$Reader" (19 : Nat) "LoopSignals$Reader" "end" "I") ∈ lw_all := lw_g (lw_at lw_m9 44 rfl) rfl
theorem q2113 : (Jvm.Cond.fieldLink "LoopSignals$Reader" (44 : Nat) "LoopSignals$Reader" "at" "I") ∈ lw_all := lw_g (lw_at lw_m9 45 rfl) rfl
theorem q2114 : (Jvm.Cond.fieldLink "LoopSignals$Reader" (51 : Nat) "LoopSignals$Reader" "begin" "I") ∈ lw_all := lw_g (lw_at lw_m9 46 rfl) rfl
theorem q2115 : (Jvm.Cond.fieldLink "LoopSignals$Reader" (80 : Nat) "LoopSignals$Reader" "number" "I") ∈ lw_all := lw_g (lw_at lw_m9 47 rfl) rfl
theorem q2116 : (Jvm.Cond.fieldLink "LoopSignals$Reader" (28 : Nat) "LoopSignals$Reader" "sort" "LLoopSignals$Sort;") ∈ lw_all := lw_g (lw_at lw_m9 48 rfl) rfl
theorem q2117 : (Jvm.Cond.fieldLink "LoopSignals$Reader" (33 : Nat) "LoopSignals$Reader" "word" "Ljava/lang/String;") ∈ lw_all := lw_g (lw_at lw_m9 49 rfl) rfl
theorem q2118 : (Jvm.Cond.fieldLink "LoopSignals$Reader" (3 : Nat) "LoopSignals$Reader" "this$0" "LLoopSignals;") ∈ lw_all := lw_g (lw_at lw_m9 50 rfl) rfl
theorem q2124 : (Jvm.Cond.soleField "LoopSignals$Reader" "end") ∈ lw_all := lw_g (lw_at lw_m9 56 rfl) rfl
theorem q2126 : (Jvm.Cond.soleField "LoopSignals$Reader" "at") ∈ lw_all := lw_g (lw_at lw_m9 58 rfl) rfl
theorem q2128 : (Jvm.Cond.soleField "LoopSignals$Reader" "begin") ∈ lw_all := lw_g (lw_at lw_m9 60 rfl) rfl
theorem q2130 : (Jvm.Cond.soleField "LoopSignals$Reader" "number") ∈ lw_all := lw_g (lw_at lw_m9 62 rfl) rfl
theorem q2132 : (Jvm.Cond.soleField "LoopSignals$Reader" "sort") ∈ lw_all := lw_g (lw_at lw_m9 64 rfl) rfl
theorem q2134 : (Jvm.Cond.soleField "LoopSignals$Reader" "word") ∈ lw_all := lw_g (lw_at lw_m9 66 rfl) rfl
theorem q2136 : (Jvm.Cond.soleField "LoopSignals$Reader" "this$0") ∈ lw_all := lw_g (lw_at lw_m9 68 rfl) rfl
theorem q2145 : (Jvm.Cond.declares ({ cls := "LoopSignals$Reader", name := "passes", desc := "(Ljava/lang/String;)Z" } : Jvm.MethodName)) ∈ lw_tbl := lw_at lw_m9 77 rfl
theorem q2147 : (Jvm.Cond.instanceMethod ({ cls := "LoopSignals$Reader", name := "passes", desc := "(Ljava/lang/String;)Z" } : Jvm.MethodName)) ∈ lw_all := lw_g (lw_at lw_m9 79 rfl) rfl
theorem q2148 : (Jvm.Cond.code ({ cls := "LoopSignals$Reader", name := "passes", desc := "(Ljava/lang/String;)Z" } : Jvm.MethodName) prog_11_method_11_code (3 : Nat) (Option.some Jvm.ClassFile.FieldType.boolean)) ∈ lw_all := lw_g (lw_at lw_m9 80 rfl) rfl
theorem q2149 : (Jvm.Cond.methodLink "LoopSignals$Reader" (112 : Nat) ({ cls := "java/lang/String", name := "equals", desc := "(Ljava/lang/Object;)Z" } : Jvm.MethodName)) ∈ lw_all := lw_g (lw_at lw_m9 81 rfl) rfl
theorem q2152 : (Jvm.Cond.declares ({ cls := "LoopSignals$Reader", name := "must", desc := "(ZI)V" } : Jvm.MethodName)) ∈ lw_tbl := lw_at lw_m9 84 rfl
theorem q2154 : (Jvm.Cond.instanceMethod ({ cls := "LoopSignals$Reader", name := "must", desc := "(ZI)V" } : Jvm.MethodName)) ∈ lw_all := lw_g (lw_at lw_m9 86 rfl) rfl
theorem q2155 : (Jvm.Cond.code ({ cls := "LoopSignals$Reader", name := "must", desc := "(ZI)V" } : Jvm.MethodName) prog_11_method_4_code (3 : Nat) (Option.none : Option Jvm.ClassFile.FieldType)) ∈ lw_all := lw_g (lw_at lw_m9 87 rfl) rfl
theorem q2156 : (Jvm.Cond.classLink "LoopSignals$Reader" (99 : Nat) "LoopSignals$Unreadable") ∈ lw_all := lw_g (lw_at lw_m9 88 rfl) rfl
theorem q2165 : (Jvm.Cond.methodLink "LoopSignals$Reader" (101 : Nat) ({ cls := "LoopSignals$Unreadable", name := "<init>", desc := "(II)V" } : Jvm.MethodName)) ∈ lw_all := lw_g (lw_at lw_m9 97 rfl) rfl
theorem q2186 : (Jvm.Cond.declares ({ cls := "LoopSignals$Reader", name := "number", desc := "(II)I" } : Jvm.MethodName)) ∈ lw_tbl := lw_at lw_m9 118 rfl
theorem q2188 : (Jvm.Cond.instanceMethod ({ cls := "LoopSignals$Reader", name := "number", desc := "(II)I" } : Jvm.MethodName)) ∈ lw_all := lw_g (lw_at lw_m9 120 rfl) rfl
theorem q2189 : (Jvm.Cond.code ({ cls := "LoopSignals$Reader", name := "number", desc := "(II)I" } : Jvm.MethodName) prog_11_method_9_code (4 : Nat) (Option.some Jvm.ClassFile.FieldType.int)) ∈ lw_all := lw_g (lw_at lw_m9 121 rfl) rfl
theorem q2190 : (Jvm.Cond.methodLink "LoopSignals$Reader" (108 : Nat) ({ cls := "LoopSignals$Reader", name := "must", desc := "(ZI)V" } : Jvm.MethodName)) ∈ lw_all := lw_g (lw_at lw_m9 122 rfl) rfl
theorem q2193 : (Jvm.Cond.declares ({ cls := "LoopSignals$Reader", name := "sign", desc := "(I)V" } : Jvm.MethodName)) ∈ lw_tbl := lw_at lw_m9 125 rfl
theorem q2195 : (Jvm.Cond.instanceMethod ({ cls := "LoopSignals$Reader", name := "sign", desc := "(I)V" } : Jvm.MethodName)) ∈ lw_all := lw_g (lw_at lw_m9 127 rfl) rfl
theorem q2196 : (Jvm.Cond.code ({ cls := "LoopSignals$Reader", name := "sign", desc := "(I)V" } : Jvm.MethodName) prog_11_method_8_code (2 : Nat) (Option.none : Option Jvm.ClassFile.FieldType)) ∈ lw_all := lw_g (lw_at lw_m9 128 rfl) rfl
theorem q2197 : (Jvm.Cond.methodLink "LoopSignals$Reader" (104 : Nat) ({ cls := "LoopSignals$Reader", name := "isSign", desc := "(I)Z" } : Jvm.MethodName)) ∈ lw_all := lw_g (lw_at lw_m9 129 rfl) rfl
theorem q2198 : (Jvm.Cond.instanceMethod ({ cls := "LoopSignals$Reader", name := "isSign", desc := "(I)Z" } : Jvm.MethodName)) ∈ lw_all := lw_g (lw_at lw_m9 130 rfl) rfl
theorem q2199 : (Jvm.Cond.sameMethod "LoopSignals$Reader" "LoopSignals$Reader" "isSign" "(I)Z") ∈ lw_all := lw_g (lw_at lw_m9 131 rfl) rfl
theorem q2202 : (Jvm.Cond.code ({ cls := "LoopSignals$Reader", name := "isSign", desc := "(I)Z" } : Jvm.MethodName) prog_11_method_7_code (2 : Nat) (Option.some Jvm.ClassFile.FieldType.boolean)) ∈ lw_all := lw_g (lw_at lw_m9 134 rfl) rfl
theorem q2205 : (Jvm.Cond.declares ({ cls := "LoopSignals$Reader", name := "word", desc := "()Ljava/lang/String;" } : Jvm.MethodName)) ∈ lw_tbl := lw_at lw_m9 137 rfl
theorem q2207 : (Jvm.Cond.instanceMethod ({ cls := "LoopSignals$Reader", name := "word", desc := "()Ljava/lang/String;" } : Jvm.MethodName)) ∈ lw_all := lw_g (lw_at lw_m9 139 rfl) rfl
theorem q2208 : (Jvm.Cond.code ({ cls := "LoopSignals$Reader", name := "word", desc := "()Ljava/lang/String;" } : Jvm.MethodName) prog_11_method_10_code (1 : Nat) (Option.some (Jvm.ClassFile.FieldType.object "java/lang/String"))) ∈ lw_all := lw_g (lw_at lw_m9 140 rfl) rfl
theorem q2241 : (Jvm.Cond.declares ({ cls := "LoopSignals$Reader", name := "next", desc := "()V" } : Jvm.MethodName)) ∈ lw_tbl := lw_at lw_m9 173 rfl
theorem q2249 : (Jvm.Cond.declares ({ cls := "LoopSignals$Reader", name := "here", desc := "()Ljava/lang/String;" } : Jvm.MethodName)) ∈ lw_tbl := lw_at lw_m9 181 rfl
theorem q2251 : (Jvm.Cond.instanceMethod ({ cls := "LoopSignals$Reader", name := "here", desc := "()Ljava/lang/String;" } : Jvm.MethodName)) ∈ lw_all := lw_g (lw_at lw_m9 183 rfl) rfl
theorem q2252 : (Jvm.Cond.code ({ cls := "LoopSignals$Reader", name := "here", desc := "()Ljava/lang/String;" } : Jvm.MethodName) prog_11_method_12_code (1 : Nat) (Option.some (Jvm.ClassFile.FieldType.object "java/lang/String"))) ∈ lw_all := lw_g (lw_at lw_m9 184 rfl) rfl
theorem q2253 : (Jvm.Cond.methodLink "LoopSignals$Reader" (118 : Nat) ({ cls := "java/lang/String", name := "length", desc := "()I" } : Jvm.MethodName)) ∈ lw_all := lw_g (lw_at lw_m9 185 rfl) rfl
theorem q2277 : (Jvm.Cond.declares ({ cls := "LoopSignals$Reader", name := "name", desc := "()Ljava/lang/String;" } : Jvm.MethodName)) ∈ lw_tbl := lw_at lw_m9 209 rfl
theorem q2279 : (Jvm.Cond.instanceMethod ({ cls := "LoopSignals$Reader", name := "name", desc := "()Ljava/lang/String;" } : Jvm.MethodName)) ∈ lw_all := lw_g (lw_at lw_m9 211 rfl) rfl
theorem q2280 : (Jvm.Cond.code ({ cls := "LoopSignals$Reader", name := "name", desc := "()Ljava/lang/String;" } : Jvm.MethodName) prog_11_method_13_code (2 : Nat) (Option.some (Jvm.ClassFile.FieldType.object "java/lang/String"))) ∈ lw_all := lw_g (lw_at lw_m9 212 rfl) rfl
theorem q2281 : (Jvm.Cond.methodLink "LoopSignals$Reader" (121 : Nat) ({ cls := "LoopSignals$Reader", name := "here", desc := "()Ljava/lang/String;" } : Jvm.MethodName)) ∈ lw_all := lw_g (lw_at lw_m9 213 rfl) rfl
theorem q2301 : (Jvm.Cond.declares ({ cls := "LoopSignals$Reader", name := "isWord", desc := "()Z" } : Jvm.MethodName)) ∈ lw_tbl := lw_at lw_m9 233 rfl
theorem q2303 : (Jvm.Cond.instanceMethod ({ cls := "LoopSignals$Reader", name := "isWord", desc := "()Z" } : Jvm.MethodName)) ∈ lw_all := lw_g (lw_at lw_m9 235 rfl) rfl
theorem q2304 : (Jvm.Cond.code ({ cls := "LoopSignals$Reader", name := "isWord", desc := "()Z" } : Jvm.MethodName) prog_11_method_6_code (1 : Nat) (Option.some Jvm.ClassFile.FieldType.boolean)) ∈ lw_all := lw_g (lw_at lw_m9 236 rfl) rfl
theorem q2350 : (Jvm.Cond.declares ({ cls := "LoopSignals$Reader", name := "isSign", desc := "(I)Z" } : Jvm.MethodName)) ∈ lw_tbl := lw_at lw_m10 42 rfl
theorem q2354 : (Jvm.Cond.declares ({ cls := "LoopSignals$Reader", name := "isEnd", desc := "()Z" } : Jvm.MethodName)) ∈ lw_tbl := lw_at lw_m10 46 rfl
theorem q2356 : (Jvm.Cond.instanceMethod ({ cls := "LoopSignals$Reader", name := "isEnd", desc := "()Z" } : Jvm.MethodName)) ∈ lw_all := lw_g (lw_at lw_m10 48 rfl) rfl
theorem q2357 : (Jvm.Cond.code ({ cls := "LoopSignals$Reader", name := "isEnd", desc := "()Z" } : Jvm.MethodName) prog_11_method_5_code (1 : Nat) (Option.some Jvm.ClassFile.FieldType.boolean)) ∈ lw_all := lw_g (lw_at lw_m10 49 rfl) rfl
theorem q4062 : (Jvm.Cond.sameMethod "LoopSignals$Reader" "LoopSignals$Reader" "see" "(I)I") ∈ lw_all := lw_g (lw_at lw_m17 74 rfl) rfl
theorem q4064 : (Jvm.Cond.sameMethod "LoopSignals$Reader" "LoopSignals$Reader" "must" "(ZI)V") ∈ lw_all := lw_g (lw_at lw_m17 76 rfl) rfl
theorem q4068 : (Jvm.Cond.sameMethod "LoopSignals$Reader" "LoopSignals$Reader" "here" "()Ljava/lang/String;") ∈ lw_all := lw_g (lw_at lw_m17 80 rfl) rfl
theorem q4123 : (Jvm.Cond.castable "LoopSignals$Reader" "java/lang/Object") ∈ lw_tbl := lw_at lw_m17 135 rfl

/-! LoopSignals$SetupReader -/
set_option maxRecDepth 100000
def RX9 : String := "LoopSignals$SetupReader"
def TX9 : u_T := fun k => match k with
  | 0 => ("LoopSignals$Reader", "end", "I", true)
  | 1 => ("LoopSignals$Reader", "at", "I", false)
  | 2 => ("LoopSignals$Reader", "begin", "I", false)
  | 3 => ("LoopSignals$Reader", "number", "I", false)
  | 4 => ("LoopSignals$Reader", "sort", "LLoopSignals$Sort;", false)
  | 5 => ("LoopSignals$Reader", "word", "Ljava/lang/String;", false)
  | 6 => ("LoopSignals$Reader", "this$0", "LLoopSignals;", true)
  | 7 => ("LoopSignals$SetupReader", "made", "LLoopSignals$Junction;", true)
  | _ => ("LoopSignals$SetupReader", "this$0", "LLoopSignals;", true)
def tyX9 : Nat → FieldType := fun k => match k with
  | 0 => .int
  | 1 => .int
  | 2 => .int
  | 3 => .int
  | 4 => .object "LoopSignals$Sort"
  | 5 => .object "java/lang/String"
  | 6 => .object "LoopSignals"
  | 7 => .object "LoopSignals$Junction"
  | _ => .object "LoopSignals"
abbrev wsX90 : List Cond := u_ws RX9 TX9 9
-- two fields of one name: no nmX9
theorem tyX9_ok : ∀ k, k < 9 → parseFieldDescriptor (TX9 k).2.2.1 = some (tyX9 k) := by decide +kernel
abbrev cX9_init : ByteArray := prog_14_method_1_code
def yX9_init : MethodName := ⟨RX9, "<init>", "(LLoopSignals;)V"⟩
def dkwX9_init_0 : List UInt8 := [42, 43, 181, 0, 3, 42, 43, 183, 0, 9, 42, 187, 0, 15, 89, 183, 0, 17, 181, 0, 20, 177]
abbrev dktX9_init_0 : List UInt8 := dkwX9_init_0 ++ []
theorem dksX9_init_0 : cX9_init.data.toList.drop 0 = dktX9_init_0 := by decide +kernel
theorem dX9_init_0 : decode cX9_init 0 = .ok (.aload_n 0, 1) := dk_42 (dk_at dksX9_init_0 0 rfl rfl)
theorem dX9_init_1 : decode cX9_init 1 = .ok (.aload_n 1, 1) := dk_43 (dk_at dksX9_init_0 1 rfl rfl)
theorem dX9_init_2 : decode cX9_init 2 = .ok (.putfield 3, 3) := dk_181 0 3 (dk_at dksX9_init_0 2 rfl rfl)
theorem dX9_init_5 : decode cX9_init 5 = .ok (.aload_n 0, 1) := dk_42 (dk_at dksX9_init_0 5 rfl rfl)
theorem dX9_init_6 : decode cX9_init 6 = .ok (.aload_n 1, 1) := dk_43 (dk_at dksX9_init_0 6 rfl rfl)
theorem dX9_init_7 : decode cX9_init 7 = .ok (.invokespecial 9, 3) := dk_183 0 9 (dk_at dksX9_init_0 7 rfl rfl)
theorem dX9_init_10 : decode cX9_init 10 = .ok (.aload_n 0, 1) := dk_42 (dk_at dksX9_init_0 10 rfl rfl)
theorem dX9_init_11 : decode cX9_init 11 = .ok (.new 15, 3) := dk_187 0 15 (dk_at dksX9_init_0 11 rfl rfl)
theorem dX9_init_14 : decode cX9_init 14 = .ok (.dup, 1) := dk_89 (dk_at dksX9_init_0 14 rfl rfl)
theorem dX9_init_15 : decode cX9_init 15 = .ok (.invokespecial 17, 3) := dk_183 0 17 (dk_at dksX9_init_0 15 rfl rfl)
theorem dX9_init_18 : decode cX9_init 18 = .ok (.putfield 20, 3) := dk_181 0 20 (dk_at dksX9_init_0 18 rfl rfl)
theorem dX9_init_21 : decode cX9_init 21 = .ok (.return_, 1) := dk_177 (dk_at dksX9_init_0 21 rfl rfl)
abbrev cX9_reads : ByteArray := prog_14_method_2_code
def yX9_reads : MethodName := ⟨RX9, "reads", "()LLoopSignals$Junction;"⟩
def dkwX9_reads_6 : List UInt8 := [180, 0, 20, 176]
abbrev dktX9_reads_6 : List UInt8 := dkwX9_reads_6 ++ []
def dkwX9_reads_5 : List UInt8 := [180, 0, 20, 180, 0, 73, 185, 0, 77, 1, 0, 154, 0, 7, 4, 167, 0, 4, 3, 4, 182, 0, 30, 42]
abbrev dktX9_reads_5 : List UInt8 := dkwX9_reads_5 ++ dktX9_reads_6
def dkwX9_reads_4 : List UInt8 := [182, 0, 66, 42, 42, 182, 0, 46, 182, 0, 58, 167, 255, 235, 42, 42, 182, 0, 69, 153, 0, 22, 42]
abbrev dktX9_reads_4 : List UInt8 := dkwX9_reads_4 ++ dktX9_reads_5
def dkwX9_reads_3 : List UInt8 := [182, 0, 52, 4, 182, 0, 30, 42, 18, 50, 182, 0, 58, 42, 16, 59, 182, 0, 62, 153, 0, 18, 42]
abbrev dktX9_reads_3 : List UInt8 := dkwX9_reads_3 ++ dktX9_reads_4
def dkwX9_reads_2 : List UInt8 := [180, 0, 34, 5, 42, 3, 5, 182, 0, 38, 79, 42, 16, 59, 182, 0, 42, 42, 42, 182, 0, 46, 18, 50]
abbrev dktX9_reads_2 : List UInt8 := dkwX9_reads_2 ++ dktX9_reads_3
def dkwX9_reads_1 : List UInt8 := [182, 0, 38, 79, 42, 180, 0, 20, 180, 0, 34, 4, 42, 3, 16, 20, 182, 0, 38, 79, 42, 180, 0, 20]
abbrev dktX9_reads_1 : List UInt8 := dkwX9_reads_1 ++ dktX9_reads_2
def dkwX9_reads_0 : List UInt8 := [42, 42, 18, 24, 182, 0, 26, 4, 182, 0, 30, 42, 180, 0, 20, 180, 0, 34, 3, 42, 4, 16, 9]
abbrev dktX9_reads_0 : List UInt8 := dkwX9_reads_0 ++ dktX9_reads_1
theorem dksX9_reads_0 : cX9_reads.data.toList.drop 0 = dktX9_reads_0 := by decide +kernel
theorem dksX9_reads_1 : cX9_reads.data.toList.drop 23 = dktX9_reads_1 := dk_seg dksX9_reads_0 23 rfl rfl
theorem dksX9_reads_2 : cX9_reads.data.toList.drop 47 = dktX9_reads_2 := dk_seg dksX9_reads_1 24 rfl rfl
theorem dksX9_reads_3 : cX9_reads.data.toList.drop 71 = dktX9_reads_3 := dk_seg dksX9_reads_2 24 rfl rfl
theorem dksX9_reads_4 : cX9_reads.data.toList.drop 94 = dktX9_reads_4 := dk_seg dksX9_reads_3 23 rfl rfl
theorem dksX9_reads_5 : cX9_reads.data.toList.drop 117 = dktX9_reads_5 := dk_seg dksX9_reads_4 23 rfl rfl
theorem dksX9_reads_6 : cX9_reads.data.toList.drop 141 = dktX9_reads_6 := dk_seg dksX9_reads_5 24 rfl rfl
theorem dX9_reads_0 : decode cX9_reads 0 = .ok (.aload_n 0, 1) := dk_42 (dk_at dksX9_reads_0 0 rfl rfl)
theorem dX9_reads_1 : decode cX9_reads 1 = .ok (.aload_n 0, 1) := dk_42 (dk_at dksX9_reads_0 1 rfl rfl)
theorem dX9_reads_2 : decode cX9_reads 2 = .ok (.ldc 24, 2) := dk_18 24 (dk_at dksX9_reads_0 2 rfl rfl)
theorem dX9_reads_4 : decode cX9_reads 4 = .ok (.invokevirtual 26, 3) := dk_182 0 26 (dk_at dksX9_reads_0 4 rfl rfl)
theorem dX9_reads_7 : decode cX9_reads 7 = .ok (.iconst 1, 1) := dk_4 (dk_at dksX9_reads_0 7 rfl rfl)
theorem dX9_reads_8 : decode cX9_reads 8 = .ok (.invokevirtual 30, 3) := dk_182 0 30 (dk_at dksX9_reads_0 8 rfl rfl)
theorem dX9_reads_11 : decode cX9_reads 11 = .ok (.aload_n 0, 1) := dk_42 (dk_at dksX9_reads_0 11 rfl rfl)
theorem dX9_reads_12 : decode cX9_reads 12 = .ok (.getfield 20, 3) := dk_180 0 20 (dk_at dksX9_reads_0 12 rfl rfl)
theorem dX9_reads_15 : decode cX9_reads 15 = .ok (.getfield 34, 3) := dk_180 0 34 (dk_at dksX9_reads_0 15 rfl rfl)
theorem dX9_reads_18 : decode cX9_reads 18 = .ok (.iconst 0, 1) := dk_3 (dk_at dksX9_reads_0 18 rfl rfl)
theorem dX9_reads_19 : decode cX9_reads 19 = .ok (.aload_n 0, 1) := dk_42 (dk_at dksX9_reads_0 19 rfl rfl)
theorem dX9_reads_20 : decode cX9_reads 20 = .ok (.iconst 1, 1) := dk_4 (dk_at dksX9_reads_0 20 rfl rfl)
theorem dX9_reads_21 : decode cX9_reads 21 = .ok (.bipush 9, 2) := dk_16 9 (dk_at dksX9_reads_0 21 rfl rfl)
theorem dX9_reads_23 : decode cX9_reads 23 = .ok (.invokevirtual 38, 3) := dk_182 0 38 (dk_at dksX9_reads_1 0 rfl rfl)
theorem dX9_reads_26 : decode cX9_reads 26 = .ok (.iastore, 1) := dk_79 (dk_at dksX9_reads_1 3 rfl rfl)
theorem dX9_reads_27 : decode cX9_reads 27 = .ok (.aload_n 0, 1) := dk_42 (dk_at dksX9_reads_1 4 rfl rfl)
theorem dX9_reads_28 : decode cX9_reads 28 = .ok (.getfield 20, 3) := dk_180 0 20 (dk_at dksX9_reads_1 5 rfl rfl)
theorem dX9_reads_31 : decode cX9_reads 31 = .ok (.getfield 34, 3) := dk_180 0 34 (dk_at dksX9_reads_1 8 rfl rfl)
theorem dX9_reads_34 : decode cX9_reads 34 = .ok (.iconst 1, 1) := dk_4 (dk_at dksX9_reads_1 11 rfl rfl)
theorem dX9_reads_35 : decode cX9_reads 35 = .ok (.aload_n 0, 1) := dk_42 (dk_at dksX9_reads_1 12 rfl rfl)
theorem dX9_reads_36 : decode cX9_reads 36 = .ok (.iconst 0, 1) := dk_3 (dk_at dksX9_reads_1 13 rfl rfl)
theorem dX9_reads_37 : decode cX9_reads 37 = .ok (.bipush 20, 2) := dk_16 20 (dk_at dksX9_reads_1 14 rfl rfl)
theorem dX9_reads_39 : decode cX9_reads 39 = .ok (.invokevirtual 38, 3) := dk_182 0 38 (dk_at dksX9_reads_1 16 rfl rfl)
theorem dX9_reads_42 : decode cX9_reads 42 = .ok (.iastore, 1) := dk_79 (dk_at dksX9_reads_1 19 rfl rfl)
theorem dX9_reads_43 : decode cX9_reads 43 = .ok (.aload_n 0, 1) := dk_42 (dk_at dksX9_reads_1 20 rfl rfl)
theorem dX9_reads_44 : decode cX9_reads 44 = .ok (.getfield 20, 3) := dk_180 0 20 (dk_at dksX9_reads_1 21 rfl rfl)
theorem dX9_reads_47 : decode cX9_reads 47 = .ok (.getfield 34, 3) := dk_180 0 34 (dk_at dksX9_reads_2 0 rfl rfl)
theorem dX9_reads_50 : decode cX9_reads 50 = .ok (.iconst 2, 1) := dk_5 (dk_at dksX9_reads_2 3 rfl rfl)
theorem dX9_reads_51 : decode cX9_reads 51 = .ok (.aload_n 0, 1) := dk_42 (dk_at dksX9_reads_2 4 rfl rfl)
theorem dX9_reads_52 : decode cX9_reads 52 = .ok (.iconst 0, 1) := dk_3 (dk_at dksX9_reads_2 5 rfl rfl)
theorem dX9_reads_53 : decode cX9_reads 53 = .ok (.iconst 2, 1) := dk_5 (dk_at dksX9_reads_2 6 rfl rfl)
theorem dX9_reads_54 : decode cX9_reads 54 = .ok (.invokevirtual 38, 3) := dk_182 0 38 (dk_at dksX9_reads_2 7 rfl rfl)
theorem dX9_reads_57 : decode cX9_reads 57 = .ok (.iastore, 1) := dk_79 (dk_at dksX9_reads_2 10 rfl rfl)
theorem dX9_reads_58 : decode cX9_reads 58 = .ok (.aload_n 0, 1) := dk_42 (dk_at dksX9_reads_2 11 rfl rfl)
theorem dX9_reads_59 : decode cX9_reads 59 = .ok (.bipush 59, 2) := dk_16 59 (dk_at dksX9_reads_2 12 rfl rfl)
theorem dX9_reads_61 : decode cX9_reads 61 = .ok (.invokevirtual 42, 3) := dk_182 0 42 (dk_at dksX9_reads_2 14 rfl rfl)
theorem dX9_reads_64 : decode cX9_reads 64 = .ok (.aload_n 0, 1) := dk_42 (dk_at dksX9_reads_2 17 rfl rfl)
theorem dX9_reads_65 : decode cX9_reads 65 = .ok (.aload_n 0, 1) := dk_42 (dk_at dksX9_reads_2 18 rfl rfl)
theorem dX9_reads_66 : decode cX9_reads 66 = .ok (.invokevirtual 46, 3) := dk_182 0 46 (dk_at dksX9_reads_2 19 rfl rfl)
theorem dX9_reads_69 : decode cX9_reads 69 = .ok (.ldc 50, 2) := dk_18 50 (dk_at dksX9_reads_2 22 rfl rfl)
theorem dX9_reads_71 : decode cX9_reads 71 = .ok (.invokevirtual 52, 3) := dk_182 0 52 (dk_at dksX9_reads_3 0 rfl rfl)
theorem dX9_reads_74 : decode cX9_reads 74 = .ok (.iconst 1, 1) := dk_4 (dk_at dksX9_reads_3 3 rfl rfl)
theorem dX9_reads_75 : decode cX9_reads 75 = .ok (.invokevirtual 30, 3) := dk_182 0 30 (dk_at dksX9_reads_3 4 rfl rfl)
theorem dX9_reads_78 : decode cX9_reads 78 = .ok (.aload_n 0, 1) := dk_42 (dk_at dksX9_reads_3 7 rfl rfl)
theorem dX9_reads_79 : decode cX9_reads 79 = .ok (.ldc 50, 2) := dk_18 50 (dk_at dksX9_reads_3 8 rfl rfl)
theorem dX9_reads_81 : decode cX9_reads 81 = .ok (.invokevirtual 58, 3) := dk_182 0 58 (dk_at dksX9_reads_3 10 rfl rfl)
theorem dX9_reads_84 : decode cX9_reads 84 = .ok (.aload_n 0, 1) := dk_42 (dk_at dksX9_reads_3 13 rfl rfl)
theorem dX9_reads_85 : decode cX9_reads 85 = .ok (.bipush 59, 2) := dk_16 59 (dk_at dksX9_reads_3 14 rfl rfl)
theorem dX9_reads_87 : decode cX9_reads 87 = .ok (.invokevirtual 62, 3) := dk_182 0 62 (dk_at dksX9_reads_3 16 rfl rfl)
theorem dX9_reads_90 : decode cX9_reads 90 = .ok (.ifCond .eq 18, 3) := dk_153 0 18 (dk_at dksX9_reads_3 19 rfl rfl)
theorem dX9_reads_93 : decode cX9_reads 93 = .ok (.aload_n 0, 1) := dk_42 (dk_at dksX9_reads_3 22 rfl rfl)
theorem dX9_reads_94 : decode cX9_reads 94 = .ok (.invokevirtual 66, 3) := dk_182 0 66 (dk_at dksX9_reads_4 0 rfl rfl)
theorem dX9_reads_97 : decode cX9_reads 97 = .ok (.aload_n 0, 1) := dk_42 (dk_at dksX9_reads_4 3 rfl rfl)
theorem dX9_reads_98 : decode cX9_reads 98 = .ok (.aload_n 0, 1) := dk_42 (dk_at dksX9_reads_4 4 rfl rfl)
theorem dX9_reads_99 : decode cX9_reads 99 = .ok (.invokevirtual 46, 3) := dk_182 0 46 (dk_at dksX9_reads_4 5 rfl rfl)
theorem dX9_reads_102 : decode cX9_reads 102 = .ok (.invokevirtual 58, 3) := dk_182 0 58 (dk_at dksX9_reads_4 8 rfl rfl)
theorem dX9_reads_105 : decode cX9_reads 105 = .ok (.goto (-21), 3) := dk_167 255 235 (dk_at dksX9_reads_4 11 rfl rfl)
theorem dX9_reads_108 : decode cX9_reads 108 = .ok (.aload_n 0, 1) := dk_42 (dk_at dksX9_reads_4 14 rfl rfl)
theorem dX9_reads_109 : decode cX9_reads 109 = .ok (.aload_n 0, 1) := dk_42 (dk_at dksX9_reads_4 15 rfl rfl)
theorem dX9_reads_110 : decode cX9_reads 110 = .ok (.invokevirtual 69, 3) := dk_182 0 69 (dk_at dksX9_reads_4 16 rfl rfl)
theorem dX9_reads_113 : decode cX9_reads 113 = .ok (.ifCond .eq 22, 3) := dk_153 0 22 (dk_at dksX9_reads_4 19 rfl rfl)
theorem dX9_reads_116 : decode cX9_reads 116 = .ok (.aload_n 0, 1) := dk_42 (dk_at dksX9_reads_4 22 rfl rfl)
theorem dX9_reads_117 : decode cX9_reads 117 = .ok (.getfield 20, 3) := dk_180 0 20 (dk_at dksX9_reads_5 0 rfl rfl)
theorem dX9_reads_120 : decode cX9_reads 120 = .ok (.getfield 73, 3) := dk_180 0 73 (dk_at dksX9_reads_5 3 rfl rfl)
theorem dX9_reads_123 : decode cX9_reads 123 = .ok (.invokeinterface 77 1, 5) := by decide +kernel
theorem dX9_reads_128 : decode cX9_reads 128 = .ok (.ifCond .ne 7, 3) := dk_154 0 7 (dk_at dksX9_reads_5 11 rfl rfl)
theorem dX9_reads_131 : decode cX9_reads 131 = .ok (.iconst 1, 1) := dk_4 (dk_at dksX9_reads_5 14 rfl rfl)
theorem dX9_reads_132 : decode cX9_reads 132 = .ok (.goto 4, 3) := dk_167 0 4 (dk_at dksX9_reads_5 15 rfl rfl)
theorem dX9_reads_135 : decode cX9_reads 135 = .ok (.iconst 0, 1) := dk_3 (dk_at dksX9_reads_5 18 rfl rfl)
theorem dX9_reads_136 : decode cX9_reads 136 = .ok (.iconst 1, 1) := dk_4 (dk_at dksX9_reads_5 19 rfl rfl)
theorem dX9_reads_137 : decode cX9_reads 137 = .ok (.invokevirtual 30, 3) := dk_182 0 30 (dk_at dksX9_reads_5 20 rfl rfl)
theorem dX9_reads_140 : decode cX9_reads 140 = .ok (.aload_n 0, 1) := dk_42 (dk_at dksX9_reads_5 23 rfl rfl)
theorem dX9_reads_141 : decode cX9_reads 141 = .ok (.getfield 20, 3) := dk_180 0 20 (dk_at dksX9_reads_6 0 rfl rfl)
theorem dX9_reads_144 : decode cX9_reads 144 = .ok (.areturn, 1) := dk_176 (dk_at dksX9_reads_6 3 rfl rfl)
abbrev cX9_part : ByteArray := prog_14_method_3_code
def yX9_part : MethodName := ⟨RX9, "part", "(Ljava/lang/String;)V"⟩
def dkwX9_part_8 : List UInt8 := [182, 0, 102, 167, 0, 7, 42, 182, 0, 104, 177]
abbrev dktX9_part_8 : List UInt8 := dkwX9_part_8 ++ []
def dkwX9_part_7 : List UInt8 := [182, 0, 30, 42, 182, 0, 66, 28, 153, 0, 10, 42, 182, 0, 100, 167, 0, 18, 29, 153, 0, 10, 42]
abbrev dktX9_part_7 : List UInt8 := dkwX9_part_7 ++ dktX9_part_8
def dkwX9_part_6 : List UInt8 := [180, 0, 20, 180, 0, 73, 185, 0, 96, 1, 0, 16, 6, 162, 0, 7, 4, 167, 0, 4, 3, 8]
abbrev dktX9_part_6 : List UInt8 := dkwX9_part_6 ++ dktX9_part_7
def dkwX9_part_5 : List UInt8 := [185, 0, 96, 1, 0, 16, 8, 162, 0, 7, 4, 167, 0, 33, 3, 167, 0, 29, 29, 154, 0, 20, 42]
abbrev dktX9_part_5 : List UInt8 := dkwX9_part_5 ++ dktX9_part_6
def dkwX9_part_4 : List UInt8 := [167, 0, 4, 3, 4, 182, 0, 30, 42, 28, 153, 0, 28, 42, 180, 0, 20, 180, 0, 93]
abbrev dktX9_part_4 : List UInt8 := dkwX9_part_4 ++ dktX9_part_5
def dkwX9_part_3 : List UInt8 := [167, 0, 4, 3, 62, 42, 28, 154, 0, 16, 29, 154, 0, 12, 43, 18, 91, 182, 0, 52, 153, 0, 7, 4]
abbrev dktX9_part_3 : List UInt8 := dkwX9_part_3 ++ dktX9_part_4
def dkwX9_part_2 : List UInt8 := [182, 0, 52, 153, 0, 22, 42, 180, 0, 20, 180, 0, 73, 185, 0, 77, 1, 0, 153, 0, 7, 4]
abbrev dktX9_part_2 : List UInt8 := dkwX9_part_2 ++ dktX9_part_3
def dkwX9_part_1 : List UInt8 := [180, 0, 20, 180, 0, 73, 185, 0, 77, 1, 0, 153, 0, 7, 4, 167, 0, 4, 3, 61, 43, 18, 89]
abbrev dktX9_part_1 : List UInt8 := dkwX9_part_1 ++ dktX9_part_2
def dkwX9_part_0 : List UInt8 := [43, 18, 50, 182, 0, 52, 153, 0, 35, 42, 180, 0, 20, 180, 0, 82, 182, 0, 86, 153, 0, 22, 42]
abbrev dktX9_part_0 : List UInt8 := dkwX9_part_0 ++ dktX9_part_1
theorem dksX9_part_0 : cX9_part.data.toList.drop 0 = dktX9_part_0 := by decide +kernel
theorem dksX9_part_1 : cX9_part.data.toList.drop 23 = dktX9_part_1 := dk_seg dksX9_part_0 23 rfl rfl
theorem dksX9_part_2 : cX9_part.data.toList.drop 46 = dktX9_part_2 := dk_seg dksX9_part_1 23 rfl rfl
theorem dksX9_part_3 : cX9_part.data.toList.drop 68 = dktX9_part_3 := dk_seg dksX9_part_2 22 rfl rfl
theorem dksX9_part_4 : cX9_part.data.toList.drop 92 = dktX9_part_4 := dk_seg dksX9_part_3 24 rfl rfl
theorem dksX9_part_5 : cX9_part.data.toList.drop 112 = dktX9_part_5 := dk_seg dksX9_part_4 20 rfl rfl
theorem dksX9_part_6 : cX9_part.data.toList.drop 135 = dktX9_part_6 := dk_seg dksX9_part_5 23 rfl rfl
theorem dksX9_part_7 : cX9_part.data.toList.drop 157 = dktX9_part_7 := dk_seg dksX9_part_6 22 rfl rfl
theorem dksX9_part_8 : cX9_part.data.toList.drop 180 = dktX9_part_8 := dk_seg dksX9_part_7 23 rfl rfl
theorem dX9_part_0 : decode cX9_part 0 = .ok (.aload_n 1, 1) := dk_43 (dk_at dksX9_part_0 0 rfl rfl)
theorem dX9_part_1 : decode cX9_part 1 = .ok (.ldc 50, 2) := dk_18 50 (dk_at dksX9_part_0 1 rfl rfl)
theorem dX9_part_3 : decode cX9_part 3 = .ok (.invokevirtual 52, 3) := dk_182 0 52 (dk_at dksX9_part_0 3 rfl rfl)
theorem dX9_part_6 : decode cX9_part 6 = .ok (.ifCond .eq 35, 3) := dk_153 0 35 (dk_at dksX9_part_0 6 rfl rfl)
theorem dX9_part_9 : decode cX9_part 9 = .ok (.aload_n 0, 1) := dk_42 (dk_at dksX9_part_0 9 rfl rfl)
theorem dX9_part_10 : decode cX9_part 10 = .ok (.getfield 20, 3) := dk_180 0 20 (dk_at dksX9_part_0 10 rfl rfl)
theorem dX9_part_13 : decode cX9_part 13 = .ok (.getfield 82, 3) := dk_180 0 82 (dk_at dksX9_part_0 13 rfl rfl)
theorem dX9_part_16 : decode cX9_part 16 = .ok (.invokevirtual 86, 3) := dk_182 0 86 (dk_at dksX9_part_0 16 rfl rfl)
theorem dX9_part_19 : decode cX9_part 19 = .ok (.ifCond .eq 22, 3) := dk_153 0 22 (dk_at dksX9_part_0 19 rfl rfl)
theorem dX9_part_22 : decode cX9_part 22 = .ok (.aload_n 0, 1) := dk_42 (dk_at dksX9_part_0 22 rfl rfl)
theorem dX9_part_23 : decode cX9_part 23 = .ok (.getfield 20, 3) := dk_180 0 20 (dk_at dksX9_part_1 0 rfl rfl)
theorem dX9_part_26 : decode cX9_part 26 = .ok (.getfield 73, 3) := dk_180 0 73 (dk_at dksX9_part_1 3 rfl rfl)
theorem dX9_part_29 : decode cX9_part 29 = .ok (.invokeinterface 77 1, 5) := by decide +kernel
theorem dX9_part_34 : decode cX9_part 34 = .ok (.ifCond .eq 7, 3) := dk_153 0 7 (dk_at dksX9_part_1 11 rfl rfl)
theorem dX9_part_37 : decode cX9_part 37 = .ok (.iconst 1, 1) := dk_4 (dk_at dksX9_part_1 14 rfl rfl)
theorem dX9_part_38 : decode cX9_part 38 = .ok (.goto 4, 3) := dk_167 0 4 (dk_at dksX9_part_1 15 rfl rfl)
theorem dX9_part_41 : decode cX9_part 41 = .ok (.iconst 0, 1) := dk_3 (dk_at dksX9_part_1 18 rfl rfl)
theorem dX9_part_42 : decode cX9_part 42 = .ok (.istore_n 2, 1) := dk_61 (dk_at dksX9_part_1 19 rfl rfl)
theorem dX9_part_43 : decode cX9_part 43 = .ok (.aload_n 1, 1) := dk_43 (dk_at dksX9_part_1 20 rfl rfl)
theorem dX9_part_44 : decode cX9_part 44 = .ok (.ldc 89, 2) := dk_18 89 (dk_at dksX9_part_1 21 rfl rfl)
theorem dX9_part_46 : decode cX9_part 46 = .ok (.invokevirtual 52, 3) := dk_182 0 52 (dk_at dksX9_part_2 0 rfl rfl)
theorem dX9_part_49 : decode cX9_part 49 = .ok (.ifCond .eq 22, 3) := dk_153 0 22 (dk_at dksX9_part_2 3 rfl rfl)
theorem dX9_part_52 : decode cX9_part 52 = .ok (.aload_n 0, 1) := dk_42 (dk_at dksX9_part_2 6 rfl rfl)
theorem dX9_part_53 : decode cX9_part 53 = .ok (.getfield 20, 3) := dk_180 0 20 (dk_at dksX9_part_2 7 rfl rfl)
theorem dX9_part_56 : decode cX9_part 56 = .ok (.getfield 73, 3) := dk_180 0 73 (dk_at dksX9_part_2 10 rfl rfl)
theorem dX9_part_59 : decode cX9_part 59 = .ok (.invokeinterface 77 1, 5) := by decide +kernel
theorem dX9_part_64 : decode cX9_part 64 = .ok (.ifCond .eq 7, 3) := dk_153 0 7 (dk_at dksX9_part_2 18 rfl rfl)
theorem dX9_part_67 : decode cX9_part 67 = .ok (.iconst 1, 1) := dk_4 (dk_at dksX9_part_2 21 rfl rfl)
theorem dX9_part_68 : decode cX9_part 68 = .ok (.goto 4, 3) := dk_167 0 4 (dk_at dksX9_part_3 0 rfl rfl)
theorem dX9_part_71 : decode cX9_part 71 = .ok (.iconst 0, 1) := dk_3 (dk_at dksX9_part_3 3 rfl rfl)
theorem dX9_part_72 : decode cX9_part 72 = .ok (.istore_n 3, 1) := dk_62 (dk_at dksX9_part_3 4 rfl rfl)
theorem dX9_part_73 : decode cX9_part 73 = .ok (.aload_n 0, 1) := dk_42 (dk_at dksX9_part_3 5 rfl rfl)
theorem dX9_part_74 : decode cX9_part 74 = .ok (.iload_n 2, 1) := dk_28 (dk_at dksX9_part_3 6 rfl rfl)
theorem dX9_part_75 : decode cX9_part 75 = .ok (.ifCond .ne 16, 3) := dk_154 0 16 (dk_at dksX9_part_3 7 rfl rfl)
theorem dX9_part_78 : decode cX9_part 78 = .ok (.iload_n 3, 1) := dk_29 (dk_at dksX9_part_3 10 rfl rfl)
theorem dX9_part_79 : decode cX9_part 79 = .ok (.ifCond .ne 12, 3) := dk_154 0 12 (dk_at dksX9_part_3 11 rfl rfl)
theorem dX9_part_82 : decode cX9_part 82 = .ok (.aload_n 1, 1) := dk_43 (dk_at dksX9_part_3 14 rfl rfl)
theorem dX9_part_83 : decode cX9_part 83 = .ok (.ldc 91, 2) := dk_18 91 (dk_at dksX9_part_3 15 rfl rfl)
theorem dX9_part_85 : decode cX9_part 85 = .ok (.invokevirtual 52, 3) := dk_182 0 52 (dk_at dksX9_part_3 17 rfl rfl)
theorem dX9_part_88 : decode cX9_part 88 = .ok (.ifCond .eq 7, 3) := dk_153 0 7 (dk_at dksX9_part_3 20 rfl rfl)
theorem dX9_part_91 : decode cX9_part 91 = .ok (.iconst 1, 1) := dk_4 (dk_at dksX9_part_3 23 rfl rfl)
theorem dX9_part_92 : decode cX9_part 92 = .ok (.goto 4, 3) := dk_167 0 4 (dk_at dksX9_part_4 0 rfl rfl)
theorem dX9_part_95 : decode cX9_part 95 = .ok (.iconst 0, 1) := dk_3 (dk_at dksX9_part_4 3 rfl rfl)
theorem dX9_part_96 : decode cX9_part 96 = .ok (.iconst 1, 1) := dk_4 (dk_at dksX9_part_4 4 rfl rfl)
theorem dX9_part_97 : decode cX9_part 97 = .ok (.invokevirtual 30, 3) := dk_182 0 30 (dk_at dksX9_part_4 5 rfl rfl)
theorem dX9_part_100 : decode cX9_part 100 = .ok (.aload_n 0, 1) := dk_42 (dk_at dksX9_part_4 8 rfl rfl)
theorem dX9_part_101 : decode cX9_part 101 = .ok (.iload_n 2, 1) := dk_28 (dk_at dksX9_part_4 9 rfl rfl)
theorem dX9_part_102 : decode cX9_part 102 = .ok (.ifCond .eq 28, 3) := dk_153 0 28 (dk_at dksX9_part_4 10 rfl rfl)
theorem dX9_part_105 : decode cX9_part 105 = .ok (.aload_n 0, 1) := dk_42 (dk_at dksX9_part_4 13 rfl rfl)
theorem dX9_part_106 : decode cX9_part 106 = .ok (.getfield 20, 3) := dk_180 0 20 (dk_at dksX9_part_4 14 rfl rfl)
theorem dX9_part_109 : decode cX9_part 109 = .ok (.getfield 93, 3) := dk_180 0 93 (dk_at dksX9_part_4 17 rfl rfl)
theorem dX9_part_112 : decode cX9_part 112 = .ok (.invokeinterface 96 1, 5) := by decide +kernel
theorem dX9_part_117 : decode cX9_part 117 = .ok (.bipush 8, 2) := dk_16 8 (dk_at dksX9_part_5 5 rfl rfl)
theorem dX9_part_119 : decode cX9_part 119 = .ok (.if_icmp .ge 7, 3) := dk_162 0 7 (dk_at dksX9_part_5 7 rfl rfl)
theorem dX9_part_122 : decode cX9_part 122 = .ok (.iconst 1, 1) := dk_4 (dk_at dksX9_part_5 10 rfl rfl)
theorem dX9_part_123 : decode cX9_part 123 = .ok (.goto 33, 3) := dk_167 0 33 (dk_at dksX9_part_5 11 rfl rfl)
theorem dX9_part_126 : decode cX9_part 126 = .ok (.iconst 0, 1) := dk_3 (dk_at dksX9_part_5 14 rfl rfl)
theorem dX9_part_127 : decode cX9_part 127 = .ok (.goto 29, 3) := dk_167 0 29 (dk_at dksX9_part_5 15 rfl rfl)
theorem dX9_part_130 : decode cX9_part 130 = .ok (.iload_n 3, 1) := dk_29 (dk_at dksX9_part_5 18 rfl rfl)
theorem dX9_part_131 : decode cX9_part 131 = .ok (.ifCond .ne 20, 3) := dk_154 0 20 (dk_at dksX9_part_5 19 rfl rfl)
theorem dX9_part_134 : decode cX9_part 134 = .ok (.aload_n 0, 1) := dk_42 (dk_at dksX9_part_5 22 rfl rfl)
theorem dX9_part_135 : decode cX9_part 135 = .ok (.getfield 20, 3) := dk_180 0 20 (dk_at dksX9_part_6 0 rfl rfl)
theorem dX9_part_138 : decode cX9_part 138 = .ok (.getfield 73, 3) := dk_180 0 73 (dk_at dksX9_part_6 3 rfl rfl)
theorem dX9_part_141 : decode cX9_part 141 = .ok (.invokeinterface 96 1, 5) := by decide +kernel
theorem dX9_part_146 : decode cX9_part 146 = .ok (.bipush 6, 2) := dk_16 6 (dk_at dksX9_part_6 11 rfl rfl)
theorem dX9_part_148 : decode cX9_part 148 = .ok (.if_icmp .ge 7, 3) := dk_162 0 7 (dk_at dksX9_part_6 13 rfl rfl)
theorem dX9_part_151 : decode cX9_part 151 = .ok (.iconst 1, 1) := dk_4 (dk_at dksX9_part_6 16 rfl rfl)
theorem dX9_part_152 : decode cX9_part 152 = .ok (.goto 4, 3) := dk_167 0 4 (dk_at dksX9_part_6 17 rfl rfl)
theorem dX9_part_155 : decode cX9_part 155 = .ok (.iconst 0, 1) := dk_3 (dk_at dksX9_part_6 20 rfl rfl)
theorem dX9_part_156 : decode cX9_part 156 = .ok (.iconst 5, 1) := dk_8 (dk_at dksX9_part_6 21 rfl rfl)
theorem dX9_part_157 : decode cX9_part 157 = .ok (.invokevirtual 30, 3) := dk_182 0 30 (dk_at dksX9_part_7 0 rfl rfl)
theorem dX9_part_160 : decode cX9_part 160 = .ok (.aload_n 0, 1) := dk_42 (dk_at dksX9_part_7 3 rfl rfl)
theorem dX9_part_161 : decode cX9_part 161 = .ok (.invokevirtual 66, 3) := dk_182 0 66 (dk_at dksX9_part_7 4 rfl rfl)
theorem dX9_part_164 : decode cX9_part 164 = .ok (.iload_n 2, 1) := dk_28 (dk_at dksX9_part_7 7 rfl rfl)
theorem dX9_part_165 : decode cX9_part 165 = .ok (.ifCond .eq 10, 3) := dk_153 0 10 (dk_at dksX9_part_7 8 rfl rfl)
theorem dX9_part_168 : decode cX9_part 168 = .ok (.aload_n 0, 1) := dk_42 (dk_at dksX9_part_7 11 rfl rfl)
theorem dX9_part_169 : decode cX9_part 169 = .ok (.invokevirtual 100, 3) := dk_182 0 100 (dk_at dksX9_part_7 12 rfl rfl)
theorem dX9_part_172 : decode cX9_part 172 = .ok (.goto 18, 3) := dk_167 0 18 (dk_at dksX9_part_7 15 rfl rfl)
theorem dX9_part_175 : decode cX9_part 175 = .ok (.iload_n 3, 1) := dk_29 (dk_at dksX9_part_7 18 rfl rfl)
theorem dX9_part_176 : decode cX9_part 176 = .ok (.ifCond .eq 10, 3) := dk_153 0 10 (dk_at dksX9_part_7 19 rfl rfl)
theorem dX9_part_179 : decode cX9_part 179 = .ok (.aload_n 0, 1) := dk_42 (dk_at dksX9_part_7 22 rfl rfl)
theorem dX9_part_180 : decode cX9_part 180 = .ok (.invokevirtual 102, 3) := dk_182 0 102 (dk_at dksX9_part_8 0 rfl rfl)
theorem dX9_part_183 : decode cX9_part 183 = .ok (.goto 7, 3) := dk_167 0 7 (dk_at dksX9_part_8 3 rfl rfl)
theorem dX9_part_186 : decode cX9_part 186 = .ok (.aload_n 0, 1) := dk_42 (dk_at dksX9_part_8 6 rfl rfl)
theorem dX9_part_187 : decode cX9_part 187 = .ok (.invokevirtual 104, 3) := dk_182 0 104 (dk_at dksX9_part_8 7 rfl rfl)
theorem dX9_part_190 : decode cX9_part 190 = .ok (.return_, 1) := dk_177 (dk_at dksX9_part_8 10 rfl rfl)
abbrev cX9_arm : ByteArray := prog_14_method_4_code
def yX9_arm : MethodName := ⟨RX9, "arm", "()V"⟩
def dkwX9_arm_2 : List UInt8 := [183, 0, 121, 182, 0, 124, 177]
abbrev dktX9_arm_2 : List UInt8 := dkwX9_arm_2 ++ []
def dkwX9_arm_1 : List UInt8 := [182, 0, 30, 42, 180, 0, 20, 187, 0, 113, 89, 42, 182, 0, 115, 187, 0, 118, 89, 183, 0, 120]
abbrev dktX9_arm_1 : List UInt8 := dkwX9_arm_1 ++ dktX9_arm_2
def dkwX9_arm_0 : List UInt8 := [42, 42, 180, 0, 20, 42, 182, 0, 106, 182, 0, 109, 2, 160, 0, 7, 4, 167, 0, 4, 3, 6]
abbrev dktX9_arm_0 : List UInt8 := dkwX9_arm_0 ++ dktX9_arm_1
theorem dksX9_arm_0 : cX9_arm.data.toList.drop 0 = dktX9_arm_0 := by decide +kernel
theorem dksX9_arm_1 : cX9_arm.data.toList.drop 22 = dktX9_arm_1 := dk_seg dksX9_arm_0 22 rfl rfl
theorem dksX9_arm_2 : cX9_arm.data.toList.drop 44 = dktX9_arm_2 := dk_seg dksX9_arm_1 22 rfl rfl
theorem dX9_arm_0 : decode cX9_arm 0 = .ok (.aload_n 0, 1) := dk_42 (dk_at dksX9_arm_0 0 rfl rfl)
theorem dX9_arm_1 : decode cX9_arm 1 = .ok (.aload_n 0, 1) := dk_42 (dk_at dksX9_arm_0 1 rfl rfl)
theorem dX9_arm_2 : decode cX9_arm 2 = .ok (.getfield 20, 3) := dk_180 0 20 (dk_at dksX9_arm_0 2 rfl rfl)
theorem dX9_arm_5 : decode cX9_arm 5 = .ok (.aload_n 0, 1) := dk_42 (dk_at dksX9_arm_0 5 rfl rfl)
theorem dX9_arm_6 : decode cX9_arm 6 = .ok (.invokevirtual 106, 3) := dk_182 0 106 (dk_at dksX9_arm_0 6 rfl rfl)
theorem dX9_arm_9 : decode cX9_arm 9 = .ok (.invokevirtual 109, 3) := dk_182 0 109 (dk_at dksX9_arm_0 9 rfl rfl)
theorem dX9_arm_12 : decode cX9_arm 12 = .ok (.iconst (-1), 1) := dk_2 (dk_at dksX9_arm_0 12 rfl rfl)
theorem dX9_arm_13 : decode cX9_arm 13 = .ok (.if_icmp .ne 7, 3) := dk_160 0 7 (dk_at dksX9_arm_0 13 rfl rfl)
theorem dX9_arm_16 : decode cX9_arm 16 = .ok (.iconst 1, 1) := dk_4 (dk_at dksX9_arm_0 16 rfl rfl)
theorem dX9_arm_17 : decode cX9_arm 17 = .ok (.goto 4, 3) := dk_167 0 4 (dk_at dksX9_arm_0 17 rfl rfl)
theorem dX9_arm_20 : decode cX9_arm 20 = .ok (.iconst 0, 1) := dk_3 (dk_at dksX9_arm_0 20 rfl rfl)
theorem dX9_arm_21 : decode cX9_arm 21 = .ok (.iconst 3, 1) := dk_6 (dk_at dksX9_arm_0 21 rfl rfl)
theorem dX9_arm_22 : decode cX9_arm 22 = .ok (.invokevirtual 30, 3) := dk_182 0 30 (dk_at dksX9_arm_1 0 rfl rfl)
theorem dX9_arm_25 : decode cX9_arm 25 = .ok (.aload_n 0, 1) := dk_42 (dk_at dksX9_arm_1 3 rfl rfl)
theorem dX9_arm_26 : decode cX9_arm 26 = .ok (.getfield 20, 3) := dk_180 0 20 (dk_at dksX9_arm_1 4 rfl rfl)
theorem dX9_arm_29 : decode cX9_arm 29 = .ok (.new 113, 3) := dk_187 0 113 (dk_at dksX9_arm_1 7 rfl rfl)
theorem dX9_arm_32 : decode cX9_arm 32 = .ok (.dup, 1) := dk_89 (dk_at dksX9_arm_1 10 rfl rfl)
theorem dX9_arm_33 : decode cX9_arm 33 = .ok (.aload_n 0, 1) := dk_42 (dk_at dksX9_arm_1 11 rfl rfl)
theorem dX9_arm_34 : decode cX9_arm 34 = .ok (.invokevirtual 115, 3) := dk_182 0 115 (dk_at dksX9_arm_1 12 rfl rfl)
theorem dX9_arm_37 : decode cX9_arm 37 = .ok (.new 118, 3) := dk_187 0 118 (dk_at dksX9_arm_1 15 rfl rfl)
theorem dX9_arm_40 : decode cX9_arm 40 = .ok (.dup, 1) := dk_89 (dk_at dksX9_arm_1 18 rfl rfl)
theorem dX9_arm_41 : decode cX9_arm 41 = .ok (.invokespecial 120, 3) := dk_183 0 120 (dk_at dksX9_arm_1 19 rfl rfl)
theorem dX9_arm_44 : decode cX9_arm 44 = .ok (.invokespecial 121, 3) := dk_183 0 121 (dk_at dksX9_arm_2 0 rfl rfl)
theorem dX9_arm_47 : decode cX9_arm 47 = .ok (.invokevirtual 124, 3) := dk_182 0 124 (dk_at dksX9_arm_2 3 rfl rfl)
theorem dX9_arm_50 : decode cX9_arm 50 = .ok (.return_, 1) := dk_177 (dk_at dksX9_arm_2 6 rfl rfl)
abbrev cX9_clash : ByteArray := prog_14_method_5_code
def yX9_clash : MethodName := ⟨RX9, "clash", "()V"⟩
def dkwX9_clash_3 : List UInt8 := [182, 0, 30, 42, 182, 0, 66, 42, 180, 0, 20, 187, 0, 128, 89, 27, 28, 183, 0, 130, 182, 0, 133, 177]
abbrev dktX9_clash_3 : List UInt8 := dkwX9_clash_3 ++ []
def dkwX9_clash_2 : List UInt8 := [159, 0, 7, 4, 167, 0, 4, 3, 6, 182, 0, 30, 42, 28, 2, 159, 0, 7, 4, 167, 0, 4, 3, 7]
abbrev dktX9_clash_2 : List UInt8 := dkwX9_clash_2 ++ dktX9_clash_3
def dkwX9_clash_1 : List UInt8 := [182, 0, 30, 42, 182, 0, 66, 42, 180, 0, 20, 42, 182, 0, 106, 182, 0, 109, 61, 42, 28, 27]
abbrev dktX9_clash_1 : List UInt8 := dkwX9_clash_1 ++ dktX9_clash_2
def dkwX9_clash_0 : List UInt8 := [42, 180, 0, 20, 42, 182, 0, 106, 182, 0, 109, 60, 42, 27, 2, 159, 0, 7, 4, 167, 0, 4, 3, 7]
abbrev dktX9_clash_0 : List UInt8 := dkwX9_clash_0 ++ dktX9_clash_1
theorem dksX9_clash_0 : cX9_clash.data.toList.drop 0 = dktX9_clash_0 := by decide +kernel
theorem dksX9_clash_1 : cX9_clash.data.toList.drop 24 = dktX9_clash_1 := dk_seg dksX9_clash_0 24 rfl rfl
theorem dksX9_clash_2 : cX9_clash.data.toList.drop 46 = dktX9_clash_2 := dk_seg dksX9_clash_1 22 rfl rfl
theorem dksX9_clash_3 : cX9_clash.data.toList.drop 70 = dktX9_clash_3 := dk_seg dksX9_clash_2 24 rfl rfl
theorem dX9_clash_0 : decode cX9_clash 0 = .ok (.aload_n 0, 1) := dk_42 (dk_at dksX9_clash_0 0 rfl rfl)
theorem dX9_clash_1 : decode cX9_clash 1 = .ok (.getfield 20, 3) := dk_180 0 20 (dk_at dksX9_clash_0 1 rfl rfl)
theorem dX9_clash_4 : decode cX9_clash 4 = .ok (.aload_n 0, 1) := dk_42 (dk_at dksX9_clash_0 4 rfl rfl)
theorem dX9_clash_5 : decode cX9_clash 5 = .ok (.invokevirtual 106, 3) := dk_182 0 106 (dk_at dksX9_clash_0 5 rfl rfl)
theorem dX9_clash_8 : decode cX9_clash 8 = .ok (.invokevirtual 109, 3) := dk_182 0 109 (dk_at dksX9_clash_0 8 rfl rfl)
theorem dX9_clash_11 : decode cX9_clash 11 = .ok (.istore_n 1, 1) := dk_60 (dk_at dksX9_clash_0 11 rfl rfl)
theorem dX9_clash_12 : decode cX9_clash 12 = .ok (.aload_n 0, 1) := dk_42 (dk_at dksX9_clash_0 12 rfl rfl)
theorem dX9_clash_13 : decode cX9_clash 13 = .ok (.iload_n 1, 1) := dk_27 (dk_at dksX9_clash_0 13 rfl rfl)
theorem dX9_clash_14 : decode cX9_clash 14 = .ok (.iconst (-1), 1) := dk_2 (dk_at dksX9_clash_0 14 rfl rfl)
theorem dX9_clash_15 : decode cX9_clash 15 = .ok (.if_icmp .eq 7, 3) := dk_159 0 7 (dk_at dksX9_clash_0 15 rfl rfl)
theorem dX9_clash_18 : decode cX9_clash 18 = .ok (.iconst 1, 1) := dk_4 (dk_at dksX9_clash_0 18 rfl rfl)
theorem dX9_clash_19 : decode cX9_clash 19 = .ok (.goto 4, 3) := dk_167 0 4 (dk_at dksX9_clash_0 19 rfl rfl)
theorem dX9_clash_22 : decode cX9_clash 22 = .ok (.iconst 0, 1) := dk_3 (dk_at dksX9_clash_0 22 rfl rfl)
theorem dX9_clash_23 : decode cX9_clash 23 = .ok (.iconst 4, 1) := dk_7 (dk_at dksX9_clash_0 23 rfl rfl)
theorem dX9_clash_24 : decode cX9_clash 24 = .ok (.invokevirtual 30, 3) := dk_182 0 30 (dk_at dksX9_clash_1 0 rfl rfl)
theorem dX9_clash_27 : decode cX9_clash 27 = .ok (.aload_n 0, 1) := dk_42 (dk_at dksX9_clash_1 3 rfl rfl)
theorem dX9_clash_28 : decode cX9_clash 28 = .ok (.invokevirtual 66, 3) := dk_182 0 66 (dk_at dksX9_clash_1 4 rfl rfl)
theorem dX9_clash_31 : decode cX9_clash 31 = .ok (.aload_n 0, 1) := dk_42 (dk_at dksX9_clash_1 7 rfl rfl)
theorem dX9_clash_32 : decode cX9_clash 32 = .ok (.getfield 20, 3) := dk_180 0 20 (dk_at dksX9_clash_1 8 rfl rfl)
theorem dX9_clash_35 : decode cX9_clash 35 = .ok (.aload_n 0, 1) := dk_42 (dk_at dksX9_clash_1 11 rfl rfl)
theorem dX9_clash_36 : decode cX9_clash 36 = .ok (.invokevirtual 106, 3) := dk_182 0 106 (dk_at dksX9_clash_1 12 rfl rfl)
theorem dX9_clash_39 : decode cX9_clash 39 = .ok (.invokevirtual 109, 3) := dk_182 0 109 (dk_at dksX9_clash_1 15 rfl rfl)
theorem dX9_clash_42 : decode cX9_clash 42 = .ok (.istore_n 2, 1) := dk_61 (dk_at dksX9_clash_1 18 rfl rfl)
theorem dX9_clash_43 : decode cX9_clash 43 = .ok (.aload_n 0, 1) := dk_42 (dk_at dksX9_clash_1 19 rfl rfl)
theorem dX9_clash_44 : decode cX9_clash 44 = .ok (.iload_n 2, 1) := dk_28 (dk_at dksX9_clash_1 20 rfl rfl)
theorem dX9_clash_45 : decode cX9_clash 45 = .ok (.iload_n 1, 1) := dk_27 (dk_at dksX9_clash_1 21 rfl rfl)
theorem dX9_clash_46 : decode cX9_clash 46 = .ok (.if_icmp .eq 7, 3) := dk_159 0 7 (dk_at dksX9_clash_2 0 rfl rfl)
theorem dX9_clash_49 : decode cX9_clash 49 = .ok (.iconst 1, 1) := dk_4 (dk_at dksX9_clash_2 3 rfl rfl)
theorem dX9_clash_50 : decode cX9_clash 50 = .ok (.goto 4, 3) := dk_167 0 4 (dk_at dksX9_clash_2 4 rfl rfl)
theorem dX9_clash_53 : decode cX9_clash 53 = .ok (.iconst 0, 1) := dk_3 (dk_at dksX9_clash_2 7 rfl rfl)
theorem dX9_clash_54 : decode cX9_clash 54 = .ok (.iconst 3, 1) := dk_6 (dk_at dksX9_clash_2 8 rfl rfl)
theorem dX9_clash_55 : decode cX9_clash 55 = .ok (.invokevirtual 30, 3) := dk_182 0 30 (dk_at dksX9_clash_2 9 rfl rfl)
theorem dX9_clash_58 : decode cX9_clash 58 = .ok (.aload_n 0, 1) := dk_42 (dk_at dksX9_clash_2 12 rfl rfl)
theorem dX9_clash_59 : decode cX9_clash 59 = .ok (.iload_n 2, 1) := dk_28 (dk_at dksX9_clash_2 13 rfl rfl)
theorem dX9_clash_60 : decode cX9_clash 60 = .ok (.iconst (-1), 1) := dk_2 (dk_at dksX9_clash_2 14 rfl rfl)
theorem dX9_clash_61 : decode cX9_clash 61 = .ok (.if_icmp .eq 7, 3) := dk_159 0 7 (dk_at dksX9_clash_2 15 rfl rfl)
theorem dX9_clash_64 : decode cX9_clash 64 = .ok (.iconst 1, 1) := dk_4 (dk_at dksX9_clash_2 18 rfl rfl)
theorem dX9_clash_65 : decode cX9_clash 65 = .ok (.goto 4, 3) := dk_167 0 4 (dk_at dksX9_clash_2 19 rfl rfl)
theorem dX9_clash_68 : decode cX9_clash 68 = .ok (.iconst 0, 1) := dk_3 (dk_at dksX9_clash_2 22 rfl rfl)
theorem dX9_clash_69 : decode cX9_clash 69 = .ok (.iconst 4, 1) := dk_7 (dk_at dksX9_clash_2 23 rfl rfl)
theorem dX9_clash_70 : decode cX9_clash 70 = .ok (.invokevirtual 30, 3) := dk_182 0 30 (dk_at dksX9_clash_3 0 rfl rfl)
theorem dX9_clash_73 : decode cX9_clash 73 = .ok (.aload_n 0, 1) := dk_42 (dk_at dksX9_clash_3 3 rfl rfl)
theorem dX9_clash_74 : decode cX9_clash 74 = .ok (.invokevirtual 66, 3) := dk_182 0 66 (dk_at dksX9_clash_3 4 rfl rfl)
theorem dX9_clash_77 : decode cX9_clash 77 = .ok (.aload_n 0, 1) := dk_42 (dk_at dksX9_clash_3 7 rfl rfl)
theorem dX9_clash_78 : decode cX9_clash 78 = .ok (.getfield 20, 3) := dk_180 0 20 (dk_at dksX9_clash_3 8 rfl rfl)
theorem dX9_clash_81 : decode cX9_clash 81 = .ok (.new 128, 3) := dk_187 0 128 (dk_at dksX9_clash_3 11 rfl rfl)
theorem dX9_clash_84 : decode cX9_clash 84 = .ok (.dup, 1) := dk_89 (dk_at dksX9_clash_3 14 rfl rfl)
theorem dX9_clash_85 : decode cX9_clash 85 = .ok (.iload_n 1, 1) := dk_27 (dk_at dksX9_clash_3 15 rfl rfl)
theorem dX9_clash_86 : decode cX9_clash 86 = .ok (.iload_n 2, 1) := dk_28 (dk_at dksX9_clash_3 16 rfl rfl)
theorem dX9_clash_87 : decode cX9_clash 87 = .ok (.invokespecial 130, 3) := dk_183 0 130 (dk_at dksX9_clash_3 17 rfl rfl)
theorem dX9_clash_90 : decode cX9_clash 90 = .ok (.invokevirtual 133, 3) := dk_182 0 133 (dk_at dksX9_clash_3 20 rfl rfl)
theorem dX9_clash_93 : decode cX9_clash 93 = .ok (.return_, 1) := dk_177 (dk_at dksX9_clash_3 23 rfl rfl)
abbrev cX9_phase : ByteArray := prog_14_method_7_code
def yX9_phase : MethodName := ⟨RX9, "phase", "()V"⟩
def dkwX9_phase_4 : List UInt8 := [182, 0, 66, 43, 180, 0, 166, 29, 182, 0, 169, 167, 255, 191, 42, 180, 0, 20, 43, 182, 0, 174, 177]
abbrev dktX9_phase_4 : List UInt8 := dkwX9_phase_4 ++ []
def dkwX9_phase_3 : List UInt8 := [167, 0, 4, 3, 6, 182, 0, 30, 42, 29, 2, 159, 0, 7, 4, 167, 0, 4, 3, 7, 182, 0, 30, 42]
abbrev dktX9_phase_3 : List UInt8 := dkwX9_phase_3 ++ dktX9_phase_4
def dkwX9_phase_2 : List UInt8 := [180, 0, 20, 42, 182, 0, 106, 182, 0, 109, 62, 42, 42, 43, 29, 182, 0, 162, 154, 0, 7, 4]
abbrev dktX9_phase_2 : List UInt8 := dkwX9_phase_2 ++ dktX9_phase_3
def dkwX9_phase_1 : List UInt8 := [180, 0, 152, 16, 99, 182, 0, 38, 181, 0, 156, 42, 182, 0, 106, 77, 42, 182, 0, 159, 153, 0, 64, 42]
abbrev dktX9_phase_1 : List UInt8 := dkwX9_phase_1 ++ dktX9_phase_2
def dkwX9_phase_0 : List UInt8 := [187, 0, 137, 89, 183, 0, 151, 76, 43, 42, 4, 16, 60, 182, 0, 38, 181, 0, 152, 43, 42, 43]
abbrev dktX9_phase_0 : List UInt8 := dkwX9_phase_0 ++ dktX9_phase_1
theorem dksX9_phase_0 : cX9_phase.data.toList.drop 0 = dktX9_phase_0 := by decide +kernel
theorem dksX9_phase_1 : cX9_phase.data.toList.drop 22 = dktX9_phase_1 := dk_seg dksX9_phase_0 22 rfl rfl
theorem dksX9_phase_2 : cX9_phase.data.toList.drop 46 = dktX9_phase_2 := dk_seg dksX9_phase_1 24 rfl rfl
theorem dksX9_phase_3 : cX9_phase.data.toList.drop 68 = dktX9_phase_3 := dk_seg dksX9_phase_2 22 rfl rfl
theorem dksX9_phase_4 : cX9_phase.data.toList.drop 92 = dktX9_phase_4 := dk_seg dksX9_phase_3 24 rfl rfl
theorem dX9_phase_0 : decode cX9_phase 0 = .ok (.new 137, 3) := dk_187 0 137 (dk_at dksX9_phase_0 0 rfl rfl)
theorem dX9_phase_3 : decode cX9_phase 3 = .ok (.dup, 1) := dk_89 (dk_at dksX9_phase_0 3 rfl rfl)
theorem dX9_phase_4 : decode cX9_phase 4 = .ok (.invokespecial 151, 3) := dk_183 0 151 (dk_at dksX9_phase_0 4 rfl rfl)
theorem dX9_phase_7 : decode cX9_phase 7 = .ok (.astore_n 1, 1) := dk_76 (dk_at dksX9_phase_0 7 rfl rfl)
theorem dX9_phase_8 : decode cX9_phase 8 = .ok (.aload_n 1, 1) := dk_43 (dk_at dksX9_phase_0 8 rfl rfl)
theorem dX9_phase_9 : decode cX9_phase 9 = .ok (.aload_n 0, 1) := dk_42 (dk_at dksX9_phase_0 9 rfl rfl)
theorem dX9_phase_10 : decode cX9_phase 10 = .ok (.iconst 1, 1) := dk_4 (dk_at dksX9_phase_0 10 rfl rfl)
theorem dX9_phase_11 : decode cX9_phase 11 = .ok (.bipush 60, 2) := dk_16 60 (dk_at dksX9_phase_0 11 rfl rfl)
theorem dX9_phase_13 : decode cX9_phase 13 = .ok (.invokevirtual 38, 3) := dk_182 0 38 (dk_at dksX9_phase_0 13 rfl rfl)
theorem dX9_phase_16 : decode cX9_phase 16 = .ok (.putfield 152, 3) := dk_181 0 152 (dk_at dksX9_phase_0 16 rfl rfl)
theorem dX9_phase_19 : decode cX9_phase 19 = .ok (.aload_n 1, 1) := dk_43 (dk_at dksX9_phase_0 19 rfl rfl)
theorem dX9_phase_20 : decode cX9_phase 20 = .ok (.aload_n 0, 1) := dk_42 (dk_at dksX9_phase_0 20 rfl rfl)
theorem dX9_phase_21 : decode cX9_phase 21 = .ok (.aload_n 1, 1) := dk_43 (dk_at dksX9_phase_0 21 rfl rfl)
theorem dX9_phase_22 : decode cX9_phase 22 = .ok (.getfield 152, 3) := dk_180 0 152 (dk_at dksX9_phase_1 0 rfl rfl)
theorem dX9_phase_25 : decode cX9_phase 25 = .ok (.bipush 99, 2) := dk_16 99 (dk_at dksX9_phase_1 3 rfl rfl)
theorem dX9_phase_27 : decode cX9_phase 27 = .ok (.invokevirtual 38, 3) := dk_182 0 38 (dk_at dksX9_phase_1 5 rfl rfl)
theorem dX9_phase_30 : decode cX9_phase 30 = .ok (.putfield 156, 3) := dk_181 0 156 (dk_at dksX9_phase_1 8 rfl rfl)
theorem dX9_phase_33 : decode cX9_phase 33 = .ok (.aload_n 0, 1) := dk_42 (dk_at dksX9_phase_1 11 rfl rfl)
theorem dX9_phase_34 : decode cX9_phase 34 = .ok (.invokevirtual 106, 3) := dk_182 0 106 (dk_at dksX9_phase_1 12 rfl rfl)
theorem dX9_phase_37 : decode cX9_phase 37 = .ok (.astore_n 2, 1) := dk_77 (dk_at dksX9_phase_1 15 rfl rfl)
theorem dX9_phase_38 : decode cX9_phase 38 = .ok (.aload_n 0, 1) := dk_42 (dk_at dksX9_phase_1 16 rfl rfl)
theorem dX9_phase_39 : decode cX9_phase 39 = .ok (.invokevirtual 159, 3) := dk_182 0 159 (dk_at dksX9_phase_1 17 rfl rfl)
theorem dX9_phase_42 : decode cX9_phase 42 = .ok (.ifCond .eq 64, 3) := dk_153 0 64 (dk_at dksX9_phase_1 20 rfl rfl)
theorem dX9_phase_45 : decode cX9_phase 45 = .ok (.aload_n 0, 1) := dk_42 (dk_at dksX9_phase_1 23 rfl rfl)
theorem dX9_phase_46 : decode cX9_phase 46 = .ok (.getfield 20, 3) := dk_180 0 20 (dk_at dksX9_phase_2 0 rfl rfl)
theorem dX9_phase_49 : decode cX9_phase 49 = .ok (.aload_n 0, 1) := dk_42 (dk_at dksX9_phase_2 3 rfl rfl)
theorem dX9_phase_50 : decode cX9_phase 50 = .ok (.invokevirtual 106, 3) := dk_182 0 106 (dk_at dksX9_phase_2 4 rfl rfl)
theorem dX9_phase_53 : decode cX9_phase 53 = .ok (.invokevirtual 109, 3) := dk_182 0 109 (dk_at dksX9_phase_2 7 rfl rfl)
theorem dX9_phase_56 : decode cX9_phase 56 = .ok (.istore_n 3, 1) := dk_62 (dk_at dksX9_phase_2 10 rfl rfl)
theorem dX9_phase_57 : decode cX9_phase 57 = .ok (.aload_n 0, 1) := dk_42 (dk_at dksX9_phase_2 11 rfl rfl)
theorem dX9_phase_58 : decode cX9_phase 58 = .ok (.aload_n 0, 1) := dk_42 (dk_at dksX9_phase_2 12 rfl rfl)
theorem dX9_phase_59 : decode cX9_phase 59 = .ok (.aload_n 1, 1) := dk_43 (dk_at dksX9_phase_2 13 rfl rfl)
theorem dX9_phase_60 : decode cX9_phase 60 = .ok (.iload_n 3, 1) := dk_29 (dk_at dksX9_phase_2 14 rfl rfl)
theorem dX9_phase_61 : decode cX9_phase 61 = .ok (.invokevirtual 162, 3) := dk_182 0 162 (dk_at dksX9_phase_2 15 rfl rfl)
theorem dX9_phase_64 : decode cX9_phase 64 = .ok (.ifCond .ne 7, 3) := dk_154 0 7 (dk_at dksX9_phase_2 18 rfl rfl)
theorem dX9_phase_67 : decode cX9_phase 67 = .ok (.iconst 1, 1) := dk_4 (dk_at dksX9_phase_2 21 rfl rfl)
theorem dX9_phase_68 : decode cX9_phase 68 = .ok (.goto 4, 3) := dk_167 0 4 (dk_at dksX9_phase_3 0 rfl rfl)
theorem dX9_phase_71 : decode cX9_phase 71 = .ok (.iconst 0, 1) := dk_3 (dk_at dksX9_phase_3 3 rfl rfl)
theorem dX9_phase_72 : decode cX9_phase 72 = .ok (.iconst 3, 1) := dk_6 (dk_at dksX9_phase_3 4 rfl rfl)
theorem dX9_phase_73 : decode cX9_phase 73 = .ok (.invokevirtual 30, 3) := dk_182 0 30 (dk_at dksX9_phase_3 5 rfl rfl)
theorem dX9_phase_76 : decode cX9_phase 76 = .ok (.aload_n 0, 1) := dk_42 (dk_at dksX9_phase_3 8 rfl rfl)
theorem dX9_phase_77 : decode cX9_phase 77 = .ok (.iload_n 3, 1) := dk_29 (dk_at dksX9_phase_3 9 rfl rfl)
theorem dX9_phase_78 : decode cX9_phase 78 = .ok (.iconst (-1), 1) := dk_2 (dk_at dksX9_phase_3 10 rfl rfl)
theorem dX9_phase_79 : decode cX9_phase 79 = .ok (.if_icmp .eq 7, 3) := dk_159 0 7 (dk_at dksX9_phase_3 11 rfl rfl)
theorem dX9_phase_82 : decode cX9_phase 82 = .ok (.iconst 1, 1) := dk_4 (dk_at dksX9_phase_3 14 rfl rfl)
theorem dX9_phase_83 : decode cX9_phase 83 = .ok (.goto 4, 3) := dk_167 0 4 (dk_at dksX9_phase_3 15 rfl rfl)
theorem dX9_phase_86 : decode cX9_phase 86 = .ok (.iconst 0, 1) := dk_3 (dk_at dksX9_phase_3 18 rfl rfl)
theorem dX9_phase_87 : decode cX9_phase 87 = .ok (.iconst 4, 1) := dk_7 (dk_at dksX9_phase_3 19 rfl rfl)
theorem dX9_phase_88 : decode cX9_phase 88 = .ok (.invokevirtual 30, 3) := dk_182 0 30 (dk_at dksX9_phase_3 20 rfl rfl)
theorem dX9_phase_91 : decode cX9_phase 91 = .ok (.aload_n 0, 1) := dk_42 (dk_at dksX9_phase_3 23 rfl rfl)
theorem dX9_phase_92 : decode cX9_phase 92 = .ok (.invokevirtual 66, 3) := dk_182 0 66 (dk_at dksX9_phase_4 0 rfl rfl)
theorem dX9_phase_95 : decode cX9_phase 95 = .ok (.aload_n 1, 1) := dk_43 (dk_at dksX9_phase_4 3 rfl rfl)
theorem dX9_phase_96 : decode cX9_phase 96 = .ok (.getfield 166, 3) := dk_180 0 166 (dk_at dksX9_phase_4 4 rfl rfl)
theorem dX9_phase_99 : decode cX9_phase 99 = .ok (.iload_n 3, 1) := dk_29 (dk_at dksX9_phase_4 7 rfl rfl)
theorem dX9_phase_100 : decode cX9_phase 100 = .ok (.invokevirtual 169, 3) := dk_182 0 169 (dk_at dksX9_phase_4 8 rfl rfl)
theorem dX9_phase_103 : decode cX9_phase 103 = .ok (.goto (-65), 3) := dk_167 255 191 (dk_at dksX9_phase_4 11 rfl rfl)
theorem dX9_phase_106 : decode cX9_phase 106 = .ok (.aload_n 0, 1) := dk_42 (dk_at dksX9_phase_4 14 rfl rfl)
theorem dX9_phase_107 : decode cX9_phase 107 = .ok (.getfield 20, 3) := dk_180 0 20 (dk_at dksX9_phase_4 15 rfl rfl)
theorem dX9_phase_110 : decode cX9_phase 110 = .ok (.aload_n 1, 1) := dk_43 (dk_at dksX9_phase_4 18 rfl rfl)
theorem dX9_phase_111 : decode cX9_phase 111 = .ok (.invokevirtual 174, 3) := dk_182 0 174 (dk_at dksX9_phase_4 19 rfl rfl)
theorem dX9_phase_114 : decode cX9_phase 114 = .ok (.return_, 1) := dk_177 (dk_at dksX9_phase_4 22 rfl rfl)
abbrev cX9_isAgainst : ByteArray := prog_14_method_6_code
def yX9_isAgainst : MethodName := ⟨RX9, "isAgainst", "(LLoopSignals$Phase;I)Z"⟩
def dkwX9_isAgainst_2 : List UInt8 := [172]
abbrev dktX9_isAgainst_2 : List UInt8 := dkwX9_isAgainst_2 ++ []
def dkwX9_isAgainst_1 : List UInt8 := [185, 0, 96, 1, 0, 42, 43, 28, 186, 0, 141, 0, 0, 184, 0, 145, 158, 0, 7, 4, 167, 0, 4, 3]
abbrev dktX9_isAgainst_1 : List UInt8 := dkwX9_isAgainst_1 ++ dktX9_isAgainst_2
def dkwX9_isAgainst_0 : List UInt8 := [28, 2, 159, 0, 41, 43, 28, 182, 0, 136, 154, 0, 29, 42, 180, 0, 20, 180, 0, 93]
abbrev dktX9_isAgainst_0 : List UInt8 := dkwX9_isAgainst_0 ++ dktX9_isAgainst_1
theorem dksX9_isAgainst_0 : cX9_isAgainst.data.toList.drop 0 = dktX9_isAgainst_0 := by decide +kernel
theorem dksX9_isAgainst_1 : cX9_isAgainst.data.toList.drop 20 = dktX9_isAgainst_1 := dk_seg dksX9_isAgainst_0 20 rfl rfl
theorem dksX9_isAgainst_2 : cX9_isAgainst.data.toList.drop 44 = dktX9_isAgainst_2 := dk_seg dksX9_isAgainst_1 24 rfl rfl
theorem dX9_isAgainst_0 : decode cX9_isAgainst 0 = .ok (.iload_n 2, 1) := dk_28 (dk_at dksX9_isAgainst_0 0 rfl rfl)
theorem dX9_isAgainst_1 : decode cX9_isAgainst 1 = .ok (.iconst (-1), 1) := dk_2 (dk_at dksX9_isAgainst_0 1 rfl rfl)
theorem dX9_isAgainst_2 : decode cX9_isAgainst 2 = .ok (.if_icmp .eq 41, 3) := dk_159 0 41 (dk_at dksX9_isAgainst_0 2 rfl rfl)
theorem dX9_isAgainst_5 : decode cX9_isAgainst 5 = .ok (.aload_n 1, 1) := dk_43 (dk_at dksX9_isAgainst_0 5 rfl rfl)
theorem dX9_isAgainst_6 : decode cX9_isAgainst 6 = .ok (.iload_n 2, 1) := dk_28 (dk_at dksX9_isAgainst_0 6 rfl rfl)
theorem dX9_isAgainst_7 : decode cX9_isAgainst 7 = .ok (.invokevirtual 136, 3) := dk_182 0 136 (dk_at dksX9_isAgainst_0 7 rfl rfl)
theorem dX9_isAgainst_10 : decode cX9_isAgainst 10 = .ok (.ifCond .ne 29, 3) := dk_154 0 29 (dk_at dksX9_isAgainst_0 10 rfl rfl)
theorem dX9_isAgainst_13 : decode cX9_isAgainst 13 = .ok (.aload_n 0, 1) := dk_42 (dk_at dksX9_isAgainst_0 13 rfl rfl)
theorem dX9_isAgainst_14 : decode cX9_isAgainst 14 = .ok (.getfield 20, 3) := dk_180 0 20 (dk_at dksX9_isAgainst_0 14 rfl rfl)
theorem dX9_isAgainst_17 : decode cX9_isAgainst 17 = .ok (.getfield 93, 3) := dk_180 0 93 (dk_at dksX9_isAgainst_0 17 rfl rfl)
theorem dX9_isAgainst_20 : decode cX9_isAgainst 20 = .ok (.invokeinterface 96 1, 5) := by decide +kernel
theorem dX9_isAgainst_25 : decode cX9_isAgainst 25 = .ok (.aload_n 0, 1) := dk_42 (dk_at dksX9_isAgainst_1 5 rfl rfl)
theorem dX9_isAgainst_26 : decode cX9_isAgainst 26 = .ok (.aload_n 1, 1) := dk_43 (dk_at dksX9_isAgainst_1 6 rfl rfl)
theorem dX9_isAgainst_27 : decode cX9_isAgainst 27 = .ok (.iload_n 2, 1) := dk_28 (dk_at dksX9_isAgainst_1 7 rfl rfl)
theorem dX9_isAgainst_28 : decode cX9_isAgainst 28 = .ok (.invokedynamic 141, 5) := by decide +kernel
theorem dX9_isAgainst_33 : decode cX9_isAgainst 33 = .ok (.invokestatic 145, 3) := dk_184 0 145 (dk_at dksX9_isAgainst_1 13 rfl rfl)
theorem dX9_isAgainst_36 : decode cX9_isAgainst 36 = .ok (.ifCond .le 7, 3) := dk_158 0 7 (dk_at dksX9_isAgainst_1 16 rfl rfl)
theorem dX9_isAgainst_39 : decode cX9_isAgainst 39 = .ok (.iconst 1, 1) := dk_4 (dk_at dksX9_isAgainst_1 19 rfl rfl)
theorem dX9_isAgainst_40 : decode cX9_isAgainst 40 = .ok (.goto 4, 3) := dk_167 0 4 (dk_at dksX9_isAgainst_1 20 rfl rfl)
theorem dX9_isAgainst_43 : decode cX9_isAgainst 43 = .ok (.iconst 0, 1) := dk_3 (dk_at dksX9_isAgainst_1 23 rfl rfl)
theorem dX9_isAgainst_44 : decode cX9_isAgainst 44 = .ok (.ireturn, 1) := dk_172 (dk_at dksX9_isAgainst_2 0 rfl rfl)
abbrev cX9_lambda_isAgainst_0 : ByteArray := prog_14_method_8_code
def yX9_lambda_isAgainst_0 : MethodName := ⟨RX9, "lambda$isAgainst$0", "(LLoopSignals$Phase;II)Z"⟩
def dkwX9_lambda_isAgainst_0_1 : List UInt8 := [3, 172]
abbrev dktX9_lambda_isAgainst_0_1 : List UInt8 := dkwX9_lambda_isAgainst_0_1 ++ []
def dkwX9_lambda_isAgainst_0_0 : List UInt8 := [43, 29, 182, 0, 136, 153, 0, 19, 42, 180, 0, 20, 29, 28, 182, 0, 177, 153, 0, 7, 4, 167, 0, 4]
abbrev dktX9_lambda_isAgainst_0_0 : List UInt8 := dkwX9_lambda_isAgainst_0_0 ++ dktX9_lambda_isAgainst_0_1
theorem dksX9_lambda_isAgainst_0_0 : cX9_lambda_isAgainst_0.data.toList.drop 0 = dktX9_lambda_isAgainst_0_0 := by decide +kernel
theorem dksX9_lambda_isAgainst_0_1 : cX9_lambda_isAgainst_0.data.toList.drop 24 = dktX9_lambda_isAgainst_0_1 := dk_seg dksX9_lambda_isAgainst_0_0 24 rfl rfl
theorem dX9_lambda_isAgainst_0_0 : decode cX9_lambda_isAgainst_0 0 = .ok (.aload_n 1, 1) := dk_43 (dk_at dksX9_lambda_isAgainst_0_0 0 rfl rfl)
theorem dX9_lambda_isAgainst_0_1 : decode cX9_lambda_isAgainst_0 1 = .ok (.iload_n 3, 1) := dk_29 (dk_at dksX9_lambda_isAgainst_0_0 1 rfl rfl)
theorem dX9_lambda_isAgainst_0_2 : decode cX9_lambda_isAgainst_0 2 = .ok (.invokevirtual 136, 3) := dk_182 0 136 (dk_at dksX9_lambda_isAgainst_0_0 2 rfl rfl)
theorem dX9_lambda_isAgainst_0_5 : decode cX9_lambda_isAgainst_0 5 = .ok (.ifCond .eq 19, 3) := dk_153 0 19 (dk_at dksX9_lambda_isAgainst_0_0 5 rfl rfl)
theorem dX9_lambda_isAgainst_0_8 : decode cX9_lambda_isAgainst_0 8 = .ok (.aload_n 0, 1) := dk_42 (dk_at dksX9_lambda_isAgainst_0_0 8 rfl rfl)
theorem dX9_lambda_isAgainst_0_9 : decode cX9_lambda_isAgainst_0 9 = .ok (.getfield 20, 3) := dk_180 0 20 (dk_at dksX9_lambda_isAgainst_0_0 9 rfl rfl)
theorem dX9_lambda_isAgainst_0_12 : decode cX9_lambda_isAgainst_0 12 = .ok (.iload_n 3, 1) := dk_29 (dk_at dksX9_lambda_isAgainst_0_0 12 rfl rfl)
theorem dX9_lambda_isAgainst_0_13 : decode cX9_lambda_isAgainst_0 13 = .ok (.iload_n 2, 1) := dk_28 (dk_at dksX9_lambda_isAgainst_0_0 13 rfl rfl)
theorem dX9_lambda_isAgainst_0_14 : decode cX9_lambda_isAgainst_0 14 = .ok (.invokevirtual 177, 3) := dk_182 0 177 (dk_at dksX9_lambda_isAgainst_0_0 14 rfl rfl)
theorem dX9_lambda_isAgainst_0_17 : decode cX9_lambda_isAgainst_0 17 = .ok (.ifCond .eq 7, 3) := dk_153 0 7 (dk_at dksX9_lambda_isAgainst_0_0 17 rfl rfl)
theorem dX9_lambda_isAgainst_0_20 : decode cX9_lambda_isAgainst_0 20 = .ok (.iconst 1, 1) := dk_4 (dk_at dksX9_lambda_isAgainst_0_0 20 rfl rfl)
theorem dX9_lambda_isAgainst_0_21 : decode cX9_lambda_isAgainst_0 21 = .ok (.goto 4, 3) := dk_167 0 4 (dk_at dksX9_lambda_isAgainst_0_0 21 rfl rfl)
theorem dX9_lambda_isAgainst_0_24 : decode cX9_lambda_isAgainst_0 24 = .ok (.iconst 0, 1) := dk_3 (dk_at dksX9_lambda_isAgainst_0_1 0 rfl rfl)
theorem dX9_lambda_isAgainst_0_25 : decode cX9_lambda_isAgainst_0 25 = .ok (.ireturn, 1) := dk_172 (dk_at dksX9_lambda_isAgainst_0_1 1 rfl rfl)
theorem q196 : (Jvm.Cond.initialized "LoopSignals$SetupReader") ∈ lw_all := lw_g (lw_at lw_m1 48 rfl) rfl
theorem q1017 : (Jvm.Cond.selects "LoopSignals$SetupReader" ({ cls := "java/lang/Object", name := "toString", desc := "()Ljava/lang/String;" } : Jvm.MethodName) ({ cls := "java/lang/Object", name := "toString", desc := "()Ljava/lang/String;" } : Jvm.MethodName)) ∈ lw_all := lw_g (lw_at lw_m4 149 rfl) rfl
theorem q1036 : (Jvm.Cond.selects "LoopSignals$SetupReader" ({ cls := "java/lang/Object", name := "getClass", desc := "()Ljava/lang/Class;" } : Jvm.MethodName) ({ cls := "java/lang/Object", name := "getClass", desc := "()Ljava/lang/Class;" } : Jvm.MethodName)) ∈ lw_all := lw_g (lw_at lw_m4 168 rfl) rfl
theorem q1147 : (Jvm.Cond.fieldLinkNest "LoopSignals$SetupReader" (93 : Nat) "LoopSignals$Junction" "arms" "Ljava/util/List;" "LoopSignals") ∈ lw_tbl := lw_at lw_m5 39 rfl
theorem q1150 : (Jvm.Cond.fieldLinkNest "LoopSignals$SetupReader" (73 : Nat) "LoopSignals$Junction" "phases" "Ljava/util/List;" "LoopSignals") ∈ lw_tbl := lw_at lw_m5 42 rfl
theorem q1155 : (Jvm.Cond.fieldLinkNest "LoopSignals$SetupReader" (82 : Nat) "LoopSignals$Junction" "clashes" "Ljava/util/LinkedHashSet;" "LoopSignals") ∈ lw_tbl := lw_at lw_m5 47 rfl
theorem q1157 : (Jvm.Cond.fieldLinkNest "LoopSignals$SetupReader" (34 : Nat) "LoopSignals$Junction" "settings" "[I" "LoopSignals") ∈ lw_tbl := lw_at lw_m5 49 rfl
theorem q1316 : (Jvm.Cond.selects "LoopSignals$SetupReader" ({ cls := "java/lang/Object", name := "hashCode", desc := "()I" } : Jvm.MethodName) ({ cls := "java/lang/Object", name := "hashCode", desc := "()I" } : Jvm.MethodName)) ∈ lw_all := lw_g (lw_at lw_m5 208 rfl) rfl
theorem q1745 : (Jvm.Cond.selects "LoopSignals$SetupReader" ({ cls := "java/lang/Object", name := "equals", desc := "(Ljava/lang/Object;)Z" } : Jvm.MethodName) ({ cls := "java/lang/Object", name := "equals", desc := "(Ljava/lang/Object;)Z" } : Jvm.MethodName)) ∈ lw_all := lw_g (lw_at lw_m7 157 rfl) rfl
theorem q1956 : (Jvm.Cond.fieldLinkNest "LoopSignals$SetupReader" (166 : Nat) "LoopSignals$Phase" "arms" "Ljava/util/BitSet;" "LoopSignals") ∈ lw_tbl := lw_at lw_m8 128 rfl
theorem q1959 : (Jvm.Cond.fieldLinkNest "LoopSignals$SetupReader" (152 : Nat) "LoopSignals$Phase" "least" "I" "LoopSignals") ∈ lw_tbl := lw_at lw_m8 131 rfl
theorem q1963 : (Jvm.Cond.fieldLinkNest "LoopSignals$SetupReader" (156 : Nat) "LoopSignals$Phase" "most" "I" "LoopSignals") ∈ lw_tbl := lw_at lw_m8 135 rfl
theorem q2065 : (Jvm.Cond.instantiable "LoopSignals$SetupReader" (9 : Nat)) ∈ lw_all := lw_g (lw_at lw_m8 237 rfl) rfl
theorem q2067 : (Jvm.Cond.instanceMethod ({ cls := "LoopSignals$SetupReader", name := "<init>", desc := "(LLoopSignals;)V" } : Jvm.MethodName)) ∈ lw_all := lw_g (lw_at lw_m8 239 rfl) rfl
theorem q2068 : (Jvm.Cond.code ({ cls := "LoopSignals$SetupReader", name := "<init>", desc := "(LLoopSignals;)V" } : Jvm.MethodName) prog_14_method_1_code (2 : Nat) (Option.none : Option Jvm.ClassFile.FieldType)) ∈ lw_all := lw_g (lw_at lw_m9 0 rfl) rfl
theorem q2069 : (Jvm.Cond.methodLink "LoopSignals$SetupReader" (9 : Nat) ({ cls := "LoopSignals$Reader", name := "<init>", desc := "(LLoopSignals;)V" } : Jvm.MethodName)) ∈ lw_all := lw_g (lw_at lw_m9 1 rfl) rfl
theorem q2080 : (Jvm.Cond.selects "LoopSignals$SetupReader" ({ cls := "LoopSignals$Reader", name := "next", desc := "()V" } : Jvm.MethodName) ({ cls := "LoopSignals$Reader", name := "next", desc := "()V" } : Jvm.MethodName)) ∈ lw_all := lw_g (lw_at lw_m9 12 rfl) rfl
theorem q2108 : (Jvm.Cond.classLink "LoopSignals$SetupReader" (15 : Nat) "LoopSignals$Junction") ∈ lw_all := lw_g (lw_at lw_m9 40 rfl) rfl
theorem q2109 : (Jvm.Cond.methodLinkNest "LoopSignals$SetupReader" (17 : Nat) ({ cls := "LoopSignals$Junction", name := "<init>", desc := "()V" } : Jvm.MethodName) "LoopSignals") ∈ lw_tbl := lw_at lw_m9 41 rfl
theorem q2110 : (Jvm.Cond.fieldLink "LoopSignals$SetupReader" (20 : Nat) "LoopSignals$SetupReader" "made" "LLoopSignals$Junction;") ∈ lw_all := lw_g (lw_at lw_m9 42 rfl) rfl
theorem q2111 : (Jvm.Cond.fieldLink "LoopSignals$SetupReader" (3 : Nat) "LoopSignals$SetupReader" "this$0" "LLoopSignals;") ∈ lw_all := lw_g (lw_at lw_m9 43 rfl) rfl
theorem q2119 : (Jvm.Cond.laysFinal "LoopSignals$SetupReader" "LoopSignals$SetupReader" "made" "LLoopSignals$Junction;") ∈ lw_all := lw_g (lw_at lw_m9 51 rfl) rfl
theorem q2120 : (Jvm.Cond.soleField "LoopSignals$SetupReader" "made") ∈ lw_all := lw_g (lw_at lw_m9 52 rfl) rfl
theorem q2121 : (Jvm.Cond.laysFinal "LoopSignals$SetupReader" "LoopSignals$SetupReader" "this$0" "LLoopSignals;") ∈ lw_all := lw_g (lw_at lw_m9 53 rfl) rfl
theorem q2122 : (Jvm.Cond.soleField "LoopSignals$SetupReader" "this$0") ∈ lw_all := lw_g (lw_at lw_m9 54 rfl) rfl
theorem q2123 : (Jvm.Cond.laysFinal "LoopSignals$SetupReader" "LoopSignals$Reader" "end" "I") ∈ lw_all := lw_g (lw_at lw_m9 55 rfl) rfl
theorem q2125 : (Jvm.Cond.lays "LoopSignals$SetupReader" "LoopSignals$Reader" "at" "I") ∈ lw_all := lw_g (lw_at lw_m9 57 rfl) rfl
theorem q2127 : (Jvm.Cond.lays "LoopSignals$SetupReader" "LoopSignals$Reader" "begin" "I") ∈ lw_all := lw_g (lw_at lw_m9 59 rfl) rfl
theorem q2129 : (Jvm.Cond.lays "LoopSignals$SetupReader" "LoopSignals$Reader" "number" "I") ∈ lw_all := lw_g (lw_at lw_m9 61 rfl) rfl
theorem q2131 : (Jvm.Cond.lays "LoopSignals$SetupReader" "LoopSignals$Reader" "sort" "LLoopSignals$Sort;") ∈ lw_all := lw_g (lw_at lw_m9 63 rfl) rfl
theorem q2133 : (Jvm.Cond.lays "LoopSignals$SetupReader" "LoopSignals$Reader" "word" "Ljava/lang/String;") ∈ lw_all := lw_g (lw_at lw_m9 65 rfl) rfl
theorem q2135 : (Jvm.Cond.laysFinal "LoopSignals$SetupReader" "LoopSignals$Reader" "this$0" "LLoopSignals;") ∈ lw_all := lw_g (lw_at lw_m9 67 rfl) rfl
theorem q2137 : (Jvm.Cond.superclass "LoopSignals$SetupReader" "LoopSignals$Reader") ∈ lw_all := lw_g (lw_at lw_m9 69 rfl) rfl
theorem q2139 : (Jvm.Cond.instanceMethod ({ cls := "LoopSignals$SetupReader", name := "reads", desc := "()LLoopSignals$Junction;" } : Jvm.MethodName)) ∈ lw_all := lw_g (lw_at lw_m9 71 rfl) rfl
theorem q2140 : (Jvm.Cond.selects "LoopSignals$SetupReader" ({ cls := "LoopSignals$SetupReader", name := "reads", desc := "()LLoopSignals$Junction;" } : Jvm.MethodName) ({ cls := "LoopSignals$SetupReader", name := "reads", desc := "()LLoopSignals$Junction;" } : Jvm.MethodName)) ∈ lw_all := lw_g (lw_at lw_m9 72 rfl) rfl
theorem q2141 : (Jvm.Cond.code ({ cls := "LoopSignals$SetupReader", name := "reads", desc := "()LLoopSignals$Junction;" } : Jvm.MethodName) prog_14_method_2_code (1 : Nat) (Option.some (Jvm.ClassFile.FieldType.object "LoopSignals$Junction"))) ∈ lw_all := lw_g (lw_at lw_m9 73 rfl) rfl
theorem q2142 : (Jvm.Cond.stringRef "LoopSignals$SetupReader" (24 : Nat) "junction") ∈ lw_tbl := lw_at lw_m9 74 rfl
theorem q2143 : (Jvm.Cond.methodLink "LoopSignals$SetupReader" (26 : Nat) ({ cls := "LoopSignals$SetupReader", name := "passes", desc := "(Ljava/lang/String;)Z" } : Jvm.MethodName)) ∈ lw_all := lw_g (lw_at lw_m9 75 rfl) rfl
theorem q2144 : (Jvm.Cond.sameMethod "LoopSignals$SetupReader" "LoopSignals$Reader" "passes" "(Ljava/lang/String;)Z") ∈ lw_all := lw_g (lw_at lw_m9 76 rfl) rfl
theorem q2146 : (Jvm.Cond.selects "LoopSignals$SetupReader" ({ cls := "LoopSignals$SetupReader", name := "passes", desc := "(Ljava/lang/String;)Z" } : Jvm.MethodName) ({ cls := "LoopSignals$Reader", name := "passes", desc := "(Ljava/lang/String;)Z" } : Jvm.MethodName)) ∈ lw_all := lw_g (lw_at lw_m9 78 rfl) rfl
theorem q2150 : (Jvm.Cond.methodLink "LoopSignals$SetupReader" (30 : Nat) ({ cls := "LoopSignals$SetupReader", name := "must", desc := "(ZI)V" } : Jvm.MethodName)) ∈ lw_all := lw_g (lw_at lw_m9 82 rfl) rfl
theorem q2151 : (Jvm.Cond.sameMethod "LoopSignals$SetupReader" "LoopSignals$Reader" "must" "(ZI)V") ∈ lw_all := lw_g (lw_at lw_m9 83 rfl) rfl
theorem q2153 : (Jvm.Cond.selects "LoopSignals$SetupReader" ({ cls := "LoopSignals$SetupReader", name := "must", desc := "(ZI)V" } : Jvm.MethodName) ({ cls := "LoopSignals$Reader", name := "must", desc := "(ZI)V" } : Jvm.MethodName)) ∈ lw_all := lw_g (lw_at lw_m9 85 rfl) rfl
theorem q2184 : (Jvm.Cond.methodLink "LoopSignals$SetupReader" (38 : Nat) ({ cls := "LoopSignals$SetupReader", name := "number", desc := "(II)I" } : Jvm.MethodName)) ∈ lw_all := lw_g (lw_at lw_m9 116 rfl) rfl
theorem q2185 : (Jvm.Cond.sameMethod "LoopSignals$SetupReader" "LoopSignals$Reader" "number" "(II)I") ∈ lw_all := lw_g (lw_at lw_m9 117 rfl) rfl
theorem q2187 : (Jvm.Cond.selects "LoopSignals$SetupReader" ({ cls := "LoopSignals$SetupReader", name := "number", desc := "(II)I" } : Jvm.MethodName) ({ cls := "LoopSignals$Reader", name := "number", desc := "(II)I" } : Jvm.MethodName)) ∈ lw_all := lw_g (lw_at lw_m9 119 rfl) rfl
theorem q2191 : (Jvm.Cond.methodLink "LoopSignals$SetupReader" (42 : Nat) ({ cls := "LoopSignals$SetupReader", name := "sign", desc := "(I)V" } : Jvm.MethodName)) ∈ lw_all := lw_g (lw_at lw_m9 123 rfl) rfl
theorem q2192 : (Jvm.Cond.sameMethod "LoopSignals$SetupReader" "LoopSignals$Reader" "sign" "(I)V") ∈ lw_all := lw_g (lw_at lw_m9 124 rfl) rfl
theorem q2194 : (Jvm.Cond.selects "LoopSignals$SetupReader" ({ cls := "LoopSignals$SetupReader", name := "sign", desc := "(I)V" } : Jvm.MethodName) ({ cls := "LoopSignals$Reader", name := "sign", desc := "(I)V" } : Jvm.MethodName)) ∈ lw_all := lw_g (lw_at lw_m9 126 rfl) rfl
theorem q2201 : (Jvm.Cond.selects "LoopSignals$SetupReader" ({ cls := "LoopSignals$Reader", name := "isSign", desc := "(I)Z" } : Jvm.MethodName) ({ cls := "LoopSignals$Reader", name := "isSign", desc := "(I)Z" } : Jvm.MethodName)) ∈ lw_all := lw_g (lw_at lw_m9 133 rfl) rfl
theorem q2203 : (Jvm.Cond.methodLink "LoopSignals$SetupReader" (46 : Nat) ({ cls := "LoopSignals$SetupReader", name := "word", desc := "()Ljava/lang/String;" } : Jvm.MethodName)) ∈ lw_all := lw_g (lw_at lw_m9 135 rfl) rfl
theorem q2204 : (Jvm.Cond.sameMethod "LoopSignals$SetupReader" "LoopSignals$Reader" "word" "()Ljava/lang/String;") ∈ lw_all := lw_g (lw_at lw_m9 136 rfl) rfl
theorem q2206 : (Jvm.Cond.selects "LoopSignals$SetupReader" ({ cls := "LoopSignals$SetupReader", name := "word", desc := "()Ljava/lang/String;" } : Jvm.MethodName) ({ cls := "LoopSignals$Reader", name := "word", desc := "()Ljava/lang/String;" } : Jvm.MethodName)) ∈ lw_all := lw_g (lw_at lw_m9 138 rfl) rfl
theorem q2209 : (Jvm.Cond.stringRef "LoopSignals$SetupReader" (50 : Nat) "arm") ∈ lw_tbl := lw_at lw_m9 141 rfl
theorem q2210 : (Jvm.Cond.methodLink "LoopSignals$SetupReader" (52 : Nat) ({ cls := "java/lang/String", name := "equals", desc := "(Ljava/lang/Object;)Z" } : Jvm.MethodName)) ∈ lw_all := lw_g (lw_at lw_m9 142 rfl) rfl
theorem q2211 : (Jvm.Cond.methodLink "LoopSignals$SetupReader" (58 : Nat) ({ cls := "LoopSignals$SetupReader", name := "part", desc := "(Ljava/lang/String;)V" } : Jvm.MethodName)) ∈ lw_all := lw_g (lw_at lw_m9 143 rfl) rfl
theorem q2212 : (Jvm.Cond.privateMethod ({ cls := "LoopSignals$SetupReader", name := "part", desc := "(Ljava/lang/String;)V" } : Jvm.MethodName)) ∈ lw_tbl := lw_at lw_m9 144 rfl
theorem q2213 : (Jvm.Cond.instanceMethod ({ cls := "LoopSignals$SetupReader", name := "part", desc := "(Ljava/lang/String;)V" } : Jvm.MethodName)) ∈ lw_all := lw_g (lw_at lw_m9 145 rfl) rfl
theorem q2214 : (Jvm.Cond.code ({ cls := "LoopSignals$SetupReader", name := "part", desc := "(Ljava/lang/String;)V" } : Jvm.MethodName) prog_14_method_3_code (4 : Nat) (Option.none : Option Jvm.ClassFile.FieldType)) ∈ lw_all := lw_g (lw_at lw_m9 146 rfl) rfl
theorem q2215 : (Jvm.Cond.methodLink "LoopSignals$SetupReader" (86 : Nat) ({ cls := "java/util/LinkedHashSet", name := "isEmpty", desc := "()Z" } : Jvm.MethodName)) ∈ lw_all := lw_g (lw_at lw_m9 147 rfl) rfl
theorem q2226 : (Jvm.Cond.interfaceEntry "LoopSignals$SetupReader" (77 : Nat)) ∈ lw_tbl := lw_at lw_m9 158 rfl
theorem q2227 : (Jvm.Cond.methodLink "LoopSignals$SetupReader" (77 : Nat) ({ cls := "java/util/List", name := "isEmpty", desc := "()Z" } : Jvm.MethodName)) ∈ lw_all := lw_g (lw_at lw_m9 159 rfl) rfl
theorem q2235 : (Jvm.Cond.stringRef "LoopSignals$SetupReader" (89 : Nat) "clash") ∈ lw_tbl := lw_at lw_m9 167 rfl
theorem q2236 : (Jvm.Cond.stringRef "LoopSignals$SetupReader" (91 : Nat) "phase") ∈ lw_tbl := lw_at lw_m9 168 rfl
theorem q2237 : (Jvm.Cond.interfaceEntry "LoopSignals$SetupReader" (96 : Nat)) ∈ lw_tbl := lw_at lw_m9 169 rfl
theorem q2238 : (Jvm.Cond.methodLink "LoopSignals$SetupReader" (96 : Nat) ({ cls := "java/util/List", name := "size", desc := "()I" } : Jvm.MethodName)) ∈ lw_all := lw_g (lw_at lw_m9 170 rfl) rfl
theorem q2239 : (Jvm.Cond.methodLink "LoopSignals$SetupReader" (66 : Nat) ({ cls := "LoopSignals$SetupReader", name := "next", desc := "()V" } : Jvm.MethodName)) ∈ lw_all := lw_g (lw_at lw_m9 171 rfl) rfl
theorem q2240 : (Jvm.Cond.sameMethod "LoopSignals$SetupReader" "LoopSignals$Reader" "next" "()V") ∈ lw_all := lw_g (lw_at lw_m9 172 rfl) rfl
theorem q2242 : (Jvm.Cond.selects "LoopSignals$SetupReader" ({ cls := "LoopSignals$SetupReader", name := "next", desc := "()V" } : Jvm.MethodName) ({ cls := "LoopSignals$Reader", name := "next", desc := "()V" } : Jvm.MethodName)) ∈ lw_all := lw_g (lw_at lw_m9 174 rfl) rfl
theorem q2243 : (Jvm.Cond.methodLink "LoopSignals$SetupReader" (100 : Nat) ({ cls := "LoopSignals$SetupReader", name := "arm", desc := "()V" } : Jvm.MethodName)) ∈ lw_all := lw_g (lw_at lw_m9 175 rfl) rfl
theorem q2244 : (Jvm.Cond.privateMethod ({ cls := "LoopSignals$SetupReader", name := "arm", desc := "()V" } : Jvm.MethodName)) ∈ lw_tbl := lw_at lw_m9 176 rfl
theorem q2245 : (Jvm.Cond.instanceMethod ({ cls := "LoopSignals$SetupReader", name := "arm", desc := "()V" } : Jvm.MethodName)) ∈ lw_all := lw_g (lw_at lw_m9 177 rfl) rfl
theorem q2246 : (Jvm.Cond.code ({ cls := "LoopSignals$SetupReader", name := "arm", desc := "()V" } : Jvm.MethodName) prog_14_method_4_code (1 : Nat) (Option.none : Option Jvm.ClassFile.FieldType)) ∈ lw_all := lw_g (lw_at lw_m9 178 rfl) rfl
theorem q2247 : (Jvm.Cond.methodLink "LoopSignals$SetupReader" (106 : Nat) ({ cls := "LoopSignals$SetupReader", name := "here", desc := "()Ljava/lang/String;" } : Jvm.MethodName)) ∈ lw_all := lw_g (lw_at lw_m9 179 rfl) rfl
theorem q2248 : (Jvm.Cond.sameMethod "LoopSignals$SetupReader" "LoopSignals$Reader" "here" "()Ljava/lang/String;") ∈ lw_all := lw_g (lw_at lw_m9 180 rfl) rfl
theorem q2250 : (Jvm.Cond.selects "LoopSignals$SetupReader" ({ cls := "LoopSignals$SetupReader", name := "here", desc := "()Ljava/lang/String;" } : Jvm.MethodName) ({ cls := "LoopSignals$Reader", name := "here", desc := "()Ljava/lang/String;" } : Jvm.MethodName)) ∈ lw_all := lw_g (lw_at lw_m9 182 rfl) rfl
theorem q2254 : (Jvm.Cond.methodLink "LoopSignals$SetupReader" (109 : Nat) ({ cls := "LoopSignals$Junction", name := "named", desc := "(Ljava/lang/String;)I" } : Jvm.MethodName)) ∈ lw_all := lw_g (lw_at lw_m9 186 rfl) rfl
theorem q2274 : (Jvm.Cond.classLink "LoopSignals$SetupReader" (113 : Nat) "LoopSignals$Arm") ∈ lw_all := lw_g (lw_at lw_m9 206 rfl) rfl
theorem q2275 : (Jvm.Cond.methodLink "LoopSignals$SetupReader" (115 : Nat) ({ cls := "LoopSignals$SetupReader", name := "name", desc := "()Ljava/lang/String;" } : Jvm.MethodName)) ∈ lw_all := lw_g (lw_at lw_m9 207 rfl) rfl
theorem q2276 : (Jvm.Cond.sameMethod "LoopSignals$SetupReader" "LoopSignals$Reader" "name" "()Ljava/lang/String;") ∈ lw_all := lw_g (lw_at lw_m9 208 rfl) rfl
theorem q2278 : (Jvm.Cond.selects "LoopSignals$SetupReader" ({ cls := "LoopSignals$SetupReader", name := "name", desc := "()Ljava/lang/String;" } : Jvm.MethodName) ({ cls := "LoopSignals$Reader", name := "name", desc := "()Ljava/lang/String;" } : Jvm.MethodName)) ∈ lw_all := lw_g (lw_at lw_m9 210 rfl) rfl
theorem q2282 : (Jvm.Cond.classLink "LoopSignals$SetupReader" (118 : Nat) "LoopSignals$Line") ∈ lw_all := lw_g (lw_at lw_m9 214 rfl) rfl
theorem q2283 : (Jvm.Cond.methodLinkNest "LoopSignals$SetupReader" (120 : Nat) ({ cls := "LoopSignals$Line", name := "<init>", desc := "()V" } : Jvm.MethodName) "LoopSignals") ∈ lw_tbl := lw_at lw_m9 215 rfl
theorem q2284 : (Jvm.Cond.methodLink "LoopSignals$SetupReader" (121 : Nat) ({ cls := "LoopSignals$Arm", name := "<init>", desc := "(Ljava/lang/String;LLoopSignals$Line;)V" } : Jvm.MethodName)) ∈ lw_all := lw_g (lw_at lw_m9 216 rfl) rfl
theorem q2285 : (Jvm.Cond.methodLink "LoopSignals$SetupReader" (124 : Nat) ({ cls := "LoopSignals$Junction", name := "adds", desc := "(LLoopSignals$Arm;)V" } : Jvm.MethodName)) ∈ lw_all := lw_g (lw_at lw_m9 217 rfl) rfl
theorem q2286 : (Jvm.Cond.methodLink "LoopSignals$SetupReader" (102 : Nat) ({ cls := "LoopSignals$SetupReader", name := "clash", desc := "()V" } : Jvm.MethodName)) ∈ lw_all := lw_g (lw_at lw_m9 218 rfl) rfl
theorem q2287 : (Jvm.Cond.privateMethod ({ cls := "LoopSignals$SetupReader", name := "clash", desc := "()V" } : Jvm.MethodName)) ∈ lw_tbl := lw_at lw_m9 219 rfl
theorem q2288 : (Jvm.Cond.instanceMethod ({ cls := "LoopSignals$SetupReader", name := "clash", desc := "()V" } : Jvm.MethodName)) ∈ lw_all := lw_g (lw_at lw_m9 220 rfl) rfl
theorem q2289 : (Jvm.Cond.code ({ cls := "LoopSignals$SetupReader", name := "clash", desc := "()V" } : Jvm.MethodName) prog_14_method_5_code (3 : Nat) (Option.none : Option Jvm.ClassFile.FieldType)) ∈ lw_all := lw_g (lw_at lw_m9 221 rfl) rfl
theorem q2290 : (Jvm.Cond.classLink "LoopSignals$SetupReader" (128 : Nat) "LoopSignals$Couple") ∈ lw_all := lw_g (lw_at lw_m9 222 rfl) rfl
theorem q2291 : (Jvm.Cond.methodLink "LoopSignals$SetupReader" (130 : Nat) ({ cls := "LoopSignals$Couple", name := "<init>", desc := "(II)V" } : Jvm.MethodName)) ∈ lw_all := lw_g (lw_at lw_m9 223 rfl) rfl
theorem q2292 : (Jvm.Cond.methodLink "LoopSignals$SetupReader" (133 : Nat) ({ cls := "LoopSignals$Junction", name := "clash", desc := "(LLoopSignals$Couple;)V" } : Jvm.MethodName)) ∈ lw_all := lw_g (lw_at lw_m9 224 rfl) rfl
theorem q2293 : (Jvm.Cond.methodLink "LoopSignals$SetupReader" (104 : Nat) ({ cls := "LoopSignals$SetupReader", name := "phase", desc := "()V" } : Jvm.MethodName)) ∈ lw_all := lw_g (lw_at lw_m9 225 rfl) rfl
theorem q2294 : (Jvm.Cond.privateMethod ({ cls := "LoopSignals$SetupReader", name := "phase", desc := "()V" } : Jvm.MethodName)) ∈ lw_tbl := lw_at lw_m9 226 rfl
theorem q2295 : (Jvm.Cond.instanceMethod ({ cls := "LoopSignals$SetupReader", name := "phase", desc := "()V" } : Jvm.MethodName)) ∈ lw_all := lw_g (lw_at lw_m9 227 rfl) rfl
theorem q2296 : (Jvm.Cond.code ({ cls := "LoopSignals$SetupReader", name := "phase", desc := "()V" } : Jvm.MethodName) prog_14_method_7_code (4 : Nat) (Option.none : Option Jvm.ClassFile.FieldType)) ∈ lw_all := lw_g (lw_at lw_m9 228 rfl) rfl
theorem q2297 : (Jvm.Cond.classLink "LoopSignals$SetupReader" (137 : Nat) "LoopSignals$Phase") ∈ lw_all := lw_g (lw_at lw_m9 229 rfl) rfl
theorem q2298 : (Jvm.Cond.methodLinkNest "LoopSignals$SetupReader" (151 : Nat) ({ cls := "LoopSignals$Phase", name := "<init>", desc := "()V" } : Jvm.MethodName) "LoopSignals") ∈ lw_tbl := lw_at lw_m9 230 rfl
theorem q2299 : (Jvm.Cond.methodLink "LoopSignals$SetupReader" (159 : Nat) ({ cls := "LoopSignals$SetupReader", name := "isWord", desc := "()Z" } : Jvm.MethodName)) ∈ lw_all := lw_g (lw_at lw_m9 231 rfl) rfl
theorem q2300 : (Jvm.Cond.sameMethod "LoopSignals$SetupReader" "LoopSignals$Reader" "isWord" "()Z") ∈ lw_all := lw_g (lw_at lw_m9 232 rfl) rfl
theorem q2302 : (Jvm.Cond.selects "LoopSignals$SetupReader" ({ cls := "LoopSignals$SetupReader", name := "isWord", desc := "()Z" } : Jvm.MethodName) ({ cls := "LoopSignals$Reader", name := "isWord", desc := "()Z" } : Jvm.MethodName)) ∈ lw_all := lw_g (lw_at lw_m9 234 rfl) rfl
theorem q2305 : (Jvm.Cond.methodLink "LoopSignals$SetupReader" (162 : Nat) ({ cls := "LoopSignals$SetupReader", name := "isAgainst", desc := "(LLoopSignals$Phase;I)Z" } : Jvm.MethodName)) ∈ lw_all := lw_g (lw_at lw_m9 237 rfl) rfl
theorem q2306 : (Jvm.Cond.privateMethod ({ cls := "LoopSignals$SetupReader", name := "isAgainst", desc := "(LLoopSignals$Phase;I)Z" } : Jvm.MethodName)) ∈ lw_tbl := lw_at lw_m9 238 rfl
theorem q2307 : (Jvm.Cond.instanceMethod ({ cls := "LoopSignals$SetupReader", name := "isAgainst", desc := "(LLoopSignals$Phase;I)Z" } : Jvm.MethodName)) ∈ lw_all := lw_g (lw_at lw_m9 239 rfl) rfl
theorem q2308 : (Jvm.Cond.code ({ cls := "LoopSignals$SetupReader", name := "isAgainst", desc := "(LLoopSignals$Phase;I)Z" } : Jvm.MethodName) prog_14_method_6_code (3 : Nat) (Option.some Jvm.ClassFile.FieldType.boolean)) ∈ lw_all := lw_g (lw_at lw_m10 0 rfl) rfl
theorem q2309 : (Jvm.Cond.methodLink "LoopSignals$SetupReader" (136 : Nat) ({ cls := "LoopSignals$Phase", name := "has", desc := "(I)Z" } : Jvm.MethodName)) ∈ lw_all := lw_g (lw_at lw_m10 1 rfl) rfl
theorem q2317 : (Jvm.Cond.privateMethod ({ cls := "LoopSignals$SetupReader", name := "lambda$isAgainst$0", desc := "(LLoopSignals$Phase;II)Z" } : Jvm.MethodName)) ∈ lw_tbl := lw_at lw_m10 9 rfl
theorem q2318 : (Jvm.Cond.instanceMethod ({ cls := "LoopSignals$SetupReader", name := "lambda$isAgainst$0", desc := "(LLoopSignals$Phase;II)Z" } : Jvm.MethodName)) ∈ lw_all := lw_g (lw_at lw_m10 10 rfl) rfl
theorem q2319 : (Jvm.Cond.code ({ cls := "LoopSignals$SetupReader", name := "lambda$isAgainst$0", desc := "(LLoopSignals$Phase;II)Z" } : Jvm.MethodName) prog_14_method_8_code (4 : Nat) (Option.some Jvm.ClassFile.FieldType.boolean)) ∈ lw_all := lw_g (lw_at lw_m10 11 rfl) rfl
theorem q2320 : (Jvm.Cond.methodLink "LoopSignals$SetupReader" (177 : Nat) ({ cls := "LoopSignals$Junction", name := "doClash", desc := "(II)Z" } : Jvm.MethodName)) ∈ lw_all := lw_g (lw_at lw_m10 12 rfl) rfl
theorem q2338 : (Jvm.Cond.methodLink "LoopSignals$SetupReader" (145 : Nat) ({ cls := "LoopSignals$Holds", name := "count", desc := "(ILLoopSignals$Holds;)I" } : Jvm.MethodName)) ∈ lw_all := lw_g (lw_at lw_m10 30 rfl) rfl
theorem q2346 : (Jvm.Cond.methodLink "LoopSignals$SetupReader" (169 : Nat) ({ cls := "java/util/BitSet", name := "set", desc := "(I)V" } : Jvm.MethodName)) ∈ lw_all := lw_g (lw_at lw_m10 38 rfl) rfl
theorem q2347 : (Jvm.Cond.methodLink "LoopSignals$SetupReader" (174 : Nat) ({ cls := "LoopSignals$Junction", name := "adds", desc := "(LLoopSignals$Phase;)V" } : Jvm.MethodName)) ∈ lw_all := lw_g (lw_at lw_m10 39 rfl) rfl
theorem q2348 : (Jvm.Cond.methodLink "LoopSignals$SetupReader" (62 : Nat) ({ cls := "LoopSignals$SetupReader", name := "isSign", desc := "(I)Z" } : Jvm.MethodName)) ∈ lw_all := lw_g (lw_at lw_m10 40 rfl) rfl
theorem q2349 : (Jvm.Cond.sameMethod "LoopSignals$SetupReader" "LoopSignals$Reader" "isSign" "(I)Z") ∈ lw_all := lw_g (lw_at lw_m10 41 rfl) rfl
theorem q2351 : (Jvm.Cond.selects "LoopSignals$SetupReader" ({ cls := "LoopSignals$SetupReader", name := "isSign", desc := "(I)Z" } : Jvm.MethodName) ({ cls := "LoopSignals$Reader", name := "isSign", desc := "(I)Z" } : Jvm.MethodName)) ∈ lw_all := lw_g (lw_at lw_m10 43 rfl) rfl
theorem q2352 : (Jvm.Cond.methodLink "LoopSignals$SetupReader" (69 : Nat) ({ cls := "LoopSignals$SetupReader", name := "isEnd", desc := "()Z" } : Jvm.MethodName)) ∈ lw_all := lw_g (lw_at lw_m10 44 rfl) rfl
theorem q2353 : (Jvm.Cond.sameMethod "LoopSignals$SetupReader" "LoopSignals$Reader" "isEnd" "()Z") ∈ lw_all := lw_g (lw_at lw_m10 45 rfl) rfl
theorem q2355 : (Jvm.Cond.selects "LoopSignals$SetupReader" ({ cls := "LoopSignals$SetupReader", name := "isEnd", desc := "()Z" } : Jvm.MethodName) ({ cls := "LoopSignals$Reader", name := "isEnd", desc := "()Z" } : Jvm.MethodName)) ∈ lw_all := lw_g (lw_at lw_m10 47 rfl) rfl
theorem q4066 : (Jvm.Cond.selects "LoopSignals$SetupReader" ({ cls := "LoopSignals$Reader", name := "must", desc := "(ZI)V" } : Jvm.MethodName) ({ cls := "LoopSignals$Reader", name := "must", desc := "(ZI)V" } : Jvm.MethodName)) ∈ lw_all := lw_g (lw_at lw_m17 78 rfl) rfl
theorem q4070 : (Jvm.Cond.selects "LoopSignals$SetupReader" ({ cls := "LoopSignals$Reader", name := "here", desc := "()Ljava/lang/String;" } : Jvm.MethodName) ({ cls := "LoopSignals$Reader", name := "here", desc := "()Ljava/lang/String;" } : Jvm.MethodName)) ∈ lw_all := lw_g (lw_at lw_m17 82 rfl) rfl
theorem q4111 : (Jvm.Cond.castable "LoopSignals$SetupReader" "java/lang/Object") ∈ lw_tbl := lw_at lw_m17 123 rfl
theorem in_X9 : ∀ w ∈ wsX90, w ∈ lw_all := lw_in wsX90 [2123, 2125, 2127, 2129, 2131, 2133, 2135, 2119, 2121] (by decide +kernel) (by decide +kernel)

/-! LoopSignals$Unreadable -/
set_option maxRecDepth 100000
def RX10 : String := "LoopSignals$Unreadable"
def TX10 : u_T := fun k => match k with
  | 0 => ("java/lang/Throwable", "cause", "Ljava/lang/Throwable;", false)
  | 1 => ("java/lang/Throwable", "stackTrace", "[Ljava/lang/StackTraceElement;", false)
  | 2 => ("java/lang/Throwable", "suppressedExceptions", "Ljava/util/List;", false)
  | 3 => ("java/lang/Throwable", "detailMessage", "Ljava/lang/String;", false)
  | 4 => ("java/lang/Throwable", "backtrace", "Ljava/lang/Object;", false)
  | 5 => ("java/lang/Throwable", "depth", "I", false)
  | 6 => ("LoopSignals$Unreadable", "code", "I", true)
  | _ => ("LoopSignals$Unreadable", "position", "I", true)
def tyX10 : Nat → FieldType := fun k => match k with
  | 0 => .object "java/lang/Throwable"
  | 1 => .array (.object "java/lang/StackTraceElement")
  | 2 => .object "java/util/List"
  | 3 => .object "java/lang/String"
  | 4 => .object "java/lang/Object"
  | 5 => .int
  | 6 => .int
  | _ => .int
abbrev wsX100 : List Cond := u_ws RX10 TX10 8
theorem nmX10 : ∀ a, a < 8 → ∀ b, b < 8 → a ≠ b → (TX10 a).2.1 ≠ (TX10 b).2.1 := by decide +kernel
theorem tyX10_ok : ∀ k, k < 8 → parseFieldDescriptor (TX10 k).2.2.1 = some (tyX10 k) := by decide +kernel
abbrev cX10_init : ByteArray := prog_17_method_1_code
def yX10_init : MethodName := ⟨RX10, "<init>", "(II)V"⟩
def dkwX10_init_0 : List UInt8 := [42, 1, 1, 3, 3, 183, 0, 1, 42, 27, 181, 0, 7, 42, 28, 181, 0, 13, 177]
abbrev dktX10_init_0 : List UInt8 := dkwX10_init_0 ++ []
theorem dksX10_init_0 : cX10_init.data.toList.drop 0 = dktX10_init_0 := by decide +kernel
theorem dX10_init_0 : decode cX10_init 0 = .ok (.aload_n 0, 1) := dk_42 (dk_at dksX10_init_0 0 rfl rfl)
theorem dX10_init_1 : decode cX10_init 1 = .ok (.aconst_null, 1) := dk_1 (dk_at dksX10_init_0 1 rfl rfl)
theorem dX10_init_2 : decode cX10_init 2 = .ok (.aconst_null, 1) := dk_1 (dk_at dksX10_init_0 2 rfl rfl)
theorem dX10_init_3 : decode cX10_init 3 = .ok (.iconst 0, 1) := dk_3 (dk_at dksX10_init_0 3 rfl rfl)
theorem dX10_init_4 : decode cX10_init 4 = .ok (.iconst 0, 1) := dk_3 (dk_at dksX10_init_0 4 rfl rfl)
theorem dX10_init_5 : decode cX10_init 5 = .ok (.invokespecial 1, 3) := dk_183 0 1 (dk_at dksX10_init_0 5 rfl rfl)
theorem dX10_init_8 : decode cX10_init 8 = .ok (.aload_n 0, 1) := dk_42 (dk_at dksX10_init_0 8 rfl rfl)
theorem dX10_init_9 : decode cX10_init 9 = .ok (.iload_n 1, 1) := dk_27 (dk_at dksX10_init_0 9 rfl rfl)
theorem dX10_init_10 : decode cX10_init 10 = .ok (.putfield 7, 3) := dk_181 0 7 (dk_at dksX10_init_0 10 rfl rfl)
theorem dX10_init_13 : decode cX10_init 13 = .ok (.aload_n 0, 1) := dk_42 (dk_at dksX10_init_0 13 rfl rfl)
theorem dX10_init_14 : decode cX10_init 14 = .ok (.iload_n 2, 1) := dk_28 (dk_at dksX10_init_0 14 rfl rfl)
theorem dX10_init_15 : decode cX10_init 15 = .ok (.putfield 13, 3) := dk_181 0 13 (dk_at dksX10_init_0 15 rfl rfl)
theorem dX10_init_18 : decode cX10_init 18 = .ok (.return_, 1) := dk_177 (dk_at dksX10_init_0 18 rfl rfl)
theorem q199 : (Jvm.Cond.initialized "LoopSignals$Unreadable") ∈ lw_all := lw_g (lw_at lw_m1 51 rfl) rfl
theorem q295 : (Jvm.Cond.selects "LoopSignals$Unreadable" ({ cls := "java/lang/Throwable", name := "fillInStackTrace", desc := "()Ljava/lang/Throwable;" } : Jvm.MethodName) ({ cls := "java/lang/Throwable", name := "fillInStackTrace", desc := "()Ljava/lang/Throwable;" } : Jvm.MethodName)) ∈ lw_all := lw_g (lw_at lw_m1 147 rfl) rfl
theorem q1021 : (Jvm.Cond.selects "LoopSignals$Unreadable" ({ cls := "java/lang/Object", name := "toString", desc := "()Ljava/lang/String;" } : Jvm.MethodName) ({ cls := "java/lang/Throwable", name := "toString", desc := "()Ljava/lang/String;" } : Jvm.MethodName)) ∈ lw_all := lw_g (lw_at lw_m4 153 rfl) rfl
theorem q1038 : (Jvm.Cond.selects "LoopSignals$Unreadable" ({ cls := "java/lang/Object", name := "getClass", desc := "()Ljava/lang/Class;" } : Jvm.MethodName) ({ cls := "java/lang/Object", name := "getClass", desc := "()Ljava/lang/Class;" } : Jvm.MethodName)) ∈ lw_all := lw_g (lw_at lw_m4 170 rfl) rfl
theorem q1065 : (Jvm.Cond.selects "LoopSignals$Unreadable" ({ cls := "java/lang/Throwable", name := "getLocalizedMessage", desc := "()Ljava/lang/String;" } : Jvm.MethodName) ({ cls := "java/lang/Throwable", name := "getLocalizedMessage", desc := "()Ljava/lang/String;" } : Jvm.MethodName)) ∈ lw_all := lw_g (lw_at lw_m4 197 rfl) rfl
theorem q1073 : (Jvm.Cond.selects "LoopSignals$Unreadable" ({ cls := "java/lang/Throwable", name := "getMessage", desc := "()Ljava/lang/String;" } : Jvm.MethodName) ({ cls := "java/lang/Throwable", name := "getMessage", desc := "()Ljava/lang/String;" } : Jvm.MethodName)) ∈ lw_all := lw_g (lw_at lw_m4 205 rfl) rfl
theorem q1323 : (Jvm.Cond.selects "LoopSignals$Unreadable" ({ cls := "java/lang/Object", name := "hashCode", desc := "()I" } : Jvm.MethodName) ({ cls := "java/lang/Object", name := "hashCode", desc := "()I" } : Jvm.MethodName)) ∈ lw_all := lw_g (lw_at lw_m5 215 rfl) rfl
theorem q1749 : (Jvm.Cond.selects "LoopSignals$Unreadable" ({ cls := "java/lang/Object", name := "equals", desc := "(Ljava/lang/Object;)Z" } : Jvm.MethodName) ({ cls := "java/lang/Object", name := "equals", desc := "(Ljava/lang/Object;)Z" } : Jvm.MethodName)) ∈ lw_all := lw_g (lw_at lw_m7 161 rfl) rfl
theorem q2157 : (Jvm.Cond.instantiable "LoopSignals$Unreadable" (8 : Nat)) ∈ lw_all := lw_g (lw_at lw_m9 89 rfl) rfl
theorem q2158 : (Jvm.Cond.castable "LoopSignals$Unreadable" "LoopSignals$Unreadable") ∈ lw_tbl := lw_at lw_m9 90 rfl
theorem q2159 : (Jvm.Cond.selects "LoopSignals$Unreadable" ({ cls := "java/lang/Throwable", name := "fillInStackTrace", desc := "(I)Ljava/lang/Throwable;" } : Jvm.MethodName) ({ cls := "java/lang/Throwable", name := "fillInStackTrace", desc := "(I)Ljava/lang/Throwable;" } : Jvm.MethodName)) ∈ lw_all := lw_g (lw_at lw_m9 91 rfl) rfl
theorem q2160 : (Jvm.Cond.lays "LoopSignals$Unreadable" "java/lang/Throwable" "cause" "Ljava/lang/Throwable;") ∈ lw_all := lw_g (lw_at lw_m9 92 rfl) rfl
theorem q2161 : (Jvm.Cond.lays "LoopSignals$Unreadable" "java/lang/Throwable" "stackTrace" "[Ljava/lang/StackTraceElement;") ∈ lw_all := lw_g (lw_at lw_m9 93 rfl) rfl
theorem q2162 : (Jvm.Cond.lays "LoopSignals$Unreadable" "java/lang/Throwable" "suppressedExceptions" "Ljava/util/List;") ∈ lw_all := lw_g (lw_at lw_m9 94 rfl) rfl
theorem q2163 : (Jvm.Cond.lays "LoopSignals$Unreadable" "java/lang/Throwable" "detailMessage" "Ljava/lang/String;") ∈ lw_all := lw_g (lw_at lw_m9 95 rfl) rfl
theorem q2164 : (Jvm.Cond.lays "LoopSignals$Unreadable" "java/lang/Throwable" "backtrace" "Ljava/lang/Object;") ∈ lw_all := lw_g (lw_at lw_m9 96 rfl) rfl
theorem q2166 : (Jvm.Cond.instanceMethod ({ cls := "LoopSignals$Unreadable", name := "<init>", desc := "(II)V" } : Jvm.MethodName)) ∈ lw_all := lw_g (lw_at lw_m9 98 rfl) rfl
theorem q2167 : (Jvm.Cond.code ({ cls := "LoopSignals$Unreadable", name := "<init>", desc := "(II)V" } : Jvm.MethodName) prog_17_method_1_code (3 : Nat) (Option.none : Option Jvm.ClassFile.FieldType)) ∈ lw_all := lw_g (lw_at lw_m9 99 rfl) rfl
theorem q2168 : (Jvm.Cond.methodLink "LoopSignals$Unreadable" (1 : Nat) ({ cls := "java/lang/Exception", name := "<init>", desc := "(Ljava/lang/String;Ljava/lang/Throwable;ZZ)V" } : Jvm.MethodName)) ∈ lw_all := lw_g (lw_at lw_m9 100 rfl) rfl
theorem q2174 : (Jvm.Cond.fieldLink "LoopSignals$Unreadable" (7 : Nat) "LoopSignals$Unreadable" "code" "I") ∈ lw_all := lw_g (lw_at lw_m9 106 rfl) rfl
theorem q2176 : (Jvm.Cond.fieldLink "LoopSignals$Unreadable" (13 : Nat) "LoopSignals$Unreadable" "position" "I") ∈ lw_all := lw_g (lw_at lw_m9 108 rfl) rfl
theorem q2178 : (Jvm.Cond.laysFinal "LoopSignals$Unreadable" "LoopSignals$Unreadable" "code" "I") ∈ lw_all := lw_g (lw_at lw_m9 110 rfl) rfl
theorem q2179 : (Jvm.Cond.soleField "LoopSignals$Unreadable" "code") ∈ lw_all := lw_g (lw_at lw_m9 111 rfl) rfl
theorem q2180 : (Jvm.Cond.laysFinal "LoopSignals$Unreadable" "LoopSignals$Unreadable" "position" "I") ∈ lw_all := lw_g (lw_at lw_m9 112 rfl) rfl
theorem q2181 : (Jvm.Cond.soleField "LoopSignals$Unreadable" "position") ∈ lw_all := lw_g (lw_at lw_m9 113 rfl) rfl
theorem q2182 : (Jvm.Cond.lays "LoopSignals$Unreadable" "java/lang/Throwable" "depth" "I") ∈ lw_all := lw_g (lw_at lw_m9 114 rfl) rfl
theorem q2183 : (Jvm.Cond.superclass "LoopSignals$Unreadable" "java/lang/Exception") ∈ lw_all := lw_g (lw_at lw_m9 115 rfl) rfl
theorem q4079 : (Jvm.Cond.castable "LoopSignals$Unreadable" "java/lang/Throwable") ∈ lw_tbl := lw_at lw_m17 91 rfl
theorem q4113 : (Jvm.Cond.castable "LoopSignals$Unreadable" "java/lang/Object") ∈ lw_tbl := lw_at lw_m17 125 rfl
theorem in_X10 : ∀ w ∈ wsX100, w ∈ lw_all := lw_in wsX100 [2160, 2161, 2162, 2163, 2164, 2182, 2178, 2180] (by decide +kernel) (by decide +kernel)

/-! LoopSignals$Holds -/
set_option maxRecDepth 100000
def RX11 : String := "LoopSignals$Holds"
abbrev cX11_count : ByteArray := prog_5_method_2_code
def yX11_count : MethodName := ⟨RX11, "count", "(ILLoopSignals$Holds;)I"⟩
def dkwX11_count_1 : List UInt8 := [132, 3, 1, 167, 255, 235, 28, 172]
abbrev dktX11_count_1 : List UInt8 := dkwX11_count_1 ++ []
def dkwX11_count_0 : List UInt8 := [3, 61, 3, 62, 29, 26, 162, 0, 22, 28, 43, 29, 185, 0, 1, 2, 0, 184, 0, 7, 96, 61]
abbrev dktX11_count_0 : List UInt8 := dkwX11_count_0 ++ dktX11_count_1
theorem dksX11_count_0 : cX11_count.data.toList.drop 0 = dktX11_count_0 := by decide +kernel
theorem dksX11_count_1 : cX11_count.data.toList.drop 22 = dktX11_count_1 := dk_seg dksX11_count_0 22 rfl rfl
theorem dX11_count_0 : decode cX11_count 0 = .ok (.iconst 0, 1) := dk_3 (dk_at dksX11_count_0 0 rfl rfl)
theorem dX11_count_1 : decode cX11_count 1 = .ok (.istore_n 2, 1) := dk_61 (dk_at dksX11_count_0 1 rfl rfl)
theorem dX11_count_2 : decode cX11_count 2 = .ok (.iconst 0, 1) := dk_3 (dk_at dksX11_count_0 2 rfl rfl)
theorem dX11_count_3 : decode cX11_count 3 = .ok (.istore_n 3, 1) := dk_62 (dk_at dksX11_count_0 3 rfl rfl)
theorem dX11_count_4 : decode cX11_count 4 = .ok (.iload_n 3, 1) := dk_29 (dk_at dksX11_count_0 4 rfl rfl)
theorem dX11_count_5 : decode cX11_count 5 = .ok (.iload_n 0, 1) := dk_26 (dk_at dksX11_count_0 5 rfl rfl)
theorem dX11_count_6 : decode cX11_count 6 = .ok (.if_icmp .ge 22, 3) := dk_162 0 22 (dk_at dksX11_count_0 6 rfl rfl)
theorem dX11_count_9 : decode cX11_count 9 = .ok (.iload_n 2, 1) := dk_28 (dk_at dksX11_count_0 9 rfl rfl)
theorem dX11_count_10 : decode cX11_count 10 = .ok (.aload_n 1, 1) := dk_43 (dk_at dksX11_count_0 10 rfl rfl)
theorem dX11_count_11 : decode cX11_count 11 = .ok (.iload_n 3, 1) := dk_29 (dk_at dksX11_count_0 11 rfl rfl)
theorem dX11_count_12 : decode cX11_count 12 = .ok (.invokeinterface 1 2, 5) := by decide +kernel
theorem dX11_count_17 : decode cX11_count 17 = .ok (.invokestatic 7, 3) := dk_184 0 7 (dk_at dksX11_count_0 17 rfl rfl)
theorem dX11_count_20 : decode cX11_count 20 = .ok (.iadd, 1) := dk_96 (dk_at dksX11_count_0 20 rfl rfl)
theorem dX11_count_21 : decode cX11_count 21 = .ok (.istore_n 2, 1) := dk_61 (dk_at dksX11_count_0 21 rfl rfl)
theorem dX11_count_22 : decode cX11_count 22 = .ok (.iinc 3 1, 3) := dk_132 3 1 (dk_at dksX11_count_1 0 rfl rfl)
theorem dX11_count_25 : decode cX11_count 25 = .ok (.goto (-21), 3) := dk_167 255 235 (dk_at dksX11_count_1 3 rfl rfl)
theorem dX11_count_28 : decode cX11_count 28 = .ok (.iload_n 2, 1) := dk_28 (dk_at dksX11_count_1 6 rfl rfl)
theorem dX11_count_29 : decode cX11_count 29 = .ok (.ireturn, 1) := dk_172 (dk_at dksX11_count_1 7 rfl rfl)
theorem q200 : (Jvm.Cond.initialized "LoopSignals$Holds") ∈ lw_all := lw_g (lw_at lw_m1 52 rfl) rfl
theorem q2339 : (Jvm.Cond.static ({ cls := "LoopSignals$Holds", name := "count", desc := "(ILLoopSignals$Holds;)I" } : Jvm.MethodName)) ∈ lw_all := lw_g (lw_at lw_m10 31 rfl) rfl
theorem q2340 : (Jvm.Cond.code ({ cls := "LoopSignals$Holds", name := "count", desc := "(ILLoopSignals$Holds;)I" } : Jvm.MethodName) prog_5_method_2_code (4 : Nat) (Option.some Jvm.ClassFile.FieldType.int)) ∈ lw_all := lw_g (lw_at lw_m10 32 rfl) rfl
theorem q2341 : (Jvm.Cond.interfaceEntry "LoopSignals$Holds" (1 : Nat)) ∈ lw_tbl := lw_at lw_m10 33 rfl
theorem q2342 : (Jvm.Cond.methodLink "LoopSignals$Holds" (1 : Nat) ({ cls := "LoopSignals$Holds", name := "of", desc := "(I)Z" } : Jvm.MethodName)) ∈ lw_all := lw_g (lw_at lw_m10 34 rfl) rfl
theorem q2343 : (Jvm.Cond.interfaceMethod "LoopSignals$Holds" "LoopSignals$Holds" "of" "(I)Z") ∈ lw_tbl := lw_at lw_m10 35 rfl
theorem q2344 : (Jvm.Cond.declares ({ cls := "LoopSignals$Holds", name := "of", desc := "(I)Z" } : Jvm.MethodName)) ∈ lw_tbl := lw_at lw_m10 36 rfl
theorem q2345 : (Jvm.Cond.methodLinkNest "LoopSignals$Holds" (7 : Nat) ({ cls := "LoopSignals", name := "one", desc := "(Z)I" } : Jvm.MethodName) "LoopSignals") ∈ lw_tbl := lw_at lw_m10 37 rfl

