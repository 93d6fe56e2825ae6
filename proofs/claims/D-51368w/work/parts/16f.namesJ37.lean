/-! java/util/Objects -/
set_option maxRecDepth 100000
def RJ37 : String := "java/util/Objects"
abbrev cJ37_checkIndex : ByteArray := prog_77_method_17_code
def yJ37_checkIndex : MethodName := ⟨RJ37, "checkIndex", "(II)I"⟩
def dkwJ37_checkIndex_0 : List UInt8 := [26, 27, 1, 184, 0, 105, 172]
abbrev dktJ37_checkIndex_0 : List UInt8 := dkwJ37_checkIndex_0 ++ []
theorem dksJ37_checkIndex_0 : cJ37_checkIndex.data.toList.drop 0 = dktJ37_checkIndex_0 := by decide +kernel
theorem dJ37_checkIndex_0 : decode cJ37_checkIndex 0 = .ok (.iload_n 0, 1) := dk_26 (dk_at dksJ37_checkIndex_0 0 rfl rfl)
theorem dJ37_checkIndex_1 : decode cJ37_checkIndex 1 = .ok (.iload_n 1, 1) := dk_27 (dk_at dksJ37_checkIndex_0 1 rfl rfl)
theorem dJ37_checkIndex_2 : decode cJ37_checkIndex 2 = .ok (.aconst_null, 1) := dk_1 (dk_at dksJ37_checkIndex_0 2 rfl rfl)
theorem dJ37_checkIndex_3 : decode cJ37_checkIndex 3 = .ok (.invokestatic 105, 3) := dk_184 0 105 (dk_at dksJ37_checkIndex_0 3 rfl rfl)
theorem dJ37_checkIndex_6 : decode cJ37_checkIndex 6 = .ok (.ireturn, 1) := dk_172 (dk_at dksJ37_checkIndex_0 6 rfl rfl)
theorem q205 : (Jvm.Cond.initialized "java/util/Objects") ∈ lw_all := lw_g (lw_at lw_m1 57 rfl) rfl
theorem q2515 : (Jvm.Cond.static ({ cls := "java/util/Objects", name := "checkIndex", desc := "(II)I" } : Jvm.MethodName)) ∈ lw_all := lw_g (lw_at lw_m10 207 rfl) rfl
theorem q2516 : (Jvm.Cond.code ({ cls := "java/util/Objects", name := "checkIndex", desc := "(II)I" } : Jvm.MethodName) prog_77_method_17_code (2 : Nat) (Option.some Jvm.ClassFile.FieldType.int)) ∈ lw_all := lw_g (lw_at lw_m10 208 rfl) rfl
theorem q2517 : (Jvm.Cond.methodLink "java/util/Objects" (105 : Nat) ({ cls := "jdk/internal/util/Preconditions", name := "checkIndex", desc := "(IILjava/util/function/BiFunction;)I" } : Jvm.MethodName)) ∈ lw_all := lw_g (lw_at lw_m10 209 rfl) rfl
