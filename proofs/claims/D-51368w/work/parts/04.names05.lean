/-! java/util/HashMap$KeyIterator -/
set_option maxRecDepth 100000
def RJ41 : String := "java/util/HashMap$KeyIterator"
def TJ41 : u_T := fun k => match k with
  | 0 => ("java/util/HashMap$HashIterator", "next", "Ljava/util/HashMap$Node;", false)
  | 1 => ("java/util/HashMap$HashIterator", "current", "Ljava/util/HashMap$Node;", false)
  | 2 => ("java/util/HashMap$HashIterator", "expectedModCount", "I", false)
  | 3 => ("java/util/HashMap$HashIterator", "index", "I", false)
  | _ => ("java/util/HashMap$HashIterator", "this$0", "Ljava/util/HashMap;", true)
def tyJ41 : Nat → FieldType := fun k => match k with
  | 0 => .object "java/util/HashMap$Node"
  | 1 => .object "java/util/HashMap$Node"
  | 2 => .int
  | 3 => .int
  | _ => .object "java/util/HashMap"
abbrev wsJ410 : List Cond := u_ws RJ41 TJ41 5
theorem nmJ41 : ∀ a, a < 5 → ∀ b, b < 5 → a ≠ b → (TJ41 a).2.1 ≠ (TJ41 b).2.1 := by decide +kernel
theorem tyJ41_ok : ∀ k, k < 5 → parseFieldDescriptor (TJ41 k).2.2.1 = some (tyJ41 k) := by decide +kernel
abbrev cJ41_init : ByteArray := prog_61_method_1_code
def yJ41_init : MethodName := ⟨RJ41, "<init>", "(Ljava/util/HashMap;)V"⟩
def dkwJ41_init_0 : List UInt8 := [42, 43, 183, 0, 1, 177]
abbrev dktJ41_init_0 : List UInt8 := dkwJ41_init_0 ++ []
theorem dksJ41_init_0 : cJ41_init.data.toList.drop 0 = dktJ41_init_0 := by decide +kernel
theorem dJ41_init_0 : decode cJ41_init 0 = .ok (.aload_n 0, 1) := dk_42 (dk_at dksJ41_init_0 0 rfl rfl)
theorem dJ41_init_1 : decode cJ41_init 1 = .ok (.aload_n 1, 1) := dk_43 (dk_at dksJ41_init_0 1 rfl rfl)
theorem dJ41_init_2 : decode cJ41_init 2 = .ok (.invokespecial 1, 3) := dk_183 0 1 (dk_at dksJ41_init_0 2 rfl rfl)
theorem dJ41_init_5 : decode cJ41_init 5 = .ok (.return_, 1) := dk_177 (dk_at dksJ41_init_0 5 rfl rfl)
abbrev cJ41_next : ByteArray := prog_61_method_2_code
def yJ41_next : MethodName := ⟨RJ41, "next", "()Ljava/lang/Object;"⟩
def dkwJ41_next_0 : List UInt8 := [42, 182, 0, 7, 180, 0, 13, 176]
abbrev dktJ41_next_0 : List UInt8 := dkwJ41_next_0 ++ []
theorem dksJ41_next_0 : cJ41_next.data.toList.drop 0 = dktJ41_next_0 := by decide +kernel
theorem dJ41_next_0 : decode cJ41_next 0 = .ok (.aload_n 0, 1) := dk_42 (dk_at dksJ41_next_0 0 rfl rfl)
theorem dJ41_next_1 : decode cJ41_next 1 = .ok (.invokevirtual 7, 3) := dk_182 0 7 (dk_at dksJ41_next_0 1 rfl rfl)
theorem dJ41_next_4 : decode cJ41_next 4 = .ok (.getfield 13, 3) := dk_180 0 13 (dk_at dksJ41_next_0 4 rfl rfl)
theorem dJ41_next_7 : decode cJ41_next 7 = .ok (.areturn, 1) := dk_176 (dk_at dksJ41_next_0 7 rfl rfl)
theorem q209 : (Jvm.Cond.initialized "java/util/HashMap$KeyIterator") ∈ lw_all := lw_g (lw_at lw_m1 61 rfl) rfl
theorem q1049 : (Jvm.Cond.selects "java/util/HashMap$KeyIterator" ({ cls := "java/lang/Object", name := "getClass", desc := "()Ljava/lang/Class;" } : Jvm.MethodName) ({ cls := "java/lang/Object", name := "getClass", desc := "()Ljava/lang/Class;" } : Jvm.MethodName)) ∈ lw_all := lw_g (lw_at lw_m4 181 rfl) rfl
theorem q1444 : (Jvm.Cond.fieldLink "java/util/HashMap$KeyIterator" (13 : Nat) "java/util/HashMap$Node" "key" "Ljava/lang/Object;") ∈ lw_all := lw_g (lw_at lw_m6 96 rfl) rfl
theorem q2743 : (Jvm.Cond.instantiable "java/util/HashMap$KeyIterator" (5 : Nat)) ∈ lw_all := lw_g (lw_at lw_m11 195 rfl) rfl
theorem q2745 : (Jvm.Cond.instanceMethod ({ cls := "java/util/HashMap$KeyIterator", name := "<init>", desc := "(Ljava/util/HashMap;)V" } : Jvm.MethodName)) ∈ lw_all := lw_g (lw_at lw_m11 197 rfl) rfl
theorem q2746 : (Jvm.Cond.code ({ cls := "java/util/HashMap$KeyIterator", name := "<init>", desc := "(Ljava/util/HashMap;)V" } : Jvm.MethodName) prog_61_method_1_code (2 : Nat) (Option.none : Option Jvm.ClassFile.FieldType)) ∈ lw_all := lw_g (lw_at lw_m11 198 rfl) rfl
theorem q2747 : (Jvm.Cond.methodLink "java/util/HashMap$KeyIterator" (1 : Nat) ({ cls := "java/util/HashMap$HashIterator", name := "<init>", desc := "(Ljava/util/HashMap;)V" } : Jvm.MethodName)) ∈ lw_all := lw_g (lw_at lw_m11 199 rfl) rfl
theorem q2756 : (Jvm.Cond.lays "java/util/HashMap$KeyIterator" "java/util/HashMap$HashIterator" "next" "Ljava/util/HashMap$Node;") ∈ lw_all := lw_g (lw_at lw_m11 208 rfl) rfl
theorem q2758 : (Jvm.Cond.lays "java/util/HashMap$KeyIterator" "java/util/HashMap$HashIterator" "current" "Ljava/util/HashMap$Node;") ∈ lw_all := lw_g (lw_at lw_m11 210 rfl) rfl
theorem q2760 : (Jvm.Cond.lays "java/util/HashMap$KeyIterator" "java/util/HashMap$HashIterator" "expectedModCount" "I") ∈ lw_all := lw_g (lw_at lw_m11 212 rfl) rfl
theorem q2762 : (Jvm.Cond.lays "java/util/HashMap$KeyIterator" "java/util/HashMap$HashIterator" "index" "I") ∈ lw_all := lw_g (lw_at lw_m11 214 rfl) rfl
theorem q2764 : (Jvm.Cond.laysFinal "java/util/HashMap$KeyIterator" "java/util/HashMap$HashIterator" "this$0" "Ljava/util/HashMap;") ∈ lw_all := lw_g (lw_at lw_m11 216 rfl) rfl
theorem q2766 : (Jvm.Cond.superclass "java/util/HashMap$KeyIterator" "java/util/HashMap$HashIterator") ∈ lw_all := lw_g (lw_at lw_m11 218 rfl) rfl
theorem q2806 : (Jvm.Cond.castable "java/util/HashMap$KeyIterator" "java/util/Iterator") ∈ lw_tbl := lw_at lw_m12 18 rfl
theorem q2807 : (Jvm.Cond.selects "java/util/HashMap$KeyIterator" ({ cls := "java/util/Iterator", name := "hasNext", desc := "()Z" } : Jvm.MethodName) ({ cls := "java/util/HashMap$HashIterator", name := "hasNext", desc := "()Z" } : Jvm.MethodName)) ∈ lw_all := lw_g (lw_at lw_m12 19 rfl) rfl
theorem q2808 : (Jvm.Cond.unhidden "java/util/HashMap$KeyIterator" "hasNext" "()Z") ∈ lw_tbl := lw_at lw_m12 20 rfl
theorem q2822 : (Jvm.Cond.selects "java/util/HashMap$KeyIterator" ({ cls := "java/util/Iterator", name := "next", desc := "()Ljava/lang/Object;" } : Jvm.MethodName) ({ cls := "java/util/HashMap$KeyIterator", name := "next", desc := "()Ljava/lang/Object;" } : Jvm.MethodName)) ∈ lw_all := lw_g (lw_at lw_m12 34 rfl) rfl
theorem q2823 : (Jvm.Cond.unhidden "java/util/HashMap$KeyIterator" "next" "()Ljava/lang/Object;") ∈ lw_tbl := lw_at lw_m12 35 rfl
theorem q2824 : (Jvm.Cond.instanceMethod ({ cls := "java/util/HashMap$KeyIterator", name := "next", desc := "()Ljava/lang/Object;" } : Jvm.MethodName)) ∈ lw_all := lw_g (lw_at lw_m12 36 rfl) rfl
theorem q2825 : (Jvm.Cond.publicMethod ({ cls := "java/util/HashMap$KeyIterator", name := "next", desc := "()Ljava/lang/Object;" } : Jvm.MethodName)) ∈ lw_tbl := lw_at lw_m12 37 rfl
theorem q2826 : (Jvm.Cond.code ({ cls := "java/util/HashMap$KeyIterator", name := "next", desc := "()Ljava/lang/Object;" } : Jvm.MethodName) prog_61_method_2_code (1 : Nat) (Option.some (Jvm.ClassFile.FieldType.object "java/lang/Object"))) ∈ lw_all := lw_g (lw_at lw_m12 38 rfl) rfl
theorem q2827 : (Jvm.Cond.methodLink "java/util/HashMap$KeyIterator" (7 : Nat) ({ cls := "java/util/HashMap$KeyIterator", name := "nextNode", desc := "()Ljava/util/HashMap$Node;" } : Jvm.MethodName)) ∈ lw_all := lw_g (lw_at lw_m12 39 rfl) rfl
theorem q2828 : (Jvm.Cond.sameMethod "java/util/HashMap$KeyIterator" "java/util/HashMap$HashIterator" "nextNode" "()Ljava/util/HashMap$Node;") ∈ lw_all := lw_g (lw_at lw_m12 40 rfl) rfl
theorem q2830 : (Jvm.Cond.selects "java/util/HashMap$KeyIterator" ({ cls := "java/util/HashMap$KeyIterator", name := "nextNode", desc := "()Ljava/util/HashMap$Node;" } : Jvm.MethodName) ({ cls := "java/util/HashMap$HashIterator", name := "nextNode", desc := "()Ljava/util/HashMap$Node;" } : Jvm.MethodName)) ∈ lw_all := lw_g (lw_at lw_m12 42 rfl) rfl
theorem q4119 : (Jvm.Cond.castable "java/util/HashMap$KeyIterator" "java/lang/Object") ∈ lw_tbl := lw_at lw_m17 131 rfl
theorem in_J41 : ∀ w ∈ wsJ410, w ∈ lw_all := lw_in wsJ410 [2756, 2758, 2760, 2762, 2764] (by decide +kernel) (by decide +kernel)

/-! java/util/LinkedHashMap$LinkedHashIterator -/
set_option maxRecDepth 100000
def RJ42 : String := "java/util/LinkedHashMap$LinkedHashIterator"
abbrev cJ42_init : ByteArray := prog_69_method_1_code
def yJ42_init : MethodName := ⟨RJ42, "<init>", "(Ljava/util/LinkedHashMap;Z)V"⟩
def dkwJ42_init_1 : List UInt8 := [167, 0, 7, 43, 180, 0, 23, 181, 0, 26, 42, 43, 180, 0, 29, 181, 0, 33, 42, 1, 181, 0, 36, 177]
abbrev dktJ42_init_1 : List UInt8 := dkwJ42_init_1 ++ []
def dkwJ42_init_0 : List UInt8 := [42, 43, 181, 0, 1, 42, 183, 0, 7, 42, 28, 181, 0, 13, 42, 28, 153, 0, 10, 43, 180, 0, 17]
abbrev dktJ42_init_0 : List UInt8 := dkwJ42_init_0 ++ dktJ42_init_1
theorem dksJ42_init_0 : cJ42_init.data.toList.drop 0 = dktJ42_init_0 := by decide +kernel
theorem dksJ42_init_1 : cJ42_init.data.toList.drop 23 = dktJ42_init_1 := dk_seg dksJ42_init_0 23 rfl rfl
theorem dJ42_init_0 : decode cJ42_init 0 = .ok (.aload_n 0, 1) := dk_42 (dk_at dksJ42_init_0 0 rfl rfl)
theorem dJ42_init_1 : decode cJ42_init 1 = .ok (.aload_n 1, 1) := dk_43 (dk_at dksJ42_init_0 1 rfl rfl)
theorem dJ42_init_2 : decode cJ42_init 2 = .ok (.putfield 1, 3) := dk_181 0 1 (dk_at dksJ42_init_0 2 rfl rfl)
theorem dJ42_init_5 : decode cJ42_init 5 = .ok (.aload_n 0, 1) := dk_42 (dk_at dksJ42_init_0 5 rfl rfl)
theorem dJ42_init_6 : decode cJ42_init 6 = .ok (.invokespecial 7, 3) := dk_183 0 7 (dk_at dksJ42_init_0 6 rfl rfl)
theorem dJ42_init_9 : decode cJ42_init 9 = .ok (.aload_n 0, 1) := dk_42 (dk_at dksJ42_init_0 9 rfl rfl)
theorem dJ42_init_10 : decode cJ42_init 10 = .ok (.iload_n 2, 1) := dk_28 (dk_at dksJ42_init_0 10 rfl rfl)
theorem dJ42_init_11 : decode cJ42_init 11 = .ok (.putfield 13, 3) := dk_181 0 13 (dk_at dksJ42_init_0 11 rfl rfl)
theorem dJ42_init_14 : decode cJ42_init 14 = .ok (.aload_n 0, 1) := dk_42 (dk_at dksJ42_init_0 14 rfl rfl)
theorem dJ42_init_15 : decode cJ42_init 15 = .ok (.iload_n 2, 1) := dk_28 (dk_at dksJ42_init_0 15 rfl rfl)
theorem dJ42_init_16 : decode cJ42_init 16 = .ok (.ifCond .eq 10, 3) := dk_153 0 10 (dk_at dksJ42_init_0 16 rfl rfl)
theorem dJ42_init_19 : decode cJ42_init 19 = .ok (.aload_n 1, 1) := dk_43 (dk_at dksJ42_init_0 19 rfl rfl)
theorem dJ42_init_20 : decode cJ42_init 20 = .ok (.getfield 17, 3) := dk_180 0 17 (dk_at dksJ42_init_0 20 rfl rfl)
theorem dJ42_init_23 : decode cJ42_init 23 = .ok (.goto 7, 3) := dk_167 0 7 (dk_at dksJ42_init_1 0 rfl rfl)
theorem dJ42_init_26 : decode cJ42_init 26 = .ok (.aload_n 1, 1) := dk_43 (dk_at dksJ42_init_1 3 rfl rfl)
theorem dJ42_init_27 : decode cJ42_init 27 = .ok (.getfield 23, 3) := dk_180 0 23 (dk_at dksJ42_init_1 4 rfl rfl)
theorem dJ42_init_30 : decode cJ42_init 30 = .ok (.putfield 26, 3) := dk_181 0 26 (dk_at dksJ42_init_1 7 rfl rfl)
theorem dJ42_init_33 : decode cJ42_init 33 = .ok (.aload_n 0, 1) := dk_42 (dk_at dksJ42_init_1 10 rfl rfl)
theorem dJ42_init_34 : decode cJ42_init 34 = .ok (.aload_n 1, 1) := dk_43 (dk_at dksJ42_init_1 11 rfl rfl)
theorem dJ42_init_35 : decode cJ42_init 35 = .ok (.getfield 29, 3) := dk_180 0 29 (dk_at dksJ42_init_1 12 rfl rfl)
theorem dJ42_init_38 : decode cJ42_init 38 = .ok (.putfield 33, 3) := dk_181 0 33 (dk_at dksJ42_init_1 15 rfl rfl)
theorem dJ42_init_41 : decode cJ42_init 41 = .ok (.aload_n 0, 1) := dk_42 (dk_at dksJ42_init_1 18 rfl rfl)
theorem dJ42_init_42 : decode cJ42_init 42 = .ok (.aconst_null, 1) := dk_1 (dk_at dksJ42_init_1 19 rfl rfl)
theorem dJ42_init_43 : decode cJ42_init 43 = .ok (.putfield 36, 3) := dk_181 0 36 (dk_at dksJ42_init_1 20 rfl rfl)
theorem dJ42_init_46 : decode cJ42_init 46 = .ok (.return_, 1) := dk_177 (dk_at dksJ42_init_1 23 rfl rfl)
abbrev cJ42_hasNext : ByteArray := prog_69_method_2_code
def yJ42_hasNext : MethodName := ⟨RJ42, "hasNext", "()Z"⟩
def dkwJ42_hasNext_0 : List UInt8 := [42, 180, 0, 26, 198, 0, 7, 4, 167, 0, 4, 3, 172]
abbrev dktJ42_hasNext_0 : List UInt8 := dkwJ42_hasNext_0 ++ []
theorem dksJ42_hasNext_0 : cJ42_hasNext.data.toList.drop 0 = dktJ42_hasNext_0 := by decide +kernel
theorem dJ42_hasNext_0 : decode cJ42_hasNext 0 = .ok (.aload_n 0, 1) := dk_42 (dk_at dksJ42_hasNext_0 0 rfl rfl)
theorem dJ42_hasNext_1 : decode cJ42_hasNext 1 = .ok (.getfield 26, 3) := dk_180 0 26 (dk_at dksJ42_hasNext_0 1 rfl rfl)
theorem dJ42_hasNext_4 : decode cJ42_hasNext 4 = .ok (.ifnull 7, 3) := dk_198 0 7 (dk_at dksJ42_hasNext_0 4 rfl rfl)
theorem dJ42_hasNext_7 : decode cJ42_hasNext 7 = .ok (.iconst 1, 1) := dk_4 (dk_at dksJ42_hasNext_0 7 rfl rfl)
theorem dJ42_hasNext_8 : decode cJ42_hasNext 8 = .ok (.goto 4, 3) := dk_167 0 4 (dk_at dksJ42_hasNext_0 8 rfl rfl)
theorem dJ42_hasNext_11 : decode cJ42_hasNext 11 = .ok (.iconst 0, 1) := dk_3 (dk_at dksJ42_hasNext_0 11 rfl rfl)
theorem dJ42_hasNext_12 : decode cJ42_hasNext 12 = .ok (.ireturn, 1) := dk_172 (dk_at dksJ42_hasNext_0 12 rfl rfl)
abbrev cJ42_nextNode : ByteArray := prog_69_method_3_code
def yJ42_nextNode : MethodName := ⟨RJ42, "nextNode", "()Ljava/util/LinkedHashMap$Entry;"⟩
def dkwJ42_nextNode_2 : List UInt8 := [180, 0, 13, 153, 0, 10, 43, 180, 0, 45, 167, 0, 7, 43, 180, 0, 50, 181, 0, 26, 43, 176]
abbrev dktJ42_nextNode_2 : List UInt8 := dkwJ42_nextNode_2 ++ []
def dkwJ42_nextNode_1 : List UInt8 := [183, 0, 41, 191, 43, 199, 0, 11, 187, 0, 42, 89, 183, 0, 44, 191, 42, 43, 181, 0, 36, 42, 42]
abbrev dktJ42_nextNode_1 : List UInt8 := dkwJ42_nextNode_1 ++ dktJ42_nextNode_2
def dkwJ42_nextNode_0 : List UInt8 := [42, 180, 0, 26, 76, 42, 180, 0, 1, 180, 0, 29, 42, 180, 0, 33, 159, 0, 11, 187, 0, 39, 89]
abbrev dktJ42_nextNode_0 : List UInt8 := dkwJ42_nextNode_0 ++ dktJ42_nextNode_1
theorem dksJ42_nextNode_0 : cJ42_nextNode.data.toList.drop 0 = dktJ42_nextNode_0 := by decide +kernel
theorem dksJ42_nextNode_1 : cJ42_nextNode.data.toList.drop 23 = dktJ42_nextNode_1 := dk_seg dksJ42_nextNode_0 23 rfl rfl
theorem dksJ42_nextNode_2 : cJ42_nextNode.data.toList.drop 46 = dktJ42_nextNode_2 := dk_seg dksJ42_nextNode_1 23 rfl rfl
theorem dJ42_nextNode_0 : decode cJ42_nextNode 0 = .ok (.aload_n 0, 1) := dk_42 (dk_at dksJ42_nextNode_0 0 rfl rfl)
theorem dJ42_nextNode_1 : decode cJ42_nextNode 1 = .ok (.getfield 26, 3) := dk_180 0 26 (dk_at dksJ42_nextNode_0 1 rfl rfl)
theorem dJ42_nextNode_4 : decode cJ42_nextNode 4 = .ok (.astore_n 1, 1) := dk_76 (dk_at dksJ42_nextNode_0 4 rfl rfl)
theorem dJ42_nextNode_5 : decode cJ42_nextNode 5 = .ok (.aload_n 0, 1) := dk_42 (dk_at dksJ42_nextNode_0 5 rfl rfl)
theorem dJ42_nextNode_6 : decode cJ42_nextNode 6 = .ok (.getfield 1, 3) := dk_180 0 1 (dk_at dksJ42_nextNode_0 6 rfl rfl)
theorem dJ42_nextNode_9 : decode cJ42_nextNode 9 = .ok (.getfield 29, 3) := dk_180 0 29 (dk_at dksJ42_nextNode_0 9 rfl rfl)
theorem dJ42_nextNode_12 : decode cJ42_nextNode 12 = .ok (.aload_n 0, 1) := dk_42 (dk_at dksJ42_nextNode_0 12 rfl rfl)
theorem dJ42_nextNode_13 : decode cJ42_nextNode 13 = .ok (.getfield 33, 3) := dk_180 0 33 (dk_at dksJ42_nextNode_0 13 rfl rfl)
theorem dJ42_nextNode_16 : decode cJ42_nextNode 16 = .ok (.if_icmp .eq 11, 3) := dk_159 0 11 (dk_at dksJ42_nextNode_0 16 rfl rfl)
theorem dJ42_nextNode_19 : decode cJ42_nextNode 19 = .ok (.new 39, 3) := dk_187 0 39 (dk_at dksJ42_nextNode_0 19 rfl rfl)
theorem dJ42_nextNode_22 : decode cJ42_nextNode 22 = .ok (.dup, 1) := dk_89 (dk_at dksJ42_nextNode_0 22 rfl rfl)
theorem dJ42_nextNode_23 : decode cJ42_nextNode 23 = .ok (.invokespecial 41, 3) := dk_183 0 41 (dk_at dksJ42_nextNode_1 0 rfl rfl)
theorem dJ42_nextNode_26 : decode cJ42_nextNode 26 = .ok (.athrow, 1) := dk_191 (dk_at dksJ42_nextNode_1 3 rfl rfl)
theorem dJ42_nextNode_27 : decode cJ42_nextNode 27 = .ok (.aload_n 1, 1) := dk_43 (dk_at dksJ42_nextNode_1 4 rfl rfl)
theorem dJ42_nextNode_28 : decode cJ42_nextNode 28 = .ok (.ifnonnull 11, 3) := dk_199 0 11 (dk_at dksJ42_nextNode_1 5 rfl rfl)
theorem dJ42_nextNode_31 : decode cJ42_nextNode 31 = .ok (.new 42, 3) := dk_187 0 42 (dk_at dksJ42_nextNode_1 8 rfl rfl)
theorem dJ42_nextNode_34 : decode cJ42_nextNode 34 = .ok (.dup, 1) := dk_89 (dk_at dksJ42_nextNode_1 11 rfl rfl)
theorem dJ42_nextNode_35 : decode cJ42_nextNode 35 = .ok (.invokespecial 44, 3) := dk_183 0 44 (dk_at dksJ42_nextNode_1 12 rfl rfl)
theorem dJ42_nextNode_38 : decode cJ42_nextNode 38 = .ok (.athrow, 1) := dk_191 (dk_at dksJ42_nextNode_1 15 rfl rfl)
theorem dJ42_nextNode_39 : decode cJ42_nextNode 39 = .ok (.aload_n 0, 1) := dk_42 (dk_at dksJ42_nextNode_1 16 rfl rfl)
theorem dJ42_nextNode_40 : decode cJ42_nextNode 40 = .ok (.aload_n 1, 1) := dk_43 (dk_at dksJ42_nextNode_1 17 rfl rfl)
theorem dJ42_nextNode_41 : decode cJ42_nextNode 41 = .ok (.putfield 36, 3) := dk_181 0 36 (dk_at dksJ42_nextNode_1 18 rfl rfl)
theorem dJ42_nextNode_44 : decode cJ42_nextNode 44 = .ok (.aload_n 0, 1) := dk_42 (dk_at dksJ42_nextNode_1 21 rfl rfl)
theorem dJ42_nextNode_45 : decode cJ42_nextNode 45 = .ok (.aload_n 0, 1) := dk_42 (dk_at dksJ42_nextNode_1 22 rfl rfl)
theorem dJ42_nextNode_46 : decode cJ42_nextNode 46 = .ok (.getfield 13, 3) := dk_180 0 13 (dk_at dksJ42_nextNode_2 0 rfl rfl)
theorem dJ42_nextNode_49 : decode cJ42_nextNode 49 = .ok (.ifCond .eq 10, 3) := dk_153 0 10 (dk_at dksJ42_nextNode_2 3 rfl rfl)
theorem dJ42_nextNode_52 : decode cJ42_nextNode 52 = .ok (.aload_n 1, 1) := dk_43 (dk_at dksJ42_nextNode_2 6 rfl rfl)
theorem dJ42_nextNode_53 : decode cJ42_nextNode 53 = .ok (.getfield 45, 3) := dk_180 0 45 (dk_at dksJ42_nextNode_2 7 rfl rfl)
theorem dJ42_nextNode_56 : decode cJ42_nextNode 56 = .ok (.goto 7, 3) := dk_167 0 7 (dk_at dksJ42_nextNode_2 10 rfl rfl)
theorem dJ42_nextNode_59 : decode cJ42_nextNode 59 = .ok (.aload_n 1, 1) := dk_43 (dk_at dksJ42_nextNode_2 13 rfl rfl)
theorem dJ42_nextNode_60 : decode cJ42_nextNode 60 = .ok (.getfield 50, 3) := dk_180 0 50 (dk_at dksJ42_nextNode_2 14 rfl rfl)
theorem dJ42_nextNode_63 : decode cJ42_nextNode 63 = .ok (.putfield 26, 3) := dk_181 0 26 (dk_at dksJ42_nextNode_2 17 rfl rfl)
theorem dJ42_nextNode_66 : decode cJ42_nextNode 66 = .ok (.aload_n 1, 1) := dk_43 (dk_at dksJ42_nextNode_2 20 rfl rfl)
theorem dJ42_nextNode_67 : decode cJ42_nextNode 67 = .ok (.areturn, 1) := dk_176 (dk_at dksJ42_nextNode_2 21 rfl rfl)
theorem q210 : (Jvm.Cond.initialized "java/util/LinkedHashMap$LinkedHashIterator") ∈ lw_all := lw_g (lw_at lw_m1 62 rfl) rfl
theorem q604 : (Jvm.Cond.fieldLink "java/util/LinkedHashMap$LinkedHashIterator" (23 : Nat) "java/util/LinkedHashMap" "head" "Ljava/util/LinkedHashMap$Entry;") ∈ lw_all := lw_g (lw_at lw_m2 216 rfl) rfl
theorem q605 : (Jvm.Cond.fieldLink "java/util/LinkedHashMap$LinkedHashIterator" (17 : Nat) "java/util/LinkedHashMap" "tail" "Ljava/util/LinkedHashMap$Entry;") ∈ lw_all := lw_g (lw_at lw_m2 217 rfl) rfl
theorem q614 : (Jvm.Cond.fieldLink "java/util/LinkedHashMap$LinkedHashIterator" (29 : Nat) "java/util/LinkedHashMap" "modCount" "I") ∈ lw_all := lw_g (lw_at lw_m2 226 rfl) rfl
theorem q1434 : (Jvm.Cond.fieldLink "java/util/LinkedHashMap$LinkedHashIterator" (45 : Nat) "java/util/LinkedHashMap$Entry" "before" "Ljava/util/LinkedHashMap$Entry;") ∈ lw_all := lw_g (lw_at lw_m6 86 rfl) rfl
theorem q1436 : (Jvm.Cond.fieldLink "java/util/LinkedHashMap$LinkedHashIterator" (50 : Nat) "java/util/LinkedHashMap$Entry" "after" "Ljava/util/LinkedHashMap$Entry;") ∈ lw_all := lw_g (lw_at lw_m6 88 rfl) rfl
theorem q2779 : (Jvm.Cond.instanceMethod ({ cls := "java/util/LinkedHashMap$LinkedHashIterator", name := "<init>", desc := "(Ljava/util/LinkedHashMap;Z)V" } : Jvm.MethodName)) ∈ lw_all := lw_g (lw_at lw_m11 231 rfl) rfl
theorem q2780 : (Jvm.Cond.code ({ cls := "java/util/LinkedHashMap$LinkedHashIterator", name := "<init>", desc := "(Ljava/util/LinkedHashMap;Z)V" } : Jvm.MethodName) prog_69_method_1_code (3 : Nat) (Option.none : Option Jvm.ClassFile.FieldType)) ∈ lw_all := lw_g (lw_at lw_m11 232 rfl) rfl
theorem q2781 : (Jvm.Cond.methodLink "java/util/LinkedHashMap$LinkedHashIterator" (7 : Nat) ({ cls := "java/lang/Object", name := "<init>", desc := "()V" } : Jvm.MethodName)) ∈ lw_all := lw_g (lw_at lw_m11 233 rfl) rfl
theorem q2782 : (Jvm.Cond.fieldLink "java/util/LinkedHashMap$LinkedHashIterator" (26 : Nat) "java/util/LinkedHashMap$LinkedHashIterator" "next" "Ljava/util/LinkedHashMap$Entry;") ∈ lw_all := lw_g (lw_at lw_m11 234 rfl) rfl
theorem q2783 : (Jvm.Cond.fieldLink "java/util/LinkedHashMap$LinkedHashIterator" (36 : Nat) "java/util/LinkedHashMap$LinkedHashIterator" "current" "Ljava/util/LinkedHashMap$Entry;") ∈ lw_all := lw_g (lw_at lw_m11 235 rfl) rfl
theorem q2784 : (Jvm.Cond.fieldLink "java/util/LinkedHashMap$LinkedHashIterator" (33 : Nat) "java/util/LinkedHashMap$LinkedHashIterator" "expectedModCount" "I") ∈ lw_all := lw_g (lw_at lw_m11 236 rfl) rfl
theorem q2785 : (Jvm.Cond.fieldLink "java/util/LinkedHashMap$LinkedHashIterator" (13 : Nat) "java/util/LinkedHashMap$LinkedHashIterator" "reversed" "Z") ∈ lw_all := lw_g (lw_at lw_m11 237 rfl) rfl
theorem q2786 : (Jvm.Cond.fieldLink "java/util/LinkedHashMap$LinkedHashIterator" (1 : Nat) "java/util/LinkedHashMap$LinkedHashIterator" "this$0" "Ljava/util/LinkedHashMap;") ∈ lw_all := lw_g (lw_at lw_m11 238 rfl) rfl
theorem q2788 : (Jvm.Cond.soleField "java/util/LinkedHashMap$LinkedHashIterator" "next") ∈ lw_all := lw_g (lw_at lw_m12 0 rfl) rfl
theorem q2790 : (Jvm.Cond.soleField "java/util/LinkedHashMap$LinkedHashIterator" "current") ∈ lw_all := lw_g (lw_at lw_m12 2 rfl) rfl
theorem q2792 : (Jvm.Cond.soleField "java/util/LinkedHashMap$LinkedHashIterator" "expectedModCount") ∈ lw_all := lw_g (lw_at lw_m12 4 rfl) rfl
theorem q2794 : (Jvm.Cond.soleField "java/util/LinkedHashMap$LinkedHashIterator" "reversed") ∈ lw_all := lw_g (lw_at lw_m12 6 rfl) rfl
theorem q2796 : (Jvm.Cond.soleField "java/util/LinkedHashMap$LinkedHashIterator" "this$0") ∈ lw_all := lw_g (lw_at lw_m12 8 rfl) rfl
theorem q2815 : (Jvm.Cond.instanceMethod ({ cls := "java/util/LinkedHashMap$LinkedHashIterator", name := "hasNext", desc := "()Z" } : Jvm.MethodName)) ∈ lw_all := lw_g (lw_at lw_m12 27 rfl) rfl
theorem q2816 : (Jvm.Cond.publicMethod ({ cls := "java/util/LinkedHashMap$LinkedHashIterator", name := "hasNext", desc := "()Z" } : Jvm.MethodName)) ∈ lw_tbl := lw_at lw_m12 28 rfl
theorem q2817 : (Jvm.Cond.code ({ cls := "java/util/LinkedHashMap$LinkedHashIterator", name := "hasNext", desc := "()Z" } : Jvm.MethodName) prog_69_method_2_code (1 : Nat) (Option.some Jvm.ClassFile.FieldType.boolean)) ∈ lw_all := lw_g (lw_at lw_m12 29 rfl) rfl
theorem q2861 : (Jvm.Cond.declares ({ cls := "java/util/LinkedHashMap$LinkedHashIterator", name := "nextNode", desc := "()Ljava/util/LinkedHashMap$Entry;" } : Jvm.MethodName)) ∈ lw_tbl := lw_at lw_m12 73 rfl
theorem q2863 : (Jvm.Cond.instanceMethod ({ cls := "java/util/LinkedHashMap$LinkedHashIterator", name := "nextNode", desc := "()Ljava/util/LinkedHashMap$Entry;" } : Jvm.MethodName)) ∈ lw_all := lw_g (lw_at lw_m12 75 rfl) rfl
theorem q2864 : (Jvm.Cond.code ({ cls := "java/util/LinkedHashMap$LinkedHashIterator", name := "nextNode", desc := "()Ljava/util/LinkedHashMap$Entry;" } : Jvm.MethodName) prog_69_method_3_code (2 : Nat) (Option.some (Jvm.ClassFile.FieldType.object "java/util/LinkedHashMap$Entry"))) ∈ lw_all := lw_g (lw_at lw_m12 76 rfl) rfl
theorem q2865 : (Jvm.Cond.classLink "java/util/LinkedHashMap$LinkedHashIterator" (42 : Nat) "java/util/NoSuchElementException") ∈ lw_all := lw_g (lw_at lw_m12 77 rfl) rfl
theorem q2866 : (Jvm.Cond.methodLink "java/util/LinkedHashMap$LinkedHashIterator" (44 : Nat) ({ cls := "java/util/NoSuchElementException", name := "<init>", desc := "()V" } : Jvm.MethodName)) ∈ lw_all := lw_g (lw_at lw_m12 78 rfl) rfl

/-! java/util/LinkedHashMap$LinkedKeyIterator -/
set_option maxRecDepth 100000
def RJ43 : String := "java/util/LinkedHashMap$LinkedKeyIterator"
def TJ43 : u_T := fun k => match k with
  | 0 => ("java/util/LinkedHashMap$LinkedHashIterator", "next", "Ljava/util/LinkedHashMap$Entry;", false)
  | 1 => ("java/util/LinkedHashMap$LinkedHashIterator", "current", "Ljava/util/LinkedHashMap$Entry;", false)
  | 2 => ("java/util/LinkedHashMap$LinkedHashIterator", "expectedModCount", "I", false)
  | 3 => ("java/util/LinkedHashMap$LinkedHashIterator", "reversed", "Z", false)
  | _ => ("java/util/LinkedHashMap$LinkedHashIterator", "this$0", "Ljava/util/LinkedHashMap;", true)
def tyJ43 : Nat → FieldType := fun k => match k with
  | 0 => .object "java/util/LinkedHashMap$Entry"
  | 1 => .object "java/util/LinkedHashMap$Entry"
  | 2 => .int
  | 3 => .boolean
  | _ => .object "java/util/LinkedHashMap"
abbrev wsJ430 : List Cond := u_ws RJ43 TJ43 5
theorem nmJ43 : ∀ a, a < 5 → ∀ b, b < 5 → a ≠ b → (TJ43 a).2.1 ≠ (TJ43 b).2.1 := by decide +kernel
theorem tyJ43_ok : ∀ k, k < 5 → parseFieldDescriptor (TJ43 k).2.2.1 = some (tyJ43 k) := by decide +kernel
abbrev cJ43_init : ByteArray := prog_70_method_1_code
def yJ43_init : MethodName := ⟨RJ43, "<init>", "(Ljava/util/LinkedHashMap;Z)V"⟩
def dkwJ43_init_0 : List UInt8 := [42, 43, 28, 183, 0, 1, 177]
abbrev dktJ43_init_0 : List UInt8 := dkwJ43_init_0 ++ []
theorem dksJ43_init_0 : cJ43_init.data.toList.drop 0 = dktJ43_init_0 := by decide +kernel
theorem dJ43_init_0 : decode cJ43_init 0 = .ok (.aload_n 0, 1) := dk_42 (dk_at dksJ43_init_0 0 rfl rfl)
theorem dJ43_init_1 : decode cJ43_init 1 = .ok (.aload_n 1, 1) := dk_43 (dk_at dksJ43_init_0 1 rfl rfl)
theorem dJ43_init_2 : decode cJ43_init 2 = .ok (.iload_n 2, 1) := dk_28 (dk_at dksJ43_init_0 2 rfl rfl)
theorem dJ43_init_3 : decode cJ43_init 3 = .ok (.invokespecial 1, 3) := dk_183 0 1 (dk_at dksJ43_init_0 3 rfl rfl)
theorem dJ43_init_6 : decode cJ43_init 6 = .ok (.return_, 1) := dk_177 (dk_at dksJ43_init_0 6 rfl rfl)
abbrev cJ43_next : ByteArray := prog_70_method_2_code
def yJ43_next : MethodName := ⟨RJ43, "next", "()Ljava/lang/Object;"⟩
def dkwJ43_next_0 : List UInt8 := [42, 182, 0, 7, 182, 0, 13, 176]
abbrev dktJ43_next_0 : List UInt8 := dkwJ43_next_0 ++ []
theorem dksJ43_next_0 : cJ43_next.data.toList.drop 0 = dktJ43_next_0 := by decide +kernel
theorem dJ43_next_0 : decode cJ43_next 0 = .ok (.aload_n 0, 1) := dk_42 (dk_at dksJ43_next_0 0 rfl rfl)
theorem dJ43_next_1 : decode cJ43_next 1 = .ok (.invokevirtual 7, 3) := dk_182 0 7 (dk_at dksJ43_next_0 1 rfl rfl)
theorem dJ43_next_4 : decode cJ43_next 4 = .ok (.invokevirtual 13, 3) := dk_182 0 13 (dk_at dksJ43_next_0 4 rfl rfl)
theorem dJ43_next_7 : decode cJ43_next 7 = .ok (.areturn, 1) := dk_176 (dk_at dksJ43_next_0 7 rfl rfl)
theorem q211 : (Jvm.Cond.initialized "java/util/LinkedHashMap$LinkedKeyIterator") ∈ lw_all := lw_g (lw_at lw_m1 63 rfl) rfl
theorem q1055 : (Jvm.Cond.selects "java/util/LinkedHashMap$LinkedKeyIterator" ({ cls := "java/lang/Object", name := "getClass", desc := "()Ljava/lang/Class;" } : Jvm.MethodName) ({ cls := "java/lang/Object", name := "getClass", desc := "()Ljava/lang/Class;" } : Jvm.MethodName)) ∈ lw_all := lw_g (lw_at lw_m4 187 rfl) rfl
theorem q2774 : (Jvm.Cond.instantiable "java/util/LinkedHashMap$LinkedKeyIterator" (5 : Nat)) ∈ lw_all := lw_g (lw_at lw_m11 226 rfl) rfl
theorem q2776 : (Jvm.Cond.instanceMethod ({ cls := "java/util/LinkedHashMap$LinkedKeyIterator", name := "<init>", desc := "(Ljava/util/LinkedHashMap;Z)V" } : Jvm.MethodName)) ∈ lw_all := lw_g (lw_at lw_m11 228 rfl) rfl
theorem q2777 : (Jvm.Cond.code ({ cls := "java/util/LinkedHashMap$LinkedKeyIterator", name := "<init>", desc := "(Ljava/util/LinkedHashMap;Z)V" } : Jvm.MethodName) prog_70_method_1_code (3 : Nat) (Option.none : Option Jvm.ClassFile.FieldType)) ∈ lw_all := lw_g (lw_at lw_m11 229 rfl) rfl
theorem q2778 : (Jvm.Cond.methodLink "java/util/LinkedHashMap$LinkedKeyIterator" (1 : Nat) ({ cls := "java/util/LinkedHashMap$LinkedHashIterator", name := "<init>", desc := "(Ljava/util/LinkedHashMap;Z)V" } : Jvm.MethodName)) ∈ lw_all := lw_g (lw_at lw_m11 230 rfl) rfl
theorem q2787 : (Jvm.Cond.lays "java/util/LinkedHashMap$LinkedKeyIterator" "java/util/LinkedHashMap$LinkedHashIterator" "next" "Ljava/util/LinkedHashMap$Entry;") ∈ lw_all := lw_g (lw_at lw_m11 239 rfl) rfl
theorem q2789 : (Jvm.Cond.lays "java/util/LinkedHashMap$LinkedKeyIterator" "java/util/LinkedHashMap$LinkedHashIterator" "current" "Ljava/util/LinkedHashMap$Entry;") ∈ lw_all := lw_g (lw_at lw_m12 1 rfl) rfl
theorem q2791 : (Jvm.Cond.lays "java/util/LinkedHashMap$LinkedKeyIterator" "java/util/LinkedHashMap$LinkedHashIterator" "expectedModCount" "I") ∈ lw_all := lw_g (lw_at lw_m12 3 rfl) rfl
theorem q2793 : (Jvm.Cond.lays "java/util/LinkedHashMap$LinkedKeyIterator" "java/util/LinkedHashMap$LinkedHashIterator" "reversed" "Z") ∈ lw_all := lw_g (lw_at lw_m12 5 rfl) rfl
theorem q2795 : (Jvm.Cond.laysFinal "java/util/LinkedHashMap$LinkedKeyIterator" "java/util/LinkedHashMap$LinkedHashIterator" "this$0" "Ljava/util/LinkedHashMap;") ∈ lw_all := lw_g (lw_at lw_m12 7 rfl) rfl
theorem q2797 : (Jvm.Cond.superclass "java/util/LinkedHashMap$LinkedKeyIterator" "java/util/LinkedHashMap$LinkedHashIterator") ∈ lw_all := lw_g (lw_at lw_m12 9 rfl) rfl
theorem q2812 : (Jvm.Cond.castable "java/util/LinkedHashMap$LinkedKeyIterator" "java/util/Iterator") ∈ lw_tbl := lw_at lw_m12 24 rfl
theorem q2813 : (Jvm.Cond.selects "java/util/LinkedHashMap$LinkedKeyIterator" ({ cls := "java/util/Iterator", name := "hasNext", desc := "()Z" } : Jvm.MethodName) ({ cls := "java/util/LinkedHashMap$LinkedHashIterator", name := "hasNext", desc := "()Z" } : Jvm.MethodName)) ∈ lw_all := lw_g (lw_at lw_m12 25 rfl) rfl
theorem q2814 : (Jvm.Cond.unhidden "java/util/LinkedHashMap$LinkedKeyIterator" "hasNext" "()Z") ∈ lw_tbl := lw_at lw_m12 26 rfl
theorem q2854 : (Jvm.Cond.selects "java/util/LinkedHashMap$LinkedKeyIterator" ({ cls := "java/util/Iterator", name := "next", desc := "()Ljava/lang/Object;" } : Jvm.MethodName) ({ cls := "java/util/LinkedHashMap$LinkedKeyIterator", name := "next", desc := "()Ljava/lang/Object;" } : Jvm.MethodName)) ∈ lw_all := lw_g (lw_at lw_m12 66 rfl) rfl
theorem q2855 : (Jvm.Cond.unhidden "java/util/LinkedHashMap$LinkedKeyIterator" "next" "()Ljava/lang/Object;") ∈ lw_tbl := lw_at lw_m12 67 rfl
theorem q2856 : (Jvm.Cond.instanceMethod ({ cls := "java/util/LinkedHashMap$LinkedKeyIterator", name := "next", desc := "()Ljava/lang/Object;" } : Jvm.MethodName)) ∈ lw_all := lw_g (lw_at lw_m12 68 rfl) rfl
theorem q2857 : (Jvm.Cond.publicMethod ({ cls := "java/util/LinkedHashMap$LinkedKeyIterator", name := "next", desc := "()Ljava/lang/Object;" } : Jvm.MethodName)) ∈ lw_tbl := lw_at lw_m12 69 rfl
theorem q2858 : (Jvm.Cond.code ({ cls := "java/util/LinkedHashMap$LinkedKeyIterator", name := "next", desc := "()Ljava/lang/Object;" } : Jvm.MethodName) prog_70_method_2_code (1 : Nat) (Option.some (Jvm.ClassFile.FieldType.object "java/lang/Object"))) ∈ lw_all := lw_g (lw_at lw_m12 70 rfl) rfl
theorem q2859 : (Jvm.Cond.methodLink "java/util/LinkedHashMap$LinkedKeyIterator" (7 : Nat) ({ cls := "java/util/LinkedHashMap$LinkedKeyIterator", name := "nextNode", desc := "()Ljava/util/LinkedHashMap$Entry;" } : Jvm.MethodName)) ∈ lw_all := lw_g (lw_at lw_m12 71 rfl) rfl
theorem q2860 : (Jvm.Cond.sameMethod "java/util/LinkedHashMap$LinkedKeyIterator" "java/util/LinkedHashMap$LinkedHashIterator" "nextNode" "()Ljava/util/LinkedHashMap$Entry;") ∈ lw_all := lw_g (lw_at lw_m12 72 rfl) rfl
theorem q2862 : (Jvm.Cond.selects "java/util/LinkedHashMap$LinkedKeyIterator" ({ cls := "java/util/LinkedHashMap$LinkedKeyIterator", name := "nextNode", desc := "()Ljava/util/LinkedHashMap$Entry;" } : Jvm.MethodName) ({ cls := "java/util/LinkedHashMap$LinkedHashIterator", name := "nextNode", desc := "()Ljava/util/LinkedHashMap$Entry;" } : Jvm.MethodName)) ∈ lw_all := lw_g (lw_at lw_m12 74 rfl) rfl
theorem q2867 : (Jvm.Cond.methodLink "java/util/LinkedHashMap$LinkedKeyIterator" (13 : Nat) ({ cls := "java/util/LinkedHashMap$Entry", name := "getKey", desc := "()Ljava/lang/Object;" } : Jvm.MethodName)) ∈ lw_all := lw_g (lw_at lw_m12 79 rfl) rfl
theorem q4120 : (Jvm.Cond.castable "java/util/LinkedHashMap$LinkedKeyIterator" "java/lang/Object") ∈ lw_tbl := lw_at lw_m17 132 rfl
theorem in_J43 : ∀ w ∈ wsJ430, w ∈ lw_all := lw_in wsJ430 [2787, 2789, 2791, 2793, 2795] (by decide +kernel) (by decide +kernel)

/-! java/util/NoSuchElementException -/
set_option maxRecDepth 100000
def RJ44 : String := "java/util/NoSuchElementException"
def TJ44 : u_T := fun k => match k with
  | 0 => ("java/lang/Throwable", "cause", "Ljava/lang/Throwable;", false)
  | 1 => ("java/lang/Throwable", "stackTrace", "[Ljava/lang/StackTraceElement;", false)
  | 2 => ("java/lang/Throwable", "suppressedExceptions", "Ljava/util/List;", false)
  | 3 => ("java/lang/Throwable", "detailMessage", "Ljava/lang/String;", false)
  | 4 => ("java/lang/Throwable", "backtrace", "Ljava/lang/Object;", false)
  | _ => ("java/lang/Throwable", "depth", "I", false)
def tyJ44 : Nat → FieldType := fun k => match k with
  | 0 => .object "java/lang/Throwable"
  | 1 => .array (.object "java/lang/StackTraceElement")
  | 2 => .object "java/util/List"
  | 3 => .object "java/lang/String"
  | 4 => .object "java/lang/Object"
  | _ => .int
abbrev wsJ440 : List Cond := u_ws RJ44 TJ44 6
theorem nmJ44 : ∀ a, a < 6 → ∀ b, b < 6 → a ≠ b → (TJ44 a).2.1 ≠ (TJ44 b).2.1 := by decide +kernel
theorem tyJ44_ok : ∀ k, k < 6 → parseFieldDescriptor (TJ44 k).2.2.1 = some (tyJ44 k) := by decide +kernel
abbrev cJ44_init : ByteArray := prog_76_method_1_code
def yJ44_init : MethodName := ⟨RJ44, "<init>", "()V"⟩
theorem dJ44_init_0 : decode cJ44_init 0 = .ok (.aload_n 0, 1) := by decide +kernel
theorem dJ44_init_1 : decode cJ44_init 1 = .ok (.invokespecial 1, 3) := by decide +kernel
theorem dJ44_init_4 : decode cJ44_init 4 = .ok (.return_, 1) := by decide +kernel
theorem q212 : (Jvm.Cond.initialized "java/util/NoSuchElementException") ∈ lw_all := lw_g (lw_at lw_m1 64 rfl) rfl
theorem q297 : (Jvm.Cond.selects "java/util/NoSuchElementException" ({ cls := "java/lang/Throwable", name := "fillInStackTrace", desc := "()Ljava/lang/Throwable;" } : Jvm.MethodName) ({ cls := "java/lang/Throwable", name := "fillInStackTrace", desc := "()Ljava/lang/Throwable;" } : Jvm.MethodName)) ∈ lw_all := lw_g (lw_at lw_m1 149 rfl) rfl
theorem q1058 : (Jvm.Cond.selects "java/util/NoSuchElementException" ({ cls := "java/lang/Object", name := "getClass", desc := "()Ljava/lang/Class;" } : Jvm.MethodName) ({ cls := "java/lang/Object", name := "getClass", desc := "()Ljava/lang/Class;" } : Jvm.MethodName)) ∈ lw_all := lw_g (lw_at lw_m4 190 rfl) rfl
theorem q1068 : (Jvm.Cond.selects "java/util/NoSuchElementException" ({ cls := "java/lang/Throwable", name := "getLocalizedMessage", desc := "()Ljava/lang/String;" } : Jvm.MethodName) ({ cls := "java/lang/Throwable", name := "getLocalizedMessage", desc := "()Ljava/lang/String;" } : Jvm.MethodName)) ∈ lw_all := lw_g (lw_at lw_m4 200 rfl) rfl
theorem q1076 : (Jvm.Cond.selects "java/util/NoSuchElementException" ({ cls := "java/lang/Throwable", name := "getMessage", desc := "()Ljava/lang/String;" } : Jvm.MethodName) ({ cls := "java/lang/Throwable", name := "getMessage", desc := "()Ljava/lang/String;" } : Jvm.MethodName)) ∈ lw_all := lw_g (lw_at lw_m4 208 rfl) rfl
theorem q2834 : (Jvm.Cond.instantiable "java/util/NoSuchElementException" (6 : Nat)) ∈ lw_all := lw_g (lw_at lw_m12 46 rfl) rfl
theorem q2835 : (Jvm.Cond.castable "java/util/NoSuchElementException" "java/util/NoSuchElementException") ∈ lw_tbl := lw_at lw_m12 47 rfl
theorem q2836 : (Jvm.Cond.selects "java/util/NoSuchElementException" ({ cls := "java/lang/Throwable", name := "fillInStackTrace", desc := "(I)Ljava/lang/Throwable;" } : Jvm.MethodName) ({ cls := "java/lang/Throwable", name := "fillInStackTrace", desc := "(I)Ljava/lang/Throwable;" } : Jvm.MethodName)) ∈ lw_all := lw_g (lw_at lw_m12 48 rfl) rfl
theorem q2837 : (Jvm.Cond.lays "java/util/NoSuchElementException" "java/lang/Throwable" "cause" "Ljava/lang/Throwable;") ∈ lw_all := lw_g (lw_at lw_m12 49 rfl) rfl
theorem q2838 : (Jvm.Cond.lays "java/util/NoSuchElementException" "java/lang/Throwable" "stackTrace" "[Ljava/lang/StackTraceElement;") ∈ lw_all := lw_g (lw_at lw_m12 50 rfl) rfl
theorem q2839 : (Jvm.Cond.lays "java/util/NoSuchElementException" "java/lang/Throwable" "suppressedExceptions" "Ljava/util/List;") ∈ lw_all := lw_g (lw_at lw_m12 51 rfl) rfl
theorem q2840 : (Jvm.Cond.lays "java/util/NoSuchElementException" "java/lang/Throwable" "detailMessage" "Ljava/lang/String;") ∈ lw_all := lw_g (lw_at lw_m12 52 rfl) rfl
theorem q2841 : (Jvm.Cond.lays "java/util/NoSuchElementException" "java/lang/Throwable" "backtrace" "Ljava/lang/Object;") ∈ lw_all := lw_g (lw_at lw_m12 53 rfl) rfl
theorem q2843 : (Jvm.Cond.instanceMethod ({ cls := "java/util/NoSuchElementException", name := "<init>", desc := "()V" } : Jvm.MethodName)) ∈ lw_all := lw_g (lw_at lw_m12 55 rfl) rfl
theorem q2844 : (Jvm.Cond.code ({ cls := "java/util/NoSuchElementException", name := "<init>", desc := "()V" } : Jvm.MethodName) prog_76_method_1_code (1 : Nat) (Option.none : Option Jvm.ClassFile.FieldType)) ∈ lw_all := lw_g (lw_at lw_m12 56 rfl) rfl
theorem q2845 : (Jvm.Cond.methodLink "java/util/NoSuchElementException" (1 : Nat) ({ cls := "java/lang/RuntimeException", name := "<init>", desc := "()V" } : Jvm.MethodName)) ∈ lw_all := lw_g (lw_at lw_m12 57 rfl) rfl
theorem q2852 : (Jvm.Cond.lays "java/util/NoSuchElementException" "java/lang/Throwable" "depth" "I") ∈ lw_all := lw_g (lw_at lw_m12 64 rfl) rfl
theorem q2853 : (Jvm.Cond.superclass "java/util/NoSuchElementException" "java/lang/RuntimeException") ∈ lw_all := lw_g (lw_at lw_m12 65 rfl) rfl
theorem q4082 : (Jvm.Cond.castable "java/util/NoSuchElementException" "java/lang/Throwable") ∈ lw_tbl := lw_at lw_m17 94 rfl
theorem q4121 : (Jvm.Cond.castable "java/util/NoSuchElementException" "java/lang/Object") ∈ lw_tbl := lw_at lw_m17 133 rfl
theorem in_J44 : ∀ w ∈ wsJ440, w ∈ lw_all := lw_in wsJ440 [2837, 2838, 2839, 2840, 2841, 2852] (by decide +kernel) (by decide +kernel)

/-! java/lang/Object -/
set_option maxRecDepth 100000
def RJ45 : String := "java/lang/Object"
abbrev cJ45_init : ByteArray := object_method_1_code
def yJ45_init : MethodName := ⟨RJ45, "<init>", "()V"⟩
theorem dJ45_init_0 : decode cJ45_init 0 = .ok (.return_, 1) := by decide +kernel
abbrev cJ45_equals : ByteArray := object_method_4_code
def yJ45_equals : MethodName := ⟨RJ45, "equals", "(Ljava/lang/Object;)Z"⟩
def dkwJ45_equals_0 : List UInt8 := [42, 43, 166, 0, 7, 4, 167, 0, 4, 3, 172]
abbrev dktJ45_equals_0 : List UInt8 := dkwJ45_equals_0 ++ []
theorem dksJ45_equals_0 : cJ45_equals.data.toList.drop 0 = dktJ45_equals_0 := by decide +kernel
theorem dJ45_equals_0 : decode cJ45_equals 0 = .ok (.aload_n 0, 1) := dk_42 (dk_at dksJ45_equals_0 0 rfl rfl)
theorem dJ45_equals_1 : decode cJ45_equals 1 = .ok (.aload_n 1, 1) := dk_43 (dk_at dksJ45_equals_0 1 rfl rfl)
theorem dJ45_equals_2 : decode cJ45_equals 2 = .ok (.if_acmp .ne 7, 3) := dk_166 0 7 (dk_at dksJ45_equals_0 2 rfl rfl)
theorem dJ45_equals_5 : decode cJ45_equals 5 = .ok (.iconst 1, 1) := dk_4 (dk_at dksJ45_equals_0 5 rfl rfl)
theorem dJ45_equals_6 : decode cJ45_equals 6 = .ok (.goto 4, 3) := dk_167 0 4 (dk_at dksJ45_equals_0 6 rfl rfl)
theorem dJ45_equals_9 : decode cJ45_equals 9 = .ok (.iconst 0, 1) := dk_3 (dk_at dksJ45_equals_0 9 rfl rfl)
theorem dJ45_equals_10 : decode cJ45_equals 10 = .ok (.ireturn, 1) := dk_172 (dk_at dksJ45_equals_0 10 rfl rfl)
theorem q219 : (Jvm.Cond.instanceMethod ({ cls := "java/lang/Object", name := "<init>", desc := "()V" } : Jvm.MethodName)) ∈ lw_all := lw_g (lw_at lw_m1 71 rfl) rfl
theorem q220 : (Jvm.Cond.code ({ cls := "java/lang/Object", name := "<init>", desc := "()V" } : Jvm.MethodName) object_method_1_code (1 : Nat) (Option.none : Option Jvm.ClassFile.FieldType)) ∈ lw_all := lw_g (lw_at lw_m1 72 rfl) rfl
theorem q373 : (Jvm.Cond.native ({ cls := "java/lang/Object", name := "clone", desc := "()Ljava/lang/Object;" } : Jvm.MethodName)) ∈ lw_all := lw_g (lw_at lw_m1 225 rfl) rfl
theorem q374 : (Jvm.Cond.instanceMethod ({ cls := "java/lang/Object", name := "clone", desc := "()Ljava/lang/Object;" } : Jvm.MethodName)) ∈ lw_all := lw_g (lw_at lw_m1 226 rfl) rfl
theorem q1004 : (Jvm.Cond.declares ({ cls := "java/lang/Object", name := "toString", desc := "()Ljava/lang/String;" } : Jvm.MethodName)) ∈ lw_tbl := lw_at lw_m4 136 rfl
theorem q1006 : (Jvm.Cond.instanceMethod ({ cls := "java/lang/Object", name := "toString", desc := "()Ljava/lang/String;" } : Jvm.MethodName)) ∈ lw_all := lw_g (lw_at lw_m4 138 rfl) rfl
theorem q1007 : (Jvm.Cond.sameMethod "java/lang/Object" "java/lang/Object" "toString" "()Ljava/lang/String;") ∈ lw_all := lw_g (lw_at lw_m4 139 rfl) rfl
theorem q1025 : (Jvm.Cond.instanceMethod ({ cls := "java/lang/Object", name := "getClass", desc := "()Ljava/lang/Class;" } : Jvm.MethodName)) ∈ lw_all := lw_g (lw_at lw_m4 157 rfl) rfl
theorem q1026 : (Jvm.Cond.sameMethod "java/lang/Object" "java/lang/Object" "getClass" "()Ljava/lang/Class;") ∈ lw_all := lw_g (lw_at lw_m4 158 rfl) rfl
theorem q1061 : (Jvm.Cond.native ({ cls := "java/lang/Object", name := "getClass", desc := "()Ljava/lang/Class;" } : Jvm.MethodName)) ∈ lw_all := lw_g (lw_at lw_m4 193 rfl) rfl
theorem q1301 : (Jvm.Cond.declares ({ cls := "java/lang/Object", name := "hashCode", desc := "()I" } : Jvm.MethodName)) ∈ lw_tbl := lw_at lw_m5 193 rfl
theorem q1303 : (Jvm.Cond.instanceMethod ({ cls := "java/lang/Object", name := "hashCode", desc := "()I" } : Jvm.MethodName)) ∈ lw_all := lw_g (lw_at lw_m5 195 rfl) rfl
theorem q1304 : (Jvm.Cond.sameMethod "java/lang/Object" "java/lang/Object" "hashCode" "()I") ∈ lw_all := lw_g (lw_at lw_m5 196 rfl) rfl
theorem q1393 : (Jvm.Cond.native ({ cls := "java/lang/Object", name := "hashCode", desc := "()I" } : Jvm.MethodName)) ∈ lw_all := lw_g (lw_at lw_m6 45 rfl) rfl
theorem q1729 : (Jvm.Cond.declares ({ cls := "java/lang/Object", name := "equals", desc := "(Ljava/lang/Object;)Z" } : Jvm.MethodName)) ∈ lw_tbl := lw_at lw_m7 141 rfl
theorem q1731 : (Jvm.Cond.instanceMethod ({ cls := "java/lang/Object", name := "equals", desc := "(Ljava/lang/Object;)Z" } : Jvm.MethodName)) ∈ lw_all := lw_g (lw_at lw_m7 143 rfl) rfl
theorem q1732 : (Jvm.Cond.sameMethod "java/lang/Object" "java/lang/Object" "equals" "(Ljava/lang/Object;)Z") ∈ lw_all := lw_g (lw_at lw_m7 144 rfl) rfl
theorem q1770 : (Jvm.Cond.code ({ cls := "java/lang/Object", name := "equals", desc := "(Ljava/lang/Object;)Z" } : Jvm.MethodName) object_method_4_code (2 : Nat) (Option.some Jvm.ClassFile.FieldType.boolean)) ∈ lw_all := lw_g (lw_at lw_m7 182 rfl) rfl
theorem q4074 : (Jvm.Cond.initialized "java/lang/Object") ∈ lw_all := lw_g (lw_at lw_m17 86 rfl) rfl
theorem q4086 : (Jvm.Cond.selects "java/lang/Object" ({ cls := "java/lang/Object", name := "equals", desc := "(Ljava/lang/Object;)Z" } : Jvm.MethodName) ({ cls := "java/lang/Object", name := "equals", desc := "(Ljava/lang/Object;)Z" } : Jvm.MethodName)) ∈ lw_all := lw_g (lw_at lw_m17 98 rfl) rfl
theorem q4128 : (Jvm.Cond.declares ({ cls := "java/lang/Object", name := "getClass", desc := "()Ljava/lang/Class;" } : Jvm.MethodName)) ∈ lw_tbl := lw_at lw_m17 140 rfl
theorem q4150 : (Jvm.Cond.instantiable "java/lang/Object" (0 : Nat)) ∈ lw_all := lw_g (lw_at lw_m17 162 rfl) rfl

