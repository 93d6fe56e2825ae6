/-! java/util/LinkedHashMap -/
set_option maxRecDepth 100000
def RJ21 : String := "java/util/LinkedHashMap"
def TJ21 : u_T := fun k => match k with
  | 0 => ("java/util/HashMap", "table", "[Ljava/util/HashMap$Node;", false)
  | 1 => ("java/util/HashMap", "entrySet", "Ljava/util/Set;", false)
  | 2 => ("java/util/HashMap", "size", "I", false)
  | 3 => ("java/util/HashMap", "modCount", "I", false)
  | 4 => ("java/util/HashMap", "threshold", "I", false)
  | 5 => ("java/util/HashMap", "loadFactor", "F", true)
  | 6 => ("java/util/AbstractMap", "keySet", "Ljava/util/Set;", false)
  | 7 => ("java/util/AbstractMap", "values", "Ljava/util/Collection;", false)
  | 8 => ("java/util/LinkedHashMap", "head", "Ljava/util/LinkedHashMap$Entry;", false)
  | 9 => ("java/util/LinkedHashMap", "tail", "Ljava/util/LinkedHashMap$Entry;", false)
  | 10 => ("java/util/LinkedHashMap", "accessOrder", "Z", true)
  | _ => ("java/util/LinkedHashMap", "putMode", "I", false)
def tyJ21 : Nat → FieldType := fun k => match k with
  | 0 => .array (.object "java/util/HashMap$Node")
  | 1 => .object "java/util/Set"
  | 2 => .int
  | 3 => .int
  | 4 => .int
  | 5 => .float
  | 6 => .object "java/util/Set"
  | 7 => .object "java/util/Collection"
  | 8 => .object "java/util/LinkedHashMap$Entry"
  | 9 => .object "java/util/LinkedHashMap$Entry"
  | 10 => .boolean
  | _ => .int
abbrev wsJ210 : List Cond := u_ws RJ21 TJ21 12
theorem nmJ21 : ∀ a, a < 12 → ∀ b, b < 12 → a ≠ b → (TJ21 a).2.1 ≠ (TJ21 b).2.1 := by decide +kernel
theorem tyJ21_ok : ∀ k, k < 12 → parseFieldDescriptor (TJ21 k).2.2.1 = some (tyJ21 k) := by decide +kernel
abbrev cJ21_init : ByteArray := prog_67_method_16_code
def yJ21_init : MethodName := ⟨RJ21, "<init>", "()V"⟩
def dkwJ21_init_0 : List UInt8 := [42, 183, 0, 87, 42, 3, 181, 0, 1, 42, 3, 181, 0, 64, 177]
abbrev dktJ21_init_0 : List UInt8 := dkwJ21_init_0 ++ []
theorem dksJ21_init_0 : cJ21_init.data.toList.drop 0 = dktJ21_init_0 := by decide +kernel
theorem dJ21_init_0 : decode cJ21_init 0 = .ok (.aload_n 0, 1) := dk_42 (dk_at dksJ21_init_0 0 rfl rfl)
theorem dJ21_init_1 : decode cJ21_init 1 = .ok (.invokespecial 87, 3) := dk_183 0 87 (dk_at dksJ21_init_0 1 rfl rfl)
theorem dJ21_init_4 : decode cJ21_init 4 = .ok (.aload_n 0, 1) := dk_42 (dk_at dksJ21_init_0 4 rfl rfl)
theorem dJ21_init_5 : decode cJ21_init 5 = .ok (.iconst 0, 1) := dk_3 (dk_at dksJ21_init_0 5 rfl rfl)
theorem dJ21_init_6 : decode cJ21_init 6 = .ok (.putfield 1, 3) := dk_181 0 1 (dk_at dksJ21_init_0 6 rfl rfl)
theorem dJ21_init_9 : decode cJ21_init 9 = .ok (.aload_n 0, 1) := dk_42 (dk_at dksJ21_init_0 9 rfl rfl)
theorem dJ21_init_10 : decode cJ21_init 10 = .ok (.iconst 0, 1) := dk_3 (dk_at dksJ21_init_0 10 rfl rfl)
theorem dJ21_init_11 : decode cJ21_init 11 = .ok (.putfield 64, 3) := dk_181 0 64 (dk_at dksJ21_init_0 11 rfl rfl)
theorem dJ21_init_14 : decode cJ21_init 14 = .ok (.return_, 1) := dk_177 (dk_at dksJ21_init_0 14 rfl rfl)
abbrev cJ21_init_2 : ByteArray := prog_67_method_14_code
def yJ21_init_2 : MethodName := ⟨RJ21, "<init>", "(IF)V"⟩
def dkwJ21_init_2_0 : List UInt8 := [42, 27, 36, 183, 0, 81, 42, 3, 181, 0, 1, 42, 3, 181, 0, 64, 177]
abbrev dktJ21_init_2_0 : List UInt8 := dkwJ21_init_2_0 ++ []
theorem dksJ21_init_2_0 : cJ21_init_2.data.toList.drop 0 = dktJ21_init_2_0 := by decide +kernel
theorem dJ21_init_2_0 : decode cJ21_init_2 0 = .ok (.aload_n 0, 1) := dk_42 (dk_at dksJ21_init_2_0 0 rfl rfl)
theorem dJ21_init_2_1 : decode cJ21_init_2 1 = .ok (.iload_n 1, 1) := dk_27 (dk_at dksJ21_init_2_0 1 rfl rfl)
theorem dJ21_init_2_2 : decode cJ21_init_2 2 = .ok (.fload_n 2, 1) := dk_36 (dk_at dksJ21_init_2_0 2 rfl rfl)
theorem dJ21_init_2_3 : decode cJ21_init_2 3 = .ok (.invokespecial 81, 3) := dk_183 0 81 (dk_at dksJ21_init_2_0 3 rfl rfl)
theorem dJ21_init_2_6 : decode cJ21_init_2 6 = .ok (.aload_n 0, 1) := dk_42 (dk_at dksJ21_init_2_0 6 rfl rfl)
theorem dJ21_init_2_7 : decode cJ21_init_2 7 = .ok (.iconst 0, 1) := dk_3 (dk_at dksJ21_init_2_0 7 rfl rfl)
theorem dJ21_init_2_8 : decode cJ21_init_2 8 = .ok (.putfield 1, 3) := dk_181 0 1 (dk_at dksJ21_init_2_0 8 rfl rfl)
theorem dJ21_init_2_11 : decode cJ21_init_2 11 = .ok (.aload_n 0, 1) := dk_42 (dk_at dksJ21_init_2_0 11 rfl rfl)
theorem dJ21_init_2_12 : decode cJ21_init_2 12 = .ok (.iconst 0, 1) := dk_3 (dk_at dksJ21_init_2_0 12 rfl rfl)
theorem dJ21_init_2_13 : decode cJ21_init_2 13 = .ok (.putfield 64, 3) := dk_181 0 64 (dk_at dksJ21_init_2_0 13 rfl rfl)
theorem dJ21_init_2_16 : decode cJ21_init_2 16 = .ok (.return_, 1) := dk_177 (dk_at dksJ21_init_2_0 16 rfl rfl)
abbrev cJ21_replacementNode : ByteArray := prog_67_method_5_code
def yJ21_replacementNode : MethodName := ⟨RJ21, "replacementNode", "(Ljava/util/HashMap$Node;Ljava/util/HashMap$Node;)Ljava/util/HashMap$Node;"⟩
def dkwJ21_replacementNode_1 : List UInt8 := [183, 0, 28, 58, 4, 42, 45, 25, 4, 182, 0, 46, 25, 4, 176]
abbrev dktJ21_replacementNode_1 : List UInt8 := dkwJ21_replacementNode_1 ++ []
def dkwJ21_replacementNode_0 : List UInt8 := [43, 192, 0, 15, 78, 187, 0, 15, 89, 45, 180, 0, 36, 45, 180, 0, 39, 45, 180, 0, 43, 44]
abbrev dktJ21_replacementNode_0 : List UInt8 := dkwJ21_replacementNode_0 ++ dktJ21_replacementNode_1
theorem dksJ21_replacementNode_0 : cJ21_replacementNode.data.toList.drop 0 = dktJ21_replacementNode_0 := by decide +kernel
theorem dksJ21_replacementNode_1 : cJ21_replacementNode.data.toList.drop 22 = dktJ21_replacementNode_1 := dk_seg dksJ21_replacementNode_0 22 rfl rfl
theorem dJ21_replacementNode_0 : decode cJ21_replacementNode 0 = .ok (.aload_n 1, 1) := dk_43 (dk_at dksJ21_replacementNode_0 0 rfl rfl)
theorem dJ21_replacementNode_1 : decode cJ21_replacementNode 1 = .ok (.checkcast 15, 3) := dk_192 0 15 (dk_at dksJ21_replacementNode_0 1 rfl rfl)
theorem dJ21_replacementNode_4 : decode cJ21_replacementNode 4 = .ok (.astore_n 3, 1) := dk_78 (dk_at dksJ21_replacementNode_0 4 rfl rfl)
theorem dJ21_replacementNode_5 : decode cJ21_replacementNode 5 = .ok (.new 15, 3) := dk_187 0 15 (dk_at dksJ21_replacementNode_0 5 rfl rfl)
theorem dJ21_replacementNode_8 : decode cJ21_replacementNode 8 = .ok (.dup, 1) := dk_89 (dk_at dksJ21_replacementNode_0 8 rfl rfl)
theorem dJ21_replacementNode_9 : decode cJ21_replacementNode 9 = .ok (.aload_n 3, 1) := dk_45 (dk_at dksJ21_replacementNode_0 9 rfl rfl)
theorem dJ21_replacementNode_10 : decode cJ21_replacementNode 10 = .ok (.getfield 36, 3) := dk_180 0 36 (dk_at dksJ21_replacementNode_0 10 rfl rfl)
theorem dJ21_replacementNode_13 : decode cJ21_replacementNode 13 = .ok (.aload_n 3, 1) := dk_45 (dk_at dksJ21_replacementNode_0 13 rfl rfl)
theorem dJ21_replacementNode_14 : decode cJ21_replacementNode 14 = .ok (.getfield 39, 3) := dk_180 0 39 (dk_at dksJ21_replacementNode_0 14 rfl rfl)
theorem dJ21_replacementNode_17 : decode cJ21_replacementNode 17 = .ok (.aload_n 3, 1) := dk_45 (dk_at dksJ21_replacementNode_0 17 rfl rfl)
theorem dJ21_replacementNode_18 : decode cJ21_replacementNode 18 = .ok (.getfield 43, 3) := dk_180 0 43 (dk_at dksJ21_replacementNode_0 18 rfl rfl)
theorem dJ21_replacementNode_21 : decode cJ21_replacementNode 21 = .ok (.aload_n 2, 1) := dk_44 (dk_at dksJ21_replacementNode_0 21 rfl rfl)
theorem dJ21_replacementNode_22 : decode cJ21_replacementNode 22 = .ok (.invokespecial 28, 3) := dk_183 0 28 (dk_at dksJ21_replacementNode_1 0 rfl rfl)
theorem dJ21_replacementNode_25 : decode cJ21_replacementNode 25 = .ok (.astore 4, 2) := dk_58 4 (dk_at dksJ21_replacementNode_1 3 rfl rfl)
theorem dJ21_replacementNode_27 : decode cJ21_replacementNode 27 = .ok (.aload_n 0, 1) := dk_42 (dk_at dksJ21_replacementNode_1 5 rfl rfl)
theorem dJ21_replacementNode_28 : decode cJ21_replacementNode 28 = .ok (.aload_n 3, 1) := dk_45 (dk_at dksJ21_replacementNode_1 6 rfl rfl)
theorem dJ21_replacementNode_29 : decode cJ21_replacementNode 29 = .ok (.aload 4, 2) := dk_25 4 (dk_at dksJ21_replacementNode_1 7 rfl rfl)
theorem dJ21_replacementNode_31 : decode cJ21_replacementNode 31 = .ok (.invokevirtual 46, 3) := dk_182 0 46 (dk_at dksJ21_replacementNode_1 9 rfl rfl)
theorem dJ21_replacementNode_34 : decode cJ21_replacementNode 34 = .ok (.aload 4, 2) := dk_25 4 (dk_at dksJ21_replacementNode_1 12 rfl rfl)
theorem dJ21_replacementNode_36 : decode cJ21_replacementNode 36 = .ok (.areturn, 1) := dk_176 (dk_at dksJ21_replacementNode_1 14 rfl rfl)
abbrev cJ21_transferLinks : ByteArray := prog_67_method_2_code
def yJ21_transferLinks : MethodName := ⟨RJ21, "transferLinks", "(Ljava/util/LinkedHashMap$Entry;Ljava/util/LinkedHashMap$Entry;)V"⟩
def dkwJ21_transferLinks_2 : List UInt8 := [181, 0, 11, 167, 0, 9, 25, 4, 44, 181, 0, 19, 177]
abbrev dktJ21_transferLinks_2 : List UInt8 := dkwJ21_transferLinks_2 ++ []
def dkwJ21_transferLinks_1 : List UInt8 := [199, 0, 11, 42, 44, 181, 0, 7, 167, 0, 8, 45, 44, 181, 0, 14, 25, 4, 199, 0, 11, 42, 44]
abbrev dktJ21_transferLinks_1 : List UInt8 := dkwJ21_transferLinks_1 ++ dktJ21_transferLinks_2
def dkwJ21_transferLinks_0 : List UInt8 := [44, 43, 180, 0, 19, 90, 181, 0, 19, 78, 44, 43, 180, 0, 14, 90, 181, 0, 14, 58, 4, 45]
abbrev dktJ21_transferLinks_0 : List UInt8 := dkwJ21_transferLinks_0 ++ dktJ21_transferLinks_1
theorem dksJ21_transferLinks_0 : cJ21_transferLinks.data.toList.drop 0 = dktJ21_transferLinks_0 := by decide +kernel
theorem dksJ21_transferLinks_1 : cJ21_transferLinks.data.toList.drop 22 = dktJ21_transferLinks_1 := dk_seg dksJ21_transferLinks_0 22 rfl rfl
theorem dksJ21_transferLinks_2 : cJ21_transferLinks.data.toList.drop 45 = dktJ21_transferLinks_2 := dk_seg dksJ21_transferLinks_1 23 rfl rfl
theorem dJ21_transferLinks_0 : decode cJ21_transferLinks 0 = .ok (.aload_n 2, 1) := dk_44 (dk_at dksJ21_transferLinks_0 0 rfl rfl)
theorem dJ21_transferLinks_1 : decode cJ21_transferLinks 1 = .ok (.aload_n 1, 1) := dk_43 (dk_at dksJ21_transferLinks_0 1 rfl rfl)
theorem dJ21_transferLinks_2 : decode cJ21_transferLinks 2 = .ok (.getfield 19, 3) := dk_180 0 19 (dk_at dksJ21_transferLinks_0 2 rfl rfl)
theorem dJ21_transferLinks_5 : decode cJ21_transferLinks 5 = .ok (.dup_x1, 1) := dk_90 (dk_at dksJ21_transferLinks_0 5 rfl rfl)
theorem dJ21_transferLinks_6 : decode cJ21_transferLinks 6 = .ok (.putfield 19, 3) := dk_181 0 19 (dk_at dksJ21_transferLinks_0 6 rfl rfl)
theorem dJ21_transferLinks_9 : decode cJ21_transferLinks 9 = .ok (.astore_n 3, 1) := dk_78 (dk_at dksJ21_transferLinks_0 9 rfl rfl)
theorem dJ21_transferLinks_10 : decode cJ21_transferLinks 10 = .ok (.aload_n 2, 1) := dk_44 (dk_at dksJ21_transferLinks_0 10 rfl rfl)
theorem dJ21_transferLinks_11 : decode cJ21_transferLinks 11 = .ok (.aload_n 1, 1) := dk_43 (dk_at dksJ21_transferLinks_0 11 rfl rfl)
theorem dJ21_transferLinks_12 : decode cJ21_transferLinks 12 = .ok (.getfield 14, 3) := dk_180 0 14 (dk_at dksJ21_transferLinks_0 12 rfl rfl)
theorem dJ21_transferLinks_15 : decode cJ21_transferLinks 15 = .ok (.dup_x1, 1) := dk_90 (dk_at dksJ21_transferLinks_0 15 rfl rfl)
theorem dJ21_transferLinks_16 : decode cJ21_transferLinks 16 = .ok (.putfield 14, 3) := dk_181 0 14 (dk_at dksJ21_transferLinks_0 16 rfl rfl)
theorem dJ21_transferLinks_19 : decode cJ21_transferLinks 19 = .ok (.astore 4, 2) := dk_58 4 (dk_at dksJ21_transferLinks_0 19 rfl rfl)
theorem dJ21_transferLinks_21 : decode cJ21_transferLinks 21 = .ok (.aload_n 3, 1) := dk_45 (dk_at dksJ21_transferLinks_0 21 rfl rfl)
theorem dJ21_transferLinks_22 : decode cJ21_transferLinks 22 = .ok (.ifnonnull 11, 3) := dk_199 0 11 (dk_at dksJ21_transferLinks_1 0 rfl rfl)
theorem dJ21_transferLinks_25 : decode cJ21_transferLinks 25 = .ok (.aload_n 0, 1) := dk_42 (dk_at dksJ21_transferLinks_1 3 rfl rfl)
theorem dJ21_transferLinks_26 : decode cJ21_transferLinks 26 = .ok (.aload_n 2, 1) := dk_44 (dk_at dksJ21_transferLinks_1 4 rfl rfl)
theorem dJ21_transferLinks_27 : decode cJ21_transferLinks 27 = .ok (.putfield 7, 3) := dk_181 0 7 (dk_at dksJ21_transferLinks_1 5 rfl rfl)
theorem dJ21_transferLinks_30 : decode cJ21_transferLinks 30 = .ok (.goto 8, 3) := dk_167 0 8 (dk_at dksJ21_transferLinks_1 8 rfl rfl)
theorem dJ21_transferLinks_33 : decode cJ21_transferLinks 33 = .ok (.aload_n 3, 1) := dk_45 (dk_at dksJ21_transferLinks_1 11 rfl rfl)
theorem dJ21_transferLinks_34 : decode cJ21_transferLinks 34 = .ok (.aload_n 2, 1) := dk_44 (dk_at dksJ21_transferLinks_1 12 rfl rfl)
theorem dJ21_transferLinks_35 : decode cJ21_transferLinks 35 = .ok (.putfield 14, 3) := dk_181 0 14 (dk_at dksJ21_transferLinks_1 13 rfl rfl)
theorem dJ21_transferLinks_38 : decode cJ21_transferLinks 38 = .ok (.aload 4, 2) := dk_25 4 (dk_at dksJ21_transferLinks_1 16 rfl rfl)
theorem dJ21_transferLinks_40 : decode cJ21_transferLinks 40 = .ok (.ifnonnull 11, 3) := dk_199 0 11 (dk_at dksJ21_transferLinks_1 18 rfl rfl)
theorem dJ21_transferLinks_43 : decode cJ21_transferLinks 43 = .ok (.aload_n 0, 1) := dk_42 (dk_at dksJ21_transferLinks_1 21 rfl rfl)
theorem dJ21_transferLinks_44 : decode cJ21_transferLinks 44 = .ok (.aload_n 2, 1) := dk_44 (dk_at dksJ21_transferLinks_1 22 rfl rfl)
theorem dJ21_transferLinks_45 : decode cJ21_transferLinks 45 = .ok (.putfield 11, 3) := dk_181 0 11 (dk_at dksJ21_transferLinks_2 0 rfl rfl)
theorem dJ21_transferLinks_48 : decode cJ21_transferLinks 48 = .ok (.goto 9, 3) := dk_167 0 9 (dk_at dksJ21_transferLinks_2 3 rfl rfl)
theorem dJ21_transferLinks_51 : decode cJ21_transferLinks 51 = .ok (.aload 4, 2) := dk_25 4 (dk_at dksJ21_transferLinks_2 6 rfl rfl)
theorem dJ21_transferLinks_53 : decode cJ21_transferLinks 53 = .ok (.aload_n 2, 1) := dk_44 (dk_at dksJ21_transferLinks_2 8 rfl rfl)
theorem dJ21_transferLinks_54 : decode cJ21_transferLinks 54 = .ok (.putfield 19, 3) := dk_181 0 19 (dk_at dksJ21_transferLinks_2 9 rfl rfl)
theorem dJ21_transferLinks_57 : decode cJ21_transferLinks 57 = .ok (.return_, 1) := dk_177 (dk_at dksJ21_transferLinks_2 12 rfl rfl)
abbrev cJ21_newNode : ByteArray := prog_67_method_4_code
def yJ21_newNode : MethodName := ⟨RJ21, "newNode", "(ILjava/lang/Object;Ljava/lang/Object;Ljava/util/HashMap$Node;)Ljava/util/HashMap$Node;"⟩
def dkwJ21_newNode_0 : List UInt8 := [187, 0, 15, 89, 27, 44, 45, 25, 4, 183, 0, 28, 58, 5, 42, 25, 5, 182, 0, 32, 25, 5, 176]
abbrev dktJ21_newNode_0 : List UInt8 := dkwJ21_newNode_0 ++ []
theorem dksJ21_newNode_0 : cJ21_newNode.data.toList.drop 0 = dktJ21_newNode_0 := by decide +kernel
theorem dJ21_newNode_0 : decode cJ21_newNode 0 = .ok (.new 15, 3) := dk_187 0 15 (dk_at dksJ21_newNode_0 0 rfl rfl)
theorem dJ21_newNode_3 : decode cJ21_newNode 3 = .ok (.dup, 1) := dk_89 (dk_at dksJ21_newNode_0 3 rfl rfl)
theorem dJ21_newNode_4 : decode cJ21_newNode 4 = .ok (.iload_n 1, 1) := dk_27 (dk_at dksJ21_newNode_0 4 rfl rfl)
theorem dJ21_newNode_5 : decode cJ21_newNode 5 = .ok (.aload_n 2, 1) := dk_44 (dk_at dksJ21_newNode_0 5 rfl rfl)
theorem dJ21_newNode_6 : decode cJ21_newNode 6 = .ok (.aload_n 3, 1) := dk_45 (dk_at dksJ21_newNode_0 6 rfl rfl)
theorem dJ21_newNode_7 : decode cJ21_newNode 7 = .ok (.aload 4, 2) := dk_25 4 (dk_at dksJ21_newNode_0 7 rfl rfl)
theorem dJ21_newNode_9 : decode cJ21_newNode 9 = .ok (.invokespecial 28, 3) := dk_183 0 28 (dk_at dksJ21_newNode_0 9 rfl rfl)
theorem dJ21_newNode_12 : decode cJ21_newNode 12 = .ok (.astore 5, 2) := dk_58 5 (dk_at dksJ21_newNode_0 12 rfl rfl)
theorem dJ21_newNode_14 : decode cJ21_newNode 14 = .ok (.aload_n 0, 1) := dk_42 (dk_at dksJ21_newNode_0 14 rfl rfl)
theorem dJ21_newNode_15 : decode cJ21_newNode 15 = .ok (.aload 5, 2) := dk_25 5 (dk_at dksJ21_newNode_0 15 rfl rfl)
theorem dJ21_newNode_17 : decode cJ21_newNode 17 = .ok (.invokevirtual 32, 3) := dk_182 0 32 (dk_at dksJ21_newNode_0 17 rfl rfl)
theorem dJ21_newNode_20 : decode cJ21_newNode 20 = .ok (.aload 5, 2) := dk_25 5 (dk_at dksJ21_newNode_0 20 rfl rfl)
theorem dJ21_newNode_22 : decode cJ21_newNode 22 = .ok (.areturn, 1) := dk_176 (dk_at dksJ21_newNode_0 22 rfl rfl)
abbrev cJ21_linkNodeAtEnd : ByteArray := prog_67_method_1_code
def yJ21_linkNodeAtEnd : MethodName := ⟨RJ21, "linkNodeAtEnd", "(Ljava/util/LinkedHashMap$Entry;)V"⟩
def dkwJ21_linkNodeAtEnd_3 : List UInt8 := [181, 0, 14, 177]
abbrev dktJ21_linkNodeAtEnd_3 : List UInt8 := dkwJ21_linkNodeAtEnd_3 ++ []
def dkwJ21_linkNodeAtEnd_2 : List UInt8 := [42, 43, 181, 0, 11, 44, 199, 0, 11, 42, 43, 181, 0, 7, 167, 0, 13, 43, 44, 181, 0, 19, 44, 43]
abbrev dktJ21_linkNodeAtEnd_2 : List UInt8 := dkwJ21_linkNodeAtEnd_2 ++ dktJ21_linkNodeAtEnd_3
def dkwJ21_linkNodeAtEnd_1 : List UInt8 := [181, 0, 11, 167, 0, 13, 43, 44, 181, 0, 14, 44, 43, 181, 0, 19, 167, 0, 35, 42, 180, 0, 11, 77]
abbrev dktJ21_linkNodeAtEnd_1 : List UInt8 := dkwJ21_linkNodeAtEnd_1 ++ dktJ21_linkNodeAtEnd_2
def dkwJ21_linkNodeAtEnd_0 : List UInt8 := [42, 180, 0, 1, 4, 160, 0, 38, 42, 180, 0, 7, 77, 42, 43, 181, 0, 7, 44, 199, 0, 11, 42, 43]
abbrev dktJ21_linkNodeAtEnd_0 : List UInt8 := dkwJ21_linkNodeAtEnd_0 ++ dktJ21_linkNodeAtEnd_1
theorem dksJ21_linkNodeAtEnd_0 : cJ21_linkNodeAtEnd.data.toList.drop 0 = dktJ21_linkNodeAtEnd_0 := by decide +kernel
theorem dksJ21_linkNodeAtEnd_1 : cJ21_linkNodeAtEnd.data.toList.drop 24 = dktJ21_linkNodeAtEnd_1 := dk_seg dksJ21_linkNodeAtEnd_0 24 rfl rfl
theorem dksJ21_linkNodeAtEnd_2 : cJ21_linkNodeAtEnd.data.toList.drop 48 = dktJ21_linkNodeAtEnd_2 := dk_seg dksJ21_linkNodeAtEnd_1 24 rfl rfl
theorem dksJ21_linkNodeAtEnd_3 : cJ21_linkNodeAtEnd.data.toList.drop 72 = dktJ21_linkNodeAtEnd_3 := dk_seg dksJ21_linkNodeAtEnd_2 24 rfl rfl
theorem dJ21_linkNodeAtEnd_0 : decode cJ21_linkNodeAtEnd 0 = .ok (.aload_n 0, 1) := dk_42 (dk_at dksJ21_linkNodeAtEnd_0 0 rfl rfl)
theorem dJ21_linkNodeAtEnd_1 : decode cJ21_linkNodeAtEnd 1 = .ok (.getfield 1, 3) := dk_180 0 1 (dk_at dksJ21_linkNodeAtEnd_0 1 rfl rfl)
theorem dJ21_linkNodeAtEnd_4 : decode cJ21_linkNodeAtEnd 4 = .ok (.iconst 1, 1) := dk_4 (dk_at dksJ21_linkNodeAtEnd_0 4 rfl rfl)
theorem dJ21_linkNodeAtEnd_5 : decode cJ21_linkNodeAtEnd 5 = .ok (.if_icmp .ne 38, 3) := dk_160 0 38 (dk_at dksJ21_linkNodeAtEnd_0 5 rfl rfl)
theorem dJ21_linkNodeAtEnd_8 : decode cJ21_linkNodeAtEnd 8 = .ok (.aload_n 0, 1) := dk_42 (dk_at dksJ21_linkNodeAtEnd_0 8 rfl rfl)
theorem dJ21_linkNodeAtEnd_9 : decode cJ21_linkNodeAtEnd 9 = .ok (.getfield 7, 3) := dk_180 0 7 (dk_at dksJ21_linkNodeAtEnd_0 9 rfl rfl)
theorem dJ21_linkNodeAtEnd_12 : decode cJ21_linkNodeAtEnd 12 = .ok (.astore_n 2, 1) := dk_77 (dk_at dksJ21_linkNodeAtEnd_0 12 rfl rfl)
theorem dJ21_linkNodeAtEnd_13 : decode cJ21_linkNodeAtEnd 13 = .ok (.aload_n 0, 1) := dk_42 (dk_at dksJ21_linkNodeAtEnd_0 13 rfl rfl)
theorem dJ21_linkNodeAtEnd_14 : decode cJ21_linkNodeAtEnd 14 = .ok (.aload_n 1, 1) := dk_43 (dk_at dksJ21_linkNodeAtEnd_0 14 rfl rfl)
theorem dJ21_linkNodeAtEnd_15 : decode cJ21_linkNodeAtEnd 15 = .ok (.putfield 7, 3) := dk_181 0 7 (dk_at dksJ21_linkNodeAtEnd_0 15 rfl rfl)
theorem dJ21_linkNodeAtEnd_18 : decode cJ21_linkNodeAtEnd 18 = .ok (.aload_n 2, 1) := dk_44 (dk_at dksJ21_linkNodeAtEnd_0 18 rfl rfl)
theorem dJ21_linkNodeAtEnd_19 : decode cJ21_linkNodeAtEnd 19 = .ok (.ifnonnull 11, 3) := dk_199 0 11 (dk_at dksJ21_linkNodeAtEnd_0 19 rfl rfl)
theorem dJ21_linkNodeAtEnd_22 : decode cJ21_linkNodeAtEnd 22 = .ok (.aload_n 0, 1) := dk_42 (dk_at dksJ21_linkNodeAtEnd_0 22 rfl rfl)
theorem dJ21_linkNodeAtEnd_23 : decode cJ21_linkNodeAtEnd 23 = .ok (.aload_n 1, 1) := dk_43 (dk_at dksJ21_linkNodeAtEnd_0 23 rfl rfl)
theorem dJ21_linkNodeAtEnd_24 : decode cJ21_linkNodeAtEnd 24 = .ok (.putfield 11, 3) := dk_181 0 11 (dk_at dksJ21_linkNodeAtEnd_1 0 rfl rfl)
theorem dJ21_linkNodeAtEnd_27 : decode cJ21_linkNodeAtEnd 27 = .ok (.goto 13, 3) := dk_167 0 13 (dk_at dksJ21_linkNodeAtEnd_1 3 rfl rfl)
theorem dJ21_linkNodeAtEnd_30 : decode cJ21_linkNodeAtEnd 30 = .ok (.aload_n 1, 1) := dk_43 (dk_at dksJ21_linkNodeAtEnd_1 6 rfl rfl)
theorem dJ21_linkNodeAtEnd_31 : decode cJ21_linkNodeAtEnd 31 = .ok (.aload_n 2, 1) := dk_44 (dk_at dksJ21_linkNodeAtEnd_1 7 rfl rfl)
theorem dJ21_linkNodeAtEnd_32 : decode cJ21_linkNodeAtEnd 32 = .ok (.putfield 14, 3) := dk_181 0 14 (dk_at dksJ21_linkNodeAtEnd_1 8 rfl rfl)
theorem dJ21_linkNodeAtEnd_35 : decode cJ21_linkNodeAtEnd 35 = .ok (.aload_n 2, 1) := dk_44 (dk_at dksJ21_linkNodeAtEnd_1 11 rfl rfl)
theorem dJ21_linkNodeAtEnd_36 : decode cJ21_linkNodeAtEnd 36 = .ok (.aload_n 1, 1) := dk_43 (dk_at dksJ21_linkNodeAtEnd_1 12 rfl rfl)
theorem dJ21_linkNodeAtEnd_37 : decode cJ21_linkNodeAtEnd 37 = .ok (.putfield 19, 3) := dk_181 0 19 (dk_at dksJ21_linkNodeAtEnd_1 13 rfl rfl)
theorem dJ21_linkNodeAtEnd_40 : decode cJ21_linkNodeAtEnd 40 = .ok (.goto 35, 3) := dk_167 0 35 (dk_at dksJ21_linkNodeAtEnd_1 16 rfl rfl)
theorem dJ21_linkNodeAtEnd_43 : decode cJ21_linkNodeAtEnd 43 = .ok (.aload_n 0, 1) := dk_42 (dk_at dksJ21_linkNodeAtEnd_1 19 rfl rfl)
theorem dJ21_linkNodeAtEnd_44 : decode cJ21_linkNodeAtEnd 44 = .ok (.getfield 11, 3) := dk_180 0 11 (dk_at dksJ21_linkNodeAtEnd_1 20 rfl rfl)
theorem dJ21_linkNodeAtEnd_47 : decode cJ21_linkNodeAtEnd 47 = .ok (.astore_n 2, 1) := dk_77 (dk_at dksJ21_linkNodeAtEnd_1 23 rfl rfl)
theorem dJ21_linkNodeAtEnd_48 : decode cJ21_linkNodeAtEnd 48 = .ok (.aload_n 0, 1) := dk_42 (dk_at dksJ21_linkNodeAtEnd_2 0 rfl rfl)
theorem dJ21_linkNodeAtEnd_49 : decode cJ21_linkNodeAtEnd 49 = .ok (.aload_n 1, 1) := dk_43 (dk_at dksJ21_linkNodeAtEnd_2 1 rfl rfl)
theorem dJ21_linkNodeAtEnd_50 : decode cJ21_linkNodeAtEnd 50 = .ok (.putfield 11, 3) := dk_181 0 11 (dk_at dksJ21_linkNodeAtEnd_2 2 rfl rfl)
theorem dJ21_linkNodeAtEnd_53 : decode cJ21_linkNodeAtEnd 53 = .ok (.aload_n 2, 1) := dk_44 (dk_at dksJ21_linkNodeAtEnd_2 5 rfl rfl)
theorem dJ21_linkNodeAtEnd_54 : decode cJ21_linkNodeAtEnd 54 = .ok (.ifnonnull 11, 3) := dk_199 0 11 (dk_at dksJ21_linkNodeAtEnd_2 6 rfl rfl)
theorem dJ21_linkNodeAtEnd_57 : decode cJ21_linkNodeAtEnd 57 = .ok (.aload_n 0, 1) := dk_42 (dk_at dksJ21_linkNodeAtEnd_2 9 rfl rfl)
theorem dJ21_linkNodeAtEnd_58 : decode cJ21_linkNodeAtEnd 58 = .ok (.aload_n 1, 1) := dk_43 (dk_at dksJ21_linkNodeAtEnd_2 10 rfl rfl)
theorem dJ21_linkNodeAtEnd_59 : decode cJ21_linkNodeAtEnd 59 = .ok (.putfield 7, 3) := dk_181 0 7 (dk_at dksJ21_linkNodeAtEnd_2 11 rfl rfl)
theorem dJ21_linkNodeAtEnd_62 : decode cJ21_linkNodeAtEnd 62 = .ok (.goto 13, 3) := dk_167 0 13 (dk_at dksJ21_linkNodeAtEnd_2 14 rfl rfl)
theorem dJ21_linkNodeAtEnd_65 : decode cJ21_linkNodeAtEnd 65 = .ok (.aload_n 1, 1) := dk_43 (dk_at dksJ21_linkNodeAtEnd_2 17 rfl rfl)
theorem dJ21_linkNodeAtEnd_66 : decode cJ21_linkNodeAtEnd 66 = .ok (.aload_n 2, 1) := dk_44 (dk_at dksJ21_linkNodeAtEnd_2 18 rfl rfl)
theorem dJ21_linkNodeAtEnd_67 : decode cJ21_linkNodeAtEnd 67 = .ok (.putfield 19, 3) := dk_181 0 19 (dk_at dksJ21_linkNodeAtEnd_2 19 rfl rfl)
theorem dJ21_linkNodeAtEnd_70 : decode cJ21_linkNodeAtEnd 70 = .ok (.aload_n 2, 1) := dk_44 (dk_at dksJ21_linkNodeAtEnd_2 22 rfl rfl)
theorem dJ21_linkNodeAtEnd_71 : decode cJ21_linkNodeAtEnd 71 = .ok (.aload_n 1, 1) := dk_43 (dk_at dksJ21_linkNodeAtEnd_2 23 rfl rfl)
theorem dJ21_linkNodeAtEnd_72 : decode cJ21_linkNodeAtEnd 72 = .ok (.putfield 14, 3) := dk_181 0 14 (dk_at dksJ21_linkNodeAtEnd_3 0 rfl rfl)
theorem dJ21_linkNodeAtEnd_75 : decode cJ21_linkNodeAtEnd 75 = .ok (.return_, 1) := dk_177 (dk_at dksJ21_linkNodeAtEnd_3 3 rfl rfl)
abbrev cJ21_newTreeNode : ByteArray := prog_67_method_6_code
def yJ21_newTreeNode : MethodName := ⟨RJ21, "newTreeNode", "(ILjava/lang/Object;Ljava/lang/Object;Ljava/util/HashMap$Node;)Ljava/util/HashMap$TreeNode;"⟩
def dkwJ21_newTreeNode_0 : List UInt8 := [187, 0, 50, 89, 27, 44, 45, 25, 4, 183, 0, 52, 58, 5, 42, 25, 5, 182, 0, 32, 25, 5, 176]
abbrev dktJ21_newTreeNode_0 : List UInt8 := dkwJ21_newTreeNode_0 ++ []
theorem dksJ21_newTreeNode_0 : cJ21_newTreeNode.data.toList.drop 0 = dktJ21_newTreeNode_0 := by decide +kernel
theorem dJ21_newTreeNode_0 : decode cJ21_newTreeNode 0 = .ok (.new 50, 3) := dk_187 0 50 (dk_at dksJ21_newTreeNode_0 0 rfl rfl)
theorem dJ21_newTreeNode_3 : decode cJ21_newTreeNode 3 = .ok (.dup, 1) := dk_89 (dk_at dksJ21_newTreeNode_0 3 rfl rfl)
theorem dJ21_newTreeNode_4 : decode cJ21_newTreeNode 4 = .ok (.iload_n 1, 1) := dk_27 (dk_at dksJ21_newTreeNode_0 4 rfl rfl)
theorem dJ21_newTreeNode_5 : decode cJ21_newTreeNode 5 = .ok (.aload_n 2, 1) := dk_44 (dk_at dksJ21_newTreeNode_0 5 rfl rfl)
theorem dJ21_newTreeNode_6 : decode cJ21_newTreeNode 6 = .ok (.aload_n 3, 1) := dk_45 (dk_at dksJ21_newTreeNode_0 6 rfl rfl)
theorem dJ21_newTreeNode_7 : decode cJ21_newTreeNode 7 = .ok (.aload 4, 2) := dk_25 4 (dk_at dksJ21_newTreeNode_0 7 rfl rfl)
theorem dJ21_newTreeNode_9 : decode cJ21_newTreeNode 9 = .ok (.invokespecial 52, 3) := dk_183 0 52 (dk_at dksJ21_newTreeNode_0 9 rfl rfl)
theorem dJ21_newTreeNode_12 : decode cJ21_newTreeNode 12 = .ok (.astore 5, 2) := dk_58 5 (dk_at dksJ21_newTreeNode_0 12 rfl rfl)
theorem dJ21_newTreeNode_14 : decode cJ21_newTreeNode 14 = .ok (.aload_n 0, 1) := dk_42 (dk_at dksJ21_newTreeNode_0 14 rfl rfl)
theorem dJ21_newTreeNode_15 : decode cJ21_newTreeNode 15 = .ok (.aload 5, 2) := dk_25 5 (dk_at dksJ21_newTreeNode_0 15 rfl rfl)
theorem dJ21_newTreeNode_17 : decode cJ21_newTreeNode 17 = .ok (.invokevirtual 32, 3) := dk_182 0 32 (dk_at dksJ21_newTreeNode_0 17 rfl rfl)
theorem dJ21_newTreeNode_20 : decode cJ21_newTreeNode 20 = .ok (.aload 5, 2) := dk_25 5 (dk_at dksJ21_newTreeNode_0 20 rfl rfl)
theorem dJ21_newTreeNode_22 : decode cJ21_newTreeNode 22 = .ok (.areturn, 1) := dk_176 (dk_at dksJ21_newTreeNode_0 22 rfl rfl)
abbrev cJ21_replacementTreeNode : ByteArray := prog_67_method_7_code
def yJ21_replacementTreeNode : MethodName := ⟨RJ21, "replacementTreeNode", "(Ljava/util/HashMap$Node;Ljava/util/HashMap$Node;)Ljava/util/HashMap$TreeNode;"⟩
def dkwJ21_replacementTreeNode_1 : List UInt8 := [183, 0, 52, 58, 4, 42, 45, 25, 4, 182, 0, 46, 25, 4, 176]
abbrev dktJ21_replacementTreeNode_1 : List UInt8 := dkwJ21_replacementTreeNode_1 ++ []
def dkwJ21_replacementTreeNode_0 : List UInt8 := [43, 192, 0, 15, 78, 187, 0, 50, 89, 45, 180, 0, 36, 45, 180, 0, 39, 45, 180, 0, 43, 44]
abbrev dktJ21_replacementTreeNode_0 : List UInt8 := dkwJ21_replacementTreeNode_0 ++ dktJ21_replacementTreeNode_1
theorem dksJ21_replacementTreeNode_0 : cJ21_replacementTreeNode.data.toList.drop 0 = dktJ21_replacementTreeNode_0 := by decide +kernel
theorem dksJ21_replacementTreeNode_1 : cJ21_replacementTreeNode.data.toList.drop 22 = dktJ21_replacementTreeNode_1 := dk_seg dksJ21_replacementTreeNode_0 22 rfl rfl
theorem dJ21_replacementTreeNode_0 : decode cJ21_replacementTreeNode 0 = .ok (.aload_n 1, 1) := dk_43 (dk_at dksJ21_replacementTreeNode_0 0 rfl rfl)
theorem dJ21_replacementTreeNode_1 : decode cJ21_replacementTreeNode 1 = .ok (.checkcast 15, 3) := dk_192 0 15 (dk_at dksJ21_replacementTreeNode_0 1 rfl rfl)
theorem dJ21_replacementTreeNode_4 : decode cJ21_replacementTreeNode 4 = .ok (.astore_n 3, 1) := dk_78 (dk_at dksJ21_replacementTreeNode_0 4 rfl rfl)
theorem dJ21_replacementTreeNode_5 : decode cJ21_replacementTreeNode 5 = .ok (.new 50, 3) := dk_187 0 50 (dk_at dksJ21_replacementTreeNode_0 5 rfl rfl)
theorem dJ21_replacementTreeNode_8 : decode cJ21_replacementTreeNode 8 = .ok (.dup, 1) := dk_89 (dk_at dksJ21_replacementTreeNode_0 8 rfl rfl)
theorem dJ21_replacementTreeNode_9 : decode cJ21_replacementTreeNode 9 = .ok (.aload_n 3, 1) := dk_45 (dk_at dksJ21_replacementTreeNode_0 9 rfl rfl)
theorem dJ21_replacementTreeNode_10 : decode cJ21_replacementTreeNode 10 = .ok (.getfield 36, 3) := dk_180 0 36 (dk_at dksJ21_replacementTreeNode_0 10 rfl rfl)
theorem dJ21_replacementTreeNode_13 : decode cJ21_replacementTreeNode 13 = .ok (.aload_n 3, 1) := dk_45 (dk_at dksJ21_replacementTreeNode_0 13 rfl rfl)
theorem dJ21_replacementTreeNode_14 : decode cJ21_replacementTreeNode 14 = .ok (.getfield 39, 3) := dk_180 0 39 (dk_at dksJ21_replacementTreeNode_0 14 rfl rfl)
theorem dJ21_replacementTreeNode_17 : decode cJ21_replacementTreeNode 17 = .ok (.aload_n 3, 1) := dk_45 (dk_at dksJ21_replacementTreeNode_0 17 rfl rfl)
theorem dJ21_replacementTreeNode_18 : decode cJ21_replacementTreeNode 18 = .ok (.getfield 43, 3) := dk_180 0 43 (dk_at dksJ21_replacementTreeNode_0 18 rfl rfl)
theorem dJ21_replacementTreeNode_21 : decode cJ21_replacementTreeNode 21 = .ok (.aload_n 2, 1) := dk_44 (dk_at dksJ21_replacementTreeNode_0 21 rfl rfl)
theorem dJ21_replacementTreeNode_22 : decode cJ21_replacementTreeNode 22 = .ok (.invokespecial 52, 3) := dk_183 0 52 (dk_at dksJ21_replacementTreeNode_1 0 rfl rfl)
theorem dJ21_replacementTreeNode_25 : decode cJ21_replacementTreeNode 25 = .ok (.astore 4, 2) := dk_58 4 (dk_at dksJ21_replacementTreeNode_1 3 rfl rfl)
theorem dJ21_replacementTreeNode_27 : decode cJ21_replacementTreeNode 27 = .ok (.aload_n 0, 1) := dk_42 (dk_at dksJ21_replacementTreeNode_1 5 rfl rfl)
theorem dJ21_replacementTreeNode_28 : decode cJ21_replacementTreeNode 28 = .ok (.aload_n 3, 1) := dk_45 (dk_at dksJ21_replacementTreeNode_1 6 rfl rfl)
theorem dJ21_replacementTreeNode_29 : decode cJ21_replacementTreeNode 29 = .ok (.aload 4, 2) := dk_25 4 (dk_at dksJ21_replacementTreeNode_1 7 rfl rfl)
theorem dJ21_replacementTreeNode_31 : decode cJ21_replacementTreeNode 31 = .ok (.invokevirtual 46, 3) := dk_182 0 46 (dk_at dksJ21_replacementTreeNode_1 9 rfl rfl)
theorem dJ21_replacementTreeNode_34 : decode cJ21_replacementTreeNode 34 = .ok (.aload 4, 2) := dk_25 4 (dk_at dksJ21_replacementTreeNode_1 12 rfl rfl)
theorem dJ21_replacementTreeNode_36 : decode cJ21_replacementTreeNode 36 = .ok (.areturn, 1) := dk_176 (dk_at dksJ21_replacementTreeNode_1 14 rfl rfl)
abbrev cJ21_afterNodeAccess : ByteArray := prog_67_method_10_code
def yJ21_afterNodeAccess : MethodName := ⟨RJ21, "afterNodeAccess", "(Ljava/util/HashMap$Node;)V"⟩
def dkwJ21_afterNodeAccess_11 : List UInt8 := [181, 0, 7, 42, 89, 180, 0, 68, 4, 96, 181, 0, 68, 177]
abbrev dktJ21_afterNodeAccess_11 : List UInt8 := dkwJ21_afterNodeAccess_11 ++ []
def dkwJ21_afterNodeAccess_10 : List UInt8 := [25, 4, 181, 0, 11, 167, 0, 15, 25, 4, 45, 181, 0, 14, 45, 25, 4, 181, 0, 19, 42, 25, 4]
abbrev dktJ21_afterNodeAccess_10 : List UInt8 := dkwJ21_afterNodeAccess_10 ++ dktJ21_afterNodeAccess_11
def dkwJ21_afterNodeAccess_9 : List UInt8 := [25, 5, 198, 0, 13, 25, 5, 25, 6, 181, 0, 14, 167, 0, 6, 25, 6, 78, 45, 199, 0, 12, 42]
abbrev dktJ21_afterNodeAccess_9 : List UInt8 := dkwJ21_afterNodeAccess_9 ++ dktJ21_afterNodeAccess_10
def dkwJ21_afterNodeAccess_8 : List UInt8 := [181, 0, 19, 25, 6, 199, 0, 12, 42, 25, 5, 181, 0, 11, 167, 0, 10, 25, 6, 25, 5, 181, 0, 19]
abbrev dktJ21_afterNodeAccess_8 : List UInt8 := dkwJ21_afterNodeAccess_8 ++ dktJ21_afterNodeAccess_9
def dkwJ21_afterNodeAccess_7 : List UInt8 := [43, 192, 0, 15, 58, 4, 25, 4, 180, 0, 19, 58, 5, 25, 4, 180, 0, 14, 58, 6, 25, 4, 1]
abbrev dktJ21_afterNodeAccess_7 : List UInt8 := dkwJ21_afterNodeAccess_7 ++ dktJ21_afterNodeAccess_8
def dkwJ21_afterNodeAccess_6 : List UInt8 := [181, 0, 68, 167, 0, 127, 42, 180, 0, 1, 4, 160, 0, 119, 42, 180, 0, 7, 89, 78, 43, 165, 0, 109]
abbrev dktJ21_afterNodeAccess_6 : List UInt8 := dkwJ21_afterNodeAccess_6 ++ dktJ21_afterNodeAccess_7
def dkwJ21_afterNodeAccess_5 : List UInt8 := [181, 0, 19, 44, 25, 4, 181, 0, 14, 42, 25, 4, 181, 0, 11, 42, 89, 180, 0, 68, 4, 96]
abbrev dktJ21_afterNodeAccess_5 : List UInt8 := dkwJ21_afterNodeAccess_5 ++ dktJ21_afterNodeAccess_6
def dkwJ21_afterNodeAccess_4 : List UInt8 := [167, 0, 6, 25, 5, 77, 44, 199, 0, 12, 42, 25, 4, 181, 0, 7, 167, 0, 15, 25, 4, 44]
abbrev dktJ21_afterNodeAccess_4 : List UInt8 := dkwJ21_afterNodeAccess_4 ++ dktJ21_afterNodeAccess_5
def dkwJ21_afterNodeAccess_3 : List UInt8 := [167, 0, 10, 25, 5, 25, 6, 181, 0, 14, 25, 6, 198, 0, 13, 25, 6, 25, 5, 181, 0, 19]
abbrev dktJ21_afterNodeAccess_3 : List UInt8 := dkwJ21_afterNodeAccess_3 ++ dktJ21_afterNodeAccess_4
def dkwJ21_afterNodeAccess_2 : List UInt8 := [180, 0, 14, 58, 6, 25, 4, 1, 181, 0, 14, 25, 5, 199, 0, 12, 42, 25, 6, 181, 0, 7]
abbrev dktJ21_afterNodeAccess_2 : List UInt8 := dkwJ21_afterNodeAccess_2 ++ dktJ21_afterNodeAccess_3
def dkwJ21_afterNodeAccess_1 : List UInt8 := [180, 0, 11, 89, 77, 43, 165, 0, 112, 43, 192, 0, 15, 58, 4, 25, 4, 180, 0, 19, 58, 5, 25, 4]
abbrev dktJ21_afterNodeAccess_1 : List UInt8 := dkwJ21_afterNodeAccess_1 ++ dktJ21_afterNodeAccess_2
def dkwJ21_afterNodeAccess_0 : List UInt8 := [42, 180, 0, 1, 5, 159, 0, 17, 42, 180, 0, 1, 154, 0, 129, 42, 180, 0, 64, 153, 0, 122, 42]
abbrev dktJ21_afterNodeAccess_0 : List UInt8 := dkwJ21_afterNodeAccess_0 ++ dktJ21_afterNodeAccess_1
theorem dksJ21_afterNodeAccess_0 : cJ21_afterNodeAccess.data.toList.drop 0 = dktJ21_afterNodeAccess_0 := by decide +kernel
theorem dksJ21_afterNodeAccess_1 : cJ21_afterNodeAccess.data.toList.drop 23 = dktJ21_afterNodeAccess_1 := dk_seg dksJ21_afterNodeAccess_0 23 rfl rfl
theorem dksJ21_afterNodeAccess_2 : cJ21_afterNodeAccess.data.toList.drop 47 = dktJ21_afterNodeAccess_2 := dk_seg dksJ21_afterNodeAccess_1 24 rfl rfl
theorem dksJ21_afterNodeAccess_3 : cJ21_afterNodeAccess.data.toList.drop 69 = dktJ21_afterNodeAccess_3 := dk_seg dksJ21_afterNodeAccess_2 22 rfl rfl
theorem dksJ21_afterNodeAccess_4 : cJ21_afterNodeAccess.data.toList.drop 91 = dktJ21_afterNodeAccess_4 := dk_seg dksJ21_afterNodeAccess_3 22 rfl rfl
theorem dksJ21_afterNodeAccess_5 : cJ21_afterNodeAccess.data.toList.drop 113 = dktJ21_afterNodeAccess_5 := dk_seg dksJ21_afterNodeAccess_4 22 rfl rfl
theorem dksJ21_afterNodeAccess_6 : cJ21_afterNodeAccess.data.toList.drop 135 = dktJ21_afterNodeAccess_6 := dk_seg dksJ21_afterNodeAccess_5 22 rfl rfl
theorem dksJ21_afterNodeAccess_7 : cJ21_afterNodeAccess.data.toList.drop 159 = dktJ21_afterNodeAccess_7 := dk_seg dksJ21_afterNodeAccess_6 24 rfl rfl
theorem dksJ21_afterNodeAccess_8 : cJ21_afterNodeAccess.data.toList.drop 182 = dktJ21_afterNodeAccess_8 := dk_seg dksJ21_afterNodeAccess_7 23 rfl rfl
theorem dksJ21_afterNodeAccess_9 : cJ21_afterNodeAccess.data.toList.drop 206 = dktJ21_afterNodeAccess_9 := dk_seg dksJ21_afterNodeAccess_8 24 rfl rfl
theorem dksJ21_afterNodeAccess_10 : cJ21_afterNodeAccess.data.toList.drop 229 = dktJ21_afterNodeAccess_10 := dk_seg dksJ21_afterNodeAccess_9 23 rfl rfl
theorem dksJ21_afterNodeAccess_11 : cJ21_afterNodeAccess.data.toList.drop 252 = dktJ21_afterNodeAccess_11 := dk_seg dksJ21_afterNodeAccess_10 23 rfl rfl
theorem dJ21_afterNodeAccess_0 : decode cJ21_afterNodeAccess 0 = .ok (.aload_n 0, 1) := dk_42 (dk_at dksJ21_afterNodeAccess_0 0 rfl rfl)
theorem dJ21_afterNodeAccess_1 : decode cJ21_afterNodeAccess 1 = .ok (.getfield 1, 3) := dk_180 0 1 (dk_at dksJ21_afterNodeAccess_0 1 rfl rfl)
theorem dJ21_afterNodeAccess_4 : decode cJ21_afterNodeAccess 4 = .ok (.iconst 2, 1) := dk_5 (dk_at dksJ21_afterNodeAccess_0 4 rfl rfl)
theorem dJ21_afterNodeAccess_5 : decode cJ21_afterNodeAccess 5 = .ok (.if_icmp .eq 17, 3) := dk_159 0 17 (dk_at dksJ21_afterNodeAccess_0 5 rfl rfl)
theorem dJ21_afterNodeAccess_8 : decode cJ21_afterNodeAccess 8 = .ok (.aload_n 0, 1) := dk_42 (dk_at dksJ21_afterNodeAccess_0 8 rfl rfl)
theorem dJ21_afterNodeAccess_9 : decode cJ21_afterNodeAccess 9 = .ok (.getfield 1, 3) := dk_180 0 1 (dk_at dksJ21_afterNodeAccess_0 9 rfl rfl)
theorem dJ21_afterNodeAccess_12 : decode cJ21_afterNodeAccess 12 = .ok (.ifCond .ne 129, 3) := dk_154 0 129 (dk_at dksJ21_afterNodeAccess_0 12 rfl rfl)
theorem dJ21_afterNodeAccess_15 : decode cJ21_afterNodeAccess 15 = .ok (.aload_n 0, 1) := dk_42 (dk_at dksJ21_afterNodeAccess_0 15 rfl rfl)
theorem dJ21_afterNodeAccess_16 : decode cJ21_afterNodeAccess 16 = .ok (.getfield 64, 3) := dk_180 0 64 (dk_at dksJ21_afterNodeAccess_0 16 rfl rfl)
theorem dJ21_afterNodeAccess_19 : decode cJ21_afterNodeAccess 19 = .ok (.ifCond .eq 122, 3) := dk_153 0 122 (dk_at dksJ21_afterNodeAccess_0 19 rfl rfl)
theorem dJ21_afterNodeAccess_22 : decode cJ21_afterNodeAccess 22 = .ok (.aload_n 0, 1) := dk_42 (dk_at dksJ21_afterNodeAccess_0 22 rfl rfl)
theorem dJ21_afterNodeAccess_23 : decode cJ21_afterNodeAccess 23 = .ok (.getfield 11, 3) := dk_180 0 11 (dk_at dksJ21_afterNodeAccess_1 0 rfl rfl)
theorem dJ21_afterNodeAccess_26 : decode cJ21_afterNodeAccess 26 = .ok (.dup, 1) := dk_89 (dk_at dksJ21_afterNodeAccess_1 3 rfl rfl)
theorem dJ21_afterNodeAccess_27 : decode cJ21_afterNodeAccess 27 = .ok (.astore_n 2, 1) := dk_77 (dk_at dksJ21_afterNodeAccess_1 4 rfl rfl)
theorem dJ21_afterNodeAccess_28 : decode cJ21_afterNodeAccess 28 = .ok (.aload_n 1, 1) := dk_43 (dk_at dksJ21_afterNodeAccess_1 5 rfl rfl)
theorem dJ21_afterNodeAccess_29 : decode cJ21_afterNodeAccess 29 = .ok (.if_acmp .eq 112, 3) := dk_165 0 112 (dk_at dksJ21_afterNodeAccess_1 6 rfl rfl)
theorem dJ21_afterNodeAccess_32 : decode cJ21_afterNodeAccess 32 = .ok (.aload_n 1, 1) := dk_43 (dk_at dksJ21_afterNodeAccess_1 9 rfl rfl)
theorem dJ21_afterNodeAccess_33 : decode cJ21_afterNodeAccess 33 = .ok (.checkcast 15, 3) := dk_192 0 15 (dk_at dksJ21_afterNodeAccess_1 10 rfl rfl)
theorem dJ21_afterNodeAccess_36 : decode cJ21_afterNodeAccess 36 = .ok (.astore 4, 2) := dk_58 4 (dk_at dksJ21_afterNodeAccess_1 13 rfl rfl)
theorem dJ21_afterNodeAccess_38 : decode cJ21_afterNodeAccess 38 = .ok (.aload 4, 2) := dk_25 4 (dk_at dksJ21_afterNodeAccess_1 15 rfl rfl)
theorem dJ21_afterNodeAccess_40 : decode cJ21_afterNodeAccess 40 = .ok (.getfield 19, 3) := dk_180 0 19 (dk_at dksJ21_afterNodeAccess_1 17 rfl rfl)
theorem dJ21_afterNodeAccess_43 : decode cJ21_afterNodeAccess 43 = .ok (.astore 5, 2) := dk_58 5 (dk_at dksJ21_afterNodeAccess_1 20 rfl rfl)
theorem dJ21_afterNodeAccess_45 : decode cJ21_afterNodeAccess 45 = .ok (.aload 4, 2) := dk_25 4 (dk_at dksJ21_afterNodeAccess_1 22 rfl rfl)
theorem dJ21_afterNodeAccess_47 : decode cJ21_afterNodeAccess 47 = .ok (.getfield 14, 3) := dk_180 0 14 (dk_at dksJ21_afterNodeAccess_2 0 rfl rfl)
theorem dJ21_afterNodeAccess_50 : decode cJ21_afterNodeAccess 50 = .ok (.astore 6, 2) := dk_58 6 (dk_at dksJ21_afterNodeAccess_2 3 rfl rfl)
theorem dJ21_afterNodeAccess_52 : decode cJ21_afterNodeAccess 52 = .ok (.aload 4, 2) := dk_25 4 (dk_at dksJ21_afterNodeAccess_2 5 rfl rfl)
theorem dJ21_afterNodeAccess_54 : decode cJ21_afterNodeAccess 54 = .ok (.aconst_null, 1) := dk_1 (dk_at dksJ21_afterNodeAccess_2 7 rfl rfl)
theorem dJ21_afterNodeAccess_55 : decode cJ21_afterNodeAccess 55 = .ok (.putfield 14, 3) := dk_181 0 14 (dk_at dksJ21_afterNodeAccess_2 8 rfl rfl)
theorem dJ21_afterNodeAccess_58 : decode cJ21_afterNodeAccess 58 = .ok (.aload 5, 2) := dk_25 5 (dk_at dksJ21_afterNodeAccess_2 11 rfl rfl)
theorem dJ21_afterNodeAccess_60 : decode cJ21_afterNodeAccess 60 = .ok (.ifnonnull 12, 3) := dk_199 0 12 (dk_at dksJ21_afterNodeAccess_2 13 rfl rfl)
theorem dJ21_afterNodeAccess_63 : decode cJ21_afterNodeAccess 63 = .ok (.aload_n 0, 1) := dk_42 (dk_at dksJ21_afterNodeAccess_2 16 rfl rfl)
theorem dJ21_afterNodeAccess_64 : decode cJ21_afterNodeAccess 64 = .ok (.aload 6, 2) := dk_25 6 (dk_at dksJ21_afterNodeAccess_2 17 rfl rfl)
theorem dJ21_afterNodeAccess_66 : decode cJ21_afterNodeAccess 66 = .ok (.putfield 7, 3) := dk_181 0 7 (dk_at dksJ21_afterNodeAccess_2 19 rfl rfl)
theorem dJ21_afterNodeAccess_69 : decode cJ21_afterNodeAccess 69 = .ok (.goto 10, 3) := dk_167 0 10 (dk_at dksJ21_afterNodeAccess_3 0 rfl rfl)
theorem dJ21_afterNodeAccess_72 : decode cJ21_afterNodeAccess 72 = .ok (.aload 5, 2) := dk_25 5 (dk_at dksJ21_afterNodeAccess_3 3 rfl rfl)
theorem dJ21_afterNodeAccess_74 : decode cJ21_afterNodeAccess 74 = .ok (.aload 6, 2) := dk_25 6 (dk_at dksJ21_afterNodeAccess_3 5 rfl rfl)
theorem dJ21_afterNodeAccess_76 : decode cJ21_afterNodeAccess 76 = .ok (.putfield 14, 3) := dk_181 0 14 (dk_at dksJ21_afterNodeAccess_3 7 rfl rfl)
theorem dJ21_afterNodeAccess_79 : decode cJ21_afterNodeAccess 79 = .ok (.aload 6, 2) := dk_25 6 (dk_at dksJ21_afterNodeAccess_3 10 rfl rfl)
theorem dJ21_afterNodeAccess_81 : decode cJ21_afterNodeAccess 81 = .ok (.ifnull 13, 3) := dk_198 0 13 (dk_at dksJ21_afterNodeAccess_3 12 rfl rfl)
theorem dJ21_afterNodeAccess_84 : decode cJ21_afterNodeAccess 84 = .ok (.aload 6, 2) := dk_25 6 (dk_at dksJ21_afterNodeAccess_3 15 rfl rfl)
theorem dJ21_afterNodeAccess_86 : decode cJ21_afterNodeAccess 86 = .ok (.aload 5, 2) := dk_25 5 (dk_at dksJ21_afterNodeAccess_3 17 rfl rfl)
theorem dJ21_afterNodeAccess_88 : decode cJ21_afterNodeAccess 88 = .ok (.putfield 19, 3) := dk_181 0 19 (dk_at dksJ21_afterNodeAccess_3 19 rfl rfl)
theorem dJ21_afterNodeAccess_91 : decode cJ21_afterNodeAccess 91 = .ok (.goto 6, 3) := dk_167 0 6 (dk_at dksJ21_afterNodeAccess_4 0 rfl rfl)
theorem dJ21_afterNodeAccess_94 : decode cJ21_afterNodeAccess 94 = .ok (.aload 5, 2) := dk_25 5 (dk_at dksJ21_afterNodeAccess_4 3 rfl rfl)
theorem dJ21_afterNodeAccess_96 : decode cJ21_afterNodeAccess 96 = .ok (.astore_n 2, 1) := dk_77 (dk_at dksJ21_afterNodeAccess_4 5 rfl rfl)
theorem dJ21_afterNodeAccess_97 : decode cJ21_afterNodeAccess 97 = .ok (.aload_n 2, 1) := dk_44 (dk_at dksJ21_afterNodeAccess_4 6 rfl rfl)
theorem dJ21_afterNodeAccess_98 : decode cJ21_afterNodeAccess 98 = .ok (.ifnonnull 12, 3) := dk_199 0 12 (dk_at dksJ21_afterNodeAccess_4 7 rfl rfl)
theorem dJ21_afterNodeAccess_101 : decode cJ21_afterNodeAccess 101 = .ok (.aload_n 0, 1) := dk_42 (dk_at dksJ21_afterNodeAccess_4 10 rfl rfl)
theorem dJ21_afterNodeAccess_102 : decode cJ21_afterNodeAccess 102 = .ok (.aload 4, 2) := dk_25 4 (dk_at dksJ21_afterNodeAccess_4 11 rfl rfl)
theorem dJ21_afterNodeAccess_104 : decode cJ21_afterNodeAccess 104 = .ok (.putfield 7, 3) := dk_181 0 7 (dk_at dksJ21_afterNodeAccess_4 13 rfl rfl)
theorem dJ21_afterNodeAccess_107 : decode cJ21_afterNodeAccess 107 = .ok (.goto 15, 3) := dk_167 0 15 (dk_at dksJ21_afterNodeAccess_4 16 rfl rfl)
theorem dJ21_afterNodeAccess_110 : decode cJ21_afterNodeAccess 110 = .ok (.aload 4, 2) := dk_25 4 (dk_at dksJ21_afterNodeAccess_4 19 rfl rfl)
theorem dJ21_afterNodeAccess_112 : decode cJ21_afterNodeAccess 112 = .ok (.aload_n 2, 1) := dk_44 (dk_at dksJ21_afterNodeAccess_4 21 rfl rfl)
theorem dJ21_afterNodeAccess_113 : decode cJ21_afterNodeAccess 113 = .ok (.putfield 19, 3) := dk_181 0 19 (dk_at dksJ21_afterNodeAccess_5 0 rfl rfl)
theorem dJ21_afterNodeAccess_116 : decode cJ21_afterNodeAccess 116 = .ok (.aload_n 2, 1) := dk_44 (dk_at dksJ21_afterNodeAccess_5 3 rfl rfl)
theorem dJ21_afterNodeAccess_117 : decode cJ21_afterNodeAccess 117 = .ok (.aload 4, 2) := dk_25 4 (dk_at dksJ21_afterNodeAccess_5 4 rfl rfl)
theorem dJ21_afterNodeAccess_119 : decode cJ21_afterNodeAccess 119 = .ok (.putfield 14, 3) := dk_181 0 14 (dk_at dksJ21_afterNodeAccess_5 6 rfl rfl)
theorem dJ21_afterNodeAccess_122 : decode cJ21_afterNodeAccess 122 = .ok (.aload_n 0, 1) := dk_42 (dk_at dksJ21_afterNodeAccess_5 9 rfl rfl)
theorem dJ21_afterNodeAccess_123 : decode cJ21_afterNodeAccess 123 = .ok (.aload 4, 2) := dk_25 4 (dk_at dksJ21_afterNodeAccess_5 10 rfl rfl)
theorem dJ21_afterNodeAccess_125 : decode cJ21_afterNodeAccess 125 = .ok (.putfield 11, 3) := dk_181 0 11 (dk_at dksJ21_afterNodeAccess_5 12 rfl rfl)
theorem dJ21_afterNodeAccess_128 : decode cJ21_afterNodeAccess 128 = .ok (.aload_n 0, 1) := dk_42 (dk_at dksJ21_afterNodeAccess_5 15 rfl rfl)
theorem dJ21_afterNodeAccess_129 : decode cJ21_afterNodeAccess 129 = .ok (.dup, 1) := dk_89 (dk_at dksJ21_afterNodeAccess_5 16 rfl rfl)
theorem dJ21_afterNodeAccess_130 : decode cJ21_afterNodeAccess 130 = .ok (.getfield 68, 3) := dk_180 0 68 (dk_at dksJ21_afterNodeAccess_5 17 rfl rfl)
theorem dJ21_afterNodeAccess_133 : decode cJ21_afterNodeAccess 133 = .ok (.iconst 1, 1) := dk_4 (dk_at dksJ21_afterNodeAccess_5 20 rfl rfl)
theorem dJ21_afterNodeAccess_134 : decode cJ21_afterNodeAccess 134 = .ok (.iadd, 1) := dk_96 (dk_at dksJ21_afterNodeAccess_5 21 rfl rfl)
theorem dJ21_afterNodeAccess_135 : decode cJ21_afterNodeAccess 135 = .ok (.putfield 68, 3) := dk_181 0 68 (dk_at dksJ21_afterNodeAccess_6 0 rfl rfl)
theorem dJ21_afterNodeAccess_138 : decode cJ21_afterNodeAccess 138 = .ok (.goto 127, 3) := dk_167 0 127 (dk_at dksJ21_afterNodeAccess_6 3 rfl rfl)
theorem dJ21_afterNodeAccess_141 : decode cJ21_afterNodeAccess 141 = .ok (.aload_n 0, 1) := dk_42 (dk_at dksJ21_afterNodeAccess_6 6 rfl rfl)
theorem dJ21_afterNodeAccess_142 : decode cJ21_afterNodeAccess 142 = .ok (.getfield 1, 3) := dk_180 0 1 (dk_at dksJ21_afterNodeAccess_6 7 rfl rfl)
theorem dJ21_afterNodeAccess_145 : decode cJ21_afterNodeAccess 145 = .ok (.iconst 1, 1) := dk_4 (dk_at dksJ21_afterNodeAccess_6 10 rfl rfl)
theorem dJ21_afterNodeAccess_146 : decode cJ21_afterNodeAccess 146 = .ok (.if_icmp .ne 119, 3) := dk_160 0 119 (dk_at dksJ21_afterNodeAccess_6 11 rfl rfl)
theorem dJ21_afterNodeAccess_149 : decode cJ21_afterNodeAccess 149 = .ok (.aload_n 0, 1) := dk_42 (dk_at dksJ21_afterNodeAccess_6 14 rfl rfl)
theorem dJ21_afterNodeAccess_150 : decode cJ21_afterNodeAccess 150 = .ok (.getfield 7, 3) := dk_180 0 7 (dk_at dksJ21_afterNodeAccess_6 15 rfl rfl)
theorem dJ21_afterNodeAccess_153 : decode cJ21_afterNodeAccess 153 = .ok (.dup, 1) := dk_89 (dk_at dksJ21_afterNodeAccess_6 18 rfl rfl)
theorem dJ21_afterNodeAccess_154 : decode cJ21_afterNodeAccess 154 = .ok (.astore_n 3, 1) := dk_78 (dk_at dksJ21_afterNodeAccess_6 19 rfl rfl)
theorem dJ21_afterNodeAccess_155 : decode cJ21_afterNodeAccess 155 = .ok (.aload_n 1, 1) := dk_43 (dk_at dksJ21_afterNodeAccess_6 20 rfl rfl)
theorem dJ21_afterNodeAccess_156 : decode cJ21_afterNodeAccess 156 = .ok (.if_acmp .eq 109, 3) := dk_165 0 109 (dk_at dksJ21_afterNodeAccess_6 21 rfl rfl)
theorem dJ21_afterNodeAccess_159 : decode cJ21_afterNodeAccess 159 = .ok (.aload_n 1, 1) := dk_43 (dk_at dksJ21_afterNodeAccess_7 0 rfl rfl)
theorem dJ21_afterNodeAccess_160 : decode cJ21_afterNodeAccess 160 = .ok (.checkcast 15, 3) := dk_192 0 15 (dk_at dksJ21_afterNodeAccess_7 1 rfl rfl)
theorem dJ21_afterNodeAccess_163 : decode cJ21_afterNodeAccess 163 = .ok (.astore 4, 2) := dk_58 4 (dk_at dksJ21_afterNodeAccess_7 4 rfl rfl)
theorem dJ21_afterNodeAccess_165 : decode cJ21_afterNodeAccess 165 = .ok (.aload 4, 2) := dk_25 4 (dk_at dksJ21_afterNodeAccess_7 6 rfl rfl)
theorem dJ21_afterNodeAccess_167 : decode cJ21_afterNodeAccess 167 = .ok (.getfield 19, 3) := dk_180 0 19 (dk_at dksJ21_afterNodeAccess_7 8 rfl rfl)
theorem dJ21_afterNodeAccess_170 : decode cJ21_afterNodeAccess 170 = .ok (.astore 5, 2) := dk_58 5 (dk_at dksJ21_afterNodeAccess_7 11 rfl rfl)
theorem dJ21_afterNodeAccess_172 : decode cJ21_afterNodeAccess 172 = .ok (.aload 4, 2) := dk_25 4 (dk_at dksJ21_afterNodeAccess_7 13 rfl rfl)
theorem dJ21_afterNodeAccess_174 : decode cJ21_afterNodeAccess 174 = .ok (.getfield 14, 3) := dk_180 0 14 (dk_at dksJ21_afterNodeAccess_7 15 rfl rfl)
theorem dJ21_afterNodeAccess_177 : decode cJ21_afterNodeAccess 177 = .ok (.astore 6, 2) := dk_58 6 (dk_at dksJ21_afterNodeAccess_7 18 rfl rfl)
theorem dJ21_afterNodeAccess_179 : decode cJ21_afterNodeAccess 179 = .ok (.aload 4, 2) := dk_25 4 (dk_at dksJ21_afterNodeAccess_7 20 rfl rfl)
theorem dJ21_afterNodeAccess_181 : decode cJ21_afterNodeAccess 181 = .ok (.aconst_null, 1) := dk_1 (dk_at dksJ21_afterNodeAccess_7 22 rfl rfl)
theorem dJ21_afterNodeAccess_182 : decode cJ21_afterNodeAccess 182 = .ok (.putfield 19, 3) := dk_181 0 19 (dk_at dksJ21_afterNodeAccess_8 0 rfl rfl)
theorem dJ21_afterNodeAccess_185 : decode cJ21_afterNodeAccess 185 = .ok (.aload 6, 2) := dk_25 6 (dk_at dksJ21_afterNodeAccess_8 3 rfl rfl)
theorem dJ21_afterNodeAccess_187 : decode cJ21_afterNodeAccess 187 = .ok (.ifnonnull 12, 3) := dk_199 0 12 (dk_at dksJ21_afterNodeAccess_8 5 rfl rfl)
theorem dJ21_afterNodeAccess_190 : decode cJ21_afterNodeAccess 190 = .ok (.aload_n 0, 1) := dk_42 (dk_at dksJ21_afterNodeAccess_8 8 rfl rfl)
theorem dJ21_afterNodeAccess_191 : decode cJ21_afterNodeAccess 191 = .ok (.aload 5, 2) := dk_25 5 (dk_at dksJ21_afterNodeAccess_8 9 rfl rfl)
theorem dJ21_afterNodeAccess_193 : decode cJ21_afterNodeAccess 193 = .ok (.putfield 11, 3) := dk_181 0 11 (dk_at dksJ21_afterNodeAccess_8 11 rfl rfl)
theorem dJ21_afterNodeAccess_196 : decode cJ21_afterNodeAccess 196 = .ok (.goto 10, 3) := dk_167 0 10 (dk_at dksJ21_afterNodeAccess_8 14 rfl rfl)
theorem dJ21_afterNodeAccess_199 : decode cJ21_afterNodeAccess 199 = .ok (.aload 6, 2) := dk_25 6 (dk_at dksJ21_afterNodeAccess_8 17 rfl rfl)
theorem dJ21_afterNodeAccess_201 : decode cJ21_afterNodeAccess 201 = .ok (.aload 5, 2) := dk_25 5 (dk_at dksJ21_afterNodeAccess_8 19 rfl rfl)
theorem dJ21_afterNodeAccess_203 : decode cJ21_afterNodeAccess 203 = .ok (.putfield 19, 3) := dk_181 0 19 (dk_at dksJ21_afterNodeAccess_8 21 rfl rfl)
theorem dJ21_afterNodeAccess_206 : decode cJ21_afterNodeAccess 206 = .ok (.aload 5, 2) := dk_25 5 (dk_at dksJ21_afterNodeAccess_9 0 rfl rfl)
theorem dJ21_afterNodeAccess_208 : decode cJ21_afterNodeAccess 208 = .ok (.ifnull 13, 3) := dk_198 0 13 (dk_at dksJ21_afterNodeAccess_9 2 rfl rfl)
theorem dJ21_afterNodeAccess_211 : decode cJ21_afterNodeAccess 211 = .ok (.aload 5, 2) := dk_25 5 (dk_at dksJ21_afterNodeAccess_9 5 rfl rfl)
theorem dJ21_afterNodeAccess_213 : decode cJ21_afterNodeAccess 213 = .ok (.aload 6, 2) := dk_25 6 (dk_at dksJ21_afterNodeAccess_9 7 rfl rfl)
theorem dJ21_afterNodeAccess_215 : decode cJ21_afterNodeAccess 215 = .ok (.putfield 14, 3) := dk_181 0 14 (dk_at dksJ21_afterNodeAccess_9 9 rfl rfl)
theorem dJ21_afterNodeAccess_218 : decode cJ21_afterNodeAccess 218 = .ok (.goto 6, 3) := dk_167 0 6 (dk_at dksJ21_afterNodeAccess_9 12 rfl rfl)
theorem dJ21_afterNodeAccess_221 : decode cJ21_afterNodeAccess 221 = .ok (.aload 6, 2) := dk_25 6 (dk_at dksJ21_afterNodeAccess_9 15 rfl rfl)
theorem dJ21_afterNodeAccess_223 : decode cJ21_afterNodeAccess 223 = .ok (.astore_n 3, 1) := dk_78 (dk_at dksJ21_afterNodeAccess_9 17 rfl rfl)
theorem dJ21_afterNodeAccess_224 : decode cJ21_afterNodeAccess 224 = .ok (.aload_n 3, 1) := dk_45 (dk_at dksJ21_afterNodeAccess_9 18 rfl rfl)
theorem dJ21_afterNodeAccess_225 : decode cJ21_afterNodeAccess 225 = .ok (.ifnonnull 12, 3) := dk_199 0 12 (dk_at dksJ21_afterNodeAccess_9 19 rfl rfl)
theorem dJ21_afterNodeAccess_228 : decode cJ21_afterNodeAccess 228 = .ok (.aload_n 0, 1) := dk_42 (dk_at dksJ21_afterNodeAccess_9 22 rfl rfl)
theorem dJ21_afterNodeAccess_229 : decode cJ21_afterNodeAccess 229 = .ok (.aload 4, 2) := dk_25 4 (dk_at dksJ21_afterNodeAccess_10 0 rfl rfl)
theorem dJ21_afterNodeAccess_231 : decode cJ21_afterNodeAccess 231 = .ok (.putfield 11, 3) := dk_181 0 11 (dk_at dksJ21_afterNodeAccess_10 2 rfl rfl)
theorem dJ21_afterNodeAccess_234 : decode cJ21_afterNodeAccess 234 = .ok (.goto 15, 3) := dk_167 0 15 (dk_at dksJ21_afterNodeAccess_10 5 rfl rfl)
theorem dJ21_afterNodeAccess_237 : decode cJ21_afterNodeAccess 237 = .ok (.aload 4, 2) := dk_25 4 (dk_at dksJ21_afterNodeAccess_10 8 rfl rfl)
theorem dJ21_afterNodeAccess_239 : decode cJ21_afterNodeAccess 239 = .ok (.aload_n 3, 1) := dk_45 (dk_at dksJ21_afterNodeAccess_10 10 rfl rfl)
theorem dJ21_afterNodeAccess_240 : decode cJ21_afterNodeAccess 240 = .ok (.putfield 14, 3) := dk_181 0 14 (dk_at dksJ21_afterNodeAccess_10 11 rfl rfl)
theorem dJ21_afterNodeAccess_243 : decode cJ21_afterNodeAccess 243 = .ok (.aload_n 3, 1) := dk_45 (dk_at dksJ21_afterNodeAccess_10 14 rfl rfl)
theorem dJ21_afterNodeAccess_244 : decode cJ21_afterNodeAccess 244 = .ok (.aload 4, 2) := dk_25 4 (dk_at dksJ21_afterNodeAccess_10 15 rfl rfl)
theorem dJ21_afterNodeAccess_246 : decode cJ21_afterNodeAccess 246 = .ok (.putfield 19, 3) := dk_181 0 19 (dk_at dksJ21_afterNodeAccess_10 17 rfl rfl)
theorem dJ21_afterNodeAccess_249 : decode cJ21_afterNodeAccess 249 = .ok (.aload_n 0, 1) := dk_42 (dk_at dksJ21_afterNodeAccess_10 20 rfl rfl)
theorem dJ21_afterNodeAccess_250 : decode cJ21_afterNodeAccess 250 = .ok (.aload 4, 2) := dk_25 4 (dk_at dksJ21_afterNodeAccess_10 21 rfl rfl)
theorem dJ21_afterNodeAccess_252 : decode cJ21_afterNodeAccess 252 = .ok (.putfield 7, 3) := dk_181 0 7 (dk_at dksJ21_afterNodeAccess_11 0 rfl rfl)
theorem dJ21_afterNodeAccess_255 : decode cJ21_afterNodeAccess 255 = .ok (.aload_n 0, 1) := dk_42 (dk_at dksJ21_afterNodeAccess_11 3 rfl rfl)
theorem dJ21_afterNodeAccess_256 : decode cJ21_afterNodeAccess 256 = .ok (.dup, 1) := dk_89 (dk_at dksJ21_afterNodeAccess_11 4 rfl rfl)
theorem dJ21_afterNodeAccess_257 : decode cJ21_afterNodeAccess 257 = .ok (.getfield 68, 3) := dk_180 0 68 (dk_at dksJ21_afterNodeAccess_11 5 rfl rfl)
theorem dJ21_afterNodeAccess_260 : decode cJ21_afterNodeAccess 260 = .ok (.iconst 1, 1) := dk_4 (dk_at dksJ21_afterNodeAccess_11 8 rfl rfl)
theorem dJ21_afterNodeAccess_261 : decode cJ21_afterNodeAccess 261 = .ok (.iadd, 1) := dk_96 (dk_at dksJ21_afterNodeAccess_11 9 rfl rfl)
theorem dJ21_afterNodeAccess_262 : decode cJ21_afterNodeAccess 262 = .ok (.putfield 68, 3) := dk_181 0 68 (dk_at dksJ21_afterNodeAccess_11 10 rfl rfl)
theorem dJ21_afterNodeAccess_265 : decode cJ21_afterNodeAccess 265 = .ok (.return_, 1) := dk_177 (dk_at dksJ21_afterNodeAccess_11 13 rfl rfl)
abbrev cJ21_afterNodeInsertion : ByteArray := prog_67_method_9_code
def yJ21_afterNodeInsertion : MethodName := ⟨RJ21, "afterNodeInsertion", "(Z)V"⟩
def dkwJ21_afterNodeInsertion_1 : List UInt8 := [180, 0, 39, 78, 42, 45, 184, 0, 57, 45, 1, 3, 4, 182, 0, 60, 87, 177]
abbrev dktJ21_afterNodeInsertion_1 : List UInt8 := dkwJ21_afterNodeInsertion_1 ++ []
def dkwJ21_afterNodeInsertion_0 : List UInt8 := [27, 153, 0, 38, 42, 180, 0, 7, 89, 77, 198, 0, 29, 42, 44, 182, 0, 53, 153, 0, 21, 44]
abbrev dktJ21_afterNodeInsertion_0 : List UInt8 := dkwJ21_afterNodeInsertion_0 ++ dktJ21_afterNodeInsertion_1
theorem dksJ21_afterNodeInsertion_0 : cJ21_afterNodeInsertion.data.toList.drop 0 = dktJ21_afterNodeInsertion_0 := by decide +kernel
theorem dksJ21_afterNodeInsertion_1 : cJ21_afterNodeInsertion.data.toList.drop 22 = dktJ21_afterNodeInsertion_1 := dk_seg dksJ21_afterNodeInsertion_0 22 rfl rfl
theorem dJ21_afterNodeInsertion_0 : decode cJ21_afterNodeInsertion 0 = .ok (.iload_n 1, 1) := dk_27 (dk_at dksJ21_afterNodeInsertion_0 0 rfl rfl)
theorem dJ21_afterNodeInsertion_1 : decode cJ21_afterNodeInsertion 1 = .ok (.ifCond .eq 38, 3) := dk_153 0 38 (dk_at dksJ21_afterNodeInsertion_0 1 rfl rfl)
theorem dJ21_afterNodeInsertion_4 : decode cJ21_afterNodeInsertion 4 = .ok (.aload_n 0, 1) := dk_42 (dk_at dksJ21_afterNodeInsertion_0 4 rfl rfl)
theorem dJ21_afterNodeInsertion_5 : decode cJ21_afterNodeInsertion 5 = .ok (.getfield 7, 3) := dk_180 0 7 (dk_at dksJ21_afterNodeInsertion_0 5 rfl rfl)
theorem dJ21_afterNodeInsertion_8 : decode cJ21_afterNodeInsertion 8 = .ok (.dup, 1) := dk_89 (dk_at dksJ21_afterNodeInsertion_0 8 rfl rfl)
theorem dJ21_afterNodeInsertion_9 : decode cJ21_afterNodeInsertion 9 = .ok (.astore_n 2, 1) := dk_77 (dk_at dksJ21_afterNodeInsertion_0 9 rfl rfl)
theorem dJ21_afterNodeInsertion_10 : decode cJ21_afterNodeInsertion 10 = .ok (.ifnull 29, 3) := dk_198 0 29 (dk_at dksJ21_afterNodeInsertion_0 10 rfl rfl)
theorem dJ21_afterNodeInsertion_13 : decode cJ21_afterNodeInsertion 13 = .ok (.aload_n 0, 1) := dk_42 (dk_at dksJ21_afterNodeInsertion_0 13 rfl rfl)
theorem dJ21_afterNodeInsertion_14 : decode cJ21_afterNodeInsertion 14 = .ok (.aload_n 2, 1) := dk_44 (dk_at dksJ21_afterNodeInsertion_0 14 rfl rfl)
theorem dJ21_afterNodeInsertion_15 : decode cJ21_afterNodeInsertion 15 = .ok (.invokevirtual 53, 3) := dk_182 0 53 (dk_at dksJ21_afterNodeInsertion_0 15 rfl rfl)
theorem dJ21_afterNodeInsertion_18 : decode cJ21_afterNodeInsertion 18 = .ok (.ifCond .eq 21, 3) := dk_153 0 21 (dk_at dksJ21_afterNodeInsertion_0 18 rfl rfl)
theorem dJ21_afterNodeInsertion_21 : decode cJ21_afterNodeInsertion 21 = .ok (.aload_n 2, 1) := dk_44 (dk_at dksJ21_afterNodeInsertion_0 21 rfl rfl)
theorem dJ21_afterNodeInsertion_22 : decode cJ21_afterNodeInsertion 22 = .ok (.getfield 39, 3) := dk_180 0 39 (dk_at dksJ21_afterNodeInsertion_1 0 rfl rfl)
theorem dJ21_afterNodeInsertion_25 : decode cJ21_afterNodeInsertion 25 = .ok (.astore_n 3, 1) := dk_78 (dk_at dksJ21_afterNodeInsertion_1 3 rfl rfl)
theorem dJ21_afterNodeInsertion_26 : decode cJ21_afterNodeInsertion 26 = .ok (.aload_n 0, 1) := dk_42 (dk_at dksJ21_afterNodeInsertion_1 4 rfl rfl)
theorem dJ21_afterNodeInsertion_27 : decode cJ21_afterNodeInsertion 27 = .ok (.aload_n 3, 1) := dk_45 (dk_at dksJ21_afterNodeInsertion_1 5 rfl rfl)
theorem dJ21_afterNodeInsertion_28 : decode cJ21_afterNodeInsertion 28 = .ok (.invokestatic 57, 3) := dk_184 0 57 (dk_at dksJ21_afterNodeInsertion_1 6 rfl rfl)
theorem dJ21_afterNodeInsertion_31 : decode cJ21_afterNodeInsertion 31 = .ok (.aload_n 3, 1) := dk_45 (dk_at dksJ21_afterNodeInsertion_1 9 rfl rfl)
theorem dJ21_afterNodeInsertion_32 : decode cJ21_afterNodeInsertion 32 = .ok (.aconst_null, 1) := dk_1 (dk_at dksJ21_afterNodeInsertion_1 10 rfl rfl)
theorem dJ21_afterNodeInsertion_33 : decode cJ21_afterNodeInsertion 33 = .ok (.iconst 0, 1) := dk_3 (dk_at dksJ21_afterNodeInsertion_1 11 rfl rfl)
theorem dJ21_afterNodeInsertion_34 : decode cJ21_afterNodeInsertion 34 = .ok (.iconst 1, 1) := dk_4 (dk_at dksJ21_afterNodeInsertion_1 12 rfl rfl)
theorem dJ21_afterNodeInsertion_35 : decode cJ21_afterNodeInsertion 35 = .ok (.invokevirtual 60, 3) := dk_182 0 60 (dk_at dksJ21_afterNodeInsertion_1 13 rfl rfl)
theorem dJ21_afterNodeInsertion_38 : decode cJ21_afterNodeInsertion 38 = .ok (.pop, 1) := dk_87 (dk_at dksJ21_afterNodeInsertion_1 16 rfl rfl)
theorem dJ21_afterNodeInsertion_39 : decode cJ21_afterNodeInsertion 39 = .ok (.return_, 1) := dk_177 (dk_at dksJ21_afterNodeInsertion_1 17 rfl rfl)
abbrev cJ21_removeEldestEntry : ByteArray := prog_67_method_23_code
def yJ21_removeEldestEntry : MethodName := ⟨RJ21, "removeEldestEntry", "(Ljava/util/Map$Entry;)Z"⟩
theorem dJ21_removeEldestEntry_0 : decode cJ21_removeEldestEntry 0 = .ok (.iconst 0, 1) := by decide +kernel
theorem dJ21_removeEldestEntry_1 : decode cJ21_removeEldestEntry 1 = .ok (.ireturn, 1) := by decide +kernel
abbrev cJ21_get : ByteArray := prog_67_method_20_code
def yJ21_get : MethodName := ⟨RJ21, "get", "(Ljava/lang/Object;)Ljava/lang/Object;"⟩
def dkwJ21_get_1 : List UInt8 := [44, 180, 0, 107, 176]
abbrev dktJ21_get_1 : List UInt8 := dkwJ21_get_1 ++ []
def dkwJ21_get_0 : List UInt8 := [42, 43, 182, 0, 99, 89, 77, 199, 0, 5, 1, 176, 42, 180, 0, 64, 153, 0, 8, 42, 44, 182, 0, 103]
abbrev dktJ21_get_0 : List UInt8 := dkwJ21_get_0 ++ dktJ21_get_1
theorem dksJ21_get_0 : cJ21_get.data.toList.drop 0 = dktJ21_get_0 := by decide +kernel
theorem dksJ21_get_1 : cJ21_get.data.toList.drop 24 = dktJ21_get_1 := dk_seg dksJ21_get_0 24 rfl rfl
theorem dJ21_get_0 : decode cJ21_get 0 = .ok (.aload_n 0, 1) := dk_42 (dk_at dksJ21_get_0 0 rfl rfl)
theorem dJ21_get_1 : decode cJ21_get 1 = .ok (.aload_n 1, 1) := dk_43 (dk_at dksJ21_get_0 1 rfl rfl)
theorem dJ21_get_2 : decode cJ21_get 2 = .ok (.invokevirtual 99, 3) := dk_182 0 99 (dk_at dksJ21_get_0 2 rfl rfl)
theorem dJ21_get_5 : decode cJ21_get 5 = .ok (.dup, 1) := dk_89 (dk_at dksJ21_get_0 5 rfl rfl)
theorem dJ21_get_6 : decode cJ21_get 6 = .ok (.astore_n 2, 1) := dk_77 (dk_at dksJ21_get_0 6 rfl rfl)
theorem dJ21_get_7 : decode cJ21_get 7 = .ok (.ifnonnull 5, 3) := dk_199 0 5 (dk_at dksJ21_get_0 7 rfl rfl)
theorem dJ21_get_10 : decode cJ21_get 10 = .ok (.aconst_null, 1) := dk_1 (dk_at dksJ21_get_0 10 rfl rfl)
theorem dJ21_get_11 : decode cJ21_get 11 = .ok (.areturn, 1) := dk_176 (dk_at dksJ21_get_0 11 rfl rfl)
theorem dJ21_get_12 : decode cJ21_get 12 = .ok (.aload_n 0, 1) := dk_42 (dk_at dksJ21_get_0 12 rfl rfl)
theorem dJ21_get_13 : decode cJ21_get 13 = .ok (.getfield 64, 3) := dk_180 0 64 (dk_at dksJ21_get_0 13 rfl rfl)
theorem dJ21_get_16 : decode cJ21_get 16 = .ok (.ifCond .eq 8, 3) := dk_153 0 8 (dk_at dksJ21_get_0 16 rfl rfl)
theorem dJ21_get_19 : decode cJ21_get 19 = .ok (.aload_n 0, 1) := dk_42 (dk_at dksJ21_get_0 19 rfl rfl)
theorem dJ21_get_20 : decode cJ21_get 20 = .ok (.aload_n 2, 1) := dk_44 (dk_at dksJ21_get_0 20 rfl rfl)
theorem dJ21_get_21 : decode cJ21_get 21 = .ok (.invokevirtual 103, 3) := dk_182 0 103 (dk_at dksJ21_get_0 21 rfl rfl)
theorem dJ21_get_24 : decode cJ21_get 24 = .ok (.aload_n 2, 1) := dk_44 (dk_at dksJ21_get_1 0 rfl rfl)
theorem dJ21_get_25 : decode cJ21_get 25 = .ok (.getfield 107, 3) := dk_180 0 107 (dk_at dksJ21_get_1 1 rfl rfl)
theorem dJ21_get_28 : decode cJ21_get 28 = .ok (.areturn, 1) := dk_176 (dk_at dksJ21_get_1 4 rfl rfl)
abbrev cJ21_keySet : ByteArray := prog_67_method_24_code
def yJ21_keySet : MethodName := ⟨RJ21, "keySet", "()Ljava/util/Set;"⟩
theorem dJ21_keySet_0 : decode cJ21_keySet 0 = .ok (.aload_n 0, 1) := by decide +kernel
theorem dJ21_keySet_1 : decode cJ21_keySet 1 = .ok (.invokevirtual 113, 3) := by decide +kernel
theorem dJ21_keySet_4 : decode cJ21_keySet 4 = .ok (.areturn, 1) := by decide +kernel
abbrev cJ21_sequencedKeySet : ByteArray := prog_67_method_25_code
def yJ21_sequencedKeySet : MethodName := ⟨RJ21, "sequencedKeySet", "()Ljava/util/SequencedSet;"⟩
def dkwJ21_sequencedKeySet_1 : List UInt8 := [44, 176, 43, 192, 0, 126, 176]
abbrev dktJ21_sequencedKeySet_1 : List UInt8 := dkwJ21_sequencedKeySet_1 ++ []
def dkwJ21_sequencedKeySet_0 : List UInt8 := [42, 180, 0, 117, 76, 43, 199, 0, 20, 187, 0, 121, 89, 42, 3, 183, 0, 123, 77, 42, 44, 181, 0, 117]
abbrev dktJ21_sequencedKeySet_0 : List UInt8 := dkwJ21_sequencedKeySet_0 ++ dktJ21_sequencedKeySet_1
theorem dksJ21_sequencedKeySet_0 : cJ21_sequencedKeySet.data.toList.drop 0 = dktJ21_sequencedKeySet_0 := by decide +kernel
theorem dksJ21_sequencedKeySet_1 : cJ21_sequencedKeySet.data.toList.drop 24 = dktJ21_sequencedKeySet_1 := dk_seg dksJ21_sequencedKeySet_0 24 rfl rfl
theorem dJ21_sequencedKeySet_0 : decode cJ21_sequencedKeySet 0 = .ok (.aload_n 0, 1) := dk_42 (dk_at dksJ21_sequencedKeySet_0 0 rfl rfl)
theorem dJ21_sequencedKeySet_1 : decode cJ21_sequencedKeySet 1 = .ok (.getfield 117, 3) := dk_180 0 117 (dk_at dksJ21_sequencedKeySet_0 1 rfl rfl)
theorem dJ21_sequencedKeySet_4 : decode cJ21_sequencedKeySet 4 = .ok (.astore_n 1, 1) := dk_76 (dk_at dksJ21_sequencedKeySet_0 4 rfl rfl)
theorem dJ21_sequencedKeySet_5 : decode cJ21_sequencedKeySet 5 = .ok (.aload_n 1, 1) := dk_43 (dk_at dksJ21_sequencedKeySet_0 5 rfl rfl)
theorem dJ21_sequencedKeySet_6 : decode cJ21_sequencedKeySet 6 = .ok (.ifnonnull 20, 3) := dk_199 0 20 (dk_at dksJ21_sequencedKeySet_0 6 rfl rfl)
theorem dJ21_sequencedKeySet_9 : decode cJ21_sequencedKeySet 9 = .ok (.new 121, 3) := dk_187 0 121 (dk_at dksJ21_sequencedKeySet_0 9 rfl rfl)
theorem dJ21_sequencedKeySet_12 : decode cJ21_sequencedKeySet 12 = .ok (.dup, 1) := dk_89 (dk_at dksJ21_sequencedKeySet_0 12 rfl rfl)
theorem dJ21_sequencedKeySet_13 : decode cJ21_sequencedKeySet 13 = .ok (.aload_n 0, 1) := dk_42 (dk_at dksJ21_sequencedKeySet_0 13 rfl rfl)
theorem dJ21_sequencedKeySet_14 : decode cJ21_sequencedKeySet 14 = .ok (.iconst 0, 1) := dk_3 (dk_at dksJ21_sequencedKeySet_0 14 rfl rfl)
theorem dJ21_sequencedKeySet_15 : decode cJ21_sequencedKeySet 15 = .ok (.invokespecial 123, 3) := dk_183 0 123 (dk_at dksJ21_sequencedKeySet_0 15 rfl rfl)
theorem dJ21_sequencedKeySet_18 : decode cJ21_sequencedKeySet 18 = .ok (.astore_n 2, 1) := dk_77 (dk_at dksJ21_sequencedKeySet_0 18 rfl rfl)
theorem dJ21_sequencedKeySet_19 : decode cJ21_sequencedKeySet 19 = .ok (.aload_n 0, 1) := dk_42 (dk_at dksJ21_sequencedKeySet_0 19 rfl rfl)
theorem dJ21_sequencedKeySet_20 : decode cJ21_sequencedKeySet 20 = .ok (.aload_n 2, 1) := dk_44 (dk_at dksJ21_sequencedKeySet_0 20 rfl rfl)
theorem dJ21_sequencedKeySet_21 : decode cJ21_sequencedKeySet 21 = .ok (.putfield 117, 3) := dk_181 0 117 (dk_at dksJ21_sequencedKeySet_0 21 rfl rfl)
theorem dJ21_sequencedKeySet_24 : decode cJ21_sequencedKeySet 24 = .ok (.aload_n 2, 1) := dk_44 (dk_at dksJ21_sequencedKeySet_1 0 rfl rfl)
theorem dJ21_sequencedKeySet_25 : decode cJ21_sequencedKeySet 25 = .ok (.areturn, 1) := dk_176 (dk_at dksJ21_sequencedKeySet_1 1 rfl rfl)
theorem dJ21_sequencedKeySet_26 : decode cJ21_sequencedKeySet 26 = .ok (.aload_n 1, 1) := dk_43 (dk_at dksJ21_sequencedKeySet_1 2 rfl rfl)
theorem dJ21_sequencedKeySet_27 : decode cJ21_sequencedKeySet 27 = .ok (.checkcast 126, 3) := dk_192 0 126 (dk_at dksJ21_sequencedKeySet_1 3 rfl rfl)
theorem dJ21_sequencedKeySet_30 : decode cJ21_sequencedKeySet 30 = .ok (.areturn, 1) := dk_176 (dk_at dksJ21_sequencedKeySet_1 6 rfl rfl)
abbrev cJ21_afterNodeRemoval : ByteArray := prog_67_method_8_code
def yJ21_afterNodeRemoval : MethodName := ⟨RJ21, "afterNodeRemoval", "(Ljava/util/HashMap$Node;)V"⟩
def dkwJ21_afterNodeRemoval_2 : List UInt8 := [199, 0, 11, 42, 45, 181, 0, 11, 167, 0, 9, 25, 4, 45, 181, 0, 19, 177]
abbrev dktJ21_afterNodeRemoval_2 : List UInt8 := dkwJ21_afterNodeRemoval_2 ++ []
def dkwJ21_afterNodeRemoval_1 : List UInt8 := [181, 0, 19, 45, 199, 0, 12, 42, 25, 4, 181, 0, 7, 167, 0, 9, 45, 25, 4, 181, 0, 14, 25, 4]
abbrev dktJ21_afterNodeRemoval_1 : List UInt8 := dkwJ21_afterNodeRemoval_1 ++ dktJ21_afterNodeRemoval_2
def dkwJ21_afterNodeRemoval_0 : List UInt8 := [43, 192, 0, 15, 77, 44, 180, 0, 19, 78, 44, 180, 0, 14, 58, 4, 44, 44, 1, 90, 181, 0, 14]
abbrev dktJ21_afterNodeRemoval_0 : List UInt8 := dkwJ21_afterNodeRemoval_0 ++ dktJ21_afterNodeRemoval_1
theorem dksJ21_afterNodeRemoval_0 : cJ21_afterNodeRemoval.data.toList.drop 0 = dktJ21_afterNodeRemoval_0 := by decide +kernel
theorem dksJ21_afterNodeRemoval_1 : cJ21_afterNodeRemoval.data.toList.drop 23 = dktJ21_afterNodeRemoval_1 := dk_seg dksJ21_afterNodeRemoval_0 23 rfl rfl
theorem dksJ21_afterNodeRemoval_2 : cJ21_afterNodeRemoval.data.toList.drop 47 = dktJ21_afterNodeRemoval_2 := dk_seg dksJ21_afterNodeRemoval_1 24 rfl rfl
theorem dJ21_afterNodeRemoval_0 : decode cJ21_afterNodeRemoval 0 = .ok (.aload_n 1, 1) := dk_43 (dk_at dksJ21_afterNodeRemoval_0 0 rfl rfl)
theorem dJ21_afterNodeRemoval_1 : decode cJ21_afterNodeRemoval 1 = .ok (.checkcast 15, 3) := dk_192 0 15 (dk_at dksJ21_afterNodeRemoval_0 1 rfl rfl)
theorem dJ21_afterNodeRemoval_4 : decode cJ21_afterNodeRemoval 4 = .ok (.astore_n 2, 1) := dk_77 (dk_at dksJ21_afterNodeRemoval_0 4 rfl rfl)
theorem dJ21_afterNodeRemoval_5 : decode cJ21_afterNodeRemoval 5 = .ok (.aload_n 2, 1) := dk_44 (dk_at dksJ21_afterNodeRemoval_0 5 rfl rfl)
theorem dJ21_afterNodeRemoval_6 : decode cJ21_afterNodeRemoval 6 = .ok (.getfield 19, 3) := dk_180 0 19 (dk_at dksJ21_afterNodeRemoval_0 6 rfl rfl)
theorem dJ21_afterNodeRemoval_9 : decode cJ21_afterNodeRemoval 9 = .ok (.astore_n 3, 1) := dk_78 (dk_at dksJ21_afterNodeRemoval_0 9 rfl rfl)
theorem dJ21_afterNodeRemoval_10 : decode cJ21_afterNodeRemoval 10 = .ok (.aload_n 2, 1) := dk_44 (dk_at dksJ21_afterNodeRemoval_0 10 rfl rfl)
theorem dJ21_afterNodeRemoval_11 : decode cJ21_afterNodeRemoval 11 = .ok (.getfield 14, 3) := dk_180 0 14 (dk_at dksJ21_afterNodeRemoval_0 11 rfl rfl)
theorem dJ21_afterNodeRemoval_14 : decode cJ21_afterNodeRemoval 14 = .ok (.astore 4, 2) := dk_58 4 (dk_at dksJ21_afterNodeRemoval_0 14 rfl rfl)
theorem dJ21_afterNodeRemoval_16 : decode cJ21_afterNodeRemoval 16 = .ok (.aload_n 2, 1) := dk_44 (dk_at dksJ21_afterNodeRemoval_0 16 rfl rfl)
theorem dJ21_afterNodeRemoval_17 : decode cJ21_afterNodeRemoval 17 = .ok (.aload_n 2, 1) := dk_44 (dk_at dksJ21_afterNodeRemoval_0 17 rfl rfl)
theorem dJ21_afterNodeRemoval_18 : decode cJ21_afterNodeRemoval 18 = .ok (.aconst_null, 1) := dk_1 (dk_at dksJ21_afterNodeRemoval_0 18 rfl rfl)
theorem dJ21_afterNodeRemoval_19 : decode cJ21_afterNodeRemoval 19 = .ok (.dup_x1, 1) := dk_90 (dk_at dksJ21_afterNodeRemoval_0 19 rfl rfl)
theorem dJ21_afterNodeRemoval_20 : decode cJ21_afterNodeRemoval 20 = .ok (.putfield 14, 3) := dk_181 0 14 (dk_at dksJ21_afterNodeRemoval_0 20 rfl rfl)
theorem dJ21_afterNodeRemoval_23 : decode cJ21_afterNodeRemoval 23 = .ok (.putfield 19, 3) := dk_181 0 19 (dk_at dksJ21_afterNodeRemoval_1 0 rfl rfl)
theorem dJ21_afterNodeRemoval_26 : decode cJ21_afterNodeRemoval 26 = .ok (.aload_n 3, 1) := dk_45 (dk_at dksJ21_afterNodeRemoval_1 3 rfl rfl)
theorem dJ21_afterNodeRemoval_27 : decode cJ21_afterNodeRemoval 27 = .ok (.ifnonnull 12, 3) := dk_199 0 12 (dk_at dksJ21_afterNodeRemoval_1 4 rfl rfl)
theorem dJ21_afterNodeRemoval_30 : decode cJ21_afterNodeRemoval 30 = .ok (.aload_n 0, 1) := dk_42 (dk_at dksJ21_afterNodeRemoval_1 7 rfl rfl)
theorem dJ21_afterNodeRemoval_31 : decode cJ21_afterNodeRemoval 31 = .ok (.aload 4, 2) := dk_25 4 (dk_at dksJ21_afterNodeRemoval_1 8 rfl rfl)
theorem dJ21_afterNodeRemoval_33 : decode cJ21_afterNodeRemoval 33 = .ok (.putfield 7, 3) := dk_181 0 7 (dk_at dksJ21_afterNodeRemoval_1 10 rfl rfl)
theorem dJ21_afterNodeRemoval_36 : decode cJ21_afterNodeRemoval 36 = .ok (.goto 9, 3) := dk_167 0 9 (dk_at dksJ21_afterNodeRemoval_1 13 rfl rfl)
theorem dJ21_afterNodeRemoval_39 : decode cJ21_afterNodeRemoval 39 = .ok (.aload_n 3, 1) := dk_45 (dk_at dksJ21_afterNodeRemoval_1 16 rfl rfl)
theorem dJ21_afterNodeRemoval_40 : decode cJ21_afterNodeRemoval 40 = .ok (.aload 4, 2) := dk_25 4 (dk_at dksJ21_afterNodeRemoval_1 17 rfl rfl)
theorem dJ21_afterNodeRemoval_42 : decode cJ21_afterNodeRemoval 42 = .ok (.putfield 14, 3) := dk_181 0 14 (dk_at dksJ21_afterNodeRemoval_1 19 rfl rfl)
theorem dJ21_afterNodeRemoval_45 : decode cJ21_afterNodeRemoval 45 = .ok (.aload 4, 2) := dk_25 4 (dk_at dksJ21_afterNodeRemoval_1 22 rfl rfl)
theorem dJ21_afterNodeRemoval_47 : decode cJ21_afterNodeRemoval 47 = .ok (.ifnonnull 11, 3) := dk_199 0 11 (dk_at dksJ21_afterNodeRemoval_2 0 rfl rfl)
theorem dJ21_afterNodeRemoval_50 : decode cJ21_afterNodeRemoval 50 = .ok (.aload_n 0, 1) := dk_42 (dk_at dksJ21_afterNodeRemoval_2 3 rfl rfl)
theorem dJ21_afterNodeRemoval_51 : decode cJ21_afterNodeRemoval 51 = .ok (.aload_n 3, 1) := dk_45 (dk_at dksJ21_afterNodeRemoval_2 4 rfl rfl)
theorem dJ21_afterNodeRemoval_52 : decode cJ21_afterNodeRemoval 52 = .ok (.putfield 11, 3) := dk_181 0 11 (dk_at dksJ21_afterNodeRemoval_2 5 rfl rfl)
theorem dJ21_afterNodeRemoval_55 : decode cJ21_afterNodeRemoval 55 = .ok (.goto 9, 3) := dk_167 0 9 (dk_at dksJ21_afterNodeRemoval_2 8 rfl rfl)
theorem dJ21_afterNodeRemoval_58 : decode cJ21_afterNodeRemoval 58 = .ok (.aload 4, 2) := dk_25 4 (dk_at dksJ21_afterNodeRemoval_2 11 rfl rfl)
theorem dJ21_afterNodeRemoval_60 : decode cJ21_afterNodeRemoval 60 = .ok (.aload_n 3, 1) := dk_45 (dk_at dksJ21_afterNodeRemoval_2 13 rfl rfl)
theorem dJ21_afterNodeRemoval_61 : decode cJ21_afterNodeRemoval 61 = .ok (.putfield 19, 3) := dk_181 0 19 (dk_at dksJ21_afterNodeRemoval_2 14 rfl rfl)
theorem dJ21_afterNodeRemoval_64 : decode cJ21_afterNodeRemoval 64 = .ok (.return_, 1) := dk_177 (dk_at dksJ21_afterNodeRemoval_2 17 rfl rfl)
theorem q173 : (Jvm.Cond.initialized "java/util/LinkedHashMap") ∈ lw_all := lw_g (lw_at lw_m1 25 rfl) rfl
theorem q591 : (Jvm.Cond.instantiable "java/util/LinkedHashMap" (12 : Nat)) ∈ lw_all := lw_g (lw_at lw_m2 203 rfl) rfl
theorem q593 : (Jvm.Cond.instanceMethod ({ cls := "java/util/LinkedHashMap", name := "<init>", desc := "()V" } : Jvm.MethodName)) ∈ lw_all := lw_g (lw_at lw_m2 205 rfl) rfl
theorem q594 : (Jvm.Cond.code ({ cls := "java/util/LinkedHashMap", name := "<init>", desc := "()V" } : Jvm.MethodName) prog_67_method_16_code (1 : Nat) (Option.none : Option Jvm.ClassFile.FieldType)) ∈ lw_all := lw_g (lw_at lw_m2 206 rfl) rfl
theorem q595 : (Jvm.Cond.methodLink "java/util/LinkedHashMap" (87 : Nat) ({ cls := "java/util/HashMap", name := "<init>", desc := "()V" } : Jvm.MethodName)) ∈ lw_all := lw_g (lw_at lw_m2 207 rfl) rfl
theorem q603 : (Jvm.Cond.fieldLink "java/util/LinkedHashMap" (7 : Nat) "java/util/LinkedHashMap" "head" "Ljava/util/LinkedHashMap$Entry;") ∈ lw_all := lw_g (lw_at lw_m2 215 rfl) rfl
theorem q606 : (Jvm.Cond.fieldLink "java/util/LinkedHashMap" (11 : Nat) "java/util/LinkedHashMap" "tail" "Ljava/util/LinkedHashMap$Entry;") ∈ lw_all := lw_g (lw_at lw_m2 218 rfl) rfl
theorem q607 : (Jvm.Cond.fieldLink "java/util/LinkedHashMap" (64 : Nat) "java/util/LinkedHashMap" "accessOrder" "Z") ∈ lw_all := lw_g (lw_at lw_m2 219 rfl) rfl
theorem q608 : (Jvm.Cond.fieldLink "java/util/LinkedHashMap" (1 : Nat) "java/util/LinkedHashMap" "putMode" "I") ∈ lw_all := lw_g (lw_at lw_m2 220 rfl) rfl
theorem q615 : (Jvm.Cond.sameField "java/util/LinkedHashMap" "java/util/HashMap" "modCount" "I") ∈ lw_all := lw_g (lw_at lw_m2 227 rfl) rfl
theorem q616 : (Jvm.Cond.fieldLink "java/util/LinkedHashMap" (68 : Nat) "java/util/LinkedHashMap" "modCount" "I") ∈ lw_all := lw_g (lw_at lw_m2 228 rfl) rfl
theorem q622 : (Jvm.Cond.fieldLink "java/util/LinkedHashMap" (117 : Nat) "java/util/LinkedHashMap" "keySet" "Ljava/util/Set;") ∈ lw_all := lw_g (lw_at lw_m2 234 rfl) rfl
theorem q623 : (Jvm.Cond.sameField "java/util/LinkedHashMap" "java/util/AbstractMap" "keySet" "Ljava/util/Set;") ∈ lw_all := lw_g (lw_at lw_m2 235 rfl) rfl
theorem q624 : (Jvm.Cond.lays "java/util/LinkedHashMap" "java/util/LinkedHashMap" "head" "Ljava/util/LinkedHashMap$Entry;") ∈ lw_all := lw_g (lw_at lw_m2 236 rfl) rfl
theorem q625 : (Jvm.Cond.soleField "java/util/LinkedHashMap" "head") ∈ lw_all := lw_g (lw_at lw_m2 237 rfl) rfl
theorem q626 : (Jvm.Cond.lays "java/util/LinkedHashMap" "java/util/LinkedHashMap" "tail" "Ljava/util/LinkedHashMap$Entry;") ∈ lw_all := lw_g (lw_at lw_m2 238 rfl) rfl
theorem q627 : (Jvm.Cond.soleField "java/util/LinkedHashMap" "tail") ∈ lw_all := lw_g (lw_at lw_m2 239 rfl) rfl
theorem q628 : (Jvm.Cond.laysFinal "java/util/LinkedHashMap" "java/util/LinkedHashMap" "accessOrder" "Z") ∈ lw_all := lw_g (lw_at lw_m3 0 rfl) rfl
theorem q629 : (Jvm.Cond.soleField "java/util/LinkedHashMap" "accessOrder") ∈ lw_all := lw_g (lw_at lw_m3 1 rfl) rfl
theorem q630 : (Jvm.Cond.lays "java/util/LinkedHashMap" "java/util/LinkedHashMap" "putMode" "I") ∈ lw_all := lw_g (lw_at lw_m3 2 rfl) rfl
theorem q631 : (Jvm.Cond.soleField "java/util/LinkedHashMap" "putMode") ∈ lw_all := lw_g (lw_at lw_m3 3 rfl) rfl
theorem q632 : (Jvm.Cond.lays "java/util/LinkedHashMap" "java/util/HashMap" "table" "[Ljava/util/HashMap$Node;") ∈ lw_all := lw_g (lw_at lw_m3 4 rfl) rfl
theorem q634 : (Jvm.Cond.lays "java/util/LinkedHashMap" "java/util/HashMap" "entrySet" "Ljava/util/Set;") ∈ lw_all := lw_g (lw_at lw_m3 6 rfl) rfl
theorem q636 : (Jvm.Cond.lays "java/util/LinkedHashMap" "java/util/HashMap" "size" "I") ∈ lw_all := lw_g (lw_at lw_m3 8 rfl) rfl
theorem q638 : (Jvm.Cond.lays "java/util/LinkedHashMap" "java/util/HashMap" "modCount" "I") ∈ lw_all := lw_g (lw_at lw_m3 10 rfl) rfl
theorem q640 : (Jvm.Cond.lays "java/util/LinkedHashMap" "java/util/HashMap" "threshold" "I") ∈ lw_all := lw_g (lw_at lw_m3 12 rfl) rfl
theorem q642 : (Jvm.Cond.laysFinal "java/util/LinkedHashMap" "java/util/HashMap" "loadFactor" "F") ∈ lw_all := lw_g (lw_at lw_m3 14 rfl) rfl
theorem q644 : (Jvm.Cond.lays "java/util/LinkedHashMap" "java/util/AbstractMap" "keySet" "Ljava/util/Set;") ∈ lw_all := lw_g (lw_at lw_m3 16 rfl) rfl
theorem q646 : (Jvm.Cond.lays "java/util/LinkedHashMap" "java/util/AbstractMap" "values" "Ljava/util/Collection;") ∈ lw_all := lw_g (lw_at lw_m3 18 rfl) rfl
theorem q648 : (Jvm.Cond.superclass "java/util/LinkedHashMap" "java/util/HashMap") ∈ lw_all := lw_g (lw_at lw_m3 20 rfl) rfl
theorem q664 : (Jvm.Cond.instanceMethod ({ cls := "java/util/LinkedHashMap", name := "<init>", desc := "(IF)V" } : Jvm.MethodName)) ∈ lw_all := lw_g (lw_at lw_m3 36 rfl) rfl
theorem q665 : (Jvm.Cond.code ({ cls := "java/util/LinkedHashMap", name := "<init>", desc := "(IF)V" } : Jvm.MethodName) prog_67_method_14_code (3 : Nat) (Option.none : Option Jvm.ClassFile.FieldType)) ∈ lw_all := lw_g (lw_at lw_m3 37 rfl) rfl
theorem q666 : (Jvm.Cond.methodLink "java/util/LinkedHashMap" (81 : Nat) ({ cls := "java/util/HashMap", name := "<init>", desc := "(IF)V" } : Jvm.MethodName)) ∈ lw_all := lw_g (lw_at lw_m3 38 rfl) rfl
theorem q1053 : (Jvm.Cond.selects "java/util/LinkedHashMap" ({ cls := "java/lang/Object", name := "getClass", desc := "()Ljava/lang/Class;" } : Jvm.MethodName) ({ cls := "java/lang/Object", name := "getClass", desc := "()Ljava/lang/Class;" } : Jvm.MethodName)) ∈ lw_all := lw_g (lw_at lw_m4 185 rfl) rfl
theorem q1293 : (Jvm.Cond.sameMethod "java/util/LinkedHashMap" "java/util/HashMap" "put" "(Ljava/lang/Object;Ljava/lang/Object;)Ljava/lang/Object;") ∈ lw_all := lw_g (lw_at lw_m5 185 rfl) rfl
theorem q1295 : (Jvm.Cond.selects "java/util/LinkedHashMap" ({ cls := "java/util/LinkedHashMap", name := "put", desc := "(Ljava/lang/Object;Ljava/lang/Object;)Ljava/lang/Object;" } : Jvm.MethodName) ({ cls := "java/util/HashMap", name := "put", desc := "(Ljava/lang/Object;Ljava/lang/Object;)Ljava/lang/Object;" } : Jvm.MethodName)) ∈ lw_all := lw_g (lw_at lw_m5 187 rfl) rfl
theorem q1397 : (Jvm.Cond.selects "java/util/LinkedHashMap" ({ cls := "java/util/HashMap", name := "putVal", desc := "(ILjava/lang/Object;Ljava/lang/Object;ZZ)Ljava/lang/Object;" } : Jvm.MethodName) ({ cls := "java/util/HashMap", name := "putVal", desc := "(ILjava/lang/Object;Ljava/lang/Object;ZZ)Ljava/lang/Object;" } : Jvm.MethodName)) ∈ lw_all := lw_g (lw_at lw_m6 49 rfl) rfl
theorem q1402 : (Jvm.Cond.selects "java/util/LinkedHashMap" ({ cls := "java/util/HashMap", name := "resize", desc := "()[Ljava/util/HashMap$Node;" } : Jvm.MethodName) ({ cls := "java/util/HashMap", name := "resize", desc := "()[Ljava/util/HashMap$Node;" } : Jvm.MethodName)) ∈ lw_all := lw_g (lw_at lw_m6 54 rfl) rfl
theorem q1421 : (Jvm.Cond.selects "java/util/LinkedHashMap" ({ cls := "java/util/HashMap", name := "replacementNode", desc := "(Ljava/util/HashMap$Node;Ljava/util/HashMap$Node;)Ljava/util/HashMap$Node;" } : Jvm.MethodName) ({ cls := "java/util/LinkedHashMap", name := "replacementNode", desc := "(Ljava/util/HashMap$Node;Ljava/util/HashMap$Node;)Ljava/util/HashMap$Node;" } : Jvm.MethodName)) ∈ lw_all := lw_g (lw_at lw_m6 73 rfl) rfl
theorem q1422 : (Jvm.Cond.instanceMethod ({ cls := "java/util/LinkedHashMap", name := "replacementNode", desc := "(Ljava/util/HashMap$Node;Ljava/util/HashMap$Node;)Ljava/util/HashMap$Node;" } : Jvm.MethodName)) ∈ lw_all := lw_g (lw_at lw_m6 74 rfl) rfl
theorem q1423 : (Jvm.Cond.code ({ cls := "java/util/LinkedHashMap", name := "replacementNode", desc := "(Ljava/util/HashMap$Node;Ljava/util/HashMap$Node;)Ljava/util/HashMap$Node;" } : Jvm.MethodName) prog_67_method_5_code (5 : Nat) (Option.some (Jvm.ClassFile.FieldType.object "java/util/HashMap$Node"))) ∈ lw_all := lw_g (lw_at lw_m6 75 rfl) rfl
theorem q1424 : (Jvm.Cond.classLink "java/util/LinkedHashMap" (15 : Nat) "java/util/LinkedHashMap$Entry") ∈ lw_all := lw_g (lw_at lw_m6 76 rfl) rfl
theorem q1426 : (Jvm.Cond.methodLink "java/util/LinkedHashMap" (28 : Nat) ({ cls := "java/util/LinkedHashMap$Entry", name := "<init>", desc := "(ILjava/lang/Object;Ljava/lang/Object;Ljava/util/HashMap$Node;)V" } : Jvm.MethodName)) ∈ lw_all := lw_g (lw_at lw_m6 78 rfl) rfl
theorem q1433 : (Jvm.Cond.fieldLink "java/util/LinkedHashMap" (19 : Nat) "java/util/LinkedHashMap$Entry" "before" "Ljava/util/LinkedHashMap$Entry;") ∈ lw_all := lw_g (lw_at lw_m6 85 rfl) rfl
theorem q1435 : (Jvm.Cond.fieldLink "java/util/LinkedHashMap" (14 : Nat) "java/util/LinkedHashMap$Entry" "after" "Ljava/util/LinkedHashMap$Entry;") ∈ lw_all := lw_g (lw_at lw_m6 87 rfl) rfl
theorem q1440 : (Jvm.Cond.fieldLink "java/util/LinkedHashMap" (36 : Nat) "java/util/LinkedHashMap$Entry" "hash" "I") ∈ lw_all := lw_g (lw_at lw_m6 92 rfl) rfl
theorem q1447 : (Jvm.Cond.fieldLink "java/util/LinkedHashMap" (39 : Nat) "java/util/LinkedHashMap$Entry" "key" "Ljava/lang/Object;") ∈ lw_all := lw_g (lw_at lw_m6 99 rfl) rfl
theorem q1451 : (Jvm.Cond.fieldLink "java/util/LinkedHashMap" (43 : Nat) "java/util/LinkedHashMap$Entry" "value" "Ljava/lang/Object;") ∈ lw_all := lw_g (lw_at lw_m6 103 rfl) rfl
theorem q1454 : (Jvm.Cond.fieldLink "java/util/LinkedHashMap" (107 : Nat) "java/util/HashMap$Node" "value" "Ljava/lang/Object;") ∈ lw_all := lw_g (lw_at lw_m6 106 rfl) rfl
theorem q1475 : (Jvm.Cond.methodLink "java/util/LinkedHashMap" (46 : Nat) ({ cls := "java/util/LinkedHashMap", name := "transferLinks", desc := "(Ljava/util/LinkedHashMap$Entry;Ljava/util/LinkedHashMap$Entry;)V" } : Jvm.MethodName)) ∈ lw_all := lw_g (lw_at lw_m6 127 rfl) rfl
theorem q1476 : (Jvm.Cond.privateMethod ({ cls := "java/util/LinkedHashMap", name := "transferLinks", desc := "(Ljava/util/LinkedHashMap$Entry;Ljava/util/LinkedHashMap$Entry;)V" } : Jvm.MethodName)) ∈ lw_tbl := lw_at lw_m6 128 rfl
theorem q1477 : (Jvm.Cond.instanceMethod ({ cls := "java/util/LinkedHashMap", name := "transferLinks", desc := "(Ljava/util/LinkedHashMap$Entry;Ljava/util/LinkedHashMap$Entry;)V" } : Jvm.MethodName)) ∈ lw_all := lw_g (lw_at lw_m6 129 rfl) rfl
theorem q1478 : (Jvm.Cond.code ({ cls := "java/util/LinkedHashMap", name := "transferLinks", desc := "(Ljava/util/LinkedHashMap$Entry;Ljava/util/LinkedHashMap$Entry;)V" } : Jvm.MethodName) prog_67_method_2_code (5 : Nat) (Option.none : Option Jvm.ClassFile.FieldType)) ∈ lw_all := lw_g (lw_at lw_m6 130 rfl) rfl
theorem q1721 : (Jvm.Cond.selects "java/util/LinkedHashMap" ({ cls := "java/util/HashMap", name := "newNode", desc := "(ILjava/lang/Object;Ljava/lang/Object;Ljava/util/HashMap$Node;)Ljava/util/HashMap$Node;" } : Jvm.MethodName) ({ cls := "java/util/LinkedHashMap", name := "newNode", desc := "(ILjava/lang/Object;Ljava/lang/Object;Ljava/util/HashMap$Node;)Ljava/util/HashMap$Node;" } : Jvm.MethodName)) ∈ lw_all := lw_g (lw_at lw_m7 133 rfl) rfl
theorem q1722 : (Jvm.Cond.instanceMethod ({ cls := "java/util/LinkedHashMap", name := "newNode", desc := "(ILjava/lang/Object;Ljava/lang/Object;Ljava/util/HashMap$Node;)Ljava/util/HashMap$Node;" } : Jvm.MethodName)) ∈ lw_all := lw_g (lw_at lw_m7 134 rfl) rfl
theorem q1723 : (Jvm.Cond.code ({ cls := "java/util/LinkedHashMap", name := "newNode", desc := "(ILjava/lang/Object;Ljava/lang/Object;Ljava/util/HashMap$Node;)Ljava/util/HashMap$Node;" } : Jvm.MethodName) prog_67_method_4_code (6 : Nat) (Option.some (Jvm.ClassFile.FieldType.object "java/util/HashMap$Node"))) ∈ lw_all := lw_g (lw_at lw_m7 135 rfl) rfl
theorem q1724 : (Jvm.Cond.methodLink "java/util/LinkedHashMap" (32 : Nat) ({ cls := "java/util/LinkedHashMap", name := "linkNodeAtEnd", desc := "(Ljava/util/LinkedHashMap$Entry;)V" } : Jvm.MethodName)) ∈ lw_all := lw_g (lw_at lw_m7 136 rfl) rfl
theorem q1725 : (Jvm.Cond.privateMethod ({ cls := "java/util/LinkedHashMap", name := "linkNodeAtEnd", desc := "(Ljava/util/LinkedHashMap$Entry;)V" } : Jvm.MethodName)) ∈ lw_tbl := lw_at lw_m7 137 rfl
theorem q1726 : (Jvm.Cond.instanceMethod ({ cls := "java/util/LinkedHashMap", name := "linkNodeAtEnd", desc := "(Ljava/util/LinkedHashMap$Entry;)V" } : Jvm.MethodName)) ∈ lw_all := lw_g (lw_at lw_m7 138 rfl) rfl
theorem q1727 : (Jvm.Cond.code ({ cls := "java/util/LinkedHashMap", name := "linkNodeAtEnd", desc := "(Ljava/util/LinkedHashMap$Entry;)V" } : Jvm.MethodName) prog_67_method_1_code (3 : Nat) (Option.none : Option Jvm.ClassFile.FieldType)) ∈ lw_all := lw_g (lw_at lw_m7 139 rfl) rfl
theorem q1787 : (Jvm.Cond.selects "java/util/LinkedHashMap" ({ cls := "java/util/HashMap", name := "newTreeNode", desc := "(ILjava/lang/Object;Ljava/lang/Object;Ljava/util/HashMap$Node;)Ljava/util/HashMap$TreeNode;" } : Jvm.MethodName) ({ cls := "java/util/LinkedHashMap", name := "newTreeNode", desc := "(ILjava/lang/Object;Ljava/lang/Object;Ljava/util/HashMap$Node;)Ljava/util/HashMap$TreeNode;" } : Jvm.MethodName)) ∈ lw_all := lw_g (lw_at lw_m7 199 rfl) rfl
theorem q1788 : (Jvm.Cond.instanceMethod ({ cls := "java/util/LinkedHashMap", name := "newTreeNode", desc := "(ILjava/lang/Object;Ljava/lang/Object;Ljava/util/HashMap$Node;)Ljava/util/HashMap$TreeNode;" } : Jvm.MethodName)) ∈ lw_all := lw_g (lw_at lw_m7 200 rfl) rfl
theorem q1789 : (Jvm.Cond.code ({ cls := "java/util/LinkedHashMap", name := "newTreeNode", desc := "(ILjava/lang/Object;Ljava/lang/Object;Ljava/util/HashMap$Node;)Ljava/util/HashMap$TreeNode;" } : Jvm.MethodName) prog_67_method_6_code (6 : Nat) (Option.some (Jvm.ClassFile.FieldType.object "java/util/HashMap$TreeNode"))) ∈ lw_all := lw_g (lw_at lw_m7 201 rfl) rfl
theorem q1790 : (Jvm.Cond.classLink "java/util/LinkedHashMap" (50 : Nat) "java/util/HashMap$TreeNode") ∈ lw_all := lw_g (lw_at lw_m7 202 rfl) rfl
theorem q1792 : (Jvm.Cond.methodLink "java/util/LinkedHashMap" (52 : Nat) ({ cls := "java/util/HashMap$TreeNode", name := "<init>", desc := "(ILjava/lang/Object;Ljava/lang/Object;Ljava/util/HashMap$Node;)V" } : Jvm.MethodName)) ∈ lw_all := lw_g (lw_at lw_m7 204 rfl) rfl
theorem q1823 : (Jvm.Cond.selects "java/util/LinkedHashMap" ({ cls := "java/util/HashMap", name := "treeifyBin", desc := "([Ljava/util/HashMap$Node;I)V" } : Jvm.MethodName) ({ cls := "java/util/HashMap", name := "treeifyBin", desc := "([Ljava/util/HashMap$Node;I)V" } : Jvm.MethodName)) ∈ lw_all := lw_g (lw_at lw_m7 235 rfl) rfl
theorem q1828 : (Jvm.Cond.selects "java/util/LinkedHashMap" ({ cls := "java/util/HashMap", name := "replacementTreeNode", desc := "(Ljava/util/HashMap$Node;Ljava/util/HashMap$Node;)Ljava/util/HashMap$TreeNode;" } : Jvm.MethodName) ({ cls := "java/util/LinkedHashMap", name := "replacementTreeNode", desc := "(Ljava/util/HashMap$Node;Ljava/util/HashMap$Node;)Ljava/util/HashMap$TreeNode;" } : Jvm.MethodName)) ∈ lw_all := lw_g (lw_at lw_m8 0 rfl) rfl
theorem q1829 : (Jvm.Cond.instanceMethod ({ cls := "java/util/LinkedHashMap", name := "replacementTreeNode", desc := "(Ljava/util/HashMap$Node;Ljava/util/HashMap$Node;)Ljava/util/HashMap$TreeNode;" } : Jvm.MethodName)) ∈ lw_all := lw_g (lw_at lw_m8 1 rfl) rfl
theorem q1830 : (Jvm.Cond.code ({ cls := "java/util/LinkedHashMap", name := "replacementTreeNode", desc := "(Ljava/util/HashMap$Node;Ljava/util/HashMap$Node;)Ljava/util/HashMap$TreeNode;" } : Jvm.MethodName) prog_67_method_7_code (5 : Nat) (Option.some (Jvm.ClassFile.FieldType.object "java/util/HashMap$TreeNode"))) ∈ lw_all := lw_g (lw_at lw_m8 2 rfl) rfl
theorem q1836 : (Jvm.Cond.selects "java/util/LinkedHashMap" ({ cls := "java/util/HashMap", name := "afterNodeAccess", desc := "(Ljava/util/HashMap$Node;)V" } : Jvm.MethodName) ({ cls := "java/util/LinkedHashMap", name := "afterNodeAccess", desc := "(Ljava/util/HashMap$Node;)V" } : Jvm.MethodName)) ∈ lw_all := lw_g (lw_at lw_m8 8 rfl) rfl
theorem q1837 : (Jvm.Cond.instanceMethod ({ cls := "java/util/LinkedHashMap", name := "afterNodeAccess", desc := "(Ljava/util/HashMap$Node;)V" } : Jvm.MethodName)) ∈ lw_all := lw_g (lw_at lw_m8 9 rfl) rfl
theorem q1838 : (Jvm.Cond.code ({ cls := "java/util/LinkedHashMap", name := "afterNodeAccess", desc := "(Ljava/util/HashMap$Node;)V" } : Jvm.MethodName) prog_67_method_10_code (7 : Nat) (Option.none : Option Jvm.ClassFile.FieldType)) ∈ lw_all := lw_g (lw_at lw_m8 10 rfl) rfl
theorem q1843 : (Jvm.Cond.selects "java/util/LinkedHashMap" ({ cls := "java/util/HashMap", name := "afterNodeInsertion", desc := "(Z)V" } : Jvm.MethodName) ({ cls := "java/util/LinkedHashMap", name := "afterNodeInsertion", desc := "(Z)V" } : Jvm.MethodName)) ∈ lw_all := lw_g (lw_at lw_m8 15 rfl) rfl
theorem q1844 : (Jvm.Cond.instanceMethod ({ cls := "java/util/LinkedHashMap", name := "afterNodeInsertion", desc := "(Z)V" } : Jvm.MethodName)) ∈ lw_all := lw_g (lw_at lw_m8 16 rfl) rfl
theorem q1845 : (Jvm.Cond.code ({ cls := "java/util/LinkedHashMap", name := "afterNodeInsertion", desc := "(Z)V" } : Jvm.MethodName) prog_67_method_9_code (4 : Nat) (Option.none : Option Jvm.ClassFile.FieldType)) ∈ lw_all := lw_g (lw_at lw_m8 17 rfl) rfl
theorem q1846 : (Jvm.Cond.methodLink "java/util/LinkedHashMap" (53 : Nat) ({ cls := "java/util/LinkedHashMap", name := "removeEldestEntry", desc := "(Ljava/util/Map$Entry;)Z" } : Jvm.MethodName)) ∈ lw_all := lw_g (lw_at lw_m8 18 rfl) rfl
theorem q1847 : (Jvm.Cond.instanceMethod ({ cls := "java/util/LinkedHashMap", name := "removeEldestEntry", desc := "(Ljava/util/Map$Entry;)Z" } : Jvm.MethodName)) ∈ lw_all := lw_g (lw_at lw_m8 19 rfl) rfl
theorem q1848 : (Jvm.Cond.selects "java/util/LinkedHashMap" ({ cls := "java/util/LinkedHashMap", name := "removeEldestEntry", desc := "(Ljava/util/Map$Entry;)Z" } : Jvm.MethodName) ({ cls := "java/util/LinkedHashMap", name := "removeEldestEntry", desc := "(Ljava/util/Map$Entry;)Z" } : Jvm.MethodName)) ∈ lw_all := lw_g (lw_at lw_m8 20 rfl) rfl
theorem q1849 : (Jvm.Cond.code ({ cls := "java/util/LinkedHashMap", name := "removeEldestEntry", desc := "(Ljava/util/Map$Entry;)Z" } : Jvm.MethodName) prog_67_method_23_code (2 : Nat) (Option.some Jvm.ClassFile.FieldType.boolean)) ∈ lw_all := lw_g (lw_at lw_m8 21 rfl) rfl
theorem q2224 : (Jvm.Cond.selects "java/util/LinkedHashMap" ({ cls := "java/util/HashMap", name := "isEmpty", desc := "()Z" } : Jvm.MethodName) ({ cls := "java/util/HashMap", name := "isEmpty", desc := "()Z" } : Jvm.MethodName)) ∈ lw_all := lw_g (lw_at lw_m9 156 rfl) rfl
theorem q2259 : (Jvm.Cond.instanceMethod ({ cls := "java/util/LinkedHashMap", name := "get", desc := "(Ljava/lang/Object;)Ljava/lang/Object;" } : Jvm.MethodName)) ∈ lw_all := lw_g (lw_at lw_m9 191 rfl) rfl
theorem q2260 : (Jvm.Cond.selects "java/util/LinkedHashMap" ({ cls := "java/util/LinkedHashMap", name := "get", desc := "(Ljava/lang/Object;)Ljava/lang/Object;" } : Jvm.MethodName) ({ cls := "java/util/LinkedHashMap", name := "get", desc := "(Ljava/lang/Object;)Ljava/lang/Object;" } : Jvm.MethodName)) ∈ lw_all := lw_g (lw_at lw_m9 192 rfl) rfl
theorem q2261 : (Jvm.Cond.code ({ cls := "java/util/LinkedHashMap", name := "get", desc := "(Ljava/lang/Object;)Ljava/lang/Object;" } : Jvm.MethodName) prog_67_method_20_code (3 : Nat) (Option.some (Jvm.ClassFile.FieldType.object "java/lang/Object"))) ∈ lw_all := lw_g (lw_at lw_m9 193 rfl) rfl
theorem q2262 : (Jvm.Cond.methodLink "java/util/LinkedHashMap" (99 : Nat) ({ cls := "java/util/LinkedHashMap", name := "getNode", desc := "(Ljava/lang/Object;)Ljava/util/HashMap$Node;" } : Jvm.MethodName)) ∈ lw_all := lw_g (lw_at lw_m9 194 rfl) rfl
theorem q2263 : (Jvm.Cond.sameMethod "java/util/LinkedHashMap" "java/util/HashMap" "getNode" "(Ljava/lang/Object;)Ljava/util/HashMap$Node;") ∈ lw_all := lw_g (lw_at lw_m9 195 rfl) rfl
theorem q2265 : (Jvm.Cond.selects "java/util/LinkedHashMap" ({ cls := "java/util/LinkedHashMap", name := "getNode", desc := "(Ljava/lang/Object;)Ljava/util/HashMap$Node;" } : Jvm.MethodName) ({ cls := "java/util/HashMap", name := "getNode", desc := "(Ljava/lang/Object;)Ljava/util/HashMap$Node;" } : Jvm.MethodName)) ∈ lw_all := lw_g (lw_at lw_m9 197 rfl) rfl
theorem q2272 : (Jvm.Cond.methodLink "java/util/LinkedHashMap" (103 : Nat) ({ cls := "java/util/LinkedHashMap", name := "afterNodeAccess", desc := "(Ljava/util/HashMap$Node;)V" } : Jvm.MethodName)) ∈ lw_all := lw_g (lw_at lw_m9 204 rfl) rfl
theorem q2335 : (Jvm.Cond.selects "java/util/LinkedHashMap" ({ cls := "java/util/HashMap", name := "containsKey", desc := "(Ljava/lang/Object;)Z" } : Jvm.MethodName) ({ cls := "java/util/HashMap", name := "containsKey", desc := "(Ljava/lang/Object;)Z" } : Jvm.MethodName)) ∈ lw_all := lw_g (lw_at lw_m10 27 rfl) rfl
theorem q2710 : (Jvm.Cond.selects "java/util/LinkedHashMap" ({ cls := "java/util/HashMap", name := "keySet", desc := "()Ljava/util/Set;" } : Jvm.MethodName) ({ cls := "java/util/LinkedHashMap", name := "keySet", desc := "()Ljava/util/Set;" } : Jvm.MethodName)) ∈ lw_all := lw_g (lw_at lw_m11 162 rfl) rfl
theorem q2711 : (Jvm.Cond.instanceMethod ({ cls := "java/util/LinkedHashMap", name := "keySet", desc := "()Ljava/util/Set;" } : Jvm.MethodName)) ∈ lw_all := lw_g (lw_at lw_m11 163 rfl) rfl
theorem q2712 : (Jvm.Cond.code ({ cls := "java/util/LinkedHashMap", name := "keySet", desc := "()Ljava/util/Set;" } : Jvm.MethodName) prog_67_method_24_code (1 : Nat) (Option.some (Jvm.ClassFile.FieldType.object "java/util/Set"))) ∈ lw_all := lw_g (lw_at lw_m11 164 rfl) rfl
theorem q2713 : (Jvm.Cond.methodLink "java/util/LinkedHashMap" (113 : Nat) ({ cls := "java/util/LinkedHashMap", name := "sequencedKeySet", desc := "()Ljava/util/SequencedSet;" } : Jvm.MethodName)) ∈ lw_all := lw_g (lw_at lw_m11 165 rfl) rfl
theorem q2714 : (Jvm.Cond.instanceMethod ({ cls := "java/util/LinkedHashMap", name := "sequencedKeySet", desc := "()Ljava/util/SequencedSet;" } : Jvm.MethodName)) ∈ lw_all := lw_g (lw_at lw_m11 166 rfl) rfl
theorem q2715 : (Jvm.Cond.selects "java/util/LinkedHashMap" ({ cls := "java/util/LinkedHashMap", name := "sequencedKeySet", desc := "()Ljava/util/SequencedSet;" } : Jvm.MethodName) ({ cls := "java/util/LinkedHashMap", name := "sequencedKeySet", desc := "()Ljava/util/SequencedSet;" } : Jvm.MethodName)) ∈ lw_all := lw_g (lw_at lw_m11 167 rfl) rfl
theorem q2716 : (Jvm.Cond.code ({ cls := "java/util/LinkedHashMap", name := "sequencedKeySet", desc := "()Ljava/util/SequencedSet;" } : Jvm.MethodName) prog_67_method_25_code (3 : Nat) (Option.some (Jvm.ClassFile.FieldType.object "java/util/SequencedSet"))) ∈ lw_all := lw_g (lw_at lw_m11 168 rfl) rfl
theorem q2717 : (Jvm.Cond.classLink "java/util/LinkedHashMap" (121 : Nat) "java/util/LinkedHashMap$LinkedKeySet") ∈ lw_all := lw_g (lw_at lw_m11 169 rfl) rfl
theorem q2719 : (Jvm.Cond.methodLink "java/util/LinkedHashMap" (123 : Nat) ({ cls := "java/util/LinkedHashMap$LinkedKeySet", name := "<init>", desc := "(Ljava/util/LinkedHashMap;Z)V" } : Jvm.MethodName)) ∈ lw_all := lw_g (lw_at lw_m11 171 rfl) rfl
theorem q2730 : (Jvm.Cond.classLink "java/util/LinkedHashMap" (126 : Nat) "java/util/SequencedSet") ∈ lw_all := lw_g (lw_at lw_m11 182 rfl) rfl
theorem q3393 : (Jvm.Cond.selects "java/util/LinkedHashMap" ({ cls := "java/util/HashMap", name := "remove", desc := "(Ljava/lang/Object;)Ljava/lang/Object;" } : Jvm.MethodName) ({ cls := "java/util/HashMap", name := "remove", desc := "(Ljava/lang/Object;)Ljava/lang/Object;" } : Jvm.MethodName)) ∈ lw_all := lw_g (lw_at lw_m14 125 rfl) rfl
theorem q3398 : (Jvm.Cond.selects "java/util/LinkedHashMap" ({ cls := "java/util/HashMap", name := "removeNode", desc := "(ILjava/lang/Object;Ljava/lang/Object;ZZ)Ljava/util/HashMap$Node;" } : Jvm.MethodName) ({ cls := "java/util/HashMap", name := "removeNode", desc := "(ILjava/lang/Object;Ljava/lang/Object;ZZ)Ljava/util/HashMap$Node;" } : Jvm.MethodName)) ∈ lw_all := lw_g (lw_at lw_m14 130 rfl) rfl
theorem q3410 : (Jvm.Cond.selects "java/util/LinkedHashMap" ({ cls := "java/util/HashMap", name := "afterNodeRemoval", desc := "(Ljava/util/HashMap$Node;)V" } : Jvm.MethodName) ({ cls := "java/util/LinkedHashMap", name := "afterNodeRemoval", desc := "(Ljava/util/HashMap$Node;)V" } : Jvm.MethodName)) ∈ lw_all := lw_g (lw_at lw_m14 142 rfl) rfl
theorem q3411 : (Jvm.Cond.instanceMethod ({ cls := "java/util/LinkedHashMap", name := "afterNodeRemoval", desc := "(Ljava/util/HashMap$Node;)V" } : Jvm.MethodName)) ∈ lw_all := lw_g (lw_at lw_m14 143 rfl) rfl
theorem q3412 : (Jvm.Cond.code ({ cls := "java/util/LinkedHashMap", name := "afterNodeRemoval", desc := "(Ljava/util/HashMap$Node;)V" } : Jvm.MethodName) prog_67_method_8_code (5 : Nat) (Option.none : Option Jvm.ClassFile.FieldType)) ∈ lw_all := lw_g (lw_at lw_m14 144 rfl) rfl
theorem q3423 : (Jvm.Cond.selects "java/util/LinkedHashMap" ({ cls := "java/util/HashMap", name := "size", desc := "()I" } : Jvm.MethodName) ({ cls := "java/util/HashMap", name := "size", desc := "()I" } : Jvm.MethodName)) ∈ lw_all := lw_g (lw_at lw_m14 155 rfl) rfl
theorem q4061 : (Jvm.Cond.selects "java/util/LinkedHashMap" ({ cls := "java/util/HashMap", name := "put", desc := "(Ljava/lang/Object;Ljava/lang/Object;)Ljava/lang/Object;" } : Jvm.MethodName) ({ cls := "java/util/HashMap", name := "put", desc := "(Ljava/lang/Object;Ljava/lang/Object;)Ljava/lang/Object;" } : Jvm.MethodName)) ∈ lw_all := lw_g (lw_at lw_m17 73 rfl) rfl
theorem q4067 : (Jvm.Cond.selects "java/util/LinkedHashMap" ({ cls := "java/util/LinkedHashMap", name := "afterNodeAccess", desc := "(Ljava/util/HashMap$Node;)V" } : Jvm.MethodName) ({ cls := "java/util/LinkedHashMap", name := "afterNodeAccess", desc := "(Ljava/util/HashMap$Node;)V" } : Jvm.MethodName)) ∈ lw_all := lw_g (lw_at lw_m17 79 rfl) rfl
theorem q4072 : (Jvm.Cond.selects "java/util/LinkedHashMap" ({ cls := "java/util/HashMap", name := "getNode", desc := "(Ljava/lang/Object;)Ljava/util/HashMap$Node;" } : Jvm.MethodName) ({ cls := "java/util/HashMap", name := "getNode", desc := "(Ljava/lang/Object;)Ljava/util/HashMap$Node;" } : Jvm.MethodName)) ∈ lw_all := lw_g (lw_at lw_m17 84 rfl) rfl
theorem q4096 : (Jvm.Cond.castable "java/util/LinkedHashMap" "java/lang/Object") ∈ lw_tbl := lw_at lw_m17 108 rfl
theorem in_J21 : ∀ w ∈ wsJ210, w ∈ lw_all := lw_in wsJ210 [632, 634, 636, 638, 640, 642, 644, 646, 624, 626, 628, 630] (by decide +kernel) (by decide +kernel)

/-! java/util/AbstractSet -/
set_option maxRecDepth 100000
def RJ22 : String := "java/util/AbstractSet"
abbrev cJ22_init : ByteArray := prog_52_method_1_code
def yJ22_init : MethodName := ⟨RJ22, "<init>", "()V"⟩
theorem dJ22_init_0 : decode cJ22_init 0 = .ok (.aload_n 0, 1) := by decide +kernel
theorem dJ22_init_1 : decode cJ22_init 1 = .ok (.invokespecial 1, 3) := by decide +kernel
theorem dJ22_init_4 : decode cJ22_init 4 = .ok (.return_, 1) := by decide +kernel
theorem q174 : (Jvm.Cond.initialized "java/util/AbstractSet") ∈ lw_all := lw_g (lw_at lw_m1 26 rfl) rfl
theorem q659 : (Jvm.Cond.instanceMethod ({ cls := "java/util/AbstractSet", name := "<init>", desc := "()V" } : Jvm.MethodName)) ∈ lw_all := lw_g (lw_at lw_m3 31 rfl) rfl
theorem q660 : (Jvm.Cond.code ({ cls := "java/util/AbstractSet", name := "<init>", desc := "()V" } : Jvm.MethodName) prog_52_method_1_code (1 : Nat) (Option.none : Option Jvm.ClassFile.FieldType)) ∈ lw_all := lw_g (lw_at lw_m3 32 rfl) rfl
theorem q661 : (Jvm.Cond.methodLink "java/util/AbstractSet" (1 : Nat) ({ cls := "java/util/AbstractCollection", name := "<init>", desc := "()V" } : Jvm.MethodName)) ∈ lw_all := lw_g (lw_at lw_m3 33 rfl) rfl

/-! java/util/HashSet -/
set_option maxRecDepth 100000
def RJ23 : String := "java/util/HashSet"
abbrev cJ23_init : ByteArray := prog_65_method_5_code
def yJ23_init : MethodName := ⟨RJ23, "<init>", "(IFZ)V"⟩
def dkwJ23_init_0 : List UInt8 := [42, 183, 0, 1, 42, 187, 0, 42, 89, 27, 36, 183, 0, 44, 181, 0, 10, 177]
abbrev dktJ23_init_0 : List UInt8 := dkwJ23_init_0 ++ []
theorem dksJ23_init_0 : cJ23_init.data.toList.drop 0 = dktJ23_init_0 := by decide +kernel
theorem dJ23_init_0 : decode cJ23_init 0 = .ok (.aload_n 0, 1) := dk_42 (dk_at dksJ23_init_0 0 rfl rfl)
theorem dJ23_init_1 : decode cJ23_init 1 = .ok (.invokespecial 1, 3) := dk_183 0 1 (dk_at dksJ23_init_0 1 rfl rfl)
theorem dJ23_init_4 : decode cJ23_init 4 = .ok (.aload_n 0, 1) := dk_42 (dk_at dksJ23_init_0 4 rfl rfl)
theorem dJ23_init_5 : decode cJ23_init 5 = .ok (.new 42, 3) := dk_187 0 42 (dk_at dksJ23_init_0 5 rfl rfl)
theorem dJ23_init_8 : decode cJ23_init 8 = .ok (.dup, 1) := dk_89 (dk_at dksJ23_init_0 8 rfl rfl)
theorem dJ23_init_9 : decode cJ23_init 9 = .ok (.iload_n 1, 1) := dk_27 (dk_at dksJ23_init_0 9 rfl rfl)
theorem dJ23_init_10 : decode cJ23_init 10 = .ok (.fload_n 2, 1) := dk_36 (dk_at dksJ23_init_0 10 rfl rfl)
theorem dJ23_init_11 : decode cJ23_init 11 = .ok (.invokespecial 44, 3) := dk_183 0 44 (dk_at dksJ23_init_0 11 rfl rfl)
theorem dJ23_init_14 : decode cJ23_init 14 = .ok (.putfield 10, 3) := dk_181 0 10 (dk_at dksJ23_init_0 14 rfl rfl)
theorem dJ23_init_17 : decode cJ23_init 17 = .ok (.return_, 1) := dk_177 (dk_at dksJ23_init_0 17 rfl rfl)
abbrev cJ23_add : ByteArray := prog_65_method_10_code
def yJ23_add : MethodName := ⟨RJ23, "add", "(Ljava/lang/Object;)Z"⟩
def dkwJ23_add_0 : List UInt8 := [42, 180, 0, 10, 43, 178, 0, 64, 182, 0, 68, 199, 0, 7, 4, 167, 0, 4, 3, 172]
abbrev dktJ23_add_0 : List UInt8 := dkwJ23_add_0 ++ []
theorem dksJ23_add_0 : cJ23_add.data.toList.drop 0 = dktJ23_add_0 := by decide +kernel
theorem dJ23_add_0 : decode cJ23_add 0 = .ok (.aload_n 0, 1) := dk_42 (dk_at dksJ23_add_0 0 rfl rfl)
theorem dJ23_add_1 : decode cJ23_add 1 = .ok (.getfield 10, 3) := dk_180 0 10 (dk_at dksJ23_add_0 1 rfl rfl)
theorem dJ23_add_4 : decode cJ23_add 4 = .ok (.aload_n 1, 1) := dk_43 (dk_at dksJ23_add_0 4 rfl rfl)
theorem dJ23_add_5 : decode cJ23_add 5 = .ok (.getstatic 64, 3) := dk_178 0 64 (dk_at dksJ23_add_0 5 rfl rfl)
theorem dJ23_add_8 : decode cJ23_add 8 = .ok (.invokevirtual 68, 3) := dk_182 0 68 (dk_at dksJ23_add_0 8 rfl rfl)
theorem dJ23_add_11 : decode cJ23_add 11 = .ok (.ifnonnull 7, 3) := dk_199 0 7 (dk_at dksJ23_add_0 11 rfl rfl)
theorem dJ23_add_14 : decode cJ23_add 14 = .ok (.iconst 1, 1) := dk_4 (dk_at dksJ23_add_0 14 rfl rfl)
theorem dJ23_add_15 : decode cJ23_add 15 = .ok (.goto 4, 3) := dk_167 0 4 (dk_at dksJ23_add_0 15 rfl rfl)
theorem dJ23_add_18 : decode cJ23_add 18 = .ok (.iconst 0, 1) := dk_3 (dk_at dksJ23_add_0 18 rfl rfl)
theorem dJ23_add_19 : decode cJ23_add 19 = .ok (.ireturn, 1) := dk_172 (dk_at dksJ23_add_0 19 rfl rfl)
abbrev cJ23_isEmpty : ByteArray := prog_65_method_8_code
def yJ23_isEmpty : MethodName := ⟨RJ23, "isEmpty", "()Z"⟩
def dkwJ23_isEmpty_0 : List UInt8 := [42, 180, 0, 10, 182, 0, 56, 172]
abbrev dktJ23_isEmpty_0 : List UInt8 := dkwJ23_isEmpty_0 ++ []
theorem dksJ23_isEmpty_0 : cJ23_isEmpty.data.toList.drop 0 = dktJ23_isEmpty_0 := by decide +kernel
theorem dJ23_isEmpty_0 : decode cJ23_isEmpty 0 = .ok (.aload_n 0, 1) := dk_42 (dk_at dksJ23_isEmpty_0 0 rfl rfl)
theorem dJ23_isEmpty_1 : decode cJ23_isEmpty 1 = .ok (.getfield 10, 3) := dk_180 0 10 (dk_at dksJ23_isEmpty_0 1 rfl rfl)
theorem dJ23_isEmpty_4 : decode cJ23_isEmpty 4 = .ok (.invokevirtual 56, 3) := dk_182 0 56 (dk_at dksJ23_isEmpty_0 4 rfl rfl)
theorem dJ23_isEmpty_7 : decode cJ23_isEmpty 7 = .ok (.ireturn, 1) := dk_172 (dk_at dksJ23_isEmpty_0 7 rfl rfl)
abbrev cJ23_contains : ByteArray := prog_65_method_9_code
def yJ23_contains : MethodName := ⟨RJ23, "contains", "(Ljava/lang/Object;)Z"⟩
def dkwJ23_contains_0 : List UInt8 := [42, 180, 0, 10, 43, 182, 0, 60, 172]
abbrev dktJ23_contains_0 : List UInt8 := dkwJ23_contains_0 ++ []
theorem dksJ23_contains_0 : cJ23_contains.data.toList.drop 0 = dktJ23_contains_0 := by decide +kernel
theorem dJ23_contains_0 : decode cJ23_contains 0 = .ok (.aload_n 0, 1) := dk_42 (dk_at dksJ23_contains_0 0 rfl rfl)
theorem dJ23_contains_1 : decode cJ23_contains 1 = .ok (.getfield 10, 3) := dk_180 0 10 (dk_at dksJ23_contains_0 1 rfl rfl)
theorem dJ23_contains_4 : decode cJ23_contains 4 = .ok (.aload_n 1, 1) := dk_43 (dk_at dksJ23_contains_0 4 rfl rfl)
theorem dJ23_contains_5 : decode cJ23_contains 5 = .ok (.invokevirtual 60, 3) := dk_182 0 60 (dk_at dksJ23_contains_0 5 rfl rfl)
theorem dJ23_contains_8 : decode cJ23_contains 8 = .ok (.ireturn, 1) := dk_172 (dk_at dksJ23_contains_0 8 rfl rfl)
abbrev cJ23_iterator : ByteArray := prog_65_method_6_code
def yJ23_iterator : MethodName := ⟨RJ23, "iterator", "()Ljava/util/Iterator;"⟩
def dkwJ23_iterator_0 : List UInt8 := [42, 180, 0, 10, 182, 0, 45, 185, 0, 49, 1, 0, 176]
abbrev dktJ23_iterator_0 : List UInt8 := dkwJ23_iterator_0 ++ []
theorem dksJ23_iterator_0 : cJ23_iterator.data.toList.drop 0 = dktJ23_iterator_0 := by decide +kernel
theorem dJ23_iterator_0 : decode cJ23_iterator 0 = .ok (.aload_n 0, 1) := dk_42 (dk_at dksJ23_iterator_0 0 rfl rfl)
theorem dJ23_iterator_1 : decode cJ23_iterator 1 = .ok (.getfield 10, 3) := dk_180 0 10 (dk_at dksJ23_iterator_0 1 rfl rfl)
theorem dJ23_iterator_4 : decode cJ23_iterator 4 = .ok (.invokevirtual 45, 3) := dk_182 0 45 (dk_at dksJ23_iterator_0 4 rfl rfl)
theorem dJ23_iterator_7 : decode cJ23_iterator 7 = .ok (.invokeinterface 49 1, 5) := by decide +kernel
theorem dJ23_iterator_12 : decode cJ23_iterator 12 = .ok (.areturn, 1) := dk_176 (dk_at dksJ23_iterator_0 12 rfl rfl)
abbrev cJ23_remove : ByteArray := prog_65_method_11_code
def yJ23_remove : MethodName := ⟨RJ23, "remove", "(Ljava/lang/Object;)Z"⟩
def dkwJ23_remove_0 : List UInt8 := [42, 180, 0, 10, 43, 182, 0, 72, 178, 0, 64, 166, 0, 7, 4, 167, 0, 4, 3, 172]
abbrev dktJ23_remove_0 : List UInt8 := dkwJ23_remove_0 ++ []
theorem dksJ23_remove_0 : cJ23_remove.data.toList.drop 0 = dktJ23_remove_0 := by decide +kernel
theorem dJ23_remove_0 : decode cJ23_remove 0 = .ok (.aload_n 0, 1) := dk_42 (dk_at dksJ23_remove_0 0 rfl rfl)
theorem dJ23_remove_1 : decode cJ23_remove 1 = .ok (.getfield 10, 3) := dk_180 0 10 (dk_at dksJ23_remove_0 1 rfl rfl)
theorem dJ23_remove_4 : decode cJ23_remove 4 = .ok (.aload_n 1, 1) := dk_43 (dk_at dksJ23_remove_0 4 rfl rfl)
theorem dJ23_remove_5 : decode cJ23_remove 5 = .ok (.invokevirtual 72, 3) := dk_182 0 72 (dk_at dksJ23_remove_0 5 rfl rfl)
theorem dJ23_remove_8 : decode cJ23_remove 8 = .ok (.getstatic 64, 3) := dk_178 0 64 (dk_at dksJ23_remove_0 8 rfl rfl)
theorem dJ23_remove_11 : decode cJ23_remove 11 = .ok (.if_acmp .ne 7, 3) := dk_166 0 7 (dk_at dksJ23_remove_0 11 rfl rfl)
theorem dJ23_remove_14 : decode cJ23_remove 14 = .ok (.iconst 1, 1) := dk_4 (dk_at dksJ23_remove_0 14 rfl rfl)
theorem dJ23_remove_15 : decode cJ23_remove 15 = .ok (.goto 4, 3) := dk_167 0 4 (dk_at dksJ23_remove_0 15 rfl rfl)
theorem dJ23_remove_18 : decode cJ23_remove 18 = .ok (.iconst 0, 1) := dk_3 (dk_at dksJ23_remove_0 18 rfl rfl)
theorem dJ23_remove_19 : decode cJ23_remove 19 = .ok (.ireturn, 1) := dk_172 (dk_at dksJ23_remove_0 19 rfl rfl)
abbrev cJ23_size : ByteArray := prog_65_method_7_code
def yJ23_size : MethodName := ⟨RJ23, "size", "()I"⟩
def dkwJ23_size_0 : List UInt8 := [42, 180, 0, 10, 182, 0, 55, 172]
abbrev dktJ23_size_0 : List UInt8 := dkwJ23_size_0 ++ []
theorem dksJ23_size_0 : cJ23_size.data.toList.drop 0 = dktJ23_size_0 := by decide +kernel
theorem dJ23_size_0 : decode cJ23_size 0 = .ok (.aload_n 0, 1) := dk_42 (dk_at dksJ23_size_0 0 rfl rfl)
theorem dJ23_size_1 : decode cJ23_size 1 = .ok (.getfield 10, 3) := dk_180 0 10 (dk_at dksJ23_size_0 1 rfl rfl)
theorem dJ23_size_4 : decode cJ23_size 4 = .ok (.invokevirtual 55, 3) := dk_182 0 55 (dk_at dksJ23_size_0 4 rfl rfl)
theorem dJ23_size_7 : decode cJ23_size 7 = .ok (.ireturn, 1) := dk_172 (dk_at dksJ23_size_0 7 rfl rfl)
theorem q175 : (Jvm.Cond.initialized "java/util/HashSet") ∈ lw_all := lw_g (lw_at lw_m1 27 rfl) rfl
theorem q656 : (Jvm.Cond.instanceMethod ({ cls := "java/util/HashSet", name := "<init>", desc := "(IFZ)V" } : Jvm.MethodName)) ∈ lw_all := lw_g (lw_at lw_m3 28 rfl) rfl
theorem q657 : (Jvm.Cond.code ({ cls := "java/util/HashSet", name := "<init>", desc := "(IFZ)V" } : Jvm.MethodName) prog_65_method_5_code (4 : Nat) (Option.none : Option Jvm.ClassFile.FieldType)) ∈ lw_all := lw_g (lw_at lw_m3 29 rfl) rfl
theorem q658 : (Jvm.Cond.methodLink "java/util/HashSet" (1 : Nat) ({ cls := "java/util/AbstractSet", name := "<init>", desc := "()V" } : Jvm.MethodName)) ∈ lw_all := lw_g (lw_at lw_m3 30 rfl) rfl
theorem q662 : (Jvm.Cond.classLink "java/util/HashSet" (42 : Nat) "java/util/LinkedHashMap") ∈ lw_all := lw_g (lw_at lw_m3 34 rfl) rfl
theorem q663 : (Jvm.Cond.methodLink "java/util/HashSet" (44 : Nat) ({ cls := "java/util/LinkedHashMap", name := "<init>", desc := "(IF)V" } : Jvm.MethodName)) ∈ lw_all := lw_g (lw_at lw_m3 35 rfl) rfl
theorem q1142 : (Jvm.Cond.fieldLink "java/util/HashSet" (10 : Nat) "java/util/HashSet" "map" "Ljava/util/HashMap;") ∈ lw_all := lw_g (lw_at lw_m5 34 rfl) rfl
theorem q1144 : (Jvm.Cond.soleField "java/util/HashSet" "map") ∈ lw_all := lw_g (lw_at lw_m5 36 rfl) rfl
theorem q1913 : (Jvm.Cond.declares ({ cls := "java/util/HashSet", name := "add", desc := "(Ljava/lang/Object;)Z" } : Jvm.MethodName)) ∈ lw_tbl := lw_at lw_m8 85 rfl
theorem q1915 : (Jvm.Cond.instanceMethod ({ cls := "java/util/HashSet", name := "add", desc := "(Ljava/lang/Object;)Z" } : Jvm.MethodName)) ∈ lw_all := lw_g (lw_at lw_m8 87 rfl) rfl
theorem q1916 : (Jvm.Cond.code ({ cls := "java/util/HashSet", name := "add", desc := "(Ljava/lang/Object;)Z" } : Jvm.MethodName) prog_65_method_10_code (2 : Nat) (Option.some Jvm.ClassFile.FieldType.boolean)) ∈ lw_all := lw_g (lw_at lw_m8 88 rfl) rfl
theorem q1917 : (Jvm.Cond.fieldLink "java/util/HashSet" (64 : Nat) "java/util/HashSet" "PRESENT" "Ljava/lang/Object;") ∈ lw_all := lw_g (lw_at lw_m8 89 rfl) rfl
theorem q1918 : (Jvm.Cond.laysStatic "java/util/HashSet" "PRESENT" "Ljava/lang/Object;") ∈ lw_tbl := lw_at lw_m8 90 rfl
theorem q1919 : (Jvm.Cond.methodLink "java/util/HashSet" (68 : Nat) ({ cls := "java/util/HashMap", name := "put", desc := "(Ljava/lang/Object;Ljava/lang/Object;)Ljava/lang/Object;" } : Jvm.MethodName)) ∈ lw_all := lw_g (lw_at lw_m8 91 rfl) rfl
theorem q2217 : (Jvm.Cond.declares ({ cls := "java/util/HashSet", name := "isEmpty", desc := "()Z" } : Jvm.MethodName)) ∈ lw_tbl := lw_at lw_m9 149 rfl
theorem q2219 : (Jvm.Cond.instanceMethod ({ cls := "java/util/HashSet", name := "isEmpty", desc := "()Z" } : Jvm.MethodName)) ∈ lw_all := lw_g (lw_at lw_m9 151 rfl) rfl
theorem q2220 : (Jvm.Cond.code ({ cls := "java/util/HashSet", name := "isEmpty", desc := "()Z" } : Jvm.MethodName) prog_65_method_8_code (1 : Nat) (Option.some Jvm.ClassFile.FieldType.boolean)) ∈ lw_all := lw_g (lw_at lw_m9 152 rfl) rfl
theorem q2221 : (Jvm.Cond.methodLink "java/util/HashSet" (56 : Nat) ({ cls := "java/util/HashMap", name := "isEmpty", desc := "()Z" } : Jvm.MethodName)) ∈ lw_all := lw_g (lw_at lw_m9 153 rfl) rfl
theorem q2328 : (Jvm.Cond.declares ({ cls := "java/util/HashSet", name := "contains", desc := "(Ljava/lang/Object;)Z" } : Jvm.MethodName)) ∈ lw_tbl := lw_at lw_m10 20 rfl
theorem q2330 : (Jvm.Cond.instanceMethod ({ cls := "java/util/HashSet", name := "contains", desc := "(Ljava/lang/Object;)Z" } : Jvm.MethodName)) ∈ lw_all := lw_g (lw_at lw_m10 22 rfl) rfl
theorem q2331 : (Jvm.Cond.code ({ cls := "java/util/HashSet", name := "contains", desc := "(Ljava/lang/Object;)Z" } : Jvm.MethodName) prog_65_method_9_code (2 : Nat) (Option.some Jvm.ClassFile.FieldType.boolean)) ∈ lw_all := lw_g (lw_at lw_m10 23 rfl) rfl
theorem q2332 : (Jvm.Cond.methodLink "java/util/HashSet" (60 : Nat) ({ cls := "java/util/HashMap", name := "containsKey", desc := "(Ljava/lang/Object;)Z" } : Jvm.MethodName)) ∈ lw_all := lw_g (lw_at lw_m10 24 rfl) rfl
theorem q2703 : (Jvm.Cond.declares ({ cls := "java/util/HashSet", name := "iterator", desc := "()Ljava/util/Iterator;" } : Jvm.MethodName)) ∈ lw_tbl := lw_at lw_m11 155 rfl
theorem q2705 : (Jvm.Cond.instanceMethod ({ cls := "java/util/HashSet", name := "iterator", desc := "()Ljava/util/Iterator;" } : Jvm.MethodName)) ∈ lw_all := lw_g (lw_at lw_m11 157 rfl) rfl
theorem q2706 : (Jvm.Cond.code ({ cls := "java/util/HashSet", name := "iterator", desc := "()Ljava/util/Iterator;" } : Jvm.MethodName) prog_65_method_6_code (1 : Nat) (Option.some (Jvm.ClassFile.FieldType.object "java/util/Iterator"))) ∈ lw_all := lw_g (lw_at lw_m11 158 rfl) rfl
theorem q2707 : (Jvm.Cond.methodLink "java/util/HashSet" (45 : Nat) ({ cls := "java/util/HashMap", name := "keySet", desc := "()Ljava/util/Set;" } : Jvm.MethodName)) ∈ lw_all := lw_g (lw_at lw_m11 159 rfl) rfl
theorem q2732 : (Jvm.Cond.interfaceEntry "java/util/HashSet" (49 : Nat)) ∈ lw_tbl := lw_at lw_m11 184 rfl
theorem q2733 : (Jvm.Cond.methodLink "java/util/HashSet" (49 : Nat) ({ cls := "java/util/Set", name := "iterator", desc := "()Ljava/util/Iterator;" } : Jvm.MethodName)) ∈ lw_all := lw_g (lw_at lw_m11 185 rfl) rfl
theorem q2801 : (Jvm.Cond.publicMethod ({ cls := "java/util/HashSet", name := "iterator", desc := "()Ljava/util/Iterator;" } : Jvm.MethodName)) ∈ lw_tbl := lw_at lw_m12 13 rfl
theorem q3386 : (Jvm.Cond.declares ({ cls := "java/util/HashSet", name := "remove", desc := "(Ljava/lang/Object;)Z" } : Jvm.MethodName)) ∈ lw_tbl := lw_at lw_m14 118 rfl
theorem q3388 : (Jvm.Cond.instanceMethod ({ cls := "java/util/HashSet", name := "remove", desc := "(Ljava/lang/Object;)Z" } : Jvm.MethodName)) ∈ lw_all := lw_g (lw_at lw_m14 120 rfl) rfl
theorem q3389 : (Jvm.Cond.code ({ cls := "java/util/HashSet", name := "remove", desc := "(Ljava/lang/Object;)Z" } : Jvm.MethodName) prog_65_method_11_code (2 : Nat) (Option.some Jvm.ClassFile.FieldType.boolean)) ∈ lw_all := lw_g (lw_at lw_m14 121 rfl) rfl
theorem q3390 : (Jvm.Cond.methodLink "java/util/HashSet" (72 : Nat) ({ cls := "java/util/HashMap", name := "remove", desc := "(Ljava/lang/Object;)Ljava/lang/Object;" } : Jvm.MethodName)) ∈ lw_all := lw_g (lw_at lw_m14 122 rfl) rfl
theorem q3416 : (Jvm.Cond.declares ({ cls := "java/util/HashSet", name := "size", desc := "()I" } : Jvm.MethodName)) ∈ lw_tbl := lw_at lw_m14 148 rfl
theorem q3418 : (Jvm.Cond.instanceMethod ({ cls := "java/util/HashSet", name := "size", desc := "()I" } : Jvm.MethodName)) ∈ lw_all := lw_g (lw_at lw_m14 150 rfl) rfl
theorem q3419 : (Jvm.Cond.code ({ cls := "java/util/HashSet", name := "size", desc := "()I" } : Jvm.MethodName) prog_65_method_7_code (1 : Nat) (Option.some Jvm.ClassFile.FieldType.int)) ∈ lw_all := lw_g (lw_at lw_m14 151 rfl) rfl
theorem q3420 : (Jvm.Cond.methodLink "java/util/HashSet" (55 : Nat) ({ cls := "java/util/HashMap", name := "size", desc := "()I" } : Jvm.MethodName)) ∈ lw_all := lw_g (lw_at lw_m14 152 rfl) rfl

/-! java/util/LinkedHashSet -/
set_option maxRecDepth 100000
def RJ24 : String := "java/util/LinkedHashSet"
def TJ24 : u_T := fun k => match k with
  | _ => ("java/util/HashSet", "map", "Ljava/util/HashMap;", false)
def tyJ24 : Nat → FieldType := fun k => match k with
  | _ => .object "java/util/HashMap"
abbrev wsJ240 : List Cond := u_ws RJ24 TJ24 1
theorem nmJ24 : ∀ a, a < 1 → ∀ b, b < 1 → a ≠ b → (TJ24 a).2.1 ≠ (TJ24 b).2.1 := by decide +kernel
theorem tyJ24_ok : ∀ k, k < 1 → parseFieldDescriptor (TJ24 k).2.2.1 = some (tyJ24 k) := by decide +kernel
abbrev cJ24_init : ByteArray := prog_72_method_3_code
def yJ24_init : MethodName := ⟨RJ24, "<init>", "()V"⟩
def dkwJ24_init_0 : List UInt8 := [42, 16, 16, 18, 7, 4, 183, 0, 1, 177]
abbrev dktJ24_init_0 : List UInt8 := dkwJ24_init_0 ++ []
theorem dksJ24_init_0 : cJ24_init.data.toList.drop 0 = dktJ24_init_0 := by decide +kernel
theorem dJ24_init_0 : decode cJ24_init 0 = .ok (.aload_n 0, 1) := dk_42 (dk_at dksJ24_init_0 0 rfl rfl)
theorem dJ24_init_1 : decode cJ24_init 1 = .ok (.bipush 16, 2) := dk_16 16 (dk_at dksJ24_init_0 1 rfl rfl)
theorem dJ24_init_3 : decode cJ24_init 3 = .ok (.ldc 7, 2) := dk_18 7 (dk_at dksJ24_init_0 3 rfl rfl)
theorem dJ24_init_5 : decode cJ24_init 5 = .ok (.iconst 1, 1) := dk_4 (dk_at dksJ24_init_0 5 rfl rfl)
theorem dJ24_init_6 : decode cJ24_init 6 = .ok (.invokespecial 1, 3) := dk_183 0 1 (dk_at dksJ24_init_0 6 rfl rfl)
theorem dJ24_init_9 : decode cJ24_init 9 = .ok (.return_, 1) := dk_177 (dk_at dksJ24_init_0 9 rfl rfl)
theorem q176 : (Jvm.Cond.initialized "java/util/LinkedHashSet") ∈ lw_all := lw_g (lw_at lw_m1 28 rfl) rfl
theorem q650 : (Jvm.Cond.instantiable "java/util/LinkedHashSet" (1 : Nat)) ∈ lw_all := lw_g (lw_at lw_m3 22 rfl) rfl
theorem q652 : (Jvm.Cond.instanceMethod ({ cls := "java/util/LinkedHashSet", name := "<init>", desc := "()V" } : Jvm.MethodName)) ∈ lw_all := lw_g (lw_at lw_m3 24 rfl) rfl
theorem q653 : (Jvm.Cond.code ({ cls := "java/util/LinkedHashSet", name := "<init>", desc := "()V" } : Jvm.MethodName) prog_72_method_3_code (1 : Nat) (Option.none : Option Jvm.ClassFile.FieldType)) ∈ lw_all := lw_g (lw_at lw_m3 25 rfl) rfl
theorem q654 : (Jvm.Cond.constantFloat "java/util/LinkedHashSet" (7 : Nat) (1061158912 : UInt32)) ∈ lw_all := lw_g (lw_at lw_m3 26 rfl) rfl
theorem q655 : (Jvm.Cond.methodLink "java/util/LinkedHashSet" (1 : Nat) ({ cls := "java/util/HashSet", name := "<init>", desc := "(IFZ)V" } : Jvm.MethodName)) ∈ lw_all := lw_g (lw_at lw_m3 27 rfl) rfl
theorem q1057 : (Jvm.Cond.selects "java/util/LinkedHashSet" ({ cls := "java/lang/Object", name := "getClass", desc := "()Ljava/lang/Class;" } : Jvm.MethodName) ({ cls := "java/lang/Object", name := "getClass", desc := "()Ljava/lang/Class;" } : Jvm.MethodName)) ∈ lw_all := lw_g (lw_at lw_m4 189 rfl) rfl
theorem q1143 : (Jvm.Cond.lays "java/util/LinkedHashSet" "java/util/HashSet" "map" "Ljava/util/HashMap;") ∈ lw_all := lw_g (lw_at lw_m5 35 rfl) rfl
theorem q1145 : (Jvm.Cond.superclass "java/util/LinkedHashSet" "java/util/HashSet") ∈ lw_all := lw_g (lw_at lw_m5 37 rfl) rfl
theorem q1912 : (Jvm.Cond.sameMethod "java/util/LinkedHashSet" "java/util/HashSet" "add" "(Ljava/lang/Object;)Z") ∈ lw_all := lw_g (lw_at lw_m8 84 rfl) rfl
theorem q1914 : (Jvm.Cond.selects "java/util/LinkedHashSet" ({ cls := "java/util/LinkedHashSet", name := "add", desc := "(Ljava/lang/Object;)Z" } : Jvm.MethodName) ({ cls := "java/util/HashSet", name := "add", desc := "(Ljava/lang/Object;)Z" } : Jvm.MethodName)) ∈ lw_all := lw_g (lw_at lw_m8 86 rfl) rfl
theorem q2216 : (Jvm.Cond.sameMethod "java/util/LinkedHashSet" "java/util/HashSet" "isEmpty" "()Z") ∈ lw_all := lw_g (lw_at lw_m9 148 rfl) rfl
theorem q2218 : (Jvm.Cond.selects "java/util/LinkedHashSet" ({ cls := "java/util/LinkedHashSet", name := "isEmpty", desc := "()Z" } : Jvm.MethodName) ({ cls := "java/util/HashSet", name := "isEmpty", desc := "()Z" } : Jvm.MethodName)) ∈ lw_all := lw_g (lw_at lw_m9 150 rfl) rfl
theorem q2327 : (Jvm.Cond.sameMethod "java/util/LinkedHashSet" "java/util/HashSet" "contains" "(Ljava/lang/Object;)Z") ∈ lw_all := lw_g (lw_at lw_m10 19 rfl) rfl
theorem q2329 : (Jvm.Cond.selects "java/util/LinkedHashSet" ({ cls := "java/util/LinkedHashSet", name := "contains", desc := "(Ljava/lang/Object;)Z" } : Jvm.MethodName) ({ cls := "java/util/HashSet", name := "contains", desc := "(Ljava/lang/Object;)Z" } : Jvm.MethodName)) ∈ lw_all := lw_g (lw_at lw_m10 21 rfl) rfl
theorem q2702 : (Jvm.Cond.sameMethod "java/util/LinkedHashSet" "java/util/HashSet" "iterator" "()Ljava/util/Iterator;") ∈ lw_all := lw_g (lw_at lw_m11 154 rfl) rfl
theorem q2704 : (Jvm.Cond.selects "java/util/LinkedHashSet" ({ cls := "java/util/LinkedHashSet", name := "iterator", desc := "()Ljava/util/Iterator;" } : Jvm.MethodName) ({ cls := "java/util/HashSet", name := "iterator", desc := "()Ljava/util/Iterator;" } : Jvm.MethodName)) ∈ lw_all := lw_g (lw_at lw_m11 156 rfl) rfl
theorem q2798 : (Jvm.Cond.castable "java/util/LinkedHashSet" "java/util/Set") ∈ lw_tbl := lw_at lw_m12 10 rfl
theorem q2799 : (Jvm.Cond.selects "java/util/LinkedHashSet" ({ cls := "java/util/Set", name := "iterator", desc := "()Ljava/util/Iterator;" } : Jvm.MethodName) ({ cls := "java/util/HashSet", name := "iterator", desc := "()Ljava/util/Iterator;" } : Jvm.MethodName)) ∈ lw_all := lw_g (lw_at lw_m12 11 rfl) rfl
theorem q2800 : (Jvm.Cond.unhidden "java/util/LinkedHashSet" "iterator" "()Ljava/util/Iterator;") ∈ lw_tbl := lw_at lw_m12 12 rfl
theorem q3385 : (Jvm.Cond.sameMethod "java/util/LinkedHashSet" "java/util/HashSet" "remove" "(Ljava/lang/Object;)Z") ∈ lw_all := lw_g (lw_at lw_m14 117 rfl) rfl
theorem q3387 : (Jvm.Cond.selects "java/util/LinkedHashSet" ({ cls := "java/util/LinkedHashSet", name := "remove", desc := "(Ljava/lang/Object;)Z" } : Jvm.MethodName) ({ cls := "java/util/HashSet", name := "remove", desc := "(Ljava/lang/Object;)Z" } : Jvm.MethodName)) ∈ lw_all := lw_g (lw_at lw_m14 119 rfl) rfl
theorem q3415 : (Jvm.Cond.sameMethod "java/util/LinkedHashSet" "java/util/HashSet" "size" "()I") ∈ lw_all := lw_g (lw_at lw_m14 147 rfl) rfl
theorem q3417 : (Jvm.Cond.selects "java/util/LinkedHashSet" ({ cls := "java/util/LinkedHashSet", name := "size", desc := "()I" } : Jvm.MethodName) ({ cls := "java/util/HashSet", name := "size", desc := "()I" } : Jvm.MethodName)) ∈ lw_all := lw_g (lw_at lw_m14 149 rfl) rfl
theorem q4077 : (Jvm.Cond.castable "java/util/LinkedHashSet" "java/util/SequencedSet") ∈ lw_tbl := lw_at lw_m17 89 rfl
theorem q4097 : (Jvm.Cond.castable "java/util/LinkedHashSet" "java/lang/Object") ∈ lw_tbl := lw_at lw_m17 109 rfl
theorem in_J24 : ∀ w ∈ wsJ240, w ∈ lw_all := lw_in wsJ240 [1143] (by decide +kernel) (by decide +kernel)

/-! java/lang/Float -/
set_option maxRecDepth 100000
def RJ25 : String := "java/lang/Float"
abbrev cJ25_isNaN : ByteArray := prog_30_method_6_code
def yJ25_isNaN : MethodName := ⟨RJ25, "isNaN", "(F)Z"⟩
def dkwJ25_isNaN_0 : List UInt8 := [34, 34, 149, 153, 0, 7, 4, 167, 0, 4, 3, 172]
abbrev dktJ25_isNaN_0 : List UInt8 := dkwJ25_isNaN_0 ++ []
theorem dksJ25_isNaN_0 : cJ25_isNaN.data.toList.drop 0 = dktJ25_isNaN_0 := by decide +kernel
theorem dJ25_isNaN_0 : decode cJ25_isNaN 0 = .ok (.fload_n 0, 1) := dk_34 (dk_at dksJ25_isNaN_0 0 rfl rfl)
theorem dJ25_isNaN_1 : decode cJ25_isNaN 1 = .ok (.fload_n 0, 1) := dk_34 (dk_at dksJ25_isNaN_0 1 rfl rfl)
theorem dJ25_isNaN_2 : decode cJ25_isNaN 2 = .ok (.fcmp .l, 1) := dk_149 (dk_at dksJ25_isNaN_0 2 rfl rfl)
theorem dJ25_isNaN_3 : decode cJ25_isNaN 3 = .ok (.ifCond .eq 7, 3) := dk_153 0 7 (dk_at dksJ25_isNaN_0 3 rfl rfl)
theorem dJ25_isNaN_6 : decode cJ25_isNaN 6 = .ok (.iconst 1, 1) := dk_4 (dk_at dksJ25_isNaN_0 6 rfl rfl)
theorem dJ25_isNaN_7 : decode cJ25_isNaN 7 = .ok (.goto 4, 3) := dk_167 0 4 (dk_at dksJ25_isNaN_0 7 rfl rfl)
theorem dJ25_isNaN_10 : decode cJ25_isNaN 10 = .ok (.iconst 0, 1) := dk_3 (dk_at dksJ25_isNaN_0 10 rfl rfl)
theorem dJ25_isNaN_11 : decode cJ25_isNaN 11 = .ok (.ireturn, 1) := dk_172 (dk_at dksJ25_isNaN_0 11 rfl rfl)
abbrev cJ25_floatToIntBits : ByteArray := prog_30_method_24_code
def yJ25_floatToIntBits : MethodName := ⟨RJ25, "floatToIntBits", "(F)I"⟩
def dkwJ25_floatToIntBits_0 : List UInt8 := [34, 184, 0, 59, 154, 0, 8, 34, 184, 0, 74, 172, 18, 77, 172]
abbrev dktJ25_floatToIntBits_0 : List UInt8 := dkwJ25_floatToIntBits_0 ++ []
theorem dksJ25_floatToIntBits_0 : cJ25_floatToIntBits.data.toList.drop 0 = dktJ25_floatToIntBits_0 := by decide +kernel
theorem dJ25_floatToIntBits_0 : decode cJ25_floatToIntBits 0 = .ok (.fload_n 0, 1) := dk_34 (dk_at dksJ25_floatToIntBits_0 0 rfl rfl)
theorem dJ25_floatToIntBits_1 : decode cJ25_floatToIntBits 1 = .ok (.invokestatic 59, 3) := dk_184 0 59 (dk_at dksJ25_floatToIntBits_0 1 rfl rfl)
theorem dJ25_floatToIntBits_4 : decode cJ25_floatToIntBits 4 = .ok (.ifCond .ne 8, 3) := dk_154 0 8 (dk_at dksJ25_floatToIntBits_0 4 rfl rfl)
theorem dJ25_floatToIntBits_7 : decode cJ25_floatToIntBits 7 = .ok (.fload_n 0, 1) := dk_34 (dk_at dksJ25_floatToIntBits_0 7 rfl rfl)
theorem dJ25_floatToIntBits_8 : decode cJ25_floatToIntBits 8 = .ok (.invokestatic 74, 3) := dk_184 0 74 (dk_at dksJ25_floatToIntBits_0 8 rfl rfl)
theorem dJ25_floatToIntBits_11 : decode cJ25_floatToIntBits 11 = .ok (.ireturn, 1) := dk_172 (dk_at dksJ25_floatToIntBits_0 11 rfl rfl)
theorem dJ25_floatToIntBits_12 : decode cJ25_floatToIntBits 12 = .ok (.ldc 77, 2) := dk_18 77 (dk_at dksJ25_floatToIntBits_0 12 rfl rfl)
theorem dJ25_floatToIntBits_14 : decode cJ25_floatToIntBits 14 = .ok (.ireturn, 1) := dk_172 (dk_at dksJ25_floatToIntBits_0 14 rfl rfl)
theorem q177 : (Jvm.Cond.initialized "java/lang/Float") ∈ lw_all := lw_g (lw_at lw_m1 29 rfl) rfl
theorem q679 : (Jvm.Cond.static ({ cls := "java/lang/Float", name := "isNaN", desc := "(F)Z" } : Jvm.MethodName)) ∈ lw_all := lw_g (lw_at lw_m3 51 rfl) rfl
theorem q680 : (Jvm.Cond.code ({ cls := "java/lang/Float", name := "isNaN", desc := "(F)Z" } : Jvm.MethodName) prog_30_method_6_code (1 : Nat) (Option.some Jvm.ClassFile.FieldType.boolean)) ∈ lw_all := lw_g (lw_at lw_m3 52 rfl) rfl
theorem q714 : (Jvm.Cond.static ({ cls := "java/lang/Float", name := "floatToRawIntBits", desc := "(F)I" } : Jvm.MethodName)) ∈ lw_all := lw_g (lw_at lw_m3 86 rfl) rfl
theorem q715 : (Jvm.Cond.native ({ cls := "java/lang/Float", name := "floatToRawIntBits", desc := "(F)I" } : Jvm.MethodName)) ∈ lw_all := lw_g (lw_at lw_m3 87 rfl) rfl
theorem q3258 : (Jvm.Cond.static ({ cls := "java/lang/Float", name := "floatToIntBits", desc := "(F)I" } : Jvm.MethodName)) ∈ lw_all := lw_g (lw_at lw_m13 230 rfl) rfl
theorem q3259 : (Jvm.Cond.code ({ cls := "java/lang/Float", name := "floatToIntBits", desc := "(F)I" } : Jvm.MethodName) prog_30_method_24_code (1 : Nat) (Option.some Jvm.ClassFile.FieldType.int)) ∈ lw_all := lw_g (lw_at lw_m13 231 rfl) rfl
theorem q3260 : (Jvm.Cond.methodLink "java/lang/Float" (59 : Nat) ({ cls := "java/lang/Float", name := "isNaN", desc := "(F)Z" } : Jvm.MethodName)) ∈ lw_all := lw_g (lw_at lw_m13 232 rfl) rfl
theorem q3261 : (Jvm.Cond.methodLink "java/lang/Float" (74 : Nat) ({ cls := "java/lang/Float", name := "floatToRawIntBits", desc := "(F)I" } : Jvm.MethodName)) ∈ lw_all := lw_g (lw_at lw_m13 233 rfl) rfl
theorem q3262 : (Jvm.Cond.constant "java/lang/Float" (77 : Nat) (2143289344 : Int32)) ∈ lw_all := lw_g (lw_at lw_m13 234 rfl) rfl

/-! java/util/HashMap$Node -/
set_option maxRecDepth 100000
def RJ30 : String := "java/util/HashMap$Node"
abbrev cJ30_init : ByteArray := prog_63_method_1_code
def yJ30_init : MethodName := ⟨RJ30, "<init>", "(ILjava/lang/Object;Ljava/lang/Object;Ljava/util/HashMap$Node;)V"⟩
def dkwJ30_init_1 : List UInt8 := [181, 0, 20, 177]
abbrev dktJ30_init_1 : List UInt8 := dkwJ30_init_1 ++ []
def dkwJ30_init_0 : List UInt8 := [42, 183, 0, 1, 42, 27, 181, 0, 7, 42, 44, 181, 0, 13, 42, 45, 181, 0, 17, 42, 25, 4]
abbrev dktJ30_init_0 : List UInt8 := dkwJ30_init_0 ++ dktJ30_init_1
theorem dksJ30_init_0 : cJ30_init.data.toList.drop 0 = dktJ30_init_0 := by decide +kernel
theorem dksJ30_init_1 : cJ30_init.data.toList.drop 22 = dktJ30_init_1 := dk_seg dksJ30_init_0 22 rfl rfl
theorem dJ30_init_0 : decode cJ30_init 0 = .ok (.aload_n 0, 1) := dk_42 (dk_at dksJ30_init_0 0 rfl rfl)
theorem dJ30_init_1 : decode cJ30_init 1 = .ok (.invokespecial 1, 3) := dk_183 0 1 (dk_at dksJ30_init_0 1 rfl rfl)
theorem dJ30_init_4 : decode cJ30_init 4 = .ok (.aload_n 0, 1) := dk_42 (dk_at dksJ30_init_0 4 rfl rfl)
theorem dJ30_init_5 : decode cJ30_init 5 = .ok (.iload_n 1, 1) := dk_27 (dk_at dksJ30_init_0 5 rfl rfl)
theorem dJ30_init_6 : decode cJ30_init 6 = .ok (.putfield 7, 3) := dk_181 0 7 (dk_at dksJ30_init_0 6 rfl rfl)
theorem dJ30_init_9 : decode cJ30_init 9 = .ok (.aload_n 0, 1) := dk_42 (dk_at dksJ30_init_0 9 rfl rfl)
theorem dJ30_init_10 : decode cJ30_init 10 = .ok (.aload_n 2, 1) := dk_44 (dk_at dksJ30_init_0 10 rfl rfl)
theorem dJ30_init_11 : decode cJ30_init 11 = .ok (.putfield 13, 3) := dk_181 0 13 (dk_at dksJ30_init_0 11 rfl rfl)
theorem dJ30_init_14 : decode cJ30_init 14 = .ok (.aload_n 0, 1) := dk_42 (dk_at dksJ30_init_0 14 rfl rfl)
theorem dJ30_init_15 : decode cJ30_init 15 = .ok (.aload_n 3, 1) := dk_45 (dk_at dksJ30_init_0 15 rfl rfl)
theorem dJ30_init_16 : decode cJ30_init 16 = .ok (.putfield 17, 3) := dk_181 0 17 (dk_at dksJ30_init_0 16 rfl rfl)
theorem dJ30_init_19 : decode cJ30_init 19 = .ok (.aload_n 0, 1) := dk_42 (dk_at dksJ30_init_0 19 rfl rfl)
theorem dJ30_init_20 : decode cJ30_init 20 = .ok (.aload 4, 2) := dk_25 4 (dk_at dksJ30_init_0 20 rfl rfl)
theorem dJ30_init_22 : decode cJ30_init 22 = .ok (.putfield 20, 3) := dk_181 0 20 (dk_at dksJ30_init_1 0 rfl rfl)
theorem dJ30_init_25 : decode cJ30_init 25 = .ok (.return_, 1) := dk_177 (dk_at dksJ30_init_1 3 rfl rfl)
abbrev cJ30_getKey : ByteArray := prog_63_method_2_code
def yJ30_getKey : MethodName := ⟨RJ30, "getKey", "()Ljava/lang/Object;"⟩
theorem dJ30_getKey_0 : decode cJ30_getKey 0 = .ok (.aload_n 0, 1) := by decide +kernel
theorem dJ30_getKey_1 : decode cJ30_getKey 1 = .ok (.getfield 13, 3) := by decide +kernel
theorem dJ30_getKey_4 : decode cJ30_getKey 4 = .ok (.areturn, 1) := by decide +kernel
theorem q185 : (Jvm.Cond.initialized "java/util/HashMap$Node") ∈ lw_all := lw_g (lw_at lw_m1 37 rfl) rfl
theorem q1051 : (Jvm.Cond.selects "java/util/HashMap$Node" ({ cls := "java/lang/Object", name := "getClass", desc := "()Ljava/lang/Class;" } : Jvm.MethodName) ({ cls := "java/lang/Object", name := "getClass", desc := "()Ljava/lang/Class;" } : Jvm.MethodName)) ∈ lw_all := lw_g (lw_at lw_m4 183 rfl) rfl
theorem q1430 : (Jvm.Cond.instanceMethod ({ cls := "java/util/HashMap$Node", name := "<init>", desc := "(ILjava/lang/Object;Ljava/lang/Object;Ljava/util/HashMap$Node;)V" } : Jvm.MethodName)) ∈ lw_all := lw_g (lw_at lw_m6 82 rfl) rfl
theorem q1431 : (Jvm.Cond.code ({ cls := "java/util/HashMap$Node", name := "<init>", desc := "(ILjava/lang/Object;Ljava/lang/Object;Ljava/util/HashMap$Node;)V" } : Jvm.MethodName) prog_63_method_1_code (5 : Nat) (Option.none : Option Jvm.ClassFile.FieldType)) ∈ lw_all := lw_g (lw_at lw_m6 83 rfl) rfl
theorem q1432 : (Jvm.Cond.methodLink "java/util/HashMap$Node" (1 : Nat) ({ cls := "java/lang/Object", name := "<init>", desc := "()V" } : Jvm.MethodName)) ∈ lw_all := lw_g (lw_at lw_m6 84 rfl) rfl
theorem q1437 : (Jvm.Cond.fieldLink "java/util/HashMap$Node" (7 : Nat) "java/util/HashMap$Node" "hash" "I") ∈ lw_all := lw_g (lw_at lw_m6 89 rfl) rfl
theorem q1443 : (Jvm.Cond.fieldLink "java/util/HashMap$Node" (13 : Nat) "java/util/HashMap$Node" "key" "Ljava/lang/Object;") ∈ lw_all := lw_g (lw_at lw_m6 95 rfl) rfl
theorem q1450 : (Jvm.Cond.fieldLink "java/util/HashMap$Node" (17 : Nat) "java/util/HashMap$Node" "value" "Ljava/lang/Object;") ∈ lw_all := lw_g (lw_at lw_m6 102 rfl) rfl
theorem q1455 : (Jvm.Cond.fieldLink "java/util/HashMap$Node" (20 : Nat) "java/util/HashMap$Node" "next" "Ljava/util/HashMap$Node;") ∈ lw_all := lw_g (lw_at lw_m6 107 rfl) rfl
theorem q1467 : (Jvm.Cond.soleField "java/util/HashMap$Node" "hash") ∈ lw_all := lw_g (lw_at lw_m6 119 rfl) rfl
theorem q1469 : (Jvm.Cond.soleField "java/util/HashMap$Node" "key") ∈ lw_all := lw_g (lw_at lw_m6 121 rfl) rfl
theorem q1471 : (Jvm.Cond.soleField "java/util/HashMap$Node" "value") ∈ lw_all := lw_g (lw_at lw_m6 123 rfl) rfl
theorem q1473 : (Jvm.Cond.soleField "java/util/HashMap$Node" "next") ∈ lw_all := lw_g (lw_at lw_m6 125 rfl) rfl
theorem q2869 : (Jvm.Cond.declares ({ cls := "java/util/HashMap$Node", name := "getKey", desc := "()Ljava/lang/Object;" } : Jvm.MethodName)) ∈ lw_tbl := lw_at lw_m12 81 rfl
theorem q2872 : (Jvm.Cond.instanceMethod ({ cls := "java/util/HashMap$Node", name := "getKey", desc := "()Ljava/lang/Object;" } : Jvm.MethodName)) ∈ lw_all := lw_g (lw_at lw_m12 84 rfl) rfl
theorem q2873 : (Jvm.Cond.code ({ cls := "java/util/HashMap$Node", name := "getKey", desc := "()Ljava/lang/Object;" } : Jvm.MethodName) prog_63_method_2_code (1 : Nat) (Option.some (Jvm.ClassFile.FieldType.object "java/lang/Object"))) ∈ lw_all := lw_g (lw_at lw_m12 85 rfl) rfl
theorem q4089 : (Jvm.Cond.castable "java/util/HashMap$Node" "java/lang/Object") ∈ lw_tbl := lw_at lw_m17 101 rfl

/-! java/util/LinkedHashMap$Entry -/
set_option maxRecDepth 100000
def RJ31 : String := "java/util/LinkedHashMap$Entry"
def TJ31 : u_T := fun k => match k with
  | 0 => ("java/util/HashMap$Node", "hash", "I", true)
  | 1 => ("java/util/HashMap$Node", "key", "Ljava/lang/Object;", true)
  | 2 => ("java/util/HashMap$Node", "value", "Ljava/lang/Object;", false)
  | 3 => ("java/util/HashMap$Node", "next", "Ljava/util/HashMap$Node;", false)
  | 4 => ("java/util/LinkedHashMap$Entry", "before", "Ljava/util/LinkedHashMap$Entry;", false)
  | _ => ("java/util/LinkedHashMap$Entry", "after", "Ljava/util/LinkedHashMap$Entry;", false)
def tyJ31 : Nat → FieldType := fun k => match k with
  | 0 => .int
  | 1 => .object "java/lang/Object"
  | 2 => .object "java/lang/Object"
  | 3 => .object "java/util/HashMap$Node"
  | 4 => .object "java/util/LinkedHashMap$Entry"
  | _ => .object "java/util/LinkedHashMap$Entry"
abbrev wsJ310 : List Cond := u_ws RJ31 TJ31 6
theorem nmJ31 : ∀ a, a < 6 → ∀ b, b < 6 → a ≠ b → (TJ31 a).2.1 ≠ (TJ31 b).2.1 := by decide +kernel
theorem tyJ31_ok : ∀ k, k < 6 → parseFieldDescriptor (TJ31 k).2.2.1 = some (tyJ31 k) := by decide +kernel
abbrev cJ31_init : ByteArray := prog_68_method_1_code
def yJ31_init : MethodName := ⟨RJ31, "<init>", "(ILjava/lang/Object;Ljava/lang/Object;Ljava/util/HashMap$Node;)V"⟩
def dkwJ31_init_0 : List UInt8 := [42, 27, 44, 45, 25, 4, 183, 0, 1, 177]
abbrev dktJ31_init_0 : List UInt8 := dkwJ31_init_0 ++ []
theorem dksJ31_init_0 : cJ31_init.data.toList.drop 0 = dktJ31_init_0 := by decide +kernel
theorem dJ31_init_0 : decode cJ31_init 0 = .ok (.aload_n 0, 1) := dk_42 (dk_at dksJ31_init_0 0 rfl rfl)
theorem dJ31_init_1 : decode cJ31_init 1 = .ok (.iload_n 1, 1) := dk_27 (dk_at dksJ31_init_0 1 rfl rfl)
theorem dJ31_init_2 : decode cJ31_init 2 = .ok (.aload_n 2, 1) := dk_44 (dk_at dksJ31_init_0 2 rfl rfl)
theorem dJ31_init_3 : decode cJ31_init 3 = .ok (.aload_n 3, 1) := dk_45 (dk_at dksJ31_init_0 3 rfl rfl)
theorem dJ31_init_4 : decode cJ31_init 4 = .ok (.aload 4, 2) := dk_25 4 (dk_at dksJ31_init_0 4 rfl rfl)
theorem dJ31_init_6 : decode cJ31_init 6 = .ok (.invokespecial 1, 3) := dk_183 0 1 (dk_at dksJ31_init_0 6 rfl rfl)
theorem dJ31_init_9 : decode cJ31_init 9 = .ok (.return_, 1) := dk_177 (dk_at dksJ31_init_0 9 rfl rfl)
theorem q186 : (Jvm.Cond.initialized "java/util/LinkedHashMap$Entry") ∈ lw_all := lw_g (lw_at lw_m1 38 rfl) rfl
theorem q1054 : (Jvm.Cond.selects "java/util/LinkedHashMap$Entry" ({ cls := "java/lang/Object", name := "getClass", desc := "()Ljava/lang/Class;" } : Jvm.MethodName) ({ cls := "java/lang/Object", name := "getClass", desc := "()Ljava/lang/Class;" } : Jvm.MethodName)) ∈ lw_all := lw_g (lw_at lw_m4 186 rfl) rfl
theorem q1425 : (Jvm.Cond.instantiable "java/util/LinkedHashMap$Entry" (6 : Nat)) ∈ lw_all := lw_g (lw_at lw_m6 77 rfl) rfl
theorem q1427 : (Jvm.Cond.instanceMethod ({ cls := "java/util/LinkedHashMap$Entry", name := "<init>", desc := "(ILjava/lang/Object;Ljava/lang/Object;Ljava/util/HashMap$Node;)V" } : Jvm.MethodName)) ∈ lw_all := lw_g (lw_at lw_m6 79 rfl) rfl
theorem q1428 : (Jvm.Cond.code ({ cls := "java/util/LinkedHashMap$Entry", name := "<init>", desc := "(ILjava/lang/Object;Ljava/lang/Object;Ljava/util/HashMap$Node;)V" } : Jvm.MethodName) prog_68_method_1_code (5 : Nat) (Option.none : Option Jvm.ClassFile.FieldType)) ∈ lw_all := lw_g (lw_at lw_m6 80 rfl) rfl
theorem q1429 : (Jvm.Cond.methodLink "java/util/LinkedHashMap$Entry" (1 : Nat) ({ cls := "java/util/HashMap$Node", name := "<init>", desc := "(ILjava/lang/Object;Ljava/lang/Object;Ljava/util/HashMap$Node;)V" } : Jvm.MethodName)) ∈ lw_all := lw_g (lw_at lw_m6 81 rfl) rfl
theorem q1441 : (Jvm.Cond.sameField "java/util/LinkedHashMap$Entry" "java/util/HashMap$Node" "hash" "I") ∈ lw_all := lw_g (lw_at lw_m6 93 rfl) rfl
theorem q1448 : (Jvm.Cond.sameField "java/util/LinkedHashMap$Entry" "java/util/HashMap$Node" "key" "Ljava/lang/Object;") ∈ lw_all := lw_g (lw_at lw_m6 100 rfl) rfl
theorem q1452 : (Jvm.Cond.sameField "java/util/LinkedHashMap$Entry" "java/util/HashMap$Node" "value" "Ljava/lang/Object;") ∈ lw_all := lw_g (lw_at lw_m6 104 rfl) rfl
theorem q1462 : (Jvm.Cond.lays "java/util/LinkedHashMap$Entry" "java/util/LinkedHashMap$Entry" "before" "Ljava/util/LinkedHashMap$Entry;") ∈ lw_all := lw_g (lw_at lw_m6 114 rfl) rfl
theorem q1463 : (Jvm.Cond.soleField "java/util/LinkedHashMap$Entry" "before") ∈ lw_all := lw_g (lw_at lw_m6 115 rfl) rfl
theorem q1464 : (Jvm.Cond.lays "java/util/LinkedHashMap$Entry" "java/util/LinkedHashMap$Entry" "after" "Ljava/util/LinkedHashMap$Entry;") ∈ lw_all := lw_g (lw_at lw_m6 116 rfl) rfl
theorem q1465 : (Jvm.Cond.soleField "java/util/LinkedHashMap$Entry" "after") ∈ lw_all := lw_g (lw_at lw_m6 117 rfl) rfl
theorem q1466 : (Jvm.Cond.laysFinal "java/util/LinkedHashMap$Entry" "java/util/HashMap$Node" "hash" "I") ∈ lw_all := lw_g (lw_at lw_m6 118 rfl) rfl
theorem q1468 : (Jvm.Cond.laysFinal "java/util/LinkedHashMap$Entry" "java/util/HashMap$Node" "key" "Ljava/lang/Object;") ∈ lw_all := lw_g (lw_at lw_m6 120 rfl) rfl
theorem q1470 : (Jvm.Cond.lays "java/util/LinkedHashMap$Entry" "java/util/HashMap$Node" "value" "Ljava/lang/Object;") ∈ lw_all := lw_g (lw_at lw_m6 122 rfl) rfl
theorem q1472 : (Jvm.Cond.lays "java/util/LinkedHashMap$Entry" "java/util/HashMap$Node" "next" "Ljava/util/HashMap$Node;") ∈ lw_all := lw_g (lw_at lw_m6 124 rfl) rfl
theorem q1474 : (Jvm.Cond.superclass "java/util/LinkedHashMap$Entry" "java/util/HashMap$Node") ∈ lw_all := lw_g (lw_at lw_m6 126 rfl) rfl
theorem q2868 : (Jvm.Cond.sameMethod "java/util/LinkedHashMap$Entry" "java/util/HashMap$Node" "getKey" "()Ljava/lang/Object;") ∈ lw_all := lw_g (lw_at lw_m12 80 rfl) rfl
theorem q2871 : (Jvm.Cond.selects "java/util/LinkedHashMap$Entry" ({ cls := "java/util/LinkedHashMap$Entry", name := "getKey", desc := "()Ljava/lang/Object;" } : Jvm.MethodName) ({ cls := "java/util/HashMap$Node", name := "getKey", desc := "()Ljava/lang/Object;" } : Jvm.MethodName)) ∈ lw_all := lw_g (lw_at lw_m12 83 rfl) rfl
theorem q4104 : (Jvm.Cond.castable "java/util/LinkedHashMap$Entry" "java/lang/Object") ∈ lw_tbl := lw_at lw_m17 116 rfl
theorem q4124 : (Jvm.Cond.castable "java/util/LinkedHashMap$Entry" "java/util/HashMap$Node") ∈ lw_tbl := lw_at lw_m17 136 rfl
theorem in_J31 : ∀ w ∈ wsJ310, w ∈ lw_all := lw_in wsJ310 [1466, 1468, 1470, 1472, 1462, 1464] (by decide +kernel) (by decide +kernel)

/-! java/lang/Long -/
set_option maxRecDepth 100000
def RJ33 : String := "java/lang/Long"
abbrev cJ33_numberOfLeadingZeros : ByteArray := prog_35_method_48_code
def yJ33_numberOfLeadingZeros : MethodName := ⟨RJ33, "numberOfLeadingZeros", "(J)I"⟩
def dkwJ33_numberOfLeadingZeros_1 : List UInt8 := [184, 1, 52, 172]
abbrev dktJ33_numberOfLeadingZeros_1 : List UInt8 := dkwJ33_numberOfLeadingZeros_1 ++ []
def dkwJ33_numberOfLeadingZeros_0 : List UInt8 := [30, 16, 32, 125, 136, 61, 28, 154, 0, 14, 16, 32, 30, 136, 184, 1, 52, 96, 167, 0, 7, 28]
abbrev dktJ33_numberOfLeadingZeros_0 : List UInt8 := dkwJ33_numberOfLeadingZeros_0 ++ dktJ33_numberOfLeadingZeros_1
theorem dksJ33_numberOfLeadingZeros_0 : cJ33_numberOfLeadingZeros.data.toList.drop 0 = dktJ33_numberOfLeadingZeros_0 := by decide +kernel
theorem dksJ33_numberOfLeadingZeros_1 : cJ33_numberOfLeadingZeros.data.toList.drop 22 = dktJ33_numberOfLeadingZeros_1 := dk_seg dksJ33_numberOfLeadingZeros_0 22 rfl rfl
theorem dJ33_numberOfLeadingZeros_0 : decode cJ33_numberOfLeadingZeros 0 = .ok (.lload_n 0, 1) := dk_30 (dk_at dksJ33_numberOfLeadingZeros_0 0 rfl rfl)
theorem dJ33_numberOfLeadingZeros_1 : decode cJ33_numberOfLeadingZeros 1 = .ok (.bipush 32, 2) := dk_16 32 (dk_at dksJ33_numberOfLeadingZeros_0 1 rfl rfl)
theorem dJ33_numberOfLeadingZeros_3 : decode cJ33_numberOfLeadingZeros 3 = .ok (.lushr, 1) := dk_125 (dk_at dksJ33_numberOfLeadingZeros_0 3 rfl rfl)
theorem dJ33_numberOfLeadingZeros_4 : decode cJ33_numberOfLeadingZeros 4 = .ok (.l2i, 1) := dk_136 (dk_at dksJ33_numberOfLeadingZeros_0 4 rfl rfl)
theorem dJ33_numberOfLeadingZeros_5 : decode cJ33_numberOfLeadingZeros 5 = .ok (.istore_n 2, 1) := dk_61 (dk_at dksJ33_numberOfLeadingZeros_0 5 rfl rfl)
theorem dJ33_numberOfLeadingZeros_6 : decode cJ33_numberOfLeadingZeros 6 = .ok (.iload_n 2, 1) := dk_28 (dk_at dksJ33_numberOfLeadingZeros_0 6 rfl rfl)
theorem dJ33_numberOfLeadingZeros_7 : decode cJ33_numberOfLeadingZeros 7 = .ok (.ifCond .ne 14, 3) := dk_154 0 14 (dk_at dksJ33_numberOfLeadingZeros_0 7 rfl rfl)
theorem dJ33_numberOfLeadingZeros_10 : decode cJ33_numberOfLeadingZeros 10 = .ok (.bipush 32, 2) := dk_16 32 (dk_at dksJ33_numberOfLeadingZeros_0 10 rfl rfl)
theorem dJ33_numberOfLeadingZeros_12 : decode cJ33_numberOfLeadingZeros 12 = .ok (.lload_n 0, 1) := dk_30 (dk_at dksJ33_numberOfLeadingZeros_0 12 rfl rfl)
theorem dJ33_numberOfLeadingZeros_13 : decode cJ33_numberOfLeadingZeros 13 = .ok (.l2i, 1) := dk_136 (dk_at dksJ33_numberOfLeadingZeros_0 13 rfl rfl)
theorem dJ33_numberOfLeadingZeros_14 : decode cJ33_numberOfLeadingZeros 14 = .ok (.invokestatic 308, 3) := dk_184 1 52 (dk_at dksJ33_numberOfLeadingZeros_0 14 rfl rfl)
theorem dJ33_numberOfLeadingZeros_17 : decode cJ33_numberOfLeadingZeros 17 = .ok (.iadd, 1) := dk_96 (dk_at dksJ33_numberOfLeadingZeros_0 17 rfl rfl)
theorem dJ33_numberOfLeadingZeros_18 : decode cJ33_numberOfLeadingZeros 18 = .ok (.goto 7, 3) := dk_167 0 7 (dk_at dksJ33_numberOfLeadingZeros_0 18 rfl rfl)
theorem dJ33_numberOfLeadingZeros_21 : decode cJ33_numberOfLeadingZeros 21 = .ok (.iload_n 2, 1) := dk_28 (dk_at dksJ33_numberOfLeadingZeros_0 21 rfl rfl)
theorem dJ33_numberOfLeadingZeros_22 : decode cJ33_numberOfLeadingZeros 22 = .ok (.invokestatic 308, 3) := dk_184 1 52 (dk_at dksJ33_numberOfLeadingZeros_1 0 rfl rfl)
theorem dJ33_numberOfLeadingZeros_25 : decode cJ33_numberOfLeadingZeros 25 = .ok (.ireturn, 1) := dk_172 (dk_at dksJ33_numberOfLeadingZeros_1 3 rfl rfl)
abbrev cJ33_numberOfTrailingZeros : ByteArray := prog_35_method_49_code
def yJ33_numberOfTrailingZeros : MethodName := ⟨RJ33, "numberOfTrailingZeros", "(J)I"⟩
def dkwJ33_numberOfTrailingZeros_1 : List UInt8 := [184, 1, 55, 172]
abbrev dktJ33_numberOfTrailingZeros_1 : List UInt8 := dkwJ33_numberOfTrailingZeros_1 ++ []
def dkwJ33_numberOfTrailingZeros_0 : List UInt8 := [30, 136, 61, 28, 154, 0, 17, 16, 32, 30, 16, 32, 125, 136, 184, 1, 55, 96, 167, 0, 7, 28]
abbrev dktJ33_numberOfTrailingZeros_0 : List UInt8 := dkwJ33_numberOfTrailingZeros_0 ++ dktJ33_numberOfTrailingZeros_1
theorem dksJ33_numberOfTrailingZeros_0 : cJ33_numberOfTrailingZeros.data.toList.drop 0 = dktJ33_numberOfTrailingZeros_0 := by decide +kernel
theorem dksJ33_numberOfTrailingZeros_1 : cJ33_numberOfTrailingZeros.data.toList.drop 22 = dktJ33_numberOfTrailingZeros_1 := dk_seg dksJ33_numberOfTrailingZeros_0 22 rfl rfl
theorem dJ33_numberOfTrailingZeros_0 : decode cJ33_numberOfTrailingZeros 0 = .ok (.lload_n 0, 1) := dk_30 (dk_at dksJ33_numberOfTrailingZeros_0 0 rfl rfl)
theorem dJ33_numberOfTrailingZeros_1 : decode cJ33_numberOfTrailingZeros 1 = .ok (.l2i, 1) := dk_136 (dk_at dksJ33_numberOfTrailingZeros_0 1 rfl rfl)
theorem dJ33_numberOfTrailingZeros_2 : decode cJ33_numberOfTrailingZeros 2 = .ok (.istore_n 2, 1) := dk_61 (dk_at dksJ33_numberOfTrailingZeros_0 2 rfl rfl)
theorem dJ33_numberOfTrailingZeros_3 : decode cJ33_numberOfTrailingZeros 3 = .ok (.iload_n 2, 1) := dk_28 (dk_at dksJ33_numberOfTrailingZeros_0 3 rfl rfl)
theorem dJ33_numberOfTrailingZeros_4 : decode cJ33_numberOfTrailingZeros 4 = .ok (.ifCond .ne 17, 3) := dk_154 0 17 (dk_at dksJ33_numberOfTrailingZeros_0 4 rfl rfl)
theorem dJ33_numberOfTrailingZeros_7 : decode cJ33_numberOfTrailingZeros 7 = .ok (.bipush 32, 2) := dk_16 32 (dk_at dksJ33_numberOfTrailingZeros_0 7 rfl rfl)
theorem dJ33_numberOfTrailingZeros_9 : decode cJ33_numberOfTrailingZeros 9 = .ok (.lload_n 0, 1) := dk_30 (dk_at dksJ33_numberOfTrailingZeros_0 9 rfl rfl)
theorem dJ33_numberOfTrailingZeros_10 : decode cJ33_numberOfTrailingZeros 10 = .ok (.bipush 32, 2) := dk_16 32 (dk_at dksJ33_numberOfTrailingZeros_0 10 rfl rfl)
theorem dJ33_numberOfTrailingZeros_12 : decode cJ33_numberOfTrailingZeros 12 = .ok (.lushr, 1) := dk_125 (dk_at dksJ33_numberOfTrailingZeros_0 12 rfl rfl)
theorem dJ33_numberOfTrailingZeros_13 : decode cJ33_numberOfTrailingZeros 13 = .ok (.l2i, 1) := dk_136 (dk_at dksJ33_numberOfTrailingZeros_0 13 rfl rfl)
theorem dJ33_numberOfTrailingZeros_14 : decode cJ33_numberOfTrailingZeros 14 = .ok (.invokestatic 311, 3) := dk_184 1 55 (dk_at dksJ33_numberOfTrailingZeros_0 14 rfl rfl)
theorem dJ33_numberOfTrailingZeros_17 : decode cJ33_numberOfTrailingZeros 17 = .ok (.iadd, 1) := dk_96 (dk_at dksJ33_numberOfTrailingZeros_0 17 rfl rfl)
theorem dJ33_numberOfTrailingZeros_18 : decode cJ33_numberOfTrailingZeros 18 = .ok (.goto 7, 3) := dk_167 0 7 (dk_at dksJ33_numberOfTrailingZeros_0 18 rfl rfl)
theorem dJ33_numberOfTrailingZeros_21 : decode cJ33_numberOfTrailingZeros 21 = .ok (.iload_n 2, 1) := dk_28 (dk_at dksJ33_numberOfTrailingZeros_0 21 rfl rfl)
theorem dJ33_numberOfTrailingZeros_22 : decode cJ33_numberOfTrailingZeros 22 = .ok (.invokestatic 311, 3) := dk_184 1 55 (dk_at dksJ33_numberOfTrailingZeros_1 0 rfl rfl)
theorem dJ33_numberOfTrailingZeros_25 : decode cJ33_numberOfTrailingZeros 25 = .ok (.ireturn, 1) := dk_172 (dk_at dksJ33_numberOfTrailingZeros_1 3 rfl rfl)
abbrev cJ33_bitCount : ByteArray := prog_35_method_50_code
def yJ33_bitCount : MethodName := ⟨RJ33, "bitCount", "(J)I"⟩
def dkwJ33_bitCount_2 : List UInt8 := [30, 30, 16, 32, 125, 97, 63, 30, 136, 16, 127, 126, 172]
abbrev dktJ33_bitCount_2 : List UInt8 := dkwJ33_bitCount_2 ++ []
def dkwJ33_bitCount_1 : List UInt8 := [30, 30, 7, 125, 97, 20, 1, 62, 127, 63, 30, 30, 16, 8, 125, 97, 63, 30, 30, 16, 16, 125, 97, 63]
abbrev dktJ33_bitCount_1 : List UInt8 := dkwJ33_bitCount_1 ++ dktJ33_bitCount_2
def dkwJ33_bitCount_0 : List UInt8 := [30, 30, 4, 125, 20, 1, 58, 127, 101, 63, 30, 20, 1, 60, 127, 30, 5, 125, 20, 1, 60, 127, 97, 63]
abbrev dktJ33_bitCount_0 : List UInt8 := dkwJ33_bitCount_0 ++ dktJ33_bitCount_1
theorem dksJ33_bitCount_0 : cJ33_bitCount.data.toList.drop 0 = dktJ33_bitCount_0 := by decide +kernel
theorem dksJ33_bitCount_1 : cJ33_bitCount.data.toList.drop 24 = dktJ33_bitCount_1 := dk_seg dksJ33_bitCount_0 24 rfl rfl
theorem dksJ33_bitCount_2 : cJ33_bitCount.data.toList.drop 48 = dktJ33_bitCount_2 := dk_seg dksJ33_bitCount_1 24 rfl rfl
theorem dJ33_bitCount_0 : decode cJ33_bitCount 0 = .ok (.lload_n 0, 1) := dk_30 (dk_at dksJ33_bitCount_0 0 rfl rfl)
theorem dJ33_bitCount_1 : decode cJ33_bitCount 1 = .ok (.lload_n 0, 1) := dk_30 (dk_at dksJ33_bitCount_0 1 rfl rfl)
theorem dJ33_bitCount_2 : decode cJ33_bitCount 2 = .ok (.iconst 1, 1) := dk_4 (dk_at dksJ33_bitCount_0 2 rfl rfl)
theorem dJ33_bitCount_3 : decode cJ33_bitCount 3 = .ok (.lushr, 1) := dk_125 (dk_at dksJ33_bitCount_0 3 rfl rfl)
theorem dJ33_bitCount_4 : decode cJ33_bitCount 4 = .ok (.ldc2_w 314, 3) := dk_20 1 58 (dk_at dksJ33_bitCount_0 4 rfl rfl)
theorem dJ33_bitCount_7 : decode cJ33_bitCount 7 = .ok (.land, 1) := dk_127 (dk_at dksJ33_bitCount_0 7 rfl rfl)
theorem dJ33_bitCount_8 : decode cJ33_bitCount 8 = .ok (.lsub, 1) := dk_101 (dk_at dksJ33_bitCount_0 8 rfl rfl)
theorem dJ33_bitCount_9 : decode cJ33_bitCount 9 = .ok (.lstore_n 0, 1) := dk_63 (dk_at dksJ33_bitCount_0 9 rfl rfl)
theorem dJ33_bitCount_10 : decode cJ33_bitCount 10 = .ok (.lload_n 0, 1) := dk_30 (dk_at dksJ33_bitCount_0 10 rfl rfl)
theorem dJ33_bitCount_11 : decode cJ33_bitCount 11 = .ok (.ldc2_w 316, 3) := dk_20 1 60 (dk_at dksJ33_bitCount_0 11 rfl rfl)
theorem dJ33_bitCount_14 : decode cJ33_bitCount 14 = .ok (.land, 1) := dk_127 (dk_at dksJ33_bitCount_0 14 rfl rfl)
theorem dJ33_bitCount_15 : decode cJ33_bitCount 15 = .ok (.lload_n 0, 1) := dk_30 (dk_at dksJ33_bitCount_0 15 rfl rfl)
theorem dJ33_bitCount_16 : decode cJ33_bitCount 16 = .ok (.iconst 2, 1) := dk_5 (dk_at dksJ33_bitCount_0 16 rfl rfl)
theorem dJ33_bitCount_17 : decode cJ33_bitCount 17 = .ok (.lushr, 1) := dk_125 (dk_at dksJ33_bitCount_0 17 rfl rfl)
theorem dJ33_bitCount_18 : decode cJ33_bitCount 18 = .ok (.ldc2_w 316, 3) := dk_20 1 60 (dk_at dksJ33_bitCount_0 18 rfl rfl)
theorem dJ33_bitCount_21 : decode cJ33_bitCount 21 = .ok (.land, 1) := dk_127 (dk_at dksJ33_bitCount_0 21 rfl rfl)
theorem dJ33_bitCount_22 : decode cJ33_bitCount 22 = .ok (.ladd, 1) := dk_97 (dk_at dksJ33_bitCount_0 22 rfl rfl)
theorem dJ33_bitCount_23 : decode cJ33_bitCount 23 = .ok (.lstore_n 0, 1) := dk_63 (dk_at dksJ33_bitCount_0 23 rfl rfl)
theorem dJ33_bitCount_24 : decode cJ33_bitCount 24 = .ok (.lload_n 0, 1) := dk_30 (dk_at dksJ33_bitCount_1 0 rfl rfl)
theorem dJ33_bitCount_25 : decode cJ33_bitCount 25 = .ok (.lload_n 0, 1) := dk_30 (dk_at dksJ33_bitCount_1 1 rfl rfl)
theorem dJ33_bitCount_26 : decode cJ33_bitCount 26 = .ok (.iconst 4, 1) := dk_7 (dk_at dksJ33_bitCount_1 2 rfl rfl)
theorem dJ33_bitCount_27 : decode cJ33_bitCount 27 = .ok (.lushr, 1) := dk_125 (dk_at dksJ33_bitCount_1 3 rfl rfl)
theorem dJ33_bitCount_28 : decode cJ33_bitCount 28 = .ok (.ladd, 1) := dk_97 (dk_at dksJ33_bitCount_1 4 rfl rfl)
theorem dJ33_bitCount_29 : decode cJ33_bitCount 29 = .ok (.ldc2_w 318, 3) := dk_20 1 62 (dk_at dksJ33_bitCount_1 5 rfl rfl)
theorem dJ33_bitCount_32 : decode cJ33_bitCount 32 = .ok (.land, 1) := dk_127 (dk_at dksJ33_bitCount_1 8 rfl rfl)
theorem dJ33_bitCount_33 : decode cJ33_bitCount 33 = .ok (.lstore_n 0, 1) := dk_63 (dk_at dksJ33_bitCount_1 9 rfl rfl)
theorem dJ33_bitCount_34 : decode cJ33_bitCount 34 = .ok (.lload_n 0, 1) := dk_30 (dk_at dksJ33_bitCount_1 10 rfl rfl)
theorem dJ33_bitCount_35 : decode cJ33_bitCount 35 = .ok (.lload_n 0, 1) := dk_30 (dk_at dksJ33_bitCount_1 11 rfl rfl)
theorem dJ33_bitCount_36 : decode cJ33_bitCount 36 = .ok (.bipush 8, 2) := dk_16 8 (dk_at dksJ33_bitCount_1 12 rfl rfl)
theorem dJ33_bitCount_38 : decode cJ33_bitCount 38 = .ok (.lushr, 1) := dk_125 (dk_at dksJ33_bitCount_1 14 rfl rfl)
theorem dJ33_bitCount_39 : decode cJ33_bitCount 39 = .ok (.ladd, 1) := dk_97 (dk_at dksJ33_bitCount_1 15 rfl rfl)
theorem dJ33_bitCount_40 : decode cJ33_bitCount 40 = .ok (.lstore_n 0, 1) := dk_63 (dk_at dksJ33_bitCount_1 16 rfl rfl)
theorem dJ33_bitCount_41 : decode cJ33_bitCount 41 = .ok (.lload_n 0, 1) := dk_30 (dk_at dksJ33_bitCount_1 17 rfl rfl)
theorem dJ33_bitCount_42 : decode cJ33_bitCount 42 = .ok (.lload_n 0, 1) := dk_30 (dk_at dksJ33_bitCount_1 18 rfl rfl)
theorem dJ33_bitCount_43 : decode cJ33_bitCount 43 = .ok (.bipush 16, 2) := dk_16 16 (dk_at dksJ33_bitCount_1 19 rfl rfl)
theorem dJ33_bitCount_45 : decode cJ33_bitCount 45 = .ok (.lushr, 1) := dk_125 (dk_at dksJ33_bitCount_1 21 rfl rfl)
theorem dJ33_bitCount_46 : decode cJ33_bitCount 46 = .ok (.ladd, 1) := dk_97 (dk_at dksJ33_bitCount_1 22 rfl rfl)
theorem dJ33_bitCount_47 : decode cJ33_bitCount 47 = .ok (.lstore_n 0, 1) := dk_63 (dk_at dksJ33_bitCount_1 23 rfl rfl)
theorem dJ33_bitCount_48 : decode cJ33_bitCount 48 = .ok (.lload_n 0, 1) := dk_30 (dk_at dksJ33_bitCount_2 0 rfl rfl)
theorem dJ33_bitCount_49 : decode cJ33_bitCount 49 = .ok (.lload_n 0, 1) := dk_30 (dk_at dksJ33_bitCount_2 1 rfl rfl)
theorem dJ33_bitCount_50 : decode cJ33_bitCount 50 = .ok (.bipush 32, 2) := dk_16 32 (dk_at dksJ33_bitCount_2 2 rfl rfl)
theorem dJ33_bitCount_52 : decode cJ33_bitCount 52 = .ok (.lushr, 1) := dk_125 (dk_at dksJ33_bitCount_2 4 rfl rfl)
theorem dJ33_bitCount_53 : decode cJ33_bitCount 53 = .ok (.ladd, 1) := dk_97 (dk_at dksJ33_bitCount_2 5 rfl rfl)
theorem dJ33_bitCount_54 : decode cJ33_bitCount 54 = .ok (.lstore_n 0, 1) := dk_63 (dk_at dksJ33_bitCount_2 6 rfl rfl)
theorem dJ33_bitCount_55 : decode cJ33_bitCount 55 = .ok (.lload_n 0, 1) := dk_30 (dk_at dksJ33_bitCount_2 7 rfl rfl)
theorem dJ33_bitCount_56 : decode cJ33_bitCount 56 = .ok (.l2i, 1) := dk_136 (dk_at dksJ33_bitCount_2 8 rfl rfl)
theorem dJ33_bitCount_57 : decode cJ33_bitCount 57 = .ok (.bipush 127, 2) := dk_16 127 (dk_at dksJ33_bitCount_2 9 rfl rfl)
theorem dJ33_bitCount_59 : decode cJ33_bitCount 59 = .ok (.iand, 1) := dk_126 (dk_at dksJ33_bitCount_2 11 rfl rfl)
theorem dJ33_bitCount_60 : decode cJ33_bitCount 60 = .ok (.ireturn, 1) := dk_172 (dk_at dksJ33_bitCount_2 12 rfl rfl)
theorem q189 : (Jvm.Cond.initialized "java/lang/Long") ∈ lw_all := lw_g (lw_at lw_m1 41 rfl) rfl
theorem q1615 : (Jvm.Cond.static ({ cls := "java/lang/Long", name := "numberOfLeadingZeros", desc := "(J)I" } : Jvm.MethodName)) ∈ lw_all := lw_g (lw_at lw_m7 27 rfl) rfl
theorem q1616 : (Jvm.Cond.code ({ cls := "java/lang/Long", name := "numberOfLeadingZeros", desc := "(J)I" } : Jvm.MethodName) prog_35_method_48_code (3 : Nat) (Option.some Jvm.ClassFile.FieldType.int)) ∈ lw_all := lw_g (lw_at lw_m7 28 rfl) rfl
theorem q1617 : (Jvm.Cond.methodLink "java/lang/Long" (308 : Nat) ({ cls := "java/lang/Integer", name := "numberOfLeadingZeros", desc := "(I)I" } : Jvm.MethodName)) ∈ lw_all := lw_g (lw_at lw_m7 29 rfl) rfl
theorem q1621 : (Jvm.Cond.static ({ cls := "java/lang/Long", name := "numberOfTrailingZeros", desc := "(J)I" } : Jvm.MethodName)) ∈ lw_all := lw_g (lw_at lw_m7 33 rfl) rfl
theorem q1622 : (Jvm.Cond.code ({ cls := "java/lang/Long", name := "numberOfTrailingZeros", desc := "(J)I" } : Jvm.MethodName) prog_35_method_49_code (3 : Nat) (Option.some Jvm.ClassFile.FieldType.int)) ∈ lw_all := lw_g (lw_at lw_m7 34 rfl) rfl
theorem q1623 : (Jvm.Cond.methodLink "java/lang/Long" (311 : Nat) ({ cls := "java/lang/Integer", name := "numberOfTrailingZeros", desc := "(I)I" } : Jvm.MethodName)) ∈ lw_all := lw_g (lw_at lw_m7 35 rfl) rfl
theorem q3173 : (Jvm.Cond.static ({ cls := "java/lang/Long", name := "bitCount", desc := "(J)I" } : Jvm.MethodName)) ∈ lw_all := lw_g (lw_at lw_m13 145 rfl) rfl
theorem q3174 : (Jvm.Cond.code ({ cls := "java/lang/Long", name := "bitCount", desc := "(J)I" } : Jvm.MethodName) prog_35_method_50_code (2 : Nat) (Option.some Jvm.ClassFile.FieldType.int)) ∈ lw_all := lw_g (lw_at lw_m13 146 rfl) rfl
theorem q3175 : (Jvm.Cond.constantLong "java/lang/Long" (314 : Nat) (6148914691236517205 : Int64)) ∈ lw_all := lw_g (lw_at lw_m13 147 rfl) rfl
theorem q3176 : (Jvm.Cond.constantLong "java/lang/Long" (316 : Nat) (3689348814741910323 : Int64)) ∈ lw_all := lw_g (lw_at lw_m13 148 rfl) rfl
theorem q3177 : (Jvm.Cond.constantLong "java/lang/Long" (318 : Nat) (1085102592571150095 : Int64)) ∈ lw_all := lw_g (lw_at lw_m13 149 rfl) rfl

/-! java/util/BitSet -/
set_option maxRecDepth 100000
def RJ35 : String := "java/util/BitSet"
def TJ35 : u_T := fun k => match k with
  | 0 => ("java/util/BitSet", "words", "[J", false)
  | 1 => ("java/util/BitSet", "wordsInUse", "I", false)
  | _ => ("java/util/BitSet", "sizeIsSticky", "Z", false)
def tyJ35 : Nat → FieldType := fun k => match k with
  | 0 => .array .long
  | 1 => .int
  | _ => .boolean
abbrev wsJ350 : List Cond := u_ws RJ35 TJ35 3
theorem nmJ35 : ∀ a, a < 3 → ∀ b, b < 3 → a ≠ b → (TJ35 a).2.1 ≠ (TJ35 b).2.1 := by decide +kernel
theorem tyJ35_ok : ∀ k, k < 3 → parseFieldDescriptor (TJ35 k).2.2.1 = some (tyJ35 k) := by decide +kernel
abbrev cJ35_init : ByteArray := prog_56_method_5_code
def yJ35_init : MethodName := ⟨RJ35, "<init>", "(I)V"⟩
def dkwJ35_init_2 : List UInt8 := [27, 182, 0, 27, 42, 4, 181, 0, 24, 177]
abbrev dktJ35_init_2 : List UInt8 := dkwJ35_init_2 ++ []
def dkwJ35_init_1 : List UInt8 := [187, 0, 33, 89, 183, 0, 35, 18, 36, 182, 0, 38, 27, 182, 0, 42, 182, 0, 45, 183, 0, 49, 191, 42]
abbrev dktJ35_init_1 : List UInt8 := dkwJ35_init_1 ++ dktJ35_init_2
def dkwJ35_init_0 : List UInt8 := [42, 183, 0, 21, 42, 3, 181, 0, 7, 42, 3, 181, 0, 24, 27, 156, 0, 30, 187, 0, 31, 89]
abbrev dktJ35_init_0 : List UInt8 := dkwJ35_init_0 ++ dktJ35_init_1
theorem dksJ35_init_0 : cJ35_init.data.toList.drop 0 = dktJ35_init_0 := by decide +kernel
theorem dksJ35_init_1 : cJ35_init.data.toList.drop 22 = dktJ35_init_1 := dk_seg dksJ35_init_0 22 rfl rfl
theorem dksJ35_init_2 : cJ35_init.data.toList.drop 46 = dktJ35_init_2 := dk_seg dksJ35_init_1 24 rfl rfl
theorem dJ35_init_0 : decode cJ35_init 0 = .ok (.aload_n 0, 1) := dk_42 (dk_at dksJ35_init_0 0 rfl rfl)
theorem dJ35_init_1 : decode cJ35_init 1 = .ok (.invokespecial 21, 3) := dk_183 0 21 (dk_at dksJ35_init_0 1 rfl rfl)
theorem dJ35_init_4 : decode cJ35_init 4 = .ok (.aload_n 0, 1) := dk_42 (dk_at dksJ35_init_0 4 rfl rfl)
theorem dJ35_init_5 : decode cJ35_init 5 = .ok (.iconst 0, 1) := dk_3 (dk_at dksJ35_init_0 5 rfl rfl)
theorem dJ35_init_6 : decode cJ35_init 6 = .ok (.putfield 7, 3) := dk_181 0 7 (dk_at dksJ35_init_0 6 rfl rfl)
theorem dJ35_init_9 : decode cJ35_init 9 = .ok (.aload_n 0, 1) := dk_42 (dk_at dksJ35_init_0 9 rfl rfl)
theorem dJ35_init_10 : decode cJ35_init 10 = .ok (.iconst 0, 1) := dk_3 (dk_at dksJ35_init_0 10 rfl rfl)
theorem dJ35_init_11 : decode cJ35_init 11 = .ok (.putfield 24, 3) := dk_181 0 24 (dk_at dksJ35_init_0 11 rfl rfl)
theorem dJ35_init_14 : decode cJ35_init 14 = .ok (.iload_n 1, 1) := dk_27 (dk_at dksJ35_init_0 14 rfl rfl)
theorem dJ35_init_15 : decode cJ35_init 15 = .ok (.ifCond .ge 30, 3) := dk_156 0 30 (dk_at dksJ35_init_0 15 rfl rfl)
theorem dJ35_init_18 : decode cJ35_init 18 = .ok (.new 31, 3) := dk_187 0 31 (dk_at dksJ35_init_0 18 rfl rfl)
theorem dJ35_init_21 : decode cJ35_init 21 = .ok (.dup, 1) := dk_89 (dk_at dksJ35_init_0 21 rfl rfl)
theorem dJ35_init_22 : decode cJ35_init 22 = .ok (.new 33, 3) := dk_187 0 33 (dk_at dksJ35_init_1 0 rfl rfl)
theorem dJ35_init_25 : decode cJ35_init 25 = .ok (.dup, 1) := dk_89 (dk_at dksJ35_init_1 3 rfl rfl)
theorem dJ35_init_26 : decode cJ35_init 26 = .ok (.invokespecial 35, 3) := dk_183 0 35 (dk_at dksJ35_init_1 4 rfl rfl)
theorem dJ35_init_29 : decode cJ35_init 29 = .ok (.ldc 36, 2) := dk_18 36 (dk_at dksJ35_init_1 7 rfl rfl)
theorem dJ35_init_31 : decode cJ35_init 31 = .ok (.invokevirtual 38, 3) := dk_182 0 38 (dk_at dksJ35_init_1 9 rfl rfl)
theorem dJ35_init_34 : decode cJ35_init 34 = .ok (.iload_n 1, 1) := dk_27 (dk_at dksJ35_init_1 12 rfl rfl)
theorem dJ35_init_35 : decode cJ35_init 35 = .ok (.invokevirtual 42, 3) := dk_182 0 42 (dk_at dksJ35_init_1 13 rfl rfl)
theorem dJ35_init_38 : decode cJ35_init 38 = .ok (.invokevirtual 45, 3) := dk_182 0 45 (dk_at dksJ35_init_1 16 rfl rfl)
theorem dJ35_init_41 : decode cJ35_init 41 = .ok (.invokespecial 49, 3) := dk_183 0 49 (dk_at dksJ35_init_1 19 rfl rfl)
theorem dJ35_init_44 : decode cJ35_init 44 = .ok (.athrow, 1) := dk_191 (dk_at dksJ35_init_1 22 rfl rfl)
theorem dJ35_init_45 : decode cJ35_init 45 = .ok (.aload_n 0, 1) := dk_42 (dk_at dksJ35_init_1 23 rfl rfl)
theorem dJ35_init_46 : decode cJ35_init 46 = .ok (.iload_n 1, 1) := dk_27 (dk_at dksJ35_init_2 0 rfl rfl)
theorem dJ35_init_47 : decode cJ35_init 47 = .ok (.invokevirtual 27, 3) := dk_182 0 27 (dk_at dksJ35_init_2 1 rfl rfl)
theorem dJ35_init_50 : decode cJ35_init 50 = .ok (.aload_n 0, 1) := dk_42 (dk_at dksJ35_init_2 4 rfl rfl)
theorem dJ35_init_51 : decode cJ35_init 51 = .ok (.iconst 1, 1) := dk_4 (dk_at dksJ35_init_2 5 rfl rfl)
theorem dJ35_init_52 : decode cJ35_init 52 = .ok (.putfield 24, 3) := dk_181 0 24 (dk_at dksJ35_init_2 6 rfl rfl)
theorem dJ35_init_55 : decode cJ35_init 55 = .ok (.return_, 1) := dk_177 (dk_at dksJ35_init_2 9 rfl rfl)
abbrev cJ35_initWords : ByteArray := prog_56_method_6_code
def yJ35_initWords : MethodName := ⟨RJ35, "initWords", "(I)V"⟩
def dkwJ35_initWords_0 : List UInt8 := [42, 27, 4, 100, 184, 0, 52, 4, 96, 188, 11, 181, 0, 11, 177]
abbrev dktJ35_initWords_0 : List UInt8 := dkwJ35_initWords_0 ++ []
theorem dksJ35_initWords_0 : cJ35_initWords.data.toList.drop 0 = dktJ35_initWords_0 := by decide +kernel
theorem dJ35_initWords_0 : decode cJ35_initWords 0 = .ok (.aload_n 0, 1) := dk_42 (dk_at dksJ35_initWords_0 0 rfl rfl)
theorem dJ35_initWords_1 : decode cJ35_initWords 1 = .ok (.iload_n 1, 1) := dk_27 (dk_at dksJ35_initWords_0 1 rfl rfl)
theorem dJ35_initWords_2 : decode cJ35_initWords 2 = .ok (.iconst 1, 1) := dk_4 (dk_at dksJ35_initWords_0 2 rfl rfl)
theorem dJ35_initWords_3 : decode cJ35_initWords 3 = .ok (.isub, 1) := dk_100 (dk_at dksJ35_initWords_0 3 rfl rfl)
theorem dJ35_initWords_4 : decode cJ35_initWords 4 = .ok (.invokestatic 52, 3) := dk_184 0 52 (dk_at dksJ35_initWords_0 4 rfl rfl)
theorem dJ35_initWords_7 : decode cJ35_initWords 7 = .ok (.iconst 1, 1) := dk_4 (dk_at dksJ35_initWords_0 7 rfl rfl)
theorem dJ35_initWords_8 : decode cJ35_initWords 8 = .ok (.iadd, 1) := dk_96 (dk_at dksJ35_initWords_0 8 rfl rfl)
theorem dJ35_initWords_9 : decode cJ35_initWords 9 = .ok (.newarray .long, 2) := dk_188_11 (dk_at dksJ35_initWords_0 9 rfl rfl)
theorem dJ35_initWords_11 : decode cJ35_initWords 11 = .ok (.putfield 11, 3) := dk_181 0 11 (dk_at dksJ35_initWords_0 11 rfl rfl)
theorem dJ35_initWords_14 : decode cJ35_initWords 14 = .ok (.return_, 1) := dk_177 (dk_at dksJ35_initWords_0 14 rfl rfl)
abbrev cJ35_wordIndex : ByteArray := prog_56_method_1_code
def yJ35_wordIndex : MethodName := ⟨RJ35, "wordIndex", "(I)I"⟩
def dkwJ35_wordIndex_0 : List UInt8 := [26, 16, 6, 122, 172]
abbrev dktJ35_wordIndex_0 : List UInt8 := dkwJ35_wordIndex_0 ++ []
theorem dksJ35_wordIndex_0 : cJ35_wordIndex.data.toList.drop 0 = dktJ35_wordIndex_0 := by decide +kernel
theorem dJ35_wordIndex_0 : decode cJ35_wordIndex 0 = .ok (.iload_n 0, 1) := dk_26 (dk_at dksJ35_wordIndex_0 0 rfl rfl)
theorem dJ35_wordIndex_1 : decode cJ35_wordIndex 1 = .ok (.bipush 6, 2) := dk_16 6 (dk_at dksJ35_wordIndex_0 1 rfl rfl)
theorem dJ35_wordIndex_3 : decode cJ35_wordIndex 3 = .ok (.ishr, 1) := dk_122 (dk_at dksJ35_wordIndex_0 3 rfl rfl)
theorem dJ35_wordIndex_4 : decode cJ35_wordIndex 4 = .ok (.ireturn, 1) := dk_172 (dk_at dksJ35_wordIndex_0 4 rfl rfl)
abbrev cJ35_set : ByteArray := prog_56_method_19_code
def yJ35_set : MethodName := ⟨RJ35, "set", "(I)V"⟩
def dkwJ35_set_2 : List UInt8 := [10, 27, 121, 129, 80, 42, 182, 0, 56, 177]
abbrev dktJ35_set_2 : List UInt8 := dkwJ35_set_2 ++ []
def dkwJ35_set_1 : List UInt8 := [182, 0, 45, 183, 0, 146, 191, 27, 184, 0, 52, 61, 42, 28, 182, 0, 155, 42, 180, 0, 11, 28, 92, 47]
abbrev dktJ35_set_1 : List UInt8 := dkwJ35_set_1 ++ dktJ35_set_2
def dkwJ35_set_0 : List UInt8 := [27, 156, 0, 30, 187, 0, 142, 89, 187, 0, 33, 89, 183, 0, 35, 18, 153, 182, 0, 38, 27, 182, 0, 42]
abbrev dktJ35_set_0 : List UInt8 := dkwJ35_set_0 ++ dktJ35_set_1
theorem dksJ35_set_0 : cJ35_set.data.toList.drop 0 = dktJ35_set_0 := by decide +kernel
theorem dksJ35_set_1 : cJ35_set.data.toList.drop 24 = dktJ35_set_1 := dk_seg dksJ35_set_0 24 rfl rfl
theorem dksJ35_set_2 : cJ35_set.data.toList.drop 48 = dktJ35_set_2 := dk_seg dksJ35_set_1 24 rfl rfl
theorem dJ35_set_0 : decode cJ35_set 0 = .ok (.iload_n 1, 1) := dk_27 (dk_at dksJ35_set_0 0 rfl rfl)
theorem dJ35_set_1 : decode cJ35_set 1 = .ok (.ifCond .ge 30, 3) := dk_156 0 30 (dk_at dksJ35_set_0 1 rfl rfl)
theorem dJ35_set_4 : decode cJ35_set 4 = .ok (.new 142, 3) := dk_187 0 142 (dk_at dksJ35_set_0 4 rfl rfl)
theorem dJ35_set_7 : decode cJ35_set 7 = .ok (.dup, 1) := dk_89 (dk_at dksJ35_set_0 7 rfl rfl)
theorem dJ35_set_8 : decode cJ35_set 8 = .ok (.new 33, 3) := dk_187 0 33 (dk_at dksJ35_set_0 8 rfl rfl)
theorem dJ35_set_11 : decode cJ35_set 11 = .ok (.dup, 1) := dk_89 (dk_at dksJ35_set_0 11 rfl rfl)
theorem dJ35_set_12 : decode cJ35_set 12 = .ok (.invokespecial 35, 3) := dk_183 0 35 (dk_at dksJ35_set_0 12 rfl rfl)
theorem dJ35_set_15 : decode cJ35_set 15 = .ok (.ldc 153, 2) := dk_18 153 (dk_at dksJ35_set_0 15 rfl rfl)
theorem dJ35_set_17 : decode cJ35_set 17 = .ok (.invokevirtual 38, 3) := dk_182 0 38 (dk_at dksJ35_set_0 17 rfl rfl)
theorem dJ35_set_20 : decode cJ35_set 20 = .ok (.iload_n 1, 1) := dk_27 (dk_at dksJ35_set_0 20 rfl rfl)
theorem dJ35_set_21 : decode cJ35_set 21 = .ok (.invokevirtual 42, 3) := dk_182 0 42 (dk_at dksJ35_set_0 21 rfl rfl)
theorem dJ35_set_24 : decode cJ35_set 24 = .ok (.invokevirtual 45, 3) := dk_182 0 45 (dk_at dksJ35_set_1 0 rfl rfl)
theorem dJ35_set_27 : decode cJ35_set 27 = .ok (.invokespecial 146, 3) := dk_183 0 146 (dk_at dksJ35_set_1 3 rfl rfl)
theorem dJ35_set_30 : decode cJ35_set 30 = .ok (.athrow, 1) := dk_191 (dk_at dksJ35_set_1 6 rfl rfl)
theorem dJ35_set_31 : decode cJ35_set 31 = .ok (.iload_n 1, 1) := dk_27 (dk_at dksJ35_set_1 7 rfl rfl)
theorem dJ35_set_32 : decode cJ35_set 32 = .ok (.invokestatic 52, 3) := dk_184 0 52 (dk_at dksJ35_set_1 8 rfl rfl)
theorem dJ35_set_35 : decode cJ35_set 35 = .ok (.istore_n 2, 1) := dk_61 (dk_at dksJ35_set_1 11 rfl rfl)
theorem dJ35_set_36 : decode cJ35_set 36 = .ok (.aload_n 0, 1) := dk_42 (dk_at dksJ35_set_1 12 rfl rfl)
theorem dJ35_set_37 : decode cJ35_set 37 = .ok (.iload_n 2, 1) := dk_28 (dk_at dksJ35_set_1 13 rfl rfl)
theorem dJ35_set_38 : decode cJ35_set 38 = .ok (.invokevirtual 155, 3) := dk_182 0 155 (dk_at dksJ35_set_1 14 rfl rfl)
theorem dJ35_set_41 : decode cJ35_set 41 = .ok (.aload_n 0, 1) := dk_42 (dk_at dksJ35_set_1 17 rfl rfl)
theorem dJ35_set_42 : decode cJ35_set 42 = .ok (.getfield 11, 3) := dk_180 0 11 (dk_at dksJ35_set_1 18 rfl rfl)
theorem dJ35_set_45 : decode cJ35_set 45 = .ok (.iload_n 2, 1) := dk_28 (dk_at dksJ35_set_1 21 rfl rfl)
theorem dJ35_set_46 : decode cJ35_set 46 = .ok (.dup2, 1) := dk_92 (dk_at dksJ35_set_1 22 rfl rfl)
theorem dJ35_set_47 : decode cJ35_set 47 = .ok (.laload, 1) := dk_47 (dk_at dksJ35_set_1 23 rfl rfl)
theorem dJ35_set_48 : decode cJ35_set 48 = .ok (.lconst 1, 1) := dk_10 (dk_at dksJ35_set_2 0 rfl rfl)
theorem dJ35_set_49 : decode cJ35_set 49 = .ok (.iload_n 1, 1) := dk_27 (dk_at dksJ35_set_2 1 rfl rfl)
theorem dJ35_set_50 : decode cJ35_set 50 = .ok (.lshl, 1) := dk_121 (dk_at dksJ35_set_2 2 rfl rfl)
theorem dJ35_set_51 : decode cJ35_set 51 = .ok (.lor, 1) := dk_129 (dk_at dksJ35_set_2 3 rfl rfl)
theorem dJ35_set_52 : decode cJ35_set 52 = .ok (.lastore, 1) := dk_80 (dk_at dksJ35_set_2 4 rfl rfl)
theorem dJ35_set_53 : decode cJ35_set 53 = .ok (.aload_n 0, 1) := dk_42 (dk_at dksJ35_set_2 5 rfl rfl)
theorem dJ35_set_54 : decode cJ35_set 54 = .ok (.invokevirtual 56, 3) := dk_182 0 56 (dk_at dksJ35_set_2 6 rfl rfl)
theorem dJ35_set_57 : decode cJ35_set 57 = .ok (.return_, 1) := dk_177 (dk_at dksJ35_set_2 9 rfl rfl)
abbrev cJ35_expandTo : ByteArray := prog_56_method_15_code
def yJ35_expandTo : MethodName := ⟨RJ35, "expandTo", "(I)V"⟩
def dkwJ35_expandTo_0 : List UInt8 := [27, 4, 96, 61, 42, 180, 0, 7, 28, 162, 0, 13, 42, 28, 182, 0, 139, 42, 28, 181, 0, 7, 177]
abbrev dktJ35_expandTo_0 : List UInt8 := dkwJ35_expandTo_0 ++ []
theorem dksJ35_expandTo_0 : cJ35_expandTo.data.toList.drop 0 = dktJ35_expandTo_0 := by decide +kernel
theorem dJ35_expandTo_0 : decode cJ35_expandTo 0 = .ok (.iload_n 1, 1) := dk_27 (dk_at dksJ35_expandTo_0 0 rfl rfl)
theorem dJ35_expandTo_1 : decode cJ35_expandTo 1 = .ok (.iconst 1, 1) := dk_4 (dk_at dksJ35_expandTo_0 1 rfl rfl)
theorem dJ35_expandTo_2 : decode cJ35_expandTo 2 = .ok (.iadd, 1) := dk_96 (dk_at dksJ35_expandTo_0 2 rfl rfl)
theorem dJ35_expandTo_3 : decode cJ35_expandTo 3 = .ok (.istore_n 2, 1) := dk_61 (dk_at dksJ35_expandTo_0 3 rfl rfl)
theorem dJ35_expandTo_4 : decode cJ35_expandTo 4 = .ok (.aload_n 0, 1) := dk_42 (dk_at dksJ35_expandTo_0 4 rfl rfl)
theorem dJ35_expandTo_5 : decode cJ35_expandTo 5 = .ok (.getfield 7, 3) := dk_180 0 7 (dk_at dksJ35_expandTo_0 5 rfl rfl)
theorem dJ35_expandTo_8 : decode cJ35_expandTo 8 = .ok (.iload_n 2, 1) := dk_28 (dk_at dksJ35_expandTo_0 8 rfl rfl)
theorem dJ35_expandTo_9 : decode cJ35_expandTo 9 = .ok (.if_icmp .ge 13, 3) := dk_162 0 13 (dk_at dksJ35_expandTo_0 9 rfl rfl)
theorem dJ35_expandTo_12 : decode cJ35_expandTo 12 = .ok (.aload_n 0, 1) := dk_42 (dk_at dksJ35_expandTo_0 12 rfl rfl)
theorem dJ35_expandTo_13 : decode cJ35_expandTo 13 = .ok (.iload_n 2, 1) := dk_28 (dk_at dksJ35_expandTo_0 13 rfl rfl)
theorem dJ35_expandTo_14 : decode cJ35_expandTo 14 = .ok (.invokevirtual 139, 3) := dk_182 0 139 (dk_at dksJ35_expandTo_0 14 rfl rfl)
theorem dJ35_expandTo_17 : decode cJ35_expandTo 17 = .ok (.aload_n 0, 1) := dk_42 (dk_at dksJ35_expandTo_0 17 rfl rfl)
theorem dJ35_expandTo_18 : decode cJ35_expandTo 18 = .ok (.iload_n 2, 1) := dk_28 (dk_at dksJ35_expandTo_0 18 rfl rfl)
theorem dJ35_expandTo_19 : decode cJ35_expandTo 19 = .ok (.putfield 7, 3) := dk_181 0 7 (dk_at dksJ35_expandTo_0 19 rfl rfl)
theorem dJ35_expandTo_22 : decode cJ35_expandTo 22 = .ok (.return_, 1) := dk_177 (dk_at dksJ35_expandTo_0 22 rfl rfl)
abbrev cJ35_ensureCapacity : ByteArray := prog_56_method_14_code
def yJ35_ensureCapacity : MethodName := ⟨RJ35, "ensureCapacity", "(I)V"⟩
def dkwJ35_ensureCapacity_1 : List UInt8 := [180, 0, 11, 28, 184, 0, 59, 181, 0, 11, 42, 3, 181, 0, 24, 177]
abbrev dktJ35_ensureCapacity_1 : List UInt8 := dkwJ35_ensureCapacity_1 ++ []
def dkwJ35_ensureCapacity_0 : List UInt8 := [42, 180, 0, 11, 190, 27, 162, 0, 32, 5, 42, 180, 0, 11, 190, 104, 27, 184, 0, 133, 61, 42, 42]
abbrev dktJ35_ensureCapacity_0 : List UInt8 := dkwJ35_ensureCapacity_0 ++ dktJ35_ensureCapacity_1
theorem dksJ35_ensureCapacity_0 : cJ35_ensureCapacity.data.toList.drop 0 = dktJ35_ensureCapacity_0 := by decide +kernel
theorem dksJ35_ensureCapacity_1 : cJ35_ensureCapacity.data.toList.drop 23 = dktJ35_ensureCapacity_1 := dk_seg dksJ35_ensureCapacity_0 23 rfl rfl
theorem dJ35_ensureCapacity_0 : decode cJ35_ensureCapacity 0 = .ok (.aload_n 0, 1) := dk_42 (dk_at dksJ35_ensureCapacity_0 0 rfl rfl)
theorem dJ35_ensureCapacity_1 : decode cJ35_ensureCapacity 1 = .ok (.getfield 11, 3) := dk_180 0 11 (dk_at dksJ35_ensureCapacity_0 1 rfl rfl)
theorem dJ35_ensureCapacity_4 : decode cJ35_ensureCapacity 4 = .ok (.arraylength, 1) := dk_190 (dk_at dksJ35_ensureCapacity_0 4 rfl rfl)
theorem dJ35_ensureCapacity_5 : decode cJ35_ensureCapacity 5 = .ok (.iload_n 1, 1) := dk_27 (dk_at dksJ35_ensureCapacity_0 5 rfl rfl)
theorem dJ35_ensureCapacity_6 : decode cJ35_ensureCapacity 6 = .ok (.if_icmp .ge 32, 3) := dk_162 0 32 (dk_at dksJ35_ensureCapacity_0 6 rfl rfl)
theorem dJ35_ensureCapacity_9 : decode cJ35_ensureCapacity 9 = .ok (.iconst 2, 1) := dk_5 (dk_at dksJ35_ensureCapacity_0 9 rfl rfl)
theorem dJ35_ensureCapacity_10 : decode cJ35_ensureCapacity 10 = .ok (.aload_n 0, 1) := dk_42 (dk_at dksJ35_ensureCapacity_0 10 rfl rfl)
theorem dJ35_ensureCapacity_11 : decode cJ35_ensureCapacity 11 = .ok (.getfield 11, 3) := dk_180 0 11 (dk_at dksJ35_ensureCapacity_0 11 rfl rfl)
theorem dJ35_ensureCapacity_14 : decode cJ35_ensureCapacity 14 = .ok (.arraylength, 1) := dk_190 (dk_at dksJ35_ensureCapacity_0 14 rfl rfl)
theorem dJ35_ensureCapacity_15 : decode cJ35_ensureCapacity 15 = .ok (.imul, 1) := dk_104 (dk_at dksJ35_ensureCapacity_0 15 rfl rfl)
theorem dJ35_ensureCapacity_16 : decode cJ35_ensureCapacity 16 = .ok (.iload_n 1, 1) := dk_27 (dk_at dksJ35_ensureCapacity_0 16 rfl rfl)
theorem dJ35_ensureCapacity_17 : decode cJ35_ensureCapacity 17 = .ok (.invokestatic 133, 3) := dk_184 0 133 (dk_at dksJ35_ensureCapacity_0 17 rfl rfl)
theorem dJ35_ensureCapacity_20 : decode cJ35_ensureCapacity 20 = .ok (.istore_n 2, 1) := dk_61 (dk_at dksJ35_ensureCapacity_0 20 rfl rfl)
theorem dJ35_ensureCapacity_21 : decode cJ35_ensureCapacity 21 = .ok (.aload_n 0, 1) := dk_42 (dk_at dksJ35_ensureCapacity_0 21 rfl rfl)
theorem dJ35_ensureCapacity_22 : decode cJ35_ensureCapacity 22 = .ok (.aload_n 0, 1) := dk_42 (dk_at dksJ35_ensureCapacity_0 22 rfl rfl)
theorem dJ35_ensureCapacity_23 : decode cJ35_ensureCapacity 23 = .ok (.getfield 11, 3) := dk_180 0 11 (dk_at dksJ35_ensureCapacity_1 0 rfl rfl)
theorem dJ35_ensureCapacity_26 : decode cJ35_ensureCapacity 26 = .ok (.iload_n 2, 1) := dk_28 (dk_at dksJ35_ensureCapacity_1 3 rfl rfl)
theorem dJ35_ensureCapacity_27 : decode cJ35_ensureCapacity 27 = .ok (.invokestatic 59, 3) := dk_184 0 59 (dk_at dksJ35_ensureCapacity_1 4 rfl rfl)
theorem dJ35_ensureCapacity_30 : decode cJ35_ensureCapacity 30 = .ok (.putfield 11, 3) := dk_181 0 11 (dk_at dksJ35_ensureCapacity_1 7 rfl rfl)
theorem dJ35_ensureCapacity_33 : decode cJ35_ensureCapacity 33 = .ok (.aload_n 0, 1) := dk_42 (dk_at dksJ35_ensureCapacity_1 10 rfl rfl)
theorem dJ35_ensureCapacity_34 : decode cJ35_ensureCapacity 34 = .ok (.iconst 0, 1) := dk_3 (dk_at dksJ35_ensureCapacity_1 11 rfl rfl)
theorem dJ35_ensureCapacity_35 : decode cJ35_ensureCapacity 35 = .ok (.putfield 24, 3) := dk_181 0 24 (dk_at dksJ35_ensureCapacity_1 12 rfl rfl)
theorem dJ35_ensureCapacity_38 : decode cJ35_ensureCapacity 38 = .ok (.return_, 1) := dk_177 (dk_at dksJ35_ensureCapacity_1 15 rfl rfl)
abbrev cJ35_checkInvariants : ByteArray := prog_56_method_2_code
def yJ35_checkInvariants : MethodName := ⟨RJ35, "checkInvariants", "()V"⟩
def dkwJ35_checkInvariants_4 : List UInt8 := [180, 0, 7, 47, 9, 148, 153, 0, 11, 187, 0, 15, 89, 183, 0, 17, 191, 177]
abbrev dktJ35_checkInvariants_4 : List UInt8 := dkwJ35_checkInvariants_4 ++ []
def dkwJ35_checkInvariants_3 : List UInt8 := [178, 0, 3, 154, 0, 37, 42, 180, 0, 7, 42, 180, 0, 11, 190, 159, 0, 25, 42, 180, 0, 11, 42]
abbrev dktJ35_checkInvariants_3 : List UInt8 := dkwJ35_checkInvariants_3 ++ dktJ35_checkInvariants_4
def dkwJ35_checkInvariants_2 : List UInt8 := [155, 0, 15, 42, 180, 0, 7, 42, 180, 0, 11, 190, 164, 0, 11, 187, 0, 15, 89, 183, 0, 17, 191]
abbrev dktJ35_checkInvariants_2 : List UInt8 := dkwJ35_checkInvariants_2 ++ dktJ35_checkInvariants_3
def dkwJ35_checkInvariants_1 : List UInt8 := [9, 148, 154, 0, 11, 187, 0, 15, 89, 183, 0, 17, 191, 178, 0, 3, 154, 0, 30, 42, 180, 0, 7]
abbrev dktJ35_checkInvariants_1 : List UInt8 := dkwJ35_checkInvariants_1 ++ dktJ35_checkInvariants_2
def dkwJ35_checkInvariants_0 : List UInt8 := [178, 0, 3, 154, 0, 34, 42, 180, 0, 7, 153, 0, 27, 42, 180, 0, 11, 42, 180, 0, 7, 4, 100, 47]
abbrev dktJ35_checkInvariants_0 : List UInt8 := dkwJ35_checkInvariants_0 ++ dktJ35_checkInvariants_1
theorem dksJ35_checkInvariants_0 : cJ35_checkInvariants.data.toList.drop 0 = dktJ35_checkInvariants_0 := by decide +kernel
theorem dksJ35_checkInvariants_1 : cJ35_checkInvariants.data.toList.drop 24 = dktJ35_checkInvariants_1 := dk_seg dksJ35_checkInvariants_0 24 rfl rfl
theorem dksJ35_checkInvariants_2 : cJ35_checkInvariants.data.toList.drop 47 = dktJ35_checkInvariants_2 := dk_seg dksJ35_checkInvariants_1 23 rfl rfl
theorem dksJ35_checkInvariants_3 : cJ35_checkInvariants.data.toList.drop 70 = dktJ35_checkInvariants_3 := dk_seg dksJ35_checkInvariants_2 23 rfl rfl
theorem dksJ35_checkInvariants_4 : cJ35_checkInvariants.data.toList.drop 93 = dktJ35_checkInvariants_4 := dk_seg dksJ35_checkInvariants_3 23 rfl rfl
theorem dJ35_checkInvariants_0 : decode cJ35_checkInvariants 0 = .ok (.getstatic 3, 3) := dk_178 0 3 (dk_at dksJ35_checkInvariants_0 0 rfl rfl)
theorem dJ35_checkInvariants_3 : decode cJ35_checkInvariants 3 = .ok (.ifCond .ne 34, 3) := dk_154 0 34 (dk_at dksJ35_checkInvariants_0 3 rfl rfl)
theorem dJ35_checkInvariants_6 : decode cJ35_checkInvariants 6 = .ok (.aload_n 0, 1) := dk_42 (dk_at dksJ35_checkInvariants_0 6 rfl rfl)
theorem dJ35_checkInvariants_7 : decode cJ35_checkInvariants 7 = .ok (.getfield 7, 3) := dk_180 0 7 (dk_at dksJ35_checkInvariants_0 7 rfl rfl)
theorem dJ35_checkInvariants_10 : decode cJ35_checkInvariants 10 = .ok (.ifCond .eq 27, 3) := dk_153 0 27 (dk_at dksJ35_checkInvariants_0 10 rfl rfl)
theorem dJ35_checkInvariants_13 : decode cJ35_checkInvariants 13 = .ok (.aload_n 0, 1) := dk_42 (dk_at dksJ35_checkInvariants_0 13 rfl rfl)
theorem dJ35_checkInvariants_14 : decode cJ35_checkInvariants 14 = .ok (.getfield 11, 3) := dk_180 0 11 (dk_at dksJ35_checkInvariants_0 14 rfl rfl)
theorem dJ35_checkInvariants_17 : decode cJ35_checkInvariants 17 = .ok (.aload_n 0, 1) := dk_42 (dk_at dksJ35_checkInvariants_0 17 rfl rfl)
theorem dJ35_checkInvariants_18 : decode cJ35_checkInvariants 18 = .ok (.getfield 7, 3) := dk_180 0 7 (dk_at dksJ35_checkInvariants_0 18 rfl rfl)
theorem dJ35_checkInvariants_21 : decode cJ35_checkInvariants 21 = .ok (.iconst 1, 1) := dk_4 (dk_at dksJ35_checkInvariants_0 21 rfl rfl)
theorem dJ35_checkInvariants_22 : decode cJ35_checkInvariants 22 = .ok (.isub, 1) := dk_100 (dk_at dksJ35_checkInvariants_0 22 rfl rfl)
theorem dJ35_checkInvariants_23 : decode cJ35_checkInvariants 23 = .ok (.laload, 1) := dk_47 (dk_at dksJ35_checkInvariants_0 23 rfl rfl)
theorem dJ35_checkInvariants_24 : decode cJ35_checkInvariants 24 = .ok (.lconst 0, 1) := dk_9 (dk_at dksJ35_checkInvariants_1 0 rfl rfl)
theorem dJ35_checkInvariants_25 : decode cJ35_checkInvariants 25 = .ok (.lcmp, 1) := dk_148 (dk_at dksJ35_checkInvariants_1 1 rfl rfl)
theorem dJ35_checkInvariants_26 : decode cJ35_checkInvariants 26 = .ok (.ifCond .ne 11, 3) := dk_154 0 11 (dk_at dksJ35_checkInvariants_1 2 rfl rfl)
theorem dJ35_checkInvariants_29 : decode cJ35_checkInvariants 29 = .ok (.new 15, 3) := dk_187 0 15 (dk_at dksJ35_checkInvariants_1 5 rfl rfl)
theorem dJ35_checkInvariants_32 : decode cJ35_checkInvariants 32 = .ok (.dup, 1) := dk_89 (dk_at dksJ35_checkInvariants_1 8 rfl rfl)
theorem dJ35_checkInvariants_33 : decode cJ35_checkInvariants 33 = .ok (.invokespecial 17, 3) := dk_183 0 17 (dk_at dksJ35_checkInvariants_1 9 rfl rfl)
theorem dJ35_checkInvariants_36 : decode cJ35_checkInvariants 36 = .ok (.athrow, 1) := dk_191 (dk_at dksJ35_checkInvariants_1 12 rfl rfl)
theorem dJ35_checkInvariants_37 : decode cJ35_checkInvariants 37 = .ok (.getstatic 3, 3) := dk_178 0 3 (dk_at dksJ35_checkInvariants_1 13 rfl rfl)
theorem dJ35_checkInvariants_40 : decode cJ35_checkInvariants 40 = .ok (.ifCond .ne 30, 3) := dk_154 0 30 (dk_at dksJ35_checkInvariants_1 16 rfl rfl)
theorem dJ35_checkInvariants_43 : decode cJ35_checkInvariants 43 = .ok (.aload_n 0, 1) := dk_42 (dk_at dksJ35_checkInvariants_1 19 rfl rfl)
theorem dJ35_checkInvariants_44 : decode cJ35_checkInvariants 44 = .ok (.getfield 7, 3) := dk_180 0 7 (dk_at dksJ35_checkInvariants_1 20 rfl rfl)
theorem dJ35_checkInvariants_47 : decode cJ35_checkInvariants 47 = .ok (.ifCond .lt 15, 3) := dk_155 0 15 (dk_at dksJ35_checkInvariants_2 0 rfl rfl)
theorem dJ35_checkInvariants_50 : decode cJ35_checkInvariants 50 = .ok (.aload_n 0, 1) := dk_42 (dk_at dksJ35_checkInvariants_2 3 rfl rfl)
theorem dJ35_checkInvariants_51 : decode cJ35_checkInvariants 51 = .ok (.getfield 7, 3) := dk_180 0 7 (dk_at dksJ35_checkInvariants_2 4 rfl rfl)
theorem dJ35_checkInvariants_54 : decode cJ35_checkInvariants 54 = .ok (.aload_n 0, 1) := dk_42 (dk_at dksJ35_checkInvariants_2 7 rfl rfl)
theorem dJ35_checkInvariants_55 : decode cJ35_checkInvariants 55 = .ok (.getfield 11, 3) := dk_180 0 11 (dk_at dksJ35_checkInvariants_2 8 rfl rfl)
theorem dJ35_checkInvariants_58 : decode cJ35_checkInvariants 58 = .ok (.arraylength, 1) := dk_190 (dk_at dksJ35_checkInvariants_2 11 rfl rfl)
theorem dJ35_checkInvariants_59 : decode cJ35_checkInvariants 59 = .ok (.if_icmp .le 11, 3) := dk_164 0 11 (dk_at dksJ35_checkInvariants_2 12 rfl rfl)
theorem dJ35_checkInvariants_62 : decode cJ35_checkInvariants 62 = .ok (.new 15, 3) := dk_187 0 15 (dk_at dksJ35_checkInvariants_2 15 rfl rfl)
theorem dJ35_checkInvariants_65 : decode cJ35_checkInvariants 65 = .ok (.dup, 1) := dk_89 (dk_at dksJ35_checkInvariants_2 18 rfl rfl)
theorem dJ35_checkInvariants_66 : decode cJ35_checkInvariants 66 = .ok (.invokespecial 17, 3) := dk_183 0 17 (dk_at dksJ35_checkInvariants_2 19 rfl rfl)
theorem dJ35_checkInvariants_69 : decode cJ35_checkInvariants 69 = .ok (.athrow, 1) := dk_191 (dk_at dksJ35_checkInvariants_2 22 rfl rfl)
theorem dJ35_checkInvariants_70 : decode cJ35_checkInvariants 70 = .ok (.getstatic 3, 3) := dk_178 0 3 (dk_at dksJ35_checkInvariants_3 0 rfl rfl)
theorem dJ35_checkInvariants_73 : decode cJ35_checkInvariants 73 = .ok (.ifCond .ne 37, 3) := dk_154 0 37 (dk_at dksJ35_checkInvariants_3 3 rfl rfl)
theorem dJ35_checkInvariants_76 : decode cJ35_checkInvariants 76 = .ok (.aload_n 0, 1) := dk_42 (dk_at dksJ35_checkInvariants_3 6 rfl rfl)
theorem dJ35_checkInvariants_77 : decode cJ35_checkInvariants 77 = .ok (.getfield 7, 3) := dk_180 0 7 (dk_at dksJ35_checkInvariants_3 7 rfl rfl)
theorem dJ35_checkInvariants_80 : decode cJ35_checkInvariants 80 = .ok (.aload_n 0, 1) := dk_42 (dk_at dksJ35_checkInvariants_3 10 rfl rfl)
theorem dJ35_checkInvariants_81 : decode cJ35_checkInvariants 81 = .ok (.getfield 11, 3) := dk_180 0 11 (dk_at dksJ35_checkInvariants_3 11 rfl rfl)
theorem dJ35_checkInvariants_84 : decode cJ35_checkInvariants 84 = .ok (.arraylength, 1) := dk_190 (dk_at dksJ35_checkInvariants_3 14 rfl rfl)
theorem dJ35_checkInvariants_85 : decode cJ35_checkInvariants 85 = .ok (.if_icmp .eq 25, 3) := dk_159 0 25 (dk_at dksJ35_checkInvariants_3 15 rfl rfl)
theorem dJ35_checkInvariants_88 : decode cJ35_checkInvariants 88 = .ok (.aload_n 0, 1) := dk_42 (dk_at dksJ35_checkInvariants_3 18 rfl rfl)
theorem dJ35_checkInvariants_89 : decode cJ35_checkInvariants 89 = .ok (.getfield 11, 3) := dk_180 0 11 (dk_at dksJ35_checkInvariants_3 19 rfl rfl)
theorem dJ35_checkInvariants_92 : decode cJ35_checkInvariants 92 = .ok (.aload_n 0, 1) := dk_42 (dk_at dksJ35_checkInvariants_3 22 rfl rfl)
theorem dJ35_checkInvariants_93 : decode cJ35_checkInvariants 93 = .ok (.getfield 7, 3) := dk_180 0 7 (dk_at dksJ35_checkInvariants_4 0 rfl rfl)
theorem dJ35_checkInvariants_96 : decode cJ35_checkInvariants 96 = .ok (.laload, 1) := dk_47 (dk_at dksJ35_checkInvariants_4 3 rfl rfl)
theorem dJ35_checkInvariants_97 : decode cJ35_checkInvariants 97 = .ok (.lconst 0, 1) := dk_9 (dk_at dksJ35_checkInvariants_4 4 rfl rfl)
theorem dJ35_checkInvariants_98 : decode cJ35_checkInvariants 98 = .ok (.lcmp, 1) := dk_148 (dk_at dksJ35_checkInvariants_4 5 rfl rfl)
theorem dJ35_checkInvariants_99 : decode cJ35_checkInvariants 99 = .ok (.ifCond .eq 11, 3) := dk_153 0 11 (dk_at dksJ35_checkInvariants_4 6 rfl rfl)
theorem dJ35_checkInvariants_102 : decode cJ35_checkInvariants 102 = .ok (.new 15, 3) := dk_187 0 15 (dk_at dksJ35_checkInvariants_4 9 rfl rfl)
theorem dJ35_checkInvariants_105 : decode cJ35_checkInvariants 105 = .ok (.dup, 1) := dk_89 (dk_at dksJ35_checkInvariants_4 12 rfl rfl)
theorem dJ35_checkInvariants_106 : decode cJ35_checkInvariants 106 = .ok (.invokespecial 17, 3) := dk_183 0 17 (dk_at dksJ35_checkInvariants_4 13 rfl rfl)
theorem dJ35_checkInvariants_109 : decode cJ35_checkInvariants 109 = .ok (.athrow, 1) := dk_191 (dk_at dksJ35_checkInvariants_4 16 rfl rfl)
theorem dJ35_checkInvariants_110 : decode cJ35_checkInvariants 110 = .ok (.return_, 1) := dk_177 (dk_at dksJ35_checkInvariants_4 17 rfl rfl)
abbrev cJ35_get : ByteArray := prog_56_method_26_code
def yJ35_get : MethodName := ⟨RJ35, "get", "(I)Z"⟩
def dkwJ35_get_2 : List UInt8 := [42, 180, 0, 11, 28, 47, 10, 27, 121, 127, 9, 148, 153, 0, 7, 4, 167, 0, 4, 3, 172]
abbrev dktJ35_get_2 : List UInt8 := dkwJ35_get_2 ++ []
def dkwJ35_get_1 : List UInt8 := [182, 0, 45, 183, 0, 146, 191, 42, 182, 0, 56, 27, 184, 0, 52, 61, 28, 42, 180, 0, 7, 162, 0, 22]
abbrev dktJ35_get_1 : List UInt8 := dkwJ35_get_1 ++ dktJ35_get_2
def dkwJ35_get_0 : List UInt8 := [27, 156, 0, 30, 187, 0, 142, 89, 187, 0, 33, 89, 183, 0, 35, 18, 153, 182, 0, 38, 27, 182, 0, 42]
abbrev dktJ35_get_0 : List UInt8 := dkwJ35_get_0 ++ dktJ35_get_1
theorem dksJ35_get_0 : cJ35_get.data.toList.drop 0 = dktJ35_get_0 := by decide +kernel
theorem dksJ35_get_1 : cJ35_get.data.toList.drop 24 = dktJ35_get_1 := dk_seg dksJ35_get_0 24 rfl rfl
theorem dksJ35_get_2 : cJ35_get.data.toList.drop 48 = dktJ35_get_2 := dk_seg dksJ35_get_1 24 rfl rfl
theorem dJ35_get_0 : decode cJ35_get 0 = .ok (.iload_n 1, 1) := dk_27 (dk_at dksJ35_get_0 0 rfl rfl)
theorem dJ35_get_1 : decode cJ35_get 1 = .ok (.ifCond .ge 30, 3) := dk_156 0 30 (dk_at dksJ35_get_0 1 rfl rfl)
theorem dJ35_get_4 : decode cJ35_get 4 = .ok (.new 142, 3) := dk_187 0 142 (dk_at dksJ35_get_0 4 rfl rfl)
theorem dJ35_get_7 : decode cJ35_get 7 = .ok (.dup, 1) := dk_89 (dk_at dksJ35_get_0 7 rfl rfl)
theorem dJ35_get_8 : decode cJ35_get 8 = .ok (.new 33, 3) := dk_187 0 33 (dk_at dksJ35_get_0 8 rfl rfl)
theorem dJ35_get_11 : decode cJ35_get 11 = .ok (.dup, 1) := dk_89 (dk_at dksJ35_get_0 11 rfl rfl)
theorem dJ35_get_12 : decode cJ35_get 12 = .ok (.invokespecial 35, 3) := dk_183 0 35 (dk_at dksJ35_get_0 12 rfl rfl)
theorem dJ35_get_15 : decode cJ35_get 15 = .ok (.ldc 153, 2) := dk_18 153 (dk_at dksJ35_get_0 15 rfl rfl)
theorem dJ35_get_17 : decode cJ35_get 17 = .ok (.invokevirtual 38, 3) := dk_182 0 38 (dk_at dksJ35_get_0 17 rfl rfl)
theorem dJ35_get_20 : decode cJ35_get 20 = .ok (.iload_n 1, 1) := dk_27 (dk_at dksJ35_get_0 20 rfl rfl)
theorem dJ35_get_21 : decode cJ35_get 21 = .ok (.invokevirtual 42, 3) := dk_182 0 42 (dk_at dksJ35_get_0 21 rfl rfl)
theorem dJ35_get_24 : decode cJ35_get 24 = .ok (.invokevirtual 45, 3) := dk_182 0 45 (dk_at dksJ35_get_1 0 rfl rfl)
theorem dJ35_get_27 : decode cJ35_get 27 = .ok (.invokespecial 146, 3) := dk_183 0 146 (dk_at dksJ35_get_1 3 rfl rfl)
theorem dJ35_get_30 : decode cJ35_get 30 = .ok (.athrow, 1) := dk_191 (dk_at dksJ35_get_1 6 rfl rfl)
theorem dJ35_get_31 : decode cJ35_get 31 = .ok (.aload_n 0, 1) := dk_42 (dk_at dksJ35_get_1 7 rfl rfl)
theorem dJ35_get_32 : decode cJ35_get 32 = .ok (.invokevirtual 56, 3) := dk_182 0 56 (dk_at dksJ35_get_1 8 rfl rfl)
theorem dJ35_get_35 : decode cJ35_get 35 = .ok (.iload_n 1, 1) := dk_27 (dk_at dksJ35_get_1 11 rfl rfl)
theorem dJ35_get_36 : decode cJ35_get 36 = .ok (.invokestatic 52, 3) := dk_184 0 52 (dk_at dksJ35_get_1 12 rfl rfl)
theorem dJ35_get_39 : decode cJ35_get 39 = .ok (.istore_n 2, 1) := dk_61 (dk_at dksJ35_get_1 15 rfl rfl)
theorem dJ35_get_40 : decode cJ35_get 40 = .ok (.iload_n 2, 1) := dk_28 (dk_at dksJ35_get_1 16 rfl rfl)
theorem dJ35_get_41 : decode cJ35_get 41 = .ok (.aload_n 0, 1) := dk_42 (dk_at dksJ35_get_1 17 rfl rfl)
theorem dJ35_get_42 : decode cJ35_get 42 = .ok (.getfield 7, 3) := dk_180 0 7 (dk_at dksJ35_get_1 18 rfl rfl)
theorem dJ35_get_45 : decode cJ35_get 45 = .ok (.if_icmp .ge 22, 3) := dk_162 0 22 (dk_at dksJ35_get_1 21 rfl rfl)
theorem dJ35_get_48 : decode cJ35_get 48 = .ok (.aload_n 0, 1) := dk_42 (dk_at dksJ35_get_2 0 rfl rfl)
theorem dJ35_get_49 : decode cJ35_get 49 = .ok (.getfield 11, 3) := dk_180 0 11 (dk_at dksJ35_get_2 1 rfl rfl)
theorem dJ35_get_52 : decode cJ35_get 52 = .ok (.iload_n 2, 1) := dk_28 (dk_at dksJ35_get_2 4 rfl rfl)
theorem dJ35_get_53 : decode cJ35_get 53 = .ok (.laload, 1) := dk_47 (dk_at dksJ35_get_2 5 rfl rfl)
theorem dJ35_get_54 : decode cJ35_get 54 = .ok (.lconst 1, 1) := dk_10 (dk_at dksJ35_get_2 6 rfl rfl)
theorem dJ35_get_55 : decode cJ35_get 55 = .ok (.iload_n 1, 1) := dk_27 (dk_at dksJ35_get_2 7 rfl rfl)
theorem dJ35_get_56 : decode cJ35_get 56 = .ok (.lshl, 1) := dk_121 (dk_at dksJ35_get_2 8 rfl rfl)
theorem dJ35_get_57 : decode cJ35_get 57 = .ok (.land, 1) := dk_127 (dk_at dksJ35_get_2 9 rfl rfl)
theorem dJ35_get_58 : decode cJ35_get 58 = .ok (.lconst 0, 1) := dk_9 (dk_at dksJ35_get_2 10 rfl rfl)
theorem dJ35_get_59 : decode cJ35_get 59 = .ok (.lcmp, 1) := dk_148 (dk_at dksJ35_get_2 11 rfl rfl)
theorem dJ35_get_60 : decode cJ35_get 60 = .ok (.ifCond .eq 7, 3) := dk_153 0 7 (dk_at dksJ35_get_2 12 rfl rfl)
theorem dJ35_get_63 : decode cJ35_get 63 = .ok (.iconst 1, 1) := dk_4 (dk_at dksJ35_get_2 15 rfl rfl)
theorem dJ35_get_64 : decode cJ35_get 64 = .ok (.goto 4, 3) := dk_167 0 4 (dk_at dksJ35_get_2 16 rfl rfl)
theorem dJ35_get_67 : decode cJ35_get 67 = .ok (.iconst 0, 1) := dk_3 (dk_at dksJ35_get_2 19 rfl rfl)
theorem dJ35_get_68 : decode cJ35_get 68 = .ok (.ireturn, 1) := dk_172 (dk_at dksJ35_get_2 20 rfl rfl)
abbrev cJ35_or : ByteArray := prog_56_method_37_code
def yJ35_or : MethodName := ⟨RJ35, "or", "(Ljava/util/BitSet;)V"⟩
def dkwJ35_or_4 : List UInt8 := [180, 0, 7, 28, 100, 184, 0, 199, 42, 182, 0, 56, 177]
abbrev dktJ35_or_4 : List UInt8 := dkwJ35_or_4 ++ []
def dkwJ35_or_3 : List UInt8 := [167, 255, 233, 28, 43, 180, 0, 7, 162, 0, 22, 43, 180, 0, 11, 28, 42, 180, 0, 11, 28, 42]
abbrev dktJ35_or_3 : List UInt8 := dkwJ35_or_3 ++ dktJ35_or_4
def dkwJ35_or_2 : List UInt8 := [29, 28, 162, 0, 24, 42, 180, 0, 11, 29, 92, 47, 43, 180, 0, 11, 29, 47, 129, 80, 132, 3, 1]
abbrev dktJ35_or_2 : List UInt8 := dkwJ35_or_2 ++ dktJ35_or_3
def dkwJ35_or_1 : List UInt8 := [180, 0, 7, 162, 0, 19, 42, 43, 180, 0, 7, 182, 0, 139, 42, 43, 180, 0, 7, 181, 0, 7, 3, 62]
abbrev dktJ35_or_1 : List UInt8 := dkwJ35_or_1 ++ dktJ35_or_2
def dkwJ35_or_0 : List UInt8 := [42, 43, 166, 0, 4, 177, 42, 180, 0, 7, 43, 180, 0, 7, 184, 0, 193, 61, 42, 180, 0, 7, 43]
abbrev dktJ35_or_0 : List UInt8 := dkwJ35_or_0 ++ dktJ35_or_1
theorem dksJ35_or_0 : cJ35_or.data.toList.drop 0 = dktJ35_or_0 := by decide +kernel
theorem dksJ35_or_1 : cJ35_or.data.toList.drop 23 = dktJ35_or_1 := dk_seg dksJ35_or_0 23 rfl rfl
theorem dksJ35_or_2 : cJ35_or.data.toList.drop 47 = dktJ35_or_2 := dk_seg dksJ35_or_1 24 rfl rfl
theorem dksJ35_or_3 : cJ35_or.data.toList.drop 70 = dktJ35_or_3 := dk_seg dksJ35_or_2 23 rfl rfl
theorem dksJ35_or_4 : cJ35_or.data.toList.drop 92 = dktJ35_or_4 := dk_seg dksJ35_or_3 22 rfl rfl
theorem dJ35_or_0 : decode cJ35_or 0 = .ok (.aload_n 0, 1) := dk_42 (dk_at dksJ35_or_0 0 rfl rfl)
theorem dJ35_or_1 : decode cJ35_or 1 = .ok (.aload_n 1, 1) := dk_43 (dk_at dksJ35_or_0 1 rfl rfl)
theorem dJ35_or_2 : decode cJ35_or 2 = .ok (.if_acmp .ne 4, 3) := dk_166 0 4 (dk_at dksJ35_or_0 2 rfl rfl)
theorem dJ35_or_5 : decode cJ35_or 5 = .ok (.return_, 1) := dk_177 (dk_at dksJ35_or_0 5 rfl rfl)
theorem dJ35_or_6 : decode cJ35_or 6 = .ok (.aload_n 0, 1) := dk_42 (dk_at dksJ35_or_0 6 rfl rfl)
theorem dJ35_or_7 : decode cJ35_or 7 = .ok (.getfield 7, 3) := dk_180 0 7 (dk_at dksJ35_or_0 7 rfl rfl)
theorem dJ35_or_10 : decode cJ35_or 10 = .ok (.aload_n 1, 1) := dk_43 (dk_at dksJ35_or_0 10 rfl rfl)
theorem dJ35_or_11 : decode cJ35_or 11 = .ok (.getfield 7, 3) := dk_180 0 7 (dk_at dksJ35_or_0 11 rfl rfl)
theorem dJ35_or_14 : decode cJ35_or 14 = .ok (.invokestatic 193, 3) := dk_184 0 193 (dk_at dksJ35_or_0 14 rfl rfl)
theorem dJ35_or_17 : decode cJ35_or 17 = .ok (.istore_n 2, 1) := dk_61 (dk_at dksJ35_or_0 17 rfl rfl)
theorem dJ35_or_18 : decode cJ35_or 18 = .ok (.aload_n 0, 1) := dk_42 (dk_at dksJ35_or_0 18 rfl rfl)
theorem dJ35_or_19 : decode cJ35_or 19 = .ok (.getfield 7, 3) := dk_180 0 7 (dk_at dksJ35_or_0 19 rfl rfl)
theorem dJ35_or_22 : decode cJ35_or 22 = .ok (.aload_n 1, 1) := dk_43 (dk_at dksJ35_or_0 22 rfl rfl)
theorem dJ35_or_23 : decode cJ35_or 23 = .ok (.getfield 7, 3) := dk_180 0 7 (dk_at dksJ35_or_1 0 rfl rfl)
theorem dJ35_or_26 : decode cJ35_or 26 = .ok (.if_icmp .ge 19, 3) := dk_162 0 19 (dk_at dksJ35_or_1 3 rfl rfl)
theorem dJ35_or_29 : decode cJ35_or 29 = .ok (.aload_n 0, 1) := dk_42 (dk_at dksJ35_or_1 6 rfl rfl)
theorem dJ35_or_30 : decode cJ35_or 30 = .ok (.aload_n 1, 1) := dk_43 (dk_at dksJ35_or_1 7 rfl rfl)
theorem dJ35_or_31 : decode cJ35_or 31 = .ok (.getfield 7, 3) := dk_180 0 7 (dk_at dksJ35_or_1 8 rfl rfl)
theorem dJ35_or_34 : decode cJ35_or 34 = .ok (.invokevirtual 139, 3) := dk_182 0 139 (dk_at dksJ35_or_1 11 rfl rfl)
theorem dJ35_or_37 : decode cJ35_or 37 = .ok (.aload_n 0, 1) := dk_42 (dk_at dksJ35_or_1 14 rfl rfl)
theorem dJ35_or_38 : decode cJ35_or 38 = .ok (.aload_n 1, 1) := dk_43 (dk_at dksJ35_or_1 15 rfl rfl)
theorem dJ35_or_39 : decode cJ35_or 39 = .ok (.getfield 7, 3) := dk_180 0 7 (dk_at dksJ35_or_1 16 rfl rfl)
theorem dJ35_or_42 : decode cJ35_or 42 = .ok (.putfield 7, 3) := dk_181 0 7 (dk_at dksJ35_or_1 19 rfl rfl)
theorem dJ35_or_45 : decode cJ35_or 45 = .ok (.iconst 0, 1) := dk_3 (dk_at dksJ35_or_1 22 rfl rfl)
theorem dJ35_or_46 : decode cJ35_or 46 = .ok (.istore_n 3, 1) := dk_62 (dk_at dksJ35_or_1 23 rfl rfl)
theorem dJ35_or_47 : decode cJ35_or 47 = .ok (.iload_n 3, 1) := dk_29 (dk_at dksJ35_or_2 0 rfl rfl)
theorem dJ35_or_48 : decode cJ35_or 48 = .ok (.iload_n 2, 1) := dk_28 (dk_at dksJ35_or_2 1 rfl rfl)
theorem dJ35_or_49 : decode cJ35_or 49 = .ok (.if_icmp .ge 24, 3) := dk_162 0 24 (dk_at dksJ35_or_2 2 rfl rfl)
theorem dJ35_or_52 : decode cJ35_or 52 = .ok (.aload_n 0, 1) := dk_42 (dk_at dksJ35_or_2 5 rfl rfl)
theorem dJ35_or_53 : decode cJ35_or 53 = .ok (.getfield 11, 3) := dk_180 0 11 (dk_at dksJ35_or_2 6 rfl rfl)
theorem dJ35_or_56 : decode cJ35_or 56 = .ok (.iload_n 3, 1) := dk_29 (dk_at dksJ35_or_2 9 rfl rfl)
theorem dJ35_or_57 : decode cJ35_or 57 = .ok (.dup2, 1) := dk_92 (dk_at dksJ35_or_2 10 rfl rfl)
theorem dJ35_or_58 : decode cJ35_or 58 = .ok (.laload, 1) := dk_47 (dk_at dksJ35_or_2 11 rfl rfl)
theorem dJ35_or_59 : decode cJ35_or 59 = .ok (.aload_n 1, 1) := dk_43 (dk_at dksJ35_or_2 12 rfl rfl)
theorem dJ35_or_60 : decode cJ35_or 60 = .ok (.getfield 11, 3) := dk_180 0 11 (dk_at dksJ35_or_2 13 rfl rfl)
theorem dJ35_or_63 : decode cJ35_or 63 = .ok (.iload_n 3, 1) := dk_29 (dk_at dksJ35_or_2 16 rfl rfl)
theorem dJ35_or_64 : decode cJ35_or 64 = .ok (.laload, 1) := dk_47 (dk_at dksJ35_or_2 17 rfl rfl)
theorem dJ35_or_65 : decode cJ35_or 65 = .ok (.lor, 1) := dk_129 (dk_at dksJ35_or_2 18 rfl rfl)
theorem dJ35_or_66 : decode cJ35_or 66 = .ok (.lastore, 1) := dk_80 (dk_at dksJ35_or_2 19 rfl rfl)
theorem dJ35_or_67 : decode cJ35_or 67 = .ok (.iinc 3 1, 3) := dk_132 3 1 (dk_at dksJ35_or_2 20 rfl rfl)
theorem dJ35_or_70 : decode cJ35_or 70 = .ok (.goto (-23), 3) := dk_167 255 233 (dk_at dksJ35_or_3 0 rfl rfl)
theorem dJ35_or_73 : decode cJ35_or 73 = .ok (.iload_n 2, 1) := dk_28 (dk_at dksJ35_or_3 3 rfl rfl)
theorem dJ35_or_74 : decode cJ35_or 74 = .ok (.aload_n 1, 1) := dk_43 (dk_at dksJ35_or_3 4 rfl rfl)
theorem dJ35_or_75 : decode cJ35_or 75 = .ok (.getfield 7, 3) := dk_180 0 7 (dk_at dksJ35_or_3 5 rfl rfl)
theorem dJ35_or_78 : decode cJ35_or 78 = .ok (.if_icmp .ge 22, 3) := dk_162 0 22 (dk_at dksJ35_or_3 8 rfl rfl)
theorem dJ35_or_81 : decode cJ35_or 81 = .ok (.aload_n 1, 1) := dk_43 (dk_at dksJ35_or_3 11 rfl rfl)
theorem dJ35_or_82 : decode cJ35_or 82 = .ok (.getfield 11, 3) := dk_180 0 11 (dk_at dksJ35_or_3 12 rfl rfl)
theorem dJ35_or_85 : decode cJ35_or 85 = .ok (.iload_n 2, 1) := dk_28 (dk_at dksJ35_or_3 15 rfl rfl)
theorem dJ35_or_86 : decode cJ35_or 86 = .ok (.aload_n 0, 1) := dk_42 (dk_at dksJ35_or_3 16 rfl rfl)
theorem dJ35_or_87 : decode cJ35_or 87 = .ok (.getfield 11, 3) := dk_180 0 11 (dk_at dksJ35_or_3 17 rfl rfl)
theorem dJ35_or_90 : decode cJ35_or 90 = .ok (.iload_n 2, 1) := dk_28 (dk_at dksJ35_or_3 20 rfl rfl)
theorem dJ35_or_91 : decode cJ35_or 91 = .ok (.aload_n 0, 1) := dk_42 (dk_at dksJ35_or_3 21 rfl rfl)
theorem dJ35_or_92 : decode cJ35_or 92 = .ok (.getfield 7, 3) := dk_180 0 7 (dk_at dksJ35_or_4 0 rfl rfl)
theorem dJ35_or_95 : decode cJ35_or 95 = .ok (.iload_n 2, 1) := dk_28 (dk_at dksJ35_or_4 3 rfl rfl)
theorem dJ35_or_96 : decode cJ35_or 96 = .ok (.isub, 1) := dk_100 (dk_at dksJ35_or_4 4 rfl rfl)
theorem dJ35_or_97 : decode cJ35_or 97 = .ok (.invokestatic 199, 3) := dk_184 0 199 (dk_at dksJ35_or_4 5 rfl rfl)
theorem dJ35_or_100 : decode cJ35_or 100 = .ok (.aload_n 0, 1) := dk_42 (dk_at dksJ35_or_4 8 rfl rfl)
theorem dJ35_or_101 : decode cJ35_or 101 = .ok (.invokevirtual 56, 3) := dk_182 0 56 (dk_at dksJ35_or_4 9 rfl rfl)
theorem dJ35_or_104 : decode cJ35_or 104 = .ok (.return_, 1) := dk_177 (dk_at dksJ35_or_4 12 rfl rfl)
abbrev cJ35_cardinality : ByteArray := prog_56_method_35_code
def yJ35_cardinality : MethodName := ⟨RJ35, "cardinality", "()I"⟩
def dkwJ35_cardinality_1 : List UInt8 := [132, 2, 1, 167, 255, 233, 27, 172]
abbrev dktJ35_cardinality_1 : List UInt8 := dkwJ35_cardinality_1 ++ []
def dkwJ35_cardinality_0 : List UInt8 := [3, 60, 3, 61, 28, 42, 180, 0, 7, 162, 0, 21, 27, 42, 180, 0, 11, 28, 47, 184, 0, 196, 96, 60]
abbrev dktJ35_cardinality_0 : List UInt8 := dkwJ35_cardinality_0 ++ dktJ35_cardinality_1
theorem dksJ35_cardinality_0 : cJ35_cardinality.data.toList.drop 0 = dktJ35_cardinality_0 := by decide +kernel
theorem dksJ35_cardinality_1 : cJ35_cardinality.data.toList.drop 24 = dktJ35_cardinality_1 := dk_seg dksJ35_cardinality_0 24 rfl rfl
theorem dJ35_cardinality_0 : decode cJ35_cardinality 0 = .ok (.iconst 0, 1) := dk_3 (dk_at dksJ35_cardinality_0 0 rfl rfl)
theorem dJ35_cardinality_1 : decode cJ35_cardinality 1 = .ok (.istore_n 1, 1) := dk_60 (dk_at dksJ35_cardinality_0 1 rfl rfl)
theorem dJ35_cardinality_2 : decode cJ35_cardinality 2 = .ok (.iconst 0, 1) := dk_3 (dk_at dksJ35_cardinality_0 2 rfl rfl)
theorem dJ35_cardinality_3 : decode cJ35_cardinality 3 = .ok (.istore_n 2, 1) := dk_61 (dk_at dksJ35_cardinality_0 3 rfl rfl)
theorem dJ35_cardinality_4 : decode cJ35_cardinality 4 = .ok (.iload_n 2, 1) := dk_28 (dk_at dksJ35_cardinality_0 4 rfl rfl)
theorem dJ35_cardinality_5 : decode cJ35_cardinality 5 = .ok (.aload_n 0, 1) := dk_42 (dk_at dksJ35_cardinality_0 5 rfl rfl)
theorem dJ35_cardinality_6 : decode cJ35_cardinality 6 = .ok (.getfield 7, 3) := dk_180 0 7 (dk_at dksJ35_cardinality_0 6 rfl rfl)
theorem dJ35_cardinality_9 : decode cJ35_cardinality 9 = .ok (.if_icmp .ge 21, 3) := dk_162 0 21 (dk_at dksJ35_cardinality_0 9 rfl rfl)
theorem dJ35_cardinality_12 : decode cJ35_cardinality 12 = .ok (.iload_n 1, 1) := dk_27 (dk_at dksJ35_cardinality_0 12 rfl rfl)
theorem dJ35_cardinality_13 : decode cJ35_cardinality 13 = .ok (.aload_n 0, 1) := dk_42 (dk_at dksJ35_cardinality_0 13 rfl rfl)
theorem dJ35_cardinality_14 : decode cJ35_cardinality 14 = .ok (.getfield 11, 3) := dk_180 0 11 (dk_at dksJ35_cardinality_0 14 rfl rfl)
theorem dJ35_cardinality_17 : decode cJ35_cardinality 17 = .ok (.iload_n 2, 1) := dk_28 (dk_at dksJ35_cardinality_0 17 rfl rfl)
theorem dJ35_cardinality_18 : decode cJ35_cardinality 18 = .ok (.laload, 1) := dk_47 (dk_at dksJ35_cardinality_0 18 rfl rfl)
theorem dJ35_cardinality_19 : decode cJ35_cardinality 19 = .ok (.invokestatic 196, 3) := dk_184 0 196 (dk_at dksJ35_cardinality_0 19 rfl rfl)
theorem dJ35_cardinality_22 : decode cJ35_cardinality 22 = .ok (.iadd, 1) := dk_96 (dk_at dksJ35_cardinality_0 22 rfl rfl)
theorem dJ35_cardinality_23 : decode cJ35_cardinality 23 = .ok (.istore_n 1, 1) := dk_60 (dk_at dksJ35_cardinality_0 23 rfl rfl)
theorem dJ35_cardinality_24 : decode cJ35_cardinality 24 = .ok (.iinc 2 1, 3) := dk_132 2 1 (dk_at dksJ35_cardinality_1 0 rfl rfl)
theorem dJ35_cardinality_27 : decode cJ35_cardinality 27 = .ok (.goto (-23), 3) := dk_167 255 233 (dk_at dksJ35_cardinality_1 3 rfl rfl)
theorem dJ35_cardinality_30 : decode cJ35_cardinality 30 = .ok (.iload_n 1, 1) := dk_27 (dk_at dksJ35_cardinality_1 6 rfl rfl)
theorem dJ35_cardinality_31 : decode cJ35_cardinality 31 = .ok (.ireturn, 1) := dk_172 (dk_at dksJ35_cardinality_1 7 rfl rfl)
theorem q193 : (Jvm.Cond.initialized "java/util/BitSet") ∈ lw_all := lw_g (lw_at lw_m1 45 rfl) rfl
theorem q1048 : (Jvm.Cond.selects "java/util/BitSet" ({ cls := "java/lang/Object", name := "getClass", desc := "()Ljava/lang/Class;" } : Jvm.MethodName) ({ cls := "java/lang/Object", name := "getClass", desc := "()Ljava/lang/Class;" } : Jvm.MethodName)) ∈ lw_all := lw_g (lw_at lw_m4 180 rfl) rfl
theorem q1931 : (Jvm.Cond.instantiable "java/util/BitSet" (3 : Nat)) ∈ lw_all := lw_g (lw_at lw_m8 103 rfl) rfl
theorem q1933 : (Jvm.Cond.instanceMethod ({ cls := "java/util/BitSet", name := "<init>", desc := "(I)V" } : Jvm.MethodName)) ∈ lw_all := lw_g (lw_at lw_m8 105 rfl) rfl
theorem q1934 : (Jvm.Cond.code ({ cls := "java/util/BitSet", name := "<init>", desc := "(I)V" } : Jvm.MethodName) prog_56_method_5_code (2 : Nat) (Option.none : Option Jvm.ClassFile.FieldType)) ∈ lw_all := lw_g (lw_at lw_m8 106 rfl) rfl
theorem q1935 : (Jvm.Cond.methodLink "java/util/BitSet" (21 : Nat) ({ cls := "java/lang/Object", name := "<init>", desc := "()V" } : Jvm.MethodName)) ∈ lw_all := lw_g (lw_at lw_m8 107 rfl) rfl
theorem q1936 : (Jvm.Cond.methodLink "java/util/BitSet" (27 : Nat) ({ cls := "java/util/BitSet", name := "initWords", desc := "(I)V" } : Jvm.MethodName)) ∈ lw_all := lw_g (lw_at lw_m8 108 rfl) rfl
theorem q1937 : (Jvm.Cond.privateMethod ({ cls := "java/util/BitSet", name := "initWords", desc := "(I)V" } : Jvm.MethodName)) ∈ lw_tbl := lw_at lw_m8 109 rfl
theorem q1938 : (Jvm.Cond.instanceMethod ({ cls := "java/util/BitSet", name := "initWords", desc := "(I)V" } : Jvm.MethodName)) ∈ lw_all := lw_g (lw_at lw_m8 110 rfl) rfl
theorem q1939 : (Jvm.Cond.code ({ cls := "java/util/BitSet", name := "initWords", desc := "(I)V" } : Jvm.MethodName) prog_56_method_6_code (2 : Nat) (Option.none : Option Jvm.ClassFile.FieldType)) ∈ lw_all := lw_g (lw_at lw_m8 111 rfl) rfl
theorem q1940 : (Jvm.Cond.methodLink "java/util/BitSet" (52 : Nat) ({ cls := "java/util/BitSet", name := "wordIndex", desc := "(I)I" } : Jvm.MethodName)) ∈ lw_all := lw_g (lw_at lw_m8 112 rfl) rfl
theorem q1941 : (Jvm.Cond.static ({ cls := "java/util/BitSet", name := "wordIndex", desc := "(I)I" } : Jvm.MethodName)) ∈ lw_all := lw_g (lw_at lw_m8 113 rfl) rfl
theorem q1942 : (Jvm.Cond.code ({ cls := "java/util/BitSet", name := "wordIndex", desc := "(I)I" } : Jvm.MethodName) prog_56_method_1_code (1 : Nat) (Option.some Jvm.ClassFile.FieldType.int)) ∈ lw_all := lw_g (lw_at lw_m8 114 rfl) rfl
theorem q1943 : (Jvm.Cond.fieldLink "java/util/BitSet" (11 : Nat) "java/util/BitSet" "words" "[J") ∈ lw_all := lw_g (lw_at lw_m8 115 rfl) rfl
theorem q1944 : (Jvm.Cond.fieldLink "java/util/BitSet" (7 : Nat) "java/util/BitSet" "wordsInUse" "I") ∈ lw_all := lw_g (lw_at lw_m8 116 rfl) rfl
theorem q1945 : (Jvm.Cond.fieldLink "java/util/BitSet" (24 : Nat) "java/util/BitSet" "sizeIsSticky" "Z") ∈ lw_all := lw_g (lw_at lw_m8 117 rfl) rfl
theorem q1946 : (Jvm.Cond.lays "java/util/BitSet" "java/util/BitSet" "words" "[J") ∈ lw_all := lw_g (lw_at lw_m8 118 rfl) rfl
theorem q1947 : (Jvm.Cond.soleField "java/util/BitSet" "words") ∈ lw_all := lw_g (lw_at lw_m8 119 rfl) rfl
theorem q1948 : (Jvm.Cond.lays "java/util/BitSet" "java/util/BitSet" "wordsInUse" "I") ∈ lw_all := lw_g (lw_at lw_m8 120 rfl) rfl
theorem q1949 : (Jvm.Cond.soleField "java/util/BitSet" "wordsInUse") ∈ lw_all := lw_g (lw_at lw_m8 121 rfl) rfl
theorem q1950 : (Jvm.Cond.lays "java/util/BitSet" "java/util/BitSet" "sizeIsSticky" "Z") ∈ lw_all := lw_g (lw_at lw_m8 122 rfl) rfl
theorem q1951 : (Jvm.Cond.soleField "java/util/BitSet" "sizeIsSticky") ∈ lw_all := lw_g (lw_at lw_m8 123 rfl) rfl
theorem q1952 : (Jvm.Cond.superclass "java/util/BitSet" "java/lang/Object") ∈ lw_all := lw_g (lw_at lw_m8 124 rfl) rfl
theorem q1983 : (Jvm.Cond.instanceMethod ({ cls := "java/util/BitSet", name := "set", desc := "(I)V" } : Jvm.MethodName)) ∈ lw_all := lw_g (lw_at lw_m8 155 rfl) rfl
theorem q1984 : (Jvm.Cond.selects "java/util/BitSet" ({ cls := "java/util/BitSet", name := "set", desc := "(I)V" } : Jvm.MethodName) ({ cls := "java/util/BitSet", name := "set", desc := "(I)V" } : Jvm.MethodName)) ∈ lw_all := lw_g (lw_at lw_m8 156 rfl) rfl
theorem q1985 : (Jvm.Cond.code ({ cls := "java/util/BitSet", name := "set", desc := "(I)V" } : Jvm.MethodName) prog_56_method_19_code (3 : Nat) (Option.none : Option Jvm.ClassFile.FieldType)) ∈ lw_all := lw_g (lw_at lw_m8 157 rfl) rfl
theorem q1986 : (Jvm.Cond.methodLink "java/util/BitSet" (155 : Nat) ({ cls := "java/util/BitSet", name := "expandTo", desc := "(I)V" } : Jvm.MethodName)) ∈ lw_all := lw_g (lw_at lw_m8 158 rfl) rfl
theorem q1987 : (Jvm.Cond.privateMethod ({ cls := "java/util/BitSet", name := "expandTo", desc := "(I)V" } : Jvm.MethodName)) ∈ lw_tbl := lw_at lw_m8 159 rfl
theorem q1988 : (Jvm.Cond.instanceMethod ({ cls := "java/util/BitSet", name := "expandTo", desc := "(I)V" } : Jvm.MethodName)) ∈ lw_all := lw_g (lw_at lw_m8 160 rfl) rfl
theorem q1989 : (Jvm.Cond.code ({ cls := "java/util/BitSet", name := "expandTo", desc := "(I)V" } : Jvm.MethodName) prog_56_method_15_code (3 : Nat) (Option.none : Option Jvm.ClassFile.FieldType)) ∈ lw_all := lw_g (lw_at lw_m8 161 rfl) rfl
theorem q1990 : (Jvm.Cond.methodLink "java/util/BitSet" (139 : Nat) ({ cls := "java/util/BitSet", name := "ensureCapacity", desc := "(I)V" } : Jvm.MethodName)) ∈ lw_all := lw_g (lw_at lw_m8 162 rfl) rfl
theorem q1991 : (Jvm.Cond.privateMethod ({ cls := "java/util/BitSet", name := "ensureCapacity", desc := "(I)V" } : Jvm.MethodName)) ∈ lw_tbl := lw_at lw_m8 163 rfl
theorem q1992 : (Jvm.Cond.instanceMethod ({ cls := "java/util/BitSet", name := "ensureCapacity", desc := "(I)V" } : Jvm.MethodName)) ∈ lw_all := lw_g (lw_at lw_m8 164 rfl) rfl
theorem q1993 : (Jvm.Cond.code ({ cls := "java/util/BitSet", name := "ensureCapacity", desc := "(I)V" } : Jvm.MethodName) prog_56_method_14_code (3 : Nat) (Option.none : Option Jvm.ClassFile.FieldType)) ∈ lw_all := lw_g (lw_at lw_m8 165 rfl) rfl
theorem q1994 : (Jvm.Cond.methodLink "java/util/BitSet" (133 : Nat) ({ cls := "java/lang/Math", name := "max", desc := "(II)I" } : Jvm.MethodName)) ∈ lw_all := lw_g (lw_at lw_m8 166 rfl) rfl
theorem q1995 : (Jvm.Cond.methodLink "java/util/BitSet" (59 : Nat) ({ cls := "java/util/Arrays", name := "copyOf", desc := "([JI)[J" } : Jvm.MethodName)) ∈ lw_all := lw_g (lw_at lw_m8 167 rfl) rfl
theorem q2003 : (Jvm.Cond.methodLink "java/util/BitSet" (56 : Nat) ({ cls := "java/util/BitSet", name := "checkInvariants", desc := "()V" } : Jvm.MethodName)) ∈ lw_all := lw_g (lw_at lw_m8 175 rfl) rfl
theorem q2004 : (Jvm.Cond.privateMethod ({ cls := "java/util/BitSet", name := "checkInvariants", desc := "()V" } : Jvm.MethodName)) ∈ lw_tbl := lw_at lw_m8 176 rfl
theorem q2005 : (Jvm.Cond.instanceMethod ({ cls := "java/util/BitSet", name := "checkInvariants", desc := "()V" } : Jvm.MethodName)) ∈ lw_all := lw_g (lw_at lw_m8 177 rfl) rfl
theorem q2006 : (Jvm.Cond.code ({ cls := "java/util/BitSet", name := "checkInvariants", desc := "()V" } : Jvm.MethodName) prog_56_method_2_code (1 : Nat) (Option.none : Option Jvm.ClassFile.FieldType)) ∈ lw_all := lw_g (lw_at lw_m8 178 rfl) rfl
theorem q2007 : (Jvm.Cond.fieldLink "java/util/BitSet" (3 : Nat) "java/util/BitSet" "$assertionsDisabled" "Z") ∈ lw_all := lw_g (lw_at lw_m8 179 rfl) rfl
theorem q2008 : (Jvm.Cond.laysStatic "java/util/BitSet" "$assertionsDisabled" "Z") ∈ lw_tbl := lw_at lw_m8 180 rfl
theorem q2314 : (Jvm.Cond.instanceMethod ({ cls := "java/util/BitSet", name := "get", desc := "(I)Z" } : Jvm.MethodName)) ∈ lw_all := lw_g (lw_at lw_m10 6 rfl) rfl
theorem q2315 : (Jvm.Cond.selects "java/util/BitSet" ({ cls := "java/util/BitSet", name := "get", desc := "(I)Z" } : Jvm.MethodName) ({ cls := "java/util/BitSet", name := "get", desc := "(I)Z" } : Jvm.MethodName)) ∈ lw_all := lw_g (lw_at lw_m10 7 rfl) rfl
theorem q2316 : (Jvm.Cond.code ({ cls := "java/util/BitSet", name := "get", desc := "(I)Z" } : Jvm.MethodName) prog_56_method_26_code (3 : Nat) (Option.some Jvm.ClassFile.FieldType.boolean)) ∈ lw_all := lw_g (lw_at lw_m10 8 rfl) rfl
theorem q2695 : (Jvm.Cond.instanceMethod ({ cls := "java/util/BitSet", name := "or", desc := "(Ljava/util/BitSet;)V" } : Jvm.MethodName)) ∈ lw_all := lw_g (lw_at lw_m11 147 rfl) rfl
theorem q2696 : (Jvm.Cond.selects "java/util/BitSet" ({ cls := "java/util/BitSet", name := "or", desc := "(Ljava/util/BitSet;)V" } : Jvm.MethodName) ({ cls := "java/util/BitSet", name := "or", desc := "(Ljava/util/BitSet;)V" } : Jvm.MethodName)) ∈ lw_all := lw_g (lw_at lw_m11 148 rfl) rfl
theorem q2697 : (Jvm.Cond.code ({ cls := "java/util/BitSet", name := "or", desc := "(Ljava/util/BitSet;)V" } : Jvm.MethodName) prog_56_method_37_code (4 : Nat) (Option.none : Option Jvm.ClassFile.FieldType)) ∈ lw_all := lw_g (lw_at lw_m11 149 rfl) rfl
theorem q2698 : (Jvm.Cond.methodLink "java/util/BitSet" (193 : Nat) ({ cls := "java/lang/Math", name := "min", desc := "(II)I" } : Jvm.MethodName)) ∈ lw_all := lw_g (lw_at lw_m11 150 rfl) rfl
theorem q2699 : (Jvm.Cond.methodLink "java/util/BitSet" (199 : Nat) ({ cls := "java/lang/System", name := "arraycopy", desc := "(Ljava/lang/Object;ILjava/lang/Object;II)V" } : Jvm.MethodName)) ∈ lw_all := lw_g (lw_at lw_m11 151 rfl) rfl
theorem q3169 : (Jvm.Cond.instanceMethod ({ cls := "java/util/BitSet", name := "cardinality", desc := "()I" } : Jvm.MethodName)) ∈ lw_all := lw_g (lw_at lw_m13 141 rfl) rfl
theorem q3170 : (Jvm.Cond.selects "java/util/BitSet" ({ cls := "java/util/BitSet", name := "cardinality", desc := "()I" } : Jvm.MethodName) ({ cls := "java/util/BitSet", name := "cardinality", desc := "()I" } : Jvm.MethodName)) ∈ lw_all := lw_g (lw_at lw_m13 142 rfl) rfl
theorem q3171 : (Jvm.Cond.code ({ cls := "java/util/BitSet", name := "cardinality", desc := "()I" } : Jvm.MethodName) prog_56_method_35_code (3 : Nat) (Option.some Jvm.ClassFile.FieldType.int)) ∈ lw_all := lw_g (lw_at lw_m13 143 rfl) rfl
theorem q3172 : (Jvm.Cond.methodLink "java/util/BitSet" (196 : Nat) ({ cls := "java/lang/Long", name := "bitCount", desc := "(J)I" } : Jvm.MethodName)) ∈ lw_all := lw_g (lw_at lw_m13 144 rfl) rfl
theorem q4109 : (Jvm.Cond.castable "java/util/BitSet" "java/lang/Object") ∈ lw_tbl := lw_at lw_m17 121 rfl
theorem in_J35 : ∀ w ∈ wsJ350, w ∈ lw_all := lw_in wsJ350 [1946, 1948, 1950] (by decide +kernel) (by decide +kernel)

/-! java/lang/Enum -/
set_option maxRecDepth 100000
def RJ36 : String := "java/lang/Enum"
abbrev cJ36_toString : ByteArray := prog_27_method_4_code
def yJ36_toString : MethodName := ⟨RJ36, "toString", "()Ljava/lang/String;"⟩
theorem dJ36_toString_0 : decode cJ36_toString 0 = .ok (.aload_n 0, 1) := by decide +kernel
theorem dJ36_toString_1 : decode cJ36_toString 1 = .ok (.getfield 1, 3) := by decide +kernel
theorem dJ36_toString_4 : decode cJ36_toString 4 = .ok (.areturn, 1) := by decide +kernel
abbrev cJ36_hashCode : ByteArray := prog_27_method_6_code
def yJ36_hashCode : MethodName := ⟨RJ36, "hashCode", "()I"⟩
def dkwJ36_hashCode_0 : List UInt8 := [42, 180, 0, 17, 60, 27, 154, 0, 13, 42, 42, 184, 0, 20, 90, 181, 0, 17, 60, 27, 172]
abbrev dktJ36_hashCode_0 : List UInt8 := dkwJ36_hashCode_0 ++ []
theorem dksJ36_hashCode_0 : cJ36_hashCode.data.toList.drop 0 = dktJ36_hashCode_0 := by decide +kernel
theorem dJ36_hashCode_0 : decode cJ36_hashCode 0 = .ok (.aload_n 0, 1) := dk_42 (dk_at dksJ36_hashCode_0 0 rfl rfl)
theorem dJ36_hashCode_1 : decode cJ36_hashCode 1 = .ok (.getfield 17, 3) := dk_180 0 17 (dk_at dksJ36_hashCode_0 1 rfl rfl)
theorem dJ36_hashCode_4 : decode cJ36_hashCode 4 = .ok (.istore_n 1, 1) := dk_60 (dk_at dksJ36_hashCode_0 4 rfl rfl)
theorem dJ36_hashCode_5 : decode cJ36_hashCode 5 = .ok (.iload_n 1, 1) := dk_27 (dk_at dksJ36_hashCode_0 5 rfl rfl)
theorem dJ36_hashCode_6 : decode cJ36_hashCode 6 = .ok (.ifCond .ne 13, 3) := dk_154 0 13 (dk_at dksJ36_hashCode_0 6 rfl rfl)
theorem dJ36_hashCode_9 : decode cJ36_hashCode 9 = .ok (.aload_n 0, 1) := dk_42 (dk_at dksJ36_hashCode_0 9 rfl rfl)
theorem dJ36_hashCode_10 : decode cJ36_hashCode 10 = .ok (.aload_n 0, 1) := dk_42 (dk_at dksJ36_hashCode_0 10 rfl rfl)
theorem dJ36_hashCode_11 : decode cJ36_hashCode 11 = .ok (.invokestatic 20, 3) := dk_184 0 20 (dk_at dksJ36_hashCode_0 11 rfl rfl)
theorem dJ36_hashCode_14 : decode cJ36_hashCode 14 = .ok (.dup_x1, 1) := dk_90 (dk_at dksJ36_hashCode_0 14 rfl rfl)
theorem dJ36_hashCode_15 : decode cJ36_hashCode 15 = .ok (.putfield 17, 3) := dk_181 0 17 (dk_at dksJ36_hashCode_0 15 rfl rfl)
theorem dJ36_hashCode_18 : decode cJ36_hashCode 18 = .ok (.istore_n 1, 1) := dk_60 (dk_at dksJ36_hashCode_0 18 rfl rfl)
theorem dJ36_hashCode_19 : decode cJ36_hashCode 19 = .ok (.iload_n 1, 1) := dk_27 (dk_at dksJ36_hashCode_0 19 rfl rfl)
theorem dJ36_hashCode_20 : decode cJ36_hashCode 20 = .ok (.ireturn, 1) := dk_172 (dk_at dksJ36_hashCode_0 20 rfl rfl)
abbrev cJ36_compareTo : ByteArray := prog_27_method_15_code
def yJ36_compareTo : MethodName := ⟨RJ36, "compareTo", "(Ljava/lang/Object;)I"⟩
def dkwJ36_compareTo_0 : List UInt8 := [42, 43, 192, 0, 2, 182, 0, 101, 172]
abbrev dktJ36_compareTo_0 : List UInt8 := dkwJ36_compareTo_0 ++ []
theorem dksJ36_compareTo_0 : cJ36_compareTo.data.toList.drop 0 = dktJ36_compareTo_0 := by decide +kernel
theorem dJ36_compareTo_0 : decode cJ36_compareTo 0 = .ok (.aload_n 0, 1) := dk_42 (dk_at dksJ36_compareTo_0 0 rfl rfl)
theorem dJ36_compareTo_1 : decode cJ36_compareTo 1 = .ok (.aload_n 1, 1) := dk_43 (dk_at dksJ36_compareTo_0 1 rfl rfl)
theorem dJ36_compareTo_2 : decode cJ36_compareTo 2 = .ok (.checkcast 2, 3) := dk_192 0 2 (dk_at dksJ36_compareTo_0 2 rfl rfl)
theorem dJ36_compareTo_5 : decode cJ36_compareTo 5 = .ok (.invokevirtual 101, 3) := dk_182 0 101 (dk_at dksJ36_compareTo_0 5 rfl rfl)
theorem dJ36_compareTo_8 : decode cJ36_compareTo 8 = .ok (.ireturn, 1) := dk_172 (dk_at dksJ36_compareTo_0 8 rfl rfl)
abbrev cJ36_compareTo_2 : ByteArray := prog_27_method_8_code
def yJ36_compareTo_2 : MethodName := ⟨RJ36, "compareTo", "(Ljava/lang/Enum;)I"⟩
def dkwJ36_compareTo_2_1 : List UInt8 := [165, 0, 11, 187, 0, 36, 89, 183, 0, 38, 191, 45, 180, 0, 7, 44, 180, 0, 7, 100, 172]
abbrev dktJ36_compareTo_2_1 : List UInt8 := dkwJ36_compareTo_2_1 ++ []
def dkwJ36_compareTo_2_0 : List UInt8 := [43, 77, 42, 78, 45, 182, 0, 29, 44, 182, 0, 29, 165, 0, 22, 45, 182, 0, 33, 44, 182, 0, 33]
abbrev dktJ36_compareTo_2_0 : List UInt8 := dkwJ36_compareTo_2_0 ++ dktJ36_compareTo_2_1
theorem dksJ36_compareTo_2_0 : cJ36_compareTo_2.data.toList.drop 0 = dktJ36_compareTo_2_0 := by decide +kernel
theorem dksJ36_compareTo_2_1 : cJ36_compareTo_2.data.toList.drop 23 = dktJ36_compareTo_2_1 := dk_seg dksJ36_compareTo_2_0 23 rfl rfl
theorem dJ36_compareTo_2_0 : decode cJ36_compareTo_2 0 = .ok (.aload_n 1, 1) := dk_43 (dk_at dksJ36_compareTo_2_0 0 rfl rfl)
theorem dJ36_compareTo_2_1 : decode cJ36_compareTo_2 1 = .ok (.astore_n 2, 1) := dk_77 (dk_at dksJ36_compareTo_2_0 1 rfl rfl)
theorem dJ36_compareTo_2_2 : decode cJ36_compareTo_2 2 = .ok (.aload_n 0, 1) := dk_42 (dk_at dksJ36_compareTo_2_0 2 rfl rfl)
theorem dJ36_compareTo_2_3 : decode cJ36_compareTo_2 3 = .ok (.astore_n 3, 1) := dk_78 (dk_at dksJ36_compareTo_2_0 3 rfl rfl)
theorem dJ36_compareTo_2_4 : decode cJ36_compareTo_2 4 = .ok (.aload_n 3, 1) := dk_45 (dk_at dksJ36_compareTo_2_0 4 rfl rfl)
theorem dJ36_compareTo_2_5 : decode cJ36_compareTo_2 5 = .ok (.invokevirtual 29, 3) := dk_182 0 29 (dk_at dksJ36_compareTo_2_0 5 rfl rfl)
theorem dJ36_compareTo_2_8 : decode cJ36_compareTo_2 8 = .ok (.aload_n 2, 1) := dk_44 (dk_at dksJ36_compareTo_2_0 8 rfl rfl)
theorem dJ36_compareTo_2_9 : decode cJ36_compareTo_2 9 = .ok (.invokevirtual 29, 3) := dk_182 0 29 (dk_at dksJ36_compareTo_2_0 9 rfl rfl)
theorem dJ36_compareTo_2_12 : decode cJ36_compareTo_2 12 = .ok (.if_acmp .eq 22, 3) := dk_165 0 22 (dk_at dksJ36_compareTo_2_0 12 rfl rfl)
theorem dJ36_compareTo_2_15 : decode cJ36_compareTo_2 15 = .ok (.aload_n 3, 1) := dk_45 (dk_at dksJ36_compareTo_2_0 15 rfl rfl)
theorem dJ36_compareTo_2_16 : decode cJ36_compareTo_2 16 = .ok (.invokevirtual 33, 3) := dk_182 0 33 (dk_at dksJ36_compareTo_2_0 16 rfl rfl)
theorem dJ36_compareTo_2_19 : decode cJ36_compareTo_2 19 = .ok (.aload_n 2, 1) := dk_44 (dk_at dksJ36_compareTo_2_0 19 rfl rfl)
theorem dJ36_compareTo_2_20 : decode cJ36_compareTo_2 20 = .ok (.invokevirtual 33, 3) := dk_182 0 33 (dk_at dksJ36_compareTo_2_0 20 rfl rfl)
theorem dJ36_compareTo_2_23 : decode cJ36_compareTo_2 23 = .ok (.if_acmp .eq 11, 3) := dk_165 0 11 (dk_at dksJ36_compareTo_2_1 0 rfl rfl)
theorem dJ36_compareTo_2_26 : decode cJ36_compareTo_2 26 = .ok (.new 36, 3) := dk_187 0 36 (dk_at dksJ36_compareTo_2_1 3 rfl rfl)
theorem dJ36_compareTo_2_29 : decode cJ36_compareTo_2 29 = .ok (.dup, 1) := dk_89 (dk_at dksJ36_compareTo_2_1 6 rfl rfl)
theorem dJ36_compareTo_2_30 : decode cJ36_compareTo_2 30 = .ok (.invokespecial 38, 3) := dk_183 0 38 (dk_at dksJ36_compareTo_2_1 7 rfl rfl)
theorem dJ36_compareTo_2_33 : decode cJ36_compareTo_2 33 = .ok (.athrow, 1) := dk_191 (dk_at dksJ36_compareTo_2_1 10 rfl rfl)
theorem dJ36_compareTo_2_34 : decode cJ36_compareTo_2 34 = .ok (.aload_n 3, 1) := dk_45 (dk_at dksJ36_compareTo_2_1 11 rfl rfl)
theorem dJ36_compareTo_2_35 : decode cJ36_compareTo_2 35 = .ok (.getfield 7, 3) := dk_180 0 7 (dk_at dksJ36_compareTo_2_1 12 rfl rfl)
theorem dJ36_compareTo_2_38 : decode cJ36_compareTo_2 38 = .ok (.aload_n 2, 1) := dk_44 (dk_at dksJ36_compareTo_2_1 15 rfl rfl)
theorem dJ36_compareTo_2_39 : decode cJ36_compareTo_2 39 = .ok (.getfield 7, 3) := dk_180 0 7 (dk_at dksJ36_compareTo_2_1 16 rfl rfl)
theorem dJ36_compareTo_2_42 : decode cJ36_compareTo_2 42 = .ok (.isub, 1) := dk_100 (dk_at dksJ36_compareTo_2_1 19 rfl rfl)
theorem dJ36_compareTo_2_43 : decode cJ36_compareTo_2 43 = .ok (.ireturn, 1) := dk_172 (dk_at dksJ36_compareTo_2_1 20 rfl rfl)
abbrev cJ36_getDeclaringClass : ByteArray := prog_27_method_9_code
def yJ36_getDeclaringClass : MethodName := ⟨RJ36, "getDeclaringClass", "()Ljava/lang/Class;"⟩
def dkwJ36_getDeclaringClass_0 : List UInt8 := [42, 182, 0, 29, 76, 43, 182, 0, 39, 77, 44, 18, 2, 166, 0, 7, 43, 167, 0, 4, 44, 176]
abbrev dktJ36_getDeclaringClass_0 : List UInt8 := dkwJ36_getDeclaringClass_0 ++ []
theorem dksJ36_getDeclaringClass_0 : cJ36_getDeclaringClass.data.toList.drop 0 = dktJ36_getDeclaringClass_0 := by decide +kernel
theorem dJ36_getDeclaringClass_0 : decode cJ36_getDeclaringClass 0 = .ok (.aload_n 0, 1) := dk_42 (dk_at dksJ36_getDeclaringClass_0 0 rfl rfl)
theorem dJ36_getDeclaringClass_1 : decode cJ36_getDeclaringClass 1 = .ok (.invokevirtual 29, 3) := dk_182 0 29 (dk_at dksJ36_getDeclaringClass_0 1 rfl rfl)
theorem dJ36_getDeclaringClass_4 : decode cJ36_getDeclaringClass 4 = .ok (.astore_n 1, 1) := dk_76 (dk_at dksJ36_getDeclaringClass_0 4 rfl rfl)
theorem dJ36_getDeclaringClass_5 : decode cJ36_getDeclaringClass 5 = .ok (.aload_n 1, 1) := dk_43 (dk_at dksJ36_getDeclaringClass_0 5 rfl rfl)
theorem dJ36_getDeclaringClass_6 : decode cJ36_getDeclaringClass 6 = .ok (.invokevirtual 39, 3) := dk_182 0 39 (dk_at dksJ36_getDeclaringClass_0 6 rfl rfl)
theorem dJ36_getDeclaringClass_9 : decode cJ36_getDeclaringClass 9 = .ok (.astore_n 2, 1) := dk_77 (dk_at dksJ36_getDeclaringClass_0 9 rfl rfl)
theorem dJ36_getDeclaringClass_10 : decode cJ36_getDeclaringClass 10 = .ok (.aload_n 2, 1) := dk_44 (dk_at dksJ36_getDeclaringClass_0 10 rfl rfl)
theorem dJ36_getDeclaringClass_11 : decode cJ36_getDeclaringClass 11 = .ok (.ldc 2, 2) := dk_18 2 (dk_at dksJ36_getDeclaringClass_0 11 rfl rfl)
theorem dJ36_getDeclaringClass_13 : decode cJ36_getDeclaringClass 13 = .ok (.if_acmp .ne 7, 3) := dk_166 0 7 (dk_at dksJ36_getDeclaringClass_0 13 rfl rfl)
theorem dJ36_getDeclaringClass_16 : decode cJ36_getDeclaringClass 16 = .ok (.aload_n 1, 1) := dk_43 (dk_at dksJ36_getDeclaringClass_0 16 rfl rfl)
theorem dJ36_getDeclaringClass_17 : decode cJ36_getDeclaringClass 17 = .ok (.goto 4, 3) := dk_167 0 4 (dk_at dksJ36_getDeclaringClass_0 17 rfl rfl)
theorem dJ36_getDeclaringClass_20 : decode cJ36_getDeclaringClass 20 = .ok (.aload_n 2, 1) := dk_44 (dk_at dksJ36_getDeclaringClass_0 20 rfl rfl)
theorem dJ36_getDeclaringClass_21 : decode cJ36_getDeclaringClass 21 = .ok (.areturn, 1) := dk_176 (dk_at dksJ36_getDeclaringClass_0 21 rfl rfl)
abbrev cJ36_equals : ByteArray := prog_27_method_5_code
def yJ36_equals : MethodName := ⟨RJ36, "equals", "(Ljava/lang/Object;)Z"⟩
def dkwJ36_equals_0 : List UInt8 := [42, 43, 166, 0, 7, 4, 167, 0, 4, 3, 172]
abbrev dktJ36_equals_0 : List UInt8 := dkwJ36_equals_0 ++ []
theorem dksJ36_equals_0 : cJ36_equals.data.toList.drop 0 = dktJ36_equals_0 := by decide +kernel
theorem dJ36_equals_0 : decode cJ36_equals 0 = .ok (.aload_n 0, 1) := dk_42 (dk_at dksJ36_equals_0 0 rfl rfl)
theorem dJ36_equals_1 : decode cJ36_equals 1 = .ok (.aload_n 1, 1) := dk_43 (dk_at dksJ36_equals_0 1 rfl rfl)
theorem dJ36_equals_2 : decode cJ36_equals 2 = .ok (.if_acmp .ne 7, 3) := dk_166 0 7 (dk_at dksJ36_equals_0 2 rfl rfl)
theorem dJ36_equals_5 : decode cJ36_equals 5 = .ok (.iconst 1, 1) := dk_4 (dk_at dksJ36_equals_0 5 rfl rfl)
theorem dJ36_equals_6 : decode cJ36_equals 6 = .ok (.goto 4, 3) := dk_167 0 4 (dk_at dksJ36_equals_0 6 rfl rfl)
theorem dJ36_equals_9 : decode cJ36_equals 9 = .ok (.iconst 0, 1) := dk_3 (dk_at dksJ36_equals_0 9 rfl rfl)
theorem dJ36_equals_10 : decode cJ36_equals 10 = .ok (.ireturn, 1) := dk_172 (dk_at dksJ36_equals_0 10 rfl rfl)
theorem q197 : (Jvm.Cond.initialized "java/lang/Enum") ∈ lw_all := lw_g (lw_at lw_m1 49 rfl) rfl
theorem q1019 : (Jvm.Cond.instanceMethod ({ cls := "java/lang/Enum", name := "toString", desc := "()Ljava/lang/String;" } : Jvm.MethodName)) ∈ lw_all := lw_g (lw_at lw_m4 151 rfl) rfl
theorem q1020 : (Jvm.Cond.code ({ cls := "java/lang/Enum", name := "toString", desc := "()Ljava/lang/String;" } : Jvm.MethodName) prog_27_method_4_code (1 : Nat) (Option.some (Jvm.ClassFile.FieldType.object "java/lang/String"))) ∈ lw_all := lw_g (lw_at lw_m4 152 rfl) rfl
theorem q1318 : (Jvm.Cond.instanceMethod ({ cls := "java/lang/Enum", name := "hashCode", desc := "()I" } : Jvm.MethodName)) ∈ lw_all := lw_g (lw_at lw_m5 210 rfl) rfl
theorem q1319 : (Jvm.Cond.code ({ cls := "java/lang/Enum", name := "hashCode", desc := "()I" } : Jvm.MethodName) prog_27_method_6_code (2 : Nat) (Option.some Jvm.ClassFile.FieldType.int)) ∈ lw_all := lw_g (lw_at lw_m5 211 rfl) rfl
theorem q1320 : (Jvm.Cond.methodLink "java/lang/Enum" (20 : Nat) ({ cls := "java/lang/System", name := "identityHashCode", desc := "(Ljava/lang/Object;)I" } : Jvm.MethodName)) ∈ lw_all := lw_g (lw_at lw_m5 212 rfl) rfl
theorem q1500 : (Jvm.Cond.instanceMethod ({ cls := "java/lang/Enum", name := "compareTo", desc := "(Ljava/lang/Object;)I" } : Jvm.MethodName)) ∈ lw_all := lw_g (lw_at lw_m6 152 rfl) rfl
theorem q1501 : (Jvm.Cond.publicMethod ({ cls := "java/lang/Enum", name := "compareTo", desc := "(Ljava/lang/Object;)I" } : Jvm.MethodName)) ∈ lw_tbl := lw_at lw_m6 153 rfl
theorem q1502 : (Jvm.Cond.code ({ cls := "java/lang/Enum", name := "compareTo", desc := "(Ljava/lang/Object;)I" } : Jvm.MethodName) prog_27_method_15_code (2 : Nat) (Option.some Jvm.ClassFile.FieldType.int)) ∈ lw_all := lw_g (lw_at lw_m6 154 rfl) rfl
theorem q1503 : (Jvm.Cond.classLink "java/lang/Enum" (2 : Nat) "java/lang/Enum") ∈ lw_all := lw_g (lw_at lw_m6 155 rfl) rfl
theorem q1504 : (Jvm.Cond.methodLink "java/lang/Enum" (101 : Nat) ({ cls := "java/lang/Enum", name := "compareTo", desc := "(Ljava/lang/Enum;)I" } : Jvm.MethodName)) ∈ lw_all := lw_g (lw_at lw_m6 156 rfl) rfl
theorem q1505 : (Jvm.Cond.instanceMethod ({ cls := "java/lang/Enum", name := "compareTo", desc := "(Ljava/lang/Enum;)I" } : Jvm.MethodName)) ∈ lw_all := lw_g (lw_at lw_m6 157 rfl) rfl
theorem q1506 : (Jvm.Cond.sameMethod "java/lang/Enum" "java/lang/Enum" "compareTo" "(Ljava/lang/Enum;)I") ∈ lw_all := lw_g (lw_at lw_m6 158 rfl) rfl
theorem q1508 : (Jvm.Cond.code ({ cls := "java/lang/Enum", name := "compareTo", desc := "(Ljava/lang/Enum;)I" } : Jvm.MethodName) prog_27_method_8_code (4 : Nat) (Option.some Jvm.ClassFile.FieldType.int)) ∈ lw_all := lw_g (lw_at lw_m6 160 rfl) rfl
theorem q1509 : (Jvm.Cond.methodLink "java/lang/Enum" (29 : Nat) ({ cls := "java/lang/Object", name := "getClass", desc := "()Ljava/lang/Class;" } : Jvm.MethodName)) ∈ lw_all := lw_g (lw_at lw_m6 161 rfl) rfl
theorem q1510 : (Jvm.Cond.methodLink "java/lang/Enum" (33 : Nat) ({ cls := "java/lang/Enum", name := "getDeclaringClass", desc := "()Ljava/lang/Class;" } : Jvm.MethodName)) ∈ lw_all := lw_g (lw_at lw_m6 162 rfl) rfl
theorem q1511 : (Jvm.Cond.instanceMethod ({ cls := "java/lang/Enum", name := "getDeclaringClass", desc := "()Ljava/lang/Class;" } : Jvm.MethodName)) ∈ lw_all := lw_g (lw_at lw_m6 163 rfl) rfl
theorem q1512 : (Jvm.Cond.sameMethod "java/lang/Enum" "java/lang/Enum" "getDeclaringClass" "()Ljava/lang/Class;") ∈ lw_all := lw_g (lw_at lw_m6 164 rfl) rfl
theorem q1514 : (Jvm.Cond.code ({ cls := "java/lang/Enum", name := "getDeclaringClass", desc := "()Ljava/lang/Class;" } : Jvm.MethodName) prog_27_method_9_code (3 : Nat) (Option.some (Jvm.ClassFile.FieldType.object "java/lang/Class"))) ∈ lw_all := lw_g (lw_at lw_m6 166 rfl) rfl
theorem q1747 : (Jvm.Cond.instanceMethod ({ cls := "java/lang/Enum", name := "equals", desc := "(Ljava/lang/Object;)Z" } : Jvm.MethodName)) ∈ lw_all := lw_g (lw_at lw_m7 159 rfl) rfl
theorem q1748 : (Jvm.Cond.code ({ cls := "java/lang/Enum", name := "equals", desc := "(Ljava/lang/Object;)Z" } : Jvm.MethodName) prog_27_method_5_code (2 : Nat) (Option.some Jvm.ClassFile.FieldType.boolean)) ∈ lw_all := lw_g (lw_at lw_m7 160 rfl) rfl
theorem q4141 : (Jvm.Cond.fieldLink "java/lang/Enum" (17 : Nat) "java/lang/Enum" "hash" "I") ∈ lw_all := lw_g (lw_at lw_m17 153 rfl) rfl
theorem q4142 : (Jvm.Cond.fieldLink "java/lang/Enum" (1 : Nat) "java/lang/Enum" "name" "Ljava/lang/String;") ∈ lw_all := lw_g (lw_at lw_m17 154 rfl) rfl
theorem q4143 : (Jvm.Cond.fieldLink "java/lang/Enum" (7 : Nat) "java/lang/Enum" "ordinal" "I") ∈ lw_all := lw_g (lw_at lw_m17 155 rfl) rfl

/-! java/util/HashMap$KeySet -/
set_option maxRecDepth 100000
def RJ38 : String := "java/util/HashMap$KeySet"
abbrev cJ38_iterator : ByteArray := prog_62_method_4_code
def yJ38_iterator : MethodName := ⟨RJ38, "iterator", "()Ljava/util/Iterator;"⟩
def dkwJ38_iterator_0 : List UInt8 := [187, 0, 22, 89, 42, 180, 0, 1, 183, 0, 24, 176]
abbrev dktJ38_iterator_0 : List UInt8 := dkwJ38_iterator_0 ++ []
theorem dksJ38_iterator_0 : cJ38_iterator.data.toList.drop 0 = dktJ38_iterator_0 := by decide +kernel
theorem dJ38_iterator_0 : decode cJ38_iterator 0 = .ok (.new 22, 3) := dk_187 0 22 (dk_at dksJ38_iterator_0 0 rfl rfl)
theorem dJ38_iterator_3 : decode cJ38_iterator 3 = .ok (.dup, 1) := dk_89 (dk_at dksJ38_iterator_0 3 rfl rfl)
theorem dJ38_iterator_4 : decode cJ38_iterator 4 = .ok (.aload_n 0, 1) := dk_42 (dk_at dksJ38_iterator_0 4 rfl rfl)
theorem dJ38_iterator_5 : decode cJ38_iterator 5 = .ok (.getfield 1, 3) := dk_180 0 1 (dk_at dksJ38_iterator_0 5 rfl rfl)
theorem dJ38_iterator_8 : decode cJ38_iterator 8 = .ok (.invokespecial 24, 3) := dk_183 0 24 (dk_at dksJ38_iterator_0 8 rfl rfl)
theorem dJ38_iterator_11 : decode cJ38_iterator 11 = .ok (.areturn, 1) := dk_176 (dk_at dksJ38_iterator_0 11 rfl rfl)
theorem q206 : (Jvm.Cond.initialized "java/util/HashMap$KeySet") ∈ lw_all := lw_g (lw_at lw_m1 58 rfl) rfl
theorem q1050 : (Jvm.Cond.selects "java/util/HashMap$KeySet" ({ cls := "java/lang/Object", name := "getClass", desc := "()Ljava/lang/Class;" } : Jvm.MethodName) ({ cls := "java/lang/Object", name := "getClass", desc := "()Ljava/lang/Class;" } : Jvm.MethodName)) ∈ lw_all := lw_g (lw_at lw_m4 182 rfl) rfl
theorem q2736 : (Jvm.Cond.castable "java/util/HashMap$KeySet" "java/util/Set") ∈ lw_tbl := lw_at lw_m11 188 rfl
theorem q2737 : (Jvm.Cond.selects "java/util/HashMap$KeySet" ({ cls := "java/util/Set", name := "iterator", desc := "()Ljava/util/Iterator;" } : Jvm.MethodName) ({ cls := "java/util/HashMap$KeySet", name := "iterator", desc := "()Ljava/util/Iterator;" } : Jvm.MethodName)) ∈ lw_all := lw_g (lw_at lw_m11 189 rfl) rfl
theorem q2738 : (Jvm.Cond.unhidden "java/util/HashMap$KeySet" "iterator" "()Ljava/util/Iterator;") ∈ lw_tbl := lw_at lw_m11 190 rfl
theorem q2739 : (Jvm.Cond.instanceMethod ({ cls := "java/util/HashMap$KeySet", name := "iterator", desc := "()Ljava/util/Iterator;" } : Jvm.MethodName)) ∈ lw_all := lw_g (lw_at lw_m11 191 rfl) rfl
theorem q2740 : (Jvm.Cond.publicMethod ({ cls := "java/util/HashMap$KeySet", name := "iterator", desc := "()Ljava/util/Iterator;" } : Jvm.MethodName)) ∈ lw_tbl := lw_at lw_m11 192 rfl
theorem q2741 : (Jvm.Cond.code ({ cls := "java/util/HashMap$KeySet", name := "iterator", desc := "()Ljava/util/Iterator;" } : Jvm.MethodName) prog_62_method_4_code (1 : Nat) (Option.some (Jvm.ClassFile.FieldType.object "java/util/Iterator"))) ∈ lw_all := lw_g (lw_at lw_m11 193 rfl) rfl
theorem q2742 : (Jvm.Cond.classLink "java/util/HashMap$KeySet" (22 : Nat) "java/util/HashMap$KeyIterator") ∈ lw_all := lw_g (lw_at lw_m11 194 rfl) rfl
theorem q2744 : (Jvm.Cond.methodLink "java/util/HashMap$KeySet" (24 : Nat) ({ cls := "java/util/HashMap$KeyIterator", name := "<init>", desc := "(Ljava/util/HashMap;)V" } : Jvm.MethodName)) ∈ lw_all := lw_g (lw_at lw_m11 196 rfl) rfl
theorem q4117 : (Jvm.Cond.castable "java/util/HashMap$KeySet" "java/lang/Object") ∈ lw_tbl := lw_at lw_m17 129 rfl
theorem q4144 : (Jvm.Cond.fieldLink "java/util/HashMap$KeySet" (1 : Nat) "java/util/HashMap$KeySet" "this$0" "Ljava/util/HashMap;") ∈ lw_all := lw_g (lw_at lw_m17 156 rfl) rfl

/-! java/util/LinkedHashMap$LinkedKeySet -/
set_option maxRecDepth 100000
def RJ39 : String := "java/util/LinkedHashMap$LinkedKeySet"
def TJ39 : u_T := fun k => match k with
  | 0 => ("java/util/LinkedHashMap$LinkedKeySet", "reversed", "Z", true)
  | _ => ("java/util/LinkedHashMap$LinkedKeySet", "this$0", "Ljava/util/LinkedHashMap;", true)
def tyJ39 : Nat → FieldType := fun k => match k with
  | 0 => .boolean
  | _ => .object "java/util/LinkedHashMap"
abbrev wsJ390 : List Cond := u_ws RJ39 TJ39 2
theorem nmJ39 : ∀ a, a < 2 → ∀ b, b < 2 → a ≠ b → (TJ39 a).2.1 ≠ (TJ39 b).2.1 := by decide +kernel
theorem tyJ39_ok : ∀ k, k < 2 → parseFieldDescriptor (TJ39 k).2.2.1 = some (tyJ39 k) := by decide +kernel
abbrev cJ39_init : ByteArray := prog_71_method_1_code
def yJ39_init : MethodName := ⟨RJ39, "<init>", "(Ljava/util/LinkedHashMap;Z)V"⟩
def dkwJ39_init_0 : List UInt8 := [42, 43, 181, 0, 1, 42, 183, 0, 7, 42, 28, 181, 0, 13, 177]
abbrev dktJ39_init_0 : List UInt8 := dkwJ39_init_0 ++ []
theorem dksJ39_init_0 : cJ39_init.data.toList.drop 0 = dktJ39_init_0 := by decide +kernel
theorem dJ39_init_0 : decode cJ39_init 0 = .ok (.aload_n 0, 1) := dk_42 (dk_at dksJ39_init_0 0 rfl rfl)
theorem dJ39_init_1 : decode cJ39_init 1 = .ok (.aload_n 1, 1) := dk_43 (dk_at dksJ39_init_0 1 rfl rfl)
theorem dJ39_init_2 : decode cJ39_init 2 = .ok (.putfield 1, 3) := dk_181 0 1 (dk_at dksJ39_init_0 2 rfl rfl)
theorem dJ39_init_5 : decode cJ39_init 5 = .ok (.aload_n 0, 1) := dk_42 (dk_at dksJ39_init_0 5 rfl rfl)
theorem dJ39_init_6 : decode cJ39_init 6 = .ok (.invokespecial 7, 3) := dk_183 0 7 (dk_at dksJ39_init_0 6 rfl rfl)
theorem dJ39_init_9 : decode cJ39_init 9 = .ok (.aload_n 0, 1) := dk_42 (dk_at dksJ39_init_0 9 rfl rfl)
theorem dJ39_init_10 : decode cJ39_init 10 = .ok (.iload_n 2, 1) := dk_28 (dk_at dksJ39_init_0 10 rfl rfl)
theorem dJ39_init_11 : decode cJ39_init 11 = .ok (.putfield 13, 3) := dk_181 0 13 (dk_at dksJ39_init_0 11 rfl rfl)
theorem dJ39_init_14 : decode cJ39_init 14 = .ok (.return_, 1) := dk_177 (dk_at dksJ39_init_0 14 rfl rfl)
abbrev cJ39_iterator : ByteArray := prog_71_method_4_code
def yJ39_iterator : MethodName := ⟨RJ39, "iterator", "()Ljava/util/Iterator;"⟩
def dkwJ39_iterator_0 : List UInt8 := [187, 0, 26, 89, 42, 180, 0, 1, 42, 180, 0, 13, 183, 0, 28, 176]
abbrev dktJ39_iterator_0 : List UInt8 := dkwJ39_iterator_0 ++ []
theorem dksJ39_iterator_0 : cJ39_iterator.data.toList.drop 0 = dktJ39_iterator_0 := by decide +kernel
theorem dJ39_iterator_0 : decode cJ39_iterator 0 = .ok (.new 26, 3) := dk_187 0 26 (dk_at dksJ39_iterator_0 0 rfl rfl)
theorem dJ39_iterator_3 : decode cJ39_iterator 3 = .ok (.dup, 1) := dk_89 (dk_at dksJ39_iterator_0 3 rfl rfl)
theorem dJ39_iterator_4 : decode cJ39_iterator 4 = .ok (.aload_n 0, 1) := dk_42 (dk_at dksJ39_iterator_0 4 rfl rfl)
theorem dJ39_iterator_5 : decode cJ39_iterator 5 = .ok (.getfield 1, 3) := dk_180 0 1 (dk_at dksJ39_iterator_0 5 rfl rfl)
theorem dJ39_iterator_8 : decode cJ39_iterator 8 = .ok (.aload_n 0, 1) := dk_42 (dk_at dksJ39_iterator_0 8 rfl rfl)
theorem dJ39_iterator_9 : decode cJ39_iterator 9 = .ok (.getfield 13, 3) := dk_180 0 13 (dk_at dksJ39_iterator_0 9 rfl rfl)
theorem dJ39_iterator_12 : decode cJ39_iterator 12 = .ok (.invokespecial 28, 3) := dk_183 0 28 (dk_at dksJ39_iterator_0 12 rfl rfl)
theorem dJ39_iterator_15 : decode cJ39_iterator 15 = .ok (.areturn, 1) := dk_176 (dk_at dksJ39_iterator_0 15 rfl rfl)
theorem q207 : (Jvm.Cond.initialized "java/util/LinkedHashMap$LinkedKeySet") ∈ lw_all := lw_g (lw_at lw_m1 59 rfl) rfl
theorem q1056 : (Jvm.Cond.selects "java/util/LinkedHashMap$LinkedKeySet" ({ cls := "java/lang/Object", name := "getClass", desc := "()Ljava/lang/Class;" } : Jvm.MethodName) ({ cls := "java/lang/Object", name := "getClass", desc := "()Ljava/lang/Class;" } : Jvm.MethodName)) ∈ lw_all := lw_g (lw_at lw_m4 188 rfl) rfl
theorem q2718 : (Jvm.Cond.instantiable "java/util/LinkedHashMap$LinkedKeySet" (2 : Nat)) ∈ lw_all := lw_g (lw_at lw_m11 170 rfl) rfl
theorem q2720 : (Jvm.Cond.instanceMethod ({ cls := "java/util/LinkedHashMap$LinkedKeySet", name := "<init>", desc := "(Ljava/util/LinkedHashMap;Z)V" } : Jvm.MethodName)) ∈ lw_all := lw_g (lw_at lw_m11 172 rfl) rfl
theorem q2721 : (Jvm.Cond.code ({ cls := "java/util/LinkedHashMap$LinkedKeySet", name := "<init>", desc := "(Ljava/util/LinkedHashMap;Z)V" } : Jvm.MethodName) prog_71_method_1_code (3 : Nat) (Option.none : Option Jvm.ClassFile.FieldType)) ∈ lw_all := lw_g (lw_at lw_m11 173 rfl) rfl
theorem q2722 : (Jvm.Cond.methodLink "java/util/LinkedHashMap$LinkedKeySet" (7 : Nat) ({ cls := "java/util/AbstractSet", name := "<init>", desc := "()V" } : Jvm.MethodName)) ∈ lw_all := lw_g (lw_at lw_m11 174 rfl) rfl
theorem q2723 : (Jvm.Cond.fieldLink "java/util/LinkedHashMap$LinkedKeySet" (13 : Nat) "java/util/LinkedHashMap$LinkedKeySet" "reversed" "Z") ∈ lw_all := lw_g (lw_at lw_m11 175 rfl) rfl
theorem q2724 : (Jvm.Cond.fieldLink "java/util/LinkedHashMap$LinkedKeySet" (1 : Nat) "java/util/LinkedHashMap$LinkedKeySet" "this$0" "Ljava/util/LinkedHashMap;") ∈ lw_all := lw_g (lw_at lw_m11 176 rfl) rfl
theorem q2725 : (Jvm.Cond.laysFinal "java/util/LinkedHashMap$LinkedKeySet" "java/util/LinkedHashMap$LinkedKeySet" "reversed" "Z") ∈ lw_all := lw_g (lw_at lw_m11 177 rfl) rfl
theorem q2726 : (Jvm.Cond.soleField "java/util/LinkedHashMap$LinkedKeySet" "reversed") ∈ lw_all := lw_g (lw_at lw_m11 178 rfl) rfl
theorem q2727 : (Jvm.Cond.laysFinal "java/util/LinkedHashMap$LinkedKeySet" "java/util/LinkedHashMap$LinkedKeySet" "this$0" "Ljava/util/LinkedHashMap;") ∈ lw_all := lw_g (lw_at lw_m11 179 rfl) rfl
theorem q2728 : (Jvm.Cond.soleField "java/util/LinkedHashMap$LinkedKeySet" "this$0") ∈ lw_all := lw_g (lw_at lw_m11 180 rfl) rfl
theorem q2729 : (Jvm.Cond.superclass "java/util/LinkedHashMap$LinkedKeySet" "java/util/AbstractSet") ∈ lw_all := lw_g (lw_at lw_m11 181 rfl) rfl
theorem q2767 : (Jvm.Cond.castable "java/util/LinkedHashMap$LinkedKeySet" "java/util/Set") ∈ lw_tbl := lw_at lw_m11 219 rfl
theorem q2768 : (Jvm.Cond.selects "java/util/LinkedHashMap$LinkedKeySet" ({ cls := "java/util/Set", name := "iterator", desc := "()Ljava/util/Iterator;" } : Jvm.MethodName) ({ cls := "java/util/LinkedHashMap$LinkedKeySet", name := "iterator", desc := "()Ljava/util/Iterator;" } : Jvm.MethodName)) ∈ lw_all := lw_g (lw_at lw_m11 220 rfl) rfl
theorem q2769 : (Jvm.Cond.unhidden "java/util/LinkedHashMap$LinkedKeySet" "iterator" "()Ljava/util/Iterator;") ∈ lw_tbl := lw_at lw_m11 221 rfl
theorem q2770 : (Jvm.Cond.instanceMethod ({ cls := "java/util/LinkedHashMap$LinkedKeySet", name := "iterator", desc := "()Ljava/util/Iterator;" } : Jvm.MethodName)) ∈ lw_all := lw_g (lw_at lw_m11 222 rfl) rfl
theorem q2771 : (Jvm.Cond.publicMethod ({ cls := "java/util/LinkedHashMap$LinkedKeySet", name := "iterator", desc := "()Ljava/util/Iterator;" } : Jvm.MethodName)) ∈ lw_tbl := lw_at lw_m11 223 rfl
theorem q2772 : (Jvm.Cond.code ({ cls := "java/util/LinkedHashMap$LinkedKeySet", name := "iterator", desc := "()Ljava/util/Iterator;" } : Jvm.MethodName) prog_71_method_4_code (1 : Nat) (Option.some (Jvm.ClassFile.FieldType.object "java/util/Iterator"))) ∈ lw_all := lw_g (lw_at lw_m11 224 rfl) rfl
theorem q2773 : (Jvm.Cond.classLink "java/util/LinkedHashMap$LinkedKeySet" (26 : Nat) "java/util/LinkedHashMap$LinkedKeyIterator") ∈ lw_all := lw_g (lw_at lw_m11 225 rfl) rfl
theorem q2775 : (Jvm.Cond.methodLink "java/util/LinkedHashMap$LinkedKeySet" (28 : Nat) ({ cls := "java/util/LinkedHashMap$LinkedKeyIterator", name := "<init>", desc := "(Ljava/util/LinkedHashMap;Z)V" } : Jvm.MethodName)) ∈ lw_all := lw_g (lw_at lw_m11 227 rfl) rfl
theorem q4076 : (Jvm.Cond.castable "java/util/LinkedHashMap$LinkedKeySet" "java/util/SequencedSet") ∈ lw_tbl := lw_at lw_m17 88 rfl
theorem q4118 : (Jvm.Cond.castable "java/util/LinkedHashMap$LinkedKeySet" "java/lang/Object") ∈ lw_tbl := lw_at lw_m17 130 rfl
theorem in_J39 : ∀ w ∈ wsJ390, w ∈ lw_all := lw_in wsJ390 [2725, 2727] (by decide +kernel) (by decide +kernel)

/-! java/util/HashMap$HashIterator -/
set_option maxRecDepth 100000
def RJ40 : String := "java/util/HashMap$HashIterator"
abbrev cJ40_init : ByteArray := prog_60_method_1_code
def yJ40_init : MethodName := ⟨RJ40, "<init>", "(Ljava/util/HashMap;)V"⟩
def dkwJ40_init_3 : List UInt8 := [181, 0, 26, 198, 255, 229, 177]
abbrev dktJ40_init_3 : List UInt8 := dkwJ40_init_3 ++ []
def dkwJ40_init_2 : List UInt8 := [42, 180, 0, 33, 44, 190, 162, 0, 24, 42, 44, 42, 89, 180, 0, 33, 90, 4, 96, 181, 0, 33, 50, 90]
abbrev dktJ40_init_2 : List UInt8 := dkwJ40_init_2 ++ dktJ40_init_3
def dkwJ40_init_1 : List UInt8 := [1, 90, 181, 0, 26, 181, 0, 30, 42, 3, 181, 0, 33, 44, 198, 0, 40, 43, 180, 0, 36, 158, 0, 33]
abbrev dktJ40_init_1 : List UInt8 := dkwJ40_init_1 ++ dktJ40_init_2
def dkwJ40_init_0 : List UInt8 := [42, 43, 181, 0, 1, 42, 183, 0, 7, 42, 43, 180, 0, 13, 181, 0, 19, 43, 180, 0, 22, 77, 42, 42]
abbrev dktJ40_init_0 : List UInt8 := dkwJ40_init_0 ++ dktJ40_init_1
theorem dksJ40_init_0 : cJ40_init.data.toList.drop 0 = dktJ40_init_0 := by decide +kernel
theorem dksJ40_init_1 : cJ40_init.data.toList.drop 24 = dktJ40_init_1 := dk_seg dksJ40_init_0 24 rfl rfl
theorem dksJ40_init_2 : cJ40_init.data.toList.drop 48 = dktJ40_init_2 := dk_seg dksJ40_init_1 24 rfl rfl
theorem dksJ40_init_3 : cJ40_init.data.toList.drop 72 = dktJ40_init_3 := dk_seg dksJ40_init_2 24 rfl rfl
theorem dJ40_init_0 : decode cJ40_init 0 = .ok (.aload_n 0, 1) := dk_42 (dk_at dksJ40_init_0 0 rfl rfl)
theorem dJ40_init_1 : decode cJ40_init 1 = .ok (.aload_n 1, 1) := dk_43 (dk_at dksJ40_init_0 1 rfl rfl)
theorem dJ40_init_2 : decode cJ40_init 2 = .ok (.putfield 1, 3) := dk_181 0 1 (dk_at dksJ40_init_0 2 rfl rfl)
theorem dJ40_init_5 : decode cJ40_init 5 = .ok (.aload_n 0, 1) := dk_42 (dk_at dksJ40_init_0 5 rfl rfl)
theorem dJ40_init_6 : decode cJ40_init 6 = .ok (.invokespecial 7, 3) := dk_183 0 7 (dk_at dksJ40_init_0 6 rfl rfl)
theorem dJ40_init_9 : decode cJ40_init 9 = .ok (.aload_n 0, 1) := dk_42 (dk_at dksJ40_init_0 9 rfl rfl)
theorem dJ40_init_10 : decode cJ40_init 10 = .ok (.aload_n 1, 1) := dk_43 (dk_at dksJ40_init_0 10 rfl rfl)
theorem dJ40_init_11 : decode cJ40_init 11 = .ok (.getfield 13, 3) := dk_180 0 13 (dk_at dksJ40_init_0 11 rfl rfl)
theorem dJ40_init_14 : decode cJ40_init 14 = .ok (.putfield 19, 3) := dk_181 0 19 (dk_at dksJ40_init_0 14 rfl rfl)
theorem dJ40_init_17 : decode cJ40_init 17 = .ok (.aload_n 1, 1) := dk_43 (dk_at dksJ40_init_0 17 rfl rfl)
theorem dJ40_init_18 : decode cJ40_init 18 = .ok (.getfield 22, 3) := dk_180 0 22 (dk_at dksJ40_init_0 18 rfl rfl)
theorem dJ40_init_21 : decode cJ40_init 21 = .ok (.astore_n 2, 1) := dk_77 (dk_at dksJ40_init_0 21 rfl rfl)
theorem dJ40_init_22 : decode cJ40_init 22 = .ok (.aload_n 0, 1) := dk_42 (dk_at dksJ40_init_0 22 rfl rfl)
theorem dJ40_init_23 : decode cJ40_init 23 = .ok (.aload_n 0, 1) := dk_42 (dk_at dksJ40_init_0 23 rfl rfl)
theorem dJ40_init_24 : decode cJ40_init 24 = .ok (.aconst_null, 1) := dk_1 (dk_at dksJ40_init_1 0 rfl rfl)
theorem dJ40_init_25 : decode cJ40_init 25 = .ok (.dup_x1, 1) := dk_90 (dk_at dksJ40_init_1 1 rfl rfl)
theorem dJ40_init_26 : decode cJ40_init 26 = .ok (.putfield 26, 3) := dk_181 0 26 (dk_at dksJ40_init_1 2 rfl rfl)
theorem dJ40_init_29 : decode cJ40_init 29 = .ok (.putfield 30, 3) := dk_181 0 30 (dk_at dksJ40_init_1 5 rfl rfl)
theorem dJ40_init_32 : decode cJ40_init 32 = .ok (.aload_n 0, 1) := dk_42 (dk_at dksJ40_init_1 8 rfl rfl)
theorem dJ40_init_33 : decode cJ40_init 33 = .ok (.iconst 0, 1) := dk_3 (dk_at dksJ40_init_1 9 rfl rfl)
theorem dJ40_init_34 : decode cJ40_init 34 = .ok (.putfield 33, 3) := dk_181 0 33 (dk_at dksJ40_init_1 10 rfl rfl)
theorem dJ40_init_37 : decode cJ40_init 37 = .ok (.aload_n 2, 1) := dk_44 (dk_at dksJ40_init_1 13 rfl rfl)
theorem dJ40_init_38 : decode cJ40_init 38 = .ok (.ifnull 40, 3) := dk_198 0 40 (dk_at dksJ40_init_1 14 rfl rfl)
theorem dJ40_init_41 : decode cJ40_init 41 = .ok (.aload_n 1, 1) := dk_43 (dk_at dksJ40_init_1 17 rfl rfl)
theorem dJ40_init_42 : decode cJ40_init 42 = .ok (.getfield 36, 3) := dk_180 0 36 (dk_at dksJ40_init_1 18 rfl rfl)
theorem dJ40_init_45 : decode cJ40_init 45 = .ok (.ifCond .le 33, 3) := dk_158 0 33 (dk_at dksJ40_init_1 21 rfl rfl)
theorem dJ40_init_48 : decode cJ40_init 48 = .ok (.aload_n 0, 1) := dk_42 (dk_at dksJ40_init_2 0 rfl rfl)
theorem dJ40_init_49 : decode cJ40_init 49 = .ok (.getfield 33, 3) := dk_180 0 33 (dk_at dksJ40_init_2 1 rfl rfl)
theorem dJ40_init_52 : decode cJ40_init 52 = .ok (.aload_n 2, 1) := dk_44 (dk_at dksJ40_init_2 4 rfl rfl)
theorem dJ40_init_53 : decode cJ40_init 53 = .ok (.arraylength, 1) := dk_190 (dk_at dksJ40_init_2 5 rfl rfl)
theorem dJ40_init_54 : decode cJ40_init 54 = .ok (.if_icmp .ge 24, 3) := dk_162 0 24 (dk_at dksJ40_init_2 6 rfl rfl)
theorem dJ40_init_57 : decode cJ40_init 57 = .ok (.aload_n 0, 1) := dk_42 (dk_at dksJ40_init_2 9 rfl rfl)
theorem dJ40_init_58 : decode cJ40_init 58 = .ok (.aload_n 2, 1) := dk_44 (dk_at dksJ40_init_2 10 rfl rfl)
theorem dJ40_init_59 : decode cJ40_init 59 = .ok (.aload_n 0, 1) := dk_42 (dk_at dksJ40_init_2 11 rfl rfl)
theorem dJ40_init_60 : decode cJ40_init 60 = .ok (.dup, 1) := dk_89 (dk_at dksJ40_init_2 12 rfl rfl)
theorem dJ40_init_61 : decode cJ40_init 61 = .ok (.getfield 33, 3) := dk_180 0 33 (dk_at dksJ40_init_2 13 rfl rfl)
theorem dJ40_init_64 : decode cJ40_init 64 = .ok (.dup_x1, 1) := dk_90 (dk_at dksJ40_init_2 16 rfl rfl)
theorem dJ40_init_65 : decode cJ40_init 65 = .ok (.iconst 1, 1) := dk_4 (dk_at dksJ40_init_2 17 rfl rfl)
theorem dJ40_init_66 : decode cJ40_init 66 = .ok (.iadd, 1) := dk_96 (dk_at dksJ40_init_2 18 rfl rfl)
theorem dJ40_init_67 : decode cJ40_init 67 = .ok (.putfield 33, 3) := dk_181 0 33 (dk_at dksJ40_init_2 19 rfl rfl)
theorem dJ40_init_70 : decode cJ40_init 70 = .ok (.aaload, 1) := dk_50 (dk_at dksJ40_init_2 22 rfl rfl)
theorem dJ40_init_71 : decode cJ40_init 71 = .ok (.dup_x1, 1) := dk_90 (dk_at dksJ40_init_2 23 rfl rfl)
theorem dJ40_init_72 : decode cJ40_init 72 = .ok (.putfield 26, 3) := dk_181 0 26 (dk_at dksJ40_init_3 0 rfl rfl)
theorem dJ40_init_75 : decode cJ40_init 75 = .ok (.ifnull (-27), 3) := dk_198 255 229 (dk_at dksJ40_init_3 3 rfl rfl)
theorem dJ40_init_78 : decode cJ40_init 78 = .ok (.return_, 1) := dk_177 (dk_at dksJ40_init_3 6 rfl rfl)
abbrev cJ40_hasNext : ByteArray := prog_60_method_2_code
def yJ40_hasNext : MethodName := ⟨RJ40, "hasNext", "()Z"⟩
def dkwJ40_hasNext_0 : List UInt8 := [42, 180, 0, 26, 198, 0, 7, 4, 167, 0, 4, 3, 172]
abbrev dktJ40_hasNext_0 : List UInt8 := dkwJ40_hasNext_0 ++ []
theorem dksJ40_hasNext_0 : cJ40_hasNext.data.toList.drop 0 = dktJ40_hasNext_0 := by decide +kernel
theorem dJ40_hasNext_0 : decode cJ40_hasNext 0 = .ok (.aload_n 0, 1) := dk_42 (dk_at dksJ40_hasNext_0 0 rfl rfl)
theorem dJ40_hasNext_1 : decode cJ40_hasNext 1 = .ok (.getfield 26, 3) := dk_180 0 26 (dk_at dksJ40_hasNext_0 1 rfl rfl)
theorem dJ40_hasNext_4 : decode cJ40_hasNext 4 = .ok (.ifnull 7, 3) := dk_198 0 7 (dk_at dksJ40_hasNext_0 4 rfl rfl)
theorem dJ40_hasNext_7 : decode cJ40_hasNext 7 = .ok (.iconst 1, 1) := dk_4 (dk_at dksJ40_hasNext_0 7 rfl rfl)
theorem dJ40_hasNext_8 : decode cJ40_hasNext 8 = .ok (.goto 4, 3) := dk_167 0 4 (dk_at dksJ40_hasNext_0 8 rfl rfl)
theorem dJ40_hasNext_11 : decode cJ40_hasNext 11 = .ok (.iconst 0, 1) := dk_3 (dk_at dksJ40_hasNext_0 11 rfl rfl)
theorem dJ40_hasNext_12 : decode cJ40_hasNext 12 = .ok (.ireturn, 1) := dk_172 (dk_at dksJ40_hasNext_0 12 rfl rfl)
abbrev cJ40_nextNode : ByteArray := prog_60_method_3_code
def yJ40_nextNode : MethodName := ⟨RJ40, "nextNode", "()Ljava/util/HashMap$Node;"⟩
def dkwJ40_nextNode_4 : List UInt8 := [181, 0, 26, 198, 255, 229, 44, 176]
abbrev dktJ40_nextNode_4 : List UInt8 := dkwJ40_nextNode_4 ++ []
def dkwJ40_nextNode_3 : List UInt8 := [180, 0, 33, 43, 190, 162, 0, 24, 42, 43, 42, 89, 180, 0, 33, 90, 4, 96, 181, 0, 33, 50, 90]
abbrev dktJ40_nextNode_3 : List UInt8 := dkwJ40_nextNode_3 ++ dktJ40_nextNode_4
def dkwJ40_nextNode_2 : List UInt8 := [180, 0, 45, 90, 181, 0, 26, 199, 0, 45, 42, 180, 0, 1, 180, 0, 22, 89, 76, 198, 0, 33, 42]
abbrev dktJ40_nextNode_2 : List UInt8 := dkwJ40_nextNode_2 ++ dktJ40_nextNode_3
def dkwJ40_nextNode_1 : List UInt8 := [183, 0, 41, 191, 44, 199, 0, 11, 187, 0, 42, 89, 183, 0, 44, 191, 42, 42, 44, 90, 181, 0, 30]
abbrev dktJ40_nextNode_1 : List UInt8 := dkwJ40_nextNode_1 ++ dktJ40_nextNode_2
def dkwJ40_nextNode_0 : List UInt8 := [42, 180, 0, 26, 77, 42, 180, 0, 1, 180, 0, 13, 42, 180, 0, 19, 159, 0, 11, 187, 0, 39, 89]
abbrev dktJ40_nextNode_0 : List UInt8 := dkwJ40_nextNode_0 ++ dktJ40_nextNode_1
theorem dksJ40_nextNode_0 : cJ40_nextNode.data.toList.drop 0 = dktJ40_nextNode_0 := by decide +kernel
theorem dksJ40_nextNode_1 : cJ40_nextNode.data.toList.drop 23 = dktJ40_nextNode_1 := dk_seg dksJ40_nextNode_0 23 rfl rfl
theorem dksJ40_nextNode_2 : cJ40_nextNode.data.toList.drop 46 = dktJ40_nextNode_2 := dk_seg dksJ40_nextNode_1 23 rfl rfl
theorem dksJ40_nextNode_3 : cJ40_nextNode.data.toList.drop 69 = dktJ40_nextNode_3 := dk_seg dksJ40_nextNode_2 23 rfl rfl
theorem dksJ40_nextNode_4 : cJ40_nextNode.data.toList.drop 92 = dktJ40_nextNode_4 := dk_seg dksJ40_nextNode_3 23 rfl rfl
theorem dJ40_nextNode_0 : decode cJ40_nextNode 0 = .ok (.aload_n 0, 1) := dk_42 (dk_at dksJ40_nextNode_0 0 rfl rfl)
theorem dJ40_nextNode_1 : decode cJ40_nextNode 1 = .ok (.getfield 26, 3) := dk_180 0 26 (dk_at dksJ40_nextNode_0 1 rfl rfl)
theorem dJ40_nextNode_4 : decode cJ40_nextNode 4 = .ok (.astore_n 2, 1) := dk_77 (dk_at dksJ40_nextNode_0 4 rfl rfl)
theorem dJ40_nextNode_5 : decode cJ40_nextNode 5 = .ok (.aload_n 0, 1) := dk_42 (dk_at dksJ40_nextNode_0 5 rfl rfl)
theorem dJ40_nextNode_6 : decode cJ40_nextNode 6 = .ok (.getfield 1, 3) := dk_180 0 1 (dk_at dksJ40_nextNode_0 6 rfl rfl)
theorem dJ40_nextNode_9 : decode cJ40_nextNode 9 = .ok (.getfield 13, 3) := dk_180 0 13 (dk_at dksJ40_nextNode_0 9 rfl rfl)
theorem dJ40_nextNode_12 : decode cJ40_nextNode 12 = .ok (.aload_n 0, 1) := dk_42 (dk_at dksJ40_nextNode_0 12 rfl rfl)
theorem dJ40_nextNode_13 : decode cJ40_nextNode 13 = .ok (.getfield 19, 3) := dk_180 0 19 (dk_at dksJ40_nextNode_0 13 rfl rfl)
theorem dJ40_nextNode_16 : decode cJ40_nextNode 16 = .ok (.if_icmp .eq 11, 3) := dk_159 0 11 (dk_at dksJ40_nextNode_0 16 rfl rfl)
theorem dJ40_nextNode_19 : decode cJ40_nextNode 19 = .ok (.new 39, 3) := dk_187 0 39 (dk_at dksJ40_nextNode_0 19 rfl rfl)
theorem dJ40_nextNode_22 : decode cJ40_nextNode 22 = .ok (.dup, 1) := dk_89 (dk_at dksJ40_nextNode_0 22 rfl rfl)
theorem dJ40_nextNode_23 : decode cJ40_nextNode 23 = .ok (.invokespecial 41, 3) := dk_183 0 41 (dk_at dksJ40_nextNode_1 0 rfl rfl)
theorem dJ40_nextNode_26 : decode cJ40_nextNode 26 = .ok (.athrow, 1) := dk_191 (dk_at dksJ40_nextNode_1 3 rfl rfl)
theorem dJ40_nextNode_27 : decode cJ40_nextNode 27 = .ok (.aload_n 2, 1) := dk_44 (dk_at dksJ40_nextNode_1 4 rfl rfl)
theorem dJ40_nextNode_28 : decode cJ40_nextNode 28 = .ok (.ifnonnull 11, 3) := dk_199 0 11 (dk_at dksJ40_nextNode_1 5 rfl rfl)
theorem dJ40_nextNode_31 : decode cJ40_nextNode 31 = .ok (.new 42, 3) := dk_187 0 42 (dk_at dksJ40_nextNode_1 8 rfl rfl)
theorem dJ40_nextNode_34 : decode cJ40_nextNode 34 = .ok (.dup, 1) := dk_89 (dk_at dksJ40_nextNode_1 11 rfl rfl)
theorem dJ40_nextNode_35 : decode cJ40_nextNode 35 = .ok (.invokespecial 44, 3) := dk_183 0 44 (dk_at dksJ40_nextNode_1 12 rfl rfl)
theorem dJ40_nextNode_38 : decode cJ40_nextNode 38 = .ok (.athrow, 1) := dk_191 (dk_at dksJ40_nextNode_1 15 rfl rfl)
theorem dJ40_nextNode_39 : decode cJ40_nextNode 39 = .ok (.aload_n 0, 1) := dk_42 (dk_at dksJ40_nextNode_1 16 rfl rfl)
theorem dJ40_nextNode_40 : decode cJ40_nextNode 40 = .ok (.aload_n 0, 1) := dk_42 (dk_at dksJ40_nextNode_1 17 rfl rfl)
theorem dJ40_nextNode_41 : decode cJ40_nextNode 41 = .ok (.aload_n 2, 1) := dk_44 (dk_at dksJ40_nextNode_1 18 rfl rfl)
theorem dJ40_nextNode_42 : decode cJ40_nextNode 42 = .ok (.dup_x1, 1) := dk_90 (dk_at dksJ40_nextNode_1 19 rfl rfl)
theorem dJ40_nextNode_43 : decode cJ40_nextNode 43 = .ok (.putfield 30, 3) := dk_181 0 30 (dk_at dksJ40_nextNode_1 20 rfl rfl)
theorem dJ40_nextNode_46 : decode cJ40_nextNode 46 = .ok (.getfield 45, 3) := dk_180 0 45 (dk_at dksJ40_nextNode_2 0 rfl rfl)
theorem dJ40_nextNode_49 : decode cJ40_nextNode 49 = .ok (.dup_x1, 1) := dk_90 (dk_at dksJ40_nextNode_2 3 rfl rfl)
theorem dJ40_nextNode_50 : decode cJ40_nextNode 50 = .ok (.putfield 26, 3) := dk_181 0 26 (dk_at dksJ40_nextNode_2 4 rfl rfl)
theorem dJ40_nextNode_53 : decode cJ40_nextNode 53 = .ok (.ifnonnull 45, 3) := dk_199 0 45 (dk_at dksJ40_nextNode_2 7 rfl rfl)
theorem dJ40_nextNode_56 : decode cJ40_nextNode 56 = .ok (.aload_n 0, 1) := dk_42 (dk_at dksJ40_nextNode_2 10 rfl rfl)
theorem dJ40_nextNode_57 : decode cJ40_nextNode 57 = .ok (.getfield 1, 3) := dk_180 0 1 (dk_at dksJ40_nextNode_2 11 rfl rfl)
theorem dJ40_nextNode_60 : decode cJ40_nextNode 60 = .ok (.getfield 22, 3) := dk_180 0 22 (dk_at dksJ40_nextNode_2 14 rfl rfl)
theorem dJ40_nextNode_63 : decode cJ40_nextNode 63 = .ok (.dup, 1) := dk_89 (dk_at dksJ40_nextNode_2 17 rfl rfl)
theorem dJ40_nextNode_64 : decode cJ40_nextNode 64 = .ok (.astore_n 1, 1) := dk_76 (dk_at dksJ40_nextNode_2 18 rfl rfl)
theorem dJ40_nextNode_65 : decode cJ40_nextNode 65 = .ok (.ifnull 33, 3) := dk_198 0 33 (dk_at dksJ40_nextNode_2 19 rfl rfl)
theorem dJ40_nextNode_68 : decode cJ40_nextNode 68 = .ok (.aload_n 0, 1) := dk_42 (dk_at dksJ40_nextNode_2 22 rfl rfl)
theorem dJ40_nextNode_69 : decode cJ40_nextNode 69 = .ok (.getfield 33, 3) := dk_180 0 33 (dk_at dksJ40_nextNode_3 0 rfl rfl)
theorem dJ40_nextNode_72 : decode cJ40_nextNode 72 = .ok (.aload_n 1, 1) := dk_43 (dk_at dksJ40_nextNode_3 3 rfl rfl)
theorem dJ40_nextNode_73 : decode cJ40_nextNode 73 = .ok (.arraylength, 1) := dk_190 (dk_at dksJ40_nextNode_3 4 rfl rfl)
theorem dJ40_nextNode_74 : decode cJ40_nextNode 74 = .ok (.if_icmp .ge 24, 3) := dk_162 0 24 (dk_at dksJ40_nextNode_3 5 rfl rfl)
theorem dJ40_nextNode_77 : decode cJ40_nextNode 77 = .ok (.aload_n 0, 1) := dk_42 (dk_at dksJ40_nextNode_3 8 rfl rfl)
theorem dJ40_nextNode_78 : decode cJ40_nextNode 78 = .ok (.aload_n 1, 1) := dk_43 (dk_at dksJ40_nextNode_3 9 rfl rfl)
theorem dJ40_nextNode_79 : decode cJ40_nextNode 79 = .ok (.aload_n 0, 1) := dk_42 (dk_at dksJ40_nextNode_3 10 rfl rfl)
theorem dJ40_nextNode_80 : decode cJ40_nextNode 80 = .ok (.dup, 1) := dk_89 (dk_at dksJ40_nextNode_3 11 rfl rfl)
theorem dJ40_nextNode_81 : decode cJ40_nextNode 81 = .ok (.getfield 33, 3) := dk_180 0 33 (dk_at dksJ40_nextNode_3 12 rfl rfl)
theorem dJ40_nextNode_84 : decode cJ40_nextNode 84 = .ok (.dup_x1, 1) := dk_90 (dk_at dksJ40_nextNode_3 15 rfl rfl)
theorem dJ40_nextNode_85 : decode cJ40_nextNode 85 = .ok (.iconst 1, 1) := dk_4 (dk_at dksJ40_nextNode_3 16 rfl rfl)
theorem dJ40_nextNode_86 : decode cJ40_nextNode 86 = .ok (.iadd, 1) := dk_96 (dk_at dksJ40_nextNode_3 17 rfl rfl)
theorem dJ40_nextNode_87 : decode cJ40_nextNode 87 = .ok (.putfield 33, 3) := dk_181 0 33 (dk_at dksJ40_nextNode_3 18 rfl rfl)
theorem dJ40_nextNode_90 : decode cJ40_nextNode 90 = .ok (.aaload, 1) := dk_50 (dk_at dksJ40_nextNode_3 21 rfl rfl)
theorem dJ40_nextNode_91 : decode cJ40_nextNode 91 = .ok (.dup_x1, 1) := dk_90 (dk_at dksJ40_nextNode_3 22 rfl rfl)
theorem dJ40_nextNode_92 : decode cJ40_nextNode 92 = .ok (.putfield 26, 3) := dk_181 0 26 (dk_at dksJ40_nextNode_4 0 rfl rfl)
theorem dJ40_nextNode_95 : decode cJ40_nextNode 95 = .ok (.ifnull (-27), 3) := dk_198 255 229 (dk_at dksJ40_nextNode_4 3 rfl rfl)
theorem dJ40_nextNode_98 : decode cJ40_nextNode 98 = .ok (.aload_n 2, 1) := dk_44 (dk_at dksJ40_nextNode_4 6 rfl rfl)
theorem dJ40_nextNode_99 : decode cJ40_nextNode 99 = .ok (.areturn, 1) := dk_176 (dk_at dksJ40_nextNode_4 7 rfl rfl)
theorem q208 : (Jvm.Cond.initialized "java/util/HashMap$HashIterator") ∈ lw_all := lw_g (lw_at lw_m1 60 rfl) rfl
theorem q609 : (Jvm.Cond.fieldLink "java/util/HashMap$HashIterator" (22 : Nat) "java/util/HashMap" "table" "[Ljava/util/HashMap$Node;") ∈ lw_all := lw_g (lw_at lw_m2 221 rfl) rfl
theorem q611 : (Jvm.Cond.fieldLink "java/util/HashMap$HashIterator" (36 : Nat) "java/util/HashMap" "size" "I") ∈ lw_all := lw_g (lw_at lw_m2 223 rfl) rfl
theorem q613 : (Jvm.Cond.fieldLink "java/util/HashMap$HashIterator" (13 : Nat) "java/util/HashMap" "modCount" "I") ∈ lw_all := lw_g (lw_at lw_m2 225 rfl) rfl
theorem q1456 : (Jvm.Cond.fieldLink "java/util/HashMap$HashIterator" (45 : Nat) "java/util/HashMap$Node" "next" "Ljava/util/HashMap$Node;") ∈ lw_all := lw_g (lw_at lw_m6 108 rfl) rfl
theorem q2748 : (Jvm.Cond.instanceMethod ({ cls := "java/util/HashMap$HashIterator", name := "<init>", desc := "(Ljava/util/HashMap;)V" } : Jvm.MethodName)) ∈ lw_all := lw_g (lw_at lw_m11 200 rfl) rfl
theorem q2749 : (Jvm.Cond.code ({ cls := "java/util/HashMap$HashIterator", name := "<init>", desc := "(Ljava/util/HashMap;)V" } : Jvm.MethodName) prog_60_method_1_code (3 : Nat) (Option.none : Option Jvm.ClassFile.FieldType)) ∈ lw_all := lw_g (lw_at lw_m11 201 rfl) rfl
theorem q2750 : (Jvm.Cond.methodLink "java/util/HashMap$HashIterator" (7 : Nat) ({ cls := "java/lang/Object", name := "<init>", desc := "()V" } : Jvm.MethodName)) ∈ lw_all := lw_g (lw_at lw_m11 202 rfl) rfl
theorem q2751 : (Jvm.Cond.fieldLink "java/util/HashMap$HashIterator" (26 : Nat) "java/util/HashMap$HashIterator" "next" "Ljava/util/HashMap$Node;") ∈ lw_all := lw_g (lw_at lw_m11 203 rfl) rfl
theorem q2752 : (Jvm.Cond.fieldLink "java/util/HashMap$HashIterator" (30 : Nat) "java/util/HashMap$HashIterator" "current" "Ljava/util/HashMap$Node;") ∈ lw_all := lw_g (lw_at lw_m11 204 rfl) rfl
theorem q2753 : (Jvm.Cond.fieldLink "java/util/HashMap$HashIterator" (19 : Nat) "java/util/HashMap$HashIterator" "expectedModCount" "I") ∈ lw_all := lw_g (lw_at lw_m11 205 rfl) rfl
theorem q2754 : (Jvm.Cond.fieldLink "java/util/HashMap$HashIterator" (33 : Nat) "java/util/HashMap$HashIterator" "index" "I") ∈ lw_all := lw_g (lw_at lw_m11 206 rfl) rfl
theorem q2755 : (Jvm.Cond.fieldLink "java/util/HashMap$HashIterator" (1 : Nat) "java/util/HashMap$HashIterator" "this$0" "Ljava/util/HashMap;") ∈ lw_all := lw_g (lw_at lw_m11 207 rfl) rfl
theorem q2757 : (Jvm.Cond.soleField "java/util/HashMap$HashIterator" "next") ∈ lw_all := lw_g (lw_at lw_m11 209 rfl) rfl
theorem q2759 : (Jvm.Cond.soleField "java/util/HashMap$HashIterator" "current") ∈ lw_all := lw_g (lw_at lw_m11 211 rfl) rfl
theorem q2761 : (Jvm.Cond.soleField "java/util/HashMap$HashIterator" "expectedModCount") ∈ lw_all := lw_g (lw_at lw_m11 213 rfl) rfl
theorem q2763 : (Jvm.Cond.soleField "java/util/HashMap$HashIterator" "index") ∈ lw_all := lw_g (lw_at lw_m11 215 rfl) rfl
theorem q2765 : (Jvm.Cond.soleField "java/util/HashMap$HashIterator" "this$0") ∈ lw_all := lw_g (lw_at lw_m11 217 rfl) rfl
theorem q2809 : (Jvm.Cond.instanceMethod ({ cls := "java/util/HashMap$HashIterator", name := "hasNext", desc := "()Z" } : Jvm.MethodName)) ∈ lw_all := lw_g (lw_at lw_m12 21 rfl) rfl
theorem q2810 : (Jvm.Cond.publicMethod ({ cls := "java/util/HashMap$HashIterator", name := "hasNext", desc := "()Z" } : Jvm.MethodName)) ∈ lw_tbl := lw_at lw_m12 22 rfl
theorem q2811 : (Jvm.Cond.code ({ cls := "java/util/HashMap$HashIterator", name := "hasNext", desc := "()Z" } : Jvm.MethodName) prog_60_method_2_code (1 : Nat) (Option.some Jvm.ClassFile.FieldType.boolean)) ∈ lw_all := lw_g (lw_at lw_m12 23 rfl) rfl
theorem q2829 : (Jvm.Cond.declares ({ cls := "java/util/HashMap$HashIterator", name := "nextNode", desc := "()Ljava/util/HashMap$Node;" } : Jvm.MethodName)) ∈ lw_tbl := lw_at lw_m12 41 rfl
theorem q2831 : (Jvm.Cond.instanceMethod ({ cls := "java/util/HashMap$HashIterator", name := "nextNode", desc := "()Ljava/util/HashMap$Node;" } : Jvm.MethodName)) ∈ lw_all := lw_g (lw_at lw_m12 43 rfl) rfl
theorem q2832 : (Jvm.Cond.code ({ cls := "java/util/HashMap$HashIterator", name := "nextNode", desc := "()Ljava/util/HashMap$Node;" } : Jvm.MethodName) prog_60_method_3_code (3 : Nat) (Option.some (Jvm.ClassFile.FieldType.object "java/util/HashMap$Node"))) ∈ lw_all := lw_g (lw_at lw_m12 44 rfl) rfl
theorem q2833 : (Jvm.Cond.classLink "java/util/HashMap$HashIterator" (42 : Nat) "java/util/NoSuchElementException") ∈ lw_all := lw_g (lw_at lw_m12 45 rfl) rfl
theorem q2842 : (Jvm.Cond.methodLink "java/util/HashMap$HashIterator" (44 : Nat) ({ cls := "java/util/NoSuchElementException", name := "<init>", desc := "()V" } : Jvm.MethodName)) ∈ lw_all := lw_g (lw_at lw_m12 54 rfl) rfl

