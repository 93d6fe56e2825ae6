/-! LoopSignals$ScriptReader -/
set_option maxRecDepth 100000
def RX12 : String := "LoopSignals$ScriptReader"
def TX12 : u_T := fun k => match k with
  | 0 => ("LoopSignals$Reader", "end", "I", true)
  | 1 => ("LoopSignals$Reader", "at", "I", false)
  | 2 => ("LoopSignals$Reader", "begin", "I", false)
  | 3 => ("LoopSignals$Reader", "number", "I", false)
  | 4 => ("LoopSignals$Reader", "sort", "LLoopSignals$Sort;", false)
  | 5 => ("LoopSignals$Reader", "word", "Ljava/lang/String;", false)
  | 6 => ("LoopSignals$Reader", "this$0", "LLoopSignals;", true)
  | 7 => ("LoopSignals$ScriptReader", "many", "I", false)
  | 8 => ("LoopSignals$ScriptReader", "open", "I", false)
  | _ => ("LoopSignals$ScriptReader", "this$0", "LLoopSignals;", true)
def tyX12 : Nat → FieldType := fun k => match k with
  | 0 => .int
  | 1 => .int
  | 2 => .int
  | 3 => .int
  | 4 => .object "LoopSignals$Sort"
  | 5 => .object "java/lang/String"
  | 6 => .object "LoopSignals"
  | 7 => .int
  | 8 => .int
  | _ => .object "LoopSignals"
abbrev wsX120 : List Cond := u_ws RX12 TX12 10
-- two fields of one name: no nmX12
theorem tyX12_ok : ∀ k, k < 10 → parseFieldDescriptor (TX12 k).2.2.1 = some (tyX12 k) := by decide +kernel
abbrev cX12_init : ByteArray := prog_13_method_1_code
def yX12_init : MethodName := ⟨RX12, "<init>", "(LLoopSignals;)V"⟩
def dkwX12_init_0 : List UInt8 := [42, 43, 181, 0, 3, 42, 43, 183, 0, 9, 177]
abbrev dktX12_init_0 : List UInt8 := dkwX12_init_0 ++ []
theorem dksX12_init_0 : cX12_init.data.toList.drop 0 = dktX12_init_0 := by decide +kernel
theorem dX12_init_0 : decode cX12_init 0 = .ok (.aload_n 0, 1) := dk_42 (dk_at dksX12_init_0 0 rfl rfl)
theorem dX12_init_1 : decode cX12_init 1 = .ok (.aload_n 1, 1) := dk_43 (dk_at dksX12_init_0 1 rfl rfl)
theorem dX12_init_2 : decode cX12_init 2 = .ok (.putfield 3, 3) := dk_181 0 3 (dk_at dksX12_init_0 2 rfl rfl)
theorem dX12_init_5 : decode cX12_init 5 = .ok (.aload_n 0, 1) := dk_42 (dk_at dksX12_init_0 5 rfl rfl)
theorem dX12_init_6 : decode cX12_init 6 = .ok (.aload_n 1, 1) := dk_43 (dk_at dksX12_init_0 6 rfl rfl)
theorem dX12_init_7 : decode cX12_init 7 = .ok (.invokespecial 9, 3) := dk_183 0 9 (dk_at dksX12_init_0 7 rfl rfl)
theorem dX12_init_10 : decode cX12_init 10 = .ok (.return_, 1) := dk_177 (dk_at dksX12_init_0 10 rfl rfl)
abbrev cX12_reads : ByteArray := prog_13_method_2_code
def yX12_reads : MethodName := ⟨RX12, "reads", "()LLoopSignals$Script;"⟩
def dkwX12_reads_0 : List UInt8 := [42, 4, 182, 0, 15, 76, 42, 42, 182, 0, 19, 4, 182, 0, 23, 43, 176]
abbrev dktX12_reads_0 : List UInt8 := dkwX12_reads_0 ++ []
theorem dksX12_reads_0 : cX12_reads.data.toList.drop 0 = dktX12_reads_0 := by decide +kernel
theorem dX12_reads_0 : decode cX12_reads 0 = .ok (.aload_n 0, 1) := dk_42 (dk_at dksX12_reads_0 0 rfl rfl)
theorem dX12_reads_1 : decode cX12_reads 1 = .ok (.iconst 1, 1) := dk_4 (dk_at dksX12_reads_0 1 rfl rfl)
theorem dX12_reads_2 : decode cX12_reads 2 = .ok (.invokevirtual 15, 3) := dk_182 0 15 (dk_at dksX12_reads_0 2 rfl rfl)
theorem dX12_reads_5 : decode cX12_reads 5 = .ok (.astore_n 1, 1) := dk_76 (dk_at dksX12_reads_0 5 rfl rfl)
theorem dX12_reads_6 : decode cX12_reads 6 = .ok (.aload_n 0, 1) := dk_42 (dk_at dksX12_reads_0 6 rfl rfl)
theorem dX12_reads_7 : decode cX12_reads 7 = .ok (.aload_n 0, 1) := dk_42 (dk_at dksX12_reads_0 7 rfl rfl)
theorem dX12_reads_8 : decode cX12_reads 8 = .ok (.invokevirtual 19, 3) := dk_182 0 19 (dk_at dksX12_reads_0 8 rfl rfl)
theorem dX12_reads_11 : decode cX12_reads 11 = .ok (.iconst 1, 1) := dk_4 (dk_at dksX12_reads_0 11 rfl rfl)
theorem dX12_reads_12 : decode cX12_reads 12 = .ok (.invokevirtual 23, 3) := dk_182 0 23 (dk_at dksX12_reads_0 12 rfl rfl)
theorem dX12_reads_15 : decode cX12_reads 15 = .ok (.aload_n 1, 1) := dk_43 (dk_at dksX12_reads_0 15 rfl rfl)
theorem dX12_reads_16 : decode cX12_reads 16 = .ok (.areturn, 1) := dk_176 (dk_at dksX12_reads_0 16 rfl rfl)
abbrev cX12_orders : ByteArray := prog_13_method_3_code
def yX12_orders : MethodName := ⟨RX12, "orders", "(I)LLoopSignals$Script;"⟩
def dkwX12_orders_2 : List UInt8 := [167, 255, 220, 44, 176]
abbrev dktX12_orders_2 : List UInt8 := dkwX12_orders_2 ++ []
def dkwX12_orders_1 : List UInt8 := [154, 0, 26, 44, 180, 0, 36, 42, 182, 0, 39, 185, 0, 43, 2, 0, 62, 42, 16, 59, 182, 0, 49]
abbrev dktX12_orders_1 : List UInt8 := dkwX12_orders_1 ++ dktX12_orders_2
def dkwX12_orders_0 : List UInt8 := [187, 0, 27, 89, 27, 183, 0, 29, 77, 42, 182, 0, 19, 154, 0, 35, 42, 16, 41, 182, 0, 32]
abbrev dktX12_orders_0 : List UInt8 := dkwX12_orders_0 ++ dktX12_orders_1
theorem dksX12_orders_0 : cX12_orders.data.toList.drop 0 = dktX12_orders_0 := by decide +kernel
theorem dksX12_orders_1 : cX12_orders.data.toList.drop 22 = dktX12_orders_1 := dk_seg dksX12_orders_0 22 rfl rfl
theorem dksX12_orders_2 : cX12_orders.data.toList.drop 45 = dktX12_orders_2 := dk_seg dksX12_orders_1 23 rfl rfl
theorem dX12_orders_0 : decode cX12_orders 0 = .ok (.new 27, 3) := dk_187 0 27 (dk_at dksX12_orders_0 0 rfl rfl)
theorem dX12_orders_3 : decode cX12_orders 3 = .ok (.dup, 1) := dk_89 (dk_at dksX12_orders_0 3 rfl rfl)
theorem dX12_orders_4 : decode cX12_orders 4 = .ok (.iload_n 1, 1) := dk_27 (dk_at dksX12_orders_0 4 rfl rfl)
theorem dX12_orders_5 : decode cX12_orders 5 = .ok (.invokespecial 29, 3) := dk_183 0 29 (dk_at dksX12_orders_0 5 rfl rfl)
theorem dX12_orders_8 : decode cX12_orders 8 = .ok (.astore_n 2, 1) := dk_77 (dk_at dksX12_orders_0 8 rfl rfl)
theorem dX12_orders_9 : decode cX12_orders 9 = .ok (.aload_n 0, 1) := dk_42 (dk_at dksX12_orders_0 9 rfl rfl)
theorem dX12_orders_10 : decode cX12_orders 10 = .ok (.invokevirtual 19, 3) := dk_182 0 19 (dk_at dksX12_orders_0 10 rfl rfl)
theorem dX12_orders_13 : decode cX12_orders 13 = .ok (.ifCond .ne 35, 3) := dk_154 0 35 (dk_at dksX12_orders_0 13 rfl rfl)
theorem dX12_orders_16 : decode cX12_orders 16 = .ok (.aload_n 0, 1) := dk_42 (dk_at dksX12_orders_0 16 rfl rfl)
theorem dX12_orders_17 : decode cX12_orders 17 = .ok (.bipush 41, 2) := dk_16 41 (dk_at dksX12_orders_0 17 rfl rfl)
theorem dX12_orders_19 : decode cX12_orders 19 = .ok (.invokevirtual 32, 3) := dk_182 0 32 (dk_at dksX12_orders_0 19 rfl rfl)
theorem dX12_orders_22 : decode cX12_orders 22 = .ok (.ifCond .ne 26, 3) := dk_154 0 26 (dk_at dksX12_orders_1 0 rfl rfl)
theorem dX12_orders_25 : decode cX12_orders 25 = .ok (.aload_n 2, 1) := dk_44 (dk_at dksX12_orders_1 3 rfl rfl)
theorem dX12_orders_26 : decode cX12_orders 26 = .ok (.getfield 36, 3) := dk_180 0 36 (dk_at dksX12_orders_1 4 rfl rfl)
theorem dX12_orders_29 : decode cX12_orders 29 = .ok (.aload_n 0, 1) := dk_42 (dk_at dksX12_orders_1 7 rfl rfl)
theorem dX12_orders_30 : decode cX12_orders 30 = .ok (.invokevirtual 39, 3) := dk_182 0 39 (dk_at dksX12_orders_1 8 rfl rfl)
theorem dX12_orders_33 : decode cX12_orders 33 = .ok (.invokeinterface 43 2, 5) := by decide +kernel
theorem dX12_orders_38 : decode cX12_orders 38 = .ok (.istore_n 3, 1) := dk_62 (dk_at dksX12_orders_1 16 rfl rfl)
theorem dX12_orders_39 : decode cX12_orders 39 = .ok (.aload_n 0, 1) := dk_42 (dk_at dksX12_orders_1 17 rfl rfl)
theorem dX12_orders_40 : decode cX12_orders 40 = .ok (.bipush 59, 2) := dk_16 59 (dk_at dksX12_orders_1 18 rfl rfl)
theorem dX12_orders_42 : decode cX12_orders 42 = .ok (.invokevirtual 49, 3) := dk_182 0 49 (dk_at dksX12_orders_1 20 rfl rfl)
theorem dX12_orders_45 : decode cX12_orders 45 = .ok (.goto (-36), 3) := dk_167 255 220 (dk_at dksX12_orders_2 0 rfl rfl)
theorem dX12_orders_48 : decode cX12_orders 48 = .ok (.aload_n 2, 1) := dk_44 (dk_at dksX12_orders_2 3 rfl rfl)
theorem dX12_orders_49 : decode cX12_orders 49 = .ok (.areturn, 1) := dk_176 (dk_at dksX12_orders_2 4 rfl rfl)
abbrev cX12_order : ByteArray := prog_13_method_5_code
def yX12_order : MethodName := ⟨RX12, "order", "()LLoopSignals$Order;"⟩
def dkwX12_order_14 : List UInt8 := [182, 0, 121, 167, 0, 17, 42, 42, 182, 0, 118, 43, 18, 67, 182, 0, 60, 182, 0, 125, 176]
abbrev dktX12_order_14 : List UInt8 := dkwX12_order_14 ++ []
def dkwX12_order_13 : List UInt8 := [42, 42, 3, 8, 182, 0, 97, 43, 18, 75, 182, 0, 60, 182, 0, 114, 167, 0, 28, 42, 42, 182, 0, 118]
abbrev dktX12_order_13 : List UInt8 := dkwX12_order_13 ++ dktX12_order_14
def dkwX12_order_12 : List UInt8 := [182, 0, 97, 182, 0, 110, 167, 0, 62, 42, 4, 42, 3, 16, 20, 182, 0, 97, 182, 0, 110, 167, 0, 47]
abbrev dktX12_order_12 : List UInt8 := dkwX12_order_12 ++ dktX12_order_13
def dkwX12_order_11 : List UInt8 := [182, 0, 104, 167, 0, 89, 42, 42, 3, 8, 182, 0, 97, 182, 0, 107, 167, 0, 76, 42, 5, 42, 3, 5]
abbrev dktX12_order_11 : List UInt8 := dkwX12_order_11 ++ dktX12_order_12
def dkwX12_order_10 : List UInt8 := [42, 42, 3, 16, 20, 182, 0, 97, 182, 0, 101, 167, 0, 103, 42, 42, 4, 16, 60, 182, 0, 97]
abbrev dktX12_order_10 : List UInt8 := dkwX12_order_10 ++ dktX12_order_11
def dkwX12_order_9 : List UInt8 := [170, 0, 0, 0, 0, 0, 0, 148, 0, 0, 0, 0, 0, 0, 0, 7, 0, 0, 0, 48, 0, 0, 0, 62, 0, 0, 0, 76, 0, 0, 0, 89, 0, 0, 0, 103, 0, 0, 0, 118, 0, 0, 0, 118, 0, 0, 0, 137]
abbrev dktX12_order_9 : List UInt8 := dkwX12_order_9 ++ dktX12_order_10
def dkwX12_order_8 : List UInt8 := [62, 167, 0, 15, 44, 18, 58, 182, 0, 60, 153, 0, 6, 16, 7, 62, 29]
abbrev dktX12_order_8 : List UInt8 := dkwX12_order_8 ++ dktX12_order_9
def dkwX12_order_7 : List UInt8 := [18, 75, 182, 0, 60, 153, 0, 35, 8, 62, 167, 0, 30, 44, 18, 77, 182, 0, 60, 153, 0, 21, 16, 6]
abbrev dktX12_order_7 : List UInt8 := dkwX12_order_7 ++ dktX12_order_8
def dkwX12_order_6 : List UInt8 := [153, 0, 63, 6, 62, 167, 0, 58, 44, 18, 73, 182, 0, 60, 153, 0, 49, 7, 62, 167, 0, 44, 44]
abbrev dktX12_order_6 : List UInt8 := dkwX12_order_6 ++ dktX12_order_7
def dkwX12_order_5 : List UInt8 := [62, 167, 0, 86, 44, 18, 65, 182, 0, 60, 153, 0, 77, 5, 62, 167, 0, 72, 44, 18, 71, 182, 0, 60]
abbrev dktX12_order_5 : List UInt8 := dkwX12_order_5 ++ dktX12_order_6
def dkwX12_order_4 : List UInt8 := [44, 18, 79, 182, 0, 60, 153, 0, 105, 3, 62, 167, 0, 100, 44, 18, 63, 182, 0, 60, 153, 0, 91, 4]
abbrev dktX12_order_4 : List UInt8 := dkwX12_order_4 ++ dktX12_order_5
def dkwX12_order_3 : List UInt8 := [171, 0, 0, 0, 0, 0, 0, 187, 0, 0, 0, 8, 0, 1, 142, 214, 0, 0, 0, 132, 0, 46, 122, 94, 0, 0, 0, 104, 0, 46, 175, 4, 0, 0, 0, 175, 0, 51, 59, 131, 0, 0, 0, 160, 0, 53, 150, 252, 0, 0, 0, 118, 0, 54, 81, 157, 0, 0, 0, 90, 5, 135, 51, 96, 0, 0, 0, 76, 6, 33, 78, 105, 0, 0, 0, 146]
abbrev dktX12_order_3 : List UInt8 := dkwX12_order_3 ++ dktX12_order_4
def dkwX12_order_2 : List UInt8 := [182, 0, 93, 43, 77, 2, 62, 44, 182, 0, 52]
abbrev dktX12_order_2 : List UInt8 := dkwX12_order_2 ++ dktX12_order_3
def dkwX12_order_1 : List UInt8 := [162, 0, 7, 4, 167, 0, 4, 3, 8, 182, 0, 23, 42, 89, 180, 0, 89, 4, 96, 181, 0, 89, 42]
abbrev dktX12_order_1 : List UInt8 := dkwX12_order_1 ++ dktX12_order_2
def dkwX12_order_0 : List UInt8 := [42, 182, 0, 81, 76, 42, 42, 43, 182, 0, 85, 4, 182, 0, 23, 42, 42, 180, 0, 89, 16, 30]
abbrev dktX12_order_0 : List UInt8 := dkwX12_order_0 ++ dktX12_order_1
theorem dksX12_order_0 : cX12_order.data.toList.drop 0 = dktX12_order_0 := by decide +kernel
theorem dksX12_order_1 : cX12_order.data.toList.drop 22 = dktX12_order_1 := dk_seg dksX12_order_0 22 rfl rfl
theorem dksX12_order_2 : cX12_order.data.toList.drop 45 = dktX12_order_2 := dk_seg dksX12_order_1 23 rfl rfl
theorem dksX12_order_3 : cX12_order.data.toList.drop 56 = dktX12_order_3 := dk_seg dksX12_order_2 11 rfl rfl
theorem dksX12_order_4 : cX12_order.data.toList.drop 132 = dktX12_order_4 := dk_seg dksX12_order_3 76 rfl rfl
theorem dksX12_order_5 : cX12_order.data.toList.drop 156 = dktX12_order_5 := dk_seg dksX12_order_4 24 rfl rfl
theorem dksX12_order_6 : cX12_order.data.toList.drop 180 = dktX12_order_6 := dk_seg dksX12_order_5 24 rfl rfl
theorem dksX12_order_7 : cX12_order.data.toList.drop 203 = dktX12_order_7 := dk_seg dksX12_order_6 23 rfl rfl
theorem dksX12_order_8 : cX12_order.data.toList.drop 227 = dktX12_order_8 := dk_seg dksX12_order_7 24 rfl rfl
theorem dksX12_order_9 : cX12_order.data.toList.drop 244 = dktX12_order_9 := dk_seg dksX12_order_8 17 rfl rfl
theorem dksX12_order_10 : cX12_order.data.toList.drop 292 = dktX12_order_10 := dk_seg dksX12_order_9 48 rfl rfl
theorem dksX12_order_11 : cX12_order.data.toList.drop 314 = dktX12_order_11 := dk_seg dksX12_order_10 22 rfl rfl
theorem dksX12_order_12 : cX12_order.data.toList.drop 338 = dktX12_order_12 := dk_seg dksX12_order_11 24 rfl rfl
theorem dksX12_order_13 : cX12_order.data.toList.drop 362 = dktX12_order_13 := dk_seg dksX12_order_12 24 rfl rfl
theorem dksX12_order_14 : cX12_order.data.toList.drop 386 = dktX12_order_14 := dk_seg dksX12_order_13 24 rfl rfl
theorem dX12_order_0 : decode cX12_order 0 = .ok (.aload_n 0, 1) := dk_42 (dk_at dksX12_order_0 0 rfl rfl)
theorem dX12_order_1 : decode cX12_order 1 = .ok (.invokevirtual 81, 3) := dk_182 0 81 (dk_at dksX12_order_0 1 rfl rfl)
theorem dX12_order_4 : decode cX12_order 4 = .ok (.astore_n 1, 1) := dk_76 (dk_at dksX12_order_0 4 rfl rfl)
theorem dX12_order_5 : decode cX12_order 5 = .ok (.aload_n 0, 1) := dk_42 (dk_at dksX12_order_0 5 rfl rfl)
theorem dX12_order_6 : decode cX12_order 6 = .ok (.aload_n 0, 1) := dk_42 (dk_at dksX12_order_0 6 rfl rfl)
theorem dX12_order_7 : decode cX12_order 7 = .ok (.aload_n 1, 1) := dk_43 (dk_at dksX12_order_0 7 rfl rfl)
theorem dX12_order_8 : decode cX12_order 8 = .ok (.invokevirtual 85, 3) := dk_182 0 85 (dk_at dksX12_order_0 8 rfl rfl)
theorem dX12_order_11 : decode cX12_order 11 = .ok (.iconst 1, 1) := dk_4 (dk_at dksX12_order_0 11 rfl rfl)
theorem dX12_order_12 : decode cX12_order 12 = .ok (.invokevirtual 23, 3) := dk_182 0 23 (dk_at dksX12_order_0 12 rfl rfl)
theorem dX12_order_15 : decode cX12_order 15 = .ok (.aload_n 0, 1) := dk_42 (dk_at dksX12_order_0 15 rfl rfl)
theorem dX12_order_16 : decode cX12_order 16 = .ok (.aload_n 0, 1) := dk_42 (dk_at dksX12_order_0 16 rfl rfl)
theorem dX12_order_17 : decode cX12_order 17 = .ok (.getfield 89, 3) := dk_180 0 89 (dk_at dksX12_order_0 17 rfl rfl)
theorem dX12_order_20 : decode cX12_order 20 = .ok (.bipush 30, 2) := dk_16 30 (dk_at dksX12_order_0 20 rfl rfl)
theorem dX12_order_22 : decode cX12_order 22 = .ok (.if_icmp .ge 7, 3) := dk_162 0 7 (dk_at dksX12_order_1 0 rfl rfl)
theorem dX12_order_25 : decode cX12_order 25 = .ok (.iconst 1, 1) := dk_4 (dk_at dksX12_order_1 3 rfl rfl)
theorem dX12_order_26 : decode cX12_order 26 = .ok (.goto 4, 3) := dk_167 0 4 (dk_at dksX12_order_1 4 rfl rfl)
theorem dX12_order_29 : decode cX12_order 29 = .ok (.iconst 0, 1) := dk_3 (dk_at dksX12_order_1 7 rfl rfl)
theorem dX12_order_30 : decode cX12_order 30 = .ok (.iconst 5, 1) := dk_8 (dk_at dksX12_order_1 8 rfl rfl)
theorem dX12_order_31 : decode cX12_order 31 = .ok (.invokevirtual 23, 3) := dk_182 0 23 (dk_at dksX12_order_1 9 rfl rfl)
theorem dX12_order_34 : decode cX12_order 34 = .ok (.aload_n 0, 1) := dk_42 (dk_at dksX12_order_1 12 rfl rfl)
theorem dX12_order_35 : decode cX12_order 35 = .ok (.dup, 1) := dk_89 (dk_at dksX12_order_1 13 rfl rfl)
theorem dX12_order_36 : decode cX12_order 36 = .ok (.getfield 89, 3) := dk_180 0 89 (dk_at dksX12_order_1 14 rfl rfl)
theorem dX12_order_39 : decode cX12_order 39 = .ok (.iconst 1, 1) := dk_4 (dk_at dksX12_order_1 17 rfl rfl)
theorem dX12_order_40 : decode cX12_order 40 = .ok (.iadd, 1) := dk_96 (dk_at dksX12_order_1 18 rfl rfl)
theorem dX12_order_41 : decode cX12_order 41 = .ok (.putfield 89, 3) := dk_181 0 89 (dk_at dksX12_order_1 19 rfl rfl)
theorem dX12_order_44 : decode cX12_order 44 = .ok (.aload_n 0, 1) := dk_42 (dk_at dksX12_order_1 22 rfl rfl)
theorem dX12_order_45 : decode cX12_order 45 = .ok (.invokevirtual 93, 3) := dk_182 0 93 (dk_at dksX12_order_2 0 rfl rfl)
theorem dX12_order_48 : decode cX12_order 48 = .ok (.aload_n 1, 1) := dk_43 (dk_at dksX12_order_2 3 rfl rfl)
theorem dX12_order_49 : decode cX12_order 49 = .ok (.astore_n 2, 1) := dk_77 (dk_at dksX12_order_2 4 rfl rfl)
theorem dX12_order_50 : decode cX12_order 50 = .ok (.iconst (-1), 1) := dk_2 (dk_at dksX12_order_2 5 rfl rfl)
theorem dX12_order_51 : decode cX12_order 51 = .ok (.istore_n 3, 1) := dk_62 (dk_at dksX12_order_2 6 rfl rfl)
theorem dX12_order_52 : decode cX12_order 52 = .ok (.aload_n 2, 1) := dk_44 (dk_at dksX12_order_2 7 rfl rfl)
theorem dX12_order_53 : decode cX12_order 53 = .ok (.invokevirtual 52, 3) := dk_182 0 52 (dk_at dksX12_order_2 8 rfl rfl)
theorem dX12_order_56 : decode cX12_order 56 = .ok (.lookupswitch 187 #[(102102, 132), (3045982, 104), (3059460, 175), (3357571, 160), (3512060, 118), (3559837, 90), (92746592, 76), (102846057, 146)], 76) := by decide +kernel
theorem dX12_order_132 : decode cX12_order 132 = .ok (.aload_n 2, 1) := dk_44 (dk_at dksX12_order_4 0 rfl rfl)
theorem dX12_order_133 : decode cX12_order 133 = .ok (.ldc 79, 2) := dk_18 79 (dk_at dksX12_order_4 1 rfl rfl)
theorem dX12_order_135 : decode cX12_order 135 = .ok (.invokevirtual 60, 3) := dk_182 0 60 (dk_at dksX12_order_4 3 rfl rfl)
theorem dX12_order_138 : decode cX12_order 138 = .ok (.ifCond .eq 105, 3) := dk_153 0 105 (dk_at dksX12_order_4 6 rfl rfl)
theorem dX12_order_141 : decode cX12_order 141 = .ok (.iconst 0, 1) := dk_3 (dk_at dksX12_order_4 9 rfl rfl)
theorem dX12_order_142 : decode cX12_order 142 = .ok (.istore_n 3, 1) := dk_62 (dk_at dksX12_order_4 10 rfl rfl)
theorem dX12_order_143 : decode cX12_order 143 = .ok (.goto 100, 3) := dk_167 0 100 (dk_at dksX12_order_4 11 rfl rfl)
theorem dX12_order_146 : decode cX12_order 146 = .ok (.aload_n 2, 1) := dk_44 (dk_at dksX12_order_4 14 rfl rfl)
theorem dX12_order_147 : decode cX12_order 147 = .ok (.ldc 63, 2) := dk_18 63 (dk_at dksX12_order_4 15 rfl rfl)
theorem dX12_order_149 : decode cX12_order 149 = .ok (.invokevirtual 60, 3) := dk_182 0 60 (dk_at dksX12_order_4 17 rfl rfl)
theorem dX12_order_152 : decode cX12_order 152 = .ok (.ifCond .eq 91, 3) := dk_153 0 91 (dk_at dksX12_order_4 20 rfl rfl)
theorem dX12_order_155 : decode cX12_order 155 = .ok (.iconst 1, 1) := dk_4 (dk_at dksX12_order_4 23 rfl rfl)
theorem dX12_order_156 : decode cX12_order 156 = .ok (.istore_n 3, 1) := dk_62 (dk_at dksX12_order_5 0 rfl rfl)
theorem dX12_order_157 : decode cX12_order 157 = .ok (.goto 86, 3) := dk_167 0 86 (dk_at dksX12_order_5 1 rfl rfl)
theorem dX12_order_160 : decode cX12_order 160 = .ok (.aload_n 2, 1) := dk_44 (dk_at dksX12_order_5 4 rfl rfl)
theorem dX12_order_161 : decode cX12_order 161 = .ok (.ldc 65, 2) := dk_18 65 (dk_at dksX12_order_5 5 rfl rfl)
theorem dX12_order_163 : decode cX12_order 163 = .ok (.invokevirtual 60, 3) := dk_182 0 60 (dk_at dksX12_order_5 7 rfl rfl)
theorem dX12_order_166 : decode cX12_order 166 = .ok (.ifCond .eq 77, 3) := dk_153 0 77 (dk_at dksX12_order_5 10 rfl rfl)
theorem dX12_order_169 : decode cX12_order 169 = .ok (.iconst 2, 1) := dk_5 (dk_at dksX12_order_5 13 rfl rfl)
theorem dX12_order_170 : decode cX12_order 170 = .ok (.istore_n 3, 1) := dk_62 (dk_at dksX12_order_5 14 rfl rfl)
theorem dX12_order_171 : decode cX12_order 171 = .ok (.goto 72, 3) := dk_167 0 72 (dk_at dksX12_order_5 15 rfl rfl)
theorem dX12_order_174 : decode cX12_order 174 = .ok (.aload_n 2, 1) := dk_44 (dk_at dksX12_order_5 18 rfl rfl)
theorem dX12_order_175 : decode cX12_order 175 = .ok (.ldc 71, 2) := dk_18 71 (dk_at dksX12_order_5 19 rfl rfl)
theorem dX12_order_177 : decode cX12_order 177 = .ok (.invokevirtual 60, 3) := dk_182 0 60 (dk_at dksX12_order_5 21 rfl rfl)
theorem dX12_order_180 : decode cX12_order 180 = .ok (.ifCond .eq 63, 3) := dk_153 0 63 (dk_at dksX12_order_6 0 rfl rfl)
theorem dX12_order_183 : decode cX12_order 183 = .ok (.iconst 3, 1) := dk_6 (dk_at dksX12_order_6 3 rfl rfl)
theorem dX12_order_184 : decode cX12_order 184 = .ok (.istore_n 3, 1) := dk_62 (dk_at dksX12_order_6 4 rfl rfl)
theorem dX12_order_185 : decode cX12_order 185 = .ok (.goto 58, 3) := dk_167 0 58 (dk_at dksX12_order_6 5 rfl rfl)
theorem dX12_order_188 : decode cX12_order 188 = .ok (.aload_n 2, 1) := dk_44 (dk_at dksX12_order_6 8 rfl rfl)
theorem dX12_order_189 : decode cX12_order 189 = .ok (.ldc 73, 2) := dk_18 73 (dk_at dksX12_order_6 9 rfl rfl)
theorem dX12_order_191 : decode cX12_order 191 = .ok (.invokevirtual 60, 3) := dk_182 0 60 (dk_at dksX12_order_6 11 rfl rfl)
theorem dX12_order_194 : decode cX12_order 194 = .ok (.ifCond .eq 49, 3) := dk_153 0 49 (dk_at dksX12_order_6 14 rfl rfl)
theorem dX12_order_197 : decode cX12_order 197 = .ok (.iconst 4, 1) := dk_7 (dk_at dksX12_order_6 17 rfl rfl)
theorem dX12_order_198 : decode cX12_order 198 = .ok (.istore_n 3, 1) := dk_62 (dk_at dksX12_order_6 18 rfl rfl)
theorem dX12_order_199 : decode cX12_order 199 = .ok (.goto 44, 3) := dk_167 0 44 (dk_at dksX12_order_6 19 rfl rfl)
theorem dX12_order_202 : decode cX12_order 202 = .ok (.aload_n 2, 1) := dk_44 (dk_at dksX12_order_6 22 rfl rfl)
theorem dX12_order_203 : decode cX12_order 203 = .ok (.ldc 75, 2) := dk_18 75 (dk_at dksX12_order_7 0 rfl rfl)
theorem dX12_order_205 : decode cX12_order 205 = .ok (.invokevirtual 60, 3) := dk_182 0 60 (dk_at dksX12_order_7 2 rfl rfl)
theorem dX12_order_208 : decode cX12_order 208 = .ok (.ifCond .eq 35, 3) := dk_153 0 35 (dk_at dksX12_order_7 5 rfl rfl)
theorem dX12_order_211 : decode cX12_order 211 = .ok (.iconst 5, 1) := dk_8 (dk_at dksX12_order_7 8 rfl rfl)
theorem dX12_order_212 : decode cX12_order 212 = .ok (.istore_n 3, 1) := dk_62 (dk_at dksX12_order_7 9 rfl rfl)
theorem dX12_order_213 : decode cX12_order 213 = .ok (.goto 30, 3) := dk_167 0 30 (dk_at dksX12_order_7 10 rfl rfl)
theorem dX12_order_216 : decode cX12_order 216 = .ok (.aload_n 2, 1) := dk_44 (dk_at dksX12_order_7 13 rfl rfl)
theorem dX12_order_217 : decode cX12_order 217 = .ok (.ldc 77, 2) := dk_18 77 (dk_at dksX12_order_7 14 rfl rfl)
theorem dX12_order_219 : decode cX12_order 219 = .ok (.invokevirtual 60, 3) := dk_182 0 60 (dk_at dksX12_order_7 16 rfl rfl)
theorem dX12_order_222 : decode cX12_order 222 = .ok (.ifCond .eq 21, 3) := dk_153 0 21 (dk_at dksX12_order_7 19 rfl rfl)
theorem dX12_order_225 : decode cX12_order 225 = .ok (.bipush 6, 2) := dk_16 6 (dk_at dksX12_order_7 22 rfl rfl)
theorem dX12_order_227 : decode cX12_order 227 = .ok (.istore_n 3, 1) := dk_62 (dk_at dksX12_order_8 0 rfl rfl)
theorem dX12_order_228 : decode cX12_order 228 = .ok (.goto 15, 3) := dk_167 0 15 (dk_at dksX12_order_8 1 rfl rfl)
theorem dX12_order_231 : decode cX12_order 231 = .ok (.aload_n 2, 1) := dk_44 (dk_at dksX12_order_8 4 rfl rfl)
theorem dX12_order_232 : decode cX12_order 232 = .ok (.ldc 58, 2) := dk_18 58 (dk_at dksX12_order_8 5 rfl rfl)
theorem dX12_order_234 : decode cX12_order 234 = .ok (.invokevirtual 60, 3) := dk_182 0 60 (dk_at dksX12_order_8 7 rfl rfl)
theorem dX12_order_237 : decode cX12_order 237 = .ok (.ifCond .eq 6, 3) := dk_153 0 6 (dk_at dksX12_order_8 10 rfl rfl)
theorem dX12_order_240 : decode cX12_order 240 = .ok (.bipush 7, 2) := dk_16 7 (dk_at dksX12_order_8 13 rfl rfl)
theorem dX12_order_242 : decode cX12_order 242 = .ok (.istore_n 3, 1) := dk_62 (dk_at dksX12_order_8 15 rfl rfl)
theorem dX12_order_243 : decode cX12_order 243 = .ok (.iload_n 3, 1) := dk_29 (dk_at dksX12_order_8 16 rfl rfl)
theorem dX12_order_244 : decode cX12_order 244 = .ok (.tableswitch 148 0 7 #[48, 62, 76, 89, 103, 118, 118, 137], 48) := by decide +kernel
theorem dX12_order_292 : decode cX12_order 292 = .ok (.aload_n 0, 1) := dk_42 (dk_at dksX12_order_10 0 rfl rfl)
theorem dX12_order_293 : decode cX12_order 293 = .ok (.aload_n 0, 1) := dk_42 (dk_at dksX12_order_10 1 rfl rfl)
theorem dX12_order_294 : decode cX12_order 294 = .ok (.iconst 0, 1) := dk_3 (dk_at dksX12_order_10 2 rfl rfl)
theorem dX12_order_295 : decode cX12_order 295 = .ok (.bipush 20, 2) := dk_16 20 (dk_at dksX12_order_10 3 rfl rfl)
theorem dX12_order_297 : decode cX12_order 297 = .ok (.invokevirtual 97, 3) := dk_182 0 97 (dk_at dksX12_order_10 5 rfl rfl)
theorem dX12_order_300 : decode cX12_order 300 = .ok (.invokevirtual 101, 3) := dk_182 0 101 (dk_at dksX12_order_10 8 rfl rfl)
theorem dX12_order_303 : decode cX12_order 303 = .ok (.goto 103, 3) := dk_167 0 103 (dk_at dksX12_order_10 11 rfl rfl)
theorem dX12_order_306 : decode cX12_order 306 = .ok (.aload_n 0, 1) := dk_42 (dk_at dksX12_order_10 14 rfl rfl)
theorem dX12_order_307 : decode cX12_order 307 = .ok (.aload_n 0, 1) := dk_42 (dk_at dksX12_order_10 15 rfl rfl)
theorem dX12_order_308 : decode cX12_order 308 = .ok (.iconst 1, 1) := dk_4 (dk_at dksX12_order_10 16 rfl rfl)
theorem dX12_order_309 : decode cX12_order 309 = .ok (.bipush 60, 2) := dk_16 60 (dk_at dksX12_order_10 17 rfl rfl)
theorem dX12_order_311 : decode cX12_order 311 = .ok (.invokevirtual 97, 3) := dk_182 0 97 (dk_at dksX12_order_10 19 rfl rfl)
theorem dX12_order_314 : decode cX12_order 314 = .ok (.invokevirtual 104, 3) := dk_182 0 104 (dk_at dksX12_order_11 0 rfl rfl)
theorem dX12_order_317 : decode cX12_order 317 = .ok (.goto 89, 3) := dk_167 0 89 (dk_at dksX12_order_11 3 rfl rfl)
theorem dX12_order_320 : decode cX12_order 320 = .ok (.aload_n 0, 1) := dk_42 (dk_at dksX12_order_11 6 rfl rfl)
theorem dX12_order_321 : decode cX12_order 321 = .ok (.aload_n 0, 1) := dk_42 (dk_at dksX12_order_11 7 rfl rfl)
theorem dX12_order_322 : decode cX12_order 322 = .ok (.iconst 0, 1) := dk_3 (dk_at dksX12_order_11 8 rfl rfl)
theorem dX12_order_323 : decode cX12_order 323 = .ok (.iconst 5, 1) := dk_8 (dk_at dksX12_order_11 9 rfl rfl)
theorem dX12_order_324 : decode cX12_order 324 = .ok (.invokevirtual 97, 3) := dk_182 0 97 (dk_at dksX12_order_11 10 rfl rfl)
theorem dX12_order_327 : decode cX12_order 327 = .ok (.invokevirtual 107, 3) := dk_182 0 107 (dk_at dksX12_order_11 13 rfl rfl)
theorem dX12_order_330 : decode cX12_order 330 = .ok (.goto 76, 3) := dk_167 0 76 (dk_at dksX12_order_11 16 rfl rfl)
theorem dX12_order_333 : decode cX12_order 333 = .ok (.aload_n 0, 1) := dk_42 (dk_at dksX12_order_11 19 rfl rfl)
theorem dX12_order_334 : decode cX12_order 334 = .ok (.iconst 2, 1) := dk_5 (dk_at dksX12_order_11 20 rfl rfl)
theorem dX12_order_335 : decode cX12_order 335 = .ok (.aload_n 0, 1) := dk_42 (dk_at dksX12_order_11 21 rfl rfl)
theorem dX12_order_336 : decode cX12_order 336 = .ok (.iconst 0, 1) := dk_3 (dk_at dksX12_order_11 22 rfl rfl)
theorem dX12_order_337 : decode cX12_order 337 = .ok (.iconst 2, 1) := dk_5 (dk_at dksX12_order_11 23 rfl rfl)
theorem dX12_order_338 : decode cX12_order 338 = .ok (.invokevirtual 97, 3) := dk_182 0 97 (dk_at dksX12_order_12 0 rfl rfl)
theorem dX12_order_341 : decode cX12_order 341 = .ok (.invokevirtual 110, 3) := dk_182 0 110 (dk_at dksX12_order_12 3 rfl rfl)
theorem dX12_order_344 : decode cX12_order 344 = .ok (.goto 62, 3) := dk_167 0 62 (dk_at dksX12_order_12 6 rfl rfl)
theorem dX12_order_347 : decode cX12_order 347 = .ok (.aload_n 0, 1) := dk_42 (dk_at dksX12_order_12 9 rfl rfl)
theorem dX12_order_348 : decode cX12_order 348 = .ok (.iconst 1, 1) := dk_4 (dk_at dksX12_order_12 10 rfl rfl)
theorem dX12_order_349 : decode cX12_order 349 = .ok (.aload_n 0, 1) := dk_42 (dk_at dksX12_order_12 11 rfl rfl)
theorem dX12_order_350 : decode cX12_order 350 = .ok (.iconst 0, 1) := dk_3 (dk_at dksX12_order_12 12 rfl rfl)
theorem dX12_order_351 : decode cX12_order 351 = .ok (.bipush 20, 2) := dk_16 20 (dk_at dksX12_order_12 13 rfl rfl)
theorem dX12_order_353 : decode cX12_order 353 = .ok (.invokevirtual 97, 3) := dk_182 0 97 (dk_at dksX12_order_12 15 rfl rfl)
theorem dX12_order_356 : decode cX12_order 356 = .ok (.invokevirtual 110, 3) := dk_182 0 110 (dk_at dksX12_order_12 18 rfl rfl)
theorem dX12_order_359 : decode cX12_order 359 = .ok (.goto 47, 3) := dk_167 0 47 (dk_at dksX12_order_12 21 rfl rfl)
theorem dX12_order_362 : decode cX12_order 362 = .ok (.aload_n 0, 1) := dk_42 (dk_at dksX12_order_13 0 rfl rfl)
theorem dX12_order_363 : decode cX12_order 363 = .ok (.aload_n 0, 1) := dk_42 (dk_at dksX12_order_13 1 rfl rfl)
theorem dX12_order_364 : decode cX12_order 364 = .ok (.iconst 0, 1) := dk_3 (dk_at dksX12_order_13 2 rfl rfl)
theorem dX12_order_365 : decode cX12_order 365 = .ok (.iconst 5, 1) := dk_8 (dk_at dksX12_order_13 3 rfl rfl)
theorem dX12_order_366 : decode cX12_order 366 = .ok (.invokevirtual 97, 3) := dk_182 0 97 (dk_at dksX12_order_13 4 rfl rfl)
theorem dX12_order_369 : decode cX12_order 369 = .ok (.aload_n 1, 1) := dk_43 (dk_at dksX12_order_13 7 rfl rfl)
theorem dX12_order_370 : decode cX12_order 370 = .ok (.ldc 75, 2) := dk_18 75 (dk_at dksX12_order_13 8 rfl rfl)
theorem dX12_order_372 : decode cX12_order 372 = .ok (.invokevirtual 60, 3) := dk_182 0 60 (dk_at dksX12_order_13 10 rfl rfl)
theorem dX12_order_375 : decode cX12_order 375 = .ok (.invokevirtual 114, 3) := dk_182 0 114 (dk_at dksX12_order_13 13 rfl rfl)
theorem dX12_order_378 : decode cX12_order 378 = .ok (.goto 28, 3) := dk_167 0 28 (dk_at dksX12_order_13 16 rfl rfl)
theorem dX12_order_381 : decode cX12_order 381 = .ok (.aload_n 0, 1) := dk_42 (dk_at dksX12_order_13 19 rfl rfl)
theorem dX12_order_382 : decode cX12_order 382 = .ok (.aload_n 0, 1) := dk_42 (dk_at dksX12_order_13 20 rfl rfl)
theorem dX12_order_383 : decode cX12_order 383 = .ok (.invokevirtual 118, 3) := dk_182 0 118 (dk_at dksX12_order_13 21 rfl rfl)
theorem dX12_order_386 : decode cX12_order 386 = .ok (.invokevirtual 121, 3) := dk_182 0 121 (dk_at dksX12_order_14 0 rfl rfl)
theorem dX12_order_389 : decode cX12_order 389 = .ok (.goto 17, 3) := dk_167 0 17 (dk_at dksX12_order_14 3 rfl rfl)
theorem dX12_order_392 : decode cX12_order 392 = .ok (.aload_n 0, 1) := dk_42 (dk_at dksX12_order_14 6 rfl rfl)
theorem dX12_order_393 : decode cX12_order 393 = .ok (.aload_n 0, 1) := dk_42 (dk_at dksX12_order_14 7 rfl rfl)
theorem dX12_order_394 : decode cX12_order 394 = .ok (.invokevirtual 118, 3) := dk_182 0 118 (dk_at dksX12_order_14 8 rfl rfl)
theorem dX12_order_397 : decode cX12_order 397 = .ok (.aload_n 1, 1) := dk_43 (dk_at dksX12_order_14 11 rfl rfl)
theorem dX12_order_398 : decode cX12_order 398 = .ok (.ldc 67, 2) := dk_18 67 (dk_at dksX12_order_14 12 rfl rfl)
theorem dX12_order_400 : decode cX12_order 400 = .ok (.invokevirtual 60, 3) := dk_182 0 60 (dk_at dksX12_order_14 14 rfl rfl)
theorem dX12_order_403 : decode cX12_order 403 = .ok (.invokevirtual 125, 3) := dk_182 0 125 (dk_at dksX12_order_14 17 rfl rfl)
theorem dX12_order_406 : decode cX12_order 406 = .ok (.areturn, 1) := dk_176 (dk_at dksX12_order_14 20 rfl rfl)
abbrev cX12_isOrder : ByteArray := prog_13_method_4_code
def yX12_isOrder : MethodName := ⟨RX12, "isOrder", "(Ljava/lang/String;)Z"⟩
def dkwX12_isOrder_10 : List UInt8 := [4, 167, 0, 4, 3, 172]
abbrev dktX12_isOrder_10 : List UInt8 := dkwX12_isOrder_10 ++ []
def dkwX12_isOrder_9 : List UInt8 := [170, 0, 0, 0, 0, 58, 0, 0, 0, 0, 0, 0, 0, 9, 0, 0, 0, 54, 0, 0, 0, 54, 0, 0, 0, 54, 0, 0, 0, 54, 0, 0, 0, 54, 0, 0, 0, 54, 0, 0, 0, 54, 0, 0, 0, 54, 0, 0, 0, 54, 0, 0, 0, 54]
abbrev dktX12_isOrder_9 : List UInt8 := dkwX12_isOrder_9 ++ dktX12_isOrder_10
def dkwX12_isOrder_8 : List UInt8 := [29]
abbrev dktX12_isOrder_8 : List UInt8 := dkwX12_isOrder_8 ++ dktX12_isOrder_9
def dkwX12_isOrder_7 : List UInt8 := [182, 0, 60, 153, 0, 21, 16, 8, 62, 167, 0, 15, 44, 18, 79, 182, 0, 60, 153, 0, 6, 16, 9, 62]
abbrev dktX12_isOrder_7 : List UInt8 := dkwX12_isOrder_7 ++ dktX12_isOrder_8
def dkwX12_isOrder_6 : List UInt8 := [62, 167, 0, 45, 44, 18, 75, 182, 0, 60, 153, 0, 36, 16, 7, 62, 167, 0, 30, 44, 18, 77]
abbrev dktX12_isOrder_6 : List UInt8 := dkwX12_isOrder_6 ++ dktX12_isOrder_7
def dkwX12_isOrder_5 : List UInt8 := [18, 71, 182, 0, 60, 153, 0, 65, 8, 62, 167, 0, 60, 44, 18, 73, 182, 0, 60, 153, 0, 51, 16, 6]
abbrev dktX12_isOrder_5 : List UInt8 := dkwX12_isOrder_5 ++ dktX12_isOrder_6
def dkwX12_isOrder_4 : List UInt8 := [153, 0, 93, 6, 62, 167, 0, 88, 44, 18, 69, 182, 0, 60, 153, 0, 79, 7, 62, 167, 0, 74, 44]
abbrev dktX12_isOrder_4 : List UInt8 := dkwX12_isOrder_4 ++ dktX12_isOrder_5
def dkwX12_isOrder_3 : List UInt8 := [62, 167, 0, 116, 44, 18, 65, 182, 0, 60, 153, 0, 107, 5, 62, 167, 0, 102, 44, 18, 67, 182, 0, 60]
abbrev dktX12_isOrder_3 : List UInt8 := dkwX12_isOrder_3 ++ dktX12_isOrder_4
def dkwX12_isOrder_2 : List UInt8 := [44, 18, 58, 182, 0, 60, 153, 0, 135, 3, 62, 167, 0, 130, 44, 18, 63, 182, 0, 60, 153, 0, 121, 4]
abbrev dktX12_isOrder_2 : List UInt8 := dkwX12_isOrder_2 ++ dktX12_isOrder_3
def dkwX12_isOrder_1 : List UInt8 := [171, 0, 0, 0, 0, 0, 0, 233, 0, 0, 0, 10, 0, 1, 142, 214, 0, 0, 0, 176, 0, 46, 122, 94, 0, 0, 0, 120, 0, 46, 175, 4, 0, 0, 0, 92, 0, 51, 21, 78, 0, 0, 0, 148, 0, 51, 59, 131, 0, 0, 0, 206, 0, 53, 150, 252, 0, 0, 0, 162, 0, 54, 81, 157, 0, 0, 0, 106, 5, 135, 51, 96, 0, 0, 0, 221, 5, 154, 88, 255, 0, 0, 0, 134, 6, 33, 78, 105, 0, 0, 0, 191]
abbrev dktX12_isOrder_1 : List UInt8 := dkwX12_isOrder_1 ++ dktX12_isOrder_2
def dkwX12_isOrder_0 : List UInt8 := [43, 77, 2, 62, 44, 182, 0, 52]
abbrev dktX12_isOrder_0 : List UInt8 := dkwX12_isOrder_0 ++ dktX12_isOrder_1
theorem dksX12_isOrder_0 : cX12_isOrder.data.toList.drop 0 = dktX12_isOrder_0 := by decide +kernel
theorem dksX12_isOrder_1 : cX12_isOrder.data.toList.drop 8 = dktX12_isOrder_1 := dk_seg dksX12_isOrder_0 8 rfl rfl
theorem dksX12_isOrder_2 : cX12_isOrder.data.toList.drop 100 = dktX12_isOrder_2 := dk_seg dksX12_isOrder_1 92 rfl rfl
theorem dksX12_isOrder_3 : cX12_isOrder.data.toList.drop 124 = dktX12_isOrder_3 := dk_seg dksX12_isOrder_2 24 rfl rfl
theorem dksX12_isOrder_4 : cX12_isOrder.data.toList.drop 148 = dktX12_isOrder_4 := dk_seg dksX12_isOrder_3 24 rfl rfl
theorem dksX12_isOrder_5 : cX12_isOrder.data.toList.drop 171 = dktX12_isOrder_5 := dk_seg dksX12_isOrder_4 23 rfl rfl
theorem dksX12_isOrder_6 : cX12_isOrder.data.toList.drop 195 = dktX12_isOrder_6 := dk_seg dksX12_isOrder_5 24 rfl rfl
theorem dksX12_isOrder_7 : cX12_isOrder.data.toList.drop 217 = dktX12_isOrder_7 := dk_seg dksX12_isOrder_6 22 rfl rfl
theorem dksX12_isOrder_8 : cX12_isOrder.data.toList.drop 241 = dktX12_isOrder_8 := dk_seg dksX12_isOrder_7 24 rfl rfl
theorem dksX12_isOrder_9 : cX12_isOrder.data.toList.drop 242 = dktX12_isOrder_9 := dk_seg dksX12_isOrder_8 1 rfl rfl
theorem dksX12_isOrder_10 : cX12_isOrder.data.toList.drop 296 = dktX12_isOrder_10 := dk_seg dksX12_isOrder_9 54 rfl rfl
theorem dX12_isOrder_0 : decode cX12_isOrder 0 = .ok (.aload_n 1, 1) := dk_43 (dk_at dksX12_isOrder_0 0 rfl rfl)
theorem dX12_isOrder_1 : decode cX12_isOrder 1 = .ok (.astore_n 2, 1) := dk_77 (dk_at dksX12_isOrder_0 1 rfl rfl)
theorem dX12_isOrder_2 : decode cX12_isOrder 2 = .ok (.iconst (-1), 1) := dk_2 (dk_at dksX12_isOrder_0 2 rfl rfl)
theorem dX12_isOrder_3 : decode cX12_isOrder 3 = .ok (.istore_n 3, 1) := dk_62 (dk_at dksX12_isOrder_0 3 rfl rfl)
theorem dX12_isOrder_4 : decode cX12_isOrder 4 = .ok (.aload_n 2, 1) := dk_44 (dk_at dksX12_isOrder_0 4 rfl rfl)
theorem dX12_isOrder_5 : decode cX12_isOrder 5 = .ok (.invokevirtual 52, 3) := dk_182 0 52 (dk_at dksX12_isOrder_0 5 rfl rfl)
theorem dX12_isOrder_8 : decode cX12_isOrder 8 = .ok (.lookupswitch 233 #[(102102, 176), (3045982, 120), (3059460, 92), (3347790, 148), (3357571, 206), (3512060, 162), (3559837, 106), (92746592, 221), (94001407, 134), (102846057, 191)], 92) := by decide +kernel
theorem dX12_isOrder_100 : decode cX12_isOrder 100 = .ok (.aload_n 2, 1) := dk_44 (dk_at dksX12_isOrder_2 0 rfl rfl)
theorem dX12_isOrder_101 : decode cX12_isOrder 101 = .ok (.ldc 58, 2) := dk_18 58 (dk_at dksX12_isOrder_2 1 rfl rfl)
theorem dX12_isOrder_103 : decode cX12_isOrder 103 = .ok (.invokevirtual 60, 3) := dk_182 0 60 (dk_at dksX12_isOrder_2 3 rfl rfl)
theorem dX12_isOrder_106 : decode cX12_isOrder 106 = .ok (.ifCond .eq 135, 3) := dk_153 0 135 (dk_at dksX12_isOrder_2 6 rfl rfl)
theorem dX12_isOrder_109 : decode cX12_isOrder 109 = .ok (.iconst 0, 1) := dk_3 (dk_at dksX12_isOrder_2 9 rfl rfl)
theorem dX12_isOrder_110 : decode cX12_isOrder 110 = .ok (.istore_n 3, 1) := dk_62 (dk_at dksX12_isOrder_2 10 rfl rfl)
theorem dX12_isOrder_111 : decode cX12_isOrder 111 = .ok (.goto 130, 3) := dk_167 0 130 (dk_at dksX12_isOrder_2 11 rfl rfl)
theorem dX12_isOrder_114 : decode cX12_isOrder 114 = .ok (.aload_n 2, 1) := dk_44 (dk_at dksX12_isOrder_2 14 rfl rfl)
theorem dX12_isOrder_115 : decode cX12_isOrder 115 = .ok (.ldc 63, 2) := dk_18 63 (dk_at dksX12_isOrder_2 15 rfl rfl)
theorem dX12_isOrder_117 : decode cX12_isOrder 117 = .ok (.invokevirtual 60, 3) := dk_182 0 60 (dk_at dksX12_isOrder_2 17 rfl rfl)
theorem dX12_isOrder_120 : decode cX12_isOrder 120 = .ok (.ifCond .eq 121, 3) := dk_153 0 121 (dk_at dksX12_isOrder_2 20 rfl rfl)
theorem dX12_isOrder_123 : decode cX12_isOrder 123 = .ok (.iconst 1, 1) := dk_4 (dk_at dksX12_isOrder_2 23 rfl rfl)
theorem dX12_isOrder_124 : decode cX12_isOrder 124 = .ok (.istore_n 3, 1) := dk_62 (dk_at dksX12_isOrder_3 0 rfl rfl)
theorem dX12_isOrder_125 : decode cX12_isOrder 125 = .ok (.goto 116, 3) := dk_167 0 116 (dk_at dksX12_isOrder_3 1 rfl rfl)
theorem dX12_isOrder_128 : decode cX12_isOrder 128 = .ok (.aload_n 2, 1) := dk_44 (dk_at dksX12_isOrder_3 4 rfl rfl)
theorem dX12_isOrder_129 : decode cX12_isOrder 129 = .ok (.ldc 65, 2) := dk_18 65 (dk_at dksX12_isOrder_3 5 rfl rfl)
theorem dX12_isOrder_131 : decode cX12_isOrder 131 = .ok (.invokevirtual 60, 3) := dk_182 0 60 (dk_at dksX12_isOrder_3 7 rfl rfl)
theorem dX12_isOrder_134 : decode cX12_isOrder 134 = .ok (.ifCond .eq 107, 3) := dk_153 0 107 (dk_at dksX12_isOrder_3 10 rfl rfl)
theorem dX12_isOrder_137 : decode cX12_isOrder 137 = .ok (.iconst 2, 1) := dk_5 (dk_at dksX12_isOrder_3 13 rfl rfl)
theorem dX12_isOrder_138 : decode cX12_isOrder 138 = .ok (.istore_n 3, 1) := dk_62 (dk_at dksX12_isOrder_3 14 rfl rfl)
theorem dX12_isOrder_139 : decode cX12_isOrder 139 = .ok (.goto 102, 3) := dk_167 0 102 (dk_at dksX12_isOrder_3 15 rfl rfl)
theorem dX12_isOrder_142 : decode cX12_isOrder 142 = .ok (.aload_n 2, 1) := dk_44 (dk_at dksX12_isOrder_3 18 rfl rfl)
theorem dX12_isOrder_143 : decode cX12_isOrder 143 = .ok (.ldc 67, 2) := dk_18 67 (dk_at dksX12_isOrder_3 19 rfl rfl)
theorem dX12_isOrder_145 : decode cX12_isOrder 145 = .ok (.invokevirtual 60, 3) := dk_182 0 60 (dk_at dksX12_isOrder_3 21 rfl rfl)
theorem dX12_isOrder_148 : decode cX12_isOrder 148 = .ok (.ifCond .eq 93, 3) := dk_153 0 93 (dk_at dksX12_isOrder_4 0 rfl rfl)
theorem dX12_isOrder_151 : decode cX12_isOrder 151 = .ok (.iconst 3, 1) := dk_6 (dk_at dksX12_isOrder_4 3 rfl rfl)
theorem dX12_isOrder_152 : decode cX12_isOrder 152 = .ok (.istore_n 3, 1) := dk_62 (dk_at dksX12_isOrder_4 4 rfl rfl)
theorem dX12_isOrder_153 : decode cX12_isOrder 153 = .ok (.goto 88, 3) := dk_167 0 88 (dk_at dksX12_isOrder_4 5 rfl rfl)
theorem dX12_isOrder_156 : decode cX12_isOrder 156 = .ok (.aload_n 2, 1) := dk_44 (dk_at dksX12_isOrder_4 8 rfl rfl)
theorem dX12_isOrder_157 : decode cX12_isOrder 157 = .ok (.ldc 69, 2) := dk_18 69 (dk_at dksX12_isOrder_4 9 rfl rfl)
theorem dX12_isOrder_159 : decode cX12_isOrder 159 = .ok (.invokevirtual 60, 3) := dk_182 0 60 (dk_at dksX12_isOrder_4 11 rfl rfl)
theorem dX12_isOrder_162 : decode cX12_isOrder 162 = .ok (.ifCond .eq 79, 3) := dk_153 0 79 (dk_at dksX12_isOrder_4 14 rfl rfl)
theorem dX12_isOrder_165 : decode cX12_isOrder 165 = .ok (.iconst 4, 1) := dk_7 (dk_at dksX12_isOrder_4 17 rfl rfl)
theorem dX12_isOrder_166 : decode cX12_isOrder 166 = .ok (.istore_n 3, 1) := dk_62 (dk_at dksX12_isOrder_4 18 rfl rfl)
theorem dX12_isOrder_167 : decode cX12_isOrder 167 = .ok (.goto 74, 3) := dk_167 0 74 (dk_at dksX12_isOrder_4 19 rfl rfl)
theorem dX12_isOrder_170 : decode cX12_isOrder 170 = .ok (.aload_n 2, 1) := dk_44 (dk_at dksX12_isOrder_4 22 rfl rfl)
theorem dX12_isOrder_171 : decode cX12_isOrder 171 = .ok (.ldc 71, 2) := dk_18 71 (dk_at dksX12_isOrder_5 0 rfl rfl)
theorem dX12_isOrder_173 : decode cX12_isOrder 173 = .ok (.invokevirtual 60, 3) := dk_182 0 60 (dk_at dksX12_isOrder_5 2 rfl rfl)
theorem dX12_isOrder_176 : decode cX12_isOrder 176 = .ok (.ifCond .eq 65, 3) := dk_153 0 65 (dk_at dksX12_isOrder_5 5 rfl rfl)
theorem dX12_isOrder_179 : decode cX12_isOrder 179 = .ok (.iconst 5, 1) := dk_8 (dk_at dksX12_isOrder_5 8 rfl rfl)
theorem dX12_isOrder_180 : decode cX12_isOrder 180 = .ok (.istore_n 3, 1) := dk_62 (dk_at dksX12_isOrder_5 9 rfl rfl)
theorem dX12_isOrder_181 : decode cX12_isOrder 181 = .ok (.goto 60, 3) := dk_167 0 60 (dk_at dksX12_isOrder_5 10 rfl rfl)
theorem dX12_isOrder_184 : decode cX12_isOrder 184 = .ok (.aload_n 2, 1) := dk_44 (dk_at dksX12_isOrder_5 13 rfl rfl)
theorem dX12_isOrder_185 : decode cX12_isOrder 185 = .ok (.ldc 73, 2) := dk_18 73 (dk_at dksX12_isOrder_5 14 rfl rfl)
theorem dX12_isOrder_187 : decode cX12_isOrder 187 = .ok (.invokevirtual 60, 3) := dk_182 0 60 (dk_at dksX12_isOrder_5 16 rfl rfl)
theorem dX12_isOrder_190 : decode cX12_isOrder 190 = .ok (.ifCond .eq 51, 3) := dk_153 0 51 (dk_at dksX12_isOrder_5 19 rfl rfl)
theorem dX12_isOrder_193 : decode cX12_isOrder 193 = .ok (.bipush 6, 2) := dk_16 6 (dk_at dksX12_isOrder_5 22 rfl rfl)
theorem dX12_isOrder_195 : decode cX12_isOrder 195 = .ok (.istore_n 3, 1) := dk_62 (dk_at dksX12_isOrder_6 0 rfl rfl)
theorem dX12_isOrder_196 : decode cX12_isOrder 196 = .ok (.goto 45, 3) := dk_167 0 45 (dk_at dksX12_isOrder_6 1 rfl rfl)
theorem dX12_isOrder_199 : decode cX12_isOrder 199 = .ok (.aload_n 2, 1) := dk_44 (dk_at dksX12_isOrder_6 4 rfl rfl)
theorem dX12_isOrder_200 : decode cX12_isOrder 200 = .ok (.ldc 75, 2) := dk_18 75 (dk_at dksX12_isOrder_6 5 rfl rfl)
theorem dX12_isOrder_202 : decode cX12_isOrder 202 = .ok (.invokevirtual 60, 3) := dk_182 0 60 (dk_at dksX12_isOrder_6 7 rfl rfl)
theorem dX12_isOrder_205 : decode cX12_isOrder 205 = .ok (.ifCond .eq 36, 3) := dk_153 0 36 (dk_at dksX12_isOrder_6 10 rfl rfl)
theorem dX12_isOrder_208 : decode cX12_isOrder 208 = .ok (.bipush 7, 2) := dk_16 7 (dk_at dksX12_isOrder_6 13 rfl rfl)
theorem dX12_isOrder_210 : decode cX12_isOrder 210 = .ok (.istore_n 3, 1) := dk_62 (dk_at dksX12_isOrder_6 15 rfl rfl)
theorem dX12_isOrder_211 : decode cX12_isOrder 211 = .ok (.goto 30, 3) := dk_167 0 30 (dk_at dksX12_isOrder_6 16 rfl rfl)
theorem dX12_isOrder_214 : decode cX12_isOrder 214 = .ok (.aload_n 2, 1) := dk_44 (dk_at dksX12_isOrder_6 19 rfl rfl)
theorem dX12_isOrder_215 : decode cX12_isOrder 215 = .ok (.ldc 77, 2) := dk_18 77 (dk_at dksX12_isOrder_6 20 rfl rfl)
theorem dX12_isOrder_217 : decode cX12_isOrder 217 = .ok (.invokevirtual 60, 3) := dk_182 0 60 (dk_at dksX12_isOrder_7 0 rfl rfl)
theorem dX12_isOrder_220 : decode cX12_isOrder 220 = .ok (.ifCond .eq 21, 3) := dk_153 0 21 (dk_at dksX12_isOrder_7 3 rfl rfl)
theorem dX12_isOrder_223 : decode cX12_isOrder 223 = .ok (.bipush 8, 2) := dk_16 8 (dk_at dksX12_isOrder_7 6 rfl rfl)
theorem dX12_isOrder_225 : decode cX12_isOrder 225 = .ok (.istore_n 3, 1) := dk_62 (dk_at dksX12_isOrder_7 8 rfl rfl)
theorem dX12_isOrder_226 : decode cX12_isOrder 226 = .ok (.goto 15, 3) := dk_167 0 15 (dk_at dksX12_isOrder_7 9 rfl rfl)
theorem dX12_isOrder_229 : decode cX12_isOrder 229 = .ok (.aload_n 2, 1) := dk_44 (dk_at dksX12_isOrder_7 12 rfl rfl)
theorem dX12_isOrder_230 : decode cX12_isOrder 230 = .ok (.ldc 79, 2) := dk_18 79 (dk_at dksX12_isOrder_7 13 rfl rfl)
theorem dX12_isOrder_232 : decode cX12_isOrder 232 = .ok (.invokevirtual 60, 3) := dk_182 0 60 (dk_at dksX12_isOrder_7 15 rfl rfl)
theorem dX12_isOrder_235 : decode cX12_isOrder 235 = .ok (.ifCond .eq 6, 3) := dk_153 0 6 (dk_at dksX12_isOrder_7 18 rfl rfl)
theorem dX12_isOrder_238 : decode cX12_isOrder 238 = .ok (.bipush 9, 2) := dk_16 9 (dk_at dksX12_isOrder_7 21 rfl rfl)
theorem dX12_isOrder_240 : decode cX12_isOrder 240 = .ok (.istore_n 3, 1) := dk_62 (dk_at dksX12_isOrder_7 23 rfl rfl)
theorem dX12_isOrder_241 : decode cX12_isOrder 241 = .ok (.iload_n 3, 1) := dk_29 (dk_at dksX12_isOrder_8 0 rfl rfl)
theorem dX12_isOrder_242 : decode cX12_isOrder 242 = .ok (.tableswitch 58 0 9 #[54, 54, 54, 54, 54, 54, 54, 54, 54, 54], 54) := by decide +kernel
theorem dX12_isOrder_296 : decode cX12_isOrder 296 = .ok (.iconst 1, 1) := dk_4 (dk_at dksX12_isOrder_10 0 rfl rfl)
theorem dX12_isOrder_297 : decode cX12_isOrder 297 = .ok (.goto 4, 3) := dk_167 0 4 (dk_at dksX12_isOrder_10 1 rfl rfl)
theorem dX12_isOrder_300 : decode cX12_isOrder 300 = .ok (.iconst 0, 1) := dk_3 (dk_at dksX12_isOrder_10 4 rfl rfl)
theorem dX12_isOrder_301 : decode cX12_isOrder 301 = .ok (.ireturn, 1) := dk_172 (dk_at dksX12_isOrder_10 5 rfl rfl)
abbrev cX12_again : ByteArray := prog_13_method_12_code
def yX12_again : MethodName := ⟨RX12, "again", "(I)LLoopSignals$Order;"⟩
def dkwX12_again_2 : List UInt8 := [77, 42, 16, 41, 182, 0, 49, 42, 89, 180, 0, 151, 4, 100, 181, 0, 151, 44, 176]
abbrev dktX12_again_2 : List UInt8 := dkwX12_again_2 ++ []
def dkwX12_again_1 : List UInt8 := [182, 0, 23, 42, 16, 40, 182, 0, 49, 42, 89, 180, 0, 151, 4, 96, 181, 0, 151, 42, 27, 182, 0, 15]
abbrev dktX12_again_1 : List UInt8 := dkwX12_again_1 ++ dktX12_again_2
def dkwX12_again_0 : List UInt8 := [42, 42, 16, 40, 182, 0, 32, 153, 0, 11, 42, 180, 0, 151, 5, 162, 0, 7, 4, 167, 0, 4, 3, 8]
abbrev dktX12_again_0 : List UInt8 := dkwX12_again_0 ++ dktX12_again_1
theorem dksX12_again_0 : cX12_again.data.toList.drop 0 = dktX12_again_0 := by decide +kernel
theorem dksX12_again_1 : cX12_again.data.toList.drop 24 = dktX12_again_1 := dk_seg dksX12_again_0 24 rfl rfl
theorem dksX12_again_2 : cX12_again.data.toList.drop 48 = dktX12_again_2 := dk_seg dksX12_again_1 24 rfl rfl
theorem dX12_again_0 : decode cX12_again 0 = .ok (.aload_n 0, 1) := dk_42 (dk_at dksX12_again_0 0 rfl rfl)
theorem dX12_again_1 : decode cX12_again 1 = .ok (.aload_n 0, 1) := dk_42 (dk_at dksX12_again_0 1 rfl rfl)
theorem dX12_again_2 : decode cX12_again 2 = .ok (.bipush 40, 2) := dk_16 40 (dk_at dksX12_again_0 2 rfl rfl)
theorem dX12_again_4 : decode cX12_again 4 = .ok (.invokevirtual 32, 3) := dk_182 0 32 (dk_at dksX12_again_0 4 rfl rfl)
theorem dX12_again_7 : decode cX12_again 7 = .ok (.ifCond .eq 11, 3) := dk_153 0 11 (dk_at dksX12_again_0 7 rfl rfl)
theorem dX12_again_10 : decode cX12_again 10 = .ok (.aload_n 0, 1) := dk_42 (dk_at dksX12_again_0 10 rfl rfl)
theorem dX12_again_11 : decode cX12_again 11 = .ok (.getfield 151, 3) := dk_180 0 151 (dk_at dksX12_again_0 11 rfl rfl)
theorem dX12_again_14 : decode cX12_again 14 = .ok (.iconst 2, 1) := dk_5 (dk_at dksX12_again_0 14 rfl rfl)
theorem dX12_again_15 : decode cX12_again 15 = .ok (.if_icmp .ge 7, 3) := dk_162 0 7 (dk_at dksX12_again_0 15 rfl rfl)
theorem dX12_again_18 : decode cX12_again 18 = .ok (.iconst 1, 1) := dk_4 (dk_at dksX12_again_0 18 rfl rfl)
theorem dX12_again_19 : decode cX12_again 19 = .ok (.goto 4, 3) := dk_167 0 4 (dk_at dksX12_again_0 19 rfl rfl)
theorem dX12_again_22 : decode cX12_again 22 = .ok (.iconst 0, 1) := dk_3 (dk_at dksX12_again_0 22 rfl rfl)
theorem dX12_again_23 : decode cX12_again 23 = .ok (.iconst 5, 1) := dk_8 (dk_at dksX12_again_0 23 rfl rfl)
theorem dX12_again_24 : decode cX12_again 24 = .ok (.invokevirtual 23, 3) := dk_182 0 23 (dk_at dksX12_again_1 0 rfl rfl)
theorem dX12_again_27 : decode cX12_again 27 = .ok (.aload_n 0, 1) := dk_42 (dk_at dksX12_again_1 3 rfl rfl)
theorem dX12_again_28 : decode cX12_again 28 = .ok (.bipush 40, 2) := dk_16 40 (dk_at dksX12_again_1 4 rfl rfl)
theorem dX12_again_30 : decode cX12_again 30 = .ok (.invokevirtual 49, 3) := dk_182 0 49 (dk_at dksX12_again_1 6 rfl rfl)
theorem dX12_again_33 : decode cX12_again 33 = .ok (.aload_n 0, 1) := dk_42 (dk_at dksX12_again_1 9 rfl rfl)
theorem dX12_again_34 : decode cX12_again 34 = .ok (.dup, 1) := dk_89 (dk_at dksX12_again_1 10 rfl rfl)
theorem dX12_again_35 : decode cX12_again 35 = .ok (.getfield 151, 3) := dk_180 0 151 (dk_at dksX12_again_1 11 rfl rfl)
theorem dX12_again_38 : decode cX12_again 38 = .ok (.iconst 1, 1) := dk_4 (dk_at dksX12_again_1 14 rfl rfl)
theorem dX12_again_39 : decode cX12_again 39 = .ok (.iadd, 1) := dk_96 (dk_at dksX12_again_1 15 rfl rfl)
theorem dX12_again_40 : decode cX12_again 40 = .ok (.putfield 151, 3) := dk_181 0 151 (dk_at dksX12_again_1 16 rfl rfl)
theorem dX12_again_43 : decode cX12_again 43 = .ok (.aload_n 0, 1) := dk_42 (dk_at dksX12_again_1 19 rfl rfl)
theorem dX12_again_44 : decode cX12_again 44 = .ok (.iload_n 1, 1) := dk_27 (dk_at dksX12_again_1 20 rfl rfl)
theorem dX12_again_45 : decode cX12_again 45 = .ok (.invokevirtual 15, 3) := dk_182 0 15 (dk_at dksX12_again_1 21 rfl rfl)
theorem dX12_again_48 : decode cX12_again 48 = .ok (.astore_n 2, 1) := dk_77 (dk_at dksX12_again_2 0 rfl rfl)
theorem dX12_again_49 : decode cX12_again 49 = .ok (.aload_n 0, 1) := dk_42 (dk_at dksX12_again_2 1 rfl rfl)
theorem dX12_again_50 : decode cX12_again 50 = .ok (.bipush 41, 2) := dk_16 41 (dk_at dksX12_again_2 2 rfl rfl)
theorem dX12_again_52 : decode cX12_again 52 = .ok (.invokevirtual 49, 3) := dk_182 0 49 (dk_at dksX12_again_2 4 rfl rfl)
theorem dX12_again_55 : decode cX12_again 55 = .ok (.aload_n 0, 1) := dk_42 (dk_at dksX12_again_2 7 rfl rfl)
theorem dX12_again_56 : decode cX12_again 56 = .ok (.dup, 1) := dk_89 (dk_at dksX12_again_2 8 rfl rfl)
theorem dX12_again_57 : decode cX12_again 57 = .ok (.getfield 151, 3) := dk_180 0 151 (dk_at dksX12_again_2 9 rfl rfl)
theorem dX12_again_60 : decode cX12_again 60 = .ok (.iconst 1, 1) := dk_4 (dk_at dksX12_again_2 12 rfl rfl)
theorem dX12_again_61 : decode cX12_again 61 = .ok (.isub, 1) := dk_100 (dk_at dksX12_again_2 13 rfl rfl)
theorem dX12_again_62 : decode cX12_again 62 = .ok (.putfield 151, 3) := dk_181 0 151 (dk_at dksX12_again_2 14 rfl rfl)
theorem dX12_again_65 : decode cX12_again 65 = .ok (.aload_n 2, 1) := dk_44 (dk_at dksX12_again_2 17 rfl rfl)
theorem dX12_again_66 : decode cX12_again 66 = .ok (.areturn, 1) := dk_176 (dk_at dksX12_again_2 18 rfl rfl)
abbrev cX12_passes : ByteArray := prog_13_method_6_code
def yX12_passes : MethodName := ⟨RX12, "passes", "(I)LLoopSignals$Order;"⟩
def dkwX12_passes_0 : List UInt8 := [187, 0, 129, 89, 42, 180, 0, 3, 27, 186, 0, 131, 0, 0, 183, 0, 135, 176]
abbrev dktX12_passes_0 : List UInt8 := dkwX12_passes_0 ++ []
theorem dksX12_passes_0 : cX12_passes.data.toList.drop 0 = dktX12_passes_0 := by decide +kernel
theorem dX12_passes_0 : decode cX12_passes 0 = .ok (.new 129, 3) := dk_187 0 129 (dk_at dksX12_passes_0 0 rfl rfl)
theorem dX12_passes_3 : decode cX12_passes 3 = .ok (.dup, 1) := dk_89 (dk_at dksX12_passes_0 3 rfl rfl)
theorem dX12_passes_4 : decode cX12_passes 4 = .ok (.aload_n 0, 1) := dk_42 (dk_at dksX12_passes_0 4 rfl rfl)
theorem dX12_passes_5 : decode cX12_passes 5 = .ok (.getfield 3, 3) := dk_180 0 3 (dk_at dksX12_passes_0 5 rfl rfl)
theorem dX12_passes_8 : decode cX12_passes 8 = .ok (.iload_n 1, 1) := dk_27 (dk_at dksX12_passes_0 8 rfl rfl)
theorem dX12_passes_9 : decode cX12_passes 9 = .ok (.invokedynamic 131, 5) := by decide +kernel
theorem dX12_passes_14 : decode cX12_passes 14 = .ok (.invokespecial 135, 3) := dk_183 0 135 (dk_at dksX12_passes_0 14 rfl rfl)
theorem dX12_passes_17 : decode cX12_passes 17 = .ok (.areturn, 1) := dk_176 (dk_at dksX12_passes_0 17 rfl rfl)
abbrev cX12_lambda_passes_0 : ByteArray := prog_13_method_18_code
def yX12_lambda_passes_0 : MethodName := ⟨RX12, "lambda$passes$0", "(ILLoopSignals$Junction;)I"⟩
def dkwX12_lambda_passes_0_0 : List UInt8 := [43, 26, 182, 0, 178, 172]
abbrev dktX12_lambda_passes_0_0 : List UInt8 := dkwX12_lambda_passes_0_0 ++ []
theorem dksX12_lambda_passes_0_0 : cX12_lambda_passes_0.data.toList.drop 0 = dktX12_lambda_passes_0_0 := by decide +kernel
theorem dX12_lambda_passes_0_0 : decode cX12_lambda_passes_0 0 = .ok (.aload_n 1, 1) := dk_43 (dk_at dksX12_lambda_passes_0_0 0 rfl rfl)
theorem dX12_lambda_passes_0_1 : decode cX12_lambda_passes_0 1 = .ok (.iload_n 0, 1) := dk_26 (dk_at dksX12_lambda_passes_0_0 1 rfl rfl)
theorem dX12_lambda_passes_0_2 : decode cX12_lambda_passes_0 2 = .ok (.invokevirtual 178, 3) := dk_182 0 178 (dk_at dksX12_lambda_passes_0_0 2 rfl rfl)
theorem dX12_lambda_passes_0_5 : decode cX12_lambda_passes_0 5 = .ok (.ireturn, 1) := dk_172 (dk_at dksX12_lambda_passes_0_0 5 rfl rfl)
abbrev cX12_calls : ByteArray := prog_13_method_7_code
def yX12_calls : MethodName := ⟨RX12, "calls", "(I)LLoopSignals$Order;"⟩
def dkwX12_calls_0 : List UInt8 := [187, 0, 129, 89, 42, 180, 0, 3, 27, 186, 0, 138, 0, 0, 183, 0, 135, 176]
abbrev dktX12_calls_0 : List UInt8 := dkwX12_calls_0 ++ []
theorem dksX12_calls_0 : cX12_calls.data.toList.drop 0 = dktX12_calls_0 := by decide +kernel
theorem dX12_calls_0 : decode cX12_calls 0 = .ok (.new 129, 3) := dk_187 0 129 (dk_at dksX12_calls_0 0 rfl rfl)
theorem dX12_calls_3 : decode cX12_calls 3 = .ok (.dup, 1) := dk_89 (dk_at dksX12_calls_0 3 rfl rfl)
theorem dX12_calls_4 : decode cX12_calls 4 = .ok (.aload_n 0, 1) := dk_42 (dk_at dksX12_calls_0 4 rfl rfl)
theorem dX12_calls_5 : decode cX12_calls 5 = .ok (.getfield 3, 3) := dk_180 0 3 (dk_at dksX12_calls_0 5 rfl rfl)
theorem dX12_calls_8 : decode cX12_calls 8 = .ok (.iload_n 1, 1) := dk_27 (dk_at dksX12_calls_0 8 rfl rfl)
theorem dX12_calls_9 : decode cX12_calls 9 = .ok (.invokedynamic 138, 5) := by decide +kernel
theorem dX12_calls_14 : decode cX12_calls 14 = .ok (.invokespecial 135, 3) := dk_183 0 135 (dk_at dksX12_calls_0 14 rfl rfl)
theorem dX12_calls_17 : decode cX12_calls 17 = .ok (.areturn, 1) := dk_176 (dk_at dksX12_calls_0 17 rfl rfl)
abbrev cX12_lambda_calls_1 : ByteArray := prog_13_method_17_code
def yX12_lambda_calls_1 : MethodName := ⟨RX12, "lambda$calls$1", "(ILLoopSignals$Junction;)I"⟩
def dkwX12_lambda_calls_1_0 : List UInt8 := [26, 43, 180, 0, 165, 185, 0, 167, 1, 0, 162, 0, 11, 43, 26, 182, 0, 175, 167, 0, 5, 16, 237, 172]
abbrev dktX12_lambda_calls_1_0 : List UInt8 := dkwX12_lambda_calls_1_0 ++ []
theorem dksX12_lambda_calls_1_0 : cX12_lambda_calls_1.data.toList.drop 0 = dktX12_lambda_calls_1_0 := by decide +kernel
theorem dX12_lambda_calls_1_0 : decode cX12_lambda_calls_1 0 = .ok (.iload_n 0, 1) := dk_26 (dk_at dksX12_lambda_calls_1_0 0 rfl rfl)
theorem dX12_lambda_calls_1_1 : decode cX12_lambda_calls_1 1 = .ok (.aload_n 1, 1) := dk_43 (dk_at dksX12_lambda_calls_1_0 1 rfl rfl)
theorem dX12_lambda_calls_1_2 : decode cX12_lambda_calls_1 2 = .ok (.getfield 165, 3) := dk_180 0 165 (dk_at dksX12_lambda_calls_1_0 2 rfl rfl)
theorem dX12_lambda_calls_1_5 : decode cX12_lambda_calls_1 5 = .ok (.invokeinterface 167 1, 5) := by decide +kernel
theorem dX12_lambda_calls_1_10 : decode cX12_lambda_calls_1 10 = .ok (.if_icmp .ge 11, 3) := dk_162 0 11 (dk_at dksX12_lambda_calls_1_0 10 rfl rfl)
theorem dX12_lambda_calls_1_13 : decode cX12_lambda_calls_1 13 = .ok (.aload_n 1, 1) := dk_43 (dk_at dksX12_lambda_calls_1_0 13 rfl rfl)
theorem dX12_lambda_calls_1_14 : decode cX12_lambda_calls_1 14 = .ok (.iload_n 0, 1) := dk_26 (dk_at dksX12_lambda_calls_1_0 14 rfl rfl)
theorem dX12_lambda_calls_1_15 : decode cX12_lambda_calls_1 15 = .ok (.invokevirtual 175, 3) := dk_182 0 175 (dk_at dksX12_lambda_calls_1_0 15 rfl rfl)
theorem dX12_lambda_calls_1_18 : decode cX12_lambda_calls_1 18 = .ok (.goto 5, 3) := dk_167 0 5 (dk_at dksX12_lambda_calls_1_0 18 rfl rfl)
theorem dX12_lambda_calls_1_21 : decode cX12_lambda_calls_1 21 = .ok (.bipush (-19), 2) := dk_16 237 (dk_at dksX12_lambda_calls_1_0 21 rfl rfl)
theorem dX12_lambda_calls_1_23 : decode cX12_lambda_calls_1 23 = .ok (.ireturn, 1) := dk_172 (dk_at dksX12_lambda_calls_1_0 23 rfl rfl)
abbrev cX12_sets : ByteArray := prog_13_method_8_code
def yX12_sets : MethodName := ⟨RX12, "sets", "(II)LLoopSignals$Order;"⟩
def dkwX12_sets_0 : List UInt8 := [187, 0, 129, 89, 42, 180, 0, 3, 27, 28, 186, 0, 139, 0, 0, 183, 0, 135, 176]
abbrev dktX12_sets_0 : List UInt8 := dkwX12_sets_0 ++ []
theorem dksX12_sets_0 : cX12_sets.data.toList.drop 0 = dktX12_sets_0 := by decide +kernel
theorem dX12_sets_0 : decode cX12_sets 0 = .ok (.new 129, 3) := dk_187 0 129 (dk_at dksX12_sets_0 0 rfl rfl)
theorem dX12_sets_3 : decode cX12_sets 3 = .ok (.dup, 1) := dk_89 (dk_at dksX12_sets_0 3 rfl rfl)
theorem dX12_sets_4 : decode cX12_sets 4 = .ok (.aload_n 0, 1) := dk_42 (dk_at dksX12_sets_0 4 rfl rfl)
theorem dX12_sets_5 : decode cX12_sets 5 = .ok (.getfield 3, 3) := dk_180 0 3 (dk_at dksX12_sets_0 5 rfl rfl)
theorem dX12_sets_8 : decode cX12_sets 8 = .ok (.iload_n 1, 1) := dk_27 (dk_at dksX12_sets_0 8 rfl rfl)
theorem dX12_sets_9 : decode cX12_sets 9 = .ok (.iload_n 2, 1) := dk_28 (dk_at dksX12_sets_0 9 rfl rfl)
theorem dX12_sets_10 : decode cX12_sets 10 = .ok (.invokedynamic 139, 5) := by decide +kernel
theorem dX12_sets_15 : decode cX12_sets 15 = .ok (.invokespecial 135, 3) := dk_183 0 135 (dk_at dksX12_sets_0 15 rfl rfl)
theorem dX12_sets_18 : decode cX12_sets 18 = .ok (.areturn, 1) := dk_176 (dk_at dksX12_sets_0 18 rfl rfl)
abbrev cX12_lambda_sets_2 : ByteArray := prog_13_method_16_code
def yX12_lambda_sets_2 : MethodName := ⟨RX12, "lambda$sets$2", "(IILLoopSignals$Junction;)I"⟩
def dkwX12_lambda_sets_2_0 : List UInt8 := [44, 26, 27, 182, 0, 173, 172]
abbrev dktX12_lambda_sets_2_0 : List UInt8 := dkwX12_lambda_sets_2_0 ++ []
theorem dksX12_lambda_sets_2_0 : cX12_lambda_sets_2.data.toList.drop 0 = dktX12_lambda_sets_2_0 := by decide +kernel
theorem dX12_lambda_sets_2_0 : decode cX12_lambda_sets_2 0 = .ok (.aload_n 2, 1) := dk_44 (dk_at dksX12_lambda_sets_2_0 0 rfl rfl)
theorem dX12_lambda_sets_2_1 : decode cX12_lambda_sets_2 1 = .ok (.iload_n 0, 1) := dk_26 (dk_at dksX12_lambda_sets_2_0 1 rfl rfl)
theorem dX12_lambda_sets_2_2 : decode cX12_lambda_sets_2 2 = .ok (.iload_n 1, 1) := dk_27 (dk_at dksX12_lambda_sets_2_0 2 rfl rfl)
theorem dX12_lambda_sets_2_3 : decode cX12_lambda_sets_2 3 = .ok (.invokevirtual 173, 3) := dk_182 0 173 (dk_at dksX12_lambda_sets_2_0 3 rfl rfl)
theorem dX12_lambda_sets_2_6 : decode cX12_lambda_sets_2 6 = .ok (.ireturn, 1) := dk_172 (dk_at dksX12_lambda_sets_2_0 6 rfl rfl)
abbrev cX12_phases : ByteArray := prog_13_method_9_code
def yX12_phases : MethodName := ⟨RX12, "phases", "(IZ)LLoopSignals$Order;"⟩
def dkwX12_phases_1 : List UInt8 := [180, 0, 3, 27, 28, 29, 186, 0, 142, 0, 0, 183, 0, 135, 176]
abbrev dktX12_phases_1 : List UInt8 := dkwX12_phases_1 ++ []
def dkwX12_phases_0 : List UInt8 := [42, 4, 28, 153, 0, 8, 16, 60, 167, 0, 5, 16, 99, 182, 0, 97, 62, 187, 0, 129, 89, 42]
abbrev dktX12_phases_0 : List UInt8 := dkwX12_phases_0 ++ dktX12_phases_1
theorem dksX12_phases_0 : cX12_phases.data.toList.drop 0 = dktX12_phases_0 := by decide +kernel
theorem dksX12_phases_1 : cX12_phases.data.toList.drop 22 = dktX12_phases_1 := dk_seg dksX12_phases_0 22 rfl rfl
theorem dX12_phases_0 : decode cX12_phases 0 = .ok (.aload_n 0, 1) := dk_42 (dk_at dksX12_phases_0 0 rfl rfl)
theorem dX12_phases_1 : decode cX12_phases 1 = .ok (.iconst 1, 1) := dk_4 (dk_at dksX12_phases_0 1 rfl rfl)
theorem dX12_phases_2 : decode cX12_phases 2 = .ok (.iload_n 2, 1) := dk_28 (dk_at dksX12_phases_0 2 rfl rfl)
theorem dX12_phases_3 : decode cX12_phases 3 = .ok (.ifCond .eq 8, 3) := dk_153 0 8 (dk_at dksX12_phases_0 3 rfl rfl)
theorem dX12_phases_6 : decode cX12_phases 6 = .ok (.bipush 60, 2) := dk_16 60 (dk_at dksX12_phases_0 6 rfl rfl)
theorem dX12_phases_8 : decode cX12_phases 8 = .ok (.goto 5, 3) := dk_167 0 5 (dk_at dksX12_phases_0 8 rfl rfl)
theorem dX12_phases_11 : decode cX12_phases 11 = .ok (.bipush 99, 2) := dk_16 99 (dk_at dksX12_phases_0 11 rfl rfl)
theorem dX12_phases_13 : decode cX12_phases 13 = .ok (.invokevirtual 97, 3) := dk_182 0 97 (dk_at dksX12_phases_0 13 rfl rfl)
theorem dX12_phases_16 : decode cX12_phases 16 = .ok (.istore_n 3, 1) := dk_62 (dk_at dksX12_phases_0 16 rfl rfl)
theorem dX12_phases_17 : decode cX12_phases 17 = .ok (.new 129, 3) := dk_187 0 129 (dk_at dksX12_phases_0 17 rfl rfl)
theorem dX12_phases_20 : decode cX12_phases 20 = .ok (.dup, 1) := dk_89 (dk_at dksX12_phases_0 20 rfl rfl)
theorem dX12_phases_21 : decode cX12_phases 21 = .ok (.aload_n 0, 1) := dk_42 (dk_at dksX12_phases_0 21 rfl rfl)
theorem dX12_phases_22 : decode cX12_phases 22 = .ok (.getfield 3, 3) := dk_180 0 3 (dk_at dksX12_phases_1 0 rfl rfl)
theorem dX12_phases_25 : decode cX12_phases 25 = .ok (.iload_n 1, 1) := dk_27 (dk_at dksX12_phases_1 3 rfl rfl)
theorem dX12_phases_26 : decode cX12_phases 26 = .ok (.iload_n 2, 1) := dk_28 (dk_at dksX12_phases_1 4 rfl rfl)
theorem dX12_phases_27 : decode cX12_phases 27 = .ok (.iload_n 3, 1) := dk_29 (dk_at dksX12_phases_1 5 rfl rfl)
theorem dX12_phases_28 : decode cX12_phases 28 = .ok (.invokedynamic 142, 5) := by decide +kernel
theorem dX12_phases_33 : decode cX12_phases 33 = .ok (.invokespecial 135, 3) := dk_183 0 135 (dk_at dksX12_phases_1 11 rfl rfl)
theorem dX12_phases_36 : decode cX12_phases 36 = .ok (.areturn, 1) := dk_176 (dk_at dksX12_phases_1 14 rfl rfl)
abbrev cX12_lambda_phases_3 : ByteArray := prog_13_method_15_code
def yX12_lambda_phases_3 : MethodName := ⟨RX12, "lambda$phases$3", "(IZILLoopSignals$Junction;)I"⟩
def dkwX12_lambda_phases_3_1 : List UInt8 := [16, 237, 172]
abbrev dktX12_lambda_phases_3_1 : List UInt8 := dkwX12_lambda_phases_3_1 ++ []
def dkwX12_lambda_phases_3_0 : List UInt8 := [26, 45, 180, 0, 165, 185, 0, 167, 1, 0, 162, 0, 13, 45, 26, 27, 28, 182, 0, 170, 167, 0, 5]
abbrev dktX12_lambda_phases_3_0 : List UInt8 := dkwX12_lambda_phases_3_0 ++ dktX12_lambda_phases_3_1
theorem dksX12_lambda_phases_3_0 : cX12_lambda_phases_3.data.toList.drop 0 = dktX12_lambda_phases_3_0 := by decide +kernel
theorem dksX12_lambda_phases_3_1 : cX12_lambda_phases_3.data.toList.drop 23 = dktX12_lambda_phases_3_1 := dk_seg dksX12_lambda_phases_3_0 23 rfl rfl
theorem dX12_lambda_phases_3_0 : decode cX12_lambda_phases_3 0 = .ok (.iload_n 0, 1) := dk_26 (dk_at dksX12_lambda_phases_3_0 0 rfl rfl)
theorem dX12_lambda_phases_3_1 : decode cX12_lambda_phases_3 1 = .ok (.aload_n 3, 1) := dk_45 (dk_at dksX12_lambda_phases_3_0 1 rfl rfl)
theorem dX12_lambda_phases_3_2 : decode cX12_lambda_phases_3 2 = .ok (.getfield 165, 3) := dk_180 0 165 (dk_at dksX12_lambda_phases_3_0 2 rfl rfl)
theorem dX12_lambda_phases_3_5 : decode cX12_lambda_phases_3 5 = .ok (.invokeinterface 167 1, 5) := by decide +kernel
theorem dX12_lambda_phases_3_10 : decode cX12_lambda_phases_3 10 = .ok (.if_icmp .ge 13, 3) := dk_162 0 13 (dk_at dksX12_lambda_phases_3_0 10 rfl rfl)
theorem dX12_lambda_phases_3_13 : decode cX12_lambda_phases_3 13 = .ok (.aload_n 3, 1) := dk_45 (dk_at dksX12_lambda_phases_3_0 13 rfl rfl)
theorem dX12_lambda_phases_3_14 : decode cX12_lambda_phases_3 14 = .ok (.iload_n 0, 1) := dk_26 (dk_at dksX12_lambda_phases_3_0 14 rfl rfl)
theorem dX12_lambda_phases_3_15 : decode cX12_lambda_phases_3 15 = .ok (.iload_n 1, 1) := dk_27 (dk_at dksX12_lambda_phases_3_0 15 rfl rfl)
theorem dX12_lambda_phases_3_16 : decode cX12_lambda_phases_3 16 = .ok (.iload_n 2, 1) := dk_28 (dk_at dksX12_lambda_phases_3_0 16 rfl rfl)
theorem dX12_lambda_phases_3_17 : decode cX12_lambda_phases_3 17 = .ok (.invokevirtual 170, 3) := dk_182 0 170 (dk_at dksX12_lambda_phases_3_0 17 rfl rfl)
theorem dX12_lambda_phases_3_20 : decode cX12_lambda_phases_3 20 = .ok (.goto 5, 3) := dk_167 0 5 (dk_at dksX12_lambda_phases_3_0 20 rfl rfl)
theorem dX12_lambda_phases_3_23 : decode cX12_lambda_phases_3 23 = .ok (.bipush (-19), 2) := dk_16 237 (dk_at dksX12_lambda_phases_3_1 0 rfl rfl)
theorem dX12_lambda_phases_3_25 : decode cX12_lambda_phases_3 25 = .ok (.ireturn, 1) := dk_172 (dk_at dksX12_lambda_phases_3_1 2 rfl rfl)
abbrev cX12_comes : ByteArray := prog_13_method_10_code
def yX12_comes : MethodName := ⟨RX12, "comes", "(Ljava/lang/String;)LLoopSignals$Order;"⟩
def dkwX12_comes_1 : List UInt8 := [183, 0, 135, 176]
abbrev dktX12_comes_1 : List UInt8 := dkwX12_comes_1 ++ []
def dkwX12_comes_0 : List UInt8 := [42, 4, 16, 99, 182, 0, 97, 61, 187, 0, 129, 89, 42, 180, 0, 3, 43, 28, 186, 0, 145, 0, 0]
abbrev dktX12_comes_0 : List UInt8 := dkwX12_comes_0 ++ dktX12_comes_1
theorem dksX12_comes_0 : cX12_comes.data.toList.drop 0 = dktX12_comes_0 := by decide +kernel
theorem dksX12_comes_1 : cX12_comes.data.toList.drop 23 = dktX12_comes_1 := dk_seg dksX12_comes_0 23 rfl rfl
theorem dX12_comes_0 : decode cX12_comes 0 = .ok (.aload_n 0, 1) := dk_42 (dk_at dksX12_comes_0 0 rfl rfl)
theorem dX12_comes_1 : decode cX12_comes 1 = .ok (.iconst 1, 1) := dk_4 (dk_at dksX12_comes_0 1 rfl rfl)
theorem dX12_comes_2 : decode cX12_comes 2 = .ok (.bipush 99, 2) := dk_16 99 (dk_at dksX12_comes_0 2 rfl rfl)
theorem dX12_comes_4 : decode cX12_comes 4 = .ok (.invokevirtual 97, 3) := dk_182 0 97 (dk_at dksX12_comes_0 4 rfl rfl)
theorem dX12_comes_7 : decode cX12_comes 7 = .ok (.istore_n 2, 1) := dk_61 (dk_at dksX12_comes_0 7 rfl rfl)
theorem dX12_comes_8 : decode cX12_comes 8 = .ok (.new 129, 3) := dk_187 0 129 (dk_at dksX12_comes_0 8 rfl rfl)
theorem dX12_comes_11 : decode cX12_comes 11 = .ok (.dup, 1) := dk_89 (dk_at dksX12_comes_0 11 rfl rfl)
theorem dX12_comes_12 : decode cX12_comes 12 = .ok (.aload_n 0, 1) := dk_42 (dk_at dksX12_comes_0 12 rfl rfl)
theorem dX12_comes_13 : decode cX12_comes 13 = .ok (.getfield 3, 3) := dk_180 0 3 (dk_at dksX12_comes_0 13 rfl rfl)
theorem dX12_comes_16 : decode cX12_comes 16 = .ok (.aload_n 1, 1) := dk_43 (dk_at dksX12_comes_0 16 rfl rfl)
theorem dX12_comes_17 : decode cX12_comes 17 = .ok (.iload_n 2, 1) := dk_28 (dk_at dksX12_comes_0 17 rfl rfl)
theorem dX12_comes_18 : decode cX12_comes 18 = .ok (.invokedynamic 145, 5) := by decide +kernel
theorem dX12_comes_23 : decode cX12_comes 23 = .ok (.invokespecial 135, 3) := dk_183 0 135 (dk_at dksX12_comes_1 0 rfl rfl)
theorem dX12_comes_26 : decode cX12_comes 26 = .ok (.areturn, 1) := dk_176 (dk_at dksX12_comes_1 3 rfl rfl)
abbrev cX12_lambda_comes_4 : ByteArray := prog_13_method_14_code
def yX12_lambda_comes_4 : MethodName := ⟨RX12, "lambda$comes$4", "(Ljava/lang/String;ILLoopSignals$Junction;)I"⟩
def dkwX12_lambda_comes_4_1 : List UInt8 := [172]
abbrev dktX12_lambda_comes_4_1 : List UInt8 := dkwX12_lambda_comes_4_1 ++ []
def dkwX12_lambda_comes_4_0 : List UInt8 := [44, 42, 182, 0, 154, 2, 160, 0, 8, 16, 237, 167, 0, 13, 44, 44, 42, 182, 0, 154, 27, 182, 0, 163]
abbrev dktX12_lambda_comes_4_0 : List UInt8 := dkwX12_lambda_comes_4_0 ++ dktX12_lambda_comes_4_1
theorem dksX12_lambda_comes_4_0 : cX12_lambda_comes_4.data.toList.drop 0 = dktX12_lambda_comes_4_0 := by decide +kernel
theorem dksX12_lambda_comes_4_1 : cX12_lambda_comes_4.data.toList.drop 24 = dktX12_lambda_comes_4_1 := dk_seg dksX12_lambda_comes_4_0 24 rfl rfl
theorem dX12_lambda_comes_4_0 : decode cX12_lambda_comes_4 0 = .ok (.aload_n 2, 1) := dk_44 (dk_at dksX12_lambda_comes_4_0 0 rfl rfl)
theorem dX12_lambda_comes_4_1 : decode cX12_lambda_comes_4 1 = .ok (.aload_n 0, 1) := dk_42 (dk_at dksX12_lambda_comes_4_0 1 rfl rfl)
theorem dX12_lambda_comes_4_2 : decode cX12_lambda_comes_4 2 = .ok (.invokevirtual 154, 3) := dk_182 0 154 (dk_at dksX12_lambda_comes_4_0 2 rfl rfl)
theorem dX12_lambda_comes_4_5 : decode cX12_lambda_comes_4 5 = .ok (.iconst (-1), 1) := dk_2 (dk_at dksX12_lambda_comes_4_0 5 rfl rfl)
theorem dX12_lambda_comes_4_6 : decode cX12_lambda_comes_4 6 = .ok (.if_icmp .ne 8, 3) := dk_160 0 8 (dk_at dksX12_lambda_comes_4_0 6 rfl rfl)
theorem dX12_lambda_comes_4_9 : decode cX12_lambda_comes_4 9 = .ok (.bipush (-19), 2) := dk_16 237 (dk_at dksX12_lambda_comes_4_0 9 rfl rfl)
theorem dX12_lambda_comes_4_11 : decode cX12_lambda_comes_4 11 = .ok (.goto 13, 3) := dk_167 0 13 (dk_at dksX12_lambda_comes_4_0 11 rfl rfl)
theorem dX12_lambda_comes_4_14 : decode cX12_lambda_comes_4 14 = .ok (.aload_n 2, 1) := dk_44 (dk_at dksX12_lambda_comes_4_0 14 rfl rfl)
theorem dX12_lambda_comes_4_15 : decode cX12_lambda_comes_4 15 = .ok (.aload_n 2, 1) := dk_44 (dk_at dksX12_lambda_comes_4_0 15 rfl rfl)
theorem dX12_lambda_comes_4_16 : decode cX12_lambda_comes_4 16 = .ok (.aload_n 0, 1) := dk_42 (dk_at dksX12_lambda_comes_4_0 16 rfl rfl)
theorem dX12_lambda_comes_4_17 : decode cX12_lambda_comes_4 17 = .ok (.invokevirtual 154, 3) := dk_182 0 154 (dk_at dksX12_lambda_comes_4_0 17 rfl rfl)
theorem dX12_lambda_comes_4_20 : decode cX12_lambda_comes_4 20 = .ok (.iload_n 1, 1) := dk_27 (dk_at dksX12_lambda_comes_4_0 20 rfl rfl)
theorem dX12_lambda_comes_4_21 : decode cX12_lambda_comes_4 21 = .ok (.invokevirtual 163, 3) := dk_182 0 163 (dk_at dksX12_lambda_comes_4_0 21 rfl rfl)
theorem dX12_lambda_comes_4_24 : decode cX12_lambda_comes_4 24 = .ok (.ireturn, 1) := dk_172 (dk_at dksX12_lambda_comes_4_1 0 rfl rfl)
abbrev cX12_breaks : ByteArray := prog_13_method_11_code
def yX12_breaks : MethodName := ⟨RX12, "breaks", "(Ljava/lang/String;Z)LLoopSignals$Order;"⟩
def dkwX12_breaks_0 : List UInt8 := [187, 0, 129, 89, 42, 180, 0, 3, 43, 28, 186, 0, 148, 0, 0, 183, 0, 135, 176]
abbrev dktX12_breaks_0 : List UInt8 := dkwX12_breaks_0 ++ []
theorem dksX12_breaks_0 : cX12_breaks.data.toList.drop 0 = dktX12_breaks_0 := by decide +kernel
theorem dX12_breaks_0 : decode cX12_breaks 0 = .ok (.new 129, 3) := dk_187 0 129 (dk_at dksX12_breaks_0 0 rfl rfl)
theorem dX12_breaks_3 : decode cX12_breaks 3 = .ok (.dup, 1) := dk_89 (dk_at dksX12_breaks_0 3 rfl rfl)
theorem dX12_breaks_4 : decode cX12_breaks 4 = .ok (.aload_n 0, 1) := dk_42 (dk_at dksX12_breaks_0 4 rfl rfl)
theorem dX12_breaks_5 : decode cX12_breaks 5 = .ok (.getfield 3, 3) := dk_180 0 3 (dk_at dksX12_breaks_0 5 rfl rfl)
theorem dX12_breaks_8 : decode cX12_breaks 8 = .ok (.aload_n 1, 1) := dk_43 (dk_at dksX12_breaks_0 8 rfl rfl)
theorem dX12_breaks_9 : decode cX12_breaks 9 = .ok (.iload_n 2, 1) := dk_28 (dk_at dksX12_breaks_0 9 rfl rfl)
theorem dX12_breaks_10 : decode cX12_breaks 10 = .ok (.invokedynamic 148, 5) := by decide +kernel
theorem dX12_breaks_15 : decode cX12_breaks 15 = .ok (.invokespecial 135, 3) := dk_183 0 135 (dk_at dksX12_breaks_0 15 rfl rfl)
theorem dX12_breaks_18 : decode cX12_breaks 18 = .ok (.areturn, 1) := dk_176 (dk_at dksX12_breaks_0 18 rfl rfl)
abbrev cX12_lambda_breaks_5 : ByteArray := prog_13_method_13_code
def yX12_lambda_breaks_5 : MethodName := ⟨RX12, "lambda$breaks$5", "(Ljava/lang/String;ZLLoopSignals$Junction;)I"⟩
def dkwX12_lambda_breaks_5_1 : List UInt8 := [172]
abbrev dktX12_lambda_breaks_5_1 : List UInt8 := dkwX12_lambda_breaks_5_1 ++ []
def dkwX12_lambda_breaks_5_0 : List UInt8 := [44, 42, 182, 0, 154, 2, 160, 0, 8, 16, 237, 167, 0, 13, 44, 44, 42, 182, 0, 154, 27, 182, 0, 160]
abbrev dktX12_lambda_breaks_5_0 : List UInt8 := dkwX12_lambda_breaks_5_0 ++ dktX12_lambda_breaks_5_1
theorem dksX12_lambda_breaks_5_0 : cX12_lambda_breaks_5.data.toList.drop 0 = dktX12_lambda_breaks_5_0 := by decide +kernel
theorem dksX12_lambda_breaks_5_1 : cX12_lambda_breaks_5.data.toList.drop 24 = dktX12_lambda_breaks_5_1 := dk_seg dksX12_lambda_breaks_5_0 24 rfl rfl
theorem dX12_lambda_breaks_5_0 : decode cX12_lambda_breaks_5 0 = .ok (.aload_n 2, 1) := dk_44 (dk_at dksX12_lambda_breaks_5_0 0 rfl rfl)
theorem dX12_lambda_breaks_5_1 : decode cX12_lambda_breaks_5 1 = .ok (.aload_n 0, 1) := dk_42 (dk_at dksX12_lambda_breaks_5_0 1 rfl rfl)
theorem dX12_lambda_breaks_5_2 : decode cX12_lambda_breaks_5 2 = .ok (.invokevirtual 154, 3) := dk_182 0 154 (dk_at dksX12_lambda_breaks_5_0 2 rfl rfl)
theorem dX12_lambda_breaks_5_5 : decode cX12_lambda_breaks_5 5 = .ok (.iconst (-1), 1) := dk_2 (dk_at dksX12_lambda_breaks_5_0 5 rfl rfl)
theorem dX12_lambda_breaks_5_6 : decode cX12_lambda_breaks_5 6 = .ok (.if_icmp .ne 8, 3) := dk_160 0 8 (dk_at dksX12_lambda_breaks_5_0 6 rfl rfl)
theorem dX12_lambda_breaks_5_9 : decode cX12_lambda_breaks_5 9 = .ok (.bipush (-19), 2) := dk_16 237 (dk_at dksX12_lambda_breaks_5_0 9 rfl rfl)
theorem dX12_lambda_breaks_5_11 : decode cX12_lambda_breaks_5 11 = .ok (.goto 13, 3) := dk_167 0 13 (dk_at dksX12_lambda_breaks_5_0 11 rfl rfl)
theorem dX12_lambda_breaks_5_14 : decode cX12_lambda_breaks_5 14 = .ok (.aload_n 2, 1) := dk_44 (dk_at dksX12_lambda_breaks_5_0 14 rfl rfl)
theorem dX12_lambda_breaks_5_15 : decode cX12_lambda_breaks_5 15 = .ok (.aload_n 2, 1) := dk_44 (dk_at dksX12_lambda_breaks_5_0 15 rfl rfl)
theorem dX12_lambda_breaks_5_16 : decode cX12_lambda_breaks_5 16 = .ok (.aload_n 0, 1) := dk_42 (dk_at dksX12_lambda_breaks_5_0 16 rfl rfl)
theorem dX12_lambda_breaks_5_17 : decode cX12_lambda_breaks_5 17 = .ok (.invokevirtual 154, 3) := dk_182 0 154 (dk_at dksX12_lambda_breaks_5_0 17 rfl rfl)
theorem dX12_lambda_breaks_5_20 : decode cX12_lambda_breaks_5 20 = .ok (.iload_n 1, 1) := dk_27 (dk_at dksX12_lambda_breaks_5_0 20 rfl rfl)
theorem dX12_lambda_breaks_5_21 : decode cX12_lambda_breaks_5 21 = .ok (.invokevirtual 160, 3) := dk_182 0 160 (dk_at dksX12_lambda_breaks_5_0 21 rfl rfl)
theorem dX12_lambda_breaks_5_24 : decode cX12_lambda_breaks_5 24 = .ok (.ireturn, 1) := dk_172 (dk_at dksX12_lambda_breaks_5_1 0 rfl rfl)
theorem q201 : (Jvm.Cond.initialized "LoopSignals$ScriptReader") ∈ lw_all := lw_g (lw_at lw_m1 53 rfl) rfl
theorem q1016 : (Jvm.Cond.selects "LoopSignals$ScriptReader" ({ cls := "java/lang/Object", name := "toString", desc := "()Ljava/lang/String;" } : Jvm.MethodName) ({ cls := "java/lang/Object", name := "toString", desc := "()Ljava/lang/String;" } : Jvm.MethodName)) ∈ lw_all := lw_g (lw_at lw_m4 148 rfl) rfl
theorem q1035 : (Jvm.Cond.selects "LoopSignals$ScriptReader" ({ cls := "java/lang/Object", name := "getClass", desc := "()Ljava/lang/Class;" } : Jvm.MethodName) ({ cls := "java/lang/Object", name := "getClass", desc := "()Ljava/lang/Class;" } : Jvm.MethodName)) ∈ lw_all := lw_g (lw_at lw_m4 167 rfl) rfl
theorem q1152 : (Jvm.Cond.fieldLinkNest "LoopSignals$ScriptReader" (165 : Nat) "LoopSignals$Junction" "phases" "Ljava/util/List;" "LoopSignals") ∈ lw_tbl := lw_at lw_m5 44 rfl
theorem q1315 : (Jvm.Cond.selects "LoopSignals$ScriptReader" ({ cls := "java/lang/Object", name := "hashCode", desc := "()I" } : Jvm.MethodName) ({ cls := "java/lang/Object", name := "hashCode", desc := "()I" } : Jvm.MethodName)) ∈ lw_all := lw_g (lw_at lw_m5 207 rfl) rfl
theorem q1744 : (Jvm.Cond.selects "LoopSignals$ScriptReader" ({ cls := "java/lang/Object", name := "equals", desc := "(Ljava/lang/Object;)Z" } : Jvm.MethodName) ({ cls := "java/lang/Object", name := "equals", desc := "(Ljava/lang/Object;)Z" } : Jvm.MethodName)) ∈ lw_all := lw_g (lw_at lw_m7 156 rfl) rfl
theorem q2079 : (Jvm.Cond.selects "LoopSignals$ScriptReader" ({ cls := "LoopSignals$Reader", name := "next", desc := "()V" } : Jvm.MethodName) ({ cls := "LoopSignals$Reader", name := "next", desc := "()V" } : Jvm.MethodName)) ∈ lw_all := lw_g (lw_at lw_m9 11 rfl) rfl
theorem q2200 : (Jvm.Cond.selects "LoopSignals$ScriptReader" ({ cls := "LoopSignals$Reader", name := "isSign", desc := "(I)Z" } : Jvm.MethodName) ({ cls := "LoopSignals$Reader", name := "isSign", desc := "(I)Z" } : Jvm.MethodName)) ∈ lw_all := lw_g (lw_at lw_m9 132 rfl) rfl
theorem q2376 : (Jvm.Cond.instantiable "LoopSignals$ScriptReader" (10 : Nat)) ∈ lw_all := lw_g (lw_at lw_m10 68 rfl) rfl
theorem q2378 : (Jvm.Cond.instanceMethod ({ cls := "LoopSignals$ScriptReader", name := "<init>", desc := "(LLoopSignals;)V" } : Jvm.MethodName)) ∈ lw_all := lw_g (lw_at lw_m10 70 rfl) rfl
theorem q2379 : (Jvm.Cond.code ({ cls := "LoopSignals$ScriptReader", name := "<init>", desc := "(LLoopSignals;)V" } : Jvm.MethodName) prog_13_method_1_code (2 : Nat) (Option.none : Option Jvm.ClassFile.FieldType)) ∈ lw_all := lw_g (lw_at lw_m10 71 rfl) rfl
theorem q2380 : (Jvm.Cond.methodLink "LoopSignals$ScriptReader" (9 : Nat) ({ cls := "LoopSignals$Reader", name := "<init>", desc := "(LLoopSignals;)V" } : Jvm.MethodName)) ∈ lw_all := lw_g (lw_at lw_m10 72 rfl) rfl
theorem q2381 : (Jvm.Cond.fieldLink "LoopSignals$ScriptReader" (89 : Nat) "LoopSignals$ScriptReader" "many" "I") ∈ lw_all := lw_g (lw_at lw_m10 73 rfl) rfl
theorem q2382 : (Jvm.Cond.fieldLink "LoopSignals$ScriptReader" (151 : Nat) "LoopSignals$ScriptReader" "open" "I") ∈ lw_all := lw_g (lw_at lw_m10 74 rfl) rfl
theorem q2383 : (Jvm.Cond.fieldLink "LoopSignals$ScriptReader" (3 : Nat) "LoopSignals$ScriptReader" "this$0" "LLoopSignals;") ∈ lw_all := lw_g (lw_at lw_m10 75 rfl) rfl
theorem q2384 : (Jvm.Cond.lays "LoopSignals$ScriptReader" "LoopSignals$ScriptReader" "many" "I") ∈ lw_all := lw_g (lw_at lw_m10 76 rfl) rfl
theorem q2385 : (Jvm.Cond.soleField "LoopSignals$ScriptReader" "many") ∈ lw_all := lw_g (lw_at lw_m10 77 rfl) rfl
theorem q2386 : (Jvm.Cond.lays "LoopSignals$ScriptReader" "LoopSignals$ScriptReader" "open" "I") ∈ lw_all := lw_g (lw_at lw_m10 78 rfl) rfl
theorem q2387 : (Jvm.Cond.soleField "LoopSignals$ScriptReader" "open") ∈ lw_all := lw_g (lw_at lw_m10 79 rfl) rfl
theorem q2388 : (Jvm.Cond.laysFinal "LoopSignals$ScriptReader" "LoopSignals$ScriptReader" "this$0" "LLoopSignals;") ∈ lw_all := lw_g (lw_at lw_m10 80 rfl) rfl
theorem q2389 : (Jvm.Cond.soleField "LoopSignals$ScriptReader" "this$0") ∈ lw_all := lw_g (lw_at lw_m10 81 rfl) rfl
theorem q2390 : (Jvm.Cond.laysFinal "LoopSignals$ScriptReader" "LoopSignals$Reader" "end" "I") ∈ lw_all := lw_g (lw_at lw_m10 82 rfl) rfl
theorem q2391 : (Jvm.Cond.lays "LoopSignals$ScriptReader" "LoopSignals$Reader" "at" "I") ∈ lw_all := lw_g (lw_at lw_m10 83 rfl) rfl
theorem q2392 : (Jvm.Cond.lays "LoopSignals$ScriptReader" "LoopSignals$Reader" "begin" "I") ∈ lw_all := lw_g (lw_at lw_m10 84 rfl) rfl
theorem q2393 : (Jvm.Cond.lays "LoopSignals$ScriptReader" "LoopSignals$Reader" "number" "I") ∈ lw_all := lw_g (lw_at lw_m10 85 rfl) rfl
theorem q2394 : (Jvm.Cond.lays "LoopSignals$ScriptReader" "LoopSignals$Reader" "sort" "LLoopSignals$Sort;") ∈ lw_all := lw_g (lw_at lw_m10 86 rfl) rfl
theorem q2395 : (Jvm.Cond.lays "LoopSignals$ScriptReader" "LoopSignals$Reader" "word" "Ljava/lang/String;") ∈ lw_all := lw_g (lw_at lw_m10 87 rfl) rfl
theorem q2396 : (Jvm.Cond.laysFinal "LoopSignals$ScriptReader" "LoopSignals$Reader" "this$0" "LLoopSignals;") ∈ lw_all := lw_g (lw_at lw_m10 88 rfl) rfl
theorem q2397 : (Jvm.Cond.superclass "LoopSignals$ScriptReader" "LoopSignals$Reader") ∈ lw_all := lw_g (lw_at lw_m10 89 rfl) rfl
theorem q2399 : (Jvm.Cond.instanceMethod ({ cls := "LoopSignals$ScriptReader", name := "reads", desc := "()LLoopSignals$Script;" } : Jvm.MethodName)) ∈ lw_all := lw_g (lw_at lw_m10 91 rfl) rfl
theorem q2400 : (Jvm.Cond.selects "LoopSignals$ScriptReader" ({ cls := "LoopSignals$ScriptReader", name := "reads", desc := "()LLoopSignals$Script;" } : Jvm.MethodName) ({ cls := "LoopSignals$ScriptReader", name := "reads", desc := "()LLoopSignals$Script;" } : Jvm.MethodName)) ∈ lw_all := lw_g (lw_at lw_m10 92 rfl) rfl
theorem q2401 : (Jvm.Cond.code ({ cls := "LoopSignals$ScriptReader", name := "reads", desc := "()LLoopSignals$Script;" } : Jvm.MethodName) prog_13_method_2_code (2 : Nat) (Option.some (Jvm.ClassFile.FieldType.object "LoopSignals$Script"))) ∈ lw_all := lw_g (lw_at lw_m10 93 rfl) rfl
theorem q2402 : (Jvm.Cond.methodLink "LoopSignals$ScriptReader" (15 : Nat) ({ cls := "LoopSignals$ScriptReader", name := "orders", desc := "(I)LLoopSignals$Script;" } : Jvm.MethodName)) ∈ lw_all := lw_g (lw_at lw_m10 94 rfl) rfl
theorem q2403 : (Jvm.Cond.privateMethod ({ cls := "LoopSignals$ScriptReader", name := "orders", desc := "(I)LLoopSignals$Script;" } : Jvm.MethodName)) ∈ lw_tbl := lw_at lw_m10 95 rfl
theorem q2404 : (Jvm.Cond.instanceMethod ({ cls := "LoopSignals$ScriptReader", name := "orders", desc := "(I)LLoopSignals$Script;" } : Jvm.MethodName)) ∈ lw_all := lw_g (lw_at lw_m10 96 rfl) rfl
theorem q2405 : (Jvm.Cond.code ({ cls := "LoopSignals$ScriptReader", name := "orders", desc := "(I)LLoopSignals$Script;" } : Jvm.MethodName) prog_13_method_3_code (4 : Nat) (Option.some (Jvm.ClassFile.FieldType.object "LoopSignals$Script"))) ∈ lw_all := lw_g (lw_at lw_m10 97 rfl) rfl
theorem q2406 : (Jvm.Cond.classLink "LoopSignals$ScriptReader" (27 : Nat) "LoopSignals$Script") ∈ lw_all := lw_g (lw_at lw_m10 98 rfl) rfl
theorem q2408 : (Jvm.Cond.methodLink "LoopSignals$ScriptReader" (29 : Nat) ({ cls := "LoopSignals$Script", name := "<init>", desc := "(I)V" } : Jvm.MethodName)) ∈ lw_all := lw_g (lw_at lw_m10 100 rfl) rfl
theorem q2420 : (Jvm.Cond.fieldLinkNest "LoopSignals$ScriptReader" (36 : Nat) "LoopSignals$Script" "orders" "Ljava/util/List;" "LoopSignals") ∈ lw_tbl := lw_at lw_m10 112 rfl
theorem q2427 : (Jvm.Cond.methodLink "LoopSignals$ScriptReader" (19 : Nat) ({ cls := "LoopSignals$ScriptReader", name := "isEnd", desc := "()Z" } : Jvm.MethodName)) ∈ lw_all := lw_g (lw_at lw_m10 119 rfl) rfl
theorem q2428 : (Jvm.Cond.sameMethod "LoopSignals$ScriptReader" "LoopSignals$Reader" "isEnd" "()Z") ∈ lw_all := lw_g (lw_at lw_m10 120 rfl) rfl
theorem q2429 : (Jvm.Cond.selects "LoopSignals$ScriptReader" ({ cls := "LoopSignals$ScriptReader", name := "isEnd", desc := "()Z" } : Jvm.MethodName) ({ cls := "LoopSignals$Reader", name := "isEnd", desc := "()Z" } : Jvm.MethodName)) ∈ lw_all := lw_g (lw_at lw_m10 121 rfl) rfl
theorem q2430 : (Jvm.Cond.methodLink "LoopSignals$ScriptReader" (32 : Nat) ({ cls := "LoopSignals$ScriptReader", name := "isSign", desc := "(I)Z" } : Jvm.MethodName)) ∈ lw_all := lw_g (lw_at lw_m10 122 rfl) rfl
theorem q2431 : (Jvm.Cond.sameMethod "LoopSignals$ScriptReader" "LoopSignals$Reader" "isSign" "(I)Z") ∈ lw_all := lw_g (lw_at lw_m10 123 rfl) rfl
theorem q2432 : (Jvm.Cond.selects "LoopSignals$ScriptReader" ({ cls := "LoopSignals$ScriptReader", name := "isSign", desc := "(I)Z" } : Jvm.MethodName) ({ cls := "LoopSignals$Reader", name := "isSign", desc := "(I)Z" } : Jvm.MethodName)) ∈ lw_all := lw_g (lw_at lw_m10 124 rfl) rfl
theorem q2433 : (Jvm.Cond.methodLink "LoopSignals$ScriptReader" (39 : Nat) ({ cls := "LoopSignals$ScriptReader", name := "order", desc := "()LLoopSignals$Order;" } : Jvm.MethodName)) ∈ lw_all := lw_g (lw_at lw_m10 125 rfl) rfl
theorem q2434 : (Jvm.Cond.privateMethod ({ cls := "LoopSignals$ScriptReader", name := "order", desc := "()LLoopSignals$Order;" } : Jvm.MethodName)) ∈ lw_tbl := lw_at lw_m10 126 rfl
theorem q2435 : (Jvm.Cond.instanceMethod ({ cls := "LoopSignals$ScriptReader", name := "order", desc := "()LLoopSignals$Order;" } : Jvm.MethodName)) ∈ lw_all := lw_g (lw_at lw_m10 127 rfl) rfl
theorem q2436 : (Jvm.Cond.code ({ cls := "LoopSignals$ScriptReader", name := "order", desc := "()LLoopSignals$Order;" } : Jvm.MethodName) prog_13_method_5_code (4 : Nat) (Option.some (Jvm.ClassFile.FieldType.object "LoopSignals$Order"))) ∈ lw_all := lw_g (lw_at lw_m10 128 rfl) rfl
theorem q2437 : (Jvm.Cond.methodLink "LoopSignals$ScriptReader" (81 : Nat) ({ cls := "LoopSignals$ScriptReader", name := "word", desc := "()Ljava/lang/String;" } : Jvm.MethodName)) ∈ lw_all := lw_g (lw_at lw_m10 129 rfl) rfl
theorem q2438 : (Jvm.Cond.sameMethod "LoopSignals$ScriptReader" "LoopSignals$Reader" "word" "()Ljava/lang/String;") ∈ lw_all := lw_g (lw_at lw_m10 130 rfl) rfl
theorem q2439 : (Jvm.Cond.selects "LoopSignals$ScriptReader" ({ cls := "LoopSignals$ScriptReader", name := "word", desc := "()Ljava/lang/String;" } : Jvm.MethodName) ({ cls := "LoopSignals$Reader", name := "word", desc := "()Ljava/lang/String;" } : Jvm.MethodName)) ∈ lw_all := lw_g (lw_at lw_m10 131 rfl) rfl
theorem q2440 : (Jvm.Cond.methodLink "LoopSignals$ScriptReader" (85 : Nat) ({ cls := "LoopSignals$ScriptReader", name := "isOrder", desc := "(Ljava/lang/String;)Z" } : Jvm.MethodName)) ∈ lw_all := lw_g (lw_at lw_m10 132 rfl) rfl
theorem q2441 : (Jvm.Cond.privateMethod ({ cls := "LoopSignals$ScriptReader", name := "isOrder", desc := "(Ljava/lang/String;)Z" } : Jvm.MethodName)) ∈ lw_tbl := lw_at lw_m10 133 rfl
theorem q2442 : (Jvm.Cond.instanceMethod ({ cls := "LoopSignals$ScriptReader", name := "isOrder", desc := "(Ljava/lang/String;)Z" } : Jvm.MethodName)) ∈ lw_all := lw_g (lw_at lw_m10 134 rfl) rfl
theorem q2443 : (Jvm.Cond.code ({ cls := "LoopSignals$ScriptReader", name := "isOrder", desc := "(Ljava/lang/String;)Z" } : Jvm.MethodName) prog_13_method_4_code (4 : Nat) (Option.some Jvm.ClassFile.FieldType.boolean)) ∈ lw_all := lw_g (lw_at lw_m10 135 rfl) rfl
theorem q2444 : (Jvm.Cond.methodLink "LoopSignals$ScriptReader" (52 : Nat) ({ cls := "java/lang/String", name := "hashCode", desc := "()I" } : Jvm.MethodName)) ∈ lw_all := lw_g (lw_at lw_m10 136 rfl) rfl
theorem q2445 : (Jvm.Cond.stringRef "LoopSignals$ScriptReader" (58 : Nat) "come") ∈ lw_tbl := lw_at lw_m10 137 rfl
theorem q2446 : (Jvm.Cond.methodLink "LoopSignals$ScriptReader" (60 : Nat) ({ cls := "java/lang/String", name := "equals", desc := "(Ljava/lang/Object;)Z" } : Jvm.MethodName)) ∈ lw_all := lw_g (lw_at lw_m10 138 rfl) rfl
theorem q2447 : (Jvm.Cond.stringRef "LoopSignals$ScriptReader" (63 : Nat) "tick") ∈ lw_tbl := lw_at lw_m10 139 rfl
theorem q2448 : (Jvm.Cond.stringRef "LoopSignals$ScriptReader" (65 : Nat) "call") ∈ lw_tbl := lw_at lw_m10 140 rfl
theorem q2449 : (Jvm.Cond.stringRef "LoopSignals$ScriptReader" (67 : Nat) "break") ∈ lw_tbl := lw_at lw_m10 141 rfl
theorem q2450 : (Jvm.Cond.stringRef "LoopSignals$ScriptReader" (69 : Nat) "mend") ∈ lw_tbl := lw_at lw_m10 142 rfl
theorem q2451 : (Jvm.Cond.stringRef "LoopSignals$ScriptReader" (71 : Nat) "rule") ∈ lw_tbl := lw_at lw_m10 143 rfl
theorem q2452 : (Jvm.Cond.stringRef "LoopSignals$ScriptReader" (73 : Nat) "gap") ∈ lw_tbl := lw_at lw_m10 144 rfl
theorem q2453 : (Jvm.Cond.stringRef "LoopSignals$ScriptReader" (75 : Nat) "least") ∈ lw_tbl := lw_at lw_m10 145 rfl
theorem q2454 : (Jvm.Cond.stringRef "LoopSignals$ScriptReader" (77 : Nat) "most") ∈ lw_tbl := lw_at lw_m10 146 rfl
theorem q2455 : (Jvm.Cond.stringRef "LoopSignals$ScriptReader" (79 : Nat) "again") ∈ lw_tbl := lw_at lw_m10 147 rfl
theorem q2456 : (Jvm.Cond.methodLink "LoopSignals$ScriptReader" (23 : Nat) ({ cls := "LoopSignals$ScriptReader", name := "must", desc := "(ZI)V" } : Jvm.MethodName)) ∈ lw_all := lw_g (lw_at lw_m10 148 rfl) rfl
theorem q2457 : (Jvm.Cond.sameMethod "LoopSignals$ScriptReader" "LoopSignals$Reader" "must" "(ZI)V") ∈ lw_all := lw_g (lw_at lw_m10 149 rfl) rfl
theorem q2458 : (Jvm.Cond.selects "LoopSignals$ScriptReader" ({ cls := "LoopSignals$ScriptReader", name := "must", desc := "(ZI)V" } : Jvm.MethodName) ({ cls := "LoopSignals$Reader", name := "must", desc := "(ZI)V" } : Jvm.MethodName)) ∈ lw_all := lw_g (lw_at lw_m10 150 rfl) rfl
theorem q2459 : (Jvm.Cond.methodLink "LoopSignals$ScriptReader" (93 : Nat) ({ cls := "LoopSignals$ScriptReader", name := "next", desc := "()V" } : Jvm.MethodName)) ∈ lw_all := lw_g (lw_at lw_m10 151 rfl) rfl
theorem q2460 : (Jvm.Cond.sameMethod "LoopSignals$ScriptReader" "LoopSignals$Reader" "next" "()V") ∈ lw_all := lw_g (lw_at lw_m10 152 rfl) rfl
theorem q2461 : (Jvm.Cond.selects "LoopSignals$ScriptReader" ({ cls := "LoopSignals$ScriptReader", name := "next", desc := "()V" } : Jvm.MethodName) ({ cls := "LoopSignals$Reader", name := "next", desc := "()V" } : Jvm.MethodName)) ∈ lw_all := lw_g (lw_at lw_m10 153 rfl) rfl
theorem q2462 : (Jvm.Cond.methodLink "LoopSignals$ScriptReader" (97 : Nat) ({ cls := "LoopSignals$ScriptReader", name := "number", desc := "(II)I" } : Jvm.MethodName)) ∈ lw_all := lw_g (lw_at lw_m10 154 rfl) rfl
theorem q2463 : (Jvm.Cond.sameMethod "LoopSignals$ScriptReader" "LoopSignals$Reader" "number" "(II)I") ∈ lw_all := lw_g (lw_at lw_m10 155 rfl) rfl
theorem q2464 : (Jvm.Cond.selects "LoopSignals$ScriptReader" ({ cls := "LoopSignals$ScriptReader", name := "number", desc := "(II)I" } : Jvm.MethodName) ({ cls := "LoopSignals$Reader", name := "number", desc := "(II)I" } : Jvm.MethodName)) ∈ lw_all := lw_g (lw_at lw_m10 156 rfl) rfl
theorem q2465 : (Jvm.Cond.methodLink "LoopSignals$ScriptReader" (101 : Nat) ({ cls := "LoopSignals$ScriptReader", name := "again", desc := "(I)LLoopSignals$Order;" } : Jvm.MethodName)) ∈ lw_all := lw_g (lw_at lw_m10 157 rfl) rfl
theorem q2466 : (Jvm.Cond.privateMethod ({ cls := "LoopSignals$ScriptReader", name := "again", desc := "(I)LLoopSignals$Order;" } : Jvm.MethodName)) ∈ lw_tbl := lw_at lw_m10 158 rfl
theorem q2467 : (Jvm.Cond.instanceMethod ({ cls := "LoopSignals$ScriptReader", name := "again", desc := "(I)LLoopSignals$Order;" } : Jvm.MethodName)) ∈ lw_all := lw_g (lw_at lw_m10 159 rfl) rfl
theorem q2468 : (Jvm.Cond.code ({ cls := "LoopSignals$ScriptReader", name := "again", desc := "(I)LLoopSignals$Order;" } : Jvm.MethodName) prog_13_method_12_code (3 : Nat) (Option.some (Jvm.ClassFile.FieldType.object "LoopSignals$Order"))) ∈ lw_all := lw_g (lw_at lw_m10 160 rfl) rfl
theorem q2469 : (Jvm.Cond.methodLink "LoopSignals$ScriptReader" (49 : Nat) ({ cls := "LoopSignals$ScriptReader", name := "sign", desc := "(I)V" } : Jvm.MethodName)) ∈ lw_all := lw_g (lw_at lw_m10 161 rfl) rfl
theorem q2470 : (Jvm.Cond.sameMethod "LoopSignals$ScriptReader" "LoopSignals$Reader" "sign" "(I)V") ∈ lw_all := lw_g (lw_at lw_m10 162 rfl) rfl
theorem q2471 : (Jvm.Cond.selects "LoopSignals$ScriptReader" ({ cls := "LoopSignals$ScriptReader", name := "sign", desc := "(I)V" } : Jvm.MethodName) ({ cls := "LoopSignals$Reader", name := "sign", desc := "(I)V" } : Jvm.MethodName)) ∈ lw_all := lw_g (lw_at lw_m10 163 rfl) rfl
theorem q2472 : (Jvm.Cond.methodLink "LoopSignals$ScriptReader" (104 : Nat) ({ cls := "LoopSignals$ScriptReader", name := "passes", desc := "(I)LLoopSignals$Order;" } : Jvm.MethodName)) ∈ lw_all := lw_g (lw_at lw_m10 164 rfl) rfl
theorem q2473 : (Jvm.Cond.privateMethod ({ cls := "LoopSignals$ScriptReader", name := "passes", desc := "(I)LLoopSignals$Order;" } : Jvm.MethodName)) ∈ lw_tbl := lw_at lw_m10 165 rfl
theorem q2474 : (Jvm.Cond.instanceMethod ({ cls := "LoopSignals$ScriptReader", name := "passes", desc := "(I)LLoopSignals$Order;" } : Jvm.MethodName)) ∈ lw_all := lw_g (lw_at lw_m10 166 rfl) rfl
theorem q2475 : (Jvm.Cond.code ({ cls := "LoopSignals$ScriptReader", name := "passes", desc := "(I)LLoopSignals$Order;" } : Jvm.MethodName) prog_13_method_6_code (2 : Nat) (Option.some (Jvm.ClassFile.FieldType.object "LoopSignals$Order"))) ∈ lw_all := lw_g (lw_at lw_m10 167 rfl) rfl
theorem q2476 : (Jvm.Cond.classLink "LoopSignals$ScriptReader" (129 : Nat) "LoopSignals$One") ∈ lw_all := lw_g (lw_at lw_m10 168 rfl) rfl
theorem q2478 : (Jvm.Cond.static ({ cls := "LoopSignals$ScriptReader", name := "lambda$passes$0", desc := "(ILLoopSignals$Junction;)I" } : Jvm.MethodName)) ∈ lw_all := lw_g (lw_at lw_m10 170 rfl) rfl
theorem q2479 : (Jvm.Cond.code ({ cls := "LoopSignals$ScriptReader", name := "lambda$passes$0", desc := "(ILLoopSignals$Junction;)I" } : Jvm.MethodName) prog_13_method_18_code (2 : Nat) (Option.some Jvm.ClassFile.FieldType.int)) ∈ lw_all := lw_g (lw_at lw_m10 171 rfl) rfl
theorem q2480 : (Jvm.Cond.methodLink "LoopSignals$ScriptReader" (178 : Nat) ({ cls := "LoopSignals$Junction", name := "passes", desc := "(I)I" } : Jvm.MethodName)) ∈ lw_all := lw_g (lw_at lw_m10 172 rfl) rfl
theorem q2588 : (Jvm.Cond.methodLink "LoopSignals$ScriptReader" (135 : Nat) ({ cls := "LoopSignals$One", name := "<init>", desc := "(LLoopSignals;LLoopSignals$Act;)V" } : Jvm.MethodName)) ∈ lw_all := lw_g (lw_at lw_m11 40 rfl) rfl
theorem q2599 : (Jvm.Cond.methodLink "LoopSignals$ScriptReader" (107 : Nat) ({ cls := "LoopSignals$ScriptReader", name := "calls", desc := "(I)LLoopSignals$Order;" } : Jvm.MethodName)) ∈ lw_all := lw_g (lw_at lw_m11 51 rfl) rfl
theorem q2600 : (Jvm.Cond.privateMethod ({ cls := "LoopSignals$ScriptReader", name := "calls", desc := "(I)LLoopSignals$Order;" } : Jvm.MethodName)) ∈ lw_tbl := lw_at lw_m11 52 rfl
theorem q2601 : (Jvm.Cond.instanceMethod ({ cls := "LoopSignals$ScriptReader", name := "calls", desc := "(I)LLoopSignals$Order;" } : Jvm.MethodName)) ∈ lw_all := lw_g (lw_at lw_m11 53 rfl) rfl
theorem q2602 : (Jvm.Cond.code ({ cls := "LoopSignals$ScriptReader", name := "calls", desc := "(I)LLoopSignals$Order;" } : Jvm.MethodName) prog_13_method_7_code (2 : Nat) (Option.some (Jvm.ClassFile.FieldType.object "LoopSignals$Order"))) ∈ lw_all := lw_g (lw_at lw_m11 54 rfl) rfl
theorem q2603 : (Jvm.Cond.static ({ cls := "LoopSignals$ScriptReader", name := "lambda$calls$1", desc := "(ILLoopSignals$Junction;)I" } : Jvm.MethodName)) ∈ lw_all := lw_g (lw_at lw_m11 55 rfl) rfl
theorem q2604 : (Jvm.Cond.code ({ cls := "LoopSignals$ScriptReader", name := "lambda$calls$1", desc := "(ILLoopSignals$Junction;)I" } : Jvm.MethodName) prog_13_method_17_code (2 : Nat) (Option.some Jvm.ClassFile.FieldType.int)) ∈ lw_all := lw_g (lw_at lw_m11 56 rfl) rfl
theorem q2605 : (Jvm.Cond.interfaceEntry "LoopSignals$ScriptReader" (167 : Nat)) ∈ lw_tbl := lw_at lw_m11 57 rfl
theorem q2606 : (Jvm.Cond.methodLink "LoopSignals$ScriptReader" (167 : Nat) ({ cls := "java/util/List", name := "size", desc := "()I" } : Jvm.MethodName)) ∈ lw_all := lw_g (lw_at lw_m11 58 rfl) rfl
theorem q2607 : (Jvm.Cond.methodLink "LoopSignals$ScriptReader" (175 : Nat) ({ cls := "LoopSignals$Junction", name := "calls", desc := "(I)I" } : Jvm.MethodName)) ∈ lw_all := lw_g (lw_at lw_m11 59 rfl) rfl
theorem q2615 : (Jvm.Cond.methodLink "LoopSignals$ScriptReader" (110 : Nat) ({ cls := "LoopSignals$ScriptReader", name := "sets", desc := "(II)LLoopSignals$Order;" } : Jvm.MethodName)) ∈ lw_all := lw_g (lw_at lw_m11 67 rfl) rfl
theorem q2616 : (Jvm.Cond.privateMethod ({ cls := "LoopSignals$ScriptReader", name := "sets", desc := "(II)LLoopSignals$Order;" } : Jvm.MethodName)) ∈ lw_tbl := lw_at lw_m11 68 rfl
theorem q2617 : (Jvm.Cond.instanceMethod ({ cls := "LoopSignals$ScriptReader", name := "sets", desc := "(II)LLoopSignals$Order;" } : Jvm.MethodName)) ∈ lw_all := lw_g (lw_at lw_m11 69 rfl) rfl
theorem q2618 : (Jvm.Cond.code ({ cls := "LoopSignals$ScriptReader", name := "sets", desc := "(II)LLoopSignals$Order;" } : Jvm.MethodName) prog_13_method_8_code (3 : Nat) (Option.some (Jvm.ClassFile.FieldType.object "LoopSignals$Order"))) ∈ lw_all := lw_g (lw_at lw_m11 70 rfl) rfl
theorem q2619 : (Jvm.Cond.static ({ cls := "LoopSignals$ScriptReader", name := "lambda$sets$2", desc := "(IILLoopSignals$Junction;)I" } : Jvm.MethodName)) ∈ lw_all := lw_g (lw_at lw_m11 71 rfl) rfl
theorem q2620 : (Jvm.Cond.code ({ cls := "LoopSignals$ScriptReader", name := "lambda$sets$2", desc := "(IILLoopSignals$Junction;)I" } : Jvm.MethodName) prog_13_method_16_code (3 : Nat) (Option.some Jvm.ClassFile.FieldType.int)) ∈ lw_all := lw_g (lw_at lw_m11 72 rfl) rfl
theorem q2621 : (Jvm.Cond.methodLink "LoopSignals$ScriptReader" (173 : Nat) ({ cls := "LoopSignals$Junction", name := "sets", desc := "(II)I" } : Jvm.MethodName)) ∈ lw_all := lw_g (lw_at lw_m11 73 rfl) rfl
theorem q2625 : (Jvm.Cond.methodLink "LoopSignals$ScriptReader" (114 : Nat) ({ cls := "LoopSignals$ScriptReader", name := "phases", desc := "(IZ)LLoopSignals$Order;" } : Jvm.MethodName)) ∈ lw_all := lw_g (lw_at lw_m11 77 rfl) rfl
theorem q2626 : (Jvm.Cond.privateMethod ({ cls := "LoopSignals$ScriptReader", name := "phases", desc := "(IZ)LLoopSignals$Order;" } : Jvm.MethodName)) ∈ lw_tbl := lw_at lw_m11 78 rfl
theorem q2627 : (Jvm.Cond.instanceMethod ({ cls := "LoopSignals$ScriptReader", name := "phases", desc := "(IZ)LLoopSignals$Order;" } : Jvm.MethodName)) ∈ lw_all := lw_g (lw_at lw_m11 79 rfl) rfl
theorem q2628 : (Jvm.Cond.code ({ cls := "LoopSignals$ScriptReader", name := "phases", desc := "(IZ)LLoopSignals$Order;" } : Jvm.MethodName) prog_13_method_9_code (4 : Nat) (Option.some (Jvm.ClassFile.FieldType.object "LoopSignals$Order"))) ∈ lw_all := lw_g (lw_at lw_m11 80 rfl) rfl
theorem q2629 : (Jvm.Cond.static ({ cls := "LoopSignals$ScriptReader", name := "lambda$phases$3", desc := "(IZILLoopSignals$Junction;)I" } : Jvm.MethodName)) ∈ lw_all := lw_g (lw_at lw_m11 81 rfl) rfl
theorem q2630 : (Jvm.Cond.code ({ cls := "LoopSignals$ScriptReader", name := "lambda$phases$3", desc := "(IZILLoopSignals$Junction;)I" } : Jvm.MethodName) prog_13_method_15_code (4 : Nat) (Option.some Jvm.ClassFile.FieldType.int)) ∈ lw_all := lw_g (lw_at lw_m11 82 rfl) rfl
theorem q2631 : (Jvm.Cond.methodLink "LoopSignals$ScriptReader" (170 : Nat) ({ cls := "LoopSignals$Junction", name := "phases", desc := "(IZI)I" } : Jvm.MethodName)) ∈ lw_all := lw_g (lw_at lw_m11 83 rfl) rfl
theorem q2635 : (Jvm.Cond.methodLink "LoopSignals$ScriptReader" (118 : Nat) ({ cls := "LoopSignals$ScriptReader", name := "name", desc := "()Ljava/lang/String;" } : Jvm.MethodName)) ∈ lw_all := lw_g (lw_at lw_m11 87 rfl) rfl
theorem q2636 : (Jvm.Cond.sameMethod "LoopSignals$ScriptReader" "LoopSignals$Reader" "name" "()Ljava/lang/String;") ∈ lw_all := lw_g (lw_at lw_m11 88 rfl) rfl
theorem q2637 : (Jvm.Cond.selects "LoopSignals$ScriptReader" ({ cls := "LoopSignals$ScriptReader", name := "name", desc := "()Ljava/lang/String;" } : Jvm.MethodName) ({ cls := "LoopSignals$Reader", name := "name", desc := "()Ljava/lang/String;" } : Jvm.MethodName)) ∈ lw_all := lw_g (lw_at lw_m11 89 rfl) rfl
theorem q2638 : (Jvm.Cond.methodLink "LoopSignals$ScriptReader" (121 : Nat) ({ cls := "LoopSignals$ScriptReader", name := "comes", desc := "(Ljava/lang/String;)LLoopSignals$Order;" } : Jvm.MethodName)) ∈ lw_all := lw_g (lw_at lw_m11 90 rfl) rfl
theorem q2639 : (Jvm.Cond.privateMethod ({ cls := "LoopSignals$ScriptReader", name := "comes", desc := "(Ljava/lang/String;)LLoopSignals$Order;" } : Jvm.MethodName)) ∈ lw_tbl := lw_at lw_m11 91 rfl
theorem q2640 : (Jvm.Cond.instanceMethod ({ cls := "LoopSignals$ScriptReader", name := "comes", desc := "(Ljava/lang/String;)LLoopSignals$Order;" } : Jvm.MethodName)) ∈ lw_all := lw_g (lw_at lw_m11 92 rfl) rfl
theorem q2641 : (Jvm.Cond.code ({ cls := "LoopSignals$ScriptReader", name := "comes", desc := "(Ljava/lang/String;)LLoopSignals$Order;" } : Jvm.MethodName) prog_13_method_10_code (3 : Nat) (Option.some (Jvm.ClassFile.FieldType.object "LoopSignals$Order"))) ∈ lw_all := lw_g (lw_at lw_m11 93 rfl) rfl
theorem q2642 : (Jvm.Cond.static ({ cls := "LoopSignals$ScriptReader", name := "lambda$comes$4", desc := "(Ljava/lang/String;ILLoopSignals$Junction;)I" } : Jvm.MethodName)) ∈ lw_all := lw_g (lw_at lw_m11 94 rfl) rfl
theorem q2643 : (Jvm.Cond.code ({ cls := "LoopSignals$ScriptReader", name := "lambda$comes$4", desc := "(Ljava/lang/String;ILLoopSignals$Junction;)I" } : Jvm.MethodName) prog_13_method_14_code (3 : Nat) (Option.some Jvm.ClassFile.FieldType.int)) ∈ lw_all := lw_g (lw_at lw_m11 95 rfl) rfl
theorem q2644 : (Jvm.Cond.methodLink "LoopSignals$ScriptReader" (154 : Nat) ({ cls := "LoopSignals$Junction", name := "named", desc := "(Ljava/lang/String;)I" } : Jvm.MethodName)) ∈ lw_all := lw_g (lw_at lw_m11 96 rfl) rfl
theorem q2645 : (Jvm.Cond.methodLink "LoopSignals$ScriptReader" (163 : Nat) ({ cls := "LoopSignals$Junction", name := "comes", desc := "(II)I" } : Jvm.MethodName)) ∈ lw_all := lw_g (lw_at lw_m11 97 rfl) rfl
theorem q2653 : (Jvm.Cond.methodLink "LoopSignals$ScriptReader" (125 : Nat) ({ cls := "LoopSignals$ScriptReader", name := "breaks", desc := "(Ljava/lang/String;Z)LLoopSignals$Order;" } : Jvm.MethodName)) ∈ lw_all := lw_g (lw_at lw_m11 105 rfl) rfl
theorem q2654 : (Jvm.Cond.privateMethod ({ cls := "LoopSignals$ScriptReader", name := "breaks", desc := "(Ljava/lang/String;Z)LLoopSignals$Order;" } : Jvm.MethodName)) ∈ lw_tbl := lw_at lw_m11 106 rfl
theorem q2655 : (Jvm.Cond.instanceMethod ({ cls := "LoopSignals$ScriptReader", name := "breaks", desc := "(Ljava/lang/String;Z)LLoopSignals$Order;" } : Jvm.MethodName)) ∈ lw_all := lw_g (lw_at lw_m11 107 rfl) rfl
theorem q2656 : (Jvm.Cond.code ({ cls := "LoopSignals$ScriptReader", name := "breaks", desc := "(Ljava/lang/String;Z)LLoopSignals$Order;" } : Jvm.MethodName) prog_13_method_11_code (3 : Nat) (Option.some (Jvm.ClassFile.FieldType.object "LoopSignals$Order"))) ∈ lw_all := lw_g (lw_at lw_m11 108 rfl) rfl
theorem q2657 : (Jvm.Cond.static ({ cls := "LoopSignals$ScriptReader", name := "lambda$breaks$5", desc := "(Ljava/lang/String;ZLLoopSignals$Junction;)I" } : Jvm.MethodName)) ∈ lw_all := lw_g (lw_at lw_m11 109 rfl) rfl
theorem q2658 : (Jvm.Cond.code ({ cls := "LoopSignals$ScriptReader", name := "lambda$breaks$5", desc := "(Ljava/lang/String;ZLLoopSignals$Junction;)I" } : Jvm.MethodName) prog_13_method_13_code (3 : Nat) (Option.some Jvm.ClassFile.FieldType.int)) ∈ lw_all := lw_g (lw_at lw_m11 110 rfl) rfl
theorem q2659 : (Jvm.Cond.methodLink "LoopSignals$ScriptReader" (160 : Nat) ({ cls := "LoopSignals$Junction", name := "breaks", desc := "(IZ)I" } : Jvm.MethodName)) ∈ lw_all := lw_g (lw_at lw_m11 111 rfl) rfl
theorem q2666 : (Jvm.Cond.interfaceEntry "LoopSignals$ScriptReader" (43 : Nat)) ∈ lw_tbl := lw_at lw_m11 118 rfl
theorem q2667 : (Jvm.Cond.methodLink "LoopSignals$ScriptReader" (43 : Nat) ({ cls := "java/util/List", name := "add", desc := "(Ljava/lang/Object;)Z" } : Jvm.MethodName)) ∈ lw_all := lw_g (lw_at lw_m11 119 rfl) rfl
theorem q4065 : (Jvm.Cond.selects "LoopSignals$ScriptReader" ({ cls := "LoopSignals$Reader", name := "must", desc := "(ZI)V" } : Jvm.MethodName) ({ cls := "LoopSignals$Reader", name := "must", desc := "(ZI)V" } : Jvm.MethodName)) ∈ lw_all := lw_g (lw_at lw_m17 77 rfl) rfl
theorem q4069 : (Jvm.Cond.selects "LoopSignals$ScriptReader" ({ cls := "LoopSignals$Reader", name := "here", desc := "()Ljava/lang/String;" } : Jvm.MethodName) ({ cls := "LoopSignals$Reader", name := "here", desc := "()Ljava/lang/String;" } : Jvm.MethodName)) ∈ lw_all := lw_g (lw_at lw_m17 81 rfl) rfl
theorem q4114 : (Jvm.Cond.castable "LoopSignals$ScriptReader" "java/lang/Object") ∈ lw_tbl := lw_at lw_m17 126 rfl
theorem in_X12 : ∀ w ∈ wsX120, w ∈ lw_all := lw_in wsX120 [2390, 2391, 2392, 2393, 2394, 2395, 2396, 2384, 2386, 2388] (by decide +kernel) (by decide +kernel)

/-! LoopSignals$Order -/
set_option maxRecDepth 100000
def RX13 : String := "LoopSignals$Order"
abbrev cX13_init : ByteArray := prog_9_method_1_code
def yX13_init : MethodName := ⟨RX13, "<init>", "()V"⟩
theorem dX13_init_0 : decode cX13_init 0 = .ok (.aload_n 0, 1) := by decide +kernel
theorem dX13_init_1 : decode cX13_init 1 = .ok (.invokespecial 1, 3) := by decide +kernel
theorem dX13_init_4 : decode cX13_init 4 = .ok (.return_, 1) := by decide +kernel
theorem q202 : (Jvm.Cond.initialized "LoopSignals$Order") ∈ lw_all := lw_g (lw_at lw_m1 54 rfl) rfl
theorem q2412 : (Jvm.Cond.instanceMethod ({ cls := "LoopSignals$Order", name := "<init>", desc := "()V" } : Jvm.MethodName)) ∈ lw_all := lw_g (lw_at lw_m10 104 rfl) rfl
theorem q2413 : (Jvm.Cond.code ({ cls := "LoopSignals$Order", name := "<init>", desc := "()V" } : Jvm.MethodName) prog_9_method_1_code (1 : Nat) (Option.none : Option Jvm.ClassFile.FieldType)) ∈ lw_all := lw_g (lw_at lw_m10 105 rfl) rfl
theorem q2414 : (Jvm.Cond.methodLink "LoopSignals$Order" (1 : Nat) ({ cls := "java/lang/Object", name := "<init>", desc := "()V" } : Jvm.MethodName)) ∈ lw_all := lw_g (lw_at lw_m10 106 rfl) rfl
theorem q2929 : (Jvm.Cond.declares ({ cls := "LoopSignals$Order", name := "goes", desc := "()Z" } : Jvm.MethodName)) ∈ lw_tbl := lw_at lw_m12 141 rfl
theorem q2930 : (Jvm.Cond.sameMethod "LoopSignals$Order" "LoopSignals$Order" "goes" "()Z") ∈ lw_all := lw_g (lw_at lw_m12 142 rfl) rfl

/-! LoopSignals$Script -/
set_option maxRecDepth 100000
def RX14 : String := "LoopSignals$Script"
def TX14 : u_T := fun k => match k with
  | 0 => ("LoopSignals$Script", "orders", "Ljava/util/List;", true)
  | _ => ("LoopSignals$Script", "times", "I", true)
def tyX14 : Nat → FieldType := fun k => match k with
  | 0 => .object "java/util/List"
  | _ => .int
abbrev wsX140 : List Cond := u_ws RX14 TX14 2
theorem nmX14 : ∀ a, a < 2 → ∀ b, b < 2 → a ≠ b → (TX14 a).2.1 ≠ (TX14 b).2.1 := by decide +kernel
theorem tyX14_ok : ∀ k, k < 2 → parseFieldDescriptor (TX14 k).2.2.1 = some (tyX14 k) := by decide +kernel
abbrev cX14_init : ByteArray := prog_12_method_1_code
def yX14_init : MethodName := ⟨RX14, "<init>", "(I)V"⟩
def dkwX14_init_0 : List UInt8 := [42, 183, 0, 1, 42, 187, 0, 7, 89, 183, 0, 9, 181, 0, 10, 42, 27, 181, 0, 16, 177]
abbrev dktX14_init_0 : List UInt8 := dkwX14_init_0 ++ []
theorem dksX14_init_0 : cX14_init.data.toList.drop 0 = dktX14_init_0 := by decide +kernel
theorem dX14_init_0 : decode cX14_init 0 = .ok (.aload_n 0, 1) := dk_42 (dk_at dksX14_init_0 0 rfl rfl)
theorem dX14_init_1 : decode cX14_init 1 = .ok (.invokespecial 1, 3) := dk_183 0 1 (dk_at dksX14_init_0 1 rfl rfl)
theorem dX14_init_4 : decode cX14_init 4 = .ok (.aload_n 0, 1) := dk_42 (dk_at dksX14_init_0 4 rfl rfl)
theorem dX14_init_5 : decode cX14_init 5 = .ok (.new 7, 3) := dk_187 0 7 (dk_at dksX14_init_0 5 rfl rfl)
theorem dX14_init_8 : decode cX14_init 8 = .ok (.dup, 1) := dk_89 (dk_at dksX14_init_0 8 rfl rfl)
theorem dX14_init_9 : decode cX14_init 9 = .ok (.invokespecial 9, 3) := dk_183 0 9 (dk_at dksX14_init_0 9 rfl rfl)
theorem dX14_init_12 : decode cX14_init 12 = .ok (.putfield 10, 3) := dk_181 0 10 (dk_at dksX14_init_0 12 rfl rfl)
theorem dX14_init_15 : decode cX14_init 15 = .ok (.aload_n 0, 1) := dk_42 (dk_at dksX14_init_0 15 rfl rfl)
theorem dX14_init_16 : decode cX14_init 16 = .ok (.iload_n 1, 1) := dk_27 (dk_at dksX14_init_0 16 rfl rfl)
theorem dX14_init_17 : decode cX14_init 17 = .ok (.putfield 16, 3) := dk_181 0 16 (dk_at dksX14_init_0 17 rfl rfl)
theorem dX14_init_20 : decode cX14_init 20 = .ok (.return_, 1) := dk_177 (dk_at dksX14_init_0 20 rfl rfl)
abbrev cX14_goes : ByteArray := prog_12_method_2_code
def yX14_goes : MethodName := ⟨RX14, "goes", "()Z"⟩
def dkwX14_goes_2 : List UInt8 := [154, 0, 5, 3, 172, 132, 3, 1, 167, 255, 227, 132, 2, 1, 167, 255, 207, 4, 172]
abbrev dktX14_goes_2 : List UInt8 := dkwX14_goes_2 ++ []
def dkwX14_goes_1 : List UInt8 := [3, 62, 29, 27, 162, 0, 30, 42, 180, 0, 10, 29, 185, 0, 26, 2, 0, 192, 0, 2, 182, 0, 30]
abbrev dktX14_goes_1 : List UInt8 := dkwX14_goes_1 ++ dktX14_goes_2
def dkwX14_goes_0 : List UInt8 := [42, 180, 0, 10, 185, 0, 20, 1, 0, 60, 3, 61, 28, 42, 180, 0, 16, 162, 0, 47, 27, 158, 0, 43]
abbrev dktX14_goes_0 : List UInt8 := dkwX14_goes_0 ++ dktX14_goes_1
theorem dksX14_goes_0 : cX14_goes.data.toList.drop 0 = dktX14_goes_0 := by decide +kernel
theorem dksX14_goes_1 : cX14_goes.data.toList.drop 24 = dktX14_goes_1 := dk_seg dksX14_goes_0 24 rfl rfl
theorem dksX14_goes_2 : cX14_goes.data.toList.drop 47 = dktX14_goes_2 := dk_seg dksX14_goes_1 23 rfl rfl
theorem dX14_goes_0 : decode cX14_goes 0 = .ok (.aload_n 0, 1) := dk_42 (dk_at dksX14_goes_0 0 rfl rfl)
theorem dX14_goes_1 : decode cX14_goes 1 = .ok (.getfield 10, 3) := dk_180 0 10 (dk_at dksX14_goes_0 1 rfl rfl)
theorem dX14_goes_4 : decode cX14_goes 4 = .ok (.invokeinterface 20 1, 5) := by decide +kernel
theorem dX14_goes_9 : decode cX14_goes 9 = .ok (.istore_n 1, 1) := dk_60 (dk_at dksX14_goes_0 9 rfl rfl)
theorem dX14_goes_10 : decode cX14_goes 10 = .ok (.iconst 0, 1) := dk_3 (dk_at dksX14_goes_0 10 rfl rfl)
theorem dX14_goes_11 : decode cX14_goes 11 = .ok (.istore_n 2, 1) := dk_61 (dk_at dksX14_goes_0 11 rfl rfl)
theorem dX14_goes_12 : decode cX14_goes 12 = .ok (.iload_n 2, 1) := dk_28 (dk_at dksX14_goes_0 12 rfl rfl)
theorem dX14_goes_13 : decode cX14_goes 13 = .ok (.aload_n 0, 1) := dk_42 (dk_at dksX14_goes_0 13 rfl rfl)
theorem dX14_goes_14 : decode cX14_goes 14 = .ok (.getfield 16, 3) := dk_180 0 16 (dk_at dksX14_goes_0 14 rfl rfl)
theorem dX14_goes_17 : decode cX14_goes 17 = .ok (.if_icmp .ge 47, 3) := dk_162 0 47 (dk_at dksX14_goes_0 17 rfl rfl)
theorem dX14_goes_20 : decode cX14_goes 20 = .ok (.iload_n 1, 1) := dk_27 (dk_at dksX14_goes_0 20 rfl rfl)
theorem dX14_goes_21 : decode cX14_goes 21 = .ok (.ifCond .le 43, 3) := dk_158 0 43 (dk_at dksX14_goes_0 21 rfl rfl)
theorem dX14_goes_24 : decode cX14_goes 24 = .ok (.iconst 0, 1) := dk_3 (dk_at dksX14_goes_1 0 rfl rfl)
theorem dX14_goes_25 : decode cX14_goes 25 = .ok (.istore_n 3, 1) := dk_62 (dk_at dksX14_goes_1 1 rfl rfl)
theorem dX14_goes_26 : decode cX14_goes 26 = .ok (.iload_n 3, 1) := dk_29 (dk_at dksX14_goes_1 2 rfl rfl)
theorem dX14_goes_27 : decode cX14_goes 27 = .ok (.iload_n 1, 1) := dk_27 (dk_at dksX14_goes_1 3 rfl rfl)
theorem dX14_goes_28 : decode cX14_goes 28 = .ok (.if_icmp .ge 30, 3) := dk_162 0 30 (dk_at dksX14_goes_1 4 rfl rfl)
theorem dX14_goes_31 : decode cX14_goes 31 = .ok (.aload_n 0, 1) := dk_42 (dk_at dksX14_goes_1 7 rfl rfl)
theorem dX14_goes_32 : decode cX14_goes 32 = .ok (.getfield 10, 3) := dk_180 0 10 (dk_at dksX14_goes_1 8 rfl rfl)
theorem dX14_goes_35 : decode cX14_goes 35 = .ok (.iload_n 3, 1) := dk_29 (dk_at dksX14_goes_1 11 rfl rfl)
theorem dX14_goes_36 : decode cX14_goes 36 = .ok (.invokeinterface 26 2, 5) := by decide +kernel
theorem dX14_goes_41 : decode cX14_goes 41 = .ok (.checkcast 2, 3) := dk_192 0 2 (dk_at dksX14_goes_1 17 rfl rfl)
theorem dX14_goes_44 : decode cX14_goes 44 = .ok (.invokevirtual 30, 3) := dk_182 0 30 (dk_at dksX14_goes_1 20 rfl rfl)
theorem dX14_goes_47 : decode cX14_goes 47 = .ok (.ifCond .ne 5, 3) := dk_154 0 5 (dk_at dksX14_goes_2 0 rfl rfl)
theorem dX14_goes_50 : decode cX14_goes 50 = .ok (.iconst 0, 1) := dk_3 (dk_at dksX14_goes_2 3 rfl rfl)
theorem dX14_goes_51 : decode cX14_goes 51 = .ok (.ireturn, 1) := dk_172 (dk_at dksX14_goes_2 4 rfl rfl)
theorem dX14_goes_52 : decode cX14_goes 52 = .ok (.iinc 3 1, 3) := dk_132 3 1 (dk_at dksX14_goes_2 5 rfl rfl)
theorem dX14_goes_55 : decode cX14_goes 55 = .ok (.goto (-29), 3) := dk_167 255 227 (dk_at dksX14_goes_2 8 rfl rfl)
theorem dX14_goes_58 : decode cX14_goes 58 = .ok (.iinc 2 1, 3) := dk_132 2 1 (dk_at dksX14_goes_2 11 rfl rfl)
theorem dX14_goes_61 : decode cX14_goes 61 = .ok (.goto (-49), 3) := dk_167 255 207 (dk_at dksX14_goes_2 14 rfl rfl)
theorem dX14_goes_64 : decode cX14_goes 64 = .ok (.iconst 1, 1) := dk_4 (dk_at dksX14_goes_2 17 rfl rfl)
theorem dX14_goes_65 : decode cX14_goes 65 = .ok (.ireturn, 1) := dk_172 (dk_at dksX14_goes_2 18 rfl rfl)
theorem q203 : (Jvm.Cond.initialized "LoopSignals$Script") ∈ lw_all := lw_g (lw_at lw_m1 55 rfl) rfl
theorem q1015 : (Jvm.Cond.selects "LoopSignals$Script" ({ cls := "java/lang/Object", name := "toString", desc := "()Ljava/lang/String;" } : Jvm.MethodName) ({ cls := "java/lang/Object", name := "toString", desc := "()Ljava/lang/String;" } : Jvm.MethodName)) ∈ lw_all := lw_g (lw_at lw_m4 147 rfl) rfl
theorem q1034 : (Jvm.Cond.selects "LoopSignals$Script" ({ cls := "java/lang/Object", name := "getClass", desc := "()Ljava/lang/Class;" } : Jvm.MethodName) ({ cls := "java/lang/Object", name := "getClass", desc := "()Ljava/lang/Class;" } : Jvm.MethodName)) ∈ lw_all := lw_g (lw_at lw_m4 166 rfl) rfl
theorem q1314 : (Jvm.Cond.selects "LoopSignals$Script" ({ cls := "java/lang/Object", name := "hashCode", desc := "()I" } : Jvm.MethodName) ({ cls := "java/lang/Object", name := "hashCode", desc := "()I" } : Jvm.MethodName)) ∈ lw_all := lw_g (lw_at lw_m5 206 rfl) rfl
theorem q1743 : (Jvm.Cond.selects "LoopSignals$Script" ({ cls := "java/lang/Object", name := "equals", desc := "(Ljava/lang/Object;)Z" } : Jvm.MethodName) ({ cls := "java/lang/Object", name := "equals", desc := "(Ljava/lang/Object;)Z" } : Jvm.MethodName)) ∈ lw_all := lw_g (lw_at lw_m7 155 rfl) rfl
theorem q2407 : (Jvm.Cond.instantiable "LoopSignals$Script" (2 : Nat)) ∈ lw_all := lw_g (lw_at lw_m10 99 rfl) rfl
theorem q2409 : (Jvm.Cond.instanceMethod ({ cls := "LoopSignals$Script", name := "<init>", desc := "(I)V" } : Jvm.MethodName)) ∈ lw_all := lw_g (lw_at lw_m10 101 rfl) rfl
theorem q2410 : (Jvm.Cond.code ({ cls := "LoopSignals$Script", name := "<init>", desc := "(I)V" } : Jvm.MethodName) prog_12_method_1_code (2 : Nat) (Option.none : Option Jvm.ClassFile.FieldType)) ∈ lw_all := lw_g (lw_at lw_m10 102 rfl) rfl
theorem q2411 : (Jvm.Cond.methodLinkNest "LoopSignals$Script" (1 : Nat) ({ cls := "LoopSignals$Order", name := "<init>", desc := "()V" } : Jvm.MethodName) "LoopSignals") ∈ lw_tbl := lw_at lw_m10 103 rfl
theorem q2415 : (Jvm.Cond.classLink "LoopSignals$Script" (7 : Nat) "java/util/ArrayList") ∈ lw_all := lw_g (lw_at lw_m10 107 rfl) rfl
theorem q2416 : (Jvm.Cond.methodLink "LoopSignals$Script" (9 : Nat) ({ cls := "java/util/ArrayList", name := "<init>", desc := "()V" } : Jvm.MethodName)) ∈ lw_all := lw_g (lw_at lw_m10 108 rfl) rfl
theorem q2419 : (Jvm.Cond.fieldLink "LoopSignals$Script" (10 : Nat) "LoopSignals$Script" "orders" "Ljava/util/List;") ∈ lw_all := lw_g (lw_at lw_m10 111 rfl) rfl
theorem q2421 : (Jvm.Cond.fieldLink "LoopSignals$Script" (16 : Nat) "LoopSignals$Script" "times" "I") ∈ lw_all := lw_g (lw_at lw_m10 113 rfl) rfl
theorem q2422 : (Jvm.Cond.laysFinal "LoopSignals$Script" "LoopSignals$Script" "orders" "Ljava/util/List;") ∈ lw_all := lw_g (lw_at lw_m10 114 rfl) rfl
theorem q2423 : (Jvm.Cond.soleField "LoopSignals$Script" "orders") ∈ lw_all := lw_g (lw_at lw_m10 115 rfl) rfl
theorem q2424 : (Jvm.Cond.laysFinal "LoopSignals$Script" "LoopSignals$Script" "times" "I") ∈ lw_all := lw_g (lw_at lw_m10 116 rfl) rfl
theorem q2425 : (Jvm.Cond.soleField "LoopSignals$Script" "times") ∈ lw_all := lw_g (lw_at lw_m10 117 rfl) rfl
theorem q2426 : (Jvm.Cond.superclass "LoopSignals$Script" "LoopSignals$Order") ∈ lw_all := lw_g (lw_at lw_m10 118 rfl) rfl
theorem q2920 : (Jvm.Cond.instanceMethod ({ cls := "LoopSignals$Script", name := "goes", desc := "()Z" } : Jvm.MethodName)) ∈ lw_all := lw_g (lw_at lw_m12 132 rfl) rfl
theorem q2921 : (Jvm.Cond.selects "LoopSignals$Script" ({ cls := "LoopSignals$Script", name := "goes", desc := "()Z" } : Jvm.MethodName) ({ cls := "LoopSignals$Script", name := "goes", desc := "()Z" } : Jvm.MethodName)) ∈ lw_all := lw_g (lw_at lw_m12 133 rfl) rfl
theorem q2922 : (Jvm.Cond.code ({ cls := "LoopSignals$Script", name := "goes", desc := "()Z" } : Jvm.MethodName) prog_12_method_2_code (4 : Nat) (Option.some Jvm.ClassFile.FieldType.boolean)) ∈ lw_all := lw_g (lw_at lw_m12 134 rfl) rfl
theorem q2923 : (Jvm.Cond.interfaceEntry "LoopSignals$Script" (20 : Nat)) ∈ lw_tbl := lw_at lw_m12 135 rfl
theorem q2924 : (Jvm.Cond.methodLink "LoopSignals$Script" (20 : Nat) ({ cls := "java/util/List", name := "size", desc := "()I" } : Jvm.MethodName)) ∈ lw_all := lw_g (lw_at lw_m12 136 rfl) rfl
theorem q2925 : (Jvm.Cond.interfaceEntry "LoopSignals$Script" (26 : Nat)) ∈ lw_tbl := lw_at lw_m12 137 rfl
theorem q2926 : (Jvm.Cond.methodLink "LoopSignals$Script" (26 : Nat) ({ cls := "java/util/List", name := "get", desc := "(I)Ljava/lang/Object;" } : Jvm.MethodName)) ∈ lw_all := lw_g (lw_at lw_m12 138 rfl) rfl
theorem q2927 : (Jvm.Cond.classLink "LoopSignals$Script" (2 : Nat) "LoopSignals$Order") ∈ lw_all := lw_g (lw_at lw_m12 139 rfl) rfl
theorem q2928 : (Jvm.Cond.methodLink "LoopSignals$Script" (30 : Nat) ({ cls := "LoopSignals$Order", name := "goes", desc := "()Z" } : Jvm.MethodName)) ∈ lw_all := lw_g (lw_at lw_m12 140 rfl) rfl
theorem q2942 : (Jvm.Cond.selects "LoopSignals$Script" ({ cls := "LoopSignals$Order", name := "goes", desc := "()Z" } : Jvm.MethodName) ({ cls := "LoopSignals$Script", name := "goes", desc := "()Z" } : Jvm.MethodName)) ∈ lw_all := lw_g (lw_at lw_m12 154 rfl) rfl
theorem q4085 : (Jvm.Cond.castable "LoopSignals$Script" "LoopSignals$Order") ∈ lw_tbl := lw_at lw_m17 97 rfl
theorem q4115 : (Jvm.Cond.castable "LoopSignals$Script" "java/lang/Object") ∈ lw_tbl := lw_at lw_m17 127 rfl
theorem in_X14 : ∀ w ∈ wsX140, w ∈ lw_all := lw_in wsX140 [2422, 2424] (by decide +kernel) (by decide +kernel)

/-! LoopSignals$One -/
set_option maxRecDepth 100000
def RX15 : String := "LoopSignals$One"
def TX15 : u_T := fun k => match k with
  | 0 => ("LoopSignals$One", "act", "LLoopSignals$Act;", true)
  | _ => ("LoopSignals$One", "this$0", "LLoopSignals;", true)
def tyX15 : Nat → FieldType := fun k => match k with
  | 0 => .object "LoopSignals$Act"
  | _ => .object "LoopSignals"
abbrev wsX150 : List Cond := u_ws RX15 TX15 2
theorem nmX15 : ∀ a, a < 2 → ∀ b, b < 2 → a ≠ b → (TX15 a).2.1 ≠ (TX15 b).2.1 := by decide +kernel
theorem tyX15_ok : ∀ k, k < 2 → parseFieldDescriptor (TX15 k).2.2.1 = some (tyX15 k) := by decide +kernel
abbrev cX15_init : ByteArray := prog_8_method_1_code
def yX15_init : MethodName := ⟨RX15, "<init>", "(LLoopSignals;LLoopSignals$Act;)V"⟩
def dkwX15_init_0 : List UInt8 := [42, 43, 181, 0, 3, 42, 183, 0, 9, 42, 44, 181, 0, 15, 177]
abbrev dktX15_init_0 : List UInt8 := dkwX15_init_0 ++ []
theorem dksX15_init_0 : cX15_init.data.toList.drop 0 = dktX15_init_0 := by decide +kernel
theorem dX15_init_0 : decode cX15_init 0 = .ok (.aload_n 0, 1) := dk_42 (dk_at dksX15_init_0 0 rfl rfl)
theorem dX15_init_1 : decode cX15_init 1 = .ok (.aload_n 1, 1) := dk_43 (dk_at dksX15_init_0 1 rfl rfl)
theorem dX15_init_2 : decode cX15_init 2 = .ok (.putfield 3, 3) := dk_181 0 3 (dk_at dksX15_init_0 2 rfl rfl)
theorem dX15_init_5 : decode cX15_init 5 = .ok (.aload_n 0, 1) := dk_42 (dk_at dksX15_init_0 5 rfl rfl)
theorem dX15_init_6 : decode cX15_init 6 = .ok (.invokespecial 9, 3) := dk_183 0 9 (dk_at dksX15_init_0 6 rfl rfl)
theorem dX15_init_9 : decode cX15_init 9 = .ok (.aload_n 0, 1) := dk_42 (dk_at dksX15_init_0 9 rfl rfl)
theorem dX15_init_10 : decode cX15_init 10 = .ok (.aload_n 2, 1) := dk_44 (dk_at dksX15_init_0 10 rfl rfl)
theorem dX15_init_11 : decode cX15_init 11 = .ok (.putfield 15, 3) := dk_181 0 15 (dk_at dksX15_init_0 11 rfl rfl)
theorem dX15_init_14 : decode cX15_init 14 = .ok (.return_, 1) := dk_177 (dk_at dksX15_init_0 14 rfl rfl)
abbrev cX15_goes : ByteArray := prog_8_method_2_code
def yX15_goes : MethodName := ⟨RX15, "goes", "()Z"⟩
def dkwX15_goes_2 : List UInt8 := [181, 0, 33, 42, 180, 0, 3, 180, 0, 33, 16, 40, 162, 0, 7, 4, 167, 0, 4, 3, 172]
abbrev dktX15_goes_2 : List UInt8 := dkwX15_goes_2 ++ []
def dkwX15_goes_1 : List UInt8 := [180, 0, 3, 27, 182, 0, 29, 156, 0, 5, 3, 172, 42, 180, 0, 3, 89, 180, 0, 33, 4, 96]
abbrev dktX15_goes_1 : List UInt8 := dkwX15_goes_1 ++ dktX15_goes_2
def dkwX15_goes_0 : List UInt8 := [42, 180, 0, 15, 42, 180, 0, 3, 180, 0, 19, 185, 0, 23, 2, 0, 60, 27, 16, 237, 159, 0, 14, 42]
abbrev dktX15_goes_0 : List UInt8 := dkwX15_goes_0 ++ dktX15_goes_1
theorem dksX15_goes_0 : cX15_goes.data.toList.drop 0 = dktX15_goes_0 := by decide +kernel
theorem dksX15_goes_1 : cX15_goes.data.toList.drop 24 = dktX15_goes_1 := dk_seg dksX15_goes_0 24 rfl rfl
theorem dksX15_goes_2 : cX15_goes.data.toList.drop 46 = dktX15_goes_2 := dk_seg dksX15_goes_1 22 rfl rfl
theorem dX15_goes_0 : decode cX15_goes 0 = .ok (.aload_n 0, 1) := dk_42 (dk_at dksX15_goes_0 0 rfl rfl)
theorem dX15_goes_1 : decode cX15_goes 1 = .ok (.getfield 15, 3) := dk_180 0 15 (dk_at dksX15_goes_0 1 rfl rfl)
theorem dX15_goes_4 : decode cX15_goes 4 = .ok (.aload_n 0, 1) := dk_42 (dk_at dksX15_goes_0 4 rfl rfl)
theorem dX15_goes_5 : decode cX15_goes 5 = .ok (.getfield 3, 3) := dk_180 0 3 (dk_at dksX15_goes_0 5 rfl rfl)
theorem dX15_goes_8 : decode cX15_goes 8 = .ok (.getfield 19, 3) := dk_180 0 19 (dk_at dksX15_goes_0 8 rfl rfl)
theorem dX15_goes_11 : decode cX15_goes 11 = .ok (.invokeinterface 23 2, 5) := by decide +kernel
theorem dX15_goes_16 : decode cX15_goes 16 = .ok (.istore_n 1, 1) := dk_60 (dk_at dksX15_goes_0 16 rfl rfl)
theorem dX15_goes_17 : decode cX15_goes 17 = .ok (.iload_n 1, 1) := dk_27 (dk_at dksX15_goes_0 17 rfl rfl)
theorem dX15_goes_18 : decode cX15_goes 18 = .ok (.bipush (-19), 2) := dk_16 237 (dk_at dksX15_goes_0 18 rfl rfl)
theorem dX15_goes_20 : decode cX15_goes 20 = .ok (.if_icmp .eq 14, 3) := dk_159 0 14 (dk_at dksX15_goes_0 20 rfl rfl)
theorem dX15_goes_23 : decode cX15_goes 23 = .ok (.aload_n 0, 1) := dk_42 (dk_at dksX15_goes_0 23 rfl rfl)
theorem dX15_goes_24 : decode cX15_goes 24 = .ok (.getfield 3, 3) := dk_180 0 3 (dk_at dksX15_goes_1 0 rfl rfl)
theorem dX15_goes_27 : decode cX15_goes 27 = .ok (.iload_n 1, 1) := dk_27 (dk_at dksX15_goes_1 3 rfl rfl)
theorem dX15_goes_28 : decode cX15_goes 28 = .ok (.invokevirtual 29, 3) := dk_182 0 29 (dk_at dksX15_goes_1 4 rfl rfl)
theorem dX15_goes_31 : decode cX15_goes 31 = .ok (.ifCond .ge 5, 3) := dk_156 0 5 (dk_at dksX15_goes_1 7 rfl rfl)
theorem dX15_goes_34 : decode cX15_goes 34 = .ok (.iconst 0, 1) := dk_3 (dk_at dksX15_goes_1 10 rfl rfl)
theorem dX15_goes_35 : decode cX15_goes 35 = .ok (.ireturn, 1) := dk_172 (dk_at dksX15_goes_1 11 rfl rfl)
theorem dX15_goes_36 : decode cX15_goes 36 = .ok (.aload_n 0, 1) := dk_42 (dk_at dksX15_goes_1 12 rfl rfl)
theorem dX15_goes_37 : decode cX15_goes 37 = .ok (.getfield 3, 3) := dk_180 0 3 (dk_at dksX15_goes_1 13 rfl rfl)
theorem dX15_goes_40 : decode cX15_goes 40 = .ok (.dup, 1) := dk_89 (dk_at dksX15_goes_1 16 rfl rfl)
theorem dX15_goes_41 : decode cX15_goes 41 = .ok (.getfield 33, 3) := dk_180 0 33 (dk_at dksX15_goes_1 17 rfl rfl)
theorem dX15_goes_44 : decode cX15_goes 44 = .ok (.iconst 1, 1) := dk_4 (dk_at dksX15_goes_1 20 rfl rfl)
theorem dX15_goes_45 : decode cX15_goes 45 = .ok (.iadd, 1) := dk_96 (dk_at dksX15_goes_1 21 rfl rfl)
theorem dX15_goes_46 : decode cX15_goes 46 = .ok (.putfield 33, 3) := dk_181 0 33 (dk_at dksX15_goes_2 0 rfl rfl)
theorem dX15_goes_49 : decode cX15_goes 49 = .ok (.aload_n 0, 1) := dk_42 (dk_at dksX15_goes_2 3 rfl rfl)
theorem dX15_goes_50 : decode cX15_goes 50 = .ok (.getfield 3, 3) := dk_180 0 3 (dk_at dksX15_goes_2 4 rfl rfl)
theorem dX15_goes_53 : decode cX15_goes 53 = .ok (.getfield 33, 3) := dk_180 0 33 (dk_at dksX15_goes_2 7 rfl rfl)
theorem dX15_goes_56 : decode cX15_goes 56 = .ok (.bipush 40, 2) := dk_16 40 (dk_at dksX15_goes_2 10 rfl rfl)
theorem dX15_goes_58 : decode cX15_goes 58 = .ok (.if_icmp .ge 7, 3) := dk_162 0 7 (dk_at dksX15_goes_2 12 rfl rfl)
theorem dX15_goes_61 : decode cX15_goes 61 = .ok (.iconst 1, 1) := dk_4 (dk_at dksX15_goes_2 15 rfl rfl)
theorem dX15_goes_62 : decode cX15_goes 62 = .ok (.goto 4, 3) := dk_167 0 4 (dk_at dksX15_goes_2 16 rfl rfl)
theorem dX15_goes_65 : decode cX15_goes 65 = .ok (.iconst 0, 1) := dk_3 (dk_at dksX15_goes_2 19 rfl rfl)
theorem dX15_goes_66 : decode cX15_goes 66 = .ok (.ireturn, 1) := dk_172 (dk_at dksX15_goes_2 20 rfl rfl)
theorem q204 : (Jvm.Cond.initialized "LoopSignals$One") ∈ lw_all := lw_g (lw_at lw_m1 56 rfl) rfl
theorem q1013 : (Jvm.Cond.selects "LoopSignals$One" ({ cls := "java/lang/Object", name := "toString", desc := "()Ljava/lang/String;" } : Jvm.MethodName) ({ cls := "java/lang/Object", name := "toString", desc := "()Ljava/lang/String;" } : Jvm.MethodName)) ∈ lw_all := lw_g (lw_at lw_m4 145 rfl) rfl
theorem q1032 : (Jvm.Cond.selects "LoopSignals$One" ({ cls := "java/lang/Object", name := "getClass", desc := "()Ljava/lang/Class;" } : Jvm.MethodName) ({ cls := "java/lang/Object", name := "getClass", desc := "()Ljava/lang/Class;" } : Jvm.MethodName)) ∈ lw_all := lw_g (lw_at lw_m4 164 rfl) rfl
theorem q1312 : (Jvm.Cond.selects "LoopSignals$One" ({ cls := "java/lang/Object", name := "hashCode", desc := "()I" } : Jvm.MethodName) ({ cls := "java/lang/Object", name := "hashCode", desc := "()I" } : Jvm.MethodName)) ∈ lw_all := lw_g (lw_at lw_m5 204 rfl) rfl
theorem q1741 : (Jvm.Cond.selects "LoopSignals$One" ({ cls := "java/lang/Object", name := "equals", desc := "(Ljava/lang/Object;)Z" } : Jvm.MethodName) ({ cls := "java/lang/Object", name := "equals", desc := "(Ljava/lang/Object;)Z" } : Jvm.MethodName)) ∈ lw_all := lw_g (lw_at lw_m7 153 rfl) rfl
theorem q2013 : (Jvm.Cond.fieldLinkNest "LoopSignals$One" (19 : Nat) "LoopSignals" "now" "LLoopSignals$Junction;" "LoopSignals") ∈ lw_tbl := lw_at lw_m8 185 rfl
theorem q2023 : (Jvm.Cond.fieldLinkNest "LoopSignals$One" (33 : Nat) "LoopSignals" "done" "I" "LoopSignals") ∈ lw_tbl := lw_at lw_m8 195 rfl
theorem q2477 : (Jvm.Cond.instantiable "LoopSignals$One" (2 : Nat)) ∈ lw_all := lw_g (lw_at lw_m10 169 rfl) rfl
theorem q2589 : (Jvm.Cond.instanceMethod ({ cls := "LoopSignals$One", name := "<init>", desc := "(LLoopSignals;LLoopSignals$Act;)V" } : Jvm.MethodName)) ∈ lw_all := lw_g (lw_at lw_m11 41 rfl) rfl
theorem q2590 : (Jvm.Cond.code ({ cls := "LoopSignals$One", name := "<init>", desc := "(LLoopSignals;LLoopSignals$Act;)V" } : Jvm.MethodName) prog_8_method_1_code (3 : Nat) (Option.none : Option Jvm.ClassFile.FieldType)) ∈ lw_all := lw_g (lw_at lw_m11 42 rfl) rfl
theorem q2591 : (Jvm.Cond.methodLinkNest "LoopSignals$One" (9 : Nat) ({ cls := "LoopSignals$Order", name := "<init>", desc := "()V" } : Jvm.MethodName) "LoopSignals") ∈ lw_tbl := lw_at lw_m11 43 rfl
theorem q2592 : (Jvm.Cond.fieldLink "LoopSignals$One" (15 : Nat) "LoopSignals$One" "act" "LLoopSignals$Act;") ∈ lw_all := lw_g (lw_at lw_m11 44 rfl) rfl
theorem q2593 : (Jvm.Cond.fieldLink "LoopSignals$One" (3 : Nat) "LoopSignals$One" "this$0" "LLoopSignals;") ∈ lw_all := lw_g (lw_at lw_m11 45 rfl) rfl
theorem q2594 : (Jvm.Cond.laysFinal "LoopSignals$One" "LoopSignals$One" "act" "LLoopSignals$Act;") ∈ lw_all := lw_g (lw_at lw_m11 46 rfl) rfl
theorem q2595 : (Jvm.Cond.soleField "LoopSignals$One" "act") ∈ lw_all := lw_g (lw_at lw_m11 47 rfl) rfl
theorem q2596 : (Jvm.Cond.laysFinal "LoopSignals$One" "LoopSignals$One" "this$0" "LLoopSignals;") ∈ lw_all := lw_g (lw_at lw_m11 48 rfl) rfl
theorem q2597 : (Jvm.Cond.soleField "LoopSignals$One" "this$0") ∈ lw_all := lw_g (lw_at lw_m11 49 rfl) rfl
theorem q2598 : (Jvm.Cond.superclass "LoopSignals$One" "LoopSignals$Order") ∈ lw_all := lw_g (lw_at lw_m11 50 rfl) rfl
theorem q2931 : (Jvm.Cond.selects "LoopSignals$One" ({ cls := "LoopSignals$Order", name := "goes", desc := "()Z" } : Jvm.MethodName) ({ cls := "LoopSignals$One", name := "goes", desc := "()Z" } : Jvm.MethodName)) ∈ lw_all := lw_g (lw_at lw_m12 143 rfl) rfl
theorem q2932 : (Jvm.Cond.instanceMethod ({ cls := "LoopSignals$One", name := "goes", desc := "()Z" } : Jvm.MethodName)) ∈ lw_all := lw_g (lw_at lw_m12 144 rfl) rfl
theorem q2933 : (Jvm.Cond.code ({ cls := "LoopSignals$One", name := "goes", desc := "()Z" } : Jvm.MethodName) prog_8_method_2_code (2 : Nat) (Option.some Jvm.ClassFile.FieldType.boolean)) ∈ lw_all := lw_g (lw_at lw_m12 145 rfl) rfl
theorem q2934 : (Jvm.Cond.interfaceEntry "LoopSignals$One" (23 : Nat)) ∈ lw_tbl := lw_at lw_m12 146 rfl
theorem q2935 : (Jvm.Cond.methodLink "LoopSignals$One" (23 : Nat) ({ cls := "LoopSignals$Act", name := "on", desc := "(LLoopSignals$Junction;)I" } : Jvm.MethodName)) ∈ lw_all := lw_g (lw_at lw_m12 147 rfl) rfl
theorem q2938 : (Jvm.Cond.methodLinkNest "LoopSignals$One" (29 : Nat) ({ cls := "LoopSignals", name := "refuses", desc := "(I)I" } : Jvm.MethodName) "LoopSignals") ∈ lw_tbl := lw_at lw_m12 150 rfl
theorem q4084 : (Jvm.Cond.castable "LoopSignals$One" "LoopSignals$Order") ∈ lw_tbl := lw_at lw_m17 96 rfl
theorem q4116 : (Jvm.Cond.castable "LoopSignals$One" "java/lang/Object") ∈ lw_tbl := lw_at lw_m17 128 rfl
theorem in_X15 : ∀ w ∈ wsX150, w ∈ lw_all := lw_in wsX150 [2594, 2596] (by decide +kernel) (by decide +kernel)

