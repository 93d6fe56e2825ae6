/-! the component: throws and catches -/
theorem kd_X1_argument : kCd (Cond.code yX1_argument cX1_argument 1 (Option.none : Option Jvm.ClassFile.FieldType)) yX1_argument cX1_argument 1 (Option.none : Option Jvm.ClassFile.FieldType) [] := kCd_code (by decide +kernel)
theorem kd_X1_element : kCd (Cond.code yX1_element cX1_element 1 (Option.none : Option Jvm.ClassFile.FieldType)) yX1_element cX1_element 1 (Option.none : Option Jvm.ClassFile.FieldType) [] := kCd_code (by decide +kernel)
theorem kd_X8_must : kCd (Cond.code yX8_must cX8_must 3 (Option.none : Option Jvm.ClassFile.FieldType)) yX8_must cX8_must 3 (Option.none : Option Jvm.ClassFile.FieldType) [] := kCd_code (by decide +kernel)
theorem kd_X10_init : kCd (Cond.code yX10_init cX10_init 3 (Option.none : Option Jvm.ClassFile.FieldType)) yX10_init cX10_init 3 (Option.none : Option Jvm.ClassFile.FieldType) [] := kCd_code (by decide +kernel)
theorem kd_J5_init_3 : kCd (Cond.code yJ5_init_3 cJ5_init_3 5 (Option.none : Option Jvm.ClassFile.FieldType)) yJ5_init_3 cJ5_init_3 5 (Option.none : Option Jvm.ClassFile.FieldType) [] := kCd_code (by decide +kernel)
theorem kd_J4_init_4 : kCd (Cond.code yJ4_init_4 cJ4_init_4 5 (Option.none : Option Jvm.ClassFile.FieldType)) yJ4_init_4 cJ4_init_4 5 (Option.none : Option Jvm.ClassFile.FieldType) [] := kCd_code (by decide +kernel)
theorem kd_X1_failed : kCd (Cond.code yX1_failed cX1_failed 2 (Option.some Jvm.ClassFile.FieldType.int)) yX1_failed cX1_failed 2 (Option.some Jvm.ClassFile.FieldType.int) [] := kCd_code (by decide +kernel)
set_option maxHeartbeats 4000000 in
set_option maxRecDepth 100000 in
theorem zX1_argument {l : Launch} {g : kG} (S : kStart l g) {h : kH} (b : Bool) : kMet l g yX1_argument (Cond.code yX1_argument cX1_argument 1 (Option.none : Option Jvm.ClassFile.FieldType)) 8 1 6 [.int (kB b)] h (kNT (fun h' => b = true ∧ h' = h) (fun _ E h' => b = false ∧ E = "java/lang/IllegalArgumentException" ∧ h' = h)) := by
  refine kEnter S kd_X1_argument (Nat.le_of_ble_eq_true rfl) (fun x F hxl hxg => ?_)
  subst hxl; subst hxg
  have hlv : lv_args 0 [.int (kB b)] = [(0, .int (kB b))] := rfl
  rw [hlv]
  refine k_iload_n F dX1_argument_0 1 rfl rfl rfl ?_
  refine k_ifne F dX1_argument_1 4 12 rfl (by decide) (fun c_a => ?_) (fun c_a => ?_)
  · rw [kB_0, Bool.not_eq_false] at c_a
    exact k_vret F dX1_argument_12 (by first | exact Nat.le_of_ble_eq_true rfl | omega) (by first | exact Nat.le_of_ble_eq_true rfl | omega) ⟨c_a, rfl⟩
  · rw [kB_0] at c_a
    exact k_throw0 F (cls := "java/lang/IllegalArgumentException") (names := ["java/lang/RuntimeException", "java/lang/Exception"]) (by decide) (by decide +kernel) dX1_argument_4 dX1_argument_7 dX1_argument_8 dX1_argument_11 (fun z hz => by cases hz) (by decide) (by decide) (by decide) (by omega) (by omega) (fun q => ⟨c_a, rfl, rfl⟩)
set_option maxHeartbeats 4000000 in
set_option maxRecDepth 100000 in
theorem zX1_element {l : Launch} {g : kG} (S : kStart l g) {h : kH} (b : Bool) : kMet l g yX1_element (Cond.code yX1_element cX1_element 1 (Option.none : Option Jvm.ClassFile.FieldType)) 8 1 6 [.int (kB b)] h (kNT (fun h' => b = true ∧ h' = h) (fun _ E h' => b = false ∧ E = "java/util/NoSuchElementException" ∧ h' = h)) := by
  refine kEnter S kd_X1_element (Nat.le_of_ble_eq_true rfl) (fun x F hxl hxg => ?_)
  subst hxl; subst hxg
  have hlv : lv_args 0 [.int (kB b)] = [(0, .int (kB b))] := rfl
  rw [hlv]
  refine k_iload_n F dX1_element_0 1 rfl rfl rfl ?_
  refine k_ifne F dX1_element_1 4 12 rfl (by decide) (fun c_a => ?_) (fun c_a => ?_)
  · rw [kB_0, Bool.not_eq_false] at c_a
    exact k_vret F dX1_element_12 (by first | exact Nat.le_of_ble_eq_true rfl | omega) (by first | exact Nat.le_of_ble_eq_true rfl | omega) ⟨c_a, rfl⟩
  · rw [kB_0] at c_a
    exact k_throw0 F (cls := "java/util/NoSuchElementException") (names := ["java/lang/RuntimeException", "java/lang/Exception"]) (by decide) (by decide +kernel) dX1_element_4 dX1_element_7 dX1_element_8 dX1_element_11 (fun z hz => by cases hz) (by decide) (by decide) (by decide) (by omega) (by omega) (fun q => ⟨c_a, rfl, rfl⟩)
set_option maxHeartbeats 4000000 in
set_option maxRecDepth 100000 in
theorem zJ4_init_4 {l : Launch} {g : kG} (S : kStart l g) {h : kH} {a : Nat} {t : kT} (ht : t.1 ≠ 0) (ha : h a = some (t, eO 23 [.null, .null, .null, .null, .null, .int 0, .int 0, .int 0])) : kMet l g yJ4_init_4 (Cond.code yJ4_init_4 cJ4_init_4 5 (Option.none : Option Jvm.ClassFile.FieldType)) 2 0 0 [.ref a, .null, .null, .int 0, .int 0] h (kN (fun h' => h' a = some (t, eO 23 [.null, .null, .null, .null, .null, .int 0, .int 0, .int 0]) ∧ ∀ b, b ≠ a → h' b = h b)) := by
  refine kEnter S kd_J4_init_4 (Nat.le_of_ble_eq_true rfl) (fun x F hxl hxg => ?_)
  subst hxl; subst hxg
  have hlv : lv_args 0 [.ref a, .null, .null, .int 0, .int 0] = [(0, .ref a), (1, .null), (2, .null), (3, .int 0), (4, .int 0)] := rfl
  rw [hlv]
  have hx : ∀ b, b ≠ a → h b = h b := fun _ _ => rfl
  refine k_aload_n F dJ4_init_4_0 1 rfl rfl rfl ?_
  refine k_objInit F q287 q219 q220 dJ4_init_4_1 4 rfl (by omega) (Nat.le_of_ble_eq_true rfl) ?_
  refine k_aload_n F dJ4_init_4_4 5 rfl rfl rfl ?_
  refine k_aload_n F dJ4_init_4_5 6 rfl rfl rfl ?_
  refine k_put (fs' := [_, _, _, _, _, _, _, _]) F kcX10 0 (by decide) (knX10 0) q540 (fun _ e => e) rfl dJ4_init_4_6 9 rfl ha ht rfl rfl (by simp) rfl ?_
  refine kW.gen (fun h' => h' a = some (t, eO 23 [.ref a, .null, .null, .null, .null, .int 0, .int 0, .int 0]) ∧ ∀ b, b ≠ a → h' b = h b) ⟨kUp_self, fun b hb => (kUp_ne hb).trans (hx b hb)⟩ (fun h9 H9 => ?_)
  obtain ⟨ha, hx⟩ := H9
  obtain ⟨o1, ho1⟩ := sr_J4_UNASSIGNED_STACK F.st
  obtain ⟨o2, ho2⟩ := sr_J4_SUPPRESSED_SENTINEL F.st
  refine k_aload_n F dJ4_init_4_9 10 rfl rfl rfl ?_
  refine k_gets F q289 q155 ho1 q288 (fun _ e => e) dJ4_init_4_10 13 rfl ?_
  refine k_put (fs' := [_, _, _, _, _, _, _, _]) F kcX10 1 (by decide) (knX10 1) q541 (fun _ e => e) rfl dJ4_init_4_13 16 rfl ha ht (by cases o1 <;> rfl) (by cases o1 <;> rfl) (by simp) rfl ?_
  refine kW.gen (fun h' => h' a = some (t, eO 23 [.ref a, va_rf o1, .null, .null, .null, .int 0, .int 0, .int 0]) ∧ ∀ b, b ≠ a → h' b = h b) ⟨kUp_self, fun b hb => (kUp_ne hb).trans (hx b hb)⟩ (fun h9 H9 => ?_)
  obtain ⟨ha, hx⟩ := H9
  refine k_aload_n F dJ4_init_4_16 17 rfl rfl rfl ?_
  refine k_gets F q291 q155 ho2 q290 (fun _ e => e) dJ4_init_4_17 20 rfl ?_
  refine k_put (fs' := [_, _, _, _, _, _, _, _]) F kcX10 2 (by decide) (knX10 2) q542 (fun _ e => e) rfl dJ4_init_4_20 23 rfl ha ht (by cases o2 <;> rfl) (by cases o2 <;> rfl) (by simp) rfl ?_
  refine kW.gen (fun h' => h' a = some (t, eO 23 [.ref a, va_rf o1, va_rf o2, .null, .null, .int 0, .int 0, .int 0]) ∧ ∀ b, b ≠ a → h' b = h b) ⟨kUp_self, fun b hb => (kUp_ne hb).trans (hx b hb)⟩ (fun h9 H9 => ?_)
  obtain ⟨ha, hx⟩ := H9
  refine k_iload F dJ4_init_4_23 25 rfl rfl ?_
  refine k_ifeq F dJ4_init_4_25 28 36 rfl (by decide) (fun _ => ?_) (fun c_ => (by first | exact absurd rfl c_ | exact absurd c_ (by decide) | exact absurd (by assumption) c_ | exact absurd c_ (by assumption)))
  refine k_aload_n F dJ4_init_4_36 37 rfl rfl rfl ?_
  refine k_null F dJ4_init_4_37 38 rfl ?_
  refine k_put (fs' := [_, _, _, _, _, _, _, _]) F kcX10 1 (by decide) (knX10 1) q541 (fun _ e => e) rfl dJ4_init_4_38 41 rfl ha ht rfl rfl (by simp) rfl ?_
  refine kW.gen (fun h' => h' a = some (t, eO 23 [.ref a, .null, va_rf o2, .null, .null, .int 0, .int 0, .int 0]) ∧ ∀ b, b ≠ a → h' b = h b) ⟨kUp_self, fun b hb => (kUp_ne hb).trans (hx b hb)⟩ (fun h9 H9 => ?_)
  obtain ⟨ha, hx⟩ := H9
  refine k_aload_n F dJ4_init_4_41 42 rfl rfl rfl ?_
  refine k_aload_nN F dJ4_init_4_42 43 rfl rfl rfl ?_
  refine k_put (fs' := [_, _, _, _, _, _, _, _]) F kcX10 3 (by decide) (knX10 3) q539 (fun _ e => e) rfl dJ4_init_4_43 46 rfl ha ht rfl rfl (by simp) rfl ?_
  refine kW.gen (fun h' => h' a = some (t, eO 23 [.ref a, .null, va_rf o2, .null, .null, .int 0, .int 0, .int 0]) ∧ ∀ b, b ≠ a → h' b = h b) ⟨kUp_self, fun b hb => (kUp_ne hb).trans (hx b hb)⟩ (fun h9 H9 => ?_)
  obtain ⟨ha, hx⟩ := H9
  refine k_aload_n F dJ4_init_4_46 47 rfl rfl rfl ?_
  refine k_aload_nN F dJ4_init_4_47 48 rfl rfl rfl ?_
  refine k_put (fs' := [_, _, _, _, _, _, _, _]) F kcX10 0 (by decide) (knX10 0) q540 (fun _ e => e) rfl dJ4_init_4_48 51 rfl ha ht rfl rfl (by simp) rfl ?_
  refine kW.gen (fun h' => h' a = some (t, eO 23 [.null, .null, va_rf o2, .null, .null, .int 0, .int 0, .int 0]) ∧ ∀ b, b ≠ a → h' b = h b) ⟨kUp_self, fun b hb => (kUp_ne hb).trans (hx b hb)⟩ (fun h9 H9 => ?_)
  obtain ⟨ha, hx⟩ := H9
  refine k_iload_n F dJ4_init_4_51 52 rfl rfl rfl ?_
  refine k_ifne F dJ4_init_4_52 55 60 rfl (by decide) (fun c_ => (by first | exact absurd rfl c_ | exact absurd c_ (by decide) | exact absurd (by assumption) c_ | exact absurd c_ (by assumption))) (fun _ => ?_)
  refine k_aload_n F dJ4_init_4_55 56 rfl rfl rfl ?_
  refine k_null F dJ4_init_4_56 57 rfl ?_
  refine k_put (fs' := [_, _, _, _, _, _, _, _]) F kcX10 2 (by decide) (knX10 2) q542 (fun _ e => e) rfl dJ4_init_4_57 60 rfl ha ht rfl rfl (by simp) rfl ?_
  refine kW.gen (fun h' => h' a = some (t, eO 23 [.null, .null, .null, .null, .null, .int 0, .int 0, .int 0]) ∧ ∀ b, b ≠ a → h' b = h b) ⟨kUp_self, fun b hb => (kUp_ne hb).trans (hx b hb)⟩ (fun h9 H9 => ?_)
  obtain ⟨ha, hx⟩ := H9
  exact k_vret F dJ4_init_4_60 (by first | exact Nat.le_of_ble_eq_true rfl | omega) (by first | exact Nat.le_of_ble_eq_true rfl | omega) ⟨ha, hx⟩
set_option maxHeartbeats 4000000 in
set_option maxRecDepth 100000 in
theorem zJ5_init_3 {l : Launch} {g : kG} (S : kStart l g) {h : kH} {a : Nat} {t : kT} (ht : t.1 ≠ 0) (ha : h a = some (t, eO 23 [.null, .null, .null, .null, .null, .int 0, .int 0, .int 0])) : kMet l g yJ5_init_3 (Cond.code yJ5_init_3 cJ5_init_3 5 (Option.none : Option Jvm.ClassFile.FieldType)) 3 0 0 [.ref a, .null, .null, .int 0, .int 0] h (kN (fun h' => h' a = some (t, eO 23 [.null, .null, .null, .null, .null, .int 0, .int 0, .int 0]) ∧ ∀ b, b ≠ a → h' b = h b)) := by
  refine kEnter S kd_J5_init_3 (Nat.le_of_ble_eq_true rfl) (fun x F hxl hxg => ?_)
  subst hxl; subst hxg
  have hlv : lv_args 0 [.ref a, .null, .null, .int 0, .int 0] = [(0, .ref a), (1, .null), (2, .null), (3, .int 0), (4, .int 0)] := rfl
  rw [hlv]
  refine k_aload_n F dJ5_init_3_0 1 rfl rfl rfl ?_
  refine k_aload_nN F dJ5_init_3_1 2 rfl rfl rfl ?_
  refine k_aload_nN F dJ5_init_3_2 3 rfl rfl rfl ?_
  refine k_iload_n F dJ5_init_3_3 4 rfl rfl rfl ?_
  refine k_iload F dJ5_init_3_4 6 rfl rfl ?_
  refine k_callN F kd_J4_init_4 q2173 q155 (kInvI (Bs := [_, _, _, _]) F q2171 q2172 q2173 rfl dJ5_init_3_6 rfl (by decide)) (zJ4_init_4 F.st ht ha) 9 rfl (Nat.le_of_ble_eq_true rfl) (by first | exact Nat.le_of_ble_eq_true rfl | omega) (by first | exact Nat.le_of_ble_eq_true rfl | omega) (by first | exact Nat.le_of_ble_eq_true rfl | omega) (by first | exact Nat.le_of_ble_eq_true rfl | omega) (fun h1 hr1 => ?_)
  obtain ⟨ha, hx⟩ := hr1
  exact k_vret F dJ5_init_3_9 (by first | exact Nat.le_of_ble_eq_true rfl | omega) (by first | exact Nat.le_of_ble_eq_true rfl | omega) ⟨ha, hx⟩
set_option maxHeartbeats 4000000 in
set_option maxRecDepth 100000 in
theorem zX10_init {l : Launch} {g : kG} (S : kStart l g) {h : kH} {a : Nat} {t : kT} (ht : t.1 ≠ 0) (ha : h a = some (t, eO 23 [.null, .null, .null, .null, .null, .int 0, .int 0, .int 0])) (c p : Int32) : kMet l g yX10_init (Cond.code yX10_init cX10_init 3 (Option.none : Option Jvm.ClassFile.FieldType)) 4 0 0 [.ref a, .int c, .int p] h (kN (fun h' => h' a = some (t, eO 23 [.null, .null, .null, .null, .null, .int 0, .int c, .int p]) ∧ ∀ b, b ≠ a → h' b = h b)) := by
  refine kEnter S kd_X10_init (Nat.le_of_ble_eq_true rfl) (fun x F hxl hxg => ?_)
  subst hxl; subst hxg
  have hlv : lv_args 0 [.ref a, .int c, .int p] = [(0, .ref a), (1, .int c), (2, .int p)] := rfl
  rw [hlv]
  refine k_aload_n F dX10_init_0 1 rfl rfl rfl ?_
  refine k_null F dX10_init_1 2 rfl ?_
  refine k_null F dX10_init_2 3 rfl ?_
  refine k_iconst (v := 0) F dX10_init_3 4 rfl (by decide) ?_
  refine k_iconst (v := 0) F dX10_init_4 5 rfl (by decide) ?_
  refine k_callN F kd_J5_init_3 q2170 q156 (kInvI (Bs := [_, _, _, _]) F q2168 q2169 q2170 rfl dX10_init_5 rfl (by decide)) (zJ5_init_3 F.st ht ha) 8 rfl (Nat.le_of_ble_eq_true rfl) (by first | exact Nat.le_of_ble_eq_true rfl | omega) (by first | exact Nat.le_of_ble_eq_true rfl | omega) (by first | exact Nat.le_of_ble_eq_true rfl | omega) (by first | exact Nat.le_of_ble_eq_true rfl | omega) (fun h1 hr1 => ?_)
  obtain ⟨ha, hx⟩ := hr1
  refine k_aload_n F dX10_init_8 9 rfl rfl rfl ?_
  refine k_iload_n F dX10_init_9 10 rfl rfl rfl ?_
  refine k_putF (fs' := [_, _, _, _, _, _, _, _]) F kcX10 6 (by decide) (knX10 6) q2174 (fun _ e => e) rfl rfl rfl dX10_init_10 13 rfl ha ht rfl rfl (by simp) rfl ?_
  refine kW.gen (fun h' => h' a = some (t, eO 23 [.null, .null, .null, .null, .null, .int 0, .int c, .int 0]) ∧ ∀ b, b ≠ a → h' b = h b) ⟨kUp_self, fun b hb => (kUp_ne hb).trans (hx b hb)⟩ (fun h9 H9 => ?_)
  obtain ⟨ha, hx⟩ := H9
  refine k_aload_n F dX10_init_13 14 rfl rfl rfl ?_
  refine k_iload_n F dX10_init_14 15 rfl rfl rfl ?_
  refine k_putF (fs' := [_, _, _, _, _, _, _, _]) F kcX10 7 (by decide) (knX10 7) q2176 (fun _ e => e) rfl rfl rfl dX10_init_15 18 rfl ha ht rfl rfl (by simp) rfl ?_
  exact k_vret F dX10_init_18 (by first | exact Nat.le_of_ble_eq_true rfl | omega) (by first | exact Nat.le_of_ble_eq_true rfl | omega) ⟨kUp_self, fun b hb => (kUp_ne hb).trans (hx b hb)⟩

