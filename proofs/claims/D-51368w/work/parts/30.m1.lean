/-! the reference: reading the row -/
theorem kd_X7_in : kCd (Cond.code yX7_in cX7_in 3 (Option.some Jvm.ClassFile.FieldType.boolean)) yX7_in cX7_in 3 (Option.some Jvm.ClassFile.FieldType.boolean) [] := kCd_code (by decide +kernel)
theorem kd_X7_right : kCd (Cond.code yX7_right cX7_right 2 (Option.some Jvm.ClassFile.FieldType.boolean)) yX7_right cX7_right 2 (Option.some Jvm.ClassFile.FieldType.boolean) [] := kCd_code (by decide +kernel)
theorem kd_X7_of : kCd (Cond.code yX7_of cX7_of 3 (Option.some Jvm.ClassFile.FieldType.int)) yX7_of cX7_of 3 (Option.some Jvm.ClassFile.FieldType.int) [] := kCd_code (by decide +kernel)
theorem kd_X7_puts : kCd (Cond.code yX7_puts cX7_puts 4 (Option.none : Option Jvm.ClassFile.FieldType)) yX7_puts cX7_puts 4 (Option.none : Option Jvm.ClassFile.FieldType) [] := kCd_code (by decide +kernel)
theorem kd_X7_ofPhase : kCd (Cond.code yX7_ofPhase cX7_ofPhase 3 (Option.some Jvm.ClassFile.FieldType.int)) yX7_ofPhase cX7_ofPhase 3 (Option.some Jvm.ClassFile.FieldType.int) [] := kCd_code (by decide +kernel)
theorem kd_X7_putPhase : kCd (Cond.code yX7_putPhase cX7_putPhase 4 (Option.none : Option Jvm.ClassFile.FieldType)) yX7_putPhase cX7_putPhase 4 (Option.none : Option Jvm.ClassFile.FieldType) [] := kCd_code (by decide +kernel)
theorem kd_X7_hasArm : kCd (Cond.code yX7_hasArm cX7_hasArm 3 (Option.some Jvm.ClassFile.FieldType.boolean)) yX7_hasArm cX7_hasArm 3 (Option.some Jvm.ClassFile.FieldType.boolean) [] := kCd_code (by decide +kernel)
theorem kd_X7_areClashing : kCd (Cond.code yX7_areClashing cX7_areClashing 3 (Option.some Jvm.ClassFile.FieldType.boolean)) yX7_areClashing cX7_areClashing 3 (Option.some Jvm.ClassFile.FieldType.boolean) [] := kCd_code (by decide +kernel)
theorem kd_X7_putsClash : kCd (Cond.code yX7_putsClash cX7_putsClash 4 (Option.none : Option Jvm.ClassFile.FieldType)) yX7_putsClash cX7_putsClash 4 (Option.none : Option Jvm.ClassFile.FieldType) [] := kCd_code (by decide +kernel)
theorem kd_X7_carAt : kCd (Cond.code yX7_carAt cX7_carAt 3 (Option.some Jvm.ClassFile.FieldType.int)) yX7_carAt cX7_carAt 3 (Option.some Jvm.ClassFile.FieldType.int) [] := kCd_code (by decide +kernel)
theorem kd_X7_counts : kCd (Cond.code yX7_counts cX7_counts 3 (Option.none : Option Jvm.ClassFile.FieldType)) yX7_counts cX7_counts 3 (Option.none : Option Jvm.ClassFile.FieldType) [] := kCd_code (by decide +kernel)
theorem kd_X7_isArm : kCd (Cond.code yX7_isArm cX7_isArm 2 (Option.some Jvm.ClassFile.FieldType.boolean)) yX7_isArm cX7_isArm 2 (Option.some Jvm.ClassFile.FieldType.boolean) [] := kCd_code (by decide +kernel)
theorem kd_X7_isPhase : kCd (Cond.code yX7_isPhase cX7_isPhase 2 (Option.some Jvm.ClassFile.FieldType.boolean)) yX7_isPhase cX7_isPhase 2 (Option.some Jvm.ClassFile.FieldType.boolean) [] := kCd_code (by decide +kernel)
theorem kd_X7_lightOf : kCd (Cond.code yX7_lightOf cX7_lightOf 3 (Option.some Jvm.ClassFile.FieldType.int)) yX7_lightOf cX7_lightOf 3 (Option.some Jvm.ClassFile.FieldType.int) [] := kCd_code (by decide +kernel)
theorem kd_X7_asks : kCd (Cond.code yX7_asks cX7_asks 2 (Option.some Jvm.ClassFile.FieldType.boolean)) yX7_asks cX7_asks 2 (Option.some Jvm.ClassFile.FieldType.boolean) [] := kCd_code (by decide +kernel)
theorem kd_X7_isWanted : kCd (Cond.code yX7_isWanted cX7_isWanted 3 (Option.some Jvm.ClassFile.FieldType.boolean)) yX7_isWanted cX7_isWanted 3 (Option.some Jvm.ClassFile.FieldType.boolean) [] := kCd_code (by decide +kernel)
theorem kd_X7_carsOf : kCd (Cond.code yX7_carsOf cX7_carsOf 4 (Option.some Jvm.ClassFile.FieldType.int)) yX7_carsOf cX7_carsOf 4 (Option.some Jvm.ClassFile.FieldType.int) [] := kCd_code (by decide +kernel)
theorem kd_X7_firstOf : kCd (Cond.code yX7_firstOf cX7_firstOf 4 (Option.some Jvm.ClassFile.FieldType.int)) yX7_firstOf cX7_firstOf 4 (Option.some Jvm.ClassFile.FieldType.int) [] := kCd_code (by decide +kernel)
theorem kd_X7_rankOf : kCd (Cond.code yX7_rankOf cX7_rankOf 2 (Option.some Jvm.ClassFile.FieldType.int)) yX7_rankOf cX7_rankOf 2 (Option.some Jvm.ClassFile.FieldType.int) [] := kCd_code (by decide +kernel)
theorem kd_X7_best : kCd (Cond.code yX7_best cX7_best 3 (Option.some Jvm.ClassFile.FieldType.int)) yX7_best cX7_best 3 (Option.some Jvm.ClassFile.FieldType.int) [] := kCd_code (by decide +kernel)
theorem kd_X7_keepsBusy : kCd (Cond.code yX7_keepsBusy cX7_keepsBusy 2 (Option.some Jvm.ClassFile.FieldType.boolean)) yX7_keepsBusy cX7_keepsBusy 2 (Option.some Jvm.ClassFile.FieldType.boolean) [] := kCd_code (by decide +kernel)
theorem kd_X7_busyArm : kCd (Cond.code yX7_busyArm cX7_busyArm 2 (Option.some Jvm.ClassFile.FieldType.int)) yX7_busyArm cX7_busyArm 2 (Option.some Jvm.ClassFile.FieldType.int) [] := kCd_code (by decide +kernel)
set_option maxHeartbeats 4000000 in
set_option maxRecDepth 100000 in
theorem zX7_of {l : Launch} {g : kG} (S : kStart l g) {h : kH} {m : Nat} {ad : Nat → Nat} {sc R : Nat → Int32} {ar : Nat → Nat → Int32} (hM : MW h m ad sc R ar) (a w : Nat) (ha : 17 + 6 * a + w < 993) : kMet l g yX7_of (Cond.code yX7_of cX7_of 3 (Option.some Jvm.ClassFile.FieldType.int)) 1 0 0 [.ref m, .int (nI a), .int (nI w)] h (mRd h (.int (mOf R a w))) := by
  refine kEnter S kd_X7_of (Nat.le_of_ble_eq_true rfl) (fun x F hxl hxg => ?_)
  subst hxl; subst hxg
  have hlv : lv_args 0 [.ref m, .int (nI a), .int (nI w)] = [(0, .ref m), (1, .int (nI a)), (2, .int (nI w))] := rfl
  rw [hlv]
  refine k_aload_n F dX7_of_0 1 rfl rfl rfl ?_
  refine m_get F 0 (by decide) q3592 rfl dX7_of_1 4 rfl hM rfl ?_
  refine k_bipush (v := 17) F dX7_of_4 6 rfl (by decide) ?_
  refine k_bipush (v := 6) F dX7_of_6 8 rfl (by decide) ?_
  refine k_iload_n F dX7_of_8 9 rfl rfl rfl ?_
  refine k_imul F dX7_of_9 10 rfl ?_
  refine k_iadd F dX7_of_10 11 rfl ?_
  refine k_iload_n F dX7_of_11 12 rfl rfl rfl ?_
  refine k_iadd F dX7_of_12 13 rfl ?_
  refine m_ld F dX7_of_13 14 rfl hM (17 + 6 * a + w) (by first | (with_reducible rfl) | (simp only [nI_lit, pk_mul, nI_add])) (by omega) ?_
  exact k_iret F dX7_of_14 (by first | exact Nat.le_of_ble_eq_true rfl | omega) (by first | exact Nat.le_of_ble_eq_true rfl | omega) ⟨rfl, rfl⟩
set_option maxHeartbeats 4000000 in
set_option maxRecDepth 100000 in
theorem zX7_ofPhase {l : Launch} {g : kG} (S : kStart l g) {h : kH} {m : Nat} {ad : Nat → Nat} {sc R : Nat → Int32} {ar : Nat → Nat → Int32} (hM : MW h m ad sc R ar) (a w : Nat) (ha : 129 + 12 * a + w < 993) : kMet l g yX7_ofPhase (Cond.code yX7_ofPhase cX7_ofPhase 3 (Option.some Jvm.ClassFile.FieldType.int)) 1 0 0 [.ref m, .int (nI a), .int (nI w)] h (mRd h (.int (mPh R a w))) := by
  refine kEnter S kd_X7_ofPhase (Nat.le_of_ble_eq_true rfl) (fun x F hxl hxg => ?_)
  subst hxl; subst hxg
  have hlv : lv_args 0 [.ref m, .int (nI a), .int (nI w)] = [(0, .ref m), (1, .int (nI a)), (2, .int (nI w))] := rfl
  rw [hlv]
  refine k_aload_n F dX7_ofPhase_0 1 rfl rfl rfl ?_
  refine m_get F 0 (by decide) q3592 rfl dX7_ofPhase_1 4 rfl hM rfl ?_
  refine k_sipush (v := 129) F dX7_ofPhase_4 7 rfl (by decide) ?_
  refine k_bipush (v := 12) F dX7_ofPhase_7 9 rfl (by decide) ?_
  refine k_iload_n F dX7_ofPhase_9 10 rfl rfl rfl ?_
  refine k_imul F dX7_ofPhase_10 11 rfl ?_
  refine k_iadd F dX7_ofPhase_11 12 rfl ?_
  refine k_iload_n F dX7_ofPhase_12 13 rfl rfl rfl ?_
  refine k_iadd F dX7_ofPhase_13 14 rfl ?_
  refine m_ld F dX7_ofPhase_14 15 rfl hM (129 + 12 * a + w) (by first | (with_reducible rfl) | (simp only [nI_lit, pk_mul, nI_add])) (by omega) ?_
  exact k_iret F dX7_ofPhase_15 (by first | exact Nat.le_of_ble_eq_true rfl | omega) (by first | exact Nat.le_of_ble_eq_true rfl | omega) ⟨rfl, rfl⟩
set_option maxHeartbeats 4000000 in
set_option maxRecDepth 100000 in
theorem zX7_carAt {l : Launch} {g : kG} (S : kStart l g) {h : kH} {m : Nat} {ad : Nat → Nat} {sc R : Nat → Int32} {ar : Nat → Nat → Int32} (hM : MW h m ad sc R ar) (a w : Nat) (ha : 201 + 99 * a + w < 993) : kMet l g yX7_carAt (Cond.code yX7_carAt cX7_carAt 3 (Option.some Jvm.ClassFile.FieldType.int)) 1 0 0 [.ref m, .int (nI a), .int (nI w)] h (mRd h (.int (mCar R a w))) := by
  refine kEnter S kd_X7_carAt (Nat.le_of_ble_eq_true rfl) (fun x F hxl hxg => ?_)
  subst hxl; subst hxg
  have hlv : lv_args 0 [.ref m, .int (nI a), .int (nI w)] = [(0, .ref m), (1, .int (nI a)), (2, .int (nI w))] := rfl
  rw [hlv]
  refine k_aload_n F dX7_carAt_0 1 rfl rfl rfl ?_
  refine m_get F 0 (by decide) q3592 rfl dX7_carAt_1 4 rfl hM rfl ?_
  refine k_sipush (v := 201) F dX7_carAt_4 7 rfl (by decide) ?_
  refine k_bipush (v := 99) F dX7_carAt_7 9 rfl (by decide) ?_
  refine k_iload_n F dX7_carAt_9 10 rfl rfl rfl ?_
  refine k_imul F dX7_carAt_10 11 rfl ?_
  refine k_iadd F dX7_carAt_11 12 rfl ?_
  refine k_iload_n F dX7_carAt_12 13 rfl rfl rfl ?_
  refine k_iadd F dX7_carAt_13 14 rfl ?_
  refine m_ld F dX7_carAt_14 15 rfl hM (201 + 99 * a + w) (by first | (with_reducible rfl) | (simp only [nI_lit, pk_mul, nI_add])) (by omega) ?_
  exact k_iret F dX7_carAt_15 (by first | exact Nat.le_of_ble_eq_true rfl | omega) (by first | exact Nat.le_of_ble_eq_true rfl | omega) ⟨rfl, rfl⟩
set_option maxHeartbeats 4000000 in
set_option maxRecDepth 100000 in
theorem zX7_puts {l : Launch} {g : kG} (S : kStart l g) {h : kH} {m : Nat} {ad : Nat → Nat} {sc R : Nat → Int32} {ar : Nat → Nat → Int32} (hM : MW h m ad sc R ar) (a w : Nat) (v : Int32) (ha : 17 + 6 * a + w < 993) : kMet l g yX7_puts (Cond.code yX7_puts cX7_puts 4 (Option.none : Option Jvm.ClassFile.FieldType)) 1 0 0 [.ref m, .int (nI a), .int (nI w), .int v] h (mDo h m ad sc (upd R (17 + 6 * a + w) v) ar) := by
  refine kEnter S kd_X7_puts (Nat.le_of_ble_eq_true rfl) (fun x F hxl hxg => ?_)
  subst hxl; subst hxg
  have hlv : lv_args 0 [.ref m, .int (nI a), .int (nI w), .int v] = [(0, .ref m), (1, .int (nI a)), (2, .int (nI w)), (3, .int v)] := rfl
  rw [hlv]
  have hK : kKp (mOwn m) h h := kKp.rf
  refine k_aload_n F dX7_puts_0 1 rfl rfl rfl ?_
  refine m_get F 0 (by decide) q3592 rfl dX7_puts_1 4 rfl hM rfl ?_
  refine k_bipush (v := 17) F dX7_puts_4 6 rfl (by decide) ?_
  refine k_bipush (v := 6) F dX7_puts_6 8 rfl (by decide) ?_
  refine k_iload_n F dX7_puts_8 9 rfl rfl rfl ?_
  refine k_imul F dX7_puts_9 10 rfl ?_
  refine k_iadd F dX7_puts_10 11 rfl ?_
  refine k_iload_n F dX7_puts_11 12 rfl rfl rfl ?_
  refine k_iadd F dX7_puts_12 13 rfl ?_
  refine k_iload_n F dX7_puts_13 14 rfl rfl rfl ?_
  refine m_st F dX7_puts_14 15 rfl hM hK (17 + 6 * a + w) (by first | (with_reducible rfl) | (simp only [nI_lit, pk_mul, nI_add])) (by omega) (fun h9 hM hK => ?_)
  exact k_vret F dX7_puts_15 (by first | exact Nat.le_of_ble_eq_true rfl | omega) (by first | exact Nat.le_of_ble_eq_true rfl | omega) ⟨hM, hK⟩
set_option maxHeartbeats 4000000 in
set_option maxRecDepth 100000 in
theorem zX7_putPhase {l : Launch} {g : kG} (S : kStart l g) {h : kH} {m : Nat} {ad : Nat → Nat} {sc R : Nat → Int32} {ar : Nat → Nat → Int32} (hM : MW h m ad sc R ar) (a w : Nat) (v : Int32) (ha : 129 + 12 * a + w < 993) : kMet l g yX7_putPhase (Cond.code yX7_putPhase cX7_putPhase 4 (Option.none : Option Jvm.ClassFile.FieldType)) 1 0 0 [.ref m, .int (nI a), .int (nI w), .int v] h (mDo h m ad sc (upd R (129 + 12 * a + w) v) ar) := by
  refine kEnter S kd_X7_putPhase (Nat.le_of_ble_eq_true rfl) (fun x F hxl hxg => ?_)
  subst hxl; subst hxg
  have hlv : lv_args 0 [.ref m, .int (nI a), .int (nI w), .int v] = [(0, .ref m), (1, .int (nI a)), (2, .int (nI w)), (3, .int v)] := rfl
  rw [hlv]
  have hK : kKp (mOwn m) h h := kKp.rf
  refine k_aload_n F dX7_putPhase_0 1 rfl rfl rfl ?_
  refine m_get F 0 (by decide) q3592 rfl dX7_putPhase_1 4 rfl hM rfl ?_
  refine k_sipush (v := 129) F dX7_putPhase_4 7 rfl (by decide) ?_
  refine k_bipush (v := 12) F dX7_putPhase_7 9 rfl (by decide) ?_
  refine k_iload_n F dX7_putPhase_9 10 rfl rfl rfl ?_
  refine k_imul F dX7_putPhase_10 11 rfl ?_
  refine k_iadd F dX7_putPhase_11 12 rfl ?_
  refine k_iload_n F dX7_putPhase_12 13 rfl rfl rfl ?_
  refine k_iadd F dX7_putPhase_13 14 rfl ?_
  refine k_iload_n F dX7_putPhase_14 15 rfl rfl rfl ?_
  refine m_st F dX7_putPhase_15 16 rfl hM hK (129 + 12 * a + w) (by first | (with_reducible rfl) | (simp only [nI_lit, pk_mul, nI_add])) (by omega) (fun h9 hM hK => ?_)
  exact k_vret F dX7_putPhase_16 (by first | exact Nat.le_of_ble_eq_true rfl | omega) (by first | exact Nat.le_of_ble_eq_true rfl | omega) ⟨hM, hK⟩
set_option maxHeartbeats 4000000 in
set_option maxRecDepth 100000 in
theorem zX7_hasArm {l : Launch} {g : kG} (S : kStart l g) {h : kH} {m : Nat} {ad : Nat → Nat} {sc R : Nat → Int32} {ar : Nat → Nat → Int32} (hM : MW h m ad sc R ar) (p a : Nat) (ha : 133 + 12 * p + a < 993) : kMet l g yX7_hasArm (Cond.code yX7_hasArm cX7_hasArm 3 (Option.some Jvm.ClassFile.FieldType.boolean)) 2 0 0 [.ref m, .int (nI p), .int (nI a)] h (mRd h (.int (kB (mHas R p a)))) := by
  refine kEnter S kd_X7_hasArm (Nat.le_of_ble_eq_true rfl) (fun x F hxl hxg => ?_)
  subst hxl; subst hxg
  have hlv : lv_args 0 [.ref m, .int (nI p), .int (nI a)] = [(0, .ref m), (1, .int (nI p)), (2, .int (nI a))] := rfl
  rw [hlv]
  refine k_aload_n F dX7_hasArm_0 1 rfl rfl rfl ?_
  refine k_iload_n F dX7_hasArm_1 2 rfl rfl rfl ?_
  refine k_iconst (v := 4) F dX7_hasArm_2 3 rfl (by decide) ?_
  refine k_iload_n F dX7_hasArm_3 4 rfl rfl rfl ?_
  refine k_iadd F dX7_hasArm_4 5 rfl ?_
  refine k_topi (b := nI (4 + a)) (by first | (with_reducible rfl) | (simp only [nI_lit, pk_mul, nI_add])) ?_
  refine k_callV F kd_X7_ofPhase q3587 q194 (kInvV (Bs := [_, _]) F kcX7 q3584 q3586 qs95 kd_X7_ofPhase q3587 dX7_hasArm_5 (kHs.of hM.1) rfl (by decide)) (zX7_ofPhase F.st hM p (4 + a) (by omega)) 8 rfl (Nat.le_of_ble_eq_true rfl) (by first | exact Nat.le_of_ble_eq_true rfl | omega) (by first | exact Nat.le_of_ble_eq_true rfl | omega) (by first | exact Nat.le_of_ble_eq_true rfl | omega) (by first | exact Nat.le_of_ble_eq_true rfl | omega) (fun r1 h1 hr1 => ?_)
  obtain ⟨rfl, rfl⟩ := hr1
  refine k_iconst (v := 1) F dX7_hasArm_8 9 rfl (by decide) ?_
  refine k_icmpne F dX7_hasArm_9 12 16 rfl (by decide) (fun c => ?_) (fun c => ?_)
  · refine k_iconst (v := 0) F dX7_hasArm_16 17 rfl (by decide) ?_
    exact k_zret F dX7_hasArm_17 (by first | rfl | exact kzb _ | exact pk_nc _ | decide) (by first | exact Nat.le_of_ble_eq_true rfl | omega) (by first | exact Nat.le_of_ble_eq_true rfl | omega) ⟨by simp [mHas, kB, c], rfl⟩
  · refine k_iconst (v := 1) F dX7_hasArm_12 13 rfl (by decide) ?_
    refine k_goto F dX7_hasArm_13 17 (by decide) ?_
    exact k_zret F dX7_hasArm_17 (by first | rfl | exact kzb _ | exact pk_nc _ | decide) (by first | exact Nat.le_of_ble_eq_true rfl | omega) (by first | exact Nat.le_of_ble_eq_true rfl | omega) ⟨by simp [mHas, kB, c], rfl⟩
set_option maxHeartbeats 4000000 in
set_option maxRecDepth 100000 in
theorem zX7_areClashing {l : Launch} {g : kG} (S : kStart l g) {h : kH} {m : Nat} {ad : Nat → Nat} {sc R : Nat → Int32} {ar : Nat → Nat → Int32} (hM : MW h m ad sc R ar) (p a : Nat) (ha : 65 + 8 * p + a < 993) : kMet l g yX7_areClashing (Cond.code yX7_areClashing cX7_areClashing 3 (Option.some Jvm.ClassFile.FieldType.boolean)) 1 0 0 [.ref m, .int (nI p), .int (nI a)] h (mRd h (.int (kB (mCl R p a)))) := by
  refine kEnter S kd_X7_areClashing (Nat.le_of_ble_eq_true rfl) (fun x F hxl hxg => ?_)
  subst hxl; subst hxg
  have hlv : lv_args 0 [.ref m, .int (nI p), .int (nI a)] = [(0, .ref m), (1, .int (nI p)), (2, .int (nI a))] := rfl
  rw [hlv]
  refine k_aload_n F dX7_areClashing_0 1 rfl rfl rfl ?_
  refine m_get F 0 (by decide) q3592 rfl dX7_areClashing_1 4 rfl hM rfl ?_
  refine k_bipush (v := 65) F dX7_areClashing_4 6 rfl (by decide) ?_
  refine k_bipush (v := 8) F dX7_areClashing_6 8 rfl (by decide) ?_
  refine k_iload_n F dX7_areClashing_8 9 rfl rfl rfl ?_
  refine k_imul F dX7_areClashing_9 10 rfl ?_
  refine k_iadd F dX7_areClashing_10 11 rfl ?_
  refine k_iload_n F dX7_areClashing_11 12 rfl rfl rfl ?_
  refine k_iadd F dX7_areClashing_12 13 rfl ?_
  refine m_ld F dX7_areClashing_13 14 rfl hM (65 + 8 * p + a) (by first | (with_reducible rfl) | (simp only [nI_lit, pk_mul, nI_add])) (by omega) ?_
  refine k_iconst (v := 1) F dX7_areClashing_14 15 rfl (by decide) ?_
  refine k_icmpne F dX7_areClashing_15 18 22 rfl (by decide) (fun c => ?_) (fun c => ?_)
  · refine k_iconst (v := 0) F dX7_areClashing_22 23 rfl (by decide) ?_
    exact k_zret F dX7_areClashing_23 (by first | rfl | exact kzb _ | exact pk_nc _ | decide) (by first | exact Nat.le_of_ble_eq_true rfl | omega) (by first | exact Nat.le_of_ble_eq_true rfl | omega) ⟨by simp [mCl, kB, c], rfl⟩
  · refine k_iconst (v := 1) F dX7_areClashing_18 19 rfl (by decide) ?_
    refine k_goto F dX7_areClashing_19 23 (by decide) ?_
    exact k_zret F dX7_areClashing_23 (by first | rfl | exact kzb _ | exact pk_nc _ | decide) (by first | exact Nat.le_of_ble_eq_true rfl | omega) (by first | exact Nat.le_of_ble_eq_true rfl | omega) ⟨by simp [mCl, kB, c], rfl⟩
set_option maxHeartbeats 4000000 in
set_option maxRecDepth 100000 in
theorem zX7_lightOf {l : Launch} {g : kG} (S : kStart l g) {h : kH} {m : Nat} {ad : Nat → Nat} {sc R : Nat → Int32} {ar : Nat → Nat → Int32} (hM : MW h m ad sc R ar) (hR : RV R) (a : Nat) (ha : a < 8) : kMet l g yX7_lightOf (Cond.code yX7_lightOf cX7_lightOf 3 (Option.some Jvm.ClassFile.FieldType.int)) 3 0 0 [.ref m, .int (nI a)] h (mRd h (.int (lightF R a))) := by
  refine kEnter S kd_X7_lightOf (Nat.le_of_ble_eq_true rfl) (fun x F hxl hxg => ?_)
  subst hxl; subst hxg
  have hlv : lv_args 0 [.ref m, .int (nI a)] = [(0, .ref m), (1, .int (nI a))] := rfl
  rw [hlv]
  obtain ⟨r1, r2, r3, r4, r5, r6, r7, r8⟩ := hR
  refine k_aload_n F dX7_lightOf_0 1 rfl rfl rfl ?_
  refine k_aload_n F dX7_lightOf_1 2 rfl rfl rfl ?_
  refine m_get F 0 (by decide) q3592 rfl dX7_lightOf_2 5 rfl hM rfl ?_
  refine k_bipush (v := 6) F dX7_lightOf_5 7 rfl (by decide) ?_
  refine m_ld F dX7_lightOf_7 8 rfl hM (6) (by first | (with_reducible rfl) | (simp only [nI_lit, pk_mul, nI_add])) (by omega) ?_
  refine k_iload_n F dX7_lightOf_8 9 rfl rfl rfl ?_
  rw [r5]
  refine k_callV F kd_X7_hasArm q3583 q194 (kInvV (Bs := [_, _]) F kcX7 q3580 q3582 qs94 kd_X7_hasArm q3583 dX7_lightOf_9 (kHs.of hM.1) rfl (by decide)) (zX7_hasArm F.st hM (rOn R) a (by omega)) 12 rfl (Nat.le_of_ble_eq_true rfl) (by first | exact Nat.le_of_ble_eq_true rfl | omega) (by first | exact Nat.le_of_ble_eq_true rfl | omega) (by first | exact Nat.le_of_ble_eq_true rfl | omega) (by first | exact Nat.le_of_ble_eq_true rfl | omega) (fun r1 h1 hr1 => ?_)
  obtain ⟨rfl, rfl⟩ := hr1
  refine k_ifne F dX7_lightOf_12 15 17 rfl (by decide) (fun c1 => ?_) (fun c1 => ?_)
  · rw [kB_0, Bool.not_eq_false] at c1
    have tail : ∀ b : Bool, b = nxHas R a → kW x 0 0 h 48 [(0, .ref m), (1, .int (nI a))] [.int (kB b)] := by
      intro b eb
      refine k_istore_n (lv' := [(0, _), (1, _), (2, _)]) F dX7_lightOf_48 49 rfl rfl (Nat.le_of_ble_eq_true rfl) rfl rfl rfl ?_
      refine k_aload_n F dX7_lightOf_49 50 rfl rfl rfl ?_
      refine m_get F 0 (by decide) q3592 rfl dX7_lightOf_50 53 rfl hM rfl ?_
      refine k_bipush (v := 8) F dX7_lightOf_53 55 rfl (by decide) ?_
      refine m_ld F dX7_lightOf_55 56 rfl hM (8) (by first | (with_reducible rfl) | (simp only [nI_lit, pk_mul, nI_add])) (by omega) ?_
      refine k_ifeq F dX7_lightOf_56 59 63 rfl (by decide) (fun c2 => ?_) (fun c2 => ?_)
      · refine k_iconst (v := 0) F dX7_lightOf_63 64 rfl (by decide) ?_
        refine k_goto F dX7_lightOf_64 83 (by decide) ?_
        exact k_iret F dX7_lightOf_83 (by first | exact Nat.le_of_ble_eq_true rfl | omega) (by first | exact Nat.le_of_ble_eq_true rfl | omega) ⟨by simp [lightF, c1, c2], rfl⟩
      · refine k_iload_n F dX7_lightOf_59 60 rfl rfl rfl ?_
        refine k_ifeq F dX7_lightOf_60 63 67 rfl (by decide) (fun c3 => ?_) (fun c3 => ?_)
        · refine k_aload_n F dX7_lightOf_67 68 rfl rfl rfl ?_
          refine m_get F 0 (by decide) q3592 rfl dX7_lightOf_68 71 rfl hM rfl ?_
          refine k_bipush (v := 8) F dX7_lightOf_71 73 rfl (by decide) ?_
          refine m_ld F dX7_lightOf_73 74 rfl hM (8) (by first | (with_reducible rfl) | (simp only [nI_lit, pk_mul, nI_add])) (by omega) ?_
          refine k_iconst (v := 1) F dX7_lightOf_74 75 rfl (by decide) ?_
          refine k_icmpne F dX7_lightOf_75 78 82 rfl (by decide) (fun c4 => ?_) (fun c4 => ?_)
          · refine k_iconst (v := 2) F dX7_lightOf_82 83 rfl (by decide) ?_
            exact k_iret F dX7_lightOf_83 (by first | exact Nat.le_of_ble_eq_true rfl | omega) (by first | exact Nat.le_of_ble_eq_true rfl | omega) ⟨by rw [kB_0, eb] at c3; simp [lightF, c1, c2, c3, c4], rfl⟩
          · refine k_iconst (v := 1) F dX7_lightOf_78 79 rfl (by decide) ?_
            refine k_goto F dX7_lightOf_79 83 (by decide) ?_
            exact k_iret F dX7_lightOf_83 (by first | exact Nat.le_of_ble_eq_true rfl | omega) (by first | exact Nat.le_of_ble_eq_true rfl | omega) ⟨by rw [kB_0, eb] at c3; simp [lightF, c1, c2, c3, c4], rfl⟩
        · refine k_iconst (v := 0) F dX7_lightOf_63 64 rfl (by decide) ?_
          refine k_goto F dX7_lightOf_64 83 (by decide) ?_
          exact k_iret F dX7_lightOf_83 (by first | exact Nat.le_of_ble_eq_true rfl | omega) (by first | exact Nat.le_of_ble_eq_true rfl | omega) ⟨by rw [kB_0, eb] at c3; simp [lightF, c1, c3], rfl⟩
    refine k_aload_n F dX7_lightOf_17 18 rfl rfl rfl ?_
    refine m_get F 0 (by decide) q3592 rfl dX7_lightOf_18 21 rfl hM rfl ?_
    refine k_bipush (v := 7) F dX7_lightOf_21 23 rfl (by decide) ?_
    refine m_ld F dX7_lightOf_23 24 rfl hM (7) (by first | (with_reducible rfl) | (simp only [nI_lit, pk_mul, nI_add])) (by omega) ?_
    refine k_iconst (v := (-1)) F dX7_lightOf_24 25 rfl (by decide) ?_
    rw [r7]
    refine k_icmpeq F dX7_lightOf_25 28 47 rfl (by decide) (fun c5 => ?_) (fun c5 => ?_)
    · rw [nO_m1 r8] at c5
      refine k_iconst (v := 0) F dX7_lightOf_47 48 rfl (by decide) ?_
      exact tail false (by simp [nxHas, c5])
    · rw [nO_m1 r8] at c5
      obtain ⟨q, hq⟩ := Option.ne_none_iff_exists'.mp c5
      refine k_aload_n F dX7_lightOf_28 29 rfl rfl rfl ?_
      refine k_aload_n F dX7_lightOf_29 30 rfl rfl rfl ?_
      refine m_get F 0 (by decide) q3592 rfl dX7_lightOf_30 33 rfl hM rfl ?_
      refine k_bipush (v := 7) F dX7_lightOf_33 35 rfl (by decide) ?_
      refine m_ld F dX7_lightOf_35 36 rfl hM (7) (by first | (with_reducible rfl) | (simp only [nI_lit, pk_mul, nI_add])) (by omega) ?_
      refine k_iload_n F dX7_lightOf_36 37 rfl rfl rfl ?_
      rw [r7, hq, nO_some]
      refine k_callV F kd_X7_hasArm q3583 q194 (kInvV (Bs := [_, _]) F kcX7 q3580 q3582 qs94 kd_X7_hasArm q3583 dX7_lightOf_37 (kHs.of hM.1) rfl (by decide)) (zX7_hasArm F.st hM q a (by have := r8 q hq; omega)) 40 rfl (Nat.le_of_ble_eq_true rfl) (by first | exact Nat.le_of_ble_eq_true rfl | omega) (by first | exact Nat.le_of_ble_eq_true rfl | omega) (by first | exact Nat.le_of_ble_eq_true rfl | omega) (by first | exact Nat.le_of_ble_eq_true rfl | omega) (fun r2 h2 hr2 => ?_)
      obtain ⟨rfl, rfl⟩ := hr2
      refine k_ifeq F dX7_lightOf_40 43 47 rfl (by decide) (fun c6 => ?_) (fun c6 => ?_)
      · rw [kB_0] at c6
        refine k_iconst (v := 0) F dX7_lightOf_47 48 rfl (by decide) ?_
        exact tail false (by simp [nxHas, hq, c6])
      · rw [kB_0] at c6
        refine k_iconst (v := 1) F dX7_lightOf_43 44 rfl (by decide) ?_
        refine k_goto F dX7_lightOf_44 48 (by decide) ?_
        exact tail true (by simp only [Bool.not_eq_false] at c6; simp [nxHas, hq, c6])
  · rw [kB_0] at c1
    refine k_iconst (v := 2) F dX7_lightOf_15 16 rfl (by decide) ?_
    exact k_iret F dX7_lightOf_16 (by first | exact Nat.le_of_ble_eq_true rfl | omega) (by first | exact Nat.le_of_ble_eq_true rfl | omega) ⟨by simp [lightF, c1], rfl⟩

