/-! the reference: what it does in a tick -/
theorem kd_X7_carGoes : kCd (Cond.code yX7_carGoes cX7_carGoes 3 (Option.none : Option Jvm.ClassFile.FieldType)) yX7_carGoes cX7_carGoes 3 (Option.none : Option Jvm.ClassFile.FieldType) [] := kCd_code (by decide +kernel)
theorem kd_X7_endsGreen : kCd (Cond.code yX7_endsGreen cX7_endsGreen 3 (Option.none : Option Jvm.ClassFile.FieldType)) yX7_endsGreen cX7_endsGreen 3 (Option.none : Option Jvm.ClassFile.FieldType) [] := kCd_code (by decide +kernel)
theorem kd_X7_comesOn : kCd (Cond.code yX7_comesOn cX7_comesOn 1 (Option.none : Option Jvm.ClassFile.FieldType)) yX7_comesOn cX7_comesOn 1 (Option.none : Option Jvm.ClassFile.FieldType) [] := kCd_code (by decide +kernel)
theorem kd_X7_tick : kCd (Cond.code yX7_tick cX7_tick 2 (Option.none : Option Jvm.ClassFile.FieldType)) yX7_tick cX7_tick 2 (Option.none : Option Jvm.ClassFile.FieldType) [] := kCd_code (by decide +kernel)
theorem kd_X7_ticksPass : kCd (Cond.code yX7_ticksPass cX7_ticksPass 3 (Option.none : Option Jvm.ClassFile.FieldType)) yX7_ticksPass cX7_ticksPass 3 (Option.none : Option Jvm.ClassFile.FieldType) [] := kCd_code (by decide +kernel)
theorem kd_X7_allCars : kCd (Cond.code yX7_allCars cX7_allCars 3 (Option.some Jvm.ClassFile.FieldType.int)) yX7_allCars cX7_allCars 3 (Option.some Jvm.ClassFile.FieldType.int) [] := kCd_code (by decide +kernel)
theorem kd_X7_tries : kCd (Cond.code yX7_tries cX7_tries 2 (Option.none : Option Jvm.ClassFile.FieldType)) yX7_tries cX7_tries 2 (Option.none : Option Jvm.ClassFile.FieldType) [] := kCd_code (by decide +kernel)
theorem kd_X7_back : kCd (Cond.code yX7_back cX7_back 3 (Option.some Jvm.ClassFile.FieldType.int)) yX7_back cX7_back 3 (Option.some Jvm.ClassFile.FieldType.int) [] := kCd_code (by decide +kernel)
set_option maxHeartbeats 4000000 in
set_option maxRecDepth 100000 in
theorem zX7_counts {l : Launch} {g : kG} (S : kStart l g) {h : kH} {m : Nat} {ad : Nat → Nat} {sc R : Nat → Int32} {ar : Nat → Nat → Int32} (hM : MW h m ad sc R ar) (w : Nat) (v : Int32) (hw : w < 900) : kMet l g yX7_counts (Cond.code yX7_counts cX7_counts 3 (Option.none : Option Jvm.ClassFile.FieldType)) 1 0 0 [.ref m, .int (nI w), .int v] h (mDo h m ad sc (cntF R w v) ar) := by
  refine kEnter S kd_X7_counts (Nat.le_of_ble_eq_true rfl) (fun x F hxl hxg => ?_)
  subst hxl; subst hxg
  have hlv : lv_args 0 [.ref m, .int (nI w), .int v] = [(0, .ref m), (1, .int (nI w)), (2, .int v)] := rfl
  rw [hlv]
  have hK : kKp (mOwn m) h h := kKp.rf
  refine k_aload_n F dX7_counts_0 1 rfl rfl rfl ?_
  refine m_get F 0 (by decide) q3592 rfl dX7_counts_1 4 rfl hM rfl ?_
  refine k_bipush (v := 10) F dX7_counts_4 6 rfl (by decide) ?_
  refine k_iload_n F dX7_counts_6 7 rfl rfl rfl ?_
  refine k_iadd F dX7_counts_7 8 rfl ?_
  refine k_dup2_11 F dX7_counts_8 9 rfl rfl rfl ?_
  refine m_ld F dX7_counts_9 10 rfl hM (10 + w) (by first | (with_reducible rfl) | (simp only [nI_lit, pk_mul, nI_add])) (by omega) ?_
  refine k_iload_n F dX7_counts_10 11 rfl rfl rfl ?_
  refine k_iadd F dX7_counts_11 12 rfl ?_
  refine m_st F dX7_counts_12 13 rfl hM hK (10 + w) (by first | (with_reducible rfl) | (simp only [nI_lit, pk_mul, nI_add])) (by omega) (fun h9 hM hK => ?_)
  exact k_vret F dX7_counts_13 (by first | exact Nat.le_of_ble_eq_true rfl | omega) (by first | exact Nat.le_of_ble_eq_true rfl | omega) ⟨hM, hK⟩
set_option maxHeartbeats 4000000 in
set_option maxRecDepth 100000 in
theorem zX7_putsClash {l : Launch} {g : kG} (S : kStart l g) {h : kH} {m : Nat} {ad : Nat → Nat} {sc R : Nat → Int32} {ar : Nat → Nat → Int32} (hM : MW h m ad sc R ar) (a b : Nat) (v : Int32) (ha : a < 8) (hb : b < 8) : kMet l g yX7_putsClash (Cond.code yX7_putsClash cX7_putsClash 4 (Option.none : Option Jvm.ClassFile.FieldType)) 1 0 0 [.ref m, .int (nI a), .int (nI b), .int v] h (mDo h m ad sc (upd (upd R (65 + 8 * a + b) v) (65 + 8 * b + a) v) ar) := by
  refine kEnter S kd_X7_putsClash (Nat.le_of_ble_eq_true rfl) (fun x F hxl hxg => ?_)
  subst hxl; subst hxg
  have hlv : lv_args 0 [.ref m, .int (nI a), .int (nI b), .int v] = [(0, .ref m), (1, .int (nI a)), (2, .int (nI b)), (3, .int v)] := rfl
  rw [hlv]
  have hK : kKp (mOwn m) h h := kKp.rf
  refine k_aload_n F dX7_putsClash_0 1 rfl rfl rfl ?_
  refine m_get F 0 (by decide) q3592 rfl dX7_putsClash_1 4 rfl hM rfl ?_
  refine k_bipush (v := 65) F dX7_putsClash_4 6 rfl (by decide) ?_
  refine k_bipush (v := 8) F dX7_putsClash_6 8 rfl (by decide) ?_
  refine k_iload_n F dX7_putsClash_8 9 rfl rfl rfl ?_
  refine k_imul F dX7_putsClash_9 10 rfl ?_
  refine k_iadd F dX7_putsClash_10 11 rfl ?_
  refine k_iload_n F dX7_putsClash_11 12 rfl rfl rfl ?_
  refine k_iadd F dX7_putsClash_12 13 rfl ?_
  refine k_iload_n F dX7_putsClash_13 14 rfl rfl rfl ?_
  refine m_st F dX7_putsClash_14 15 rfl hM hK (65 + 8 * a + b) (by first | (with_reducible rfl) | (simp only [nI_lit, pk_mul, nI_add])) (by omega) (fun h9 hM hK => ?_)
  refine k_aload_n F dX7_putsClash_15 16 rfl rfl rfl ?_
  refine m_get F 0 (by decide) q3592 rfl dX7_putsClash_16 19 rfl hM rfl ?_
  refine k_bipush (v := 65) F dX7_putsClash_19 21 rfl (by decide) ?_
  refine k_bipush (v := 8) F dX7_putsClash_21 23 rfl (by decide) ?_
  refine k_iload_n F dX7_putsClash_23 24 rfl rfl rfl ?_
  refine k_imul F dX7_putsClash_24 25 rfl ?_
  refine k_iadd F dX7_putsClash_25 26 rfl ?_
  refine k_iload_n F dX7_putsClash_26 27 rfl rfl rfl ?_
  refine k_iadd F dX7_putsClash_27 28 rfl ?_
  refine k_iload_n F dX7_putsClash_28 29 rfl rfl rfl ?_
  refine m_st F dX7_putsClash_29 30 rfl hM hK (65 + 8 * b + a) (by first | (with_reducible rfl) | (simp only [nI_lit, pk_mul, nI_add])) (by omega) (fun h9 hM hK => ?_)
  exact k_vret F dX7_putsClash_30 (by first | exact Nat.le_of_ble_eq_true rfl | omega) (by first | exact Nat.le_of_ble_eq_true rfl | omega) ⟨hM, hK⟩
set_option maxHeartbeats 4000000 in
set_option maxRecDepth 100000 in
theorem zX7_carGoes {l : Launch} {g : kG} (S : kStart l g) {h : kH} {m : Nat} {ad : Nat → Nat} {sc R : Nat → Int32} {ar : Nat → Nat → Int32} (hM : MW h m ad sc R ar) (a : Nat) (ha : a < 8) (hc : ∃ c, 0 < c ∧ c ≤ 99 ∧ mOf R a 3 = nI c) : kMet l g yX7_carGoes (Cond.code yX7_carGoes cX7_carGoes 3 (Option.none : Option Jvm.ClassFile.FieldType)) 2 0 0 [.ref m, .int (nI a)] h (mDo h m ad sc (goesF R a) ar) := by
  refine kEnter S kd_X7_carGoes (Nat.le_of_ble_eq_true rfl) (fun x F hxl hxg => ?_)
  subst hxl; subst hxg
  have hlv : lv_args 0 [.ref m, .int (nI a)] = [(0, .ref m), (1, .int (nI a))] := rfl
  rw [hlv]
  have hK : kKp (mOwn m) h h := kKp.rf
  refine k_aload_n F dX7_carGoes_0 1 rfl rfl rfl ?_
  refine k_iconst (v := 1) F dX7_carGoes_1 2 rfl (by decide) ?_
  refine k_iconst (v := 1) F dX7_carGoes_2 3 rfl (by decide) ?_
  refine k_callN F kd_X7_counts q3757 q194 (kInvV (Bs := [_, _]) F kcX7 q3754 q3756 qs110 kd_X7_counts q3757 dX7_carGoes_3 (kHs.of hM.1) rfl (by decide)) (zX7_counts F.st hM 1 _ (by omega)) 6 rfl (Nat.le_of_ble_eq_true rfl) (by first | exact Nat.le_of_ble_eq_true rfl | omega) (by first | exact Nat.le_of_ble_eq_true rfl | omega) (by first | exact Nat.le_of_ble_eq_true rfl | omega) (by first | exact Nat.le_of_ble_eq_true rfl | omega) (fun h1 hr1 => ?_)
  obtain ⟨hM, hK9⟩ := hr1
  have hK := hK.tr hK9
  refine k_aload_n F dX7_carGoes_6 7 rfl rfl rfl ?_
  refine k_iconst (v := 2) F dX7_carGoes_7 8 rfl (by decide) ?_
  refine k_aload_n F dX7_carGoes_8 9 rfl rfl rfl ?_
  refine m_get F 0 (by decide) q3592 rfl dX7_carGoes_9 12 rfl hM rfl ?_
  refine k_iconst (v := 5) F dX7_carGoes_12 13 rfl (by decide) ?_
  refine m_ld F dX7_carGoes_13 14 rfl hM (5) (by first | (with_reducible rfl) | (simp only [nI_lit, pk_mul, nI_add])) (by omega) ?_
  refine k_aload_n F dX7_carGoes_14 15 rfl rfl rfl ?_
  refine k_iload_n F dX7_carGoes_15 16 rfl rfl rfl ?_
  refine k_iconst (v := 0) F dX7_carGoes_16 17 rfl (by decide) ?_
  refine k_callV F kd_X7_carAt q3781 q194 (kInvV (Bs := [_, _]) F kcX7 q3778 q3780 qs116 kd_X7_carAt q3781 dX7_carGoes_17 (kHs.of hM.1) rfl (by decide)) (zX7_carAt F.st hM a 0 (by omega)) 20 rfl (Nat.le_of_ble_eq_true rfl) (by first | exact Nat.le_of_ble_eq_true rfl | omega) (by first | exact Nat.le_of_ble_eq_true rfl | omega) (by first | exact Nat.le_of_ble_eq_true rfl | omega) (by first | exact Nat.le_of_ble_eq_true rfl | omega) (fun r2 h2 hr2 => ?_)
  obtain ⟨rfl, rfl⟩ := hr2
  refine k_isub F dX7_carGoes_20 21 rfl ?_
  refine k_callN F kd_X7_counts q3757 q194 (kInvV (Bs := [_, _]) F kcX7 q3754 q3756 qs110 kd_X7_counts q3757 dX7_carGoes_21 (kHs.of hM.1) rfl (by decide)) (zX7_counts F.st hM 2 _ (by omega)) 24 rfl (Nat.le_of_ble_eq_true rfl) (by first | exact Nat.le_of_ble_eq_true rfl | omega) (by first | exact Nat.le_of_ble_eq_true rfl | omega) (by first | exact Nat.le_of_ble_eq_true rfl | omega) (by first | exact Nat.le_of_ble_eq_true rfl | omega) (fun h3 hr3 => ?_)
  obtain ⟨hM, hK9⟩ := hr3
  have hK := hK.tr hK9
  refine k_aload_n F dX7_carGoes_24 25 rfl rfl rfl ?_
  refine k_iload_n F dX7_carGoes_25 26 rfl rfl rfl ?_
  refine k_iconst (v := 4) F dX7_carGoes_26 27 rfl (by decide) ?_
  refine k_aload_n F dX7_carGoes_27 28 rfl rfl rfl ?_
  refine k_iload_n F dX7_carGoes_28 29 rfl rfl rfl ?_
  refine k_iconst (v := 4) F dX7_carGoes_29 30 rfl (by decide) ?_
  refine k_callV F kd_X7_of q3549 q194 (kInvV (Bs := [_, _]) F kcX7 q3546 q3548 qs86 kd_X7_of q3549 dX7_carGoes_30 (kHs.of hM.1) rfl (by decide)) (zX7_of F.st hM a 4 (by omega)) 33 rfl (Nat.le_of_ble_eq_true rfl) (by first | exact Nat.le_of_ble_eq_true rfl | omega) (by first | exact Nat.le_of_ble_eq_true rfl | omega) (by first | exact Nat.le_of_ble_eq_true rfl | omega) (by first | exact Nat.le_of_ble_eq_true rfl | omega) (fun r4 h4 hr4 => ?_)
  obtain ⟨rfl, rfl⟩ := hr4
  refine k_iconst (v := 1) F dX7_carGoes_33 34 rfl (by decide) ?_
  refine k_iadd F dX7_carGoes_34 35 rfl ?_
  refine k_callN F kd_X7_puts q3553 q194 (kInvV (Bs := [_, _, _]) F kcX7 q3550 q3552 qs87 kd_X7_puts q3553 dX7_carGoes_35 (kHs.of hM.1) rfl (by decide)) (zX7_puts F.st hM a 4 _ (by omega)) 38 rfl (Nat.le_of_ble_eq_true rfl) (by first | exact Nat.le_of_ble_eq_true rfl | omega) (by first | exact Nat.le_of_ble_eq_true rfl | omega) (by first | exact Nat.le_of_ble_eq_true rfl | omega) (by first | exact Nat.le_of_ble_eq_true rfl | omega) (fun h5 hr5 => ?_)
  obtain ⟨hM, hK9⟩ := hr5
  have hK := hK.tr hK9
  refine k_aload_n F dX7_carGoes_38 39 rfl rfl rfl ?_
  refine k_iload_n F dX7_carGoes_39 40 rfl rfl rfl ?_
  refine k_iconst (v := 3) F dX7_carGoes_40 41 rfl (by decide) ?_
  refine k_aload_n F dX7_carGoes_41 42 rfl rfl rfl ?_
  refine k_iload_n F dX7_carGoes_42 43 rfl rfl rfl ?_
  refine k_iconst (v := 3) F dX7_carGoes_43 44 rfl (by decide) ?_
  refine k_callV F kd_X7_of q3549 q194 (kInvV (Bs := [_, _]) F kcX7 q3546 q3548 qs86 kd_X7_of q3549 dX7_carGoes_44 (kHs.of hM.1) rfl (by decide)) (zX7_of F.st hM a 3 (by omega)) 47 rfl (Nat.le_of_ble_eq_true rfl) (by first | exact Nat.le_of_ble_eq_true rfl | omega) (by first | exact Nat.le_of_ble_eq_true rfl | omega) (by first | exact Nat.le_of_ble_eq_true rfl | omega) (by first | exact Nat.le_of_ble_eq_true rfl | omega) (fun r6 h6 hr6 => ?_)
  obtain ⟨rfl, rfl⟩ := hr6
  refine k_iconst (v := 1) F dX7_carGoes_47 48 rfl (by decide) ?_
  refine k_isub F dX7_carGoes_48 49 rfl ?_
  refine k_callN F kd_X7_puts q3553 q194 (kInvV (Bs := [_, _, _]) F kcX7 q3550 q3552 qs87 kd_X7_puts q3553 dX7_carGoes_49 (kHs.of hM.1) rfl (by decide)) (zX7_puts F.st hM a 3 _ (by omega)) 52 rfl (Nat.le_of_ble_eq_true rfl) (by first | exact Nat.le_of_ble_eq_true rfl | omega) (by first | exact Nat.le_of_ble_eq_true rfl | omega) (by first | exact Nat.le_of_ble_eq_true rfl | omega) (by first | exact Nat.le_of_ble_eq_true rfl | omega) (fun h7 hr7 => ?_)
  obtain ⟨hM, hK9⟩ := hr7
  have hK := hK.tr hK9
  replace hM : MW _ m ad sc (goes4 R a) ar := hM
  obtain ⟨c, hc0, hc1, hc2⟩ := hc
  have e4 : ∀ i, mOf (shiftTo (goes4 R a) a i) a 3 = nI (c - 1) := fun i => by
    unfold mOf
    rw [shiftTo_lo (by omega), goes4_c, hc2]
    exact nI_dec hc0
  have er : rC R a = c := by unfold rC; rw [hc2]; exact nI_clamp (by omega)
  refine k_iconst (v := 0) F dX7_carGoes_52 53 rfl (by decide) ?_
  refine k_istore_n (lv' := [(0, _), (1, _), (2, _)]) F dX7_carGoes_53 54 rfl rfl (Nat.le_of_ble_eq_true rfl) rfl rfl rfl ?_
  suffices hl : ∀ j, j ≤ c - 1 → ∀ h1, MW h1 m ad sc (shiftTo (goes4 R a) a j) ar → kKp (mOwn m) h h1 → kW x 0 0 h1 54 [(0, .ref m), (1, .int (nI a)), (2, .int (nI j))] [] from hl 0 (Nat.zero_le _) _ hM hK
  refine kUpTo (Q := fun j => ∀ h1, MW h1 m ad sc (shiftTo (goes4 R a) a j) ar → kKp (mOwn m) h h1 → kW x 0 0 h1 54 [(0, .ref m), (1, .int (nI a)), (2, .int (nI j))] []) (c - 1) ?_ ?_
  · intro h1 hM hK
    refine k_iload_n F dX7_carGoes_54 55 rfl rfl rfl ?_
    refine k_aload_n F dX7_carGoes_55 56 rfl rfl rfl ?_
    refine k_iload_n F dX7_carGoes_56 57 rfl rfl rfl ?_
    refine k_iconst (v := 3) F dX7_carGoes_57 58 rfl (by decide) ?_
    refine k_callV F kd_X7_of q3549 q194 (kInvV (Bs := [_, _]) F kcX7 q3546 q3548 qs86 kd_X7_of q3549 dX7_carGoes_58 (kHs.of hM.1) rfl (by decide)) (zX7_of F.st hM a 3 (by omega)) 61 rfl (Nat.le_of_ble_eq_true rfl) (by first | exact Nat.le_of_ble_eq_true rfl | omega) (by first | exact Nat.le_of_ble_eq_true rfl | omega) (by first | exact Nat.le_of_ble_eq_true rfl | omega) (by first | exact Nat.le_of_ble_eq_true rfl | omega) (fun r8 h8 hr8 => ?_)
    obtain ⟨rfl, rfl⟩ := hr8
    rw [e4]
    refine k_icmpge F dX7_carGoes_61 64 93 rfl (by decide) (fun c_a => ?_) (fun c_a => ?_)
    · exact k_vret F dX7_carGoes_93 (by first | exact Nat.le_of_ble_eq_true rfl | omega) (by first | exact Nat.le_of_ble_eq_true rfl | omega) ⟨by unfold goesF; rw [er]; exact hM, hK⟩
    · exact absurd (by rw [nI_leE (by omega) (by omega)]; omega) c_a
  · intro j hj ih h1 hM hK
    refine k_iload_n F dX7_carGoes_54 55 rfl rfl rfl ?_
    refine k_aload_n F dX7_carGoes_55 56 rfl rfl rfl ?_
    refine k_iload_n F dX7_carGoes_56 57 rfl rfl rfl ?_
    refine k_iconst (v := 3) F dX7_carGoes_57 58 rfl (by decide) ?_
    refine k_callV F kd_X7_of q3549 q194 (kInvV (Bs := [_, _]) F kcX7 q3546 q3548 qs86 kd_X7_of q3549 dX7_carGoes_58 (kHs.of hM.1) rfl (by decide)) (zX7_of F.st hM a 3 (by omega)) 61 rfl (Nat.le_of_ble_eq_true rfl) (by first | exact Nat.le_of_ble_eq_true rfl | omega) (by first | exact Nat.le_of_ble_eq_true rfl | omega) (by first | exact Nat.le_of_ble_eq_true rfl | omega) (by first | exact Nat.le_of_ble_eq_true rfl | omega) (fun r9 h9 hr9 => ?_)
    obtain ⟨rfl, rfl⟩ := hr9
    rw [e4]
    refine k_icmpge F dX7_carGoes_61 64 93 rfl (by decide) (fun c_b => ?_) (fun c_b => ?_)
    · rw [nI_leE (by omega) (by omega)] at c_b
      omega
    · refine k_aload_n F dX7_carGoes_64 65 rfl rfl rfl ?_
      refine m_get F 0 (by decide) q3592 rfl dX7_carGoes_65 68 rfl hM rfl ?_
      refine k_sipush (v := 201) F dX7_carGoes_68 71 rfl (by decide) ?_
      refine k_bipush (v := 99) F dX7_carGoes_71 73 rfl (by decide) ?_
      refine k_iload_n F dX7_carGoes_73 74 rfl rfl rfl ?_
      refine k_imul F dX7_carGoes_74 75 rfl ?_
      refine k_iadd F dX7_carGoes_75 76 rfl ?_
      refine k_iload_n F dX7_carGoes_76 77 rfl rfl rfl ?_
      refine k_iadd F dX7_carGoes_77 78 rfl ?_
      refine k_aload_n F dX7_carGoes_78 79 rfl rfl rfl ?_
      refine k_iload_n F dX7_carGoes_79 80 rfl rfl rfl ?_
      refine k_iload_n F dX7_carGoes_80 81 rfl rfl rfl ?_
      refine k_iconst (v := 1) F dX7_carGoes_81 82 rfl (by decide) ?_
      refine k_iadd F dX7_carGoes_82 83 rfl ?_
      refine k_topi (b := nI (j + 1)) (by first | (with_reducible rfl) | (simp only [nI_lit, pk_mul, nI_add])) ?_
      refine k_callV F kd_X7_carAt q3781 q194 (kInvV (Bs := [_, _]) F kcX7 q3778 q3780 qs116 kd_X7_carAt q3781 dX7_carGoes_83 (kHs.of hM.1) rfl (by decide)) (zX7_carAt F.st hM a (j + 1) (by omega)) 86 rfl (Nat.le_of_ble_eq_true rfl) (by first | exact Nat.le_of_ble_eq_true rfl | omega) (by first | exact Nat.le_of_ble_eq_true rfl | omega) (by first | exact Nat.le_of_ble_eq_true rfl | omega) (by first | exact Nat.le_of_ble_eq_true rfl | omega) (fun r10 h10 hr10 => ?_)
      obtain ⟨rfl, rfl⟩ := hr10
      refine m_st F dX7_carGoes_86 87 rfl hM hK (201 + 99 * a + j) (by first | (with_reducible rfl) | (simp only [nI_lit, pk_mul, nI_add])) (by omega) (fun h9 hM hK => ?_)
      refine k_iinc (e := 1) (lv' := [(0, _), (1, _), (2, _)]) F dX7_carGoes_87 90 rfl rfl (by decide) rfl (Nat.le_of_ble_eq_true rfl) rfl rfl rfl ?_
      refine k_goto F dX7_carGoes_90 54 (by decide) ?_
      rw [nI_1]
      exact ih _ hM hK
set_option maxHeartbeats 4000000 in
set_option maxRecDepth 100000 in
theorem zX7_endsGreen {l : Launch} {g : kG} (S : kStart l g) {h : kH} {m : Nat} {ad : Nat → Nat} {sc R : Nat → Int32} {ar : Nat → Nat → Int32} (hM : MW h m ad sc R ar) (hR : RV R) : kMet l g yX7_endsGreen (Cond.code yX7_endsGreen cX7_endsGreen 3 (Option.none : Option Jvm.ClassFile.FieldType)) 6 0 0 [.ref m] h (mDo h m ad sc (endsF R) ar) := by
  refine kEnter S kd_X7_endsGreen (Nat.le_of_ble_eq_true rfl) (fun x F hxl hxg => ?_)
  subst hxl; subst hxg
  have hlv : lv_args 0 [.ref m] = [(0, .ref m)] := rfl
  rw [hlv]
  have hK : kKp (mOwn m) h h := kKp.rf
  obtain ⟨r1, r2, r3, r4, r5, r6, r7, r8⟩ := id hR
  refine k_aload_n F dX7_endsGreen_0 1 rfl rfl rfl ?_
  refine k_callV F kd_X7_best q3789 q194 (kInvV (Bs := []) F kcX7 q3786 q3788 qs118 kd_X7_best q3789 dX7_endsGreen_1 (kHs.of hM.1) rfl (by decide)) (zX7_best F.st hM hR) 4 rfl (Nat.le_of_ble_eq_true rfl) (by first | exact Nat.le_of_ble_eq_true rfl | omega) (by first | exact Nat.le_of_ble_eq_true rfl | omega) (by first | exact Nat.le_of_ble_eq_true rfl | omega) (by first | exact Nat.le_of_ble_eq_true rfl | omega) (fun r1 h1 hr1 => ?_)
  obtain ⟨rfl, rfl⟩ := hr1
  refine k_istore_n (lv' := [(0, _), (1, _)]) F dX7_endsGreen_4 5 rfl rfl (Nat.le_of_ble_eq_true rfl) rfl rfl rfl ?_
  refine k_aload_n F dX7_endsGreen_5 6 rfl rfl rfl ?_
  refine m_get F 0 (by decide) q3592 rfl dX7_endsGreen_6 9 rfl hM rfl ?_
  refine k_bipush (v := 9) F dX7_endsGreen_9 11 rfl (by decide) ?_
  refine m_ld F dX7_endsGreen_11 12 rfl hM (9) (by first | (with_reducible rfl) | (simp only [nI_lit, pk_mul, nI_add])) (by omega) ?_
  refine k_aload_n F dX7_endsGreen_12 13 rfl rfl rfl ?_
  refine k_aload_n F dX7_endsGreen_13 14 rfl rfl rfl ?_
  refine m_get F 0 (by decide) q3592 rfl dX7_endsGreen_14 17 rfl hM rfl ?_
  refine k_bipush (v := 6) F dX7_endsGreen_17 19 rfl (by decide) ?_
  refine m_ld F dX7_endsGreen_19 20 rfl hM (6) (by first | (with_reducible rfl) | (simp only [nI_lit, pk_mul, nI_add])) (by omega) ?_
  refine k_iconst (v := 1) F dX7_endsGreen_20 21 rfl (by decide) ?_
  rw [r5]
  refine k_callV F kd_X7_ofPhase q3587 q194 (kInvV (Bs := [_, _]) F kcX7 q3584 q3586 qs95 kd_X7_ofPhase q3587 dX7_endsGreen_21 (kHs.of hM.1) rfl (by decide)) (zX7_ofPhase F.st hM (rOn R) 1 (by omega)) 24 rfl (Nat.le_of_ble_eq_true rfl) (by first | exact Nat.le_of_ble_eq_true rfl | omega) (by first | exact Nat.le_of_ble_eq_true rfl | omega) (by first | exact Nat.le_of_ble_eq_true rfl | omega) (by first | exact Nat.le_of_ble_eq_true rfl | omega) (fun r2 h2 hr2 => ?_)
  obtain ⟨rfl, rfl⟩ := hr2
  have tail : ∀ b : Bool, (b = true ↔ mPh R (rOn R) 1 ≤ R 9) → kW x 0 0 h 32 [(0, .ref m), (1, .int (nO (bestF R)))] [.int (kB b)] := by
    intro b hb
    refine k_istore_n (lv' := [(0, _), (1, _), (2, _)]) F dX7_endsGreen_32 33 rfl rfl (Nat.le_of_ble_eq_true rfl) rfl rfl rfl ?_
    refine k_aload_n F dX7_endsGreen_33 34 rfl rfl rfl ?_
    refine m_get F 0 (by decide) q3592 rfl dX7_endsGreen_34 37 rfl hM rfl ?_
    refine k_bipush (v := 9) F dX7_endsGreen_37 39 rfl (by decide) ?_
    refine m_ld F dX7_endsGreen_39 40 rfl hM (9) (by first | (with_reducible rfl) | (simp only [nI_lit, pk_mul, nI_add])) (by omega) ?_
    refine k_aload_n F dX7_endsGreen_40 41 rfl rfl rfl ?_
    refine k_aload_n F dX7_endsGreen_41 42 rfl rfl rfl ?_
    refine m_get F 0 (by decide) q3592 rfl dX7_endsGreen_42 45 rfl hM rfl ?_
    refine k_bipush (v := 6) F dX7_endsGreen_45 47 rfl (by decide) ?_
    refine m_ld F dX7_endsGreen_47 48 rfl hM (6) (by first | (with_reducible rfl) | (simp only [nI_lit, pk_mul, nI_add])) (by omega) ?_
    refine k_iconst (v := 0) F dX7_endsGreen_48 49 rfl (by decide) ?_
    rw [r5]
    refine k_callV F kd_X7_ofPhase q3587 q194 (kInvV (Bs := [_, _]) F kcX7 q3584 q3586 qs95 kd_X7_ofPhase q3587 dX7_endsGreen_49 (kHs.of hM.1) rfl (by decide)) (zX7_ofPhase F.st hM (rOn R) 0 (by omega)) 52 rfl (Nat.le_of_ble_eq_true rfl) (by first | exact Nat.le_of_ble_eq_true rfl | omega) (by first | exact Nat.le_of_ble_eq_true rfl | omega) (by first | exact Nat.le_of_ble_eq_true rfl | omega) (by first | exact Nat.le_of_ble_eq_true rfl | omega) (fun r3 h3 hr3 => ?_)
    obtain ⟨rfl, rfl⟩ := hr3
    refine k_icmplt F dX7_endsGreen_52 55 72 rfl (by decide) (fun c_a => ?_) (fun c_a => ?_)
    · exact k_vret F dX7_endsGreen_72 (by first | exact Nat.le_of_ble_eq_true rfl | omega) (by first | exact Nat.le_of_ble_eq_true rfl | omega) ⟨by unfold endsF; rw [if_pos (Or.inl c_a)]; exact hM, hK⟩
    · refine k_iload_n F dX7_endsGreen_55 56 rfl rfl rfl ?_
      refine k_iconst (v := (-1)) F dX7_endsGreen_56 57 rfl (by decide) ?_
      refine k_icmpeq F dX7_endsGreen_57 60 72 rfl (by decide) (fun c_b => ?_) (fun c_b => ?_)
      · rw [nO_m1 (fun q hq => by have := bestF_lt hq; omega)] at c_b
        exact k_vret F dX7_endsGreen_72 (by first | exact Nat.le_of_ble_eq_true rfl | omega) (by first | exact Nat.le_of_ble_eq_true rfl | omega) ⟨by unfold endsF; rw [if_pos (Or.inr (Or.inl c_b))]; exact hM, hK⟩
      · rw [nO_m1 (fun q hq => by have := bestF_lt hq; omega)] at c_b
        have fin : ∀ R', (¬ mPh R (rOn R) 1 ≤ R 9 → busyF R = none) → R' = (if mPh R (rOn R) 1 ≤ R 9 then cntF R 4 1 else R) → ∀ h1, MW h1 m ad sc R' ar → kKp (mOwn m) h h1 → kW x 0 0 h1 83 [(0, .ref m), (1, .int (nO (bestF R))), (2, .int (kB b))] [] := by
          intro R' hno eR h1 hM hK
          refine k_aload_n F dX7_endsGreen_83 84 rfl rfl rfl ?_
          refine m_get F 0 (by decide) q3592 rfl dX7_endsGreen_84 87 rfl hM rfl ?_
          refine k_bipush (v := 7) F dX7_endsGreen_87 89 rfl (by decide) ?_
          refine k_iload_n F dX7_endsGreen_89 90 rfl rfl rfl ?_
          refine m_st F dX7_endsGreen_90 91 rfl hM hK (7) (by first | (with_reducible rfl) | (simp only [nI_lit, pk_mul, nI_add])) (by omega) (fun h9 hM hK => ?_)
          refine k_aload_n F dX7_endsGreen_91 92 rfl rfl rfl ?_
          refine m_get F 0 (by decide) q3592 rfl dX7_endsGreen_92 95 rfl hM rfl ?_
          refine k_bipush (v := 8) F dX7_endsGreen_95 97 rfl (by decide) ?_
          refine k_iconst (v := 1) F dX7_endsGreen_97 98 rfl (by decide) ?_
          refine m_st F dX7_endsGreen_98 99 rfl hM hK (8) (by first | (with_reducible rfl) | (simp only [nI_lit, pk_mul, nI_add])) (by omega) (fun h9 hM hK => ?_)
          refine k_aload_n F dX7_endsGreen_99 100 rfl rfl rfl ?_
          refine m_get F 0 (by decide) q3592 rfl dX7_endsGreen_100 103 rfl hM rfl ?_
          refine k_bipush (v := 9) F dX7_endsGreen_103 105 rfl (by decide) ?_
          refine k_iconst (v := 0) F dX7_endsGreen_105 106 rfl (by decide) ?_
          refine m_st F dX7_endsGreen_106 107 rfl hM hK (9) (by first | (with_reducible rfl) | (simp only [nI_lit, pk_mul, nI_add])) (by omega) (fun h9 hM hK => ?_)
          exact k_vret F dX7_endsGreen_107 (by first | exact Nat.le_of_ble_eq_true rfl | omega) (by first | exact Nat.le_of_ble_eq_true rfl | omega) ⟨by unfold endsF; rw [if_neg (fun q => q.elim c_a (fun q => q.elim c_b (fun q => q.2 (hno q.1)))), ← eR]; exact hM, hK⟩
        have mid : (¬ mPh R (rOn R) 1 ≤ R 9 → busyF R = none) → kW x 0 0 h 73 [(0, .ref m), (1, .int (nO (bestF R))), (2, .int (kB b))] [] := by
          intro hno
          refine k_iload_n F dX7_endsGreen_73 74 rfl rfl rfl ?_
          refine k_ifeq F dX7_endsGreen_74 77 83 rfl (by decide) (fun c_d => ?_) (fun c_d => ?_)
          · rw [kB_0] at c_d
            have hf : ¬ mPh R (rOn R) 1 ≤ R 9 := fun q => by rw [hb.mpr q] at c_d; cases c_d
            exact fin R hno (by rw [if_neg hf]) h hM hK
          · rw [kB_0, Bool.not_eq_false] at c_d
            refine k_aload_n F dX7_endsGreen_77 78 rfl rfl rfl ?_
            refine k_iconst (v := 4) F dX7_endsGreen_78 79 rfl (by decide) ?_
            refine k_iconst (v := 1) F dX7_endsGreen_79 80 rfl (by decide) ?_
            refine k_callN F kd_X7_counts q3757 q194 (kInvV (Bs := [_, _]) F kcX7 q3754 q3756 qs110 kd_X7_counts q3757 dX7_endsGreen_80 (kHs.of hM.1) rfl (by decide)) (zX7_counts F.st hM 4 _ (by omega)) 83 rfl (Nat.le_of_ble_eq_true rfl) (by first | exact Nat.le_of_ble_eq_true rfl | omega) (by first | exact Nat.le_of_ble_eq_true rfl | omega) (by first | exact Nat.le_of_ble_eq_true rfl | omega) (by first | exact Nat.le_of_ble_eq_true rfl | omega) (fun h4 hr4 => ?_)
            obtain ⟨hM, hK9⟩ := hr4
            have hK := hK.tr hK9
            exact fin _ hno (by rw [if_pos (hb.mp c_d)]) _ hM hK
        refine k_iload_n F dX7_endsGreen_60 61 rfl rfl rfl ?_
        refine k_ifne F dX7_endsGreen_61 64 73 rfl (by decide) (fun c_e => ?_) (fun c_e => ?_)
        · rw [kB_0, Bool.not_eq_false] at c_e
          exact mid (fun q => absurd (hb.mp c_e) q)
        · rw [kB_0] at c_e
          have hf : ¬ mPh R (rOn R) 1 ≤ R 9 := fun q => by rw [hb.mpr q] at c_e; cases c_e
          refine k_aload_n F dX7_endsGreen_64 65 rfl rfl rfl ?_
          refine k_callV F kd_X7_busyArm q3814 q194 (kInvV (Bs := []) F kcX7 q3811 q3813 qs124 kd_X7_busyArm q3814 dX7_endsGreen_65 (kHs.of hM.1) rfl (by decide)) (zX7_busyArm F.st hM hR) 68 rfl (Nat.le_of_ble_eq_true rfl) (by first | exact Nat.le_of_ble_eq_true rfl | omega) (by first | exact Nat.le_of_ble_eq_true rfl | omega) (by first | exact Nat.le_of_ble_eq_true rfl | omega) (by first | exact Nat.le_of_ble_eq_true rfl | omega) (fun r5 h5 hr5 => ?_)
          obtain ⟨rfl, rfl⟩ := hr5
          refine k_iconst (v := (-1)) F dX7_endsGreen_68 69 rfl (by decide) ?_
          have hbz : ∀ q, busyF R = some q → q < 6 ∨ q < 8 := fun q hq => Or.inr (by
            unfold busyF findTo at hq
            have := List.mem_range.mp (List.mem_of_find?_eq_some hq)
            omega)
          refine k_icmpeq F dX7_endsGreen_69 72 73 rfl (by decide) (fun c_f => ?_) (fun c_f => ?_)
          · exact mid (fun _ => (nO_m1' (fun q hq => by have := hbz q hq; omega)).mp c_f)
          · exact k_vret F dX7_endsGreen_72 (by first | exact Nat.le_of_ble_eq_true rfl | omega) (by first | exact Nat.le_of_ble_eq_true rfl | omega) ⟨by unfold endsF; rw [if_pos (Or.inr (Or.inr ⟨hf, fun q => c_f (by rw [q]; rfl)⟩))]; exact hM, hK⟩
  refine k_icmplt F dX7_endsGreen_24 27 31 rfl (by decide) (fun c_c => ?_) (fun c_c => ?_)
  · refine k_iconst (v := 0) F dX7_endsGreen_31 32 rfl (by decide) ?_
    exact tail false (by simp [Int32.not_le.mpr c_c])
  · refine k_iconst (v := 1) F dX7_endsGreen_27 28 rfl (by decide) ?_
    refine k_goto F dX7_endsGreen_28 32 (by decide) ?_
    exact tail true (by simp [Int32.not_lt.mp c_c])
set_option maxHeartbeats 4000000 in
set_option maxRecDepth 100000 in
theorem zX7_comesOn {l : Launch} {g : kG} (S : kStart l g) {h : kH} {m : Nat} {ad : Nat → Nat} {sc R : Nat → Int32} {ar : Nat → Nat → Int32} (hM : MW h m ad sc R ar) (q : Nat) (hq : q < 6) (h7 : R 7 = nI q) : kMet l g yX7_comesOn (Cond.code yX7_comesOn cX7_comesOn 1 (Option.none : Option Jvm.ClassFile.FieldType)) 2 0 0 [.ref m] h (mDo h m ad sc (comesF R q) ar) := by
  refine kEnter S kd_X7_comesOn (Nat.le_of_ble_eq_true rfl) (fun x F hxl hxg => ?_)
  subst hxl; subst hxg
  have hlv : lv_args 0 [.ref m] = [(0, .ref m)] := rfl
  rw [hlv]
  have hK : kKp (mOwn m) h h := kKp.rf
  refine k_aload_n F dX7_comesOn_0 1 rfl rfl rfl ?_
  refine m_get F 0 (by decide) q3592 rfl dX7_comesOn_1 4 rfl hM rfl ?_
  refine k_bipush (v := 6) F dX7_comesOn_4 6 rfl (by decide) ?_
  refine k_aload_n F dX7_comesOn_6 7 rfl rfl rfl ?_
  refine m_get F 0 (by decide) q3592 rfl dX7_comesOn_7 10 rfl hM rfl ?_
  refine k_bipush (v := 7) F dX7_comesOn_10 12 rfl (by decide) ?_
  refine m_ld F dX7_comesOn_12 13 rfl hM (7) (by first | (with_reducible rfl) | (simp only [nI_lit, pk_mul, nI_add])) (by omega) ?_
  rw [h7]
  refine m_st F dX7_comesOn_13 14 rfl hM hK (6) (by first | (with_reducible rfl) | (simp only [nI_lit, pk_mul, nI_add])) (by omega) (fun h9 hM hK => ?_)
  have e6 : upd R 6 (nI q) 6 = nI q := upd_eq
  refine k_aload_n F dX7_comesOn_14 15 rfl rfl rfl ?_
  refine k_aload_n F dX7_comesOn_15 16 rfl rfl rfl ?_
  refine m_get F 0 (by decide) q3592 rfl dX7_comesOn_16 19 rfl hM rfl ?_
  refine k_bipush (v := 6) F dX7_comesOn_19 21 rfl (by decide) ?_
  refine m_ld F dX7_comesOn_21 22 rfl hM (6) (by first | (with_reducible rfl) | (simp only [nI_lit, pk_mul, nI_add])) (by omega) ?_
  refine k_iconst (v := 2) F dX7_comesOn_22 23 rfl (by decide) ?_
  refine k_iconst (v := 0) F dX7_comesOn_23 24 rfl (by decide) ?_
  rw [e6]
  refine k_callN F kd_X7_putPhase q3571 q194 (kInvV (Bs := [_, _, _]) F kcX7 q3568 q3570 qs91 kd_X7_putPhase q3571 dX7_comesOn_24 (kHs.of hM.1) rfl (by decide)) (zX7_putPhase F.st hM q 2 0 (by omega)) 27 rfl (Nat.le_of_ble_eq_true rfl) (by first | exact Nat.le_of_ble_eq_true rfl | omega) (by first | exact Nat.le_of_ble_eq_true rfl | omega) (by first | exact Nat.le_of_ble_eq_true rfl | omega) (by first | exact Nat.le_of_ble_eq_true rfl | omega) (fun h1 hr1 => ?_)
  obtain ⟨hM, hK9⟩ := hr1
  have hK := hK.tr hK9
  have e6 : upd (upd R 6 (nI q)) (129 + 12 * q + 2) 0 6 = nI q := by rw [upd_ne (by omega)]; exact e6
  refine k_aload_n F dX7_comesOn_27 28 rfl rfl rfl ?_
  refine k_aload_n F dX7_comesOn_28 29 rfl rfl rfl ?_
  refine m_get F 0 (by decide) q3592 rfl dX7_comesOn_29 32 rfl hM rfl ?_
  refine k_bipush (v := 6) F dX7_comesOn_32 34 rfl (by decide) ?_
  refine m_ld F dX7_comesOn_34 35 rfl hM (6) (by first | (with_reducible rfl) | (simp only [nI_lit, pk_mul, nI_add])) (by omega) ?_
  refine k_iconst (v := 3) F dX7_comesOn_35 36 rfl (by decide) ?_
  refine k_aload_n F dX7_comesOn_36 37 rfl rfl rfl ?_
  refine k_aload_n F dX7_comesOn_37 38 rfl rfl rfl ?_
  refine m_get F 0 (by decide) q3592 rfl dX7_comesOn_38 41 rfl hM rfl ?_
  refine k_bipush (v := 6) F dX7_comesOn_41 43 rfl (by decide) ?_
  refine m_ld F dX7_comesOn_43 44 rfl hM (6) (by first | (with_reducible rfl) | (simp only [nI_lit, pk_mul, nI_add])) (by omega) ?_
  refine k_iconst (v := 3) F dX7_comesOn_44 45 rfl (by decide) ?_
  rw [e6]
  refine k_callV F kd_X7_ofPhase q3587 q194 (kInvV (Bs := [_, _]) F kcX7 q3584 q3586 qs95 kd_X7_ofPhase q3587 dX7_comesOn_45 (kHs.of hM.1) rfl (by decide)) (zX7_ofPhase F.st hM q 3 (by omega)) 48 rfl (Nat.le_of_ble_eq_true rfl) (by first | exact Nat.le_of_ble_eq_true rfl | omega) (by first | exact Nat.le_of_ble_eq_true rfl | omega) (by first | exact Nat.le_of_ble_eq_true rfl | omega) (by first | exact Nat.le_of_ble_eq_true rfl | omega) (fun r2 h2 hr2 => ?_)
  obtain ⟨rfl, rfl⟩ := hr2
  refine k_iconst (v := 1) F dX7_comesOn_48 49 rfl (by decide) ?_
  refine k_iadd F dX7_comesOn_49 50 rfl ?_
  refine k_callN F kd_X7_putPhase q3571 q194 (kInvV (Bs := [_, _, _]) F kcX7 q3568 q3570 qs91 kd_X7_putPhase q3571 dX7_comesOn_50 (kHs.of hM.1) rfl (by decide)) (zX7_putPhase F.st hM q 3 _ (by omega)) 53 rfl (Nat.le_of_ble_eq_true rfl) (by first | exact Nat.le_of_ble_eq_true rfl | omega) (by first | exact Nat.le_of_ble_eq_true rfl | omega) (by first | exact Nat.le_of_ble_eq_true rfl | omega) (by first | exact Nat.le_of_ble_eq_true rfl | omega) (fun h3 hr3 => ?_)
  obtain ⟨hM, hK9⟩ := hr3
  have hK := hK.tr hK9
  refine k_aload_n F dX7_comesOn_53 54 rfl rfl rfl ?_
  refine k_iconst (v := 3) F dX7_comesOn_54 55 rfl (by decide) ?_
  refine k_iconst (v := 1) F dX7_comesOn_55 56 rfl (by decide) ?_
  refine k_callN F kd_X7_counts q3757 q194 (kInvV (Bs := [_, _]) F kcX7 q3754 q3756 qs110 kd_X7_counts q3757 dX7_comesOn_56 (kHs.of hM.1) rfl (by decide)) (zX7_counts F.st hM 3 _ (by omega)) 59 rfl (Nat.le_of_ble_eq_true rfl) (by first | exact Nat.le_of_ble_eq_true rfl | omega) (by first | exact Nat.le_of_ble_eq_true rfl | omega) (by first | exact Nat.le_of_ble_eq_true rfl | omega) (by first | exact Nat.le_of_ble_eq_true rfl | omega) (fun h4 hr4 => ?_)
  obtain ⟨hM, hK9⟩ := hr4
  have hK := hK.tr hK9
  refine k_aload_n F dX7_comesOn_59 60 rfl rfl rfl ?_
  refine m_get F 0 (by decide) q3592 rfl dX7_comesOn_60 63 rfl hM rfl ?_
  refine k_bipush (v := 7) F dX7_comesOn_63 65 rfl (by decide) ?_
  refine k_iconst (v := (-1)) F dX7_comesOn_65 66 rfl (by decide) ?_
  refine m_st F dX7_comesOn_66 67 rfl hM hK (7) (by first | (with_reducible rfl) | (simp only [nI_lit, pk_mul, nI_add])) (by omega) (fun h9 hM hK => ?_)
  refine k_aload_n F dX7_comesOn_67 68 rfl rfl rfl ?_
  refine m_get F 0 (by decide) q3592 rfl dX7_comesOn_68 71 rfl hM rfl ?_
  refine k_bipush (v := 8) F dX7_comesOn_71 73 rfl (by decide) ?_
  refine k_iconst (v := 0) F dX7_comesOn_73 74 rfl (by decide) ?_
  refine m_st F dX7_comesOn_74 75 rfl hM hK (8) (by first | (with_reducible rfl) | (simp only [nI_lit, pk_mul, nI_add])) (by omega) (fun h9 hM hK => ?_)
  refine k_aload_n F dX7_comesOn_75 76 rfl rfl rfl ?_
  refine m_get F 0 (by decide) q3592 rfl dX7_comesOn_76 79 rfl hM rfl ?_
  refine k_bipush (v := 9) F dX7_comesOn_79 81 rfl (by decide) ?_
  refine k_iconst (v := 0) F dX7_comesOn_81 82 rfl (by decide) ?_
  refine m_st F dX7_comesOn_82 83 rfl hM hK (9) (by first | (with_reducible rfl) | (simp only [nI_lit, pk_mul, nI_add])) (by omega) (fun h9 hM hK => ?_)
  exact k_vret F dX7_comesOn_83 (by first | exact Nat.le_of_ble_eq_true rfl | omega) (by first | exact Nat.le_of_ble_eq_true rfl | omega) ⟨hM, hK⟩
set_option maxHeartbeats 4000000 in
set_option maxRecDepth 100000 in
theorem zX7_tick {l : Launch} {g : kG} (S : kStart l g) {h : kH} {m : Nat} {ad : Nat → Nat} {sc R : Nat → Int32} {ar : Nat → Nat → Int32} (hM : MW h m ad sc R ar) (hR : RT R) : kMet l g yX7_tick (Cond.code yX7_tick cX7_tick 2 (Option.none : Option Jvm.ClassFile.FieldType)) 7 0 0 [.ref m] h (mDo h m ad sc (tickF R) ar) := by
  refine kEnter S kd_X7_tick (Nat.le_of_ble_eq_true rfl) (fun x F hxl hxg => ?_)
  subst hxl; subst hxg
  have hlv : lv_args 0 [.ref m] = [(0, .ref m)] := rfl
  rw [hlv]
  have hK : kKp (mOwn m) h h := kKp.rf
  obtain ⟨hV, hc, hn⟩ := id hR
  obtain ⟨r1, r2, r3, r4, r5, r6, r7, r8⟩ := id hV
  refine k_aload_n F dX7_tick_0 1 rfl rfl rfl ?_
  refine m_get F 0 (by decide) q3592 rfl dX7_tick_1 4 rfl hM rfl ?_
  refine k_iconst (v := 5) F dX7_tick_4 5 rfl (by decide) ?_
  refine k_dup2_11 F dX7_tick_5 6 rfl rfl rfl ?_
  refine m_ld F dX7_tick_6 7 rfl hM (5) (by first | (with_reducible rfl) | (simp only [nI_lit, pk_mul, nI_add])) (by omega) ?_
  refine k_iconst (v := 1) F dX7_tick_7 8 rfl (by decide) ?_
  refine k_iadd F dX7_tick_8 9 rfl ?_
  refine m_st F dX7_tick_9 10 rfl hM hK (5) (by first | (with_reducible rfl) | (simp only [nI_lit, pk_mul, nI_add])) (by omega) (fun h9 hM hK => ?_)
  refine k_aload_n F dX7_tick_10 11 rfl rfl rfl ?_
  refine m_get F 0 (by decide) q3592 rfl dX7_tick_11 14 rfl hM rfl ?_
  refine k_bipush (v := 8) F dX7_tick_14 16 rfl (by decide) ?_
  refine m_ld F dX7_tick_16 17 rfl hM (8) (by first | (with_reducible rfl) | (simp only [nI_lit, pk_mul, nI_add])) (by omega) ?_
  have tail5 : ∀ h1, MW h1 m ad sc (tick3 R) ar → kKp (mOwn m) h h1 → kW x 0 0 h1 95 [(0, .ref m)] [] := by
    intro h1 hM hK
    have hR5 := hR.at3
    obtain ⟨hV5, hc5, hn5⟩ := id hR5
    show kW x 0 0 h1 95 _ _
    refine k_aload_n F dX7_tick_95 96 rfl rfl rfl ?_
    refine m_get F 0 (by decide) q3592 rfl dX7_tick_96 99 rfl hM rfl ?_
    refine k_bipush (v := 8) F dX7_tick_99 101 rfl (by decide) ?_
    refine m_ld F dX7_tick_101 102 rfl hM (8) (by first | (with_reducible rfl) | (simp only [nI_lit, pk_mul, nI_add])) (by omega) ?_
    refine k_ifne F dX7_tick_102 105 112 rfl (by decide) (fun c_a => ?_) (fun c_a => ?_)
    · refine k_aload_n F dX7_tick_112 113 rfl rfl rfl ?_
      refine m_get F 0 (by decide) q3592 rfl dX7_tick_113 116 rfl hM rfl ?_
      refine k_bipush (v := 8) F dX7_tick_116 118 rfl (by decide) ?_
      refine m_ld F dX7_tick_118 119 rfl hM (8) (by first | (with_reducible rfl) | (simp only [nI_lit, pk_mul, nI_add])) (by omega) ?_
      refine k_iconst (v := 2) F dX7_tick_119 120 rfl (by decide) ?_
      refine k_icmpne F dX7_tick_120 123 130 rfl (by decide) (fun c_b => ?_) (fun c_b => ?_)
      · refine k_aload_n F dX7_tick_130 131 rfl rfl rfl ?_
        refine m_get F 0 (by decide) q3592 rfl dX7_tick_131 134 rfl hM rfl ?_
        refine k_bipush (v := 9) F dX7_tick_134 136 rfl (by decide) ?_
        refine m_ld F dX7_tick_136 137 rfl hM (9) (by first | (with_reducible rfl) | (simp only [nI_lit, pk_mul, nI_add])) (by omega) ?_
        refine k_aload_n F dX7_tick_137 138 rfl rfl rfl ?_
        refine m_get F 0 (by decide) q3592 rfl dX7_tick_138 141 rfl hM rfl ?_
        refine k_iconst (v := 0) F dX7_tick_141 142 rfl (by decide) ?_
        refine m_ld F dX7_tick_142 143 rfl hM (0) (by first | (with_reducible rfl) | (simp only [nI_lit, pk_mul, nI_add])) (by omega) ?_
        refine k_icmplt F dX7_tick_143 146 162 rfl (by decide) (fun c_d => ?_) (fun c_d => ?_)
        · exact k_vret F dX7_tick_162 (by first | exact Nat.le_of_ble_eq_true rfl | omega) (by first | exact Nat.le_of_ble_eq_true rfl | omega) ⟨by unfold tickF tick5; rw [if_neg c_a, if_neg c_b, if_neg (Int32.not_le.mpr c_d)]; exact hM, hK⟩
        · refine k_aload_n F dX7_tick_146 147 rfl rfl rfl ?_
          refine m_get F 0 (by decide) q3592 rfl dX7_tick_147 150 rfl hM rfl ?_
          refine k_bipush (v := 8) F dX7_tick_150 152 rfl (by decide) ?_
          refine k_iconst (v := 2) F dX7_tick_152 153 rfl (by decide) ?_
          refine m_st F dX7_tick_153 154 rfl hM hK (8) (by first | (with_reducible rfl) | (simp only [nI_lit, pk_mul, nI_add])) (by omega) (fun h9 hM hK => ?_)
          refine k_aload_n F dX7_tick_154 155 rfl rfl rfl ?_
          refine m_get F 0 (by decide) q3592 rfl dX7_tick_155 158 rfl hM rfl ?_
          refine k_bipush (v := 9) F dX7_tick_158 160 rfl (by decide) ?_
          refine k_iconst (v := 0) F dX7_tick_160 161 rfl (by decide) ?_
          refine m_st F dX7_tick_161 162 rfl hM hK (9) (by first | (with_reducible rfl) | (simp only [nI_lit, pk_mul, nI_add])) (by omega) (fun h9 hM hK => ?_)
          exact k_vret F dX7_tick_162 (by first | exact Nat.le_of_ble_eq_true rfl | omega) (by first | exact Nat.le_of_ble_eq_true rfl | omega) ⟨by unfold tickF tick5; rw [if_neg c_a, if_neg c_b, if_pos (Int32.not_lt.mp c_d)]; exact hM, hK⟩
      · obtain ⟨q, hq⟩ := Option.ne_none_iff_exists'.mp (hn5 c_a)
        have h7 : tick3 R 7 = nI q := by rw [hV5.2.2.2.2.2.2.1, hq]; rfl
        refine k_aload_n F dX7_tick_123 124 rfl rfl rfl ?_
        refine k_callN F kd_X7_comesOn q3822 q194 (kInvV (Bs := []) F kcX7 q3819 q3821 qs126 kd_X7_comesOn q3822 dX7_tick_124 (kHs.of hM.1) rfl (by decide)) (zX7_comesOn F.st hM q (hV5.2.2.2.2.2.2.2 q hq) h7) 127 rfl (Nat.le_of_ble_eq_true rfl) (by first | exact Nat.le_of_ble_eq_true rfl | omega) (by first | exact Nat.le_of_ble_eq_true rfl | omega) (by first | exact Nat.le_of_ble_eq_true rfl | omega) (by first | exact Nat.le_of_ble_eq_true rfl | omega) (fun h1 hr1 => ?_)
        obtain ⟨hM, hK9⟩ := hr1
        have hK := hK.tr hK9
        refine k_goto F dX7_tick_127 162 (by decide) ?_
        have ef : tickF R = comesF (tick3 R) q := by
          unfold tickF tick5
          rw [if_neg c_a, if_pos c_b, hq]
        exact k_vret F dX7_tick_162 (by first | exact Nat.le_of_ble_eq_true rfl | omega) (by first | exact Nat.le_of_ble_eq_true rfl | omega) ⟨by rw [ef]; exact hM, hK⟩
    · refine k_aload_n F dX7_tick_105 106 rfl rfl rfl ?_
      refine k_callN F kd_X7_endsGreen q3785 q194 (kInvV (Bs := []) F kcX7 q3782 q3784 qs117 kd_X7_endsGreen q3785 dX7_tick_106 (kHs.of hM.1) rfl (by decide)) (zX7_endsGreen F.st hM hV5) 109 rfl (Nat.le_of_ble_eq_true rfl) (by first | exact Nat.le_of_ble_eq_true rfl | omega) (by first | exact Nat.le_of_ble_eq_true rfl | omega) (by first | exact Nat.le_of_ble_eq_true rfl | omega) (by first | exact Nat.le_of_ble_eq_true rfl | omega) (fun h2 hr2 => ?_)
      obtain ⟨hM, hK9⟩ := hr2
      have hK := hK.tr hK9
      refine k_goto F dX7_tick_109 162 (by decide) ?_
      exact k_vret F dX7_tick_162 (by first | exact Nat.le_of_ble_eq_true rfl | omega) (by first | exact Nat.le_of_ble_eq_true rfl | omega) ⟨by unfold tickF tick5; rw [if_pos c_a]; exact hM, hK⟩
  have tail2 : ∀ h1, MW h1 m ad sc (tick2 (tick1 R)) ar → kKp (mOwn m) h h1 → kW x 0 0 h1 27 [(0, .ref m)] [] := by
    intro h1 hM hK
    refine k_iconst (v := 0) F dX7_tick_27 28 rfl (by decide) ?_
    refine k_istore_n (lv' := [(0, _), (1, _)]) F dX7_tick_28 29 rfl rfl (Nat.le_of_ble_eq_true rfl) rfl rfl rfl ?_
    have lo : ∀ n j, j < 10 → j ≠ 5 → armsTo (tick2 (tick1 R)) n j = R j := fun n j hj h5 => by
      rw [armsTo_lo hj, tick2_ne (by omega)]
      exact upd_ne h5
    have hcs : ∀ a, a < 8 → ∃ c, c ≤ 99 ∧ mOf (tick2 (tick1 R)) a 3 = nI c := fun a ha => by
      obtain ⟨c, hc, e⟩ := hc a ha
      refine ⟨c, hc, ?_⟩
      unfold mOf
      rw [tick2_ne (by omega)]
      unfold tick1
      rw [upd_ne (by omega)]
      exact e
    suffices hl : ∀ j, j ≤ rA R → ∀ h1, MW h1 m ad sc (armsTo (tick2 (tick1 R)) j) ar → kKp (mOwn m) h h1 → kW x 0 0 h1 29 [(0, .ref m), (1, .int (nI j))] [] from hl 0 (Nat.zero_le _) _ hM hK
    refine kUpTo (Q := fun j => ∀ h1, MW h1 m ad sc (armsTo (tick2 (tick1 R)) j) ar → kKp (mOwn m) h h1 → kW x 0 0 h1 29 [(0, .ref m), (1, .int (nI j))] []) (rA R) ?_ ?_
    · intro h1 hM hK
      refine k_iload_n F dX7_tick_29 30 rfl rfl rfl ?_
      refine k_aload_n F dX7_tick_30 31 rfl rfl rfl ?_
      refine m_get F 0 (by decide) q3592 rfl dX7_tick_31 34 rfl hM rfl ?_
      refine k_iconst (v := 3) F dX7_tick_34 35 rfl (by decide) ?_
      refine m_ld F dX7_tick_35 36 rfl hM (3) (by first | (with_reducible rfl) | (simp only [nI_lit, pk_mul, nI_add])) (by omega) ?_
      rw [lo _ 3 (by omega) (by omega), r1]
      refine k_icmpge F dX7_tick_36 39 84 rfl (by decide) (fun c_e => ?_) (fun c_e => ?_)
      · refine k_aload_n F dX7_tick_84 85 rfl rfl rfl ?_
        refine m_get F 0 (by decide) q3592 rfl dX7_tick_85 88 rfl hM rfl ?_
        refine k_bipush (v := 9) F dX7_tick_88 90 rfl (by decide) ?_
        refine k_dup2_11 F dX7_tick_90 91 rfl rfl rfl ?_
        refine m_ld F dX7_tick_91 92 rfl hM (9) (by first | (with_reducible rfl) | (simp only [nI_lit, pk_mul, nI_add])) (by omega) ?_
        refine k_iconst (v := 1) F dX7_tick_92 93 rfl (by decide) ?_
        refine k_iadd F dX7_tick_93 94 rfl ?_
        refine m_st F dX7_tick_94 95 rfl hM hK (9) (by first | (with_reducible rfl) | (simp only [nI_lit, pk_mul, nI_add])) (by omega) (fun h9 hM hK => ?_)
        refine kW.keep (lv' := [(0, _)]) [0] rfl ?_
        exact tail5 _ hM hK
      · exact absurd (by rw [nI_leE (by omega) (by omega)]; omega) c_e
    · intro j hj ih h1 hM hK
      refine k_iload_n F dX7_tick_29 30 rfl rfl rfl ?_
      refine k_aload_n F dX7_tick_30 31 rfl rfl rfl ?_
      refine m_get F 0 (by decide) q3592 rfl dX7_tick_31 34 rfl hM rfl ?_
      refine k_iconst (v := 3) F dX7_tick_34 35 rfl (by decide) ?_
      refine m_ld F dX7_tick_35 36 rfl hM (3) (by first | (with_reducible rfl) | (simp only [nI_lit, pk_mul, nI_add])) (by omega) ?_
      rw [lo _ 3 (by omega) (by omega), r1]
      refine k_icmpge F dX7_tick_36 39 84 rfl (by decide) (fun c_f => ?_) (fun c_f => ?_)
      · rw [nI_leE (by omega) (by omega)] at c_f
        omega
      · have hV9 : RV (armsTo (tick2 (tick1 R)) j) := hV.of (lo _ 3 (by omega) (by omega)) (lo _ 4 (by omega) (by omega)) (lo _ 6 (by omega) (by omega)) (lo _ 7 (by omega) (by omega))
        refine k_aload_n F dX7_tick_39 40 rfl rfl rfl ?_
        refine k_iload_n F dX7_tick_40 41 rfl rfl rfl ?_
        refine k_callV F kd_X7_lightOf q3773 q194 (kInvV (Bs := [_]) F kcX7 q3770 q3772 qs114 kd_X7_lightOf q3773 dX7_tick_41 (kHs.of hM.1) rfl (by decide)) (zX7_lightOf F.st hM hV9 j (by omega)) 44 rfl (Nat.le_of_ble_eq_true rfl) (by first | exact Nat.le_of_ble_eq_true rfl | omega) (by first | exact Nat.le_of_ble_eq_true rfl | omega) (by first | exact Nat.le_of_ble_eq_true rfl | omega) (by first | exact Nat.le_of_ble_eq_true rfl | omega) (fun r3 h3 hr3 => ?_)
        obtain ⟨rfl, rfl⟩ := hr3
        refine k_ifeq F dX7_tick_44 47 50 rfl (by decide) (fun c_g => ?_) (fun c_g => ?_)
        · refine k_aload_n F dX7_tick_50 51 rfl rfl rfl ?_
          refine k_iload_n F dX7_tick_51 52 rfl rfl rfl ?_
          refine k_iconst (v := 5) F dX7_tick_52 53 rfl (by decide) ?_
          refine k_aload_n F dX7_tick_53 54 rfl rfl rfl ?_
          refine k_iload_n F dX7_tick_54 55 rfl rfl rfl ?_
          refine k_iconst (v := 5) F dX7_tick_55 56 rfl (by decide) ?_
          refine k_callV F kd_X7_of q3549 q194 (kInvV (Bs := [_, _]) F kcX7 q3546 q3548 qs86 kd_X7_of q3549 dX7_tick_56 (kHs.of hM.1) rfl (by decide)) (zX7_of F.st hM j 5 (by omega)) 59 rfl (Nat.le_of_ble_eq_true rfl) (by first | exact Nat.le_of_ble_eq_true rfl | omega) (by first | exact Nat.le_of_ble_eq_true rfl | omega) (by first | exact Nat.le_of_ble_eq_true rfl | omega) (by first | exact Nat.le_of_ble_eq_true rfl | omega) (fun r4 h4 hr4 => ?_)
          obtain ⟨rfl, rfl⟩ := hr4
          refine k_iconst (v := 1) F dX7_tick_59 60 rfl (by decide) ?_
          refine k_iadd F dX7_tick_60 61 rfl ?_
          refine k_callN F kd_X7_puts q3553 q194 (kInvV (Bs := [_, _, _]) F kcX7 q3550 q3552 qs87 kd_X7_puts q3553 dX7_tick_61 (kHs.of hM.1) rfl (by decide)) (zX7_puts F.st hM j 5 _ (by omega)) 64 rfl (Nat.le_of_ble_eq_true rfl) (by first | exact Nat.le_of_ble_eq_true rfl | omega) (by first | exact Nat.le_of_ble_eq_true rfl | omega) (by first | exact Nat.le_of_ble_eq_true rfl | omega) (by first | exact Nat.le_of_ble_eq_true rfl | omega) (fun h5 hr5 => ?_)
          obtain ⟨hM, hK9⟩ := hr5
          have hK := hK.tr hK9
          refine k_aload_n F dX7_tick_64 65 rfl rfl rfl ?_
          refine k_iload_n F dX7_tick_65 66 rfl rfl rfl ?_
          refine k_iconst (v := 3) F dX7_tick_66 67 rfl (by decide) ?_
          refine k_callV F kd_X7_of q3549 q194 (kInvV (Bs := [_, _]) F kcX7 q3546 q3548 qs86 kd_X7_of q3549 dX7_tick_67 (kHs.of hM.1) rfl (by decide)) (zX7_of F.st hM j 3 (by omega)) 70 rfl (Nat.le_of_ble_eq_true rfl) (by first | exact Nat.le_of_ble_eq_true rfl | omega) (by first | exact Nat.le_of_ble_eq_true rfl | omega) (by first | exact Nat.le_of_ble_eq_true rfl | omega) (by first | exact Nat.le_of_ble_eq_true rfl | omega) (fun r6 h6 hr6 => ?_)
          obtain ⟨rfl, rfl⟩ := hr6
          refine k_ifle F dX7_tick_70 73 78 rfl (by decide) (fun c_i => ?_) (fun c_i => ?_)
          · refine k_iinc (e := 1) (lv' := [(0, _), (1, _)]) F dX7_tick_78 81 rfl rfl (by decide) rfl (Nat.le_of_ble_eq_true rfl) rfl rfl rfl ?_
            refine k_goto F dX7_tick_81 29 (by decide) ?_
            rw [nI_1]
            refine ih _ ?_ hK
            show MW _ m ad sc (armStep (armsTo (tick2 (tick1 R)) j) j) ar
            unfold armStep
            rw [if_pos c_g, if_neg]
            · exact hM
            · intro q
              refine absurd ?_ (Int32.not_lt.mpr c_i)
              unfold mOf
              rw [upd_ne (by omega)]
              exact q
          · refine k_aload_n F dX7_tick_73 74 rfl rfl rfl ?_
            refine k_iload_n F dX7_tick_74 75 rfl rfl rfl ?_
            have e3 : mOf (upd (armsTo (tick2 (tick1 R)) j) (17 + 6 * j + 5) (mOf (armsTo (tick2 (tick1 R)) j) j 5 + 1)) j 3 = mOf (armsTo (tick2 (tick1 R)) j) j 3 := by
              unfold mOf
              rw [upd_ne (by omega)]
            rw [e3] at c_i
            have hcc : ∃ c, 0 < c ∧ c ≤ 99 ∧ mOf (upd (armsTo (tick2 (tick1 R)) j) (17 + 6 * j + 5) (mOf (armsTo (tick2 (tick1 R)) j) j 5 + 1)) j 3 = nI c := by
              obtain ⟨c, h1, h2⟩ := armsTo_c hcs j j (by omega)
              rw [h2] at c_i
              refine ⟨c, ?_, h1, by rw [e3]; exact h2⟩
              have := Int32.not_le.mp c_i
              rw [nI_posE (by omega)] at this
              exact this
            refine k_callN F kd_X7_carGoes q3777 q194 (kInvV (Bs := [_]) F kcX7 q3774 q3776 qs115 kd_X7_carGoes q3777 dX7_tick_75 (kHs.of hM.1) rfl (by decide)) (zX7_carGoes F.st hM j (by omega) hcc) 78 rfl (Nat.le_of_ble_eq_true rfl) (by first | exact Nat.le_of_ble_eq_true rfl | omega) (by first | exact Nat.le_of_ble_eq_true rfl | omega) (by first | exact Nat.le_of_ble_eq_true rfl | omega) (by first | exact Nat.le_of_ble_eq_true rfl | omega) (fun h7 hr7 => ?_)
            obtain ⟨hM, hK9⟩ := hr7
            have hK := hK.tr hK9
            refine k_iinc (e := 1) (lv' := [(0, _), (1, _)]) F dX7_tick_78 81 rfl rfl (by decide) rfl (Nat.le_of_ble_eq_true rfl) rfl rfl rfl ?_
            refine k_goto F dX7_tick_81 29 (by decide) ?_
            rw [nI_1]
            refine ih _ ?_ hK
            show MW _ m ad sc (armStep (armsTo (tick2 (tick1 R)) j) j) ar
            unfold armStep
            rw [if_pos c_g, if_pos (Int32.not_le.mp c_i)]
            exact hM
        · refine k_goto F dX7_tick_47 78 (by decide) ?_
          refine k_iinc (e := 1) (lv' := [(0, _), (1, _)]) F dX7_tick_78 81 rfl rfl (by decide) rfl (Nat.le_of_ble_eq_true rfl) rfl rfl rfl ?_
          refine k_goto F dX7_tick_81 29 (by decide) ?_
          rw [nI_1]
          refine ih _ ?_ hK
          show MW _ m ad sc (armStep (armsTo (tick2 (tick1 R)) j) j) ar
          unfold armStep
          rw [if_neg c_g]
          exact hM
  refine k_ifeq F dX7_tick_17 20 27 rfl (by decide) (fun c_z => ?_) (fun c_z => ?_)
  · replace c_z : tick1 R 8 = 0 := c_z
    refine tail2 _ ?_ hK
    unfold tick2
    rw [if_pos c_z]
    exact hM
  · refine k_aload_n F dX7_tick_20 21 rfl rfl rfl ?_
    refine k_bipush (v := 6) F dX7_tick_21 23 rfl (by decide) ?_
    refine k_iconst (v := 1) F dX7_tick_23 24 rfl (by decide) ?_
    refine k_callN F kd_X7_counts q3757 q194 (kInvV (Bs := [_, _]) F kcX7 q3754 q3756 qs110 kd_X7_counts q3757 dX7_tick_24 (kHs.of hM.1) rfl (by decide)) (zX7_counts F.st hM 6 _ (by omega)) 27 rfl (Nat.le_of_ble_eq_true rfl) (by first | exact Nat.le_of_ble_eq_true rfl | omega) (by first | exact Nat.le_of_ble_eq_true rfl | omega) (by first | exact Nat.le_of_ble_eq_true rfl | omega) (by first | exact Nat.le_of_ble_eq_true rfl | omega) (fun h8 hr8 => ?_)
    obtain ⟨hM, hK9⟩ := hr8
    have hK := hK.tr hK9
    replace c_z : ¬ tick1 R 8 = 0 := c_z
    refine tail2 _ ?_ hK
    unfold tick2
    rw [if_neg c_z]
    exact hM
set_option maxHeartbeats 4000000 in
set_option maxRecDepth 100000 in
theorem zX7_ticksPass {l : Launch} {g : kG} (S : kStart l g) {h : kH} {m : Nat} {ad : Nat → Nat} {sc R : Nat → Int32} {ar : Nat → Nat → Int32} (hM : MW h m ad sc R ar) (hR : RT R) (n : Nat) (hn : n < 2000) : kMet l g yX7_ticksPass (Cond.code yX7_ticksPass cX7_ticksPass 3 (Option.none : Option Jvm.ClassFile.FieldType)) 8 0 0 [.ref m, .int (nI n)] h (mDo h m ad sc (tickN n R) ar) := by
  refine kEnter S kd_X7_ticksPass (Nat.le_of_ble_eq_true rfl) (fun x F hxl hxg => ?_)
  subst hxl; subst hxg
  have hlv : lv_args 0 [.ref m, .int (nI n)] = [(0, .ref m), (1, .int (nI n))] := rfl
  rw [hlv]
  have hK : kKp (mOwn m) h h := kKp.rf
  refine k_iconst (v := 0) F dX7_ticksPass_0 1 rfl (by decide) ?_
  refine k_istore_n (lv' := [(0, _), (1, _), (2, _)]) F dX7_ticksPass_1 2 rfl rfl (Nat.le_of_ble_eq_true rfl) rfl rfl rfl ?_
  suffices hl : ∀ j, j ≤ n → ∀ h1, MW h1 m ad sc (tickN j R) ar → kKp (mOwn m) h h1 → kW x 0 0 h1 2 [(0, .ref m), (1, .int (nI n)), (2, .int (nI j))] [] from hl 0 (Nat.zero_le _) _ hM hK
  refine kUpTo (Q := fun j => ∀ h1, MW h1 m ad sc (tickN j R) ar → kKp (mOwn m) h h1 → kW x 0 0 h1 2 [(0, .ref m), (1, .int (nI n)), (2, .int (nI j))] []) n ?_ ?_
  · intro h1 hM hK
    refine k_iload_n F dX7_ticksPass_2 3 rfl rfl rfl ?_
    refine k_iload_n F dX7_ticksPass_3 4 rfl rfl rfl ?_
    refine k_icmpge F dX7_ticksPass_4 7 17 rfl (by decide) (fun c_a => ?_) (fun c_a => ?_)
    · exact k_vret F dX7_ticksPass_17 (by first | exact Nat.le_of_ble_eq_true rfl | omega) (by first | exact Nat.le_of_ble_eq_true rfl | omega) ⟨hM, hK⟩
    · exact absurd (by rw [nI_leE (by omega) (by omega)]; omega) c_a
  · intro j hj ih h1 hM hK
    refine k_iload_n F dX7_ticksPass_2 3 rfl rfl rfl ?_
    refine k_iload_n F dX7_ticksPass_3 4 rfl rfl rfl ?_
    refine k_icmpge F dX7_ticksPass_4 7 17 rfl (by decide) (fun c_b => ?_) (fun c_b => ?_)
    · rw [nI_leE (by omega) (by omega)] at c_b
      omega
    · refine k_aload_n F dX7_ticksPass_7 8 rfl rfl rfl ?_
      refine k_callN F kd_X7_tick q3769 q194 (kInvV (Bs := []) F kcX7 q3766 q3768 qs113 kd_X7_tick q3769 dX7_ticksPass_8 (kHs.of hM.1) rfl (by decide)) (zX7_tick F.st hM (hR.atN j)) 11 rfl (Nat.le_of_ble_eq_true rfl) (by first | exact Nat.le_of_ble_eq_true rfl | omega) (by first | exact Nat.le_of_ble_eq_true rfl | omega) (by first | exact Nat.le_of_ble_eq_true rfl | omega) (by first | exact Nat.le_of_ble_eq_true rfl | omega) (fun h1 hr1 => ?_)
      obtain ⟨hM, hK9⟩ := hr1
      have hK := hK.tr hK9
      refine k_iinc (e := 1) (lv' := [(0, _), (1, _), (2, _)]) F dX7_ticksPass_11 14 rfl rfl (by decide) rfl (Nat.le_of_ble_eq_true rfl) rfl rfl rfl ?_
      refine k_goto F dX7_ticksPass_14 2 (by decide) ?_
      rw [nI_1]
      exact ih _ (by rw [tickN_succ]; exact hM) hK
set_option maxHeartbeats 4000000 in
set_option maxRecDepth 100000 in
theorem zX7_allCars {l : Launch} {g : kG} (S : kStart l g) {h : kH} {m : Nat} {ad : Nat → Nat} {sc R : Nat → Int32} {ar : Nat → Nat → Int32} (hM : MW h m ad sc R ar) (hR : RV R) : kMet l g yX7_allCars (Cond.code yX7_allCars cX7_allCars 3 (Option.some Jvm.ClassFile.FieldType.int)) 2 0 0 [.ref m] h (mRd h (.int (sumTo (fun a => mOf R a 3) (rA R)))) := by
  refine kEnter S kd_X7_allCars (Nat.le_of_ble_eq_true rfl) (fun x F hxl hxg => ?_)
  subst hxl; subst hxg
  have hlv : lv_args 0 [.ref m] = [(0, .ref m)] := rfl
  rw [hlv]
  obtain ⟨r1, r2, r3, r4, r5, r6, r7, r8⟩ := id hR
  refine k_iconst (v := 0) F dX7_allCars_0 1 rfl (by decide) ?_
  refine k_istore_n (lv' := [(0, _), (1, _)]) F dX7_allCars_1 2 rfl rfl (Nat.le_of_ble_eq_true rfl) rfl rfl rfl ?_
  refine k_iconst (v := 0) F dX7_allCars_2 3 rfl (by decide) ?_
  refine k_istore_n (lv' := [(0, _), (1, _), (2, _)]) F dX7_allCars_3 4 rfl rfl (Nat.le_of_ble_eq_true rfl) rfl rfl rfl ?_
  refine kUpTo (Q := fun j => kW x 0 0 h 4 [(0, .ref m), (1, .int (sumTo (fun a => mOf R a 3) j)), (2, .int (nI j))] []) (rA R) ?_ ?_ 0 (Nat.zero_le _)
  · refine k_iload_n F dX7_allCars_4 5 rfl rfl rfl ?_
    refine k_aload_n F dX7_allCars_5 6 rfl rfl rfl ?_
    refine m_get F 0 (by decide) q3592 rfl dX7_allCars_6 9 rfl hM rfl ?_
    refine k_iconst (v := 3) F dX7_allCars_9 10 rfl (by decide) ?_
    refine m_ld F dX7_allCars_10 11 rfl hM (3) (by first | (with_reducible rfl) | (simp only [nI_lit, pk_mul, nI_add])) (by omega) ?_
    rw [r1]
    refine k_icmpge F dX7_allCars_11 14 29 rfl (by decide) (fun c_a => ?_) (fun c_a => ?_)
    · refine k_iload_n F dX7_allCars_29 30 rfl rfl rfl ?_
      exact k_iret F dX7_allCars_30 (by first | exact Nat.le_of_ble_eq_true rfl | omega) (by first | exact Nat.le_of_ble_eq_true rfl | omega) ⟨rfl, rfl⟩
    · exact absurd (by rw [nI_leE (by omega) (by omega)]; omega) c_a
  · intro j hj ih
    refine k_iload_n F dX7_allCars_4 5 rfl rfl rfl ?_
    refine k_aload_n F dX7_allCars_5 6 rfl rfl rfl ?_
    refine m_get F 0 (by decide) q3592 rfl dX7_allCars_6 9 rfl hM rfl ?_
    refine k_iconst (v := 3) F dX7_allCars_9 10 rfl (by decide) ?_
    refine m_ld F dX7_allCars_10 11 rfl hM (3) (by first | (with_reducible rfl) | (simp only [nI_lit, pk_mul, nI_add])) (by omega) ?_
    rw [r1]
    refine k_icmpge F dX7_allCars_11 14 29 rfl (by decide) (fun c_b => ?_) (fun c_b => ?_)
    · rw [nI_leE (by omega) (by omega)] at c_b
      omega
    · refine k_iload_n F dX7_allCars_14 15 rfl rfl rfl ?_
      refine k_aload_n F dX7_allCars_15 16 rfl rfl rfl ?_
      refine k_iload_n F dX7_allCars_16 17 rfl rfl rfl ?_
      refine k_iconst (v := 3) F dX7_allCars_17 18 rfl (by decide) ?_
      refine k_callV F kd_X7_of q3549 q194 (kInvV (Bs := [_, _]) F kcX7 q3546 q3548 qs86 kd_X7_of q3549 dX7_allCars_18 (kHs.of hM.1) rfl (by decide)) (zX7_of F.st hM j 3 (by omega)) 21 rfl (Nat.le_of_ble_eq_true rfl) (by first | exact Nat.le_of_ble_eq_true rfl | omega) (by first | exact Nat.le_of_ble_eq_true rfl | omega) (by first | exact Nat.le_of_ble_eq_true rfl | omega) (by first | exact Nat.le_of_ble_eq_true rfl | omega) (fun r1 h1 hr1 => ?_)
      obtain ⟨rfl, rfl⟩ := hr1
      refine k_iadd F dX7_allCars_21 22 rfl ?_
      refine k_istore_n (lv' := [(0, _), (1, _), (2, _)]) F dX7_allCars_22 23 rfl rfl (Nat.le_of_ble_eq_true rfl) rfl rfl rfl ?_
      refine k_iinc (e := 1) (lv' := [(0, _), (1, _), (2, _)]) F dX7_allCars_23 26 rfl rfl (by decide) rfl (Nat.le_of_ble_eq_true rfl) rfl rfl rfl ?_
      refine k_goto F dX7_allCars_26 4 (by decide) ?_
      rw [nI_1]
      exact ih
set_option maxHeartbeats 4000000 in
set_option maxRecDepth 100000 in
theorem zX7_tries {l : Launch} {g : kG} (S : kStart l g) {h : kH} {m : Nat} {ad : Nat → Nat} {sc R : Nat → Int32} {ar : Nat → Nat → Int32} (hM : MW h m ad sc R ar) : kMet l g yX7_tries (Cond.code yX7_tries cX7_tries 2 (Option.none : Option Jvm.ClassFile.FieldType)) 1 0 0 [.ref m] h (mDo h m ad sc R (setA ar 1 R)) := by
  refine kEnter S kd_X7_tries (Nat.le_of_ble_eq_true rfl) (fun x F hxl hxg => ?_)
  subst hxl; subst hxg
  have hlv : lv_args 0 [.ref m] = [(0, .ref m)] := rfl
  rw [hlv]
  have hK : kKp (mOwn m) h h := kKp.rf
  refine k_iconst (v := 0) F dX7_tries_0 1 rfl (by decide) ?_
  refine k_istore_n (lv' := [(0, _), (1, _)]) F dX7_tries_1 2 rfl rfl (Nat.le_of_ble_eq_true rfl) rfl rfl rfl ?_
  suffices hl : ∀ j, j ≤ 993 → ∀ h1, MW h1 m ad sc R (setA ar 1 (mixF R (ar 1) j)) → kKp (mOwn m) h h1 → kW x 0 0 h1 2 [(0, .ref m), (1, .int (nI j))] [] from hl 0 (Nat.zero_le _) _ (by rw [mixF_0, setA_self]; exact hM) hK
  refine kUpTo (Q := fun j => ∀ h1, MW h1 m ad sc R (setA ar 1 (mixF R (ar 1) j)) → kKp (mOwn m) h h1 → kW x 0 0 h1 2 [(0, .ref m), (1, .int (nI j))] []) 993 ?_ ?_
  · intro h1 hM hK
    refine k_iload_n F dX7_tries_2 3 rfl rfl rfl ?_
    refine k_sipush (v := 993) F dX7_tries_3 6 rfl (by decide) ?_
    refine k_icmpge F dX7_tries_6 9 27 rfl (by decide) (fun c_a => ?_) (fun c_a => ?_)
    · have hfin : MW h1 m ad sc R (setA ar 1 R) := hM.congr (fun _ _ => rfl) (fun k hk i hi => by
        unfold setA
        split
        · rename_i e
          subst e
          exact mixF_lt hi
        · rfl) (fun _ _ => rfl)
      exact k_vret F dX7_tries_27 (by first | exact Nat.le_of_ble_eq_true rfl | omega) (by first | exact Nat.le_of_ble_eq_true rfl | omega) ⟨hfin, hK⟩
    · exact absurd (by rw [show (993 : Int32) = nI 993 from rfl, nI_leE (by omega) (by omega)]; omega) c_a
  · intro j hj ih h1 hM hK
    refine k_iload_n F dX7_tries_2 3 rfl rfl rfl ?_
    refine k_sipush (v := 993) F dX7_tries_3 6 rfl (by decide) ?_
    refine k_icmpge F dX7_tries_6 9 27 rfl (by decide) (fun c_b => ?_) (fun c_b => ?_)
    · rw [show (993 : Int32) = nI 993 from rfl, nI_leE (by omega) (by omega)] at c_b
      omega
    · refine k_aload_n F dX7_tries_9 10 rfl rfl rfl ?_
      refine m_get F 1 (by decide) q3593 rfl dX7_tries_10 13 rfl hM rfl ?_
      refine k_iload_n F dX7_tries_13 14 rfl rfl rfl ?_
      refine k_aload_n F dX7_tries_14 15 rfl rfl rfl ?_
      refine m_get F 0 (by decide) q3592 rfl dX7_tries_15 18 rfl hM rfl ?_
      refine k_iload_n F dX7_tries_18 19 rfl rfl rfl ?_
      refine m_ld F dX7_tries_19 20 rfl hM (j) (by first | (with_reducible rfl) | (simp only [nI_lit, pk_mul, nI_add])) (by omega) ?_
      refine m_iast F _ (by rfl) dX7_tries_20 21 rfl hM hK (j) (by first | (with_reducible rfl) | (simp only [nI_lit, pk_mul, nI_add])) (by first | decide | omega | (simp only [mSz]; omega)) (fun h9 hM hK => ?_)
      refine k_iinc (e := 1) (lv' := [(0, _), (1, _)]) F dX7_tries_21 24 rfl rfl (by decide) rfl (Nat.le_of_ble_eq_true rfl) rfl rfl rfl ?_
      refine k_goto F dX7_tries_24 2 (by decide) ?_
      rw [nI_1]
      refine ih _ ?_ hK
      rw [setA_upd, mixF_succ] at hM
      exact hM
set_option maxHeartbeats 4000000 in
set_option maxRecDepth 100000 in
theorem zX7_back {l : Launch} {g : kG} (S : kStart l g) {h : kH} {m : Nat} {ad : Nat → Nat} {sc R : Nat → Int32} {ar : Nat → Nat → Int32} (hM : MW h m ad sc R ar) (v : Int32) : kMet l g yX7_back (Cond.code yX7_back cX7_back 3 (Option.some Jvm.ClassFile.FieldType.int)) 1 0 0 [.ref m, .int v] h (mDv h m ad sc (ar 1) ar (.int v)) := by
  refine kEnter S kd_X7_back (Nat.le_of_ble_eq_true rfl) (fun x F hxl hxg => ?_)
  subst hxl; subst hxg
  have hlv : lv_args 0 [.ref m, .int v] = [(0, .ref m), (1, .int v)] := rfl
  rw [hlv]
  have hK : kKp (mOwn m) h h := kKp.rf
  refine k_iconst (v := 0) F dX7_back_0 1 rfl (by decide) ?_
  refine k_istore_n (lv' := [(0, _), (1, _), (2, _)]) F dX7_back_1 2 rfl rfl (Nat.le_of_ble_eq_true rfl) rfl rfl rfl ?_
  suffices hl : ∀ j, j ≤ 993 → ∀ h1, MW h1 m ad sc (mixF (ar 1) R j) ar → kKp (mOwn m) h h1 → kW x 0 0 h1 2 [(0, .ref m), (1, .int v), (2, .int (nI j))] [] from hl 0 (Nat.zero_le _) _ (by rw [mixF_0]; exact hM) hK
  refine kUpTo (Q := fun j => ∀ h1, MW h1 m ad sc (mixF (ar 1) R j) ar → kKp (mOwn m) h h1 → kW x 0 0 h1 2 [(0, .ref m), (1, .int v), (2, .int (nI j))] []) 993 ?_ ?_
  · intro h1 hM hK
    refine k_iload_n F dX7_back_2 3 rfl rfl rfl ?_
    refine k_sipush (v := 993) F dX7_back_3 6 rfl (by decide) ?_
    refine k_icmpge F dX7_back_6 9 27 rfl (by decide) (fun c_a => ?_) (fun c_a => ?_)
    · refine k_iload_n F dX7_back_27 28 rfl rfl rfl ?_
      exact k_iret F dX7_back_28 (by first | exact Nat.le_of_ble_eq_true rfl | omega) (by first | exact Nat.le_of_ble_eq_true rfl | omega) ⟨rfl, hM.row (fun i hi => mixF_lt hi), hK⟩
    · exact absurd (by rw [show (993 : Int32) = nI 993 from rfl, nI_leE (by omega) (by omega)]; omega) c_a
  · intro j hj ih h1 hM hK
    refine k_iload_n F dX7_back_2 3 rfl rfl rfl ?_
    refine k_sipush (v := 993) F dX7_back_3 6 rfl (by decide) ?_
    refine k_icmpge F dX7_back_6 9 27 rfl (by decide) (fun c_b => ?_) (fun c_b => ?_)
    · rw [show (993 : Int32) = nI 993 from rfl, nI_leE (by omega) (by omega)] at c_b
      omega
    · refine k_aload_n F dX7_back_9 10 rfl rfl rfl ?_
      refine m_get F 0 (by decide) q3592 rfl dX7_back_10 13 rfl hM rfl ?_
      refine k_iload_n F dX7_back_13 14 rfl rfl rfl ?_
      refine k_aload_n F dX7_back_14 15 rfl rfl rfl ?_
      refine m_get F 1 (by decide) q3593 rfl dX7_back_15 18 rfl hM rfl ?_
      refine k_iload_n F dX7_back_18 19 rfl rfl rfl ?_
      refine m_iald F _ (by rfl) dX7_back_19 20 rfl hM (j) (by first | (with_reducible rfl) | (simp only [nI_lit, pk_mul, nI_add])) (by first | decide | omega | (simp only [mSz]; omega)) ?_
      refine m_st F dX7_back_20 21 rfl hM hK (j) (by first | (with_reducible rfl) | (simp only [nI_lit, pk_mul, nI_add])) (by omega) (fun h9 hM hK => ?_)
      refine k_iinc (e := 1) (lv' := [(0, _), (1, _), (2, _)]) F dX7_back_21 24 rfl rfl (by decide) rfl (Nat.le_of_ble_eq_true rfl) rfl rfl rfl ?_
      refine k_goto F dX7_back_24 2 (by decide) ?_
      rw [nI_1]
      refine ih _ ?_ hK
      rw [mixF_succ] at hM
      exact hM

