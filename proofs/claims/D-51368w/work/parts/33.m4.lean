/-! the reference: counts and questions -/
theorem kd_X7_phasesOf : kCd (Cond.code yX7_phasesOf cX7_phasesOf 4 (Option.some Jvm.ClassFile.FieldType.int)) yX7_phasesOf cX7_phasesOf 4 (Option.some Jvm.ClassFile.FieldType.int) [] := kCd_code (by decide +kernel)
theorem kd_X7_clashesOf : kCd (Cond.code yX7_clashesOf cX7_clashesOf 4 (Option.some Jvm.ClassFile.FieldType.int)) yX7_clashesOf cX7_clashesOf 4 (Option.some Jvm.ClassFile.FieldType.int) [] := kCd_code (by decide +kernel)
theorem kd_X7_armsOf : kCd (Cond.code yX7_armsOf cX7_armsOf 4 (Option.some Jvm.ClassFile.FieldType.int)) yX7_armsOf cX7_armsOf 4 (Option.some Jvm.ClassFile.FieldType.int) [] := kCd_code (by decide +kernel)
theorem kd_X7_isCalledFor : kCd (Cond.code yX7_isCalledFor cX7_isCalledFor 3 (Option.some Jvm.ClassFile.FieldType.boolean)) yX7_isCalledFor cX7_isCalledFor 3 (Option.some Jvm.ClassFile.FieldType.boolean) [] := kCd_code (by decide +kernel)
theorem kd_X7_reasonOf : kCd (Cond.code yX7_reasonOf cX7_reasonOf 2 (Option.some Jvm.ClassFile.FieldType.int)) yX7_reasonOf cX7_reasonOf 2 (Option.some Jvm.ClassFile.FieldType.int) [] := kCd_code (by decide +kernel)
theorem kd_X7_isMixed : kCd (Cond.code yX7_isMixed cX7_isMixed 4 (Option.some Jvm.ClassFile.FieldType.boolean)) yX7_isMixed cX7_isMixed 4 (Option.some Jvm.ClassFile.FieldType.boolean) [] := kCd_code (by decide +kernel)
theorem kd_X7_canJoin : kCd (Cond.code yX7_canJoin cX7_canJoin 4 (Option.some Jvm.ClassFile.FieldType.boolean)) yX7_canJoin cX7_canJoin 4 (Option.some Jvm.ClassFile.FieldType.boolean) [] := kCd_code (by decide +kernel)
theorem kd_X7_areOfOnePhase : kCd (Cond.code yX7_areOfOnePhase cX7_areOfOnePhase 4 (Option.some Jvm.ClassFile.FieldType.boolean)) yX7_areOfOnePhase cX7_areOfOnePhase 4 (Option.some Jvm.ClassFile.FieldType.boolean) [] := kCd_code (by decide +kernel)
set_option maxHeartbeats 4000000 in
set_option maxRecDepth 100000 in
theorem zX7_phasesOf {l : Launch} {g : kG} (S : kStart l g) {h : kH} {m : Nat} {ad : Nat → Nat} {sc R : Nat → Int32} {ar : Nat → Nat → Int32} (hM : MW h m ad sc R ar) (hR : RV R) (a : Nat) (ha : a < 8) : kMet l g yX7_phasesOf (Cond.code yX7_phasesOf cX7_phasesOf 4 (Option.some Jvm.ClassFile.FieldType.int)) 3 0 0 [.ref m, .int (nI a)] h (mRd h (.int (nI (cntB (fun p => mHas R p a) (rP R))))) := by
  refine kEnter S kd_X7_phasesOf (Nat.le_of_ble_eq_true rfl) (fun x F hxl hxg => ?_)
  subst hxl; subst hxg
  have hlv : lv_args 0 [.ref m, .int (nI a)] = [(0, .ref m), (1, .int (nI a))] := rfl
  rw [hlv]
  obtain ⟨r1, r2, r3, r4, r5, r6, r7, r8⟩ := id hR
  refine k_iconst (v := 0) F dX7_phasesOf_0 1 rfl (by decide) ?_
  refine k_istore_n (lv' := [(0, _), (1, _), (2, _)]) F dX7_phasesOf_1 2 rfl rfl (Nat.le_of_ble_eq_true rfl) rfl rfl rfl ?_
  refine k_iconst (v := 0) F dX7_phasesOf_2 3 rfl (by decide) ?_
  refine k_istore_n (lv' := [(0, _), (1, _), (2, _), (3, _)]) F dX7_phasesOf_3 4 rfl rfl (Nat.le_of_ble_eq_true rfl) rfl rfl rfl ?_
  refine kUpTo (Q := fun j => kW x 0 0 h 4 [(0, .ref m), (1, .int (nI a)), (2, .int (nI (cntB (fun p => mHas R p a) j))), (3, .int (nI j))] []) (rP R) ?_ ?_ 0 (Nat.zero_le _)
  · refine k_iload_n F dX7_phasesOf_4 5 rfl rfl rfl ?_
    refine k_aload_n F dX7_phasesOf_5 6 rfl rfl rfl ?_
    refine m_get F 0 (by decide) q3592 rfl dX7_phasesOf_6 9 rfl hM rfl ?_
    refine k_iconst (v := 4) F dX7_phasesOf_9 10 rfl (by decide) ?_
    refine m_ld F dX7_phasesOf_10 11 rfl hM (4) (by first | (with_reducible rfl) | (simp only [nI_lit, pk_mul, nI_add])) (by omega) ?_
    rw [r3]
    refine k_icmpge F dX7_phasesOf_11 14 32 rfl (by decide) (fun c_a => ?_) (fun c_a => ?_)
    · refine k_iload_n F dX7_phasesOf_32 33 rfl rfl rfl ?_
      exact k_iret F dX7_phasesOf_33 (by first | exact Nat.le_of_ble_eq_true rfl | omega) (by first | exact Nat.le_of_ble_eq_true rfl | omega) ⟨rfl, rfl⟩
    · exact absurd (by rw [nI_leE (by omega) (by omega)]; omega) c_a
  · intro j hj ih
    refine k_iload_n F dX7_phasesOf_4 5 rfl rfl rfl ?_
    refine k_aload_n F dX7_phasesOf_5 6 rfl rfl rfl ?_
    refine m_get F 0 (by decide) q3592 rfl dX7_phasesOf_6 9 rfl hM rfl ?_
    refine k_iconst (v := 4) F dX7_phasesOf_9 10 rfl (by decide) ?_
    refine m_ld F dX7_phasesOf_10 11 rfl hM (4) (by first | (with_reducible rfl) | (simp only [nI_lit, pk_mul, nI_add])) (by omega) ?_
    rw [r3]
    refine k_icmpge F dX7_phasesOf_11 14 32 rfl (by decide) (fun c_b => ?_) (fun c_b => ?_)
    · rw [nI_leE (by omega) (by omega)] at c_b
      omega
    · refine k_aload_n F dX7_phasesOf_14 15 rfl rfl rfl ?_
      refine k_iload_n F dX7_phasesOf_15 16 rfl rfl rfl ?_
      refine k_iload_n F dX7_phasesOf_16 17 rfl rfl rfl ?_
      refine k_callV F kd_X7_hasArm q3583 q194 (kInvV (Bs := [_, _]) F kcX7 q3580 q3582 qs94 kd_X7_hasArm q3583 dX7_phasesOf_17 (kHs.of hM.1) rfl (by decide)) (zX7_hasArm F.st hM j a (by omega)) 20 rfl (Nat.le_of_ble_eq_true rfl) (by first | exact Nat.le_of_ble_eq_true rfl | omega) (by first | exact Nat.le_of_ble_eq_true rfl | omega) (by first | exact Nat.le_of_ble_eq_true rfl | omega) (by first | exact Nat.le_of_ble_eq_true rfl | omega) (fun r1 h1 hr1 => ?_)
      obtain ⟨rfl, rfl⟩ := hr1
      refine k_ifeq F dX7_phasesOf_20 23 26 rfl (by decide) (fun c_d => ?_) (fun c_d => ?_)
      · rw [kB_0] at c_d
        refine k_iinc (e := 1) (lv' := [(0, _), (1, _), (2, _), (3, _)]) F dX7_phasesOf_26 29 rfl rfl (by decide) rfl (Nat.le_of_ble_eq_true rfl) rfl rfl rfl ?_
        refine k_goto F dX7_phasesOf_29 4 (by decide) ?_
        rw [nI_1]
        simpa [cntB, c_d] using ih
      · rw [kB_0, Bool.not_eq_false] at c_d
        refine k_iinc (e := 1) (lv' := [(0, _), (1, _), (2, _), (3, _)]) F dX7_phasesOf_23 26 rfl rfl (by decide) rfl (Nat.le_of_ble_eq_true rfl) rfl rfl rfl ?_
        refine k_iinc (e := 1) (lv' := [(0, _), (1, _), (2, _), (3, _)]) F dX7_phasesOf_26 29 rfl rfl (by decide) rfl (Nat.le_of_ble_eq_true rfl) rfl rfl rfl ?_
        refine k_goto F dX7_phasesOf_29 4 (by decide) ?_
        rw [nI_1, nI_1]
        simpa [cntB, c_d] using ih
set_option maxHeartbeats 4000000 in
set_option maxRecDepth 100000 in
theorem zX7_clashesOf {l : Launch} {g : kG} (S : kStart l g) {h : kH} {m : Nat} {ad : Nat → Nat} {sc R : Nat → Int32} {ar : Nat → Nat → Int32} (hM : MW h m ad sc R ar) (hR : RV R) (a : Nat) (ha : a < 8) : kMet l g yX7_clashesOf (Cond.code yX7_clashesOf cX7_clashesOf 4 (Option.some Jvm.ClassFile.FieldType.int)) 2 0 0 [.ref m, .int (nI a)] h (mRd h (.int (nI (cntB (fun b => mCl R a b) (rA R))))) := by
  refine kEnter S kd_X7_clashesOf (Nat.le_of_ble_eq_true rfl) (fun x F hxl hxg => ?_)
  subst hxl; subst hxg
  have hlv : lv_args 0 [.ref m, .int (nI a)] = [(0, .ref m), (1, .int (nI a))] := rfl
  rw [hlv]
  obtain ⟨r1, r2, r3, r4, r5, r6, r7, r8⟩ := id hR
  refine k_iconst (v := 0) F dX7_clashesOf_0 1 rfl (by decide) ?_
  refine k_istore_n (lv' := [(0, _), (1, _), (2, _)]) F dX7_clashesOf_1 2 rfl rfl (Nat.le_of_ble_eq_true rfl) rfl rfl rfl ?_
  refine k_iconst (v := 0) F dX7_clashesOf_2 3 rfl (by decide) ?_
  refine k_istore_n (lv' := [(0, _), (1, _), (2, _), (3, _)]) F dX7_clashesOf_3 4 rfl rfl (Nat.le_of_ble_eq_true rfl) rfl rfl rfl ?_
  refine kUpTo (Q := fun j => kW x 0 0 h 4 [(0, .ref m), (1, .int (nI a)), (2, .int (nI (cntB (fun b => mCl R a b) j))), (3, .int (nI j))] []) (rA R) ?_ ?_ 0 (Nat.zero_le _)
  · refine k_iload_n F dX7_clashesOf_4 5 rfl rfl rfl ?_
    refine k_aload_n F dX7_clashesOf_5 6 rfl rfl rfl ?_
    refine m_get F 0 (by decide) q3592 rfl dX7_clashesOf_6 9 rfl hM rfl ?_
    refine k_iconst (v := 3) F dX7_clashesOf_9 10 rfl (by decide) ?_
    refine m_ld F dX7_clashesOf_10 11 rfl hM (3) (by first | (with_reducible rfl) | (simp only [nI_lit, pk_mul, nI_add])) (by omega) ?_
    rw [r1]
    refine k_icmpge F dX7_clashesOf_11 14 32 rfl (by decide) (fun c_a => ?_) (fun c_a => ?_)
    · refine k_iload_n F dX7_clashesOf_32 33 rfl rfl rfl ?_
      exact k_iret F dX7_clashesOf_33 (by first | exact Nat.le_of_ble_eq_true rfl | omega) (by first | exact Nat.le_of_ble_eq_true rfl | omega) ⟨rfl, rfl⟩
    · exact absurd (by rw [nI_leE (by omega) (by omega)]; omega) c_a
  · intro j hj ih
    refine k_iload_n F dX7_clashesOf_4 5 rfl rfl rfl ?_
    refine k_aload_n F dX7_clashesOf_5 6 rfl rfl rfl ?_
    refine m_get F 0 (by decide) q3592 rfl dX7_clashesOf_6 9 rfl hM rfl ?_
    refine k_iconst (v := 3) F dX7_clashesOf_9 10 rfl (by decide) ?_
    refine m_ld F dX7_clashesOf_10 11 rfl hM (3) (by first | (with_reducible rfl) | (simp only [nI_lit, pk_mul, nI_add])) (by omega) ?_
    rw [r1]
    refine k_icmpge F dX7_clashesOf_11 14 32 rfl (by decide) (fun c_b => ?_) (fun c_b => ?_)
    · rw [nI_leE (by omega) (by omega)] at c_b
      omega
    · refine k_aload_n F dX7_clashesOf_14 15 rfl rfl rfl ?_
      refine k_iload_n F dX7_clashesOf_15 16 rfl rfl rfl ?_
      refine k_iload_n F dX7_clashesOf_16 17 rfl rfl rfl ?_
      refine k_callV F kd_X7_areClashing q3591 q194 (kInvV (Bs := [_, _]) F kcX7 q3588 q3590 qs96 kd_X7_areClashing q3591 dX7_clashesOf_17 (kHs.of hM.1) rfl (by decide)) (zX7_areClashing F.st hM a j (by omega)) 20 rfl (Nat.le_of_ble_eq_true rfl) (by first | exact Nat.le_of_ble_eq_true rfl | omega) (by first | exact Nat.le_of_ble_eq_true rfl | omega) (by first | exact Nat.le_of_ble_eq_true rfl | omega) (by first | exact Nat.le_of_ble_eq_true rfl | omega) (fun r1 h1 hr1 => ?_)
      obtain ⟨rfl, rfl⟩ := hr1
      refine k_ifeq F dX7_clashesOf_20 23 26 rfl (by decide) (fun c_d => ?_) (fun c_d => ?_)
      · rw [kB_0] at c_d
        refine k_iinc (e := 1) (lv' := [(0, _), (1, _), (2, _), (3, _)]) F dX7_clashesOf_26 29 rfl rfl (by decide) rfl (Nat.le_of_ble_eq_true rfl) rfl rfl rfl ?_
        refine k_goto F dX7_clashesOf_29 4 (by decide) ?_
        rw [nI_1]
        simpa [cntB, c_d] using ih
      · rw [kB_0, Bool.not_eq_false] at c_d
        refine k_iinc (e := 1) (lv' := [(0, _), (1, _), (2, _), (3, _)]) F dX7_clashesOf_23 26 rfl rfl (by decide) rfl (Nat.le_of_ble_eq_true rfl) rfl rfl rfl ?_
        refine k_iinc (e := 1) (lv' := [(0, _), (1, _), (2, _), (3, _)]) F dX7_clashesOf_26 29 rfl rfl (by decide) rfl (Nat.le_of_ble_eq_true rfl) rfl rfl rfl ?_
        refine k_goto F dX7_clashesOf_29 4 (by decide) ?_
        rw [nI_1, nI_1]
        simpa [cntB, c_d] using ih
set_option maxHeartbeats 4000000 in
set_option maxRecDepth 100000 in
theorem zX7_armsOf {l : Launch} {g : kG} (S : kStart l g) {h : kH} {m : Nat} {ad : Nat → Nat} {sc R : Nat → Int32} {ar : Nat → Nat → Int32} (hM : MW h m ad sc R ar) (hR : RV R) (a : Nat) (ha : a < 6) : kMet l g yX7_armsOf (Cond.code yX7_armsOf cX7_armsOf 4 (Option.some Jvm.ClassFile.FieldType.int)) 3 0 0 [.ref m, .int (nI a)] h (mRd h (.int (nI (cntB (fun b => mHas R a b) (rA R))))) := by
  refine kEnter S kd_X7_armsOf (Nat.le_of_ble_eq_true rfl) (fun x F hxl hxg => ?_)
  subst hxl; subst hxg
  have hlv : lv_args 0 [.ref m, .int (nI a)] = [(0, .ref m), (1, .int (nI a))] := rfl
  rw [hlv]
  obtain ⟨r1, r2, r3, r4, r5, r6, r7, r8⟩ := id hR
  refine k_iconst (v := 0) F dX7_armsOf_0 1 rfl (by decide) ?_
  refine k_istore_n (lv' := [(0, _), (1, _), (2, _)]) F dX7_armsOf_1 2 rfl rfl (Nat.le_of_ble_eq_true rfl) rfl rfl rfl ?_
  refine k_iconst (v := 0) F dX7_armsOf_2 3 rfl (by decide) ?_
  refine k_istore_n (lv' := [(0, _), (1, _), (2, _), (3, _)]) F dX7_armsOf_3 4 rfl rfl (Nat.le_of_ble_eq_true rfl) rfl rfl rfl ?_
  refine kUpTo (Q := fun j => kW x 0 0 h 4 [(0, .ref m), (1, .int (nI a)), (2, .int (nI (cntB (fun b => mHas R a b) j))), (3, .int (nI j))] []) (rA R) ?_ ?_ 0 (Nat.zero_le _)
  · refine k_iload_n F dX7_armsOf_4 5 rfl rfl rfl ?_
    refine k_aload_n F dX7_armsOf_5 6 rfl rfl rfl ?_
    refine m_get F 0 (by decide) q3592 rfl dX7_armsOf_6 9 rfl hM rfl ?_
    refine k_iconst (v := 3) F dX7_armsOf_9 10 rfl (by decide) ?_
    refine m_ld F dX7_armsOf_10 11 rfl hM (3) (by first | (with_reducible rfl) | (simp only [nI_lit, pk_mul, nI_add])) (by omega) ?_
    rw [r1]
    refine k_icmpge F dX7_armsOf_11 14 32 rfl (by decide) (fun c_a => ?_) (fun c_a => ?_)
    · refine k_iload_n F dX7_armsOf_32 33 rfl rfl rfl ?_
      exact k_iret F dX7_armsOf_33 (by first | exact Nat.le_of_ble_eq_true rfl | omega) (by first | exact Nat.le_of_ble_eq_true rfl | omega) ⟨rfl, rfl⟩
    · exact absurd (by rw [nI_leE (by omega) (by omega)]; omega) c_a
  · intro j hj ih
    refine k_iload_n F dX7_armsOf_4 5 rfl rfl rfl ?_
    refine k_aload_n F dX7_armsOf_5 6 rfl rfl rfl ?_
    refine m_get F 0 (by decide) q3592 rfl dX7_armsOf_6 9 rfl hM rfl ?_
    refine k_iconst (v := 3) F dX7_armsOf_9 10 rfl (by decide) ?_
    refine m_ld F dX7_armsOf_10 11 rfl hM (3) (by first | (with_reducible rfl) | (simp only [nI_lit, pk_mul, nI_add])) (by omega) ?_
    rw [r1]
    refine k_icmpge F dX7_armsOf_11 14 32 rfl (by decide) (fun c_b => ?_) (fun c_b => ?_)
    · rw [nI_leE (by omega) (by omega)] at c_b
      omega
    · refine k_aload_n F dX7_armsOf_14 15 rfl rfl rfl ?_
      refine k_iload_n F dX7_armsOf_15 16 rfl rfl rfl ?_
      refine k_iload_n F dX7_armsOf_16 17 rfl rfl rfl ?_
      refine k_callV F kd_X7_hasArm q3583 q194 (kInvV (Bs := [_, _]) F kcX7 q3580 q3582 qs94 kd_X7_hasArm q3583 dX7_armsOf_17 (kHs.of hM.1) rfl (by decide)) (zX7_hasArm F.st hM a j (by omega)) 20 rfl (Nat.le_of_ble_eq_true rfl) (by first | exact Nat.le_of_ble_eq_true rfl | omega) (by first | exact Nat.le_of_ble_eq_true rfl | omega) (by first | exact Nat.le_of_ble_eq_true rfl | omega) (by first | exact Nat.le_of_ble_eq_true rfl | omega) (fun r1 h1 hr1 => ?_)
      obtain ⟨rfl, rfl⟩ := hr1
      refine k_ifeq F dX7_armsOf_20 23 26 rfl (by decide) (fun c_d => ?_) (fun c_d => ?_)
      · rw [kB_0] at c_d
        refine k_iinc (e := 1) (lv' := [(0, _), (1, _), (2, _), (3, _)]) F dX7_armsOf_26 29 rfl rfl (by decide) rfl (Nat.le_of_ble_eq_true rfl) rfl rfl rfl ?_
        refine k_goto F dX7_armsOf_29 4 (by decide) ?_
        rw [nI_1]
        simpa [cntB, c_d] using ih
      · rw [kB_0, Bool.not_eq_false] at c_d
        refine k_iinc (e := 1) (lv' := [(0, _), (1, _), (2, _), (3, _)]) F dX7_armsOf_23 26 rfl rfl (by decide) rfl (Nat.le_of_ble_eq_true rfl) rfl rfl rfl ?_
        refine k_iinc (e := 1) (lv' := [(0, _), (1, _), (2, _), (3, _)]) F dX7_armsOf_26 29 rfl rfl (by decide) rfl (Nat.le_of_ble_eq_true rfl) rfl rfl rfl ?_
        refine k_goto F dX7_armsOf_29 4 (by decide) ?_
        rw [nI_1, nI_1]
        simpa [cntB, c_d] using ih
set_option maxHeartbeats 4000000 in
set_option maxRecDepth 100000 in
theorem zX7_isCalledFor {l : Launch} {g : kG} (S : kStart l g) {h : kH} {m : Nat} {ad : Nat → Nat} {sc R : Nat → Int32} {ar : Nat → Nat → Int32} (hM : MW h m ad sc R ar) (hR : RV R) (a : Nat) (ha : a < 8) : kMet l g yX7_isCalledFor (Cond.code yX7_isCalledFor cX7_isCalledFor 3 (Option.some Jvm.ClassFile.FieldType.boolean)) 3 0 0 [.ref m, .int (nI a)] h (mRd h (.int (kB (calledF R a)))) := by
  refine kEnter S kd_X7_isCalledFor (Nat.le_of_ble_eq_true rfl) (fun x F hxl hxg => ?_)
  subst hxl; subst hxg
  have hlv : lv_args 0 [.ref m, .int (nI a)] = [(0, .ref m), (1, .int (nI a))] := rfl
  rw [hlv]
  obtain ⟨r1, r2, r3, r4, r5, r6, r7, r8⟩ := id hR
  refine k_iconst (v := 0) F dX7_isCalledFor_0 1 rfl (by decide) ?_
  refine k_istore_n (lv' := [(0, _), (1, _), (2, _)]) F dX7_isCalledFor_1 2 rfl rfl (Nat.le_of_ble_eq_true rfl) rfl rfl rfl ?_
  refine kUpTo (Q := fun j => (∀ i, i < j → (fun p => mHas R p a && mPh R p 2 == 1) i = false) → kW x 0 0 h 2 [(0, .ref m), (1, .int (nI a)), (2, .int (nI j))] []) (rP R) ?_ ?_ 0 (Nat.zero_le _) (fun i hi => absurd hi (by omega))
  · intro hno
    refine k_iload_n F dX7_isCalledFor_2 3 rfl rfl rfl ?_
    refine k_aload_n F dX7_isCalledFor_3 4 rfl rfl rfl ?_
    refine m_get F 0 (by decide) q3592 rfl dX7_isCalledFor_4 7 rfl hM rfl ?_
    refine k_iconst (v := 4) F dX7_isCalledFor_7 8 rfl (by decide) ?_
    refine m_ld F dX7_isCalledFor_8 9 rfl hM (4) (by first | (with_reducible rfl) | (simp only [nI_lit, pk_mul, nI_add])) (by omega) ?_
    rw [r3]
    refine k_icmpge F dX7_isCalledFor_9 12 39 rfl (by decide) (fun c_a => ?_) (fun c_a => ?_)
    · refine k_iconst (v := 0) F dX7_isCalledFor_39 40 rfl (by decide) ?_
      exact k_zret F dX7_isCalledFor_40 (by first | rfl | exact kzb _ | exact pk_nc _ | decide) (by first | exact Nat.le_of_ble_eq_true rfl | omega) (by first | exact Nat.le_of_ble_eq_true rfl | omega) ⟨by rw [calledF, anyR_false hno]; rfl, rfl⟩
    · exact absurd (by rw [nI_leE (by omega) (by omega)]; omega) c_a
  · intro j hj ih hno
    refine k_iload_n F dX7_isCalledFor_2 3 rfl rfl rfl ?_
    refine k_aload_n F dX7_isCalledFor_3 4 rfl rfl rfl ?_
    refine m_get F 0 (by decide) q3592 rfl dX7_isCalledFor_4 7 rfl hM rfl ?_
    refine k_iconst (v := 4) F dX7_isCalledFor_7 8 rfl (by decide) ?_
    refine m_ld F dX7_isCalledFor_8 9 rfl hM (4) (by first | (with_reducible rfl) | (simp only [nI_lit, pk_mul, nI_add])) (by omega) ?_
    rw [r3]
    refine k_icmpge F dX7_isCalledFor_9 12 39 rfl (by decide) (fun c_b => ?_) (fun c_b => ?_)
    · rw [nI_leE (by omega) (by omega)] at c_b
      omega
    · have next : (fun p => mHas R p a && mPh R p 2 == 1) j = false → kW x 0 0 h 33 [(0, .ref m), (1, .int (nI a)), (2, .int (nI j))] [] := by
        intro hw
        refine k_iinc (e := 1) (lv' := [(0, _), (1, _), (2, _)]) F dX7_isCalledFor_33 36 rfl rfl (by decide) rfl (Nat.le_of_ble_eq_true rfl) rfl rfl rfl ?_
        refine k_goto F dX7_isCalledFor_36 2 (by decide) ?_
        rw [nI_1]
        exact ih (fun i hi => if q : i = j then by rw [q]; exact hw else hno i (by omega))
      refine k_aload_n F dX7_isCalledFor_12 13 rfl rfl rfl ?_
      refine k_iload_n F dX7_isCalledFor_13 14 rfl rfl rfl ?_
      refine k_iload_n F dX7_isCalledFor_14 15 rfl rfl rfl ?_
      refine k_callV F kd_X7_hasArm q3583 q194 (kInvV (Bs := [_, _]) F kcX7 q3580 q3582 qs94 kd_X7_hasArm q3583 dX7_isCalledFor_15 (kHs.of hM.1) rfl (by decide)) (zX7_hasArm F.st hM j a (by omega)) 18 rfl (Nat.le_of_ble_eq_true rfl) (by first | exact Nat.le_of_ble_eq_true rfl | omega) (by first | exact Nat.le_of_ble_eq_true rfl | omega) (by first | exact Nat.le_of_ble_eq_true rfl | omega) (by first | exact Nat.le_of_ble_eq_true rfl | omega) (fun r1 h1 hr1 => ?_)
      obtain ⟨rfl, rfl⟩ := hr1
      refine k_ifeq F dX7_isCalledFor_18 21 33 rfl (by decide) (fun c_d => ?_) (fun c_d => ?_)
      · rw [kB_0] at c_d
        exact next (by simp [c_d])
      · rw [kB_0, Bool.not_eq_false] at c_d
        refine k_aload_n F dX7_isCalledFor_21 22 rfl rfl rfl ?_
        refine k_iload_n F dX7_isCalledFor_22 23 rfl rfl rfl ?_
        refine k_iconst (v := 2) F dX7_isCalledFor_23 24 rfl (by decide) ?_
        refine k_callV F kd_X7_ofPhase q3587 q194 (kInvV (Bs := [_, _]) F kcX7 q3584 q3586 qs95 kd_X7_ofPhase q3587 dX7_isCalledFor_24 (kHs.of hM.1) rfl (by decide)) (zX7_ofPhase F.st hM j 2 (by omega)) 27 rfl (Nat.le_of_ble_eq_true rfl) (by first | exact Nat.le_of_ble_eq_true rfl | omega) (by first | exact Nat.le_of_ble_eq_true rfl | omega) (by first | exact Nat.le_of_ble_eq_true rfl | omega) (by first | exact Nat.le_of_ble_eq_true rfl | omega) (fun r2 h2 hr2 => ?_)
        obtain ⟨rfl, rfl⟩ := hr2
        refine k_iconst (v := 1) F dX7_isCalledFor_27 28 rfl (by decide) ?_
        refine k_icmpne F dX7_isCalledFor_28 31 33 rfl (by decide) (fun c_e => ?_) (fun c_e => ?_)
        · exact next (by simp [c_e])
        · refine k_iconst (v := 1) F dX7_isCalledFor_31 32 rfl (by decide) ?_
          exact k_zret F dX7_isCalledFor_32 (by first | rfl | exact kzb _ | exact pk_nc _ | decide) (by first | exact Nat.le_of_ble_eq_true rfl | omega) (by first | exact Nat.le_of_ble_eq_true rfl | omega) ⟨by rw [calledF, anyR_true (f := fun p => mHas R p a && mPh R p 2 == 1) hj (by simp [c_d, c_e])]; rfl, rfl⟩
set_option maxHeartbeats 4000000 in
set_option maxRecDepth 100000 in
theorem zX7_canJoin {l : Launch} {g : kG} (S : kStart l g) {h : kH} {m : Nat} {ad : Nat → Nat} {sc R : Nat → Int32} {ar : Nat → Nat → Int32} (hM : MW h m ad sc R ar) (hR : RV R) (p a : Nat) (hp : p < 6) (ha : a < 8) : kMet l g yX7_canJoin (Cond.code yX7_canJoin cX7_canJoin 4 (Option.some Jvm.ClassFile.FieldType.boolean)) 3 0 0 [.ref m, .int (nI p), .int (nI a)] h (mRd h (.int (kB (joinF R p a)))) := by
  refine kEnter S kd_X7_canJoin (Nat.le_of_ble_eq_true rfl) (fun x F hxl hxg => ?_)
  subst hxl; subst hxg
  have hlv : lv_args 0 [.ref m, .int (nI p), .int (nI a)] = [(0, .ref m), (1, .int (nI p)), (2, .int (nI a))] := rfl
  rw [hlv]
  obtain ⟨r1, r2, r3, r4, r5, r6, r7, r8⟩ := id hR
  refine k_iconst (v := 0) F dX7_canJoin_0 1 rfl (by decide) ?_
  refine k_istore_n (lv' := [(0, _), (1, _), (2, _), (3, _)]) F dX7_canJoin_1 2 rfl rfl (Nat.le_of_ble_eq_true rfl) rfl rfl rfl ?_
  refine kUpTo (Q := fun j => (∀ i, i < j → (fun b => mHas R p b && (b == a || mCl R a b)) i = false) → kW x 0 0 h 2 [(0, .ref m), (1, .int (nI p)), (2, .int (nI a)), (3, .int (nI j))] []) (rA R) ?_ ?_ 0 (Nat.zero_le _) (fun i hi => absurd hi (by omega))
  · intro hno
    refine k_iload_n F dX7_canJoin_2 3 rfl rfl rfl ?_
    refine k_aload_n F dX7_canJoin_3 4 rfl rfl rfl ?_
    refine m_get F 0 (by decide) q3592 rfl dX7_canJoin_4 7 rfl hM rfl ?_
    refine k_iconst (v := 3) F dX7_canJoin_7 8 rfl (by decide) ?_
    refine m_ld F dX7_canJoin_8 9 rfl hM (3) (by first | (with_reducible rfl) | (simp only [nI_lit, pk_mul, nI_add])) (by omega) ?_
    rw [r1]
    refine k_icmpge F dX7_canJoin_9 12 43 rfl (by decide) (fun c_a => ?_) (fun c_a => ?_)
    · refine k_iconst (v := 1) F dX7_canJoin_43 44 rfl (by decide) ?_
      exact k_zret F dX7_canJoin_44 (by first | rfl | exact kzb _ | exact pk_nc _ | decide) (by first | exact Nat.le_of_ble_eq_true rfl | omega) (by first | exact Nat.le_of_ble_eq_true rfl | omega) ⟨by rw [joinF, anyR_false hno]; rfl, rfl⟩
    · exact absurd (by rw [nI_leE (by omega) (by omega)]; omega) c_a
  · intro j hj ih hno
    refine k_iload_n F dX7_canJoin_2 3 rfl rfl rfl ?_
    refine k_aload_n F dX7_canJoin_3 4 rfl rfl rfl ?_
    refine m_get F 0 (by decide) q3592 rfl dX7_canJoin_4 7 rfl hM rfl ?_
    refine k_iconst (v := 3) F dX7_canJoin_7 8 rfl (by decide) ?_
    refine m_ld F dX7_canJoin_8 9 rfl hM (3) (by first | (with_reducible rfl) | (simp only [nI_lit, pk_mul, nI_add])) (by omega) ?_
    rw [r1]
    refine k_icmpge F dX7_canJoin_9 12 43 rfl (by decide) (fun c_b => ?_) (fun c_b => ?_)
    · rw [nI_leE (by omega) (by omega)] at c_b
      omega
    · have next : (fun b => mHas R p b && (b == a || mCl R a b)) j = false → kW x 0 0 h 37 [(0, .ref m), (1, .int (nI p)), (2, .int (nI a)), (3, .int (nI j))] [] := by
        intro hw
        refine k_iinc (e := 1) (lv' := [(0, _), (1, _), (2, _), (3, _)]) F dX7_canJoin_37 40 rfl rfl (by decide) rfl (Nat.le_of_ble_eq_true rfl) rfl rfl rfl ?_
        refine k_goto F dX7_canJoin_40 2 (by decide) ?_
        rw [nI_1]
        exact ih (fun i hi => if q : i = j then by rw [q]; exact hw else hno i (by omega))
      refine k_aload_n F dX7_canJoin_12 13 rfl rfl rfl ?_
      refine k_iload_n F dX7_canJoin_13 14 rfl rfl rfl ?_
      refine k_iload_n F dX7_canJoin_14 15 rfl rfl rfl ?_
      refine k_callV F kd_X7_hasArm q3583 q194 (kInvV (Bs := [_, _]) F kcX7 q3580 q3582 qs94 kd_X7_hasArm q3583 dX7_canJoin_15 (kHs.of hM.1) rfl (by decide)) (zX7_hasArm F.st hM p j (by omega)) 18 rfl (Nat.le_of_ble_eq_true rfl) (by first | exact Nat.le_of_ble_eq_true rfl | omega) (by first | exact Nat.le_of_ble_eq_true rfl | omega) (by first | exact Nat.le_of_ble_eq_true rfl | omega) (by first | exact Nat.le_of_ble_eq_true rfl | omega) (fun r1 h1 hr1 => ?_)
      obtain ⟨rfl, rfl⟩ := hr1
      refine k_ifeq F dX7_canJoin_18 21 37 rfl (by decide) (fun c_d => ?_) (fun c_d => ?_)
      · rw [kB_0] at c_d
        exact next (by simp [c_d])
      · rw [kB_0, Bool.not_eq_false] at c_d
        refine k_iload_n F dX7_canJoin_21 22 rfl rfl rfl ?_
        refine k_iload_n F dX7_canJoin_22 23 rfl rfl rfl ?_
        refine k_icmpeq F dX7_canJoin_23 26 35 rfl (by decide) (fun c_e => ?_) (fun c_e => ?_)
        · rw [nI_inj (by omega) (by omega)] at c_e
          refine k_iconst (v := 0) F dX7_canJoin_35 36 rfl (by decide) ?_
          exact k_zret F dX7_canJoin_36 (by first | rfl | exact kzb _ | exact pk_nc _ | decide) (by first | exact Nat.le_of_ble_eq_true rfl | omega) (by first | exact Nat.le_of_ble_eq_true rfl | omega) ⟨by rw [joinF, anyR_true (f := fun b => mHas R p b && (b == a || mCl R a b)) hj (by rw [c_d, c_e]; simp)]; rfl, rfl⟩
        · rw [nI_inj (by omega) (by omega)] at c_e
          refine k_aload_n F dX7_canJoin_26 27 rfl rfl rfl ?_
          refine k_iload_n F dX7_canJoin_27 28 rfl rfl rfl ?_
          refine k_iload_n F dX7_canJoin_28 29 rfl rfl rfl ?_
          refine k_callV F kd_X7_areClashing q3591 q194 (kInvV (Bs := [_, _]) F kcX7 q3588 q3590 qs96 kd_X7_areClashing q3591 dX7_canJoin_29 (kHs.of hM.1) rfl (by decide)) (zX7_areClashing F.st hM a j (by omega)) 32 rfl (Nat.le_of_ble_eq_true rfl) (by first | exact Nat.le_of_ble_eq_true rfl | omega) (by first | exact Nat.le_of_ble_eq_true rfl | omega) (by first | exact Nat.le_of_ble_eq_true rfl | omega) (by first | exact Nat.le_of_ble_eq_true rfl | omega) (fun r2 h2 hr2 => ?_)
          obtain ⟨rfl, rfl⟩ := hr2
          refine k_ifeq F dX7_canJoin_32 35 37 rfl (by decide) (fun c_i => ?_) (fun c_i => ?_)
          · rw [kB_0] at c_i
            exact next (by simp [c_i, c_e])
          · rw [kB_0, Bool.not_eq_false] at c_i
            refine k_iconst (v := 0) F dX7_canJoin_35 36 rfl (by decide) ?_
            exact k_zret F dX7_canJoin_36 (by first | rfl | exact kzb _ | exact pk_nc _ | decide) (by first | exact Nat.le_of_ble_eq_true rfl | omega) (by first | exact Nat.le_of_ble_eq_true rfl | omega) ⟨by rw [joinF, anyR_true (f := fun b => mHas R p b && (b == a || mCl R a b)) hj (by simp [c_d, c_i])]; rfl, rfl⟩
set_option maxHeartbeats 4000000 in
set_option maxRecDepth 100000 in
theorem zX7_areOfOnePhase {l : Launch} {g : kG} (S : kStart l g) {h : kH} {m : Nat} {ad : Nat → Nat} {sc R : Nat → Int32} {ar : Nat → Nat → Int32} (hM : MW h m ad sc R ar) (hR : RV R) (a b : Nat) (ha : a < 8) (hb : b < 8) : kMet l g yX7_areOfOnePhase (Cond.code yX7_areOfOnePhase cX7_areOfOnePhase 4 (Option.some Jvm.ClassFile.FieldType.boolean)) 3 0 0 [.ref m, .int (nI a), .int (nI b)] h (mRd h (.int (kB (oneF R a b)))) := by
  refine kEnter S kd_X7_areOfOnePhase (Nat.le_of_ble_eq_true rfl) (fun x F hxl hxg => ?_)
  subst hxl; subst hxg
  have hlv : lv_args 0 [.ref m, .int (nI a), .int (nI b)] = [(0, .ref m), (1, .int (nI a)), (2, .int (nI b))] := rfl
  rw [hlv]
  obtain ⟨r1, r2, r3, r4, r5, r6, r7, r8⟩ := id hR
  refine k_iconst (v := 0) F dX7_areOfOnePhase_0 1 rfl (by decide) ?_
  refine k_istore_n (lv' := [(0, _), (1, _), (2, _), (3, _)]) F dX7_areOfOnePhase_1 2 rfl rfl (Nat.le_of_ble_eq_true rfl) rfl rfl rfl ?_
  refine kUpTo (Q := fun j => (∀ i, i < j → (fun p => mHas R p a && mHas R p b) i = false) → kW x 0 0 h 2 [(0, .ref m), (1, .int (nI a)), (2, .int (nI b)), (3, .int (nI j))] []) (rP R) ?_ ?_ 0 (Nat.zero_le _) (fun i hi => absurd hi (by omega))
  · intro hno
    refine k_iload_n F dX7_areOfOnePhase_2 3 rfl rfl rfl ?_
    refine k_aload_n F dX7_areOfOnePhase_3 4 rfl rfl rfl ?_
    refine m_get F 0 (by decide) q3592 rfl dX7_areOfOnePhase_4 7 rfl hM rfl ?_
    refine k_iconst (v := 4) F dX7_areOfOnePhase_7 8 rfl (by decide) ?_
    refine m_ld F dX7_areOfOnePhase_8 9 rfl hM (4) (by first | (with_reducible rfl) | (simp only [nI_lit, pk_mul, nI_add])) (by omega) ?_
    rw [r3]
    refine k_icmpge F dX7_areOfOnePhase_9 12 38 rfl (by decide) (fun c_a => ?_) (fun c_a => ?_)
    · refine k_iconst (v := 0) F dX7_areOfOnePhase_38 39 rfl (by decide) ?_
      exact k_zret F dX7_areOfOnePhase_39 (by first | rfl | exact kzb _ | exact pk_nc _ | decide) (by first | exact Nat.le_of_ble_eq_true rfl | omega) (by first | exact Nat.le_of_ble_eq_true rfl | omega) ⟨by rw [oneF, anyR_false hno]; rfl, rfl⟩
    · exact absurd (by rw [nI_leE (by omega) (by omega)]; omega) c_a
  · intro j hj ih hno
    refine k_iload_n F dX7_areOfOnePhase_2 3 rfl rfl rfl ?_
    refine k_aload_n F dX7_areOfOnePhase_3 4 rfl rfl rfl ?_
    refine m_get F 0 (by decide) q3592 rfl dX7_areOfOnePhase_4 7 rfl hM rfl ?_
    refine k_iconst (v := 4) F dX7_areOfOnePhase_7 8 rfl (by decide) ?_
    refine m_ld F dX7_areOfOnePhase_8 9 rfl hM (4) (by first | (with_reducible rfl) | (simp only [nI_lit, pk_mul, nI_add])) (by omega) ?_
    rw [r3]
    refine k_icmpge F dX7_areOfOnePhase_9 12 38 rfl (by decide) (fun c_b => ?_) (fun c_b => ?_)
    · rw [nI_leE (by omega) (by omega)] at c_b
      omega
    · have next : (fun p => mHas R p a && mHas R p b) j = false → kW x 0 0 h 32 [(0, .ref m), (1, .int (nI a)), (2, .int (nI b)), (3, .int (nI j))] [] := by
        intro hw
        refine k_iinc (e := 1) (lv' := [(0, _), (1, _), (2, _), (3, _)]) F dX7_areOfOnePhase_32 35 rfl rfl (by decide) rfl (Nat.le_of_ble_eq_true rfl) rfl rfl rfl ?_
        refine k_goto F dX7_areOfOnePhase_35 2 (by decide) ?_
        rw [nI_1]
        exact ih (fun i hi => if q : i = j then by rw [q]; exact hw else hno i (by omega))
      refine k_aload_n F dX7_areOfOnePhase_12 13 rfl rfl rfl ?_
      refine k_iload_n F dX7_areOfOnePhase_13 14 rfl rfl rfl ?_
      refine k_iload_n F dX7_areOfOnePhase_14 15 rfl rfl rfl ?_
      refine k_callV F kd_X7_hasArm q3583 q194 (kInvV (Bs := [_, _]) F kcX7 q3580 q3582 qs94 kd_X7_hasArm q3583 dX7_areOfOnePhase_15 (kHs.of hM.1) rfl (by decide)) (zX7_hasArm F.st hM j a (by omega)) 18 rfl (Nat.le_of_ble_eq_true rfl) (by first | exact Nat.le_of_ble_eq_true rfl | omega) (by first | exact Nat.le_of_ble_eq_true rfl | omega) (by first | exact Nat.le_of_ble_eq_true rfl | omega) (by first | exact Nat.le_of_ble_eq_true rfl | omega) (fun r1 h1 hr1 => ?_)
      obtain ⟨rfl, rfl⟩ := hr1
      refine k_ifeq F dX7_areOfOnePhase_18 21 32 rfl (by decide) (fun c_d => ?_) (fun c_d => ?_)
      · rw [kB_0] at c_d
        exact next (by simp [c_d])
      · rw [kB_0, Bool.not_eq_false] at c_d
        refine k_aload_n F dX7_areOfOnePhase_21 22 rfl rfl rfl ?_
        refine k_iload_n F dX7_areOfOnePhase_22 23 rfl rfl rfl ?_
        refine k_iload_n F dX7_areOfOnePhase_23 24 rfl rfl rfl ?_
        refine k_callV F kd_X7_hasArm q3583 q194 (kInvV (Bs := [_, _]) F kcX7 q3580 q3582 qs94 kd_X7_hasArm q3583 dX7_areOfOnePhase_24 (kHs.of hM.1) rfl (by decide)) (zX7_hasArm F.st hM j b (by omega)) 27 rfl (Nat.le_of_ble_eq_true rfl) (by first | exact Nat.le_of_ble_eq_true rfl | omega) (by first | exact Nat.le_of_ble_eq_true rfl | omega) (by first | exact Nat.le_of_ble_eq_true rfl | omega) (by first | exact Nat.le_of_ble_eq_true rfl | omega) (fun r2 h2 hr2 => ?_)
        obtain ⟨rfl, rfl⟩ := hr2
        refine k_ifeq F dX7_areOfOnePhase_27 30 32 rfl (by decide) (fun c_e => ?_) (fun c_e => ?_)
        · rw [kB_0] at c_e
          exact next (by simp [c_e])
        · rw [kB_0, Bool.not_eq_false] at c_e
          refine k_iconst (v := 1) F dX7_areOfOnePhase_30 31 rfl (by decide) ?_
          exact k_zret F dX7_areOfOnePhase_31 (by first | rfl | exact kzb _ | exact pk_nc _ | decide) (by first | exact Nat.le_of_ble_eq_true rfl | omega) (by first | exact Nat.le_of_ble_eq_true rfl | omega) ⟨by rw [oneF, anyR_true (f := fun p => mHas R p a && mHas R p b) hj (by simp [c_d, c_e])]; rfl, rfl⟩
set_option maxHeartbeats 4000000 in
set_option maxRecDepth 100000 in
theorem zX7_isMixed {l : Launch} {g : kG} (S : kStart l g) {h : kH} {m : Nat} {ad : Nat → Nat} {sc R : Nat → Int32} {ar : Nat → Nat → Int32} (hM : MW h m ad sc R ar) (hR : RV R) (p : Nat) (hp : p < 6) : kMet l g yX7_isMixed (Cond.code yX7_isMixed cX7_isMixed 4 (Option.some Jvm.ClassFile.FieldType.boolean)) 3 0 0 [.ref m, .int (nI p)] h (mRd h (.int (kB (mixedF R p)))) := by
  refine kEnter S kd_X7_isMixed (Nat.le_of_ble_eq_true rfl) (fun x F hxl hxg => ?_)
  subst hxl; subst hxg
  have hlv : lv_args 0 [.ref m, .int (nI p)] = [(0, .ref m), (1, .int (nI p))] := rfl
  rw [hlv]
  obtain ⟨r1, r2, r3, r4, r5, r6, r7, r8⟩ := id hR
  refine k_iconst (v := 0) F dX7_isMixed_0 1 rfl (by decide) ?_
  refine k_istore_n (lv' := [(0, _), (1, _), (2, _)]) F dX7_isMixed_1 2 rfl rfl (Nat.le_of_ble_eq_true rfl) rfl rfl rfl ?_
  refine kUpTo (Q := fun j => (∀ i, i < j → (mixedTo R p) i = false) → kW x 0 0 h 2 [(0, .ref m), (1, .int (nI p)), (2, .int (nI j))] []) (rA R) ?_ ?_ 0 (Nat.zero_le _) (fun i hi => absurd hi (by omega))
  · intro hno
    refine k_iload_n F dX7_isMixed_2 3 rfl rfl rfl ?_
    refine k_aload_n F dX7_isMixed_3 4 rfl rfl rfl ?_
    refine m_get F 0 (by decide) q3592 rfl dX7_isMixed_4 7 rfl hM rfl ?_
    refine k_iconst (v := 3) F dX7_isMixed_7 8 rfl (by decide) ?_
    refine m_ld F dX7_isMixed_8 9 rfl hM (3) (by first | (with_reducible rfl) | (simp only [nI_lit, pk_mul, nI_add])) (by omega) ?_
    rw [r1]
    refine k_icmpge F dX7_isMixed_9 12 60 rfl (by decide) (fun c_a => ?_) (fun c_a => ?_)
    · refine k_iconst (v := 0) F dX7_isMixed_60 61 rfl (by decide) ?_
      exact k_zret F dX7_isMixed_61 (by first | rfl | exact kzb _ | exact pk_nc _ | decide) (by first | exact Nat.le_of_ble_eq_true rfl | omega) (by first | exact Nat.le_of_ble_eq_true rfl | omega) ⟨by rw [mixedF, anyR_false hno]; rfl, rfl⟩
    · exact absurd (by rw [nI_leE (by omega) (by omega)]; omega) c_a
  · intro j hj ih hno
    refine k_iload_n F dX7_isMixed_2 3 rfl rfl rfl ?_
    refine k_aload_n F dX7_isMixed_3 4 rfl rfl rfl ?_
    refine m_get F 0 (by decide) q3592 rfl dX7_isMixed_4 7 rfl hM rfl ?_
    refine k_iconst (v := 3) F dX7_isMixed_7 8 rfl (by decide) ?_
    refine m_ld F dX7_isMixed_8 9 rfl hM (3) (by first | (with_reducible rfl) | (simp only [nI_lit, pk_mul, nI_add])) (by omega) ?_
    rw [r1]
    refine k_icmpge F dX7_isMixed_9 12 60 rfl (by decide) (fun c_b => ?_) (fun c_b => ?_)
    · rw [nI_leE (by omega) (by omega)] at c_b
      omega
    · have next : (mixedTo R p) j = false → kW x 0 0 h 54 [(0, .ref m), (1, .int (nI p)), (2, .int (nI j))] [] := by
        intro hw
        refine k_iinc (e := 1) (lv' := [(0, _), (1, _), (2, _)]) F dX7_isMixed_54 57 rfl rfl (by decide) rfl (Nat.le_of_ble_eq_true rfl) rfl rfl rfl ?_
        refine k_goto F dX7_isMixed_57 2 (by decide) ?_
        rw [nI_1]
        exact ih (fun i hi => if q : i = j then by rw [q]; exact hw else hno i (by omega))
      refine k_iconst (v := 0) F dX7_isMixed_12 13 rfl (by decide) ?_
      refine k_istore_n (lv' := [(0, _), (1, _), (2, _), (3, _)]) F dX7_isMixed_13 14 rfl rfl (Nat.le_of_ble_eq_true rfl) rfl rfl rfl ?_
      refine kUpTo (Q := fun b => (∀ i, i < b → (mHas R p j && mHas R p i && mCl R j i) = false) → kW x 0 0 h 14 [(0, .ref m), (1, .int (nI p)), (2, .int (nI j)), (3, .int (nI b))] []) j ?_ ?_ 0 (Nat.zero_le _) (fun i hi => absurd hi (by omega))
      · intro hno2
        refine k_iload_n F dX7_isMixed_14 15 rfl rfl rfl ?_
        refine k_iload_n F dX7_isMixed_15 16 rfl rfl rfl ?_
        refine k_icmpge F dX7_isMixed_16 19 54 rfl (by decide) (fun c_d => ?_) (fun c_d => ?_)
        · refine kW.keep (lv' := [(0, _), (1, _), (2, _)]) [0, 1, 2] rfl ?_
          exact next (anyR_false hno2)
        · exact absurd (by rw [nI_leE (by omega) (by omega)]; omega) c_d
      · intro b hb ih2 hno2
        refine k_iload_n F dX7_isMixed_14 15 rfl rfl rfl ?_
        refine k_iload_n F dX7_isMixed_15 16 rfl rfl rfl ?_
        refine k_icmpge F dX7_isMixed_16 19 54 rfl (by decide) (fun c_e => ?_) (fun c_e => ?_)
        · rw [nI_leE (by omega) (by omega)] at c_e
          omega
        · have next2 : (mHas R p j && mHas R p b && mCl R j b) = false → kW x 0 0 h 48 [(0, .ref m), (1, .int (nI p)), (2, .int (nI j)), (3, .int (nI b))] [] := by
            intro hw
            refine k_iinc (e := 1) (lv' := [(0, _), (1, _), (2, _), (3, _)]) F dX7_isMixed_48 51 rfl rfl (by decide) rfl (Nat.le_of_ble_eq_true rfl) rfl rfl rfl ?_
            refine k_goto F dX7_isMixed_51 14 (by decide) ?_
            rw [nI_1]
            exact ih2 (fun i hi => if q : i = b then by rw [q]; exact hw else hno2 i (by omega))
          refine k_aload_n F dX7_isMixed_19 20 rfl rfl rfl ?_
          refine k_iload_n F dX7_isMixed_20 21 rfl rfl rfl ?_
          refine k_iload_n F dX7_isMixed_21 22 rfl rfl rfl ?_
          refine k_callV F kd_X7_hasArm q3583 q194 (kInvV (Bs := [_, _]) F kcX7 q3580 q3582 qs94 kd_X7_hasArm q3583 dX7_isMixed_22 (kHs.of hM.1) rfl (by decide)) (zX7_hasArm F.st hM p j (by omega)) 25 rfl (Nat.le_of_ble_eq_true rfl) (by first | exact Nat.le_of_ble_eq_true rfl | omega) (by first | exact Nat.le_of_ble_eq_true rfl | omega) (by first | exact Nat.le_of_ble_eq_true rfl | omega) (by first | exact Nat.le_of_ble_eq_true rfl | omega) (fun r1 h1 hr1 => ?_)
          obtain ⟨rfl, rfl⟩ := hr1
          refine k_ifeq F dX7_isMixed_25 28 48 rfl (by decide) (fun c_f => ?_) (fun c_f => ?_)
          · rw [kB_0] at c_f
            exact next2 (by simp [c_f])
          · rw [kB_0, Bool.not_eq_false] at c_f
            refine k_aload_n F dX7_isMixed_28 29 rfl rfl rfl ?_
            refine k_iload_n F dX7_isMixed_29 30 rfl rfl rfl ?_
            refine k_iload_n F dX7_isMixed_30 31 rfl rfl rfl ?_
            refine k_callV F kd_X7_hasArm q3583 q194 (kInvV (Bs := [_, _]) F kcX7 q3580 q3582 qs94 kd_X7_hasArm q3583 dX7_isMixed_31 (kHs.of hM.1) rfl (by decide)) (zX7_hasArm F.st hM p b (by omega)) 34 rfl (Nat.le_of_ble_eq_true rfl) (by first | exact Nat.le_of_ble_eq_true rfl | omega) (by first | exact Nat.le_of_ble_eq_true rfl | omega) (by first | exact Nat.le_of_ble_eq_true rfl | omega) (by first | exact Nat.le_of_ble_eq_true rfl | omega) (fun r2 h2 hr2 => ?_)
            obtain ⟨rfl, rfl⟩ := hr2
            refine k_ifeq F dX7_isMixed_34 37 48 rfl (by decide) (fun c_g => ?_) (fun c_g => ?_)
            · rw [kB_0] at c_g
              exact next2 (by simp [c_g])
            · rw [kB_0, Bool.not_eq_false] at c_g
              refine k_aload_n F dX7_isMixed_37 38 rfl rfl rfl ?_
              refine k_iload_n F dX7_isMixed_38 39 rfl rfl rfl ?_
              refine k_iload_n F dX7_isMixed_39 40 rfl rfl rfl ?_
              refine k_callV F kd_X7_areClashing q3591 q194 (kInvV (Bs := [_, _]) F kcX7 q3588 q3590 qs96 kd_X7_areClashing q3591 dX7_isMixed_40 (kHs.of hM.1) rfl (by decide)) (zX7_areClashing F.st hM j b (by omega)) 43 rfl (Nat.le_of_ble_eq_true rfl) (by first | exact Nat.le_of_ble_eq_true rfl | omega) (by first | exact Nat.le_of_ble_eq_true rfl | omega) (by first | exact Nat.le_of_ble_eq_true rfl | omega) (by first | exact Nat.le_of_ble_eq_true rfl | omega) (fun r3 h3 hr3 => ?_)
              obtain ⟨rfl, rfl⟩ := hr3
              refine k_ifeq F dX7_isMixed_43 46 48 rfl (by decide) (fun c_i => ?_) (fun c_i => ?_)
              · rw [kB_0] at c_i
                exact next2 (by simp [c_i])
              · rw [kB_0, Bool.not_eq_false] at c_i
                refine k_iconst (v := 1) F dX7_isMixed_46 47 rfl (by decide) ?_
                exact k_zret F dX7_isMixed_47 (by first | rfl | exact kzb _ | exact pk_nc _ | decide) (by first | exact Nat.le_of_ble_eq_true rfl | omega) (by first | exact Nat.le_of_ble_eq_true rfl | omega) ⟨by rw [mixedF, anyR_true (f := mixedTo R p) hj (anyR_true (f := fun b => mHas R p j && mHas R p b && mCl R j b) hb (by simp [c_f, c_g, c_i]))]; rfl, rfl⟩
set_option maxHeartbeats 4000000 in
set_option maxRecDepth 100000 in
theorem zX7_reasonOf {l : Launch} {g : kG} (S : kStart l g) {h : kH} {m : Nat} {ad : Nat → Nat} {sc R : Nat → Int32} {ar : Nat → Nat → Int32} (hM : MW h m ad sc R ar) (hR : RV R) (h8 : rNx R = none → R 8 = 0) (a : Nat) (ha : a < rA R) : kMet l g yX7_reasonOf (Cond.code yX7_reasonOf cX7_reasonOf 2 (Option.some Jvm.ClassFile.FieldType.int)) 6 0 0 [.ref m, .int (nI a)] h (mRd h (.int (reasonF R a))) := by
  refine kEnter S kd_X7_reasonOf (Nat.le_of_ble_eq_true rfl) (fun x F hxl hxg => ?_)
  subst hxl; subst hxg
  have hlv : lv_args 0 [.ref m, .int (nI a)] = [(0, .ref m), (1, .int (nI a))] := rfl
  rw [hlv]
  obtain ⟨r1, r2, r3, r4, r5, r6, r7, r8⟩ := id hR
  refine k_aload_n F dX7_reasonOf_0 1 rfl rfl rfl ?_
  refine k_iload_n F dX7_reasonOf_1 2 rfl rfl rfl ?_
  refine k_callV F kd_X7_lightOf q3773 q194 (kInvV (Bs := [_]) F kcX7 q3770 q3772 qs114 kd_X7_lightOf q3773 dX7_reasonOf_2 (kHs.of hM.1) rfl (by decide)) (zX7_lightOf F.st hM hR a (by omega)) 5 rfl (Nat.le_of_ble_eq_true rfl) (by first | exact Nat.le_of_ble_eq_true rfl | omega) (by first | exact Nat.le_of_ble_eq_true rfl | omega) (by first | exact Nat.le_of_ble_eq_true rfl | omega) (by first | exact Nat.le_of_ble_eq_true rfl | omega) (fun r1 h1 hr1 => ?_)
  obtain ⟨rfl, rfl⟩ := hr1
  refine k_ifne F dX7_reasonOf_5 8 10 rfl (by decide) (fun c_a => ?_) (fun c_a => ?_)
  · refine k_aload_n F dX7_reasonOf_10 11 rfl rfl rfl ?_
    refine k_iload_n F dX7_reasonOf_11 12 rfl rfl rfl ?_
    refine k_callV F kd_X7_phasesOf q3866 q194 (kInvV (Bs := [_]) F kcX7 q3863 q3865 qs135 kd_X7_phasesOf q3866 dX7_reasonOf_12 (kHs.of hM.1) rfl (by decide)) (zX7_phasesOf F.st hM hR a (by omega)) 15 rfl (Nat.le_of_ble_eq_true rfl) (by first | exact Nat.le_of_ble_eq_true rfl | omega) (by first | exact Nat.le_of_ble_eq_true rfl | omega) (by first | exact Nat.le_of_ble_eq_true rfl | omega) (by first | exact Nat.le_of_ble_eq_true rfl | omega) (fun r2 h2 hr2 => ?_)
    obtain ⟨rfl, rfl⟩ := hr2
    have hpz : (nI (cntB (fun p => mHas R p a) (rP R)) = 0) = (phasesF R a = 0) := by
      have hle := cntB_le (fun p => mHas R p a) (rP R)
      rw [show (0 : Int32) = nI 0 from rfl, nI_inj (by omega) (by omega)]
      rfl
    refine k_ifne F dX7_reasonOf_15 18 20 rfl (by decide) (fun c_b => ?_) (fun c_b => ?_)
    · rw [hpz] at c_b
      refine k_aload_n F dX7_reasonOf_20 21 rfl rfl rfl ?_
      refine m_get F 0 (by decide) q3592 rfl dX7_reasonOf_21 24 rfl hM rfl ?_
      refine k_bipush (v := 7) F dX7_reasonOf_24 26 rfl (by decide) ?_
      refine m_ld F dX7_reasonOf_26 27 rfl hM (7) (by first | (with_reducible rfl) | (simp only [nI_lit, pk_mul, nI_add])) (by omega) ?_
      refine k_iconst (v := (-1)) F dX7_reasonOf_27 28 rfl (by decide) ?_
      rw [r7]
      refine k_icmpeq F dX7_reasonOf_28 31 52 rfl (by decide) (fun c_d => ?_) (fun c_d => ?_)
      · rw [nO_m1 r8] at c_d
        have tail4 : (asksF R a = true ∨ calledF R a = true) → kW x 0 0 h 70 [(0, .ref m), (1, .int (nI a))] [] := by
          intro hac
          have hbest := best_is ha h8 c_a c_b c_d hac
          have h4 : ¬ (asksF R a = false ∧ calledF R a = false) := by
            rintro ⟨q1, q2⟩
            rcases hac with q | q
            · rw [q1] at q; cases q
            · rw [q2] at q; cases q
          refine k_aload_n F dX7_reasonOf_70 71 rfl rfl rfl ?_
          refine m_get F 0 (by decide) q3592 rfl dX7_reasonOf_71 74 rfl hM rfl ?_
          refine k_bipush (v := 9) F dX7_reasonOf_74 76 rfl (by decide) ?_
          refine m_ld F dX7_reasonOf_76 77 rfl hM (9) (by first | (with_reducible rfl) | (simp only [nI_lit, pk_mul, nI_add])) (by omega) ?_
          refine k_aload_n F dX7_reasonOf_77 78 rfl rfl rfl ?_
          refine k_aload_n F dX7_reasonOf_78 79 rfl rfl rfl ?_
          refine m_get F 0 (by decide) q3592 rfl dX7_reasonOf_79 82 rfl hM rfl ?_
          refine k_bipush (v := 6) F dX7_reasonOf_82 84 rfl (by decide) ?_
          refine m_ld F dX7_reasonOf_84 85 rfl hM (6) (by first | (with_reducible rfl) | (simp only [nI_lit, pk_mul, nI_add])) (by omega) ?_
          refine k_iconst (v := 0) F dX7_reasonOf_85 86 rfl (by decide) ?_
          rw [r5]
          refine k_callV F kd_X7_ofPhase q3587 q194 (kInvV (Bs := [_, _]) F kcX7 q3584 q3586 qs95 kd_X7_ofPhase q3587 dX7_reasonOf_86 (kHs.of hM.1) rfl (by decide)) (zX7_ofPhase F.st hM (rOn R) 0 (by omega)) 89 rfl (Nat.le_of_ble_eq_true rfl) (by first | exact Nat.le_of_ble_eq_true rfl | omega) (by first | exact Nat.le_of_ble_eq_true rfl | omega) (by first | exact Nat.le_of_ble_eq_true rfl | omega) (by first | exact Nat.le_of_ble_eq_true rfl | omega) (fun r3 h3 hr3 => ?_)
          obtain ⟨rfl, rfl⟩ := hr3
          refine k_icmpge F dX7_reasonOf_89 92 94 rfl (by decide) (fun c_e => ?_) (fun c_e => ?_)
          · have tail6 : ¬ (busyF R ≠ none ∧ R 9 < mPh R (rOn R) 1) → kW x 0 0 h 127 [(0, .ref m), (1, .int (nI a))] [] := by
              intro h6
              obtain ⟨q, hq⟩ := Option.ne_none_iff_exists'.mp hbest
              have hq6 := bestF_lt hq
              refine k_aload_n F dX7_reasonOf_127 128 rfl rfl rfl ?_
              refine k_aload_n F dX7_reasonOf_128 129 rfl rfl rfl ?_
              refine k_callV F kd_X7_best q3789 q194 (kInvV (Bs := []) F kcX7 q3786 q3788 qs118 kd_X7_best q3789 dX7_reasonOf_129 (kHs.of hM.1) rfl (by decide)) (zX7_best F.st hM hR) 132 rfl (Nat.le_of_ble_eq_true rfl) (by first | exact Nat.le_of_ble_eq_true rfl | omega) (by first | exact Nat.le_of_ble_eq_true rfl | omega) (by first | exact Nat.le_of_ble_eq_true rfl | omega) (by first | exact Nat.le_of_ble_eq_true rfl | omega) (fun r4 h4 hr4 => ?_)
              obtain ⟨rfl, rfl⟩ := hr4
              rw [hq, nO_some]
              refine k_iload_n F dX7_reasonOf_132 133 rfl rfl rfl ?_
              refine k_callV F kd_X7_hasArm q3583 q194 (kInvV (Bs := [_, _]) F kcX7 q3580 q3582 qs94 kd_X7_hasArm q3583 dX7_reasonOf_133 (kHs.of hM.1) rfl (by decide)) (zX7_hasArm F.st hM q a (by omega)) 136 rfl (Nat.le_of_ble_eq_true rfl) (by first | exact Nat.le_of_ble_eq_true rfl | omega) (by first | exact Nat.le_of_ble_eq_true rfl | omega) (by first | exact Nat.le_of_ble_eq_true rfl | omega) (by first | exact Nat.le_of_ble_eq_true rfl | omega) (fun r5 h5 hr5 => ?_)
              obtain ⟨rfl, rfl⟩ := hr5
              have hbh : bestHas R a = mHas R q a := by unfold bestHas; rw [hq]
              refine k_ifeq F dX7_reasonOf_136 139 144 rfl (by decide) (fun c_f => ?_) (fun c_f => ?_)
              · rw [kB_0] at c_f
                refine k_bipush (v := 7) F dX7_reasonOf_144 146 rfl (by decide) ?_
                exact k_iret F dX7_reasonOf_146 (by first | exact Nat.le_of_ble_eq_true rfl | omega) (by first | exact Nat.le_of_ble_eq_true rfl | omega) ⟨by unfold reasonF; rw [if_neg c_a, if_neg c_b, if_neg (fun z => z c_d), if_neg h4, if_neg (Int32.not_lt.mpr c_e), if_neg h6, hbh, if_neg (by rw [c_f]; decide)], rfl⟩
              · rw [kB_0, Bool.not_eq_false] at c_f
                refine k_bipush (v := 8) F dX7_reasonOf_139 141 rfl (by decide) ?_
                refine k_goto F dX7_reasonOf_141 146 (by decide) ?_
                exact k_iret F dX7_reasonOf_146 (by first | exact Nat.le_of_ble_eq_true rfl | omega) (by first | exact Nat.le_of_ble_eq_true rfl | omega) ⟨by unfold reasonF; rw [if_neg c_a, if_neg c_b, if_neg (fun z => z c_d), if_neg h4, if_neg (Int32.not_lt.mpr c_e), if_neg h6, hbh, if_pos c_f], rfl⟩
            refine k_aload_n F dX7_reasonOf_94 95 rfl rfl rfl ?_
            refine k_callV F kd_X7_busyArm q3814 q194 (kInvV (Bs := []) F kcX7 q3811 q3813 qs124 kd_X7_busyArm q3814 dX7_reasonOf_95 (kHs.of hM.1) rfl (by decide)) (zX7_busyArm F.st hM hR) 98 rfl (Nat.le_of_ble_eq_true rfl) (by first | exact Nat.le_of_ble_eq_true rfl | omega) (by first | exact Nat.le_of_ble_eq_true rfl | omega) (by first | exact Nat.le_of_ble_eq_true rfl | omega) (by first | exact Nat.le_of_ble_eq_true rfl | omega) (fun r6 h6 hr6 => ?_)
            obtain ⟨rfl, rfl⟩ := hr6
            refine k_iconst (v := (-1)) F dX7_reasonOf_98 99 rfl (by decide) ?_
            have hbz : ∀ q, busyF R = some q → q < 100 := fun q hq => by
              unfold busyF findTo at hq
              have := List.mem_range.mp (List.mem_of_find?_eq_some hq)
              omega
            refine k_icmpeq F dX7_reasonOf_99 102 127 rfl (by decide) (fun c_g => ?_) (fun c_g => ?_)
            · exact tail6 (fun z => z.1 ((nO_m1' hbz).mp c_g))
            · refine k_aload_n F dX7_reasonOf_102 103 rfl rfl rfl ?_
              refine m_get F 0 (by decide) q3592 rfl dX7_reasonOf_103 106 rfl hM rfl ?_
              refine k_bipush (v := 9) F dX7_reasonOf_106 108 rfl (by decide) ?_
              refine m_ld F dX7_reasonOf_108 109 rfl hM (9) (by first | (with_reducible rfl) | (simp only [nI_lit, pk_mul, nI_add])) (by omega) ?_
              refine k_aload_n F dX7_reasonOf_109 110 rfl rfl rfl ?_
              refine k_aload_n F dX7_reasonOf_110 111 rfl rfl rfl ?_
              refine m_get F 0 (by decide) q3592 rfl dX7_reasonOf_111 114 rfl hM rfl ?_
              refine k_bipush (v := 6) F dX7_reasonOf_114 116 rfl (by decide) ?_
              refine m_ld F dX7_reasonOf_116 117 rfl hM (6) (by first | (with_reducible rfl) | (simp only [nI_lit, pk_mul, nI_add])) (by omega) ?_
              refine k_iconst (v := 1) F dX7_reasonOf_117 118 rfl (by decide) ?_
              rw [r5]
              refine k_callV F kd_X7_ofPhase q3587 q194 (kInvV (Bs := [_, _]) F kcX7 q3584 q3586 qs95 kd_X7_ofPhase q3587 dX7_reasonOf_118 (kHs.of hM.1) rfl (by decide)) (zX7_ofPhase F.st hM (rOn R) 1 (by omega)) 121 rfl (Nat.le_of_ble_eq_true rfl) (by first | exact Nat.le_of_ble_eq_true rfl | omega) (by first | exact Nat.le_of_ble_eq_true rfl | omega) (by first | exact Nat.le_of_ble_eq_true rfl | omega) (by first | exact Nat.le_of_ble_eq_true rfl | omega) (fun r7 h7 hr7 => ?_)
              obtain ⟨rfl, rfl⟩ := hr7
              refine k_icmpge F dX7_reasonOf_121 124 127 rfl (by decide) (fun c_i => ?_) (fun c_i => ?_)
              · exact tail6 (fun z => absurd z.2 (Int32.not_lt.mpr c_i))
              · refine k_bipush (v := 6) F dX7_reasonOf_124 126 rfl (by decide) ?_
                exact k_iret F dX7_reasonOf_126 (by first | exact Nat.le_of_ble_eq_true rfl | omega) (by first | exact Nat.le_of_ble_eq_true rfl | omega) ⟨by unfold reasonF; rw [if_neg c_a, if_neg c_b, if_neg (fun z => z c_d), if_neg h4, if_neg (Int32.not_lt.mpr c_e), if_pos ⟨fun z => c_g (by rw [z]; rfl), Int32.not_le.mp c_i⟩], rfl⟩
          · refine k_iconst (v := 5) F dX7_reasonOf_92 93 rfl (by decide) ?_
            exact k_iret F dX7_reasonOf_93 (by first | exact Nat.le_of_ble_eq_true rfl | omega) (by first | exact Nat.le_of_ble_eq_true rfl | omega) ⟨by unfold reasonF; rw [if_neg c_a, if_neg c_b, if_neg (fun z => z c_d), if_neg h4, if_pos (Int32.not_le.mp c_e)], rfl⟩
        refine k_aload_n F dX7_reasonOf_52 53 rfl rfl rfl ?_
        refine k_iload_n F dX7_reasonOf_53 54 rfl rfl rfl ?_
        refine k_callV F kd_X7_asks q3797 q194 (kInvV (Bs := [_]) F kcX7 q3794 q3796 qs120 kd_X7_asks q3797 dX7_reasonOf_54 (kHs.of hM.1) rfl (by decide)) (zX7_asks F.st hM a (by omega)) 57 rfl (Nat.le_of_ble_eq_true rfl) (by first | exact Nat.le_of_ble_eq_true rfl | omega) (by first | exact Nat.le_of_ble_eq_true rfl | omega) (by first | exact Nat.le_of_ble_eq_true rfl | omega) (by first | exact Nat.le_of_ble_eq_true rfl | omega) (fun r8 h8 hr8 => ?_)
        obtain ⟨rfl, rfl⟩ := hr8
        refine k_ifne F dX7_reasonOf_57 60 70 rfl (by decide) (fun c_j => ?_) (fun c_j => ?_)
        · rw [kB_0, Bool.not_eq_false] at c_j
          exact tail4 (Or.inl c_j)
        · rw [kB_0] at c_j
          refine k_aload_n F dX7_reasonOf_60 61 rfl rfl rfl ?_
          refine k_iload_n F dX7_reasonOf_61 62 rfl rfl rfl ?_
          refine k_callV F kd_X7_isCalledFor q3913 q194 (kInvV (Bs := [_]) F kcX7 q3910 q3912 qs139 kd_X7_isCalledFor q3913 dX7_reasonOf_62 (kHs.of hM.1) rfl (by decide)) (zX7_isCalledFor F.st hM hR a (by omega)) 65 rfl (Nat.le_of_ble_eq_true rfl) (by first | exact Nat.le_of_ble_eq_true rfl | omega) (by first | exact Nat.le_of_ble_eq_true rfl | omega) (by first | exact Nat.le_of_ble_eq_true rfl | omega) (by first | exact Nat.le_of_ble_eq_true rfl | omega) (fun r9 h9 hr9 => ?_)
          obtain ⟨rfl, rfl⟩ := hr9
          refine k_ifne F dX7_reasonOf_65 68 70 rfl (by decide) (fun c_k => ?_) (fun c_k => ?_)
          · rw [kB_0, Bool.not_eq_false] at c_k
            exact tail4 (Or.inr c_k)
          · rw [kB_0] at c_k
            refine k_iconst (v := 4) F dX7_reasonOf_68 69 rfl (by decide) ?_
            exact k_iret F dX7_reasonOf_69 (by first | exact Nat.le_of_ble_eq_true rfl | omega) (by first | exact Nat.le_of_ble_eq_true rfl | omega) ⟨by unfold reasonF; rw [if_neg c_a, if_neg c_b, if_neg (fun z => z c_d), if_pos ⟨c_j, c_k⟩], rfl⟩
      · rw [nO_m1 r8] at c_d
        obtain ⟨q, hq⟩ := Option.ne_none_iff_exists'.mp c_d
        refine k_aload_n F dX7_reasonOf_31 32 rfl rfl rfl ?_
        refine k_aload_n F dX7_reasonOf_32 33 rfl rfl rfl ?_
        refine m_get F 0 (by decide) q3592 rfl dX7_reasonOf_33 36 rfl hM rfl ?_
        refine k_bipush (v := 7) F dX7_reasonOf_36 38 rfl (by decide) ?_
        refine m_ld F dX7_reasonOf_38 39 rfl hM (7) (by first | (with_reducible rfl) | (simp only [nI_lit, pk_mul, nI_add])) (by omega) ?_
        refine k_iload_n F dX7_reasonOf_39 40 rfl rfl rfl ?_
        rw [r7, hq, nO_some]
        refine k_callV F kd_X7_hasArm q3583 q194 (kInvV (Bs := [_, _]) F kcX7 q3580 q3582 qs94 kd_X7_hasArm q3583 dX7_reasonOf_40 (kHs.of hM.1) rfl (by decide)) (zX7_hasArm F.st hM q a (by have := r8 q hq; omega)) 43 rfl (Nat.le_of_ble_eq_true rfl) (by first | exact Nat.le_of_ble_eq_true rfl | omega) (by first | exact Nat.le_of_ble_eq_true rfl | omega) (by first | exact Nat.le_of_ble_eq_true rfl | omega) (by first | exact Nat.le_of_ble_eq_true rfl | omega) (fun r10 h10 hr10 => ?_)
        obtain ⟨rfl, rfl⟩ := hr10
        have hnh : nxHas R a = mHas R q a := by unfold nxHas; rw [hq]
        refine k_ifeq F dX7_reasonOf_43 46 50 rfl (by decide) (fun c_l => ?_) (fun c_l => ?_)
        · rw [kB_0] at c_l
          refine k_iconst (v := 3) F dX7_reasonOf_50 51 rfl (by decide) ?_
          exact k_iret F dX7_reasonOf_51 (by first | exact Nat.le_of_ble_eq_true rfl | omega) (by first | exact Nat.le_of_ble_eq_true rfl | omega) ⟨by unfold reasonF; rw [if_neg c_a, if_neg c_b, if_pos c_d, hnh, if_neg (by rw [c_l]; decide)], rfl⟩
        · rw [kB_0, Bool.not_eq_false] at c_l
          refine k_iconst (v := 2) F dX7_reasonOf_46 47 rfl (by decide) ?_
          refine k_goto F dX7_reasonOf_47 51 (by decide) ?_
          exact k_iret F dX7_reasonOf_51 (by first | exact Nat.le_of_ble_eq_true rfl | omega) (by first | exact Nat.le_of_ble_eq_true rfl | omega) ⟨by unfold reasonF; rw [if_neg c_a, if_neg c_b, if_pos c_d, hnh, if_pos c_l], rfl⟩
    · rw [hpz] at c_b
      refine k_iconst (v := 1) F dX7_reasonOf_18 19 rfl (by decide) ?_
      exact k_iret F dX7_reasonOf_19 (by first | exact Nat.le_of_ble_eq_true rfl | omega) (by first | exact Nat.le_of_ble_eq_true rfl | omega) ⟨by unfold reasonF; rw [if_neg c_a, if_pos c_b], rfl⟩
  · refine k_iconst (v := 0) F dX7_reasonOf_8 9 rfl (by decide) ?_
    exact k_iret F dX7_reasonOf_9 (by first | exact Nat.le_of_ble_eq_true rfl | omega) (by first | exact Nat.le_of_ble_eq_true rfl | omega) ⟨by unfold reasonF; rw [if_pos c_a], rfl⟩
set_option maxHeartbeats 4000000 in
set_option maxRecDepth 100000 in
theorem zX7_isArm {l : Launch} {g : kG} (S : kStart l g) {h : kH} {m : Nat} {ad : Nat → Nat} {sc R : Nat → Int32} {ar : Nat → Nat → Int32} (hM : MW h m ad sc R ar) (v : Int32) : kMet l g yX7_isArm (Cond.code yX7_isArm cX7_isArm 2 (Option.some Jvm.ClassFile.FieldType.boolean)) 2 0 0 [.ref m, .int v] h (mRd h (.int (kB (inF v 0 (R 3 - 1))))) := by
  refine kEnter S kd_X7_isArm (Nat.le_of_ble_eq_true rfl) (fun x F hxl hxg => ?_)
  subst hxl; subst hxg
  have hlv : lv_args 0 [.ref m, .int v] = [(0, .ref m), (1, .int v)] := rfl
  rw [hlv]
  refine k_iload_n F dX7_isArm_0 1 rfl rfl rfl ?_
  refine k_iconst (v := 0) F dX7_isArm_1 2 rfl (by decide) ?_
  refine k_aload_n F dX7_isArm_2 3 rfl rfl rfl ?_
  refine m_get F 0 (by decide) q3592 rfl dX7_isArm_3 6 rfl hM rfl ?_
  refine k_iconst (v := 3) F dX7_isArm_6 7 rfl (by decide) ?_
  refine m_ld F dX7_isArm_7 8 rfl hM (3) (by first | (with_reducible rfl) | (simp only [nI_lit, pk_mul, nI_add])) (by omega) ?_
  refine k_iconst (v := 1) F dX7_isArm_8 9 rfl (by decide) ?_
  refine k_isub F dX7_isArm_9 10 rfl ?_
  refine k_callV F kd_X7_in q3498 q194 (kInvS (Bs := [_, _, _]) F q3496 q3497 q194 kd_X7_in q3498 dX7_isArm_10 rfl (by decide)) (zX7_in F.st _ _ _) 13 rfl (Nat.le_of_ble_eq_true rfl) (by first | exact Nat.le_of_ble_eq_true rfl | omega) (by first | exact Nat.le_of_ble_eq_true rfl | omega) (by first | exact Nat.le_of_ble_eq_true rfl | omega) (by first | exact Nat.le_of_ble_eq_true rfl | omega) (fun r1 h1 hr1 => ?_)
  obtain ⟨rfl, rfl⟩ := hr1
  exact k_zret F dX7_isArm_13 (by first | rfl | exact kzb _ | exact pk_nc _ | decide) (by first | exact Nat.le_of_ble_eq_true rfl | omega) (by first | exact Nat.le_of_ble_eq_true rfl | omega) ⟨rfl, rfl⟩
set_option maxHeartbeats 4000000 in
set_option maxRecDepth 100000 in
theorem zX7_isPhase {l : Launch} {g : kG} (S : kStart l g) {h : kH} {m : Nat} {ad : Nat → Nat} {sc R : Nat → Int32} {ar : Nat → Nat → Int32} (hM : MW h m ad sc R ar) (v : Int32) : kMet l g yX7_isPhase (Cond.code yX7_isPhase cX7_isPhase 2 (Option.some Jvm.ClassFile.FieldType.boolean)) 2 0 0 [.ref m, .int v] h (mRd h (.int (kB (inF v 0 (R 4 - 1))))) := by
  refine kEnter S kd_X7_isPhase (Nat.le_of_ble_eq_true rfl) (fun x F hxl hxg => ?_)
  subst hxl; subst hxg
  have hlv : lv_args 0 [.ref m, .int v] = [(0, .ref m), (1, .int v)] := rfl
  rw [hlv]
  refine k_iload_n F dX7_isPhase_0 1 rfl rfl rfl ?_
  refine k_iconst (v := 0) F dX7_isPhase_1 2 rfl (by decide) ?_
  refine k_aload_n F dX7_isPhase_2 3 rfl rfl rfl ?_
  refine m_get F 0 (by decide) q3592 rfl dX7_isPhase_3 6 rfl hM rfl ?_
  refine k_iconst (v := 4) F dX7_isPhase_6 7 rfl (by decide) ?_
  refine m_ld F dX7_isPhase_7 8 rfl hM (4) (by first | (with_reducible rfl) | (simp only [nI_lit, pk_mul, nI_add])) (by omega) ?_
  refine k_iconst (v := 1) F dX7_isPhase_8 9 rfl (by decide) ?_
  refine k_isub F dX7_isPhase_9 10 rfl ?_
  refine k_callV F kd_X7_in q3498 q194 (kInvS (Bs := [_, _, _]) F q3496 q3497 q194 kd_X7_in q3498 dX7_isPhase_10 rfl (by decide)) (zX7_in F.st _ _ _) 13 rfl (Nat.le_of_ble_eq_true rfl) (by first | exact Nat.le_of_ble_eq_true rfl | omega) (by first | exact Nat.le_of_ble_eq_true rfl | omega) (by first | exact Nat.le_of_ble_eq_true rfl | omega) (by first | exact Nat.le_of_ble_eq_true rfl | omega) (fun r1 h1 hr1 => ?_)
  obtain ⟨rfl, rfl⟩ := hr1
  exact k_zret F dX7_isPhase_13 (by first | rfl | exact kzb _ | exact pk_nc _ | decide) (by first | exact Nat.le_of_ble_eq_true rfl | omega) (by first | exact Nat.le_of_ble_eq_true rfl | omega) ⟨rfl, rfl⟩
set_option maxHeartbeats 4000000 in
set_option maxRecDepth 100000 in
theorem zX7_right {l : Launch} {g : kG} (S : kStart l g) {h : kH} {m : Nat} {ad : Nat → Nat} {sc R : Nat → Int32} {ar : Nat → Nat → Int32} (hM : MW h m ad sc R ar) (b : Bool) : kMet l g yX7_right (Cond.code yX7_right cX7_right 2 (Option.some Jvm.ClassFile.FieldType.boolean)) 1 0 0 [.ref m, .int (kB b)] h (mDv h m ad (if b = true then sc else upd sc 8 1) R ar (.int (kB b))) := by
  refine kEnter S kd_X7_right (Nat.le_of_ble_eq_true rfl) (fun x F hxl hxg => ?_)
  subst hxl; subst hxg
  have hlv : lv_args 0 [.ref m, .int (kB b)] = [(0, .ref m), (1, .int (kB b))] := rfl
  rw [hlv]
  have hK : kKp (mOwn m) h h := kKp.rf
  refine k_iload_n F dX7_right_0 1 rfl rfl rfl ?_
  refine k_ifne F dX7_right_1 4 9 rfl (by decide) (fun c_a => ?_) (fun c_a => ?_)
  · rw [kB_0, Bool.not_eq_false] at c_a
    refine k_iload_n F dX7_right_9 10 rfl rfl rfl ?_
    exact k_zret F dX7_right_10 (by first | rfl | exact kzb _ | exact pk_nc _ | decide) (by first | exact Nat.le_of_ble_eq_true rfl | omega) (by first | exact Nat.le_of_ble_eq_true rfl | omega) ⟨rfl, by rw [if_pos c_a]; exact hM, hK⟩
  · rw [kB_0] at c_a
    refine k_aload_n F dX7_right_4 5 rfl rfl rfl ?_
    refine k_iconst (v := 1) F dX7_right_5 6 rfl (by decide) ?_
    refine m_put F 8 (by decide) (knX7 8) q3600 rfl rfl dX7_right_6 9 rfl hM hK rfl rfl rfl (fun h9 hM hK => ?_)
    refine k_iload_n F dX7_right_9 10 rfl rfl rfl ?_
    exact k_zret F dX7_right_10 (by first | rfl | exact kzb _ | exact pk_nc _ | decide) (by first | exact Nat.le_of_ble_eq_true rfl | omega) (by first | exact Nat.le_of_ble_eq_true rfl | omega) ⟨rfl, by rw [if_neg (by rw [c_a]; decide)]; exact hM, hK⟩

