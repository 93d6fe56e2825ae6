/-! the reference: public questions -/
theorem kd_X7_thrown : kCd (Cond.code yX7_thrown cX7_thrown 1 (Option.some Jvm.ClassFile.FieldType.int)) yX7_thrown cX7_thrown 1 (Option.some Jvm.ClassFile.FieldType.int) [] := kCd_code (by decide +kernel)
theorem kd_X7_size : kCd (Cond.code yX7_size cX7_size 2 (Option.some Jvm.ClassFile.FieldType.int)) yX7_size cX7_size 2 (Option.some Jvm.ClassFile.FieldType.int) [] := kCd_code (by decide +kernel)
theorem kd_X7_arm : kCd (Cond.code yX7_arm cX7_arm 3 (Option.some Jvm.ClassFile.FieldType.int)) yX7_arm cX7_arm 3 (Option.some Jvm.ClassFile.FieldType.int) [] := kCd_code (by decide +kernel)
theorem kd_X7_phase : kCd (Cond.code yX7_phase cX7_phase 3 (Option.some Jvm.ClassFile.FieldType.int)) yX7_phase cX7_phase 3 (Option.some Jvm.ClassFile.FieldType.int) [] := kCd_code (by decide +kernel)
theorem kd_X7_has : kCd (Cond.code yX7_has cX7_has 3 (Option.some Jvm.ClassFile.FieldType.boolean)) yX7_has cX7_has 3 (Option.some Jvm.ClassFile.FieldType.boolean) [] := kCd_code (by decide +kernel)
theorem kd_X7_doClash : kCd (Cond.code yX7_doClash cX7_doClash 3 (Option.some Jvm.ClassFile.FieldType.boolean)) yX7_doClash cX7_doClash 3 (Option.some Jvm.ClassFile.FieldType.boolean) [] := kCd_code (by decide +kernel)
theorem kd_X7_car : kCd (Cond.code yX7_car cX7_car 3 (Option.some Jvm.ClassFile.FieldType.int)) yX7_car cX7_car 3 (Option.some Jvm.ClassFile.FieldType.int) [] := kCd_code (by decide +kernel)
theorem kd_X7_named : kCd (Cond.code yX7_named cX7_named 3 (Option.some Jvm.ClassFile.FieldType.int)) yX7_named cX7_named 3 (Option.some Jvm.ClassFile.FieldType.int) [] := kCd_code (by decide +kernel)
theorem kd_X7_packed : kCd (Cond.code yX7_packed cX7_packed 5 (Option.some Jvm.ClassFile.FieldType.int)) yX7_packed cX7_packed 5 (Option.some Jvm.ClassFile.FieldType.int) [] := kCd_code (by decide +kernel)
theorem kd_X7_why : kCd (Cond.code yX7_why cX7_why 4 (Option.some Jvm.ClassFile.FieldType.int)) yX7_why cX7_why 4 (Option.some Jvm.ClassFile.FieldType.int) [] := kCd_code (by decide +kernel)
theorem kd_X7_account : kCd (Cond.code yX7_account cX7_account 2 (Option.some Jvm.ClassFile.FieldType.int)) yX7_account cX7_account 2 (Option.some Jvm.ClassFile.FieldType.int) [] := kCd_code (by decide +kernel)
theorem kd_X7_gap : kCd (Cond.code yX7_gap cX7_gap 4 (Option.some Jvm.ClassFile.FieldType.int)) yX7_gap cX7_gap 4 (Option.some Jvm.ClassFile.FieldType.int) [] := kCd_code (by decide +kernel)
theorem kd_X7_errorPosition : kCd (Cond.code yX7_errorPosition cX7_errorPosition 1 (Option.some Jvm.ClassFile.FieldType.int)) yX7_errorPosition cX7_errorPosition 1 (Option.some Jvm.ClassFile.FieldType.int) [] := kCd_code (by decide +kernel)
set_option maxHeartbeats 4000000 in
set_option maxRecDepth 100000 in
theorem zX7_thrown {l : Launch} {g : kG} (S : kStart l g) {h : kH} {m : Nat} {ad : Nat → Nat} {sc R : Nat → Int32} {ar : Nat → Nat → Int32} (hM : MW h m ad sc R ar) : kMet l g yX7_thrown (Cond.code yX7_thrown cX7_thrown 1 (Option.some Jvm.ClassFile.FieldType.int)) 1 0 0 [.ref m] h (mRd h (.int (sc 8))) := by
  refine kEnter S kd_X7_thrown (Nat.le_of_ble_eq_true rfl) (fun x F hxl hxg => ?_)
  subst hxl; subst hxg
  have hlv : lv_args 0 [.ref m] = [(0, .ref m)] := rfl
  rw [hlv]
  refine k_aload_n F dX7_thrown_0 1 rfl rfl rfl ?_
  refine m_get F 8 (by decide) q3600 rfl dX7_thrown_1 4 rfl hM rfl ?_
  exact k_iret F dX7_thrown_4 (by first | exact Nat.le_of_ble_eq_true rfl | omega) (by first | exact Nat.le_of_ble_eq_true rfl | omega) ⟨rfl, rfl⟩
set_option maxHeartbeats 4000000 in
set_option maxRecDepth 100000 in
theorem zX7_errorPosition {l : Launch} {g : kG} (S : kStart l g) {h : kH} {m : Nat} {ad : Nat → Nat} {sc R : Nat → Int32} {ar : Nat → Nat → Int32} (hM : MW h m ad sc R ar) : kMet l g yX7_errorPosition (Cond.code yX7_errorPosition cX7_errorPosition 1 (Option.some Jvm.ClassFile.FieldType.int)) 1 0 0 [.ref m] h (mDv h m ad (upd sc 8 0) R ar (.int (sc 11))) := by
  refine kEnter S kd_X7_errorPosition (Nat.le_of_ble_eq_true rfl) (fun x F hxl hxg => ?_)
  subst hxl; subst hxg
  have hlv : lv_args 0 [.ref m] = [(0, .ref m)] := rfl
  rw [hlv]
  have hK : kKp (mOwn m) h h := kKp.rf
  refine k_aload_n F dX7_errorPosition_0 1 rfl rfl rfl ?_
  refine k_iconst (v := 0) F dX7_errorPosition_1 2 rfl (by decide) ?_
  refine m_put F 8 (by decide) (knX7 8) q3600 rfl rfl dX7_errorPosition_2 5 rfl hM hK rfl rfl rfl (fun h9 hM hK => ?_)
  refine k_aload_n F dX7_errorPosition_5 6 rfl rfl rfl ?_
  refine m_get F 11 (by decide) q3603 rfl dX7_errorPosition_6 9 rfl hM rfl ?_
  exact k_iret F dX7_errorPosition_9 (by first | exact Nat.le_of_ble_eq_true rfl | omega) (by first | exact Nat.le_of_ble_eq_true rfl | omega) ⟨rfl, hM, hK⟩
set_option maxHeartbeats 4000000 in
set_option maxRecDepth 100000 in
theorem zX7_named {l : Launch} {g : kG} (S : kStart l g) {h : kH} {m : Nat} {ad : Nat → Nat} {sc R : Nat → Int32} {ar : Nat → Nat → Int32} (hM : MW h m ad sc R ar) (hR : RV R) (w : Int32) : kMet l g yX7_named (Cond.code yX7_named cX7_named 3 (Option.some Jvm.ClassFile.FieldType.int)) 2 0 0 [.ref m, .int w] h (mRd h (.int (nO (namedF R w)))) := by
  refine kEnter S kd_X7_named (Nat.le_of_ble_eq_true rfl) (fun x F hxl hxg => ?_)
  subst hxl; subst hxg
  have hlv : lv_args 0 [.ref m, .int w] = [(0, .ref m), (1, .int w)] := rfl
  rw [hlv]
  obtain ⟨r1, r2, r3, r4, r5, r6, r7, r8⟩ := id hR
  refine k_iconst (v := 0) F dX7_named_0 1 rfl (by decide) ?_
  refine k_istore_n (lv' := [(0, _), (1, _), (2, _)]) F dX7_named_1 2 rfl rfl (Nat.le_of_ble_eq_true rfl) rfl rfl rfl ?_
  refine kUpTo (Q := fun j => (∀ i, i < j → (mOf R i 0 == w) = false) → kW x 0 0 h 2 [(0, .ref m), (1, .int w), (2, .int (nI j))] []) (rA R) ?_ ?_ 0 (Nat.zero_le _) (fun i hi => absurd hi (by omega))
  · intro hno
    refine k_iload_n F dX7_named_2 3 rfl rfl rfl ?_
    refine k_aload_n F dX7_named_3 4 rfl rfl rfl ?_
    refine m_get F 0 (by decide) q3592 rfl dX7_named_4 7 rfl hM rfl ?_
    refine k_iconst (v := 3) F dX7_named_7 8 rfl (by decide) ?_
    refine m_ld F dX7_named_8 9 rfl hM (3) (by first | (with_reducible rfl) | (simp only [nI_lit, pk_mul, nI_add])) (by omega) ?_
    rw [r1]
    refine k_icmpge F dX7_named_9 12 30 rfl (by decide) (fun c_a => ?_) (fun c_a => ?_)
    · refine k_iconst (v := (-1)) F dX7_named_30 31 rfl (by decide) ?_
      exact k_iret F dX7_named_31 (by first | exact Nat.le_of_ble_eq_true rfl | omega) (by first | exact Nat.le_of_ble_eq_true rfl | omega) ⟨by rw [namedF, findTo_none hno]; rfl, rfl⟩
    · exact absurd (by rw [nI_leE (by omega) (by omega)]; omega) c_a
  · intro j hj ih hno
    refine k_iload_n F dX7_named_2 3 rfl rfl rfl ?_
    refine k_aload_n F dX7_named_3 4 rfl rfl rfl ?_
    refine m_get F 0 (by decide) q3592 rfl dX7_named_4 7 rfl hM rfl ?_
    refine k_iconst (v := 3) F dX7_named_7 8 rfl (by decide) ?_
    refine m_ld F dX7_named_8 9 rfl hM (3) (by first | (with_reducible rfl) | (simp only [nI_lit, pk_mul, nI_add])) (by omega) ?_
    rw [r1]
    refine k_icmpge F dX7_named_9 12 30 rfl (by decide) (fun c_b => ?_) (fun c_b => ?_)
    · rw [nI_leE (by omega) (by omega)] at c_b
      omega
    · refine k_aload_n F dX7_named_12 13 rfl rfl rfl ?_
      refine k_iload_n F dX7_named_13 14 rfl rfl rfl ?_
      refine k_iconst (v := 0) F dX7_named_14 15 rfl (by decide) ?_
      refine k_callV F kd_X7_of q3549 q194 (kInvV (Bs := [_, _]) F kcX7 q3546 q3548 qs86 kd_X7_of q3549 dX7_named_15 (kHs.of hM.1) rfl (by decide)) (zX7_of F.st hM j 0 (by omega)) 18 rfl (Nat.le_of_ble_eq_true rfl) (by first | exact Nat.le_of_ble_eq_true rfl | omega) (by first | exact Nat.le_of_ble_eq_true rfl | omega) (by first | exact Nat.le_of_ble_eq_true rfl | omega) (by first | exact Nat.le_of_ble_eq_true rfl | omega) (fun r1 h1 hr1 => ?_)
      obtain ⟨rfl, rfl⟩ := hr1
      refine k_iload_n F dX7_named_18 19 rfl rfl rfl ?_
      refine k_icmpne F dX7_named_19 22 24 rfl (by decide) (fun c_d => ?_) (fun c_d => ?_)
      · refine k_iinc (e := 1) (lv' := [(0, _), (1, _), (2, _)]) F dX7_named_24 27 rfl rfl (by decide) rfl (Nat.le_of_ble_eq_true rfl) rfl rfl rfl ?_
        refine k_goto F dX7_named_27 2 (by decide) ?_
        rw [nI_1]
        exact ih (fun i hi => if q : i = j then by rw [q]; simp [c_d] else hno i (by omega))
      · refine k_iload_n F dX7_named_22 23 rfl rfl rfl ?_
        exact k_iret F dX7_named_23 (by first | exact Nat.le_of_ble_eq_true rfl | omega) (by first | exact Nat.le_of_ble_eq_true rfl | omega) ⟨by rw [namedF, findTo_some (f := fun a => mOf R a 0 == w) hj hno (by simp [c_d])]; rfl, rfl⟩
set_option maxHeartbeats 4000000 in
set_option maxRecDepth 100000 in
theorem zX7_packed {l : Launch} {g : kG} (S : kStart l g) {h : kH} {m : Nat} {ad : Nat → Nat} {sc R : Nat → Int32} {ar : Nat → Nat → Int32} (hM : MW h m ad sc R ar) (s n : Nat) (hs : s + n ≤ 600) : kMet l g yX7_packed (Cond.code yX7_packed cX7_packed 5 (Option.some Jvm.ClassFile.FieldType.int)) 1 0 0 [.ref m, .int (nI s), .int (nI n)] h (mRd h (.int (pkTo (ar 9) s n))) := by
  refine kEnter S kd_X7_packed (Nat.le_of_ble_eq_true rfl) (fun x F hxl hxg => ?_)
  subst hxl; subst hxg
  have hlv : lv_args 0 [.ref m, .int (nI s), .int (nI n)] = [(0, .ref m), (1, .int (nI s)), (2, .int (nI n))] := rfl
  rw [hlv]
  refine k_iconst (v := 0) F dX7_packed_0 1 rfl (by decide) ?_
  refine k_istore_n (lv' := [(0, _), (1, _), (2, _), (3, _)]) F dX7_packed_1 2 rfl rfl (Nat.le_of_ble_eq_true rfl) rfl rfl rfl ?_
  refine k_iconst (v := 0) F dX7_packed_2 3 rfl (by decide) ?_
  refine k_istore (lv' := [(0, _), (1, _), (2, _), (3, _), (4, _)]) F dX7_packed_3 5 rfl (Nat.le_of_ble_eq_true rfl) rfl rfl rfl ?_
  refine kUpTo (Q := fun j => kW x 0 0 h 5 [(0, .ref m), (1, .int (nI s)), (2, .int (nI n)), (3, .int (pkTo (ar 9) s j)), (4, .int (nI j))] []) n ?_ ?_ 0 (Nat.zero_le _)
  · refine k_iload F dX7_packed_5 7 rfl rfl ?_
    refine k_iload_n F dX7_packed_7 8 rfl rfl rfl ?_
    refine k_icmpge F dX7_packed_8 11 35 rfl (by decide) (fun c_a => ?_) (fun c_a => ?_)
    · refine k_iload_n F dX7_packed_35 36 rfl rfl rfl ?_
      exact k_iret F dX7_packed_36 (by first | exact Nat.le_of_ble_eq_true rfl | omega) (by first | exact Nat.le_of_ble_eq_true rfl | omega) ⟨rfl, rfl⟩
    · exact absurd (by rw [nI_leE (by omega) (by omega)]; omega) c_a
  · intro j hj ih
    refine k_iload F dX7_packed_5 7 rfl rfl ?_
    refine k_iload_n F dX7_packed_7 8 rfl rfl rfl ?_
    refine k_icmpge F dX7_packed_8 11 35 rfl (by decide) (fun c_b => ?_) (fun c_b => ?_)
    · rw [nI_leE (by omega) (by omega)] at c_b
      omega
    · refine k_bipush (v := 27) F dX7_packed_11 13 rfl (by decide) ?_
      refine k_iload_n F dX7_packed_13 14 rfl rfl rfl ?_
      refine k_imul F dX7_packed_14 15 rfl ?_
      refine k_aload_n F dX7_packed_15 16 rfl rfl rfl ?_
      refine m_get F 9 (by decide) q3601 rfl dX7_packed_16 19 rfl hM rfl ?_
      refine k_iload_n F dX7_packed_19 20 rfl rfl rfl ?_
      refine k_iload F dX7_packed_20 22 rfl rfl ?_
      refine k_iadd F dX7_packed_22 23 rfl ?_
      refine m_iald F _ (by rfl) dX7_packed_23 24 rfl hM (s + j) (by first | (with_reducible rfl) | (simp only [nI_lit, pk_mul, nI_add])) (by first | decide | omega | (simp only [mSz]; omega)) ?_
      refine k_iadd F dX7_packed_24 25 rfl ?_
      refine k_bipush (v := 96) F dX7_packed_25 27 rfl (by decide) ?_
      refine k_isub F dX7_packed_27 28 rfl ?_
      refine k_istore_n (lv' := [(0, _), (1, _), (2, _), (3, _), (4, _)]) F dX7_packed_28 29 rfl rfl (Nat.le_of_ble_eq_true rfl) rfl rfl rfl ?_
      refine k_iinc (e := 1) (lv' := [(0, _), (1, _), (2, _), (3, _), (4, _)]) F dX7_packed_29 32 rfl rfl (by decide) rfl (Nat.le_of_ble_eq_true rfl) rfl rfl rfl ?_
      refine k_goto F dX7_packed_32 5 (by decide) ?_
      rw [nI_1]
      exact ih
set_option maxHeartbeats 4000000 in
set_option maxRecDepth 100000 in
theorem zX7_size {l : Launch} {g : kG} (S : kStart l g) {h : kH} {m : Nat} {ad : Nat → Nat} {sc R : Nat → Int32} {ar : Nat → Nat → Int32} (hM : MW h m ad sc R ar) (hR : RV R) (v : Int32) : kMet l g yX7_size (Cond.code yX7_size cX7_size 2 (Option.some Jvm.ClassFile.FieldType.int)) 6 0 0 [.ref m, .int v] h (mAn h m ad sc R ar (oSize R (sc 6) v)) := by
  refine kEnter S kd_X7_size (Nat.le_of_ble_eq_true rfl) (fun x F hxl hxg => ?_)
  subst hxl; subst hxg
  have hlv : lv_args 0 [.ref m, .int v] = [(0, .ref m), (1, .int v)] := rfl
  rw [hlv]
  have hK : kKp (mOwn m) h h := kKp.rf
  obtain ⟨r1, r2, r3, r4, r5, r6, r7, r8⟩ := id hR
  refine k_aload_n F dX7_size_0 1 rfl rfl rfl ?_
  refine k_iconst (v := 0) F dX7_size_1 2 rfl (by decide) ?_
  refine m_put F 8 (by decide) (knX7 8) q3600 rfl rfl dX7_size_2 5 rfl hM hK rfl rfl rfl (fun h9 hM hK => ?_)
  refine k_aload_n F dX7_size_5 6 rfl rfl rfl ?_
  refine k_iload_n F dX7_size_6 7 rfl rfl rfl ?_
  refine k_iconst (v := 0) F dX7_size_7 8 rfl (by decide) ?_
  refine k_bipush (v := 13) F dX7_size_8 10 rfl (by decide) ?_
  refine k_callV F kd_X7_in q3498 q194 (kInvS (Bs := [_, _, _]) F q3496 q3497 q194 kd_X7_in q3498 dX7_size_10 rfl (by decide)) (zX7_in F.st _ _ _) 13 rfl (Nat.le_of_ble_eq_true rfl) (by first | exact Nat.le_of_ble_eq_true rfl | omega) (by first | exact Nat.le_of_ble_eq_true rfl | omega) (by first | exact Nat.le_of_ble_eq_true rfl | omega) (by first | exact Nat.le_of_ble_eq_true rfl | omega) (fun r1 h1 hr1 => ?_)
  obtain ⟨rfl, rfl⟩ := hr1
  refine k_callV F kd_X7_right q3850 q194 (kInvV (Bs := [_]) F kcX7 q3847 q3849 qs132 kd_X7_right q3850 dX7_size_13 (kHs.of hM.1) rfl (by decide)) (zX7_right F.st hM _) 16 rfl (Nat.le_of_ble_eq_true rfl) (by first | exact Nat.le_of_ble_eq_true rfl | omega) (by first | exact Nat.le_of_ble_eq_true rfl | omega) (by first | exact Nat.le_of_ble_eq_true rfl | omega) (by first | exact Nat.le_of_ble_eq_true rfl | omega) (fun r2 h2 hr2 => ?_)
  obtain ⟨rfl, hM, hK9⟩ := hr2
  have hK := hK.tr hK9
  rw [show (13 : Int32) = nI 14 - 1 from by decide] at hM ⊢
  refine k_ifne F dX7_size_16 19 21 rfl (by decide) (fun c_a => ?_) (fun c_a => ?_)
  · rw [kB_0, Bool.not_eq_false] at c_a
    obtain ⟨k, hk, rfl⟩ := (inIx (by omega)).mp c_a
    rw [if_pos c_a] at hM
    have ho : oSize R (sc 6) (nI k) = some (sizeF R (sc 6) k) := by unfold oSize; rw [ixO_some hk (by omega)]; rfl
    rw [ho] at F
    rcases (show k = 0 ∨ k = 1 ∨ k = 2 ∨ k = 3 ∨ k = 4 ∨ k = 5 ∨ k = 6 ∨ k = 7 ∨ k = 8 ∨ k = 9 ∨ k = 10 ∨ k = 11 ∨ k = 12 ∨ k = 13 by omega) with rfl | rfl | rfl | rfl | rfl | rfl | rfl | rfl | rfl | rfl | rfl | rfl | rfl | rfl
    · refine k_iload_n F dX7_size_21 22 rfl rfl rfl ?_
      refine k_tableIn F dX7_size_22 92 (by decide) (by decide) (by rfl) (by decide) ?_
      refine k_aload_n F dX7_size_92 93 rfl rfl rfl ?_
      refine m_get F 0 (by decide) q3592 rfl dX7_size_93 96 rfl hM rfl ?_
      refine k_iconst (v := 3) F dX7_size_96 97 rfl (by decide) ?_
      refine m_ld F dX7_size_97 98 rfl hM (3) (by first | (with_reducible rfl) | (simp only [nI_lit, pk_mul, nI_add])) (by omega) ?_
      exact k_iret F dX7_size_98 (by first | exact Nat.le_of_ble_eq_true rfl | omega) (by first | exact Nat.le_of_ble_eq_true rfl | omega) ⟨rfl, hM, hK⟩
    · refine k_iload_n F dX7_size_21 22 rfl rfl rfl ?_
      refine k_tableIn F dX7_size_22 99 (by decide) (by decide) (by rfl) (by decide) ?_
      refine k_aload_n F dX7_size_99 100 rfl rfl rfl ?_
      refine m_get F 0 (by decide) q3592 rfl dX7_size_100 103 rfl hM rfl ?_
      refine k_iconst (v := 4) F dX7_size_103 104 rfl (by decide) ?_
      refine m_ld F dX7_size_104 105 rfl hM (4) (by first | (with_reducible rfl) | (simp only [nI_lit, pk_mul, nI_add])) (by omega) ?_
      exact k_iret F dX7_size_105 (by first | exact Nat.le_of_ble_eq_true rfl | omega) (by first | exact Nat.le_of_ble_eq_true rfl | omega) ⟨rfl, hM, hK⟩
    · refine k_iload_n F dX7_size_21 22 rfl rfl rfl ?_
      refine k_tableIn F dX7_size_22 106 (by decide) (by decide) (by rfl) (by decide) ?_
      refine k_aload_n F dX7_size_106 107 rfl rfl rfl ?_
      refine m_get F 0 (by decide) q3592 rfl dX7_size_107 110 rfl hM rfl ?_
      refine k_iconst (v := 5) F dX7_size_110 111 rfl (by decide) ?_
      refine m_ld F dX7_size_111 112 rfl hM (5) (by first | (with_reducible rfl) | (simp only [nI_lit, pk_mul, nI_add])) (by omega) ?_
      exact k_iret F dX7_size_112 (by first | exact Nat.le_of_ble_eq_true rfl | omega) (by first | exact Nat.le_of_ble_eq_true rfl | omega) ⟨rfl, hM, hK⟩
    · refine k_iload_n F dX7_size_21 22 rfl rfl rfl ?_
      refine k_tableIn F dX7_size_22 113 (by decide) (by decide) (by rfl) (by decide) ?_
      refine k_aload_n F dX7_size_113 114 rfl rfl rfl ?_
      refine m_get F 0 (by decide) q3592 rfl dX7_size_114 117 rfl hM rfl ?_
      refine k_iconst (v := 0) F dX7_size_117 118 rfl (by decide) ?_
      refine m_ld F dX7_size_118 119 rfl hM (0) (by first | (with_reducible rfl) | (simp only [nI_lit, pk_mul, nI_add])) (by omega) ?_
      exact k_iret F dX7_size_119 (by first | exact Nat.le_of_ble_eq_true rfl | omega) (by first | exact Nat.le_of_ble_eq_true rfl | omega) ⟨rfl, hM, hK⟩
    · refine k_iload_n F dX7_size_21 22 rfl rfl rfl ?_
      refine k_tableIn F dX7_size_22 120 (by decide) (by decide) (by rfl) (by decide) ?_
      refine k_aload_n F dX7_size_120 121 rfl rfl rfl ?_
      refine m_get F 0 (by decide) q3592 rfl dX7_size_121 124 rfl hM rfl ?_
      refine k_iconst (v := 1) F dX7_size_124 125 rfl (by decide) ?_
      refine m_ld F dX7_size_125 126 rfl hM (1) (by first | (with_reducible rfl) | (simp only [nI_lit, pk_mul, nI_add])) (by omega) ?_
      exact k_iret F dX7_size_126 (by first | exact Nat.le_of_ble_eq_true rfl | omega) (by first | exact Nat.le_of_ble_eq_true rfl | omega) ⟨rfl, hM, hK⟩
    · refine k_iload_n F dX7_size_21 22 rfl rfl rfl ?_
      refine k_tableIn F dX7_size_22 127 (by decide) (by decide) (by rfl) (by decide) ?_
      refine k_aload_n F dX7_size_127 128 rfl rfl rfl ?_
      refine m_get F 0 (by decide) q3592 rfl dX7_size_128 131 rfl hM rfl ?_
      refine k_iconst (v := 2) F dX7_size_131 132 rfl (by decide) ?_
      refine m_ld F dX7_size_132 133 rfl hM (2) (by first | (with_reducible rfl) | (simp only [nI_lit, pk_mul, nI_add])) (by omega) ?_
      exact k_iret F dX7_size_133 (by first | exact Nat.le_of_ble_eq_true rfl | omega) (by first | exact Nat.le_of_ble_eq_true rfl | omega) ⟨rfl, hM, hK⟩
    · refine k_iload_n F dX7_size_21 22 rfl rfl rfl ?_
      refine k_tableIn F dX7_size_22 163 (by decide) (by decide) (by rfl) (by decide) ?_
      refine k_aload_n F dX7_size_163 164 rfl rfl rfl ?_
      refine m_get F 0 (by decide) q3592 rfl dX7_size_164 167 rfl hM rfl ?_
      refine k_iload_n F dX7_size_167 168 rfl rfl rfl ?_
      refine m_ld F dX7_size_168 169 rfl hM (6) (by first | (with_reducible rfl) | (simp only [nI_lit, pk_mul, nI_add])) (by omega) ?_
      exact k_iret F dX7_size_169 (by first | exact Nat.le_of_ble_eq_true rfl | omega) (by first | exact Nat.le_of_ble_eq_true rfl | omega) ⟨rfl, hM, hK⟩
    · refine k_iload_n F dX7_size_21 22 rfl rfl rfl ?_
      refine k_tableIn F dX7_size_22 163 (by decide) (by decide) (by rfl) (by decide) ?_
      refine k_aload_n F dX7_size_163 164 rfl rfl rfl ?_
      refine m_get F 0 (by decide) q3592 rfl dX7_size_164 167 rfl hM rfl ?_
      refine k_iload_n F dX7_size_167 168 rfl rfl rfl ?_
      refine m_ld F dX7_size_168 169 rfl hM (7) (by first | (with_reducible rfl) | (simp only [nI_lit, pk_mul, nI_add])) (by omega) ?_
      exact k_iret F dX7_size_169 (by first | exact Nat.le_of_ble_eq_true rfl | omega) (by first | exact Nat.le_of_ble_eq_true rfl | omega) ⟨rfl, hM, hK⟩
    · refine k_iload_n F dX7_size_21 22 rfl rfl rfl ?_
      refine k_tableIn F dX7_size_22 163 (by decide) (by decide) (by rfl) (by decide) ?_
      refine k_aload_n F dX7_size_163 164 rfl rfl rfl ?_
      refine m_get F 0 (by decide) q3592 rfl dX7_size_164 167 rfl hM rfl ?_
      refine k_iload_n F dX7_size_167 168 rfl rfl rfl ?_
      refine m_ld F dX7_size_168 169 rfl hM (8) (by first | (with_reducible rfl) | (simp only [nI_lit, pk_mul, nI_add])) (by omega) ?_
      exact k_iret F dX7_size_169 (by first | exact Nat.le_of_ble_eq_true rfl | omega) (by first | exact Nat.le_of_ble_eq_true rfl | omega) ⟨rfl, hM, hK⟩
    · refine k_iload_n F dX7_size_21 22 rfl rfl rfl ?_
      refine k_tableIn F dX7_size_22 163 (by decide) (by decide) (by rfl) (by decide) ?_
      refine k_aload_n F dX7_size_163 164 rfl rfl rfl ?_
      refine m_get F 0 (by decide) q3592 rfl dX7_size_164 167 rfl hM rfl ?_
      refine k_iload_n F dX7_size_167 168 rfl rfl rfl ?_
      refine m_ld F dX7_size_168 169 rfl hM (9) (by first | (with_reducible rfl) | (simp only [nI_lit, pk_mul, nI_add])) (by omega) ?_
      exact k_iret F dX7_size_169 (by first | exact Nat.le_of_ble_eq_true rfl | omega) (by first | exact Nat.le_of_ble_eq_true rfl | omega) ⟨rfl, hM, hK⟩
    · refine k_iload_n F dX7_size_21 22 rfl rfl rfl ?_
      refine k_tableIn F dX7_size_22 134 (by decide) (by decide) (by rfl) (by decide) ?_
      refine k_aload_n F dX7_size_134 135 rfl rfl rfl ?_
      refine k_callV F kd_X7_best q3789 q194 (kInvV (Bs := []) F kcX7 q3786 q3788 qs118 kd_X7_best q3789 dX7_size_135 (kHs.of hM.1) rfl (by decide)) (zX7_best F.st hM hR) 138 rfl (Nat.le_of_ble_eq_true rfl) (by first | exact Nat.le_of_ble_eq_true rfl | omega) (by first | exact Nat.le_of_ble_eq_true rfl | omega) (by first | exact Nat.le_of_ble_eq_true rfl | omega) (by first | exact Nat.le_of_ble_eq_true rfl | omega) (fun r3 h3 hr3 => ?_)
      obtain ⟨rfl, rfl⟩ := hr3
      exact k_iret F dX7_size_138 (by first | exact Nat.le_of_ble_eq_true rfl | omega) (by first | exact Nat.le_of_ble_eq_true rfl | omega) ⟨rfl, hM, hK⟩
    · refine k_iload_n F dX7_size_21 22 rfl rfl rfl ?_
      refine k_tableIn F dX7_size_22 139 (by decide) (by decide) (by rfl) (by decide) ?_
      refine k_aload_n F dX7_size_139 140 rfl rfl rfl ?_
      refine k_callV F kd_X7_busyArm q3814 q194 (kInvV (Bs := []) F kcX7 q3811 q3813 qs124 kd_X7_busyArm q3814 dX7_size_140 (kHs.of hM.1) rfl (by decide)) (zX7_busyArm F.st hM hR) 143 rfl (Nat.le_of_ble_eq_true rfl) (by first | exact Nat.le_of_ble_eq_true rfl | omega) (by first | exact Nat.le_of_ble_eq_true rfl | omega) (by first | exact Nat.le_of_ble_eq_true rfl | omega) (by first | exact Nat.le_of_ble_eq_true rfl | omega) (fun r4 h4 hr4 => ?_)
      obtain ⟨rfl, rfl⟩ := hr4
      refine k_iconst (v := (-1)) F dX7_size_143 144 rfl (by decide) ?_
      have hbz : ∀ q, busyF R = some q → q < 100 := fun q hq => by
        unfold busyF findTo at hq
        have := List.mem_range.mp (List.mem_of_find?_eq_some hq)
        omega
      refine k_icmpne F dX7_size_144 147 151 rfl (by decide) (fun c_b => ?_) (fun c_b => ?_)
      · refine k_iconst (v := 1) F dX7_size_151 152 rfl (by decide) ?_
        exact k_iret F dX7_size_152 (by first | exact Nat.le_of_ble_eq_true rfl | omega) (by first | exact Nat.le_of_ble_eq_true rfl | omega) ⟨by show Value.int (if busyF R = none then 0 else 1) = _; rw [if_neg (fun z => c_b (by rw [z]; rfl))], hM, hK⟩
      · refine k_iconst (v := 0) F dX7_size_147 148 rfl (by decide) ?_
        refine k_goto F dX7_size_148 152 (by decide) ?_
        exact k_iret F dX7_size_152 (by first | exact Nat.le_of_ble_eq_true rfl | omega) (by first | exact Nat.le_of_ble_eq_true rfl | omega) ⟨by show Value.int (if busyF R = none then 0 else 1) = _; rw [if_pos ((nO_m1' hbz).mp c_b)], hM, hK⟩
    · refine k_iload_n F dX7_size_21 22 rfl rfl rfl ?_
      refine k_tableIn F dX7_size_22 153 (by decide) (by decide) (by rfl) (by decide) ?_
      refine k_aload_n F dX7_size_153 154 rfl rfl rfl ?_
      refine k_callV F kd_X7_allCars q3854 q194 (kInvV (Bs := []) F kcX7 q3851 q3853 qs133 kd_X7_allCars q3854 dX7_size_154 (kHs.of hM.1) rfl (by decide)) (zX7_allCars F.st hM hR) 157 rfl (Nat.le_of_ble_eq_true rfl) (by first | exact Nat.le_of_ble_eq_true rfl | omega) (by first | exact Nat.le_of_ble_eq_true rfl | omega) (by first | exact Nat.le_of_ble_eq_true rfl | omega) (by first | exact Nat.le_of_ble_eq_true rfl | omega) (fun r5 h5 hr5 => ?_)
      obtain ⟨rfl, rfl⟩ := hr5
      exact k_iret F dX7_size_157 (by first | exact Nat.le_of_ble_eq_true rfl | omega) (by first | exact Nat.le_of_ble_eq_true rfl | omega) ⟨rfl, hM, hK⟩
    · refine k_iload_n F dX7_size_21 22 rfl rfl rfl ?_
      refine k_tableIn F dX7_size_22 158 (by decide) (by decide) (by rfl) (by decide) ?_
      refine k_aload_n F dX7_size_158 159 rfl rfl rfl ?_
      refine m_get F 6 (by decide) q3598 rfl dX7_size_159 162 rfl hM rfl ?_
      exact k_iret F dX7_size_162 (by first | exact Nat.le_of_ble_eq_true rfl | omega) (by first | exact Nat.le_of_ble_eq_true rfl | omega) ⟨rfl, hM, hK⟩
  · rw [kB_0] at c_a
    rw [if_neg (by rw [c_a]; decide)] at hM
    have ho : oSize R (sc 6) v = none := by unfold oSize; rw [ixO_none c_a]; rfl
    rw [ho] at F
    refine k_iconst (v := 0) F dX7_size_19 20 rfl (by decide) ?_
    exact k_iret F dX7_size_20 (by first | exact Nat.le_of_ble_eq_true rfl | omega) (by first | exact Nat.le_of_ble_eq_true rfl | omega) ⟨rfl, hM, hK⟩

