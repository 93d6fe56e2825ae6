/-! the reference: forecasts; undo, saved rows -/
theorem kd_X7_grownBy : kCd (Cond.code yX7_grownBy cX7_grownBy 4 (Option.some Jvm.ClassFile.FieldType.int)) yX7_grownBy cX7_grownBy 4 (Option.some Jvm.ClassFile.FieldType.int) [] := kCd_code (by decide +kernel)
theorem kd_X7_ifRule : kCd (Cond.code yX7_ifRule cX7_ifRule 4 (Option.some Jvm.ClassFile.FieldType.int)) yX7_ifRule cX7_ifRule 4 (Option.some Jvm.ClassFile.FieldType.int) [] := kCd_code (by decide +kernel)
theorem kd_X7_bestRule : kCd (Cond.code yX7_bestRule cX7_bestRule 6 (Option.some Jvm.ClassFile.FieldType.int)) yX7_bestRule cX7_bestRule 6 (Option.some Jvm.ClassFile.FieldType.int) [] := kCd_code (by decide +kernel)
theorem kd_X7_greenIn : kCd (Cond.code yX7_greenIn cX7_greenIn 3 (Option.some Jvm.ClassFile.FieldType.int)) yX7_greenIn cX7_greenIn 3 (Option.some Jvm.ClassFile.FieldType.int) [] := kCd_code (by decide +kernel)
theorem kd_X7_emptyIn : kCd (Cond.code yX7_emptyIn cX7_emptyIn 2 (Option.some Jvm.ClassFile.FieldType.int)) yX7_emptyIn cX7_emptyIn 2 (Option.some Jvm.ClassFile.FieldType.int) [] := kCd_code (by decide +kernel)
theorem kd_X7_lightIn : kCd (Cond.code yX7_lightIn cX7_lightIn 3 (Option.some Jvm.ClassFile.FieldType.int)) yX7_lightIn cX7_lightIn 3 (Option.some Jvm.ClassFile.FieldType.int) [] := kCd_code (by decide +kernel)
theorem kd_X7_couldJoin : kCd (Cond.code yX7_couldJoin cX7_couldJoin 4 (Option.some Jvm.ClassFile.FieldType.int)) yX7_couldJoin cX7_couldJoin 4 (Option.some Jvm.ClassFile.FieldType.int) [] := kCd_code (by decide +kernel)
theorem kd_X7_undo : kCd (Cond.code yX7_undo cX7_undo 2 (Option.some Jvm.ClassFile.FieldType.int)) yX7_undo cX7_undo 2 (Option.some Jvm.ClassFile.FieldType.int) [] := kCd_code (by decide +kernel)
theorem kd_X7_save : kCd (Cond.code yX7_save cX7_save 3 (Option.some Jvm.ClassFile.FieldType.int)) yX7_save cX7_save 3 (Option.some Jvm.ClassFile.FieldType.int) [] := kCd_code (by decide +kernel)
theorem kd_X7_restore : kCd (Cond.code yX7_restore cX7_restore 3 (Option.some Jvm.ClassFile.FieldType.int)) yX7_restore cX7_restore 3 (Option.some Jvm.ClassFile.FieldType.int) [] := kCd_code (by decide +kernel)
set_option maxHeartbeats 4000000 in
set_option maxRecDepth 100000 in
theorem zX7_grownBy {l : Launch} {g : kG} (S : kStart l g) {h : kH} {m : Nat} {ad : Nat → Nat} {sc R : Nat → Int32} {ar : Nat → Nat → Int32} (hM : MW h m ad sc R ar) (hR : RT R) (r t w : Nat) (hr : r < 3) (ht : t ≤ 500) (hw : w < 8) : kMet l g yX7_grownBy (Cond.code yX7_grownBy cX7_grownBy 4 (Option.some Jvm.ClassFile.FieldType.int)) 9 0 0 [.ref m, .int (nI r), .int (nI t), .int (nI w)] h (kV (fun z h' => z = .int (grownF R r t w) ∧ (∃ A, MW h' m ad sc R (setA ar 1 A)) ∧ kKp (mOwn m) h h')) := by
  refine kEnter S kd_X7_grownBy (Nat.le_of_ble_eq_true rfl) (fun x F hxl hxg => ?_)
  subst hxl; subst hxg
  have hlv : lv_args 0 [.ref m, .int (nI r), .int (nI t), .int (nI w)] = [(0, .ref m), (1, .int (nI r)), (2, .int (nI t)), (3, .int (nI w))] := rfl
  rw [hlv]
  have hK : kKp (mOwn m) h h := kKp.rf
  refine k_iload_n F dX7_grownBy_0 1 rfl rfl rfl ?_
  refine k_bipush (v := 7) F dX7_grownBy_1 3 rfl (by decide) ?_
  rcases (show w = 7 ∨ w < 7 by omega) with rfl | hw7
  · refine k_icmpne F dX7_grownBy_3 6 8 rfl (by decide) (fun c_ => (by first | exact absurd rfl c_ | exact absurd c_ (by decide) | exact absurd (by assumption) c_ | exact absurd c_ (by assumption))) (fun _ => ?_)
    refine k_iconst (v := 0) F dX7_grownBy_6 7 rfl (by decide) ?_
    exact k_iret F dX7_grownBy_7 (by first | exact Nat.le_of_ble_eq_true rfl | omega) (by first | exact Nat.le_of_ble_eq_true rfl | omega) ⟨rfl, ⟨ar 1, by rw [setA_self]; exact hM⟩, hK⟩
  · refine k_icmpne F dX7_grownBy_3 6 8 rfl (by decide) (fun _ => ?_) (fun c_ => (absurd (show nI w = nI 7 from c_) (by rw [nI_inj (by omega) (by omega)]; omega)))
    refine k_aload_n F dX7_grownBy_8 9 rfl rfl rfl ?_
    refine k_callN F kd_X7_tries q3943 q194 (kInvV (Bs := []) F kcX7 q3940 q3942 qs141 kd_X7_tries q3943 dX7_grownBy_9 (kHs.of hM.1) rfl (by decide)) (zX7_tries F.st hM ) 12 rfl (Nat.le_of_ble_eq_true rfl) (by first | exact Nat.le_of_ble_eq_true rfl | omega) (by first | exact Nat.le_of_ble_eq_true rfl | omega) (by first | exact Nat.le_of_ble_eq_true rfl | omega) (by first | exact Nat.le_of_ble_eq_true rfl | omega) (fun h1 hr1 => ?_)
    obtain ⟨hM, hK9⟩ := hr1
    have hK := hK.tr hK9
    refine k_aload_n F dX7_grownBy_12 13 rfl rfl rfl ?_
    refine m_get F 0 (by decide) q3592 rfl dX7_grownBy_13 16 rfl hM rfl ?_
    refine k_iconst (v := 2) F dX7_grownBy_16 17 rfl (by decide) ?_
    refine k_iload_n F dX7_grownBy_17 18 rfl rfl rfl ?_
    refine m_st F dX7_grownBy_18 19 rfl hM hK (2) (by first | (with_reducible rfl) | (simp only [nI_lit, pk_mul, nI_add])) (by omega) (fun h9 hM hK => ?_)
    have hR := hR.set2 (v := nI r)
    refine k_aload_n F dX7_grownBy_19 20 rfl rfl rfl ?_
    refine k_iload_n F dX7_grownBy_20 21 rfl rfl rfl ?_
    refine k_callN F kd_X7_ticksPass q3765 q194 (kInvV (Bs := [_]) F kcX7 q3762 q3764 qs112 kd_X7_ticksPass q3765 dX7_grownBy_21 (kHs.of hM.1) rfl (by decide)) (zX7_ticksPass F.st hM hR t (by omega)) 24 rfl (Nat.le_of_ble_eq_true rfl) (by first | exact Nat.le_of_ble_eq_true rfl | omega) (by first | exact Nat.le_of_ble_eq_true rfl | omega) (by first | exact Nat.le_of_ble_eq_true rfl | omega) (by first | exact Nat.le_of_ble_eq_true rfl | omega) (fun h2 hr2 => ?_)
    obtain ⟨hM, hK9⟩ := hr2
    have hK := hK.tr hK9
    refine k_aload_n F dX7_grownBy_24 25 rfl rfl rfl ?_
    refine k_aload_n F dX7_grownBy_25 26 rfl rfl rfl ?_
    refine m_get F 0 (by decide) q3592 rfl dX7_grownBy_26 29 rfl hM rfl ?_
    refine k_bipush (v := 10) F dX7_grownBy_29 31 rfl (by decide) ?_
    refine k_iload_n F dX7_grownBy_31 32 rfl rfl rfl ?_
    refine k_iadd F dX7_grownBy_32 33 rfl ?_
    refine m_ld F dX7_grownBy_33 34 rfl hM ((10 + w)) (by first | (with_reducible rfl) | (simp only [nI_lit, pk_mul, nI_add])) (by omega) ?_
    refine k_aload_n F dX7_grownBy_34 35 rfl rfl rfl ?_
    refine m_get F 1 (by decide) q3593 rfl dX7_grownBy_35 38 rfl hM rfl ?_
    refine k_bipush (v := 10) F dX7_grownBy_38 40 rfl (by decide) ?_
    refine k_iload_n F dX7_grownBy_40 41 rfl rfl rfl ?_
    refine k_iadd F dX7_grownBy_41 42 rfl ?_
    refine m_iald F _ (by rfl) dX7_grownBy_42 43 rfl hM ((10 + w)) (by first | (with_reducible rfl) | (simp only [nI_lit, pk_mul, nI_add])) (by first | decide | omega | (simp only [mSz]; omega)) ?_
    refine k_isub F dX7_grownBy_43 44 rfl ?_
    refine k_callV F kd_X7_back q3947 q194 (kInvV (Bs := [_]) F kcX7 q3944 q3946 qs142 kd_X7_back q3947 dX7_grownBy_44 (kHs.of hM.1) rfl (by decide)) (zX7_back F.st hM _) 47 rfl (Nat.le_of_ble_eq_true rfl) (by first | exact Nat.le_of_ble_eq_true rfl | omega) (by first | exact Nat.le_of_ble_eq_true rfl | omega) (by first | exact Nat.le_of_ble_eq_true rfl | omega) (by first | exact Nat.le_of_ble_eq_true rfl | omega) (fun r3 h3 hr3 => ?_)
    obtain ⟨rfl, hM, hK9⟩ := hr3
    have hK := hK.tr hK9
    exact k_iret F dX7_grownBy_47 (by first | exact Nat.le_of_ble_eq_true rfl | omega) (by first | exact Nat.le_of_ble_eq_true rfl | omega) ⟨by show Value.int (byF R r t (10 + w) - R (10 + w)) = _; unfold grownF; rw [if_neg (by omega)], ⟨R, hM⟩, hK⟩
set_option maxHeartbeats 4000000 in
set_option maxRecDepth 100000 in
theorem zX7_ifRule {l : Launch} {g : kG} (S : kStart l g) {h : kH} {m : Nat} {ad : Nat → Nat} {sc R : Nat → Int32} {ar : Nat → Nat → Int32} (hM : MW h m ad sc R ar) (hR : RT R) (v w z : Int32) : kMet l g yX7_ifRule (Cond.code yX7_ifRule cX7_ifRule 4 (Option.some Jvm.ClassFile.FieldType.int)) 10 0 0 [.ref m, .int v, .int w, .int z] h (mAn1 h m ad sc R ar (oIfR R v w z)) := by
  refine kEnter S kd_X7_ifRule (Nat.le_of_ble_eq_true rfl) (fun x F hxl hxg => ?_)
  subst hxl; subst hxg
  have hlv : lv_args 0 [.ref m, .int v, .int w, .int z] = [(0, .ref m), (1, .int v), (2, .int w), (3, .int z)] := rfl
  rw [hlv]
  have hK : kKp (mOwn m) h h := kKp.rf
  refine k_aload_n F dX7_ifRule_0 1 rfl rfl rfl ?_
  refine k_iconst (v := 0) F dX7_ifRule_1 2 rfl (by decide) ?_
  refine m_put F 8 (by decide) (knX7 8) q3600 rfl rfl dX7_ifRule_2 5 rfl hM hK rfl rfl rfl (fun h9 hM hK => ?_)
  refine k_aload_n F dX7_ifRule_5 6 rfl rfl rfl ?_
  refine k_iload_n F dX7_ifRule_6 7 rfl rfl rfl ?_
  refine k_iconst (v := 0) F dX7_ifRule_7 8 rfl (by decide) ?_
  refine k_iconst (v := 2) F dX7_ifRule_8 9 rfl (by decide) ?_
  refine k_callV F kd_X7_in q3498 q194 (kInvS (Bs := [_, _, _]) F q3496 q3497 q194 kd_X7_in q3498 dX7_ifRule_9 rfl (by decide)) (zX7_in F.st _ _ _) 12 rfl (Nat.le_of_ble_eq_true rfl) (by first | exact Nat.le_of_ble_eq_true rfl | omega) (by first | exact Nat.le_of_ble_eq_true rfl | omega) (by first | exact Nat.le_of_ble_eq_true rfl | omega) (by first | exact Nat.le_of_ble_eq_true rfl | omega) (fun r1 h1 hr1 => ?_)
  obtain ⟨rfl, rfl⟩ := hr1
  cases q1 : ixB v 0 2 with
  | none =>
    rw [show oIfR R v w z = none from by simp [oIfR, q1]] at F
    rw [show inF v 0 2 = false from ixB_n q1]
    refine k_ifeq F dX7_ifRule_12 15 40 rfl (by decide) (fun _ => ?_) (fun c_ => (by first | exact absurd rfl c_ | exact absurd c_ (by decide) | exact absurd (by assumption) c_ | exact absurd c_ (by assumption)))
    refine k_iconst (v := 0) F dX7_ifRule_40 41 rfl (by decide) ?_
    refine k_callV F kd_X7_right q3850 q194 (kInvV (Bs := [_]) F kcX7 q3847 q3849 qs132 kd_X7_right q3850 dX7_ifRule_41 (kHs.of hM.1) rfl (by decide)) (zX7_right F.st hM false) 44 rfl (Nat.le_of_ble_eq_true rfl) (by first | exact Nat.le_of_ble_eq_true rfl | omega) (by first | exact Nat.le_of_ble_eq_true rfl | omega) (by first | exact Nat.le_of_ble_eq_true rfl | omega) (by first | exact Nat.le_of_ble_eq_true rfl | omega) (fun r2 h2 hr2 => ?_)
    obtain ⟨rfl, hM, hK9⟩ := hr2
    have hK := hK.tr hK9
    refine k_ifeq F dX7_ifRule_44 47 57 rfl (by decide) (fun _ => ?_) (fun c_ => (by first | exact absurd rfl c_ | exact absurd c_ (by decide) | exact absurd (by assumption) c_ | exact absurd c_ (by assumption)))
    refine k_iconst (v := 0) F dX7_ifRule_57 58 rfl (by decide) ?_
    exact k_iret F dX7_ifRule_58 (by first | exact Nat.le_of_ble_eq_true rfl | omega) (by first | exact Nat.le_of_ble_eq_true rfl | omega) ⟨rfl, ⟨ar 1, by rw [setA_self]; exact hM⟩, hK⟩
  | some r =>
    obtain ⟨-, hr, rfl⟩ := ixB_lt (by omega) (by omega) q1
    rw [show inF (nI r) 0 2 = true from ixB_s q1]
    refine k_ifeq F dX7_ifRule_12 15 40 rfl (by decide) (fun c_ => (by first | exact absurd rfl c_ | exact absurd c_ (by decide) | exact absurd (by assumption) c_ | exact absurd c_ (by assumption))) (fun _ => ?_)
    refine k_iload_n F dX7_ifRule_15 16 rfl rfl rfl ?_
    refine k_iconst (v := 0) F dX7_ifRule_16 17 rfl (by decide) ?_
    refine k_sipush (v := 500) F dX7_ifRule_17 20 rfl (by decide) ?_
    refine k_callV F kd_X7_in q3498 q194 (kInvS (Bs := [_, _, _]) F q3496 q3497 q194 kd_X7_in q3498 dX7_ifRule_20 rfl (by decide)) (zX7_in F.st _ _ _) 23 rfl (Nat.le_of_ble_eq_true rfl) (by first | exact Nat.le_of_ble_eq_true rfl | omega) (by first | exact Nat.le_of_ble_eq_true rfl | omega) (by first | exact Nat.le_of_ble_eq_true rfl | omega) (by first | exact Nat.le_of_ble_eq_true rfl | omega) (fun r3 h3 hr3 => ?_)
    obtain ⟨rfl, rfl⟩ := hr3
    cases q2 : ixB w 0 500 with
    | none =>
      rw [show oIfR R (nI r) w z = none from by simp [oIfR, q1, q2]] at F
      rw [show inF w 0 500 = false from ixB_n q2]
      refine k_ifeq F dX7_ifRule_23 26 40 rfl (by decide) (fun _ => ?_) (fun c_ => (by first | exact absurd rfl c_ | exact absurd c_ (by decide) | exact absurd (by assumption) c_ | exact absurd c_ (by assumption)))
      refine k_iconst (v := 0) F dX7_ifRule_40 41 rfl (by decide) ?_
      refine k_callV F kd_X7_right q3850 q194 (kInvV (Bs := [_]) F kcX7 q3847 q3849 qs132 kd_X7_right q3850 dX7_ifRule_41 (kHs.of hM.1) rfl (by decide)) (zX7_right F.st hM false) 44 rfl (Nat.le_of_ble_eq_true rfl) (by first | exact Nat.le_of_ble_eq_true rfl | omega) (by first | exact Nat.le_of_ble_eq_true rfl | omega) (by first | exact Nat.le_of_ble_eq_true rfl | omega) (by first | exact Nat.le_of_ble_eq_true rfl | omega) (fun r4 h4 hr4 => ?_)
      obtain ⟨rfl, hM, hK9⟩ := hr4
      have hK := hK.tr hK9
      refine k_ifeq F dX7_ifRule_44 47 57 rfl (by decide) (fun _ => ?_) (fun c_ => (by first | exact absurd rfl c_ | exact absurd c_ (by decide) | exact absurd (by assumption) c_ | exact absurd c_ (by assumption)))
      refine k_iconst (v := 0) F dX7_ifRule_57 58 rfl (by decide) ?_
      exact k_iret F dX7_ifRule_58 (by first | exact Nat.le_of_ble_eq_true rfl | omega) (by first | exact Nat.le_of_ble_eq_true rfl | omega) ⟨rfl, ⟨ar 1, by rw [setA_self]; exact hM⟩, hK⟩
    | some t =>
      obtain ⟨-, ht, rfl⟩ := ixB_lt (by omega) (by omega) q2
      rw [show inF (nI t) 0 500 = true from ixB_s q2]
      refine k_ifeq F dX7_ifRule_23 26 40 rfl (by decide) (fun c_ => (by first | exact absurd rfl c_ | exact absurd c_ (by decide) | exact absurd (by assumption) c_ | exact absurd c_ (by assumption))) (fun _ => ?_)
      refine k_iload_n F dX7_ifRule_26 27 rfl rfl rfl ?_
      refine k_iconst (v := 0) F dX7_ifRule_27 28 rfl (by decide) ?_
      refine k_bipush (v := 7) F dX7_ifRule_28 30 rfl (by decide) ?_
      refine k_callV F kd_X7_in q3498 q194 (kInvS (Bs := [_, _, _]) F q3496 q3497 q194 kd_X7_in q3498 dX7_ifRule_30 rfl (by decide)) (zX7_in F.st _ _ _) 33 rfl (Nat.le_of_ble_eq_true rfl) (by first | exact Nat.le_of_ble_eq_true rfl | omega) (by first | exact Nat.le_of_ble_eq_true rfl | omega) (by first | exact Nat.le_of_ble_eq_true rfl | omega) (by first | exact Nat.le_of_ble_eq_true rfl | omega) (fun r5 h5 hr5 => ?_)
      obtain ⟨rfl, rfl⟩ := hr5
      cases q3 : ixB z 0 7 with
      | none =>
        rw [show oIfR R (nI r) (nI t) z = none from by simp [oIfR, q1, q2, q3]] at F
        rw [show inF z 0 7 = false from ixB_n q3]
        refine k_ifeq F dX7_ifRule_33 36 40 rfl (by decide) (fun _ => ?_) (fun c_ => (by first | exact absurd rfl c_ | exact absurd c_ (by decide) | exact absurd (by assumption) c_ | exact absurd c_ (by assumption)))
        refine k_iconst (v := 0) F dX7_ifRule_40 41 rfl (by decide) ?_
        refine k_callV F kd_X7_right q3850 q194 (kInvV (Bs := [_]) F kcX7 q3847 q3849 qs132 kd_X7_right q3850 dX7_ifRule_41 (kHs.of hM.1) rfl (by decide)) (zX7_right F.st hM false) 44 rfl (Nat.le_of_ble_eq_true rfl) (by first | exact Nat.le_of_ble_eq_true rfl | omega) (by first | exact Nat.le_of_ble_eq_true rfl | omega) (by first | exact Nat.le_of_ble_eq_true rfl | omega) (by first | exact Nat.le_of_ble_eq_true rfl | omega) (fun r6 h6 hr6 => ?_)
        obtain ⟨rfl, hM, hK9⟩ := hr6
        have hK := hK.tr hK9
        refine k_ifeq F dX7_ifRule_44 47 57 rfl (by decide) (fun _ => ?_) (fun c_ => (by first | exact absurd rfl c_ | exact absurd c_ (by decide) | exact absurd (by assumption) c_ | exact absurd c_ (by assumption)))
        refine k_iconst (v := 0) F dX7_ifRule_57 58 rfl (by decide) ?_
        exact k_iret F dX7_ifRule_58 (by first | exact Nat.le_of_ble_eq_true rfl | omega) (by first | exact Nat.le_of_ble_eq_true rfl | omega) ⟨rfl, ⟨ar 1, by rw [setA_self]; exact hM⟩, hK⟩
      | some k =>
        obtain ⟨-, hk, rfl⟩ := ixB_lt (by omega) (by omega) q3
        rw [show oIfR R (nI r) (nI t) (nI k) = some (grownF R r t k) from by simp [oIfR, q1, q2, q3]] at F
        rw [show inF (nI k) 0 7 = true from ixB_s q3]
        refine k_ifeq F dX7_ifRule_33 36 40 rfl (by decide) (fun c_ => (by first | exact absurd rfl c_ | exact absurd c_ (by decide) | exact absurd (by assumption) c_ | exact absurd c_ (by assumption))) (fun _ => ?_)
        refine k_iconst (v := 1) F dX7_ifRule_36 37 rfl (by decide) ?_
        refine k_goto F dX7_ifRule_37 41 (by decide) ?_
        refine k_callV F kd_X7_right q3850 q194 (kInvV (Bs := [_]) F kcX7 q3847 q3849 qs132 kd_X7_right q3850 dX7_ifRule_41 (kHs.of hM.1) rfl (by decide)) (zX7_right F.st hM true) 44 rfl (Nat.le_of_ble_eq_true rfl) (by first | exact Nat.le_of_ble_eq_true rfl | omega) (by first | exact Nat.le_of_ble_eq_true rfl | omega) (by first | exact Nat.le_of_ble_eq_true rfl | omega) (by first | exact Nat.le_of_ble_eq_true rfl | omega) (fun r7 h7 hr7 => ?_)
        obtain ⟨rfl, hM, hK9⟩ := hr7
        have hK := hK.tr hK9
        refine k_ifeq F dX7_ifRule_44 47 57 rfl (by decide) (fun c_ => (by first | exact absurd rfl c_ | exact absurd c_ (by decide) | exact absurd (by assumption) c_ | exact absurd c_ (by assumption))) (fun _ => ?_)
        refine k_aload_n F dX7_ifRule_47 48 rfl rfl rfl ?_
        refine k_iload_n F dX7_ifRule_48 49 rfl rfl rfl ?_
        refine k_iload_n F dX7_ifRule_49 50 rfl rfl rfl ?_
        refine k_iload_n F dX7_ifRule_50 51 rfl rfl rfl ?_
        refine k_callV F kd_X7_grownBy q3959 q194 (kInvV (Bs := [_, _, _]) F kcX7 q3956 q3958 qs143 kd_X7_grownBy q3959 dX7_ifRule_51 (kHs.of hM.1) rfl (by decide)) (zX7_grownBy F.st hM hR r t k (by omega) (by omega) (by omega)) 54 rfl (Nat.le_of_ble_eq_true rfl) (by first | exact Nat.le_of_ble_eq_true rfl | omega) (by first | exact Nat.le_of_ble_eq_true rfl | omega) (by first | exact Nat.le_of_ble_eq_true rfl | omega) (by first | exact Nat.le_of_ble_eq_true rfl | omega) (fun r8 h8 hr8 => ?_)
        obtain ⟨rfl, ⟨A, hM⟩, hK9⟩ := hr8
        have hK := hK.tr hK9
        refine k_goto F dX7_ifRule_54 58 (by decide) ?_
        exact k_iret F dX7_ifRule_58 (by first | exact Nat.le_of_ble_eq_true rfl | omega) (by first | exact Nat.le_of_ble_eq_true rfl | omega) ⟨rfl, ⟨A, hM⟩, hK⟩
set_option maxHeartbeats 4000000 in
set_option maxRecDepth 100000 in
theorem zX7_bestRule {l : Launch} {g : kG} (S : kStart l g) {h : kH} {m : Nat} {ad : Nat → Nat} {sc R : Nat → Int32} {ar : Nat → Nat → Int32} (hM : MW h m ad sc R ar) (hR : RT R) (v : Int32) : kMet l g yX7_bestRule (Cond.code yX7_bestRule cX7_bestRule 6 (Option.some Jvm.ClassFile.FieldType.int)) 10 0 0 [.ref m, .int v] h (mAn1 h m ad sc R ar (oBestR R v)) := by
  refine kEnter S kd_X7_bestRule (Nat.le_of_ble_eq_true rfl) (fun x F hxl hxg => ?_)
  subst hxl; subst hxg
  have hlv : lv_args 0 [.ref m, .int v] = [(0, .ref m), (1, .int v)] := rfl
  rw [hlv]
  have hK : kKp (mOwn m) h h := kKp.rf
  refine k_aload_n F dX7_bestRule_0 1 rfl rfl rfl ?_
  refine k_iconst (v := 0) F dX7_bestRule_1 2 rfl (by decide) ?_
  refine m_put F 8 (by decide) (knX7 8) q3600 rfl rfl dX7_bestRule_2 5 rfl hM hK rfl rfl rfl (fun h9 hM hK => ?_)
  refine k_aload_n F dX7_bestRule_5 6 rfl rfl rfl ?_
  refine k_iload_n F dX7_bestRule_6 7 rfl rfl rfl ?_
  refine k_iconst (v := 0) F dX7_bestRule_7 8 rfl (by decide) ?_
  refine k_sipush (v := 500) F dX7_bestRule_8 11 rfl (by decide) ?_
  refine k_callV F kd_X7_in q3498 q194 (kInvS (Bs := [_, _, _]) F q3496 q3497 q194 kd_X7_in q3498 dX7_bestRule_11 rfl (by decide)) (zX7_in F.st _ _ _) 14 rfl (Nat.le_of_ble_eq_true rfl) (by first | exact Nat.le_of_ble_eq_true rfl | omega) (by first | exact Nat.le_of_ble_eq_true rfl | omega) (by first | exact Nat.le_of_ble_eq_true rfl | omega) (by first | exact Nat.le_of_ble_eq_true rfl | omega) (fun r1 h1 hr1 => ?_)
  obtain ⟨rfl, rfl⟩ := hr1
  refine k_callV F kd_X7_right q3850 q194 (kInvV (Bs := [_]) F kcX7 q3847 q3849 qs132 kd_X7_right q3850 dX7_bestRule_14 (kHs.of hM.1) rfl (by decide)) (zX7_right F.st hM _) 17 rfl (Nat.le_of_ble_eq_true rfl) (by first | exact Nat.le_of_ble_eq_true rfl | omega) (by first | exact Nat.le_of_ble_eq_true rfl | omega) (by first | exact Nat.le_of_ble_eq_true rfl | omega) (by first | exact Nat.le_of_ble_eq_true rfl | omega) (fun r2 h2 hr2 => ?_)
  obtain ⟨rfl, hM, hK9⟩ := hr2
  have hK := hK.tr hK9
  cases q1 : ixB v 0 500 with
  | none =>
    rw [show oBestR R v = none from by simp [oBestR, q1]] at F
    rw [show inF v 0 500 = false from ixB_n q1] at hM ⊢
    refine k_ifne F dX7_bestRule_17 20 22 rfl (by decide) (fun c_ => (by first | exact absurd rfl c_ | exact absurd c_ (by decide) | exact absurd (by assumption) c_ | exact absurd c_ (by assumption))) (fun _ => ?_)
    refine k_iconst (v := 0) F dX7_bestRule_20 21 rfl (by decide) ?_
    exact k_iret F dX7_bestRule_21 (by first | exact Nat.le_of_ble_eq_true rfl | omega) (by first | exact Nat.le_of_ble_eq_true rfl | omega) ⟨rfl, ⟨ar 1, by rw [setA_self]; exact hM⟩, hK⟩
  | some t =>
    obtain ⟨-, ht, rfl⟩ := ixB_lt (by omega) (by omega) q1
    rw [show oBestR R (nI t) = some (bestRF R t) from by simp [oBestR, q1]] at F
    rw [show inF (nI t) 0 500 = true from ixB_s q1] at hM ⊢
    refine k_ifne F dX7_bestRule_17 20 22 rfl (by decide) (fun _ => ?_) (fun c_ => (by first | exact absurd rfl c_ | exact absurd c_ (by decide) | exact absurd (by assumption) c_ | exact absurd c_ (by assumption)))
    refine k_iconst (v := 0) F dX7_bestRule_22 23 rfl (by decide) ?_
    refine k_istore_n (lv' := [(0, _), (1, _), (2, _)]) F dX7_bestRule_23 24 rfl rfl (Nat.le_of_ble_eq_true rfl) rfl rfl rfl ?_
    refine k_aload_n F dX7_bestRule_24 25 rfl rfl rfl ?_
    refine k_iconst (v := 0) F dX7_bestRule_25 26 rfl (by decide) ?_
    refine k_iload_n F dX7_bestRule_26 27 rfl rfl rfl ?_
    refine k_iconst (v := 2) F dX7_bestRule_27 28 rfl (by decide) ?_
    refine k_callV F kd_X7_grownBy q3959 q194 (kInvV (Bs := [_, _, _]) F kcX7 q3956 q3958 qs143 kd_X7_grownBy q3959 dX7_bestRule_28 (kHs.of hM.1) rfl (by decide)) (zX7_grownBy F.st hM hR 0 t 2 (by omega) (by omega) (by omega)) 31 rfl (Nat.le_of_ble_eq_true rfl) (by first | exact Nat.le_of_ble_eq_true rfl | omega) (by first | exact Nat.le_of_ble_eq_true rfl | omega) (by first | exact Nat.le_of_ble_eq_true rfl | omega) (by first | exact Nat.le_of_ble_eq_true rfl | omega) (fun r3 h3 hr3 => ?_)
    obtain ⟨rfl, ⟨A0, hM⟩, hK9⟩ := hr3
    replace hM : MW _ m ad (upd sc 8 0) R (setA ar 1 A0) := hM
    have hK := hK.tr hK9
    refine k_istore_n (lv' := [(0, _), (1, _), (2, _), (3, _)]) F dX7_bestRule_31 32 rfl rfl (Nat.le_of_ble_eq_true rfl) rfl rfl rfl ?_
    refine k_iconst (v := 1) F dX7_bestRule_32 33 rfl (by decide) ?_
    have last : ∀ (b l : Int32) (A : Nat → Int32) (h1 : kH), (if grownF R 2 t 2 < l then 2 else b) = bestRF R t → MW h1 m ad (upd sc 8 0) R (setA ar 1 A) → kKp (mOwn m) h h1 → kW x 0 0 h1 35 [(0, .ref m), (1, .int (nI t)), (2, .int b), (3, .int l), (4, .int (nI 2))] [] := by
      intro b l A h1 hb hM hK
      refine k_iload F dX7_bestRule_35 37 rfl rfl ?_
      refine k_iconst (v := 3) F dX7_bestRule_37 38 rfl (by decide) ?_
      refine k_icmpge F dX7_bestRule_38 41 72 rfl (by decide) (fun c_ => (by first | exact absurd rfl c_ | exact absurd c_ (by decide) | exact absurd (by assumption) c_ | exact absurd c_ (by assumption))) (fun _ => ?_)
      refine k_aload_n F dX7_bestRule_41 42 rfl rfl rfl ?_
      refine k_iload F dX7_bestRule_42 44 rfl rfl ?_
      refine k_iload_n F dX7_bestRule_44 45 rfl rfl rfl ?_
      refine k_iconst (v := 2) F dX7_bestRule_45 46 rfl (by decide) ?_
      refine k_callV F kd_X7_grownBy q3959 q194 (kInvV (Bs := [_, _, _]) F kcX7 q3956 q3958 qs143 kd_X7_grownBy q3959 dX7_bestRule_46 (kHs.of hM.1) rfl (by decide)) (zX7_grownBy F.st hM hR 2 t 2 (by omega) (by omega) (by omega)) 49 rfl (Nat.le_of_ble_eq_true rfl) (by first | exact Nat.le_of_ble_eq_true rfl | omega) (by first | exact Nat.le_of_ble_eq_true rfl | omega) (by first | exact Nat.le_of_ble_eq_true rfl | omega) (by first | exact Nat.le_of_ble_eq_true rfl | omega) (fun r4 h4 hr4 => ?_)
      obtain ⟨rfl, ⟨A0, hM⟩, hK9⟩ := hr4
      rw [setA_setA] at hM
      have hK := hK.tr hK9
      refine k_istore (lv' := [(0, _), (1, _), (2, _), (3, _), (4, _), (5, _)]) F dX7_bestRule_49 51 rfl (Nat.le_of_ble_eq_true rfl) rfl rfl rfl ?_
      refine k_iload F dX7_bestRule_51 53 rfl rfl ?_
      refine k_iload_n F dX7_bestRule_53 54 rfl rfl rfl ?_
      refine k_icmplt F dX7_bestRule_54 57 60 rfl (by decide) (fun c_a => ?_) (fun c_a => ?_)
      · refine k_iload F dX7_bestRule_60 62 rfl rfl ?_
        refine k_istore_n (lv' := [(0, _), (1, _), (2, _), (3, _), (4, _), (5, _)]) F dX7_bestRule_62 63 rfl rfl (Nat.le_of_ble_eq_true rfl) rfl rfl rfl ?_
        refine k_iload F dX7_bestRule_63 65 rfl rfl ?_
        refine k_istore_n (lv' := [(0, _), (1, _), (2, _), (3, _), (4, _), (5, _)]) F dX7_bestRule_65 66 rfl rfl (Nat.le_of_ble_eq_true rfl) rfl rfl rfl ?_
        refine kW.keep (lv' := [(0, _), (1, _), (2, _), (3, _), (4, _)]) [0, 1, 2, 3, 4] rfl ?_
        refine k_iinc (e := 1) (lv' := [(0, _), (1, _), (2, _), (3, _), (4, _)]) F dX7_bestRule_66 69 rfl rfl (by decide) rfl (Nat.le_of_ble_eq_true rfl) rfl rfl rfl ?_
        refine k_goto F dX7_bestRule_69 35 (by decide) ?_
        refine k_iload F dX7_bestRule_35 37 rfl rfl ?_
        refine k_iconst (v := 3) F dX7_bestRule_37 38 rfl (by decide) ?_
        refine k_icmpge F dX7_bestRule_38 41 72 rfl (by decide) (fun _ => ?_) (fun c_ => (by first | exact absurd rfl c_ | exact absurd c_ (by decide) | exact absurd (by assumption) c_ | exact absurd c_ (by assumption)))
        refine k_iload_n F dX7_bestRule_72 73 rfl rfl rfl ?_
        rw [if_pos c_a] at hb
        exact k_iret F dX7_bestRule_73 (by first | exact Nat.le_of_ble_eq_true rfl | omega) (by first | exact Nat.le_of_ble_eq_true rfl | omega) ⟨by rw [← hb]; rfl, ⟨A0, hM⟩, hK⟩
      · refine k_goto F dX7_bestRule_57 66 (by decide) ?_
        refine kW.keep (lv' := [(0, _), (1, _), (2, _), (3, _), (4, _)]) [0, 1, 2, 3, 4] rfl ?_
        refine k_iinc (e := 1) (lv' := [(0, _), (1, _), (2, _), (3, _), (4, _)]) F dX7_bestRule_66 69 rfl rfl (by decide) rfl (Nat.le_of_ble_eq_true rfl) rfl rfl rfl ?_
        refine k_goto F dX7_bestRule_69 35 (by decide) ?_
        refine k_iload F dX7_bestRule_35 37 rfl rfl ?_
        refine k_iconst (v := 3) F dX7_bestRule_37 38 rfl (by decide) ?_
        refine k_icmpge F dX7_bestRule_38 41 72 rfl (by decide) (fun _ => ?_) (fun c_ => (by first | exact absurd rfl c_ | exact absurd c_ (by decide) | exact absurd (by assumption) c_ | exact absurd c_ (by assumption)))
        refine k_iload_n F dX7_bestRule_72 73 rfl rfl rfl ?_
        rw [if_neg c_a] at hb
        exact k_iret F dX7_bestRule_73 (by first | exact Nat.le_of_ble_eq_true rfl | omega) (by first | exact Nat.le_of_ble_eq_true rfl | omega) ⟨by rw [← hb]; rfl, ⟨A0, hM⟩, hK⟩
    refine k_istore (lv' := [(0, _), (1, _), (2, _), (3, _), (4, _)]) F dX7_bestRule_33 35 rfl (Nat.le_of_ble_eq_true rfl) rfl rfl rfl ?_
    refine k_iload F dX7_bestRule_35 37 rfl rfl ?_
    refine k_iconst (v := 3) F dX7_bestRule_37 38 rfl (by decide) ?_
    refine k_icmpge F dX7_bestRule_38 41 72 rfl (by decide) (fun c_ => (by first | exact absurd rfl c_ | exact absurd c_ (by decide) | exact absurd (by assumption) c_ | exact absurd c_ (by assumption))) (fun _ => ?_)
    refine k_aload_n F dX7_bestRule_41 42 rfl rfl rfl ?_
    refine k_iload F dX7_bestRule_42 44 rfl rfl ?_
    refine k_iload_n F dX7_bestRule_44 45 rfl rfl rfl ?_
    refine k_iconst (v := 2) F dX7_bestRule_45 46 rfl (by decide) ?_
    refine k_callV F kd_X7_grownBy q3959 q194 (kInvV (Bs := [_, _, _]) F kcX7 q3956 q3958 qs143 kd_X7_grownBy q3959 dX7_bestRule_46 (kHs.of hM.1) rfl (by decide)) (zX7_grownBy F.st hM hR 1 t 2 (by omega) (by omega) (by omega)) 49 rfl (Nat.le_of_ble_eq_true rfl) (by first | exact Nat.le_of_ble_eq_true rfl | omega) (by first | exact Nat.le_of_ble_eq_true rfl | omega) (by first | exact Nat.le_of_ble_eq_true rfl | omega) (by first | exact Nat.le_of_ble_eq_true rfl | omega) (fun r5 h5 hr5 => ?_)
    obtain ⟨rfl, ⟨A1, hM⟩, hK9⟩ := hr5
    rw [setA_setA] at hM
    have hK := hK.tr hK9
    refine k_istore (lv' := [(0, _), (1, _), (2, _), (3, _), (4, _), (5, _)]) F dX7_bestRule_49 51 rfl (Nat.le_of_ble_eq_true rfl) rfl rfl rfl ?_
    refine k_iload F dX7_bestRule_51 53 rfl rfl ?_
    refine k_iload_n F dX7_bestRule_53 54 rfl rfl rfl ?_
    refine k_icmplt F dX7_bestRule_54 57 60 rfl (by decide) (fun c_a => ?_) (fun c_a => ?_)
    · refine k_iload F dX7_bestRule_60 62 rfl rfl ?_
      refine k_istore_n (lv' := [(0, _), (1, _), (2, _), (3, _), (4, _), (5, _)]) F dX7_bestRule_62 63 rfl rfl (Nat.le_of_ble_eq_true rfl) rfl rfl rfl ?_
      refine k_iload F dX7_bestRule_63 65 rfl rfl ?_
      refine k_istore_n (lv' := [(0, _), (1, _), (2, _), (3, _), (4, _), (5, _)]) F dX7_bestRule_65 66 rfl rfl (Nat.le_of_ble_eq_true rfl) rfl rfl rfl ?_
      refine kW.keep (lv' := [(0, _), (1, _), (2, _), (3, _), (4, _)]) [0, 1, 2, 3, 4] rfl ?_
      refine k_iinc (e := 1) (lv' := [(0, _), (1, _), (2, _), (3, _), (4, _)]) F dX7_bestRule_66 69 rfl rfl (by decide) rfl (Nat.le_of_ble_eq_true rfl) rfl rfl rfl ?_
      refine k_goto F dX7_bestRule_69 35 (by decide) ?_
      refine last _ _ _ _ ?_ hM hK
      show _ = if grownF R 1 t 2 < grownF R 0 t 2 then (if grownF R 2 t 2 < grownF R 1 t 2 then 2 else 1) else (if grownF R 2 t 2 < grownF R 0 t 2 then 2 else 0)
      rw [if_pos c_a]
    · refine k_goto F dX7_bestRule_57 66 (by decide) ?_
      refine kW.keep (lv' := [(0, _), (1, _), (2, _), (3, _), (4, _)]) [0, 1, 2, 3, 4] rfl ?_
      refine k_iinc (e := 1) (lv' := [(0, _), (1, _), (2, _), (3, _), (4, _)]) F dX7_bestRule_66 69 rfl rfl (by decide) rfl (Nat.le_of_ble_eq_true rfl) rfl rfl rfl ?_
      refine k_goto F dX7_bestRule_69 35 (by decide) ?_
      refine last _ _ _ _ ?_ hM hK
      show _ = if grownF R 1 t 2 < grownF R 0 t 2 then (if grownF R 2 t 2 < grownF R 1 t 2 then 2 else 1) else (if grownF R 2 t 2 < grownF R 0 t 2 then 2 else 0)
      rw [if_neg c_a]
set_option maxHeartbeats 4000000 in
set_option maxRecDepth 100000 in
theorem zX7_greenIn {l : Launch} {g : kG} (S : kStart l g) {h : kH} {m : Nat} {ad : Nat → Nat} {sc R : Nat → Int32} {ar : Nat → Nat → Int32} (hM : MW h m ad sc R ar) (hR : RT R) (v : Int32) : kMet l g yX7_greenIn (Cond.code yX7_greenIn cX7_greenIn 3 (Option.some Jvm.ClassFile.FieldType.int)) 8 0 0 [.ref m, .int v] h (mAn1 h m ad sc R ar (oGreen R v)) := by
  refine kEnter S kd_X7_greenIn (Nat.le_of_ble_eq_true rfl) (fun x F hxl hxg => ?_)
  subst hxl; subst hxg
  have hlv : lv_args 0 [.ref m, .int v] = [(0, .ref m), (1, .int v)] := rfl
  rw [hlv]
  have hK : kKp (mOwn m) h h := kKp.rf
  obtain ⟨r1, r2, r3, r4, r5, r6, r7, r8⟩ := id hR.1
  refine k_aload_n F dX7_greenIn_0 1 rfl rfl rfl ?_
  refine k_iconst (v := 0) F dX7_greenIn_1 2 rfl (by decide) ?_
  refine m_put F 8 (by decide) (knX7 8) q3600 rfl rfl dX7_greenIn_2 5 rfl hM hK rfl rfl rfl (fun h9 hM hK => ?_)
  refine k_aload_n F dX7_greenIn_5 6 rfl rfl rfl ?_
  refine k_aload_n F dX7_greenIn_6 7 rfl rfl rfl ?_
  refine k_iload_n F dX7_greenIn_7 8 rfl rfl rfl ?_
  refine k_callV F kd_X7_isArm q3862 q194 (kInvV (Bs := [_]) F kcX7 q3859 q3861 qs134 kd_X7_isArm q3862 dX7_greenIn_8 (kHs.of hM.1) rfl (by decide)) (zX7_isArm F.st hM _) 11 rfl (Nat.le_of_ble_eq_true rfl) (by first | exact Nat.le_of_ble_eq_true rfl | omega) (by first | exact Nat.le_of_ble_eq_true rfl | omega) (by first | exact Nat.le_of_ble_eq_true rfl | omega) (by first | exact Nat.le_of_ble_eq_true rfl | omega) (fun r1 h1 hr1 => ?_)
  obtain ⟨rfl, rfl⟩ := hr1
  refine k_callV F kd_X7_right q3850 q194 (kInvV (Bs := [_]) F kcX7 q3847 q3849 qs132 kd_X7_right q3850 dX7_greenIn_11 (kHs.of hM.1) rfl (by decide)) (zX7_right F.st hM _) 14 rfl (Nat.le_of_ble_eq_true rfl) (by first | exact Nat.le_of_ble_eq_true rfl | omega) (by first | exact Nat.le_of_ble_eq_true rfl | omega) (by first | exact Nat.le_of_ble_eq_true rfl | omega) (by first | exact Nat.le_of_ble_eq_true rfl | omega) (fun r2 h2 hr2 => ?_)
  obtain ⟨rfl, hM, hK9⟩ := hr2
  have hK := hK.tr hK9
  rw [r1] at hM ⊢
  cases q1 : ixO v (rA R) with
  | none =>
    rw [show oGreen R v = none from by simp [oGreen, q1]] at F
    rw [ixO_n q1] at hM ⊢
    refine k_ifne F dX7_greenIn_14 17 19 rfl (by decide) (fun c_ => (by first | exact absurd rfl c_ | exact absurd c_ (by decide) | exact absurd (by assumption) c_ | exact absurd c_ (by assumption))) (fun _ => ?_)
    refine k_iconst (v := 0) F dX7_greenIn_17 18 rfl (by decide) ?_
    exact k_iret F dX7_greenIn_18 (by first | exact Nat.le_of_ble_eq_true rfl | omega) (by first | exact Nat.le_of_ble_eq_true rfl | omega) ⟨rfl, ⟨ar 1, by rw [setA_self]; exact hM⟩, hK⟩
  | some a =>
    obtain ⟨ha, rfl⟩ := ixO_lt (by omega) q1
    rw [show oGreen R (nI a) = some (nO (greenF R a)) from by simp [oGreen, q1]] at F
    rw [ixO_s q1] at hM ⊢
    refine k_ifne F dX7_greenIn_14 17 19 rfl (by decide) (fun _ => ?_) (fun c_ => (by first | exact absurd rfl c_ | exact absurd c_ (by decide) | exact absurd (by assumption) c_ | exact absurd c_ (by assumption)))
    refine k_aload_n F dX7_greenIn_19 20 rfl rfl rfl ?_
    refine k_callN F kd_X7_tries q3943 q194 (kInvV (Bs := []) F kcX7 q3940 q3942 qs141 kd_X7_tries q3943 dX7_greenIn_20 (kHs.of hM.1) rfl (by decide)) (zX7_tries F.st hM ) 23 rfl (Nat.le_of_ble_eq_true rfl) (by first | exact Nat.le_of_ble_eq_true rfl | omega) (by first | exact Nat.le_of_ble_eq_true rfl | omega) (by first | exact Nat.le_of_ble_eq_true rfl | omega) (by first | exact Nat.le_of_ble_eq_true rfl | omega) (fun h3 hr3 => ?_)
    obtain ⟨hM, hK9⟩ := hr3
    have hK := hK.tr hK9
    refine k_iconst (v := 0) F dX7_greenIn_23 24 rfl (by decide) ?_
    refine k_istore_n (lv' := [(0, _), (1, _), (2, _)]) F dX7_greenIn_24 25 rfl rfl (Nat.le_of_ble_eq_true rfl) rfl rfl rfl ?_
    replace hM : MW _ m ad (upd sc 8 0) R (setA ar 1 R) := hM
    refine kUpTo (Q := fun j => (∀ i, i < j → (lightF (tickN i R) a == 0) = false) → ∀ h1, MW h1 m ad (upd sc 8 0) (tickN j R) (setA ar 1 R) → kKp (mOwn m) h h1 → kW x 0 0 h1 25 [(0, .ref m), (1, .int (nI a)), (2, .int (nI j))] []) 501 ?_ ?_ 0 (Nat.zero_le _) (fun i hi => absurd hi (by omega)) _ hM hK
    · intro hno h1 hM hK
      refine k_iload_n F dX7_greenIn_25 26 rfl rfl rfl ?_
      refine k_sipush (v := 500) F dX7_greenIn_26 29 rfl (by decide) ?_
      refine k_topi (b := nI 500) (by rfl) ?_
      refine k_icmpgt F dX7_greenIn_29 32 56 rfl (by decide) (fun _ => ?_) (fun c_ => absurd c_ (by rw [nI_ltE (by omega) (by omega)]; omega))
      refine k_aload_n F dX7_greenIn_56 57 rfl rfl rfl ?_
      refine k_iconst (v := (-1)) F dX7_greenIn_57 58 rfl (by decide) ?_
      refine k_callV F kd_X7_back q3947 q194 (kInvV (Bs := [_]) F kcX7 q3944 q3946 qs142 kd_X7_back q3947 dX7_greenIn_58 (kHs.of hM.1) rfl (by decide)) (zX7_back F.st hM _) 61 rfl (Nat.le_of_ble_eq_true rfl) (by first | exact Nat.le_of_ble_eq_true rfl | omega) (by first | exact Nat.le_of_ble_eq_true rfl | omega) (by first | exact Nat.le_of_ble_eq_true rfl | omega) (by first | exact Nat.le_of_ble_eq_true rfl | omega) (fun r4 h4 hr4 => ?_)
      obtain ⟨rfl, hM, hK9⟩ := hr4
      have hK := hK.tr hK9
      exact k_iret F dX7_greenIn_61 (by first | exact Nat.le_of_ble_eq_true rfl | omega) (by first | exact Nat.le_of_ble_eq_true rfl | omega) ⟨by rw [greenF, findTo_none hno]; rfl, ⟨R, hM⟩, hK⟩
    · intro j hj ih hno h1 hM hK
      have hR := hR.atN j
      refine k_iload_n F dX7_greenIn_25 26 rfl rfl rfl ?_
      refine k_sipush (v := 500) F dX7_greenIn_26 29 rfl (by decide) ?_
      refine k_topi (b := nI 500) (by rfl) ?_
      refine k_icmpgt F dX7_greenIn_29 32 56 rfl (by decide) (fun c_ => absurd c_ (by rw [nI_ltE (by omega) (by omega)]; omega)) (fun _ => ?_)
      refine k_aload_n F dX7_greenIn_32 33 rfl rfl rfl ?_
      refine k_iload_n F dX7_greenIn_33 34 rfl rfl rfl ?_
      refine k_callV F kd_X7_lightOf q3773 q194 (kInvV (Bs := [_]) F kcX7 q3770 q3772 qs114 kd_X7_lightOf q3773 dX7_greenIn_34 (kHs.of hM.1) rfl (by decide)) (zX7_lightOf F.st hM hR.1 a (by omega)) 37 rfl (Nat.le_of_ble_eq_true rfl) (by first | exact Nat.le_of_ble_eq_true rfl | omega) (by first | exact Nat.le_of_ble_eq_true rfl | omega) (by first | exact Nat.le_of_ble_eq_true rfl | omega) (by first | exact Nat.le_of_ble_eq_true rfl | omega) (fun r5 h5 hr5 => ?_)
      obtain ⟨rfl, rfl⟩ := hr5
      refine k_ifne F dX7_greenIn_37 40 46 rfl (by decide) (fun c_d => ?_) (fun c_d => ?_)
      · refine k_aload_n F dX7_greenIn_46 47 rfl rfl rfl ?_
        refine k_callN F kd_X7_tick q3769 q194 (kInvV (Bs := []) F kcX7 q3766 q3768 qs113 kd_X7_tick q3769 dX7_greenIn_47 (kHs.of hM.1) rfl (by decide)) (zX7_tick F.st hM hR) 50 rfl (Nat.le_of_ble_eq_true rfl) (by first | exact Nat.le_of_ble_eq_true rfl | omega) (by first | exact Nat.le_of_ble_eq_true rfl | omega) (by first | exact Nat.le_of_ble_eq_true rfl | omega) (by first | exact Nat.le_of_ble_eq_true rfl | omega) (fun h6 hr6 => ?_)
        obtain ⟨hM, hK9⟩ := hr6
        have hK := hK.tr hK9
        refine k_iinc (e := 1) (lv' := [(0, _), (1, _), (2, _)]) F dX7_greenIn_50 53 rfl rfl (by decide) rfl (Nat.le_of_ble_eq_true rfl) rfl rfl rfl ?_
        refine k_goto F dX7_greenIn_53 25 (by decide) ?_
        rw [nI_1]
        refine ih (fun i hi => if q : i = j then by rw [q]; simp [c_d] else hno i (by omega)) _ ?_ hK
        rw [tickN_succ]
        exact hM
      · refine k_aload_n F dX7_greenIn_40 41 rfl rfl rfl ?_
        refine k_iload_n F dX7_greenIn_41 42 rfl rfl rfl ?_
        refine k_callV F kd_X7_back q3947 q194 (kInvV (Bs := [_]) F kcX7 q3944 q3946 qs142 kd_X7_back q3947 dX7_greenIn_42 (kHs.of hM.1) rfl (by decide)) (zX7_back F.st hM _) 45 rfl (Nat.le_of_ble_eq_true rfl) (by first | exact Nat.le_of_ble_eq_true rfl | omega) (by first | exact Nat.le_of_ble_eq_true rfl | omega) (by first | exact Nat.le_of_ble_eq_true rfl | omega) (by first | exact Nat.le_of_ble_eq_true rfl | omega) (fun r7 h7 hr7 => ?_)
        obtain ⟨rfl, hM, hK9⟩ := hr7
        have hK := hK.tr hK9
        have e : greenF R a = some j := findTo_some (f := fun n => lightF (tickN n R) a == 0) hj hno (by simp [c_d])
        exact k_iret F dX7_greenIn_45 (by first | exact Nat.le_of_ble_eq_true rfl | omega) (by first | exact Nat.le_of_ble_eq_true rfl | omega) ⟨by rw [e]; rfl, ⟨R, hM⟩, hK⟩
set_option maxHeartbeats 4000000 in
set_option maxRecDepth 100000 in
theorem zX7_emptyIn {l : Launch} {g : kG} (S : kStart l g) {h : kH} {m : Nat} {ad : Nat → Nat} {sc R : Nat → Int32} {ar : Nat → Nat → Int32} (hM : MW h m ad sc R ar) (hR : RT R) : kMet l g yX7_emptyIn (Cond.code yX7_emptyIn cX7_emptyIn 2 (Option.some Jvm.ClassFile.FieldType.int)) 8 0 0 [.ref m] h (mAn1 h m ad sc R ar (some (nO (emptyF R)))) := by
  refine kEnter S kd_X7_emptyIn (Nat.le_of_ble_eq_true rfl) (fun x F hxl hxg => ?_)
  subst hxl; subst hxg
  have hlv : lv_args 0 [.ref m] = [(0, .ref m)] := rfl
  rw [hlv]
  have hK : kKp (mOwn m) h h := kKp.rf
  refine k_aload_n F dX7_emptyIn_0 1 rfl rfl rfl ?_
  refine k_iconst (v := 0) F dX7_emptyIn_1 2 rfl (by decide) ?_
  refine m_put F 8 (by decide) (knX7 8) q3600 rfl rfl dX7_emptyIn_2 5 rfl hM hK rfl rfl rfl (fun h9 hM hK => ?_)
  refine k_aload_n F dX7_emptyIn_5 6 rfl rfl rfl ?_
  refine k_callN F kd_X7_tries q3943 q194 (kInvV (Bs := []) F kcX7 q3940 q3942 qs141 kd_X7_tries q3943 dX7_emptyIn_6 (kHs.of hM.1) rfl (by decide)) (zX7_tries F.st hM ) 9 rfl (Nat.le_of_ble_eq_true rfl) (by first | exact Nat.le_of_ble_eq_true rfl | omega) (by first | exact Nat.le_of_ble_eq_true rfl | omega) (by first | exact Nat.le_of_ble_eq_true rfl | omega) (by first | exact Nat.le_of_ble_eq_true rfl | omega) (fun h1 hr1 => ?_)
  obtain ⟨hM, hK9⟩ := hr1
  have hK := hK.tr hK9
  refine k_iconst (v := 0) F dX7_emptyIn_9 10 rfl (by decide) ?_
  refine k_istore_n (lv' := [(0, _), (1, _)]) F dX7_emptyIn_10 11 rfl rfl (Nat.le_of_ble_eq_true rfl) rfl rfl rfl ?_
  refine kUpTo (Q := fun j => (∀ i, i < j → (allF (tickN i R) == 0) = false) → ∀ h1, MW h1 m ad (upd sc 8 0) (tickN j R) (setA ar 1 R) → kKp (mOwn m) h h1 → kW x 0 0 h1 11 [(0, .ref m), (1, .int (nI j))] []) 2001 ?_ ?_ 0 (Nat.zero_le _) (fun i hi => absurd hi (by omega)) _ hM hK
  · intro hno h1 hM hK
    refine k_iload_n F dX7_emptyIn_11 12 rfl rfl rfl ?_
    refine k_sipush (v := 2000) F dX7_emptyIn_12 15 rfl (by decide) ?_
    refine k_topi (b := nI 2000) (by rfl) ?_
    refine k_icmpgt F dX7_emptyIn_15 18 41 rfl (by decide) (fun _ => ?_) (fun c_ => absurd c_ (by rw [nI_ltE (by omega) (by omega)]; omega))
    refine k_aload_n F dX7_emptyIn_41 42 rfl rfl rfl ?_
    refine k_iconst (v := (-1)) F dX7_emptyIn_42 43 rfl (by decide) ?_
    refine k_callV F kd_X7_back q3947 q194 (kInvV (Bs := [_]) F kcX7 q3944 q3946 qs142 kd_X7_back q3947 dX7_emptyIn_43 (kHs.of hM.1) rfl (by decide)) (zX7_back F.st hM _) 46 rfl (Nat.le_of_ble_eq_true rfl) (by first | exact Nat.le_of_ble_eq_true rfl | omega) (by first | exact Nat.le_of_ble_eq_true rfl | omega) (by first | exact Nat.le_of_ble_eq_true rfl | omega) (by first | exact Nat.le_of_ble_eq_true rfl | omega) (fun r2 h2 hr2 => ?_)
    obtain ⟨rfl, hM, hK9⟩ := hr2
    have hK := hK.tr hK9
    exact k_iret F dX7_emptyIn_46 (by first | exact Nat.le_of_ble_eq_true rfl | omega) (by first | exact Nat.le_of_ble_eq_true rfl | omega) ⟨by rw [emptyF, findTo_none hno]; rfl, ⟨R, hM⟩, hK⟩
  · intro j hj ih hno h1 hM hK
    have hR := hR.atN j
    refine k_iload_n F dX7_emptyIn_11 12 rfl rfl rfl ?_
    refine k_sipush (v := 2000) F dX7_emptyIn_12 15 rfl (by decide) ?_
    refine k_topi (b := nI 2000) (by rfl) ?_
    refine k_icmpgt F dX7_emptyIn_15 18 41 rfl (by decide) (fun c_ => absurd c_ (by rw [nI_ltE (by omega) (by omega)]; omega)) (fun _ => ?_)
    refine k_aload_n F dX7_emptyIn_18 19 rfl rfl rfl ?_
    refine k_callV F kd_X7_allCars q3854 q194 (kInvV (Bs := []) F kcX7 q3851 q3853 qs133 kd_X7_allCars q3854 dX7_emptyIn_19 (kHs.of hM.1) rfl (by decide)) (zX7_allCars F.st hM hR.1) 22 rfl (Nat.le_of_ble_eq_true rfl) (by first | exact Nat.le_of_ble_eq_true rfl | omega) (by first | exact Nat.le_of_ble_eq_true rfl | omega) (by first | exact Nat.le_of_ble_eq_true rfl | omega) (by first | exact Nat.le_of_ble_eq_true rfl | omega) (fun r3 h3 hr3 => ?_)
    obtain ⟨rfl, rfl⟩ := hr3
    refine k_ifne F dX7_emptyIn_22 25 31 rfl (by decide) (fun c_d => ?_) (fun c_d => ?_)
    · refine k_aload_n F dX7_emptyIn_31 32 rfl rfl rfl ?_
      refine k_callN F kd_X7_tick q3769 q194 (kInvV (Bs := []) F kcX7 q3766 q3768 qs113 kd_X7_tick q3769 dX7_emptyIn_32 (kHs.of hM.1) rfl (by decide)) (zX7_tick F.st hM hR) 35 rfl (Nat.le_of_ble_eq_true rfl) (by first | exact Nat.le_of_ble_eq_true rfl | omega) (by first | exact Nat.le_of_ble_eq_true rfl | omega) (by first | exact Nat.le_of_ble_eq_true rfl | omega) (by first | exact Nat.le_of_ble_eq_true rfl | omega) (fun h4 hr4 => ?_)
      obtain ⟨hM, hK9⟩ := hr4
      have hK := hK.tr hK9
      refine k_iinc (e := 1) (lv' := [(0, _), (1, _)]) F dX7_emptyIn_35 38 rfl rfl (by decide) rfl (Nat.le_of_ble_eq_true rfl) rfl rfl rfl ?_
      refine k_goto F dX7_emptyIn_38 11 (by decide) ?_
      rw [nI_1]
      refine ih (fun i hi => if q : i = j then by rw [q]; simpa using (show ¬ allF (tickN j R) = 0 from c_d) else hno i (by omega)) _ ?_ hK
      rw [tickN_succ]
      exact hM
    · refine k_aload_n F dX7_emptyIn_25 26 rfl rfl rfl ?_
      refine k_iload_n F dX7_emptyIn_26 27 rfl rfl rfl ?_
      refine k_callV F kd_X7_back q3947 q194 (kInvV (Bs := [_]) F kcX7 q3944 q3946 qs142 kd_X7_back q3947 dX7_emptyIn_27 (kHs.of hM.1) rfl (by decide)) (zX7_back F.st hM _) 30 rfl (Nat.le_of_ble_eq_true rfl) (by first | exact Nat.le_of_ble_eq_true rfl | omega) (by first | exact Nat.le_of_ble_eq_true rfl | omega) (by first | exact Nat.le_of_ble_eq_true rfl | omega) (by first | exact Nat.le_of_ble_eq_true rfl | omega) (fun r5 h5 hr5 => ?_)
      obtain ⟨rfl, hM, hK9⟩ := hr5
      have hK := hK.tr hK9
      have e : emptyF R = some j := findTo_some (f := fun n => allF (tickN n R) == 0) hj hno (by simpa using (show allF (tickN j R) = 0 from c_d))
      exact k_iret F dX7_emptyIn_30 (by first | exact Nat.le_of_ble_eq_true rfl | omega) (by first | exact Nat.le_of_ble_eq_true rfl | omega) ⟨by rw [e]; rfl, ⟨R, hM⟩, hK⟩
set_option maxHeartbeats 4000000 in
set_option maxRecDepth 100000 in
theorem zX7_lightIn {l : Launch} {g : kG} (S : kStart l g) {h : kH} {m : Nat} {ad : Nat → Nat} {sc R : Nat → Int32} {ar : Nat → Nat → Int32} (hM : MW h m ad sc R ar) (hR : RT R) (v w : Int32) : kMet l g yX7_lightIn (Cond.code yX7_lightIn cX7_lightIn 3 (Option.some Jvm.ClassFile.FieldType.int)) 9 0 0 [.ref m, .int v, .int w] h (mAn1 h m ad sc R ar (oLightIn R v w)) := by
  refine kEnter S kd_X7_lightIn (Nat.le_of_ble_eq_true rfl) (fun x F hxl hxg => ?_)
  subst hxl; subst hxg
  have hlv : lv_args 0 [.ref m, .int v, .int w] = [(0, .ref m), (1, .int v), (2, .int w)] := rfl
  rw [hlv]
  have hK : kKp (mOwn m) h h := kKp.rf
  obtain ⟨r1, r2, r3, r4, r5, r6, r7, r8⟩ := id hR.1
  refine k_aload_n F dX7_lightIn_0 1 rfl rfl rfl ?_
  refine k_iconst (v := 0) F dX7_lightIn_1 2 rfl (by decide) ?_
  refine m_put F 8 (by decide) (knX7 8) q3600 rfl rfl dX7_lightIn_2 5 rfl hM hK rfl rfl rfl (fun h9 hM hK => ?_)
  refine k_aload_n F dX7_lightIn_5 6 rfl rfl rfl ?_
  refine k_aload_n F dX7_lightIn_6 7 rfl rfl rfl ?_
  refine k_iload_n F dX7_lightIn_7 8 rfl rfl rfl ?_
  refine k_callV F kd_X7_isArm q3862 q194 (kInvV (Bs := [_]) F kcX7 q3859 q3861 qs134 kd_X7_isArm q3862 dX7_lightIn_8 (kHs.of hM.1) rfl (by decide)) (zX7_isArm F.st hM _) 11 rfl (Nat.le_of_ble_eq_true rfl) (by first | exact Nat.le_of_ble_eq_true rfl | omega) (by first | exact Nat.le_of_ble_eq_true rfl | omega) (by first | exact Nat.le_of_ble_eq_true rfl | omega) (by first | exact Nat.le_of_ble_eq_true rfl | omega) (fun r1 h1 hr1 => ?_)
  obtain ⟨rfl, rfl⟩ := hr1
  rw [r1]
  cases q1 : ixO v (rA R) with
  | none =>
    rw [show oLightIn R v w = none from by simp [oLightIn, q1]] at F
    rw [ixO_n q1]
    refine k_ifeq F dX7_lightIn_11 14 29 rfl (by decide) (fun _ => ?_) (fun c_ => (by first | exact absurd rfl c_ | exact absurd c_ (by decide) | exact absurd (by assumption) c_ | exact absurd c_ (by assumption)))
    refine k_iconst (v := 0) F dX7_lightIn_29 30 rfl (by decide) ?_
    refine k_callV F kd_X7_right q3850 q194 (kInvV (Bs := [_]) F kcX7 q3847 q3849 qs132 kd_X7_right q3850 dX7_lightIn_30 (kHs.of hM.1) rfl (by decide)) (zX7_right F.st hM false) 33 rfl (Nat.le_of_ble_eq_true rfl) (by first | exact Nat.le_of_ble_eq_true rfl | omega) (by first | exact Nat.le_of_ble_eq_true rfl | omega) (by first | exact Nat.le_of_ble_eq_true rfl | omega) (by first | exact Nat.le_of_ble_eq_true rfl | omega) (fun r2 h2 hr2 => ?_)
    obtain ⟨rfl, hM, hK9⟩ := hr2
    have hK := hK.tr hK9
    refine k_ifne F dX7_lightIn_33 36 38 rfl (by decide) (fun c_ => (by first | exact absurd rfl c_ | exact absurd c_ (by decide) | exact absurd (by assumption) c_ | exact absurd c_ (by assumption))) (fun _ => ?_)
    refine k_iconst (v := 0) F dX7_lightIn_36 37 rfl (by decide) ?_
    exact k_iret F dX7_lightIn_37 (by first | exact Nat.le_of_ble_eq_true rfl | omega) (by first | exact Nat.le_of_ble_eq_true rfl | omega) ⟨rfl, ⟨ar 1, by rw [setA_self]; exact hM⟩, hK⟩
  | some a =>
    obtain ⟨ha, rfl⟩ := ixO_lt (by omega) q1
    rw [ixO_s q1]
    refine k_ifeq F dX7_lightIn_11 14 29 rfl (by decide) (fun c_ => (by first | exact absurd rfl c_ | exact absurd c_ (by decide) | exact absurd (by assumption) c_ | exact absurd c_ (by assumption))) (fun _ => ?_)
    refine k_iload_n F dX7_lightIn_14 15 rfl rfl rfl ?_
    refine k_iconst (v := 0) F dX7_lightIn_15 16 rfl (by decide) ?_
    refine k_sipush (v := 500) F dX7_lightIn_16 19 rfl (by decide) ?_
    refine k_callV F kd_X7_in q3498 q194 (kInvS (Bs := [_, _, _]) F q3496 q3497 q194 kd_X7_in q3498 dX7_lightIn_19 rfl (by decide)) (zX7_in F.st _ _ _) 22 rfl (Nat.le_of_ble_eq_true rfl) (by first | exact Nat.le_of_ble_eq_true rfl | omega) (by first | exact Nat.le_of_ble_eq_true rfl | omega) (by first | exact Nat.le_of_ble_eq_true rfl | omega) (by first | exact Nat.le_of_ble_eq_true rfl | omega) (fun r3 h3 hr3 => ?_)
    obtain ⟨rfl, rfl⟩ := hr3
    cases q2 : ixB w 0 500 with
    | none =>
      rw [show oLightIn R (nI a) w = none from by simp [oLightIn, q1, q2]] at F
      rw [show inF w 0 500 = false from ixB_n q2]
      refine k_ifeq F dX7_lightIn_22 25 29 rfl (by decide) (fun _ => ?_) (fun c_ => (by first | exact absurd rfl c_ | exact absurd c_ (by decide) | exact absurd (by assumption) c_ | exact absurd c_ (by assumption)))
      refine k_iconst (v := 0) F dX7_lightIn_29 30 rfl (by decide) ?_
      refine k_callV F kd_X7_right q3850 q194 (kInvV (Bs := [_]) F kcX7 q3847 q3849 qs132 kd_X7_right q3850 dX7_lightIn_30 (kHs.of hM.1) rfl (by decide)) (zX7_right F.st hM false) 33 rfl (Nat.le_of_ble_eq_true rfl) (by first | exact Nat.le_of_ble_eq_true rfl | omega) (by first | exact Nat.le_of_ble_eq_true rfl | omega) (by first | exact Nat.le_of_ble_eq_true rfl | omega) (by first | exact Nat.le_of_ble_eq_true rfl | omega) (fun r4 h4 hr4 => ?_)
      obtain ⟨rfl, hM, hK9⟩ := hr4
      have hK := hK.tr hK9
      refine k_ifne F dX7_lightIn_33 36 38 rfl (by decide) (fun c_ => (by first | exact absurd rfl c_ | exact absurd c_ (by decide) | exact absurd (by assumption) c_ | exact absurd c_ (by assumption))) (fun _ => ?_)
      refine k_iconst (v := 0) F dX7_lightIn_36 37 rfl (by decide) ?_
      exact k_iret F dX7_lightIn_37 (by first | exact Nat.le_of_ble_eq_true rfl | omega) (by first | exact Nat.le_of_ble_eq_true rfl | omega) ⟨rfl, ⟨ar 1, by rw [setA_self]; exact hM⟩, hK⟩
    | some t =>
      obtain ⟨-, ht, rfl⟩ := ixB_lt (by omega) (by omega) q2
      rw [show oLightIn R (nI a) (nI t) = some (lightF (tickN t R) a) from by simp [oLightIn, q1, q2]] at F
      rw [show inF (nI t) 0 500 = true from ixB_s q2]
      refine k_ifeq F dX7_lightIn_22 25 29 rfl (by decide) (fun c_ => (by first | exact absurd rfl c_ | exact absurd c_ (by decide) | exact absurd (by assumption) c_ | exact absurd c_ (by assumption))) (fun _ => ?_)
      refine k_iconst (v := 1) F dX7_lightIn_25 26 rfl (by decide) ?_
      refine k_goto F dX7_lightIn_26 30 (by decide) ?_
      refine k_callV F kd_X7_right q3850 q194 (kInvV (Bs := [_]) F kcX7 q3847 q3849 qs132 kd_X7_right q3850 dX7_lightIn_30 (kHs.of hM.1) rfl (by decide)) (zX7_right F.st hM true) 33 rfl (Nat.le_of_ble_eq_true rfl) (by first | exact Nat.le_of_ble_eq_true rfl | omega) (by first | exact Nat.le_of_ble_eq_true rfl | omega) (by first | exact Nat.le_of_ble_eq_true rfl | omega) (by first | exact Nat.le_of_ble_eq_true rfl | omega) (fun r5 h5 hr5 => ?_)
      obtain ⟨rfl, hM, hK9⟩ := hr5
      have hK := hK.tr hK9
      refine k_ifne F dX7_lightIn_33 36 38 rfl (by decide) (fun _ => ?_) (fun c_ => (by first | exact absurd rfl c_ | exact absurd c_ (by decide) | exact absurd (by assumption) c_ | exact absurd c_ (by assumption)))
      refine k_aload_n F dX7_lightIn_38 39 rfl rfl rfl ?_
      refine k_callN F kd_X7_tries q3943 q194 (kInvV (Bs := []) F kcX7 q3940 q3942 qs141 kd_X7_tries q3943 dX7_lightIn_39 (kHs.of hM.1) rfl (by decide)) (zX7_tries F.st hM ) 42 rfl (Nat.le_of_ble_eq_true rfl) (by first | exact Nat.le_of_ble_eq_true rfl | omega) (by first | exact Nat.le_of_ble_eq_true rfl | omega) (by first | exact Nat.le_of_ble_eq_true rfl | omega) (by first | exact Nat.le_of_ble_eq_true rfl | omega) (fun h6 hr6 => ?_)
      obtain ⟨hM, hK9⟩ := hr6
      have hK := hK.tr hK9
      refine k_aload_n F dX7_lightIn_42 43 rfl rfl rfl ?_
      refine k_iload_n F dX7_lightIn_43 44 rfl rfl rfl ?_
      refine k_callN F kd_X7_ticksPass q3765 q194 (kInvV (Bs := [_]) F kcX7 q3762 q3764 qs112 kd_X7_ticksPass q3765 dX7_lightIn_44 (kHs.of hM.1) rfl (by decide)) (zX7_ticksPass F.st hM hR t (by omega)) 47 rfl (Nat.le_of_ble_eq_true rfl) (by first | exact Nat.le_of_ble_eq_true rfl | omega) (by first | exact Nat.le_of_ble_eq_true rfl | omega) (by first | exact Nat.le_of_ble_eq_true rfl | omega) (by first | exact Nat.le_of_ble_eq_true rfl | omega) (fun h7 hr7 => ?_)
      obtain ⟨hM, hK9⟩ := hr7
      have hK := hK.tr hK9
      refine k_aload_n F dX7_lightIn_47 48 rfl rfl rfl ?_
      refine k_aload_n F dX7_lightIn_48 49 rfl rfl rfl ?_
      refine k_iload_n F dX7_lightIn_49 50 rfl rfl rfl ?_
      refine k_callV F kd_X7_lightOf q3773 q194 (kInvV (Bs := [_]) F kcX7 q3770 q3772 qs114 kd_X7_lightOf q3773 dX7_lightIn_50 (kHs.of hM.1) rfl (by decide)) (zX7_lightOf F.st hM (hR.atN t).1 a (by omega)) 53 rfl (Nat.le_of_ble_eq_true rfl) (by first | exact Nat.le_of_ble_eq_true rfl | omega) (by first | exact Nat.le_of_ble_eq_true rfl | omega) (by first | exact Nat.le_of_ble_eq_true rfl | omega) (by first | exact Nat.le_of_ble_eq_true rfl | omega) (fun r8 h8 hr8 => ?_)
      obtain ⟨rfl, rfl⟩ := hr8
      refine k_callV F kd_X7_back q3947 q194 (kInvV (Bs := [_]) F kcX7 q3944 q3946 qs142 kd_X7_back q3947 dX7_lightIn_53 (kHs.of hM.1) rfl (by decide)) (zX7_back F.st hM _) 56 rfl (Nat.le_of_ble_eq_true rfl) (by first | exact Nat.le_of_ble_eq_true rfl | omega) (by first | exact Nat.le_of_ble_eq_true rfl | omega) (by first | exact Nat.le_of_ble_eq_true rfl | omega) (by first | exact Nat.le_of_ble_eq_true rfl | omega) (fun r9 h9 hr9 => ?_)
      obtain ⟨rfl, hM, hK9⟩ := hr9
      have hK := hK.tr hK9
      exact k_iret F dX7_lightIn_56 (by first | exact Nat.le_of_ble_eq_true rfl | omega) (by first | exact Nat.le_of_ble_eq_true rfl | omega) ⟨rfl, ⟨R, hM⟩, hK⟩
set_option maxHeartbeats 4000000 in
set_option maxRecDepth 100000 in
theorem zX7_couldJoin {l : Launch} {g : kG} (S : kStart l g) {h : kH} {m : Nat} {ad : Nat → Nat} {sc R : Nat → Int32} {ar : Nat → Nat → Int32} (hM : MW h m ad sc R ar) (hR : RV R) (v : Int32) : kMet l g yX7_couldJoin (Cond.code yX7_couldJoin cX7_couldJoin 4 (Option.some Jvm.ClassFile.FieldType.int)) 4 0 0 [.ref m, .int v] h (mAn h m ad sc R ar (oJoin R v)) := by
  refine kEnter S kd_X7_couldJoin (Nat.le_of_ble_eq_true rfl) (fun x F hxl hxg => ?_)
  subst hxl; subst hxg
  have hlv : lv_args 0 [.ref m, .int v] = [(0, .ref m), (1, .int v)] := rfl
  rw [hlv]
  have hK : kKp (mOwn m) h h := kKp.rf
  obtain ⟨r1, r2, r3, r4, r5, r6, r7, r8⟩ := id hR
  refine k_aload_n F dX7_couldJoin_0 1 rfl rfl rfl ?_
  refine k_iconst (v := 0) F dX7_couldJoin_1 2 rfl (by decide) ?_
  refine m_put F 8 (by decide) (knX7 8) q3600 rfl rfl dX7_couldJoin_2 5 rfl hM hK rfl rfl rfl (fun h9 hM hK => ?_)
  refine k_aload_n F dX7_couldJoin_5 6 rfl rfl rfl ?_
  refine k_aload_n F dX7_couldJoin_6 7 rfl rfl rfl ?_
  refine k_iload_n F dX7_couldJoin_7 8 rfl rfl rfl ?_
  refine k_callV F kd_X7_isPhase q3826 q194 (kInvV (Bs := [_]) F kcX7 q3823 q3825 qs127 kd_X7_isPhase q3826 dX7_couldJoin_8 (kHs.of hM.1) rfl (by decide)) (zX7_isPhase F.st hM _) 11 rfl (Nat.le_of_ble_eq_true rfl) (by first | exact Nat.le_of_ble_eq_true rfl | omega) (by first | exact Nat.le_of_ble_eq_true rfl | omega) (by first | exact Nat.le_of_ble_eq_true rfl | omega) (by first | exact Nat.le_of_ble_eq_true rfl | omega) (fun r1 h1 hr1 => ?_)
  obtain ⟨rfl, rfl⟩ := hr1
  refine k_callV F kd_X7_right q3850 q194 (kInvV (Bs := [_]) F kcX7 q3847 q3849 qs132 kd_X7_right q3850 dX7_couldJoin_11 (kHs.of hM.1) rfl (by decide)) (zX7_right F.st hM _) 14 rfl (Nat.le_of_ble_eq_true rfl) (by first | exact Nat.le_of_ble_eq_true rfl | omega) (by first | exact Nat.le_of_ble_eq_true rfl | omega) (by first | exact Nat.le_of_ble_eq_true rfl | omega) (by first | exact Nat.le_of_ble_eq_true rfl | omega) (fun r2 h2 hr2 => ?_)
  obtain ⟨rfl, hM, hK9⟩ := hr2
  have hK := hK.tr hK9
  rw [r3] at hM ⊢
  cases q1 : ixO v (rP R) with
  | none =>
    rw [show oJoin R v = none from by simp [oJoin, q1]] at F
    rw [ixO_n q1] at hM ⊢
    refine k_ifne F dX7_couldJoin_14 17 19 rfl (by decide) (fun c_ => (by first | exact absurd rfl c_ | exact absurd c_ (by decide) | exact absurd (by assumption) c_ | exact absurd c_ (by assumption))) (fun _ => ?_)
    refine k_iconst (v := 0) F dX7_couldJoin_17 18 rfl (by decide) ?_
    exact k_iret F dX7_couldJoin_18 (by first | exact Nat.le_of_ble_eq_true rfl | omega) (by first | exact Nat.le_of_ble_eq_true rfl | omega) ⟨rfl, hM, hK⟩
  | some p =>
    obtain ⟨hp, rfl⟩ := ixO_lt (by omega) q1
    rw [show oJoin R (nI p) = some (nI (cntB (joinF R p) (rA R))) from by simp [oJoin, q1]] at F
    rw [ixO_s q1] at hM ⊢
    refine k_ifne F dX7_couldJoin_14 17 19 rfl (by decide) (fun _ => ?_) (fun c_ => (by first | exact absurd rfl c_ | exact absurd c_ (by decide) | exact absurd (by assumption) c_ | exact absurd c_ (by assumption)))
    refine k_iconst (v := 0) F dX7_couldJoin_19 20 rfl (by decide) ?_
    refine k_istore_n (lv' := [(0, _), (1, _), (2, _)]) F dX7_couldJoin_20 21 rfl rfl (Nat.le_of_ble_eq_true rfl) rfl rfl rfl ?_
    refine k_iconst (v := 0) F dX7_couldJoin_21 22 rfl (by decide) ?_
    refine k_istore_n (lv' := [(0, _), (1, _), (2, _), (3, _)]) F dX7_couldJoin_22 23 rfl rfl (Nat.le_of_ble_eq_true rfl) rfl rfl rfl ?_
    replace hM : MW h2 m ad (upd sc 8 0) R ar := hM
    refine kUpTo (Q := fun j => kW x 0 0 h2 23 [(0, .ref m), (1, .int (nI p)), (2, .int (nI ((cntB (joinF R p) j)))), (3, .int (nI j))] []) (rA R) ?_ ?_ 0 (Nat.zero_le _)
    · refine k_iload_n F dX7_couldJoin_23 24 rfl rfl rfl ?_
      refine k_aload_n F dX7_couldJoin_24 25 rfl rfl rfl ?_
      refine m_get F 0 (by decide) q3592 rfl dX7_couldJoin_25 28 rfl hM rfl ?_
      refine k_iconst (v := 3) F dX7_couldJoin_28 29 rfl (by decide) ?_
      refine m_ld F dX7_couldJoin_29 30 rfl hM (3) (by first | (with_reducible rfl) | (simp only [nI_lit, pk_mul, nI_add])) (by omega) ?_
      rw [r1]
      refine k_icmpge F dX7_couldJoin_30 33 51 rfl (by decide) (fun _ => ?_) (fun c_ => absurd c_ (by rw [nI_leE (by omega) (by omega)]; omega))
      refine k_iload_n F dX7_couldJoin_51 52 rfl rfl rfl ?_
      exact k_iret F dX7_couldJoin_52 (by first | exact Nat.le_of_ble_eq_true rfl | omega) (by first | exact Nat.le_of_ble_eq_true rfl | omega) ⟨rfl, hM, hK⟩
    · intro j hj ih
      refine k_iload_n F dX7_couldJoin_23 24 rfl rfl rfl ?_
      refine k_aload_n F dX7_couldJoin_24 25 rfl rfl rfl ?_
      refine m_get F 0 (by decide) q3592 rfl dX7_couldJoin_25 28 rfl hM rfl ?_
      refine k_iconst (v := 3) F dX7_couldJoin_28 29 rfl (by decide) ?_
      refine m_ld F dX7_couldJoin_29 30 rfl hM (3) (by first | (with_reducible rfl) | (simp only [nI_lit, pk_mul, nI_add])) (by omega) ?_
      rw [r1]
      refine k_icmpge F dX7_couldJoin_30 33 51 rfl (by decide) (fun c_ => absurd c_ (by rw [nI_leE (by omega) (by omega)]; omega)) (fun _ => ?_)
      refine k_aload_n F dX7_couldJoin_33 34 rfl rfl rfl ?_
      refine k_iload_n F dX7_couldJoin_34 35 rfl rfl rfl ?_
      refine k_iload_n F dX7_couldJoin_35 36 rfl rfl rfl ?_
      refine k_callV F kd_X7_canJoin q3579 q194 (kInvV (Bs := [_, _]) F kcX7 q3576 q3578 qs93 kd_X7_canJoin q3579 dX7_couldJoin_36 (kHs.of hM.1) rfl (by decide)) (zX7_canJoin F.st hM hR p j (by omega) (by omega)) 39 rfl (Nat.le_of_ble_eq_true rfl) (by first | exact Nat.le_of_ble_eq_true rfl | omega) (by first | exact Nat.le_of_ble_eq_true rfl | omega) (by first | exact Nat.le_of_ble_eq_true rfl | omega) (by first | exact Nat.le_of_ble_eq_true rfl | omega) (fun r3 h3 hr3 => ?_)
      obtain ⟨rfl, rfl⟩ := hr3
      refine k_ifeq F dX7_couldJoin_39 42 45 rfl (by decide) (fun c_d => ?_) (fun c_d => ?_)
      · rw [kB_0] at c_d
        have e : cntB (joinF R p) j = cntB (joinF R p) (j + 1) := by simp [cntB, c_d]
        rw [e]
        refine k_iinc (e := 1) (lv' := [(0, _), (1, _), (2, _), (3, _)]) F dX7_couldJoin_45 48 rfl rfl (by decide) rfl (Nat.le_of_ble_eq_true rfl) rfl rfl rfl ?_
        refine k_goto F dX7_couldJoin_48 23 (by decide) ?_
        rw [nI_1]
        exact ih
      · rw [kB_0, Bool.not_eq_false] at c_d
        refine k_iinc (e := 1) (lv' := [(0, _), (1, _), (2, _), (3, _)]) F dX7_couldJoin_42 45 rfl rfl (by decide) rfl (Nat.le_of_ble_eq_true rfl) rfl rfl rfl ?_
        rw [nI_1, show cntB (joinF R p) j + 1 = cntB (joinF R p) (j + 1) from by simp [cntB, c_d]]
        refine k_iinc (e := 1) (lv' := [(0, _), (1, _), (2, _), (3, _)]) F dX7_couldJoin_45 48 rfl rfl (by decide) rfl (Nat.le_of_ble_eq_true rfl) rfl rfl rfl ?_
        refine k_goto F dX7_couldJoin_48 23 (by decide) ?_
        rw [nI_1]
        exact ih
set_option maxHeartbeats 4000000 in
set_option maxRecDepth 100000 in
theorem zX7_undo {l : Launch} {g : kG} (S : kStart l g) {h : kH} {m : Nat} {ad : Nat → Nat} {sc R : Nat → Int32} {ar : Nat → Nat → Int32} (hM : MW h m ad sc R ar) (u : Nat) (hu : sc 6 = nI u) (hu8 : u ≤ 8) : kMet l g yX7_undo (Cond.code yX7_undo cX7_undo 2 (Option.some Jvm.ClassFile.FieldType.int)) 1 0 0 [.ref m] h (mDv h m ad (if u = 0 then upd sc 8 0 else upd (upd sc 8 0) 6 (nI (u - 1))) (if u = 0 then R else fun k => ar 3 (993 * (u - 1) + k)) ar (.int (if u = 0 then -1 else nI (u - 1)))) := by
  refine kEnter S kd_X7_undo (Nat.le_of_ble_eq_true rfl) (fun x F hxl hxg => ?_)
  subst hxl; subst hxg
  have hlv : lv_args 0 [.ref m] = [(0, .ref m)] := rfl
  rw [hlv]
  have hK : kKp (mOwn m) h h := kKp.rf
  have hu0 : upd sc 8 0 6 = nI u := hu
  refine k_aload_n F dX7_undo_0 1 rfl rfl rfl ?_
  refine k_iconst (v := 0) F dX7_undo_1 2 rfl (by decide) ?_
  refine m_put F 8 (by decide) (knX7 8) q3600 rfl rfl dX7_undo_2 5 rfl hM hK rfl rfl rfl (fun h9 hM hK => ?_)
  refine k_aload_n F dX7_undo_5 6 rfl rfl rfl ?_
  refine m_get F 6 (by decide) q3598 rfl dX7_undo_6 9 rfl hM rfl ?_
  rw [hu0]
  by_cases c : u = 0
  · subst c
    refine k_ifne F dX7_undo_9 12 14 rfl (by decide) (fun c_ => (by first | exact absurd rfl c_ | exact absurd c_ (by decide) | exact absurd (by assumption) c_ | exact absurd c_ (by assumption))) (fun _ => ?_)
    refine k_iconst (v := (-1)) F dX7_undo_12 13 rfl (by decide) ?_
    exact k_iret F dX7_undo_13 (by first | exact Nat.le_of_ble_eq_true rfl | omega) (by first | exact Nat.le_of_ble_eq_true rfl | omega) ⟨rfl, hM, hK⟩
  · rw [if_neg c, if_neg c, if_neg c] at F
    refine k_ifne F dX7_undo_9 12 14 rfl (by decide) (fun _ => ?_) (fun c_ => (absurd (show nI u = nI 0 from c_) (by rw [nI_inj (by omega) (by omega)]; exact c)))
    refine k_aload_n F dX7_undo_14 15 rfl rfl rfl ?_
    refine k_dup F dX7_undo_15 16 rfl rfl ?_
    refine m_get F 6 (by decide) q3598 rfl dX7_undo_16 19 rfl hM rfl ?_
    rw [hu0]
    refine k_iconst (v := 1) F dX7_undo_19 20 rfl (by decide) ?_
    refine k_isub F dX7_undo_20 21 rfl ?_
    rw [show nI u - 1 = nI (u - 1) from nI_dec (by omega)]
    refine m_put F 6 (by decide) (knX7 6) q3598 rfl rfl dX7_undo_21 24 rfl hM hK rfl rfl rfl (fun h9 hM hK => ?_)
    refine k_iconst (v := 0) F dX7_undo_24 25 rfl (by decide) ?_
    refine k_istore_n (lv' := [(0, _), (1, _)]) F dX7_undo_25 26 rfl rfl (Nat.le_of_ble_eq_true rfl) rfl rfl rfl ?_
    have e6 : upd (upd sc 8 0) 6 (nI (u - 1)) 6 = nI (u - 1) := upd_eq
    suffices hl : ∀ j, j ≤ 993 → ∀ h1, MW h1 m ad (upd (upd sc 8 0) 6 (nI (u - 1))) (mixF (fun k => ar 3 (993 * (u - 1) + k)) R j) (ar) → kKp (mOwn m) h h1 → kW x 0 0 h1 26 [(0, .ref m), (1, .int (nI j))] [] from hl 0 (Nat.zero_le _) _ ((by rw [mixF_0]; exact hM)) hK
    refine kUpTo (Q := fun j => ∀ h1, MW h1 m ad (upd (upd sc 8 0) 6 (nI (u - 1))) (mixF (fun k => ar 3 (993 * (u - 1) + k)) R j) (ar) → kKp (mOwn m) h h1 → kW x 0 0 h1 26 [(0, .ref m), (1, .int (nI j))] []) (993) ?_ ?_
    · intro h1 hM hK
      refine k_iload_n F dX7_undo_26 27 rfl rfl rfl ?_
      refine k_sipush (v := 993) F dX7_undo_27 30 rfl (by decide) ?_
      refine k_topi (b := nI 993) (by rfl) ?_
      refine k_icmpge F dX7_undo_30 33 60 rfl (by decide) (fun _ => ?_) (fun c_ => absurd c_ (by rw [nI_leE (by omega) (by omega)]; omega))
      refine k_aload_n F dX7_undo_60 61 rfl rfl rfl ?_
      refine m_get F 6 (by decide) q3598 rfl dX7_undo_61 64 rfl hM rfl ?_
      exact k_iret F dX7_undo_64 (by first | exact Nat.le_of_ble_eq_true rfl | omega) (by first | exact Nat.le_of_ble_eq_true rfl | omega) ⟨by rw [e6], hM.row (fun i hi => mixF_lt hi), hK⟩
    · intro j hj ih h1 hM hK
      refine k_iload_n F dX7_undo_26 27 rfl rfl rfl ?_
      refine k_sipush (v := 993) F dX7_undo_27 30 rfl (by decide) ?_
      refine k_topi (b := nI 993) (by rfl) ?_
      refine k_icmpge F dX7_undo_30 33 60 rfl (by decide) (fun c_ => absurd c_ (by rw [nI_leE (by omega) (by omega)]; omega)) (fun _ => ?_)
      refine k_aload_n F dX7_undo_33 34 rfl rfl rfl ?_
      refine m_get F 0 (by decide) q3592 rfl dX7_undo_34 37 rfl hM rfl ?_
      refine k_iload_n F dX7_undo_37 38 rfl rfl rfl ?_
      refine k_aload_n F dX7_undo_38 39 rfl rfl rfl ?_
      refine m_get F 3 (by decide) q3595 rfl dX7_undo_39 42 rfl hM rfl ?_
      refine k_sipush (v := 993) F dX7_undo_42 45 rfl (by decide) ?_
      refine k_aload_n F dX7_undo_45 46 rfl rfl rfl ?_
      refine m_get F 6 (by decide) q3598 rfl dX7_undo_46 49 rfl hM rfl ?_
      rw [e6]
      refine k_imul F dX7_undo_49 50 rfl ?_
      refine k_iload_n F dX7_undo_50 51 rfl rfl rfl ?_
      refine k_iadd F dX7_undo_51 52 rfl ?_
      refine m_iald F _ (by rfl) dX7_undo_52 53 rfl hM (((993 * (u - 1)) + j)) (by first | (with_reducible rfl) | (simp only [nI_lit, pk_mul, nI_add])) (by first | decide | omega | (simp only [mSz]; omega)) ?_
      refine m_st F dX7_undo_53 54 rfl hM hK (j) (by first | (with_reducible rfl) | (simp only [nI_lit, pk_mul, nI_add])) (by omega) (fun h9 hM hK => ?_)
      refine k_iinc (e := 1) (lv' := [(0, _), (1, _)]) F dX7_undo_54 57 rfl rfl (by decide) rfl (Nat.le_of_ble_eq_true rfl) rfl rfl rfl ?_
      refine k_goto F dX7_undo_57 26 (by decide) ?_
      rw [nI_1]
      refine ih _ ?_ hK
      rw [← mixF_succ]
      exact hM
set_option maxHeartbeats 4000000 in
set_option maxRecDepth 100000 in
theorem zX7_save {l : Launch} {g : kG} (S : kStart l g) {h : kH} {m : Nat} {ad : Nat → Nat} {sc R : Nat → Int32} {ar : Nat → Nat → Int32} (hM : MW h m ad sc R ar) (v : Int32) : kMet l g yX7_save (Cond.code yX7_save cX7_save 3 (Option.some Jvm.ClassFile.FieldType.int)) 2 0 0 [.ref m, .int v] h (mDv h m ad (thrF sc (ixB v 0 1).isSome) R (saveA ar R (ixB v 0 1)) (.int (if (ixB v 0 1).isSome = true then R 5 else 0))) := by
  refine kEnter S kd_X7_save (Nat.le_of_ble_eq_true rfl) (fun x F hxl hxg => ?_)
  subst hxl; subst hxg
  have hlv : lv_args 0 [.ref m, .int v] = [(0, .ref m), (1, .int v)] := rfl
  rw [hlv]
  have hK : kKp (mOwn m) h h := kKp.rf
  refine k_aload_n F dX7_save_0 1 rfl rfl rfl ?_
  refine k_iconst (v := 0) F dX7_save_1 2 rfl (by decide) ?_
  refine m_put F 8 (by decide) (knX7 8) q3600 rfl rfl dX7_save_2 5 rfl hM hK rfl rfl rfl (fun h9 hM hK => ?_)
  refine k_aload_n F dX7_save_5 6 rfl rfl rfl ?_
  refine k_iload_n F dX7_save_6 7 rfl rfl rfl ?_
  refine k_iconst (v := 0) F dX7_save_7 8 rfl (by decide) ?_
  refine k_iconst (v := 1) F dX7_save_8 9 rfl (by decide) ?_
  refine k_callV F kd_X7_in q3498 q194 (kInvS (Bs := [_, _, _]) F q3496 q3497 q194 kd_X7_in q3498 dX7_save_9 rfl (by decide)) (zX7_in F.st _ _ _) 12 rfl (Nat.le_of_ble_eq_true rfl) (by first | exact Nat.le_of_ble_eq_true rfl | omega) (by first | exact Nat.le_of_ble_eq_true rfl | omega) (by first | exact Nat.le_of_ble_eq_true rfl | omega) (by first | exact Nat.le_of_ble_eq_true rfl | omega) (fun r1 h1 hr1 => ?_)
  obtain ⟨rfl, rfl⟩ := hr1
  refine k_callV F kd_X7_right q3850 q194 (kInvV (Bs := [_]) F kcX7 q3847 q3849 qs132 kd_X7_right q3850 dX7_save_12 (kHs.of hM.1) rfl (by decide)) (zX7_right F.st hM _) 15 rfl (Nat.le_of_ble_eq_true rfl) (by first | exact Nat.le_of_ble_eq_true rfl | omega) (by first | exact Nat.le_of_ble_eq_true rfl | omega) (by first | exact Nat.le_of_ble_eq_true rfl | omega) (by first | exact Nat.le_of_ble_eq_true rfl | omega) (fun r2 h2 hr2 => ?_)
  obtain ⟨rfl, hM, hK9⟩ := hr2
  have hK := hK.tr hK9
  cases q1 : ixB v 0 1 with
  | none =>
    rw [q1] at F
    rw [show inF v 0 1 = false from ixB_n q1] at hM ⊢
    refine k_ifne F dX7_save_15 18 20 rfl (by decide) (fun c_ => (by first | exact absurd rfl c_ | exact absurd c_ (by decide) | exact absurd (by assumption) c_ | exact absurd c_ (by assumption))) (fun _ => ?_)
    refine k_iconst (v := 0) F dX7_save_18 19 rfl (by decide) ?_
    exact k_iret F dX7_save_19 (by first | exact Nat.le_of_ble_eq_true rfl | omega) (by first | exact Nat.le_of_ble_eq_true rfl | omega) ⟨rfl, hM, hK⟩
  | some k =>
    obtain ⟨-, hk, rfl⟩ := ixB_lt (by omega) (by omega) q1
    rw [q1] at F
    rw [show inF (nI k) 0 1 = true from ixB_s q1] at hM ⊢
    refine k_ifne F dX7_save_15 18 20 rfl (by decide) (fun _ => ?_) (fun c_ => (by first | exact absurd rfl c_ | exact absurd c_ (by decide) | exact absurd (by assumption) c_ | exact absurd c_ (by assumption)))
    refine k_iconst (v := 0) F dX7_save_20 21 rfl (by decide) ?_
    refine k_istore_n (lv' := [(0, _), (1, _), (2, _)]) F dX7_save_21 22 rfl rfl (Nat.le_of_ble_eq_true rfl) rfl rfl rfl ?_
    replace hM : MW h2 m ad (upd sc 8 0) R ar := hM
    suffices hl : ∀ j, j ≤ 993 → ∀ h1, MW h1 m ad (upd sc 8 0) (R) (setA ar 4 (inRow (ar 4) k R j)) → kKp (mOwn m) h h1 → kW x 0 0 h1 22 [(0, .ref m), (1, .int (nI k)), (2, .int (nI j))] [] from hl 0 (Nat.zero_le _) _ ((by rw [inRow_0, setA_self]; exact hM)) hK
    refine kUpTo (Q := fun j => ∀ h1, MW h1 m ad (upd sc 8 0) (R) (setA ar 4 (inRow (ar 4) k R j)) → kKp (mOwn m) h h1 → kW x 0 0 h1 22 [(0, .ref m), (1, .int (nI k)), (2, .int (nI j))] []) (993) ?_ ?_
    · intro h1 hM hK
      refine k_iload_n F dX7_save_22 23 rfl rfl rfl ?_
      refine k_sipush (v := 993) F dX7_save_23 26 rfl (by decide) ?_
      refine k_topi (b := nI 993) (by rfl) ?_
      refine k_icmpge F dX7_save_26 29 53 rfl (by decide) (fun _ => ?_) (fun c_ => absurd c_ (by rw [nI_leE (by omega) (by omega)]; omega))
      refine k_aload_n F dX7_save_53 54 rfl rfl rfl ?_
      refine m_get F 5 (by decide) q3597 rfl dX7_save_54 57 rfl hM rfl ?_
      refine k_iload_n F dX7_save_57 58 rfl rfl rfl ?_
      refine k_iconst (v := 1) F dX7_save_58 59 rfl (by decide) ?_
      refine m_zast F dX7_save_59 60 rfl hM hK (k) (by first | (with_reducible rfl) | (simp only [nI_lit, pk_mul, nI_add])) (by first | decide | omega | (simp only [mSz]; omega)) rfl (fun h9 hM hK => ?_)
      refine k_aload_n F dX7_save_60 61 rfl rfl rfl ?_
      refine m_get F 0 (by decide) q3592 rfl dX7_save_61 64 rfl hM rfl ?_
      refine k_iconst (v := 5) F dX7_save_64 65 rfl (by decide) ?_
      refine m_ld F dX7_save_65 66 rfl hM (5) (by first | (with_reducible rfl) | (simp only [nI_lit, pk_mul, nI_add])) (by omega) ?_
      exact k_iret F dX7_save_66 (by first | exact Nat.le_of_ble_eq_true rfl | omega) (by first | exact Nat.le_of_ble_eq_true rfl | omega) ⟨rfl, hM, hK⟩
    · intro j hj ih h1 hM hK
      refine k_iload_n F dX7_save_22 23 rfl rfl rfl ?_
      refine k_sipush (v := 993) F dX7_save_23 26 rfl (by decide) ?_
      refine k_topi (b := nI 993) (by rfl) ?_
      refine k_icmpge F dX7_save_26 29 53 rfl (by decide) (fun c_ => absurd c_ (by rw [nI_leE (by omega) (by omega)]; omega)) (fun _ => ?_)
      refine k_aload_n F dX7_save_29 30 rfl rfl rfl ?_
      refine m_get F 4 (by decide) q3596 rfl dX7_save_30 33 rfl hM rfl ?_
      refine k_sipush (v := 993) F dX7_save_33 36 rfl (by decide) ?_
      refine k_iload_n F dX7_save_36 37 rfl rfl rfl ?_
      refine k_imul F dX7_save_37 38 rfl ?_
      refine k_iload_n F dX7_save_38 39 rfl rfl rfl ?_
      refine k_iadd F dX7_save_39 40 rfl ?_
      refine k_aload_n F dX7_save_40 41 rfl rfl rfl ?_
      refine m_get F 0 (by decide) q3592 rfl dX7_save_41 44 rfl hM rfl ?_
      refine k_iload_n F dX7_save_44 45 rfl rfl rfl ?_
      refine m_ld F dX7_save_45 46 rfl hM (j) (by first | (with_reducible rfl) | (simp only [nI_lit, pk_mul, nI_add])) (by omega) ?_
      refine m_iast F _ (by rfl) dX7_save_46 47 rfl hM hK (((993 * k) + j)) (by first | (with_reducible rfl) | (simp only [nI_lit, pk_mul, nI_add])) (by first | decide | omega | (simp only [mSz]; omega)) (fun h9 hM hK => ?_)
      refine k_iinc (e := 1) (lv' := [(0, _), (1, _), (2, _)]) F dX7_save_47 50 rfl rfl (by decide) rfl (Nat.le_of_ble_eq_true rfl) rfl rfl rfl ?_
      refine k_goto F dX7_save_50 22 (by decide) ?_
      rw [nI_1]
      refine ih _ ?_ hK
      rw [setA_upd, inRow_succ] at hM
      exact hM
set_option maxHeartbeats 4000000 in
set_option maxRecDepth 100000 in
theorem zX7_restore {l : Launch} {g : kG} (S : kStart l g) {h : kH} {m : Nat} {ad : Nat → Nat} {sc R : Nat → Int32} {ar : Nat → Nat → Int32} (hM : MW h m ad sc R ar) (v : Int32) (hz : ∀ k, k < 2 → ar 5 k = 0 ∨ ar 5 k = 1) : kMet l g yX7_restore (Cond.code yX7_restore cX7_restore 3 (Option.some Jvm.ClassFile.FieldType.int)) 2 0 0 [.ref m, .int v] h (mDv h m ad (restS sc ar (ixB v 0 1)) (restR R ar (ixB v 0 1)) ar (.int (restV ar (ixB v 0 1)))) := by
  refine kEnter S kd_X7_restore (Nat.le_of_ble_eq_true rfl) (fun x F hxl hxg => ?_)
  subst hxl; subst hxg
  have hlv : lv_args 0 [.ref m, .int v] = [(0, .ref m), (1, .int v)] := rfl
  rw [hlv]
  have hK : kKp (mOwn m) h h := kKp.rf
  refine k_aload_n F dX7_restore_0 1 rfl rfl rfl ?_
  refine k_iconst (v := 0) F dX7_restore_1 2 rfl (by decide) ?_
  refine m_put F 8 (by decide) (knX7 8) q3600 rfl rfl dX7_restore_2 5 rfl hM hK rfl rfl rfl (fun h9 hM hK => ?_)
  refine k_aload_n F dX7_restore_5 6 rfl rfl rfl ?_
  refine k_iload_n F dX7_restore_6 7 rfl rfl rfl ?_
  refine k_iconst (v := 0) F dX7_restore_7 8 rfl (by decide) ?_
  refine k_iconst (v := 1) F dX7_restore_8 9 rfl (by decide) ?_
  refine k_callV F kd_X7_in q3498 q194 (kInvS (Bs := [_, _, _]) F q3496 q3497 q194 kd_X7_in q3498 dX7_restore_9 rfl (by decide)) (zX7_in F.st _ _ _) 12 rfl (Nat.le_of_ble_eq_true rfl) (by first | exact Nat.le_of_ble_eq_true rfl | omega) (by first | exact Nat.le_of_ble_eq_true rfl | omega) (by first | exact Nat.le_of_ble_eq_true rfl | omega) (by first | exact Nat.le_of_ble_eq_true rfl | omega) (fun r1 h1 hr1 => ?_)
  obtain ⟨rfl, rfl⟩ := hr1
  refine k_callV F kd_X7_right q3850 q194 (kInvV (Bs := [_]) F kcX7 q3847 q3849 qs132 kd_X7_right q3850 dX7_restore_12 (kHs.of hM.1) rfl (by decide)) (zX7_right F.st hM _) 15 rfl (Nat.le_of_ble_eq_true rfl) (by first | exact Nat.le_of_ble_eq_true rfl | omega) (by first | exact Nat.le_of_ble_eq_true rfl | omega) (by first | exact Nat.le_of_ble_eq_true rfl | omega) (by first | exact Nat.le_of_ble_eq_true rfl | omega) (fun r2 h2 hr2 => ?_)
  obtain ⟨rfl, hM, hK9⟩ := hr2
  have hK := hK.tr hK9
  cases q1 : ixB v 0 1 with
  | none =>
    rw [q1] at F
    rw [show inF v 0 1 = false from ixB_n q1] at hM ⊢
    refine k_ifne F dX7_restore_15 18 20 rfl (by decide) (fun c_ => (by first | exact absurd rfl c_ | exact absurd c_ (by decide) | exact absurd (by assumption) c_ | exact absurd c_ (by assumption))) (fun _ => ?_)
    refine k_iconst (v := 0) F dX7_restore_18 19 rfl (by decide) ?_
    exact k_iret F dX7_restore_19 (by first | exact Nat.le_of_ble_eq_true rfl | omega) (by first | exact Nat.le_of_ble_eq_true rfl | omega) ⟨rfl, hM, hK⟩
  | some k =>
    obtain ⟨-, hk, rfl⟩ := ixB_lt (by omega) (by omega) q1
    rw [q1] at F
    rw [show inF (nI k) 0 1 = true from ixB_s q1] at hM ⊢
    refine k_ifne F dX7_restore_15 18 20 rfl (by decide) (fun _ => ?_) (fun c_ => (by first | exact absurd rfl c_ | exact absurd c_ (by decide) | exact absurd (by assumption) c_ | exact absurd c_ (by assumption)))
    refine k_aload_n F dX7_restore_20 21 rfl rfl rfl ?_
    refine m_get F 5 (by decide) q3597 rfl dX7_restore_21 24 rfl hM rfl ?_
    refine k_iload_n F dX7_restore_24 25 rfl rfl rfl ?_
    refine m_zald F dX7_restore_25 26 rfl hM (k) (by first | (with_reducible rfl) | (simp only [nI_lit, pk_mul, nI_add])) (by first | decide | omega | (simp only [mSz]; omega)) ?_
    replace hM : MW h2 m ad (upd sc 8 0) R ar := hM
    refine k_ifne F dX7_restore_26 29 36 rfl (by decide) (fun c_a => ?_) (fun c_a => ?_)
    · rw [show restS sc ar (some k) = upd (upd sc 8 0) 6 0 from if_neg c_a, show restR R ar (some k) = (fun i => ar 4 (993 * k + i)) from if_neg c_a, show restV ar (some k) = ar 4 (993 * k + 5) from if_neg c_a] at F
      refine k_iconst (v := 0) F dX7_restore_36 37 rfl (by decide) ?_
      refine k_istore_n (lv' := [(0, _), (1, _), (2, _)]) F dX7_restore_37 38 rfl rfl (Nat.le_of_ble_eq_true rfl) rfl rfl rfl ?_
      suffices hl : ∀ j, j ≤ 993 → ∀ h1, MW h1 m ad (upd sc 8 0) (mixF (fun i => ar 4 (993 * k + i)) R j) (ar) → kKp (mOwn m) h h1 → kW x 0 0 h1 38 [(0, .ref m), (1, .int (nI k)), (2, .int (nI j))] [] from hl 0 (Nat.zero_le _) _ ((by rw [mixF_0]; exact hM)) hK
      refine kUpTo (Q := fun j => ∀ h1, MW h1 m ad (upd sc 8 0) (mixF (fun i => ar 4 (993 * k + i)) R j) (ar) → kKp (mOwn m) h h1 → kW x 0 0 h1 38 [(0, .ref m), (1, .int (nI k)), (2, .int (nI j))] []) (993) ?_ ?_
      · intro h1 hM hK
        refine k_iload_n F dX7_restore_38 39 rfl rfl rfl ?_
        refine k_sipush (v := 993) F dX7_restore_39 42 rfl (by decide) ?_
        refine k_topi (b := nI 993) (by rfl) ?_
        refine k_icmpge F dX7_restore_42 45 69 rfl (by decide) (fun _ => ?_) (fun c_ => absurd c_ (by rw [nI_leE (by omega) (by omega)]; omega))
        refine k_aload_n F dX7_restore_69 70 rfl rfl rfl ?_
        refine k_iconst (v := 0) F dX7_restore_70 71 rfl (by decide) ?_
        refine m_put F 6 (by decide) (knX7 6) q3598 rfl rfl dX7_restore_71 74 rfl hM hK rfl rfl rfl (fun h9 hM hK => ?_)
        refine k_aload_n F dX7_restore_74 75 rfl rfl rfl ?_
        refine m_get F 0 (by decide) q3592 rfl dX7_restore_75 78 rfl hM rfl ?_
        refine k_iconst (v := 5) F dX7_restore_78 79 rfl (by decide) ?_
        refine m_ld F dX7_restore_79 80 rfl hM (5) (by first | (with_reducible rfl) | (simp only [nI_lit, pk_mul, nI_add])) (by omega) ?_
        rw [show mixF (fun i => ar 4 (993 * k + i)) R 993 5 = ar 4 (993 * k + 5) from mixF_lt (by omega)]
        exact k_iret F dX7_restore_80 (by first | exact Nat.le_of_ble_eq_true rfl | omega) (by first | exact Nat.le_of_ble_eq_true rfl | omega) ⟨rfl, hM.row (fun i hi => mixF_lt hi), hK⟩
      · intro j hj ih h1 hM hK
        refine k_iload_n F dX7_restore_38 39 rfl rfl rfl ?_
        refine k_sipush (v := 993) F dX7_restore_39 42 rfl (by decide) ?_
        refine k_topi (b := nI 993) (by rfl) ?_
        refine k_icmpge F dX7_restore_42 45 69 rfl (by decide) (fun c_ => absurd c_ (by rw [nI_leE (by omega) (by omega)]; omega)) (fun _ => ?_)
        refine k_aload_n F dX7_restore_45 46 rfl rfl rfl ?_
        refine m_get F 0 (by decide) q3592 rfl dX7_restore_46 49 rfl hM rfl ?_
        refine k_iload_n F dX7_restore_49 50 rfl rfl rfl ?_
        refine k_aload_n F dX7_restore_50 51 rfl rfl rfl ?_
        refine m_get F 4 (by decide) q3596 rfl dX7_restore_51 54 rfl hM rfl ?_
        refine k_sipush (v := 993) F dX7_restore_54 57 rfl (by decide) ?_
        refine k_iload_n F dX7_restore_57 58 rfl rfl rfl ?_
        refine k_imul F dX7_restore_58 59 rfl ?_
        refine k_iload_n F dX7_restore_59 60 rfl rfl rfl ?_
        refine k_iadd F dX7_restore_60 61 rfl ?_
        refine m_iald F _ (by rfl) dX7_restore_61 62 rfl hM (((993 * k) + j)) (by first | (with_reducible rfl) | (simp only [nI_lit, pk_mul, nI_add])) (by first | decide | omega | (simp only [mSz]; omega)) ?_
        refine m_st F dX7_restore_62 63 rfl hM hK (j) (by first | (with_reducible rfl) | (simp only [nI_lit, pk_mul, nI_add])) (by omega) (fun h9 hM hK => ?_)
        refine k_iinc (e := 1) (lv' := [(0, _), (1, _), (2, _)]) F dX7_restore_63 66 rfl rfl (by decide) rfl (Nat.le_of_ble_eq_true rfl) rfl rfl rfl ?_
        refine k_goto F dX7_restore_66 38 (by decide) ?_
        rw [nI_1]
        refine ih _ ?_ hK
        rw [← mixF_succ]
        exact hM
    · rw [show restS sc ar (some k) = upd (upd sc 8 0) 8 2 from if_pos c_a, show restR R ar (some k) = R from if_pos c_a, show restV ar (some k) = 0 from if_pos c_a] at F
      refine k_aload_n F dX7_restore_29 30 rfl rfl rfl ?_
      refine k_iconst (v := 2) F dX7_restore_30 31 rfl (by decide) ?_
      refine m_put F 8 (by decide) (knX7 8) q3600 rfl rfl dX7_restore_31 34 rfl hM hK rfl rfl rfl (fun h9 hM hK => ?_)
      refine k_iconst (v := 0) F dX7_restore_34 35 rfl (by decide) ?_
      exact k_iret F dX7_restore_35 (by first | exact Nat.le_of_ble_eq_true rfl | omega) (by first | exact Nat.le_of_ble_eq_true rfl | omega) ⟨rfl, hM, hK⟩

