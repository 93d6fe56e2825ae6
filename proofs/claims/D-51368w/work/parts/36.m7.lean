/-! the reference: forecasts, changes (printed by gen7.py) -/
theorem kd_X7_keeps : kCd (Cond.code yX7_keeps cX7_keeps 2 (Option.none : Option Jvm.ClassFile.FieldType)) yX7_keeps cX7_keeps 2 (Option.none : Option Jvm.ClassFile.FieldType) [] := kCd_code (by decide +kernel)
theorem kd_X7_changes : kCd (Cond.code yX7_changes cX7_changes 1 (Option.none : Option Jvm.ClassFile.FieldType)) yX7_changes cX7_changes 1 (Option.none : Option Jvm.ClassFile.FieldType) [] := kCd_code (by decide +kernel)
theorem kd_X7_refuses : kCd (Cond.code yX7_refuses cX7_refuses 2 (Option.some Jvm.ClassFile.FieldType.int)) yX7_refuses cX7_refuses 2 (Option.some Jvm.ClassFile.FieldType.int) [] := kCd_code (by decide +kernel)
theorem kd_X7_coming : kCd (Cond.code yX7_coming cX7_coming 4 (Option.some Jvm.ClassFile.FieldType.int)) yX7_coming cX7_coming 4 (Option.some Jvm.ClassFile.FieldType.int) [] := kCd_code (by decide +kernel)
theorem kd_X7_passing : kCd (Cond.code yX7_passing cX7_passing 2 (Option.some Jvm.ClassFile.FieldType.int)) yX7_passing cX7_passing 2 (Option.some Jvm.ClassFile.FieldType.int) [] := kCd_code (by decide +kernel)
theorem kd_X7_calling : kCd (Cond.code yX7_calling cX7_calling 4 (Option.some Jvm.ClassFile.FieldType.int)) yX7_calling cX7_calling 4 (Option.some Jvm.ClassFile.FieldType.int) [] := kCd_code (by decide +kernel)
theorem kd_X7_breaking : kCd (Cond.code yX7_breaking cX7_breaking 5 (Option.some Jvm.ClassFile.FieldType.int)) yX7_breaking cX7_breaking 5 (Option.some Jvm.ClassFile.FieldType.int) [] := kCd_code (by decide +kernel)
theorem kd_X7_ofPhaseSetting : kCd (Cond.code yX7_ofPhaseSetting cX7_ofPhaseSetting 5 (Option.some Jvm.ClassFile.FieldType.int)) yX7_ofPhaseSetting cX7_ofPhaseSetting 5 (Option.some Jvm.ClassFile.FieldType.int) [] := kCd_code (by decide +kernel)
theorem kd_X7_setting : kCd (Cond.code yX7_setting cX7_setting 4 (Option.some Jvm.ClassFile.FieldType.int)) yX7_setting cX7_setting 4 (Option.some Jvm.ClassFile.FieldType.int) [] := kCd_code (by decide +kernel)
theorem kd_X7_come : kCd (Cond.code yX7_come cX7_come 3 (Option.some Jvm.ClassFile.FieldType.int)) yX7_come cX7_come 3 (Option.some Jvm.ClassFile.FieldType.int) [] := kCd_code (by decide +kernel)
theorem kd_X7_pass : kCd (Cond.code yX7_pass cX7_pass 2 (Option.some Jvm.ClassFile.FieldType.int)) yX7_pass cX7_pass 2 (Option.some Jvm.ClassFile.FieldType.int) [] := kCd_code (by decide +kernel)
theorem kd_X7_call : kCd (Cond.code yX7_call cX7_call 2 (Option.some Jvm.ClassFile.FieldType.int)) yX7_call cX7_call 2 (Option.some Jvm.ClassFile.FieldType.int) [] := kCd_code (by decide +kernel)
theorem kd_X7_setBroken : kCd (Cond.code yX7_setBroken cX7_setBroken 3 (Option.some Jvm.ClassFile.FieldType.int)) yX7_setBroken cX7_setBroken 3 (Option.some Jvm.ClassFile.FieldType.int) [] := kCd_code (by decide +kernel)
theorem kd_X7_clash : kCd (Cond.code yX7_clash cX7_clash 6 (Option.some Jvm.ClassFile.FieldType.int)) yX7_clash cX7_clash 6 (Option.some Jvm.ClassFile.FieldType.int) [] := kCd_code (by decide +kernel)
theorem kd_X7_setPhase : kCd (Cond.code yX7_setPhase cX7_setPhase 4 (Option.some Jvm.ClassFile.FieldType.int)) yX7_setPhase cX7_setPhase 4 (Option.some Jvm.ClassFile.FieldType.int) [] := kCd_code (by decide +kernel)
theorem kd_X7_set : kCd (Cond.code yX7_set cX7_set 3 (Option.some Jvm.ClassFile.FieldType.int)) yX7_set cX7_set 3 (Option.some Jvm.ClassFile.FieldType.int) [] := kCd_code (by decide +kernel)
set_option maxHeartbeats 4000000 in
set_option maxRecDepth 100000 in
theorem zX7_refuses {l : Launch} {g : kG} (S : kStart l g) {h : kH} {m : Nat} {ad : Nat → Nat} {sc R : Nat → Int32} {ar : Nat → Nat → Int32} (hM : MW h m ad sc R ar) (v : Int32) : kMet l g yX7_refuses (Cond.code yX7_refuses cX7_refuses 2 (Option.some Jvm.ClassFile.FieldType.int)) 1 0 0 [.ref m, .int v] h (mDv h m ad (upd sc 7 (sc 7 + 1)) R ar (.int v)) := by
  refine kEnter S kd_X7_refuses (Nat.le_of_ble_eq_true rfl) (fun x F hxl hxg => ?_)
  subst hxl; subst hxg
  have hlv : lv_args 0 [.ref m, .int v] = [(0, .ref m), (1, .int v)] := rfl
  rw [hlv]
  have hK : kKp (mOwn m) h h := kKp.rf
  refine k_aload_n F dX7_refuses_0 1 rfl rfl rfl ?_
  refine k_dup F dX7_refuses_1 2 rfl rfl ?_
  refine m_get F 7 (by decide) q3599 rfl dX7_refuses_2 5 rfl hM rfl ?_
  refine k_iconst (v := 1) F dX7_refuses_5 6 rfl (by decide) ?_
  refine k_iadd F dX7_refuses_6 7 rfl ?_
  refine m_put F 7 (by decide) (knX7 7) q3599 rfl rfl dX7_refuses_7 10 rfl hM hK rfl rfl rfl (fun h9 hM hK => ?_)
  refine k_iload_n F dX7_refuses_10 11 rfl rfl rfl ?_
  exact k_iret F dX7_refuses_11 (by first | exact Nat.le_of_ble_eq_true rfl | omega) (by first | exact Nat.le_of_ble_eq_true rfl | omega) ⟨rfl, hM, hK⟩
set_option maxHeartbeats 4000000 in
set_option maxRecDepth 100000 in
theorem zX7_keeps {l : Launch} {g : kG} (S : kStart l g) {h : kH} {m : Nat} {ad : Nat → Nat} {sc R : Nat → Int32} {ar : Nat → Nat → Int32} (hM : MW h m ad sc R ar) (u : Nat) (hu : sc 6 = nI u) (hu8 : u ≤ 8) : kMet l g yX7_keeps (Cond.code yX7_keeps cX7_keeps 2 (Option.none : Option Jvm.ClassFile.FieldType)) 1 0 0 [.ref m] h (mDo h m ad (upd sc 6 (nI (keepU u + 1))) R (setA ar 3 (keepE R (ar 3) u))) := by
  refine kEnter S kd_X7_keeps (Nat.le_of_ble_eq_true rfl) (fun x F hxl hxg => ?_)
  subst hxl; subst hxg
  have hlv : lv_args 0 [.ref m] = [(0, .ref m)] := rfl
  rw [hlv]
  have hK : kKp (mOwn m) h h := kKp.rf
  have part2 : ∀ h1, MW h1 m ad (upd sc 6 (nI (keepU u))) R (setA ar 3 (stF (ar 3) u)) → kKp (mOwn m) h h1 → kW x 0 0 h1 50 [(0, .ref m)] [] := by
    intro h1 hM hK
    have hk7 : keepU u ≤ 7 := by unfold keepU; split <;> omega
    have e6 : upd sc 6 (nI (keepU u)) 6 = nI (keepU u) := upd_eq
    refine k_iconst (v := 0) F dX7_keeps_50 51 rfl (by decide) ?_
    refine k_istore_n (lv' := [(0, _), (1, _)]) F dX7_keeps_51 52 rfl rfl (Nat.le_of_ble_eq_true rfl) rfl rfl rfl ?_
    suffices hl : ∀ j, j ≤ 993 → ∀ h1, MW h1 m ad (upd sc 6 (nI (keepU u))) (R) (setA ar 3 (inRow (stF (ar 3) u) (keepU u) R j)) → kKp (mOwn m) h h1 → kW x 0 0 h1 52 [(0, .ref m), (1, .int (nI j))] [] from hl 0 (Nat.zero_le _) _ ((by rw [inRow_0]; exact hM)) hK
    refine kUpTo (Q := fun j => ∀ h1, MW h1 m ad (upd sc 6 (nI (keepU u))) (R) (setA ar 3 (inRow (stF (ar 3) u) (keepU u) R j)) → kKp (mOwn m) h h1 → kW x 0 0 h1 52 [(0, .ref m), (1, .int (nI j))] []) (993) ?_ ?_
    · intro h1 hM hK
      refine k_iload_n F dX7_keeps_52 53 rfl rfl rfl ?_
      refine k_sipush (v := 993) F dX7_keeps_53 56 rfl (by decide) ?_
      refine k_topi (b := nI 993) (by rfl) ?_
      refine k_icmpge F dX7_keeps_56 59 86 rfl (by decide) (fun _ => ?_) (fun c_ => absurd c_ (by rw [nI_leE (by omega) (by omega)]; omega))
      refine k_aload_n F dX7_keeps_86 87 rfl rfl rfl ?_
      refine k_dup F dX7_keeps_87 88 rfl rfl ?_
      refine m_get F 6 (by decide) q3598 rfl dX7_keeps_88 91 rfl hM rfl ?_
      refine k_iconst (v := 1) F dX7_keeps_91 92 rfl (by decide) ?_
      refine k_iadd F dX7_keeps_92 93 rfl ?_
      refine m_put F 6 (by decide) (knX7 6) q3598 rfl rfl dX7_keeps_93 96 rfl hM hK rfl rfl rfl (fun h9 hM hK => ?_)
      rw [e6, nI_1, upd_upd] at hM
      exact k_vret F dX7_keeps_96 (by first | exact Nat.le_of_ble_eq_true rfl | omega) (by first | exact Nat.le_of_ble_eq_true rfl | omega) ⟨hM, hK⟩
    · intro j hj ih h1 hM hK
      refine k_iload_n F dX7_keeps_52 53 rfl rfl rfl ?_
      refine k_sipush (v := 993) F dX7_keeps_53 56 rfl (by decide) ?_
      refine k_topi (b := nI 993) (by rfl) ?_
      refine k_icmpge F dX7_keeps_56 59 86 rfl (by decide) (fun c_ => absurd c_ (by rw [nI_leE (by omega) (by omega)]; omega)) (fun _ => ?_)
      refine k_aload_n F dX7_keeps_59 60 rfl rfl rfl ?_
      refine m_get F 3 (by decide) q3595 rfl dX7_keeps_60 63 rfl hM rfl ?_
      refine k_sipush (v := 993) F dX7_keeps_63 66 rfl (by decide) ?_
      refine k_aload_n F dX7_keeps_66 67 rfl rfl rfl ?_
      refine m_get F 6 (by decide) q3598 rfl dX7_keeps_67 70 rfl hM rfl ?_
      rw [e6]
      refine k_imul F dX7_keeps_70 71 rfl ?_
      refine k_iload_n F dX7_keeps_71 72 rfl rfl rfl ?_
      refine k_iadd F dX7_keeps_72 73 rfl ?_
      refine k_aload_n F dX7_keeps_73 74 rfl rfl rfl ?_
      refine m_get F 0 (by decide) q3592 rfl dX7_keeps_74 77 rfl hM rfl ?_
      refine k_iload_n F dX7_keeps_77 78 rfl rfl rfl ?_
      refine m_ld F dX7_keeps_78 79 rfl hM (j) (by first | (with_reducible rfl) | (simp only [nI_lit, pk_mul, nI_add])) (by omega) ?_
      refine m_iast F _ (by rfl) dX7_keeps_79 80 rfl hM hK (((993 * (keepU u)) + j)) (by first | (with_reducible rfl) | (simp only [nI_lit, pk_mul, nI_add])) (by first | decide | omega | (simp only [mSz]; omega)) (fun h9 hM hK => ?_)
      refine k_iinc (e := 1) (lv' := [(0, _), (1, _)]) F dX7_keeps_80 83 rfl rfl (by decide) rfl (Nat.le_of_ble_eq_true rfl) rfl rfl rfl ?_
      refine k_goto F dX7_keeps_83 52 (by decide) ?_
      rw [nI_1]
      refine ih _ ?_ hK
      rw [setA_upd, inRow_succ] at hM
      exact hM
  refine k_aload_n F dX7_keeps_0 1 rfl rfl rfl ?_
  refine m_get F 6 (by decide) q3598 rfl dX7_keeps_1 4 rfl hM rfl ?_
  refine k_bipush (v := 8) F dX7_keeps_4 6 rfl (by decide) ?_
  rw [hu]
  by_cases c8 : u = 8
  · subst c8
    have hkU : keepU 8 = 7 := rfl
    refine k_icmpne F dX7_keeps_6 9 50 rfl (by decide) (fun c_ => absurd rfl c_) (fun _ => ?_)
    refine k_iconst (v := 0) F dX7_keeps_9 10 rfl (by decide) ?_
    refine k_istore_n (lv' := [(0, _), (1, _)]) F dX7_keeps_10 11 rfl rfl (Nat.le_of_ble_eq_true rfl) rfl rfl rfl ?_
    suffices hl : ∀ j, j ≤ 6951 → ∀ h1, MW h1 m ad (sc) (R) (setA ar 3 (mixF (fun k => ar 3 (k + 993)) (ar 3) j)) → kKp (mOwn m) h h1 → kW x 0 0 h1 11 [(0, .ref m), (1, .int (nI j))] [] from hl 0 (Nat.zero_le _) _ ((by rw [mixF_0, setA_self]; exact hM)) hK
    refine kUpTo (Q := fun j => ∀ h1, MW h1 m ad (sc) (R) (setA ar 3 (mixF (fun k => ar 3 (k + 993)) (ar 3) j)) → kKp (mOwn m) h h1 → kW x 0 0 h1 11 [(0, .ref m), (1, .int (nI j))] []) (6951) ?_ ?_
    · intro h1 hM hK
      refine k_iload_n F dX7_keeps_11 12 rfl rfl rfl ?_
      refine k_sipush (v := 6951) F dX7_keeps_12 15 rfl (by decide) ?_
      refine k_topi (b := nI 6951) (by rfl) ?_
      refine k_icmpge F dX7_keeps_15 18 40 rfl (by decide) (fun _ => ?_) (fun c_ => absurd c_ (by rw [nI_leE (by omega) (by omega)]; omega))
      refine kW.keep (lv' := [(0, _)]) [0] rfl ?_
      refine k_aload_n F dX7_keeps_40 41 rfl rfl rfl ?_
      refine k_dup F dX7_keeps_41 42 rfl rfl ?_
      refine m_get F 6 (by decide) q3598 rfl dX7_keeps_42 45 rfl hM rfl ?_
      rw [hu]
      refine k_iconst (v := 1) F dX7_keeps_45 46 rfl (by decide) ?_
      refine k_isub F dX7_keeps_46 47 rfl ?_
      refine m_put F 6 (by decide) (knX7 6) q3598 rfl rfl dX7_keeps_47 50 rfl hM hK rfl rfl rfl (fun h9 hM hK => ?_)
      rw [show nI 8 - 1 = nI 7 from by decide] at hM
      refine part2 _ ?_ hK
      exact hM
    · intro j hj ih h1 hM hK
      refine k_iload_n F dX7_keeps_11 12 rfl rfl rfl ?_
      refine k_sipush (v := 6951) F dX7_keeps_12 15 rfl (by decide) ?_
      refine k_topi (b := nI 6951) (by rfl) ?_
      refine k_icmpge F dX7_keeps_15 18 40 rfl (by decide) (fun c_ => absurd c_ (by rw [nI_leE (by omega) (by omega)]; omega)) (fun _ => ?_)
      refine k_aload_n F dX7_keeps_18 19 rfl rfl rfl ?_
      refine m_get F 3 (by decide) q3595 rfl dX7_keeps_19 22 rfl hM rfl ?_
      refine k_iload_n F dX7_keeps_22 23 rfl rfl rfl ?_
      refine k_aload_n F dX7_keeps_23 24 rfl rfl rfl ?_
      refine m_get F 3 (by decide) q3595 rfl dX7_keeps_24 27 rfl hM rfl ?_
      refine k_iload_n F dX7_keeps_27 28 rfl rfl rfl ?_
      refine k_sipush (v := 993) F dX7_keeps_28 31 rfl (by decide) ?_
      refine k_iadd F dX7_keeps_31 32 rfl ?_
      refine m_iald F _ (by rfl) dX7_keeps_32 33 rfl hM ((j + 993)) (by first | (with_reducible rfl) | (simp only [nI_lit, pk_mul, nI_add])) (by first | decide | omega | (simp only [mSz]; omega)) ?_
      refine m_iast F _ (by rfl) dX7_keeps_33 34 rfl hM hK (j) (by first | (with_reducible rfl) | (simp only [nI_lit, pk_mul, nI_add])) (by first | decide | omega | (simp only [mSz]; omega)) (fun h9 hM hK => ?_)
      refine k_iinc (e := 1) (lv' := [(0, _), (1, _)]) F dX7_keeps_34 37 rfl rfl (by decide) rfl (Nat.le_of_ble_eq_true rfl) rfl rfl rfl ?_
      refine k_goto F dX7_keeps_37 11 (by decide) ?_
      rw [nI_1]
      refine ih _ ?_ hK
      rw [setA_upd, setA_s, show mixF (fun k => ar 3 (k + 993)) (ar 3) j (j + 993) = ar 3 (j + 993) from if_neg (by omega)] at hM
      rw [show ar 3 (j + 993) = (fun k => ar 3 (k + 993)) j from rfl, mixF_succ] at hM
      exact hM
  · refine k_icmpne F dX7_keeps_6 9 50 rfl (by decide) (fun _ => ?_) (fun c_ => absurd (show nI u = nI 8 from c_) (by rw [nI_inj (by omega) (by omega)]; exact c8))
    refine part2 _ ?_ hK
    have hkU : keepU u = u := if_neg c8
    have hst : stF (ar 3) u = ar 3 := if_neg c8
    rw [hkU, hst, setA_self, ← hu, upd_self]
    exact hM

set_option maxHeartbeats 4000000 in
set_option maxRecDepth 100000 in
theorem zX7_changes {l : Launch} {g : kG} (S : kStart l g) {h : kH} {m : Nat} {ad : Nat → Nat} {sc R : Nat → Int32} {ar : Nat → Nat → Int32} (hM : MW h m ad sc R ar) (u : Nat) (hu : sc 6 = nI u) (hu8 : u ≤ 8) : kMet l g yX7_changes (Cond.code yX7_changes cX7_changes 1 (Option.none : Option Jvm.ClassFile.FieldType)) 2 0 0 [.ref m] h (mDo h m ad (chS sc u) R (chA sc R ar u)) := by
  refine kEnter S kd_X7_changes (Nat.le_of_ble_eq_true rfl) (fun x F hxl hxg => ?_)
  subst hxl; subst hxg
  have hlv : lv_args 0 [.ref m] = [(0, .ref m)] := rfl
  rw [hlv]
  have hK : kKp (mOwn m) h h := kKp.rf
  refine k_aload_n F dX7_changes_0 1 rfl rfl rfl ?_
  refine m_get F 23 (by decide) q3615 rfl dX7_changes_1 4 rfl hM rfl ?_
  refine k_ifne F dX7_changes_4 7 11 rfl (by decide) (fun c_z => ?_) (fun c_z => ?_)
  · exact k_vret F dX7_changes_11 (by first | exact Nat.le_of_ble_eq_true rfl | omega) (by first | exact Nat.le_of_ble_eq_true rfl | omega) ⟨by unfold chS chA; rw [if_neg c_z, if_neg c_z]; exact hM, hK⟩
  · refine k_aload_n F dX7_changes_7 8 rfl rfl rfl ?_
    refine k_callN F kd_X7_keeps q3733 q194 (kInvV (Bs := []) F kcX7 q3730 q3732 qs104 kd_X7_keeps q3733 dX7_changes_8 (kHs.of hM.1) rfl (by decide)) (zX7_keeps F.st hM u hu hu8) 11 rfl (Nat.le_of_ble_eq_true rfl) (by first | exact Nat.le_of_ble_eq_true rfl | omega) (by first | exact Nat.le_of_ble_eq_true rfl | omega) (by first | exact Nat.le_of_ble_eq_true rfl | omega) (by first | exact Nat.le_of_ble_eq_true rfl | omega) (fun h1 hr1 => ?_)
    obtain ⟨hM, hK9⟩ := hr1
    have hK := hK.tr hK9
    exact k_vret F dX7_changes_11 (by first | exact Nat.le_of_ble_eq_true rfl | omega) (by first | exact Nat.le_of_ble_eq_true rfl | omega) ⟨by unfold chS chA; rw [if_pos c_z, if_pos c_z]; exact hM, hK⟩
set_option maxHeartbeats 4000000 in
set_option maxRecDepth 100000 in
theorem zX7_coming {l : Launch} {g : kG} (S : kStart l g) {h : kH} {m : Nat} {ad : Nat → Nat} {sc R : Nat → Int32} {ar : Nat → Nat → Int32} (hM : MW h m ad sc R ar) (u : Nat) (hu : sc 6 = nI u) (hu8 : u ≤ 8) (hR : RT R) (a n : Nat) (ha : a < 8) (hn : n ≤ 99) : kMet l g yX7_coming (Cond.code yX7_coming cX7_coming 4 (Option.some Jvm.ClassFile.FieldType.int)) 3 0 0 [.ref m, .int (nI a), .int (nI n)] h (mAct h m ad sc R ar u (comingF R a n)) := by
  refine kEnter S kd_X7_coming (Nat.le_of_ble_eq_true rfl) (fun x F hxl hxg => ?_)
  subst hxl; subst hxg
  have hlv : lv_args 0 [.ref m, .int (nI a), .int (nI n)] = [(0, .ref m), (1, .int (nI a)), (2, .int (nI n))] := rfl
  rw [hlv]
  have hK : kKp (mOwn m) h h := kKp.rf
  refine k_aload_n F dX7_coming_0 1 rfl rfl rfl ?_
  refine k_iload_n F dX7_coming_1 2 rfl rfl rfl ?_
  refine k_iconst (v := 3) F dX7_coming_2 3 rfl (by decide) ?_
  refine k_callV F kd_X7_of q3549 q194 (kInvV (Bs := [_, _]) F kcX7 q3546 q3548 qs86 kd_X7_of q3549 dX7_coming_3 (kHs.of hM.1) rfl (by decide)) (zX7_of F.st hM a 3 (by omega)) 6 rfl (Nat.le_of_ble_eq_true rfl) (by first | exact Nat.le_of_ble_eq_true rfl | omega) (by first | exact Nat.le_of_ble_eq_true rfl | omega) (by first | exact Nat.le_of_ble_eq_true rfl | omega) (by first | exact Nat.le_of_ble_eq_true rfl | omega) (fun r1 h1 hr1 => ?_)
  obtain ⟨rfl, rfl⟩ := hr1
  refine k_iload_n F dX7_coming_6 7 rfl rfl rfl ?_
  refine k_iadd F dX7_coming_7 8 rfl ?_
  refine k_bipush (v := 99) F dX7_coming_8 10 rfl (by decide) ?_
  obtain ⟨c, hc, ec⟩ := hR.2.1 a ha
  have erc : rC R a = c := by unfold rC; rw [ec]; exact nI_clamp (by omega)
  refine k_icmple F dX7_coming_10 13 20 rfl (by decide) (fun c_z => ?_) (fun c_z => ?_)
  · have ho : comingF R a n = .inr (comeF R a n, mOf R a 3 + nI n) := if_neg (Int32.not_lt.mpr c_z)
    rw [ho] at F
    have hcn : c + n ≤ 99 := by
      rw [ec, nI_add, show (99 : Int32) = nI 99 from rfl, nI_leE (by omega) (by omega)] at c_z
      exact c_z
    have hlo : ∀ j, mOf (comeTo R a c j) a 3 = nI c := fun j => by
      rw [← ec]
      exact comeTo_lo (by omega) j
    refine k_aload_n F dX7_coming_20 21 rfl rfl rfl ?_
    refine k_callN F kd_X7_changes q3753 q194 (kInvV (Bs := []) F kcX7 q3750 q3752 qs109 kd_X7_changes q3753 dX7_coming_21 (kHs.of hM.1) rfl (by decide)) (zX7_changes F.st hM u hu hu8) 24 rfl (Nat.le_of_ble_eq_true rfl) (by first | exact Nat.le_of_ble_eq_true rfl | omega) (by first | exact Nat.le_of_ble_eq_true rfl | omega) (by first | exact Nat.le_of_ble_eq_true rfl | omega) (by first | exact Nat.le_of_ble_eq_true rfl | omega) (fun h2 hr2 => ?_)
    obtain ⟨hM, hK9⟩ := hr2
    have hK := hK.tr hK9
    refine k_iconst (v := 0) F dX7_coming_24 25 rfl (by decide) ?_
    refine k_istore_n (lv' := [(0, _), (1, _), (2, _), (3, _)]) F dX7_coming_25 26 rfl rfl (Nat.le_of_ble_eq_true rfl) rfl rfl rfl ?_
    suffices hl : ∀ j, j ≤ n → ∀ h1, MW h1 m ad (chS sc u) (comeTo R a c j) (chA sc R ar u) → kKp (mOwn m) h h1 → kW x 0 0 h1 26 [(0, .ref m), (1, .int (nI a)), (2, .int (nI n)), (3, .int (nI j))] [] from hl 0 (Nat.zero_le _) _ (hM) hK
    refine kUpTo (Q := fun j => ∀ h1, MW h1 m ad (chS sc u) (comeTo R a c j) (chA sc R ar u) → kKp (mOwn m) h h1 → kW x 0 0 h1 26 [(0, .ref m), (1, .int (nI a)), (2, .int (nI n)), (3, .int (nI j))] []) (n) ?_ ?_
    · intro h1 hM hK
      refine k_iload_n F dX7_coming_26 27 rfl rfl rfl ?_
      refine k_iload_n F dX7_coming_27 28 rfl rfl rfl ?_
      refine k_icmpge F dX7_coming_28 31 65 rfl (by decide) (fun _ => ?_) (fun c_ => absurd c_ (by rw [nI_leE (by omega) (by omega)]; omega))
      refine k_aload_n F dX7_coming_65 66 rfl rfl rfl ?_
      refine k_iload_n F dX7_coming_66 67 rfl rfl rfl ?_
      refine k_iconst (v := 3) F dX7_coming_67 68 rfl (by decide) ?_
      refine k_aload_n F dX7_coming_68 69 rfl rfl rfl ?_
      refine k_iload_n F dX7_coming_69 70 rfl rfl rfl ?_
      refine k_iconst (v := 3) F dX7_coming_70 71 rfl (by decide) ?_
      refine k_callV F kd_X7_of q3549 q194 (kInvV (Bs := [_, _]) F kcX7 q3546 q3548 qs86 kd_X7_of q3549 dX7_coming_71 (kHs.of hM.1) rfl (by decide)) (zX7_of F.st hM a 3 (by omega)) 74 rfl (Nat.le_of_ble_eq_true rfl) (by first | exact Nat.le_of_ble_eq_true rfl | omega) (by first | exact Nat.le_of_ble_eq_true rfl | omega) (by first | exact Nat.le_of_ble_eq_true rfl | omega) (by first | exact Nat.le_of_ble_eq_true rfl | omega) (fun r3 h3 hr3 => ?_)
      obtain ⟨rfl, rfl⟩ := hr3
      refine k_iload_n F dX7_coming_74 75 rfl rfl rfl ?_
      refine k_iadd F dX7_coming_75 76 rfl ?_
      refine k_callN F kd_X7_puts q3553 q194 (kInvV (Bs := [_, _, _]) F kcX7 q3550 q3552 qs87 kd_X7_puts q3553 dX7_coming_76 (kHs.of hM.1) rfl (by decide)) (zX7_puts F.st hM a 3 _ (by omega)) 79 rfl (Nat.le_of_ble_eq_true rfl) (by first | exact Nat.le_of_ble_eq_true rfl | omega) (by first | exact Nat.le_of_ble_eq_true rfl | omega) (by first | exact Nat.le_of_ble_eq_true rfl | omega) (by first | exact Nat.le_of_ble_eq_true rfl | omega) (fun h4 hr4 => ?_)
      obtain ⟨hM, hK9⟩ := hr4
      have hK := hK.tr hK9
      have e5 : upd (comeTo R a c n) (17 + 6 * a + 3) (mOf (comeTo R a c n) a 3 + nI n) 5 = R 5 := by rw [upd_ne (by omega), comeTo_lo (by omega)]
      refine k_aload_n F dX7_coming_79 80 rfl rfl rfl ?_
      refine k_iload_n F dX7_coming_80 81 rfl rfl rfl ?_
      refine k_iconst (v := 1) F dX7_coming_81 82 rfl (by decide) ?_
      refine k_aload_n F dX7_coming_82 83 rfl rfl rfl ?_
      refine m_get F 0 (by decide) q3592 rfl dX7_coming_83 86 rfl hM rfl ?_
      refine k_iconst (v := 5) F dX7_coming_86 87 rfl (by decide) ?_
      refine m_ld F dX7_coming_87 88 rfl hM (5) (by first | (with_reducible rfl) | (simp only [nI_lit, pk_mul, nI_add])) (by omega) ?_
      rw [hlo, ← ec] at hM e5 ⊢
      rw [e5]
      refine k_callN F kd_X7_puts q3553 q194 (kInvV (Bs := [_, _, _]) F kcX7 q3550 q3552 qs87 kd_X7_puts q3553 dX7_coming_88 (kHs.of hM.1) rfl (by decide)) (zX7_puts F.st hM a 1 _ (by omega)) 91 rfl (Nat.le_of_ble_eq_true rfl) (by first | exact Nat.le_of_ble_eq_true rfl | omega) (by first | exact Nat.le_of_ble_eq_true rfl | omega) (by first | exact Nat.le_of_ble_eq_true rfl | omega) (by first | exact Nat.le_of_ble_eq_true rfl | omega) (fun h5 hr5 => ?_)
      obtain ⟨hM, hK9⟩ := hr5
      have hK := hK.tr hK9
      refine k_aload_n F dX7_coming_91 92 rfl rfl rfl ?_
      refine k_iconst (v := 0) F dX7_coming_92 93 rfl (by decide) ?_
      refine k_iload_n F dX7_coming_93 94 rfl rfl rfl ?_
      refine k_callN F kd_X7_counts q3757 q194 (kInvV (Bs := [_, _]) F kcX7 q3754 q3756 qs110 kd_X7_counts q3757 dX7_coming_94 (kHs.of hM.1) rfl (by decide)) (zX7_counts F.st hM 0 _ (by omega)) 97 rfl (Nat.le_of_ble_eq_true rfl) (by first | exact Nat.le_of_ble_eq_true rfl | omega) (by first | exact Nat.le_of_ble_eq_true rfl | omega) (by first | exact Nat.le_of_ble_eq_true rfl | omega) (by first | exact Nat.le_of_ble_eq_true rfl | omega) (fun h6 hr6 => ?_)
      obtain ⟨hM, hK9⟩ := hr6
      have hK := hK.tr hK9
      refine k_aload_n F dX7_coming_97 98 rfl rfl rfl ?_
      refine k_iload_n F dX7_coming_98 99 rfl rfl rfl ?_
      refine k_iconst (v := 3) F dX7_coming_99 100 rfl (by decide) ?_
      refine k_callV F kd_X7_of q3549 q194 (kInvV (Bs := [_, _]) F kcX7 q3546 q3548 qs86 kd_X7_of q3549 dX7_coming_100 (kHs.of hM.1) rfl (by decide)) (zX7_of F.st hM a 3 (by omega)) 103 rfl (Nat.le_of_ble_eq_true rfl) (by first | exact Nat.le_of_ble_eq_true rfl | omega) (by first | exact Nat.le_of_ble_eq_true rfl | omega) (by first | exact Nat.le_of_ble_eq_true rfl | omega) (by first | exact Nat.le_of_ble_eq_true rfl | omega) (fun r7 h7 hr7 => ?_)
      obtain ⟨rfl, rfl⟩ := hr7
      have ef : mOf (cntF (upd (upd (comeTo R a c n) (17 + 6 * a + 3) (mOf R a 3 + nI n)) (17 + 6 * a + 1) (R 5)) 0 (nI n)) a 3 = mOf R a 3 + nI n := by
        unfold mOf
        rw [cntF_ne (by omega), upd_ne (by omega), upd_eq]
      rw [ef]
      exact k_iret F dX7_coming_103 (by first | exact Nat.le_of_ble_eq_true rfl | omega) (by first | exact Nat.le_of_ble_eq_true rfl | omega) ⟨rfl, by show MW _ m ad (chS sc u) (comeF R a n) (chA sc R ar u); unfold comeF; rw [erc]; exact hM, hK⟩
    · intro j hj ih h1 hM hK
      refine k_iload_n F dX7_coming_26 27 rfl rfl rfl ?_
      refine k_iload_n F dX7_coming_27 28 rfl rfl rfl ?_
      refine k_icmpge F dX7_coming_28 31 65 rfl (by decide) (fun c_ => absurd c_ (by rw [nI_leE (by omega) (by omega)]; omega)) (fun _ => ?_)
      refine k_aload_n F dX7_coming_31 32 rfl rfl rfl ?_
      refine m_get F 0 (by decide) q3592 rfl dX7_coming_32 35 rfl hM rfl ?_
      refine k_sipush (v := 201) F dX7_coming_35 38 rfl (by decide) ?_
      refine k_bipush (v := 99) F dX7_coming_38 40 rfl (by decide) ?_
      refine k_iload_n F dX7_coming_40 41 rfl rfl rfl ?_
      refine k_imul F dX7_coming_41 42 rfl ?_
      refine k_iadd F dX7_coming_42 43 rfl ?_
      refine k_aload_n F dX7_coming_43 44 rfl rfl rfl ?_
      refine k_iload_n F dX7_coming_44 45 rfl rfl rfl ?_
      refine k_iconst (v := 3) F dX7_coming_45 46 rfl (by decide) ?_
      refine k_callV F kd_X7_of q3549 q194 (kInvV (Bs := [_, _]) F kcX7 q3546 q3548 qs86 kd_X7_of q3549 dX7_coming_46 (kHs.of hM.1) rfl (by decide)) (zX7_of F.st hM a 3 (by omega)) 49 rfl (Nat.le_of_ble_eq_true rfl) (by first | exact Nat.le_of_ble_eq_true rfl | omega) (by first | exact Nat.le_of_ble_eq_true rfl | omega) (by first | exact Nat.le_of_ble_eq_true rfl | omega) (by first | exact Nat.le_of_ble_eq_true rfl | omega) (fun r8 h8 hr8 => ?_)
      obtain ⟨rfl, rfl⟩ := hr8
      rw [hlo]
      refine k_iadd F dX7_coming_49 50 rfl ?_
      refine k_iload_n F dX7_coming_50 51 rfl rfl rfl ?_
      refine k_iadd F dX7_coming_51 52 rfl ?_
      refine k_aload_n F dX7_coming_52 53 rfl rfl rfl ?_
      refine m_get F 0 (by decide) q3592 rfl dX7_coming_53 56 rfl hM rfl ?_
      refine k_iconst (v := 5) F dX7_coming_56 57 rfl (by decide) ?_
      refine m_ld F dX7_coming_57 58 rfl hM (5) (by first | (with_reducible rfl) | (simp only [nI_lit, pk_mul, nI_add])) (by omega) ?_
      rw [comeTo_lo (by omega)]
      refine m_st F dX7_coming_58 59 rfl hM hK ((((201 + (99 * a)) + c) + j)) (by first | (with_reducible rfl) | (simp only [nI_lit, pk_mul, nI_add])) (by omega) (fun h9 hM hK => ?_)
      refine k_iinc (e := 1) (lv' := [(0, _), (1, _), (2, _), (3, _)]) F dX7_coming_59 62 rfl rfl (by decide) rfl (Nat.le_of_ble_eq_true rfl) rfl rfl rfl ?_
      refine k_goto F dX7_coming_62 26 (by decide) ?_
      rw [nI_1]
      exact ih _ hM hK
  · have ho : comingF R a n = .inl (-2) := if_pos (Int32.not_le.mp c_z)
    rw [ho] at F
    refine k_aload_n F dX7_coming_13 14 rfl rfl rfl ?_
    refine k_bipush (v := (-2)) F dX7_coming_14 16 rfl (by decide) ?_
    refine k_callV F kd_X7_refuses q3749 q194 (kInvV (Bs := [_]) F kcX7 q3746 q3748 qs108 kd_X7_refuses q3749 dX7_coming_16 (kHs.of hM.1) rfl (by decide)) (zX7_refuses F.st hM _) 19 rfl (Nat.le_of_ble_eq_true rfl) (by first | exact Nat.le_of_ble_eq_true rfl | omega) (by first | exact Nat.le_of_ble_eq_true rfl | omega) (by first | exact Nat.le_of_ble_eq_true rfl | omega) (by first | exact Nat.le_of_ble_eq_true rfl | omega) (fun r9 h9 hr9 => ?_)
    obtain ⟨rfl, hM, hK9⟩ := hr9
    have hK := hK.tr hK9
    exact k_iret F dX7_coming_19 (by first | exact Nat.le_of_ble_eq_true rfl | omega) (by first | exact Nat.le_of_ble_eq_true rfl | omega) ⟨rfl, hM, hK⟩
set_option maxHeartbeats 4000000 in
set_option maxRecDepth 100000 in
theorem zX7_passing {l : Launch} {g : kG} (S : kStart l g) {h : kH} {m : Nat} {ad : Nat → Nat} {sc R : Nat → Int32} {ar : Nat → Nat → Int32} (hM : MW h m ad sc R ar) (u : Nat) (hu : sc 6 = nI u) (hu8 : u ≤ 8) (hR : RT R) (n : Nat) (hn : n < 2000) : kMet l g yX7_passing (Cond.code yX7_passing cX7_passing 2 (Option.some Jvm.ClassFile.FieldType.int)) 9 0 0 [.ref m, .int (nI n)] h (mAct h m ad sc R ar u (passF R n)) := by
  refine kEnter S kd_X7_passing (Nat.le_of_ble_eq_true rfl) (fun x F hxl hxg => ?_)
  subst hxl; subst hxg
  have hlv : lv_args 0 [.ref m, .int (nI n)] = [(0, .ref m), (1, .int (nI n))] := rfl
  rw [hlv]
  have hK : kKp (mOwn m) h h := kKp.rf
  refine k_aload_n F dX7_passing_0 1 rfl rfl rfl ?_
  refine m_get F 0 (by decide) q3592 rfl dX7_passing_1 4 rfl hM rfl ?_
  refine k_iconst (v := 5) F dX7_passing_4 5 rfl (by decide) ?_
  refine m_ld F dX7_passing_5 6 rfl hM (5) (by first | (with_reducible rfl) | (simp only [nI_lit, pk_mul, nI_add])) (by omega) ?_
  refine k_iload_n F dX7_passing_6 7 rfl rfl rfl ?_
  refine k_iadd F dX7_passing_7 8 rfl ?_
  refine k_sipush (v := 9999) F dX7_passing_8 11 rfl (by decide) ?_
  refine k_icmple F dX7_passing_11 14 21 rfl (by decide) (fun c_z => ?_) (fun c_z => ?_)
  · have ho : passF R n = .inr (tickN n R, tickN n R 6) := if_neg (Int32.not_lt.mpr c_z)
    rw [ho] at F
    refine k_aload_n F dX7_passing_21 22 rfl rfl rfl ?_
    refine k_callN F kd_X7_changes q3753 q194 (kInvV (Bs := []) F kcX7 q3750 q3752 qs109 kd_X7_changes q3753 dX7_passing_22 (kHs.of hM.1) rfl (by decide)) (zX7_changes F.st hM u hu hu8) 25 rfl (Nat.le_of_ble_eq_true rfl) (by first | exact Nat.le_of_ble_eq_true rfl | omega) (by first | exact Nat.le_of_ble_eq_true rfl | omega) (by first | exact Nat.le_of_ble_eq_true rfl | omega) (by first | exact Nat.le_of_ble_eq_true rfl | omega) (fun h1 hr1 => ?_)
    obtain ⟨hM, hK9⟩ := hr1
    have hK := hK.tr hK9
    refine k_aload_n F dX7_passing_25 26 rfl rfl rfl ?_
    refine k_iload_n F dX7_passing_26 27 rfl rfl rfl ?_
    refine k_callN F kd_X7_ticksPass q3765 q194 (kInvV (Bs := [_]) F kcX7 q3762 q3764 qs112 kd_X7_ticksPass q3765 dX7_passing_27 (kHs.of hM.1) rfl (by decide)) (zX7_ticksPass F.st hM hR n (by omega)) 30 rfl (Nat.le_of_ble_eq_true rfl) (by first | exact Nat.le_of_ble_eq_true rfl | omega) (by first | exact Nat.le_of_ble_eq_true rfl | omega) (by first | exact Nat.le_of_ble_eq_true rfl | omega) (by first | exact Nat.le_of_ble_eq_true rfl | omega) (fun h2 hr2 => ?_)
    obtain ⟨hM, hK9⟩ := hr2
    have hK := hK.tr hK9
    refine k_aload_n F dX7_passing_30 31 rfl rfl rfl ?_
    refine m_get F 0 (by decide) q3592 rfl dX7_passing_31 34 rfl hM rfl ?_
    refine k_bipush (v := 6) F dX7_passing_34 36 rfl (by decide) ?_
    refine m_ld F dX7_passing_36 37 rfl hM (6) (by first | (with_reducible rfl) | (simp only [nI_lit, pk_mul, nI_add])) (by omega) ?_
    exact k_iret F dX7_passing_37 (by first | exact Nat.le_of_ble_eq_true rfl | omega) (by first | exact Nat.le_of_ble_eq_true rfl | omega) ⟨rfl, hM, hK⟩
  · have ho : passF R n = .inl (-3) := if_pos (Int32.not_le.mp c_z)
    rw [ho] at F
    refine k_aload_n F dX7_passing_14 15 rfl rfl rfl ?_
    refine k_bipush (v := (-3)) F dX7_passing_15 17 rfl (by decide) ?_
    refine k_callV F kd_X7_refuses q3749 q194 (kInvV (Bs := [_]) F kcX7 q3746 q3748 qs108 kd_X7_refuses q3749 dX7_passing_17 (kHs.of hM.1) rfl (by decide)) (zX7_refuses F.st hM _) 20 rfl (Nat.le_of_ble_eq_true rfl) (by first | exact Nat.le_of_ble_eq_true rfl | omega) (by first | exact Nat.le_of_ble_eq_true rfl | omega) (by first | exact Nat.le_of_ble_eq_true rfl | omega) (by first | exact Nat.le_of_ble_eq_true rfl | omega) (fun r3 h3 hr3 => ?_)
    obtain ⟨rfl, hM, hK9⟩ := hr3
    have hK := hK.tr hK9
    exact k_iret F dX7_passing_20 (by first | exact Nat.le_of_ble_eq_true rfl | omega) (by first | exact Nat.le_of_ble_eq_true rfl | omega) ⟨rfl, hM, hK⟩
set_option maxHeartbeats 4000000 in
set_option maxRecDepth 100000 in
theorem zX7_calling {l : Launch} {g : kG} (S : kStart l g) {h : kH} {m : Nat} {ad : Nat → Nat} {sc R : Nat → Int32} {ar : Nat → Nat → Int32} (hM : MW h m ad sc R ar) (u : Nat) (hu : sc 6 = nI u) (hu8 : u ≤ 8) (hR : RV R) (p : Nat) (hp : p < 6) : kMet l g yX7_calling (Cond.code yX7_calling cX7_calling 4 (Option.some Jvm.ClassFile.FieldType.int)) 3 0 0 [.ref m, .int (nI p)] h (mAct h m ad sc R ar u (callF R p)) := by
  refine kEnter S kd_X7_calling (Nat.le_of_ble_eq_true rfl) (fun x F hxl hxg => ?_)
  subst hxl; subst hxg
  have hlv : lv_args 0 [.ref m, .int (nI p)] = [(0, .ref m), (1, .int (nI p))] := rfl
  rw [hlv]
  have hK : kKp (mOwn m) h h := kKp.rf
  obtain ⟨r1, r2, r3, r4, r5, r6, r7, r8⟩ := id hR
  refine k_iload_n F dX7_calling_0 1 rfl rfl rfl ?_
  refine k_aload_n F dX7_calling_1 2 rfl rfl rfl ?_
  refine m_get F 0 (by decide) q3592 rfl dX7_calling_2 5 rfl hM rfl ?_
  refine k_bipush (v := 6) F dX7_calling_5 7 rfl (by decide) ?_
  refine m_ld F dX7_calling_7 8 rfl hM (6) (by first | (with_reducible rfl) | (simp only [nI_lit, pk_mul, nI_add])) (by omega) ?_
  have no : callF R p = .inl (-4) → kW x 0 0 h 21 [(0, .ref m), (1, .int (nI p))] [] := by
    intro ho
    rw [ho] at F
    refine k_aload_n F dX7_calling_21 22 rfl rfl rfl ?_
    refine k_bipush (v := (-4)) F dX7_calling_22 24 rfl (by decide) ?_
    refine k_callV F kd_X7_refuses q3749 q194 (kInvV (Bs := [_]) F kcX7 q3746 q3748 qs108 kd_X7_refuses q3749 dX7_calling_24 (kHs.of hM.1) rfl (by decide)) (zX7_refuses F.st hM _) 27 rfl (Nat.le_of_ble_eq_true rfl) (by first | exact Nat.le_of_ble_eq_true rfl | omega) (by first | exact Nat.le_of_ble_eq_true rfl | omega) (by first | exact Nat.le_of_ble_eq_true rfl | omega) (by first | exact Nat.le_of_ble_eq_true rfl | omega) (fun r1 h1 hr1 => ?_)
    obtain ⟨rfl, hM, hK9⟩ := hr1
    have hK := hK.tr hK9
    exact k_iret F dX7_calling_27 (by first | exact Nat.le_of_ble_eq_true rfl | omega) (by first | exact Nat.le_of_ble_eq_true rfl | omega) ⟨rfl, hM, hK⟩
  refine k_icmpeq F dX7_calling_8 11 21 rfl (by decide) (fun c_z => ?_) (fun c_z => ?_)
  · exact no (if_pos (Or.inl c_z))
  · refine k_aload_n F dX7_calling_11 12 rfl rfl rfl ?_
    refine k_iload_n F dX7_calling_12 13 rfl rfl rfl ?_
    refine k_iconst (v := 2) F dX7_calling_13 14 rfl (by decide) ?_
    refine k_callV F kd_X7_ofPhase q3587 q194 (kInvV (Bs := [_, _]) F kcX7 q3584 q3586 qs95 kd_X7_ofPhase q3587 dX7_calling_14 (kHs.of hM.1) rfl (by decide)) (zX7_ofPhase F.st hM p 2 (by omega)) 17 rfl (Nat.le_of_ble_eq_true rfl) (by first | exact Nat.le_of_ble_eq_true rfl | omega) (by first | exact Nat.le_of_ble_eq_true rfl | omega) (by first | exact Nat.le_of_ble_eq_true rfl | omega) (by first | exact Nat.le_of_ble_eq_true rfl | omega) (fun r2 h2 hr2 => ?_)
    obtain ⟨rfl, rfl⟩ := hr2
    refine k_iconst (v := 1) F dX7_calling_17 18 rfl (by decide) ?_
    refine k_icmpne F dX7_calling_18 21 28 rfl (by decide) (fun c_y => ?_) (fun c_y => ?_)
    · have ho : callF R p = .inr (callR R p, sumTo (fun q => mPh (callR R p) q 2) (rP R)) := if_neg (fun q => q.elim c_z c_y)
      rw [ho] at F
      have e4 : callR R p 4 = nI (rP R) := by
        unfold callR
        rw [cntF_ne (by omega), upd_ne (by omega), ← r3]
      refine k_aload_n F dX7_calling_28 29 rfl rfl rfl ?_
      refine k_callN F kd_X7_changes q3753 q194 (kInvV (Bs := []) F kcX7 q3750 q3752 qs109 kd_X7_changes q3753 dX7_calling_29 (kHs.of hM.1) rfl (by decide)) (zX7_changes F.st hM u hu hu8) 32 rfl (Nat.le_of_ble_eq_true rfl) (by first | exact Nat.le_of_ble_eq_true rfl | omega) (by first | exact Nat.le_of_ble_eq_true rfl | omega) (by first | exact Nat.le_of_ble_eq_true rfl | omega) (by first | exact Nat.le_of_ble_eq_true rfl | omega) (fun h3 hr3 => ?_)
      obtain ⟨hM, hK9⟩ := hr3
      have hK := hK.tr hK9
      refine k_aload_n F dX7_calling_32 33 rfl rfl rfl ?_
      refine k_iload_n F dX7_calling_33 34 rfl rfl rfl ?_
      refine k_iconst (v := 2) F dX7_calling_34 35 rfl (by decide) ?_
      refine k_iconst (v := 1) F dX7_calling_35 36 rfl (by decide) ?_
      refine k_callN F kd_X7_putPhase q3571 q194 (kInvV (Bs := [_, _, _]) F kcX7 q3568 q3570 qs91 kd_X7_putPhase q3571 dX7_calling_36 (kHs.of hM.1) rfl (by decide)) (zX7_putPhase F.st hM p 2 _ (by omega)) 39 rfl (Nat.le_of_ble_eq_true rfl) (by first | exact Nat.le_of_ble_eq_true rfl | omega) (by first | exact Nat.le_of_ble_eq_true rfl | omega) (by first | exact Nat.le_of_ble_eq_true rfl | omega) (by first | exact Nat.le_of_ble_eq_true rfl | omega) (fun h4 hr4 => ?_)
      obtain ⟨hM, hK9⟩ := hr4
      have hK := hK.tr hK9
      refine k_aload_n F dX7_calling_39 40 rfl rfl rfl ?_
      refine k_iconst (v := 5) F dX7_calling_40 41 rfl (by decide) ?_
      refine k_iconst (v := 1) F dX7_calling_41 42 rfl (by decide) ?_
      refine k_callN F kd_X7_counts q3757 q194 (kInvV (Bs := [_, _]) F kcX7 q3754 q3756 qs110 kd_X7_counts q3757 dX7_calling_42 (kHs.of hM.1) rfl (by decide)) (zX7_counts F.st hM 5 _ (by omega)) 45 rfl (Nat.le_of_ble_eq_true rfl) (by first | exact Nat.le_of_ble_eq_true rfl | omega) (by first | exact Nat.le_of_ble_eq_true rfl | omega) (by first | exact Nat.le_of_ble_eq_true rfl | omega) (by first | exact Nat.le_of_ble_eq_true rfl | omega) (fun h5 hr5 => ?_)
      obtain ⟨hM, hK9⟩ := hr5
      have hK := hK.tr hK9
      refine k_iconst (v := 0) F dX7_calling_45 46 rfl (by decide) ?_
      refine k_istore_n (lv' := [(0, _), (1, _), (2, _)]) F dX7_calling_46 47 rfl rfl (Nat.le_of_ble_eq_true rfl) rfl rfl rfl ?_
      refine k_iconst (v := 0) F dX7_calling_47 48 rfl (by decide) ?_
      refine k_istore_n (lv' := [(0, _), (1, _), (2, _), (3, _)]) F dX7_calling_48 49 rfl rfl (Nat.le_of_ble_eq_true rfl) rfl rfl rfl ?_
      replace hM : MW _ m ad (chS sc u) (callR R p) (chA sc R ar u) := hM
      refine kUpTo (Q := fun j => kW x 0 0 h5 49 [(0, .ref m), (1, .int (nI p)), (2, .int (sumTo (fun q => mPh (callR R p) q 2) j)), (3, .int (nI j))] []) (rP R) ?_ ?_ 0 (Nat.zero_le _)
      · refine k_iload_n F dX7_calling_49 50 rfl rfl rfl ?_
        refine k_aload_n F dX7_calling_50 51 rfl rfl rfl ?_
        refine m_get F 0 (by decide) q3592 rfl dX7_calling_51 54 rfl hM rfl ?_
        refine k_iconst (v := 4) F dX7_calling_54 55 rfl (by decide) ?_
        refine m_ld F dX7_calling_55 56 rfl hM (4) (by first | (with_reducible rfl) | (simp only [nI_lit, pk_mul, nI_add])) (by omega) ?_
        rw [e4]
        refine k_icmpge F dX7_calling_56 59 74 rfl (by decide) (fun _ => ?_) (fun c_ => absurd c_ (by rw [nI_leE (by omega) (by omega)]; omega))
        refine k_iload_n F dX7_calling_74 75 rfl rfl rfl ?_
        exact k_iret F dX7_calling_75 (by first | exact Nat.le_of_ble_eq_true rfl | omega) (by first | exact Nat.le_of_ble_eq_true rfl | omega) ⟨rfl, hM, hK⟩
      · intro j hj ih
        refine k_iload_n F dX7_calling_49 50 rfl rfl rfl ?_
        refine k_aload_n F dX7_calling_50 51 rfl rfl rfl ?_
        refine m_get F 0 (by decide) q3592 rfl dX7_calling_51 54 rfl hM rfl ?_
        refine k_iconst (v := 4) F dX7_calling_54 55 rfl (by decide) ?_
        refine m_ld F dX7_calling_55 56 rfl hM (4) (by first | (with_reducible rfl) | (simp only [nI_lit, pk_mul, nI_add])) (by omega) ?_
        rw [e4]
        refine k_icmpge F dX7_calling_56 59 74 rfl (by decide) (fun c_ => absurd c_ (by rw [nI_leE (by omega) (by omega)]; omega)) (fun _ => ?_)
        refine k_iload_n F dX7_calling_59 60 rfl rfl rfl ?_
        refine k_aload_n F dX7_calling_60 61 rfl rfl rfl ?_
        refine k_iload_n F dX7_calling_61 62 rfl rfl rfl ?_
        refine k_iconst (v := 2) F dX7_calling_62 63 rfl (by decide) ?_
        refine k_callV F kd_X7_ofPhase q3587 q194 (kInvV (Bs := [_, _]) F kcX7 q3584 q3586 qs95 kd_X7_ofPhase q3587 dX7_calling_63 (kHs.of hM.1) rfl (by decide)) (zX7_ofPhase F.st hM j 2 (by omega)) 66 rfl (Nat.le_of_ble_eq_true rfl) (by first | exact Nat.le_of_ble_eq_true rfl | omega) (by first | exact Nat.le_of_ble_eq_true rfl | omega) (by first | exact Nat.le_of_ble_eq_true rfl | omega) (by first | exact Nat.le_of_ble_eq_true rfl | omega) (fun r6 h6 hr6 => ?_)
        obtain ⟨rfl, rfl⟩ := hr6
        refine k_iadd F dX7_calling_66 67 rfl ?_
        refine k_istore_n (lv' := [(0, _), (1, _), (2, _), (3, _)]) F dX7_calling_67 68 rfl rfl (Nat.le_of_ble_eq_true rfl) rfl rfl rfl ?_
        refine k_iinc (e := 1) (lv' := [(0, _), (1, _), (2, _), (3, _)]) F dX7_calling_68 71 rfl rfl (by decide) rfl (Nat.le_of_ble_eq_true rfl) rfl rfl rfl ?_
        refine k_goto F dX7_calling_71 49 (by decide) ?_
        rw [nI_1]
        exact ih
    · exact no (if_pos (Or.inr c_y))
set_option maxHeartbeats 4000000 in
set_option maxRecDepth 100000 in
theorem zX7_breaking {l : Launch} {g : kG} (S : kStart l g) {h : kH} {m : Nat} {ad : Nat → Nat} {sc R : Nat → Int32} {ar : Nat → Nat → Int32} (hM : MW h m ad sc R ar) (u : Nat) (hu : sc 6 = nI u) (hu8 : u ≤ 8) (hR : RV R) (a : Nat) (v : Int32) (ha : a < 8) : kMet l g yX7_breaking (Cond.code yX7_breaking cX7_breaking 5 (Option.some Jvm.ClassFile.FieldType.int)) 3 0 0 [.ref m, .int (nI a), .int v] h (mAct h m ad sc R ar u (brkF R a v)) := by
  refine kEnter S kd_X7_breaking (Nat.le_of_ble_eq_true rfl) (fun x F hxl hxg => ?_)
  subst hxl; subst hxg
  have hlv : lv_args 0 [.ref m, .int (nI a), .int v] = [(0, .ref m), (1, .int (nI a)), (2, .int v)] := rfl
  rw [hlv]
  have hK : kKp (mOwn m) h h := kKp.rf
  obtain ⟨r1, r2, r3, r4, r5, r6, r7, r8⟩ := id hR
  refine k_aload_n F dX7_breaking_0 1 rfl rfl rfl ?_
  refine k_iload_n F dX7_breaking_1 2 rfl rfl rfl ?_
  refine k_iconst (v := 2) F dX7_breaking_2 3 rfl (by decide) ?_
  refine k_callV F kd_X7_of q3549 q194 (kInvV (Bs := [_, _]) F kcX7 q3546 q3548 qs86 kd_X7_of q3549 dX7_breaking_3 (kHs.of hM.1) rfl (by decide)) (zX7_of F.st hM a 2 (by omega)) 6 rfl (Nat.le_of_ble_eq_true rfl) (by first | exact Nat.le_of_ble_eq_true rfl | omega) (by first | exact Nat.le_of_ble_eq_true rfl | omega) (by first | exact Nat.le_of_ble_eq_true rfl | omega) (by first | exact Nat.le_of_ble_eq_true rfl | omega) (fun r1 h1 hr1 => ?_)
  obtain ⟨rfl, rfl⟩ := hr1
  refine k_iload_n F dX7_breaking_6 7 rfl rfl rfl ?_
  refine k_icmpne F dX7_breaking_7 10 17 rfl (by decide) (fun c_z => ?_) (fun c_z => ?_)
  · have ho : brkF R a v = .inr (brkR R a v, sumTo (fun b => mOf (brkR R a v) b 2) (rA R)) := if_neg c_z
    rw [ho] at F
    have e3 : brkR R a v 3 = nI (rA R) := by
      unfold brkR
      rw [upd_ne (by omega), ← r1]
    refine k_aload_n F dX7_breaking_17 18 rfl rfl rfl ?_
    refine k_callN F kd_X7_changes q3753 q194 (kInvV (Bs := []) F kcX7 q3750 q3752 qs109 kd_X7_changes q3753 dX7_breaking_18 (kHs.of hM.1) rfl (by decide)) (zX7_changes F.st hM u hu hu8) 21 rfl (Nat.le_of_ble_eq_true rfl) (by first | exact Nat.le_of_ble_eq_true rfl | omega) (by first | exact Nat.le_of_ble_eq_true rfl | omega) (by first | exact Nat.le_of_ble_eq_true rfl | omega) (by first | exact Nat.le_of_ble_eq_true rfl | omega) (fun h2 hr2 => ?_)
    obtain ⟨hM, hK9⟩ := hr2
    have hK := hK.tr hK9
    refine k_aload_n F dX7_breaking_21 22 rfl rfl rfl ?_
    refine k_iload_n F dX7_breaking_22 23 rfl rfl rfl ?_
    refine k_iconst (v := 2) F dX7_breaking_23 24 rfl (by decide) ?_
    refine k_iload_n F dX7_breaking_24 25 rfl rfl rfl ?_
    refine k_callN F kd_X7_puts q3553 q194 (kInvV (Bs := [_, _, _]) F kcX7 q3550 q3552 qs87 kd_X7_puts q3553 dX7_breaking_25 (kHs.of hM.1) rfl (by decide)) (zX7_puts F.st hM a 2 _ (by omega)) 28 rfl (Nat.le_of_ble_eq_true rfl) (by first | exact Nat.le_of_ble_eq_true rfl | omega) (by first | exact Nat.le_of_ble_eq_true rfl | omega) (by first | exact Nat.le_of_ble_eq_true rfl | omega) (by first | exact Nat.le_of_ble_eq_true rfl | omega) (fun h3 hr3 => ?_)
    obtain ⟨hM, hK9⟩ := hr3
    have hK := hK.tr hK9
    refine k_iconst (v := 0) F dX7_breaking_28 29 rfl (by decide) ?_
    refine k_istore_n (lv' := [(0, _), (1, _), (2, _), (3, _)]) F dX7_breaking_29 30 rfl rfl (Nat.le_of_ble_eq_true rfl) rfl rfl rfl ?_
    refine k_iconst (v := 0) F dX7_breaking_30 31 rfl (by decide) ?_
    refine k_istore (lv' := [(0, _), (1, _), (2, _), (3, _), (4, _)]) F dX7_breaking_31 33 rfl (Nat.le_of_ble_eq_true rfl) rfl rfl rfl ?_
    replace hM : MW _ m ad (chS sc u) (brkR R a v) (chA sc R ar u) := hM
    refine kUpTo (Q := fun j => kW x 0 0 h3 33 [(0, .ref m), (1, .int (nI a)), (2, .int v), (3, .int (sumTo (fun b => mOf (brkR R a v) b 2) j)), (4, .int (nI j))] []) (rA R) ?_ ?_ 0 (Nat.zero_le _)
    · refine k_iload F dX7_breaking_33 35 rfl rfl ?_
      refine k_aload_n F dX7_breaking_35 36 rfl rfl rfl ?_
      refine m_get F 0 (by decide) q3592 rfl dX7_breaking_36 39 rfl hM rfl ?_
      refine k_iconst (v := 3) F dX7_breaking_39 40 rfl (by decide) ?_
      refine m_ld F dX7_breaking_40 41 rfl hM (3) (by first | (with_reducible rfl) | (simp only [nI_lit, pk_mul, nI_add])) (by omega) ?_
      rw [e3]
      refine k_icmpge F dX7_breaking_41 44 60 rfl (by decide) (fun _ => ?_) (fun c_ => absurd c_ (by rw [nI_leE (by omega) (by omega)]; omega))
      refine k_iload_n F dX7_breaking_60 61 rfl rfl rfl ?_
      exact k_iret F dX7_breaking_61 (by first | exact Nat.le_of_ble_eq_true rfl | omega) (by first | exact Nat.le_of_ble_eq_true rfl | omega) ⟨rfl, hM, hK⟩
    · intro j hj ih
      refine k_iload F dX7_breaking_33 35 rfl rfl ?_
      refine k_aload_n F dX7_breaking_35 36 rfl rfl rfl ?_
      refine m_get F 0 (by decide) q3592 rfl dX7_breaking_36 39 rfl hM rfl ?_
      refine k_iconst (v := 3) F dX7_breaking_39 40 rfl (by decide) ?_
      refine m_ld F dX7_breaking_40 41 rfl hM (3) (by first | (with_reducible rfl) | (simp only [nI_lit, pk_mul, nI_add])) (by omega) ?_
      rw [e3]
      refine k_icmpge F dX7_breaking_41 44 60 rfl (by decide) (fun c_ => absurd c_ (by rw [nI_leE (by omega) (by omega)]; omega)) (fun _ => ?_)
      refine k_iload_n F dX7_breaking_44 45 rfl rfl rfl ?_
      refine k_aload_n F dX7_breaking_45 46 rfl rfl rfl ?_
      refine k_iload F dX7_breaking_46 48 rfl rfl ?_
      refine k_iconst (v := 2) F dX7_breaking_48 49 rfl (by decide) ?_
      refine k_callV F kd_X7_of q3549 q194 (kInvV (Bs := [_, _]) F kcX7 q3546 q3548 qs86 kd_X7_of q3549 dX7_breaking_49 (kHs.of hM.1) rfl (by decide)) (zX7_of F.st hM j 2 (by omega)) 52 rfl (Nat.le_of_ble_eq_true rfl) (by first | exact Nat.le_of_ble_eq_true rfl | omega) (by first | exact Nat.le_of_ble_eq_true rfl | omega) (by first | exact Nat.le_of_ble_eq_true rfl | omega) (by first | exact Nat.le_of_ble_eq_true rfl | omega) (fun r4 h4 hr4 => ?_)
      obtain ⟨rfl, rfl⟩ := hr4
      refine k_iadd F dX7_breaking_52 53 rfl ?_
      refine k_istore_n (lv' := [(0, _), (1, _), (2, _), (3, _), (4, _)]) F dX7_breaking_53 54 rfl rfl (Nat.le_of_ble_eq_true rfl) rfl rfl rfl ?_
      refine k_iinc (e := 1) (lv' := [(0, _), (1, _), (2, _), (3, _), (4, _)]) F dX7_breaking_54 57 rfl rfl (by decide) rfl (Nat.le_of_ble_eq_true rfl) rfl rfl rfl ?_
      refine k_goto F dX7_breaking_57 33 (by decide) ?_
      rw [nI_1]
      exact ih
  · have ho : brkF R a v = .inl (-4) := if_pos c_z
    rw [ho] at F
    refine k_aload_n F dX7_breaking_10 11 rfl rfl rfl ?_
    refine k_bipush (v := (-4)) F dX7_breaking_11 13 rfl (by decide) ?_
    refine k_callV F kd_X7_refuses q3749 q194 (kInvV (Bs := [_]) F kcX7 q3746 q3748 qs108 kd_X7_refuses q3749 dX7_breaking_13 (kHs.of hM.1) rfl (by decide)) (zX7_refuses F.st hM _) 16 rfl (Nat.le_of_ble_eq_true rfl) (by first | exact Nat.le_of_ble_eq_true rfl | omega) (by first | exact Nat.le_of_ble_eq_true rfl | omega) (by first | exact Nat.le_of_ble_eq_true rfl | omega) (by first | exact Nat.le_of_ble_eq_true rfl | omega) (fun r5 h5 hr5 => ?_)
    obtain ⟨rfl, hM, hK9⟩ := hr5
    have hK := hK.tr hK9
    exact k_iret F dX7_breaking_16 (by first | exact Nat.le_of_ble_eq_true rfl | omega) (by first | exact Nat.le_of_ble_eq_true rfl | omega) ⟨rfl, hM, hK⟩
set_option maxHeartbeats 4000000 in
set_option maxRecDepth 100000 in
theorem zX7_ofPhaseSetting {l : Launch} {g : kG} (S : kStart l g) {h : kH} {m : Nat} {ad : Nat → Nat} {sc R : Nat → Int32} {ar : Nat → Nat → Int32} (hM : MW h m ad sc R ar) (u : Nat) (hu : sc 6 = nI u) (hu8 : u ≤ 8) (p w : Nat) (v : Int32) (hp : p < 6) (hw : w < 2) : kMet l g yX7_ofPhaseSetting (Cond.code yX7_ofPhaseSetting cX7_ofPhaseSetting 5 (Option.some Jvm.ClassFile.FieldType.int)) 3 0 0 [.ref m, .int (nI p), .int (nI w), .int v] h (mAct h m ad sc R ar u (ofpF R p w v)) := by
  refine kEnter S kd_X7_ofPhaseSetting (Nat.le_of_ble_eq_true rfl) (fun x F hxl hxg => ?_)
  subst hxl; subst hxg
  have hlv : lv_args 0 [.ref m, .int (nI p), .int (nI w), .int v] = [(0, .ref m), (1, .int (nI p)), (2, .int (nI w)), (3, .int v)] := rfl
  rw [hlv]
  have hK : kKp (mOwn m) h h := kKp.rf
  have no : ofpF R p w v = .inl (-6) → kW x 0 0 h 27 [(0, .ref m), (1, .int (nI p)), (2, .int (nI w)), (3, .int v)] [] := by
    intro ho
    rw [ho] at F
    refine k_aload_n F dX7_ofPhaseSetting_27 28 rfl rfl rfl ?_
    refine k_bipush (v := (-6)) F dX7_ofPhaseSetting_28 30 rfl (by decide) ?_
    refine k_callV F kd_X7_refuses q3749 q194 (kInvV (Bs := [_]) F kcX7 q3746 q3748 qs108 kd_X7_refuses q3749 dX7_ofPhaseSetting_30 (kHs.of hM.1) rfl (by decide)) (zX7_refuses F.st hM _) 33 rfl (Nat.le_of_ble_eq_true rfl) (by first | exact Nat.le_of_ble_eq_true rfl | omega) (by first | exact Nat.le_of_ble_eq_true rfl | omega) (by first | exact Nat.le_of_ble_eq_true rfl | omega) (by first | exact Nat.le_of_ble_eq_true rfl | omega) (fun r1 h1 hr1 => ?_)
    obtain ⟨rfl, hM, hK9⟩ := hr1
    have hK := hK.tr hK9
    exact k_iret F dX7_ofPhaseSetting_33 (by first | exact Nat.le_of_ble_eq_true rfl | omega) (by first | exact Nat.le_of_ble_eq_true rfl | omega) ⟨rfl, hM, hK⟩
  have yes : ofpF R p w v = .inr (upd R (129 + 12 * p + w) v, mPh R p w) → kW x 0 0 h 34 [(0, .ref m), (1, .int (nI p)), (2, .int (nI w)), (3, .int v)] [] := by
    intro ho
    rw [ho] at F
    refine k_aload_n F dX7_ofPhaseSetting_34 35 rfl rfl rfl ?_
    refine k_callN F kd_X7_changes q3753 q194 (kInvV (Bs := []) F kcX7 q3750 q3752 qs109 kd_X7_changes q3753 dX7_ofPhaseSetting_35 (kHs.of hM.1) rfl (by decide)) (zX7_changes F.st hM u hu hu8) 38 rfl (Nat.le_of_ble_eq_true rfl) (by first | exact Nat.le_of_ble_eq_true rfl | omega) (by first | exact Nat.le_of_ble_eq_true rfl | omega) (by first | exact Nat.le_of_ble_eq_true rfl | omega) (by first | exact Nat.le_of_ble_eq_true rfl | omega) (fun h2 hr2 => ?_)
    obtain ⟨hM, hK9⟩ := hr2
    have hK := hK.tr hK9
    refine k_aload_n F dX7_ofPhaseSetting_38 39 rfl rfl rfl ?_
    refine k_iload_n F dX7_ofPhaseSetting_39 40 rfl rfl rfl ?_
    refine k_iload_n F dX7_ofPhaseSetting_40 41 rfl rfl rfl ?_
    refine k_callV F kd_X7_ofPhase q3587 q194 (kInvV (Bs := [_, _]) F kcX7 q3584 q3586 qs95 kd_X7_ofPhase q3587 dX7_ofPhaseSetting_41 (kHs.of hM.1) rfl (by decide)) (zX7_ofPhase F.st hM p w (by omega)) 44 rfl (Nat.le_of_ble_eq_true rfl) (by first | exact Nat.le_of_ble_eq_true rfl | omega) (by first | exact Nat.le_of_ble_eq_true rfl | omega) (by first | exact Nat.le_of_ble_eq_true rfl | omega) (by first | exact Nat.le_of_ble_eq_true rfl | omega) (fun r3 h3 hr3 => ?_)
    obtain ⟨rfl, rfl⟩ := hr3
    refine k_istore (lv' := [(0, _), (1, _), (2, _), (3, _), (4, _)]) F dX7_ofPhaseSetting_44 46 rfl (Nat.le_of_ble_eq_true rfl) rfl rfl rfl ?_
    refine k_aload_n F dX7_ofPhaseSetting_46 47 rfl rfl rfl ?_
    refine k_iload_n F dX7_ofPhaseSetting_47 48 rfl rfl rfl ?_
    refine k_iload_n F dX7_ofPhaseSetting_48 49 rfl rfl rfl ?_
    refine k_iload_n F dX7_ofPhaseSetting_49 50 rfl rfl rfl ?_
    refine k_callN F kd_X7_putPhase q3571 q194 (kInvV (Bs := [_, _, _]) F kcX7 q3568 q3570 qs91 kd_X7_putPhase q3571 dX7_ofPhaseSetting_50 (kHs.of hM.1) rfl (by decide)) (zX7_putPhase F.st hM p w _ (by omega)) 53 rfl (Nat.le_of_ble_eq_true rfl) (by first | exact Nat.le_of_ble_eq_true rfl | omega) (by first | exact Nat.le_of_ble_eq_true rfl | omega) (by first | exact Nat.le_of_ble_eq_true rfl | omega) (by first | exact Nat.le_of_ble_eq_true rfl | omega) (fun h4 hr4 => ?_)
    obtain ⟨hM, hK9⟩ := hr4
    have hK := hK.tr hK9
    refine k_iload F dX7_ofPhaseSetting_53 55 rfl rfl ?_
    exact k_iret F dX7_ofPhaseSetting_55 (by first | exact Nat.le_of_ble_eq_true rfl | omega) (by first | exact Nat.le_of_ble_eq_true rfl | omega) ⟨rfl, hM, hK⟩
  refine k_iload_n F dX7_ofPhaseSetting_0 1 rfl rfl rfl ?_
  rcases (show w = 0 ∨ w = 1 by omega) with rfl | rfl
  · refine k_ifne F dX7_ofPhaseSetting_1 4 17 rfl (by decide) (fun c_ => (by first | exact absurd rfl c_ | exact absurd c_ (by decide) | exact absurd (by assumption) c_ | exact absurd c_ (by assumption))) (fun _ => ?_)
    refine k_iload_n F dX7_ofPhaseSetting_4 5 rfl rfl rfl ?_
    refine k_aload_n F dX7_ofPhaseSetting_5 6 rfl rfl rfl ?_
    refine k_iload_n F dX7_ofPhaseSetting_6 7 rfl rfl rfl ?_
    refine k_iconst (v := 1) F dX7_ofPhaseSetting_7 8 rfl (by decide) ?_
    refine k_callV F kd_X7_ofPhase q3587 q194 (kInvV (Bs := [_, _]) F kcX7 q3584 q3586 qs95 kd_X7_ofPhase q3587 dX7_ofPhaseSetting_8 (kHs.of hM.1) rfl (by decide)) (zX7_ofPhase F.st hM p 1 (by omega)) 11 rfl (Nat.le_of_ble_eq_true rfl) (by first | exact Nat.le_of_ble_eq_true rfl | omega) (by first | exact Nat.le_of_ble_eq_true rfl | omega) (by first | exact Nat.le_of_ble_eq_true rfl | omega) (by first | exact Nat.le_of_ble_eq_true rfl | omega) (fun r5 h5 hr5 => ?_)
    obtain ⟨rfl, rfl⟩ := hr5
    refine k_icmple F dX7_ofPhaseSetting_11 14 34 rfl (by decide) (fun c_z => ?_) (fun c_z => ?_)
    · exact yes (if_neg (fun q => q.elim (fun q => absurd q.2 (Int32.not_lt.mpr c_z)) (fun q => q.1 rfl)))
    · refine k_goto F dX7_ofPhaseSetting_14 27 (by decide) ?_
      exact no (if_pos (Or.inl ⟨rfl, Int32.not_le.mp c_z⟩))
  · refine k_ifne F dX7_ofPhaseSetting_1 4 17 rfl (by decide) (fun _ => ?_) (fun c_ => (absurd (show nI 1 = 0 from c_) (by decide)))
    refine k_iload_n F dX7_ofPhaseSetting_17 18 rfl rfl rfl ?_
    refine k_aload_n F dX7_ofPhaseSetting_18 19 rfl rfl rfl ?_
    refine k_iload_n F dX7_ofPhaseSetting_19 20 rfl rfl rfl ?_
    refine k_iconst (v := 0) F dX7_ofPhaseSetting_20 21 rfl (by decide) ?_
    refine k_callV F kd_X7_ofPhase q3587 q194 (kInvV (Bs := [_, _]) F kcX7 q3584 q3586 qs95 kd_X7_ofPhase q3587 dX7_ofPhaseSetting_21 (kHs.of hM.1) rfl (by decide)) (zX7_ofPhase F.st hM p 0 (by omega)) 24 rfl (Nat.le_of_ble_eq_true rfl) (by first | exact Nat.le_of_ble_eq_true rfl | omega) (by first | exact Nat.le_of_ble_eq_true rfl | omega) (by first | exact Nat.le_of_ble_eq_true rfl | omega) (by first | exact Nat.le_of_ble_eq_true rfl | omega) (fun r6 h6 hr6 => ?_)
    obtain ⟨rfl, rfl⟩ := hr6
    refine k_icmpge F dX7_ofPhaseSetting_24 27 34 rfl (by decide) (fun c_z => ?_) (fun c_z => ?_)
    · exact yes (if_neg (fun q => q.elim (fun q => absurd q.1 (by decide)) (fun q => absurd q.2 (Int32.not_lt.mpr c_z))))
    · exact no (if_pos (Or.inr ⟨by decide, Int32.not_le.mp c_z⟩))
set_option maxHeartbeats 4000000 in
set_option maxRecDepth 100000 in
theorem zX7_setting {l : Launch} {g : kG} (S : kStart l g) {h : kH} {m : Nat} {ad : Nat → Nat} {sc R : Nat → Int32} {ar : Nat → Nat → Int32} (hM : MW h m ad sc R ar) (u : Nat) (hu : sc 6 = nI u) (hu8 : u ≤ 8) (w : Nat) (v : Int32) (hw : w < 993) : kMet l g yX7_setting (Cond.code yX7_setting cX7_setting 4 (Option.some Jvm.ClassFile.FieldType.int)) 3 0 0 [.ref m, .int (nI w), .int v] h (mAct h m ad sc R ar u (setF R w v)) := by
  refine kEnter S kd_X7_setting (Nat.le_of_ble_eq_true rfl) (fun x F hxl hxg => ?_)
  subst hxl; subst hxg
  have hlv : lv_args 0 [.ref m, .int (nI w), .int v] = [(0, .ref m), (1, .int (nI w)), (2, .int v)] := rfl
  rw [hlv]
  have hK : kKp (mOwn m) h h := kKp.rf
  refine k_aload_n F dX7_setting_0 1 rfl rfl rfl ?_
  refine k_callN F kd_X7_changes q3753 q194 (kInvV (Bs := []) F kcX7 q3750 q3752 qs109 kd_X7_changes q3753 dX7_setting_1 (kHs.of hM.1) rfl (by decide)) (zX7_changes F.st hM u hu hu8) 4 rfl (Nat.le_of_ble_eq_true rfl) (by first | exact Nat.le_of_ble_eq_true rfl | omega) (by first | exact Nat.le_of_ble_eq_true rfl | omega) (by first | exact Nat.le_of_ble_eq_true rfl | omega) (by first | exact Nat.le_of_ble_eq_true rfl | omega) (fun h1 hr1 => ?_)
  obtain ⟨hM, hK9⟩ := hr1
  have hK := hK.tr hK9
  refine k_aload_n F dX7_setting_4 5 rfl rfl rfl ?_
  refine m_get F 0 (by decide) q3592 rfl dX7_setting_5 8 rfl hM rfl ?_
  refine k_iload_n F dX7_setting_8 9 rfl rfl rfl ?_
  refine m_ld F dX7_setting_9 10 rfl hM (w) (by first | (with_reducible rfl) | (simp only [nI_lit, pk_mul, nI_add])) (by omega) ?_
  refine k_istore_n (lv' := [(0, _), (1, _), (2, _), (3, _)]) F dX7_setting_10 11 rfl rfl (Nat.le_of_ble_eq_true rfl) rfl rfl rfl ?_
  refine k_aload_n F dX7_setting_11 12 rfl rfl rfl ?_
  refine m_get F 0 (by decide) q3592 rfl dX7_setting_12 15 rfl hM rfl ?_
  refine k_iload_n F dX7_setting_15 16 rfl rfl rfl ?_
  refine k_iload_n F dX7_setting_16 17 rfl rfl rfl ?_
  refine m_st F dX7_setting_17 18 rfl hM hK (w) (by first | (with_reducible rfl) | (simp only [nI_lit, pk_mul, nI_add])) (by omega) (fun h9 hM hK => ?_)
  refine k_iload_n F dX7_setting_18 19 rfl rfl rfl ?_
  exact k_iret F dX7_setting_19 (by first | exact Nat.le_of_ble_eq_true rfl | omega) (by first | exact Nat.le_of_ble_eq_true rfl | omega) ⟨rfl, hM, hK⟩
set_option maxHeartbeats 4000000 in
set_option maxRecDepth 100000 in
theorem zX7_come {l : Launch} {g : kG} (S : kStart l g) {h : kH} {m : Nat} {ad : Nat → Nat} {sc R : Nat → Int32} {ar : Nat → Nat → Int32} (hM : MW h m ad sc R ar) (u : Nat) (hu : sc 6 = nI u) (hu8 : u ≤ 8) (hR : RT R) (v w : Int32) : kMet l g yX7_come (Cond.code yX7_come cX7_come 3 (Option.some Jvm.ClassFile.FieldType.int)) 4 0 0 [.ref m, .int v, .int w] h (mPub h m ad sc R ar u (oCome R v w)) := by
  refine kEnter S kd_X7_come (Nat.le_of_ble_eq_true rfl) (fun x F hxl hxg => ?_)
  subst hxl; subst hxg
  have hlv : lv_args 0 [.ref m, .int v, .int w] = [(0, .ref m), (1, .int v), (2, .int w)] := rfl
  rw [hlv]
  have hK : kKp (mOwn m) h h := kKp.rf
  obtain ⟨r1, r2, r3, r4, r5, r6, r7, r8⟩ := id hR.1
  have hu0 : upd sc 8 0 6 = nI u := hu
  refine k_aload_n F dX7_come_0 1 rfl rfl rfl ?_
  refine k_iconst (v := 0) F dX7_come_1 2 rfl (by decide) ?_
  refine m_put F 8 (by decide) (knX7 8) q3600 rfl rfl dX7_come_2 5 rfl hM hK rfl rfl rfl (fun h9 hM hK => ?_)
  refine k_aload_n F dX7_come_5 6 rfl rfl rfl ?_
  refine k_aload_n F dX7_come_6 7 rfl rfl rfl ?_
  refine k_iload_n F dX7_come_7 8 rfl rfl rfl ?_
  refine k_callV F kd_X7_isArm q3862 q194 (kInvV (Bs := [_]) F kcX7 q3859 q3861 qs134 kd_X7_isArm q3862 dX7_come_8 (kHs.of hM.1) rfl (by decide)) (zX7_isArm F.st hM _) 11 rfl (Nat.le_of_ble_eq_true rfl) (by first | exact Nat.le_of_ble_eq_true rfl | omega) (by first | exact Nat.le_of_ble_eq_true rfl | omega) (by first | exact Nat.le_of_ble_eq_true rfl | omega) (by first | exact Nat.le_of_ble_eq_true rfl | omega) (fun r1 h1 hr1 => ?_)
  obtain ⟨rfl, rfl⟩ := hr1
  rw [r1]
  cases q0 : ixO v (rA R) with
  | none =>
    rw [show oCome R v w = none from by simp [oCome, q0]] at F
    rw [ixO_n q0]
    refine k_ifeq F dX7_come_11 14 28 rfl (by decide) (fun _ => ?_) (fun c_ => (by first | exact absurd rfl c_ | exact absurd c_ (by decide) | exact absurd (by assumption) c_ | exact absurd c_ (by assumption)))
    refine k_iconst (v := 0) F dX7_come_28 29 rfl (by decide) ?_
    refine k_callV F kd_X7_right q3850 q194 (kInvV (Bs := [_]) F kcX7 q3847 q3849 qs132 kd_X7_right q3850 dX7_come_29 (kHs.of hM.1) rfl (by decide)) (zX7_right F.st hM false) 32 rfl (Nat.le_of_ble_eq_true rfl) (by first | exact Nat.le_of_ble_eq_true rfl | omega) (by first | exact Nat.le_of_ble_eq_true rfl | omega) (by first | exact Nat.le_of_ble_eq_true rfl | omega) (by first | exact Nat.le_of_ble_eq_true rfl | omega) (fun r2 h2 hr2 => ?_)
    obtain ⟨rfl, hM, hK9⟩ := hr2
    have hK := hK.tr hK9
    refine k_ifeq F dX7_come_32 35 44 rfl (by decide) (fun _ => ?_) (fun c_ => (by first | exact absurd rfl c_ | exact absurd c_ (by decide) | exact absurd (by assumption) c_ | exact absurd c_ (by assumption)))
    refine k_iconst (v := 0) F dX7_come_44 45 rfl (by decide) ?_
    exact k_iret F dX7_come_45 (by first | exact Nat.le_of_ble_eq_true rfl | omega) (by first | exact Nat.le_of_ble_eq_true rfl | omega) ⟨rfl, hM, hK⟩
  | some a =>
    obtain ⟨ha, rfl⟩ := ixO_lt (by omega) q0
    rw [ixO_s q0]
    refine k_ifeq F dX7_come_11 14 28 rfl (by decide) (fun c_ => (by first | exact absurd rfl c_ | exact absurd c_ (by decide) | exact absurd (by assumption) c_ | exact absurd c_ (by assumption))) (fun _ => ?_)
    refine k_iload_n F dX7_come_14 15 rfl rfl rfl ?_
    refine k_iconst (v := 1) F dX7_come_15 16 rfl (by decide) ?_
    refine k_bipush (v := 99) F dX7_come_16 18 rfl (by decide) ?_
    refine k_callV F kd_X7_in q3498 q194 (kInvS (Bs := [_, _, _]) F q3496 q3497 q194 kd_X7_in q3498 dX7_come_18 rfl (by decide)) (zX7_in F.st _ _ _) 21 rfl (Nat.le_of_ble_eq_true rfl) (by first | exact Nat.le_of_ble_eq_true rfl | omega) (by first | exact Nat.le_of_ble_eq_true rfl | omega) (by first | exact Nat.le_of_ble_eq_true rfl | omega) (by first | exact Nat.le_of_ble_eq_true rfl | omega) (fun r3 h3 hr3 => ?_)
    obtain ⟨rfl, rfl⟩ := hr3
    cases q1 : ixB w 1 99 with
    | none =>
      rw [show oCome R (nI a) w = none from by simp [oCome, q0, q1]] at F
      rw [show inF w 1 99 = false from ixB_n q1]
      refine k_ifeq F dX7_come_21 24 28 rfl (by decide) (fun _ => ?_) (fun c_ => (by first | exact absurd rfl c_ | exact absurd c_ (by decide) | exact absurd (by assumption) c_ | exact absurd c_ (by assumption)))
      refine k_iconst (v := 0) F dX7_come_28 29 rfl (by decide) ?_
      refine k_callV F kd_X7_right q3850 q194 (kInvV (Bs := [_]) F kcX7 q3847 q3849 qs132 kd_X7_right q3850 dX7_come_29 (kHs.of hM.1) rfl (by decide)) (zX7_right F.st hM false) 32 rfl (Nat.le_of_ble_eq_true rfl) (by first | exact Nat.le_of_ble_eq_true rfl | omega) (by first | exact Nat.le_of_ble_eq_true rfl | omega) (by first | exact Nat.le_of_ble_eq_true rfl | omega) (by first | exact Nat.le_of_ble_eq_true rfl | omega) (fun r4 h4 hr4 => ?_)
      obtain ⟨rfl, hM, hK9⟩ := hr4
      have hK := hK.tr hK9
      refine k_ifeq F dX7_come_32 35 44 rfl (by decide) (fun _ => ?_) (fun c_ => (by first | exact absurd rfl c_ | exact absurd c_ (by decide) | exact absurd (by assumption) c_ | exact absurd c_ (by assumption)))
      refine k_iconst (v := 0) F dX7_come_44 45 rfl (by decide) ?_
      exact k_iret F dX7_come_45 (by first | exact Nat.le_of_ble_eq_true rfl | omega) (by first | exact Nat.le_of_ble_eq_true rfl | omega) ⟨rfl, hM, hK⟩
    | some n =>
      obtain ⟨hn1, hn2, rfl⟩ := ixB_lt (by omega) (by omega) q1
      rw [show oCome R (nI a) (nI n) = some (comingF R a n) from by simp [oCome, q0, q1]] at F
      rw [show inF (nI n) 1 99 = true from ixB_s q1]
      refine k_ifeq F dX7_come_21 24 28 rfl (by decide) (fun c_ => (by first | exact absurd rfl c_ | exact absurd c_ (by decide) | exact absurd (by assumption) c_ | exact absurd c_ (by assumption))) (fun _ => ?_)
      refine k_iconst (v := 1) F dX7_come_24 25 rfl (by decide) ?_
      refine k_goto F dX7_come_25 29 (by decide) ?_
      refine k_callV F kd_X7_right q3850 q194 (kInvV (Bs := [_]) F kcX7 q3847 q3849 qs132 kd_X7_right q3850 dX7_come_29 (kHs.of hM.1) rfl (by decide)) (zX7_right F.st hM true) 32 rfl (Nat.le_of_ble_eq_true rfl) (by first | exact Nat.le_of_ble_eq_true rfl | omega) (by first | exact Nat.le_of_ble_eq_true rfl | omega) (by first | exact Nat.le_of_ble_eq_true rfl | omega) (by first | exact Nat.le_of_ble_eq_true rfl | omega) (fun r5 h5 hr5 => ?_)
      obtain ⟨rfl, hM, hK9⟩ := hr5
      have hK := hK.tr hK9
      refine k_ifeq F dX7_come_32 35 44 rfl (by decide) (fun c_ => (by first | exact absurd rfl c_ | exact absurd c_ (by decide) | exact absurd (by assumption) c_ | exact absurd c_ (by assumption))) (fun _ => ?_)
      refine k_aload_n F dX7_come_35 36 rfl rfl rfl ?_
      refine k_iload_n F dX7_come_36 37 rfl rfl rfl ?_
      refine k_iload_n F dX7_come_37 38 rfl rfl rfl ?_
      refine k_callV F kd_X7_coming q3745 q194 (kInvV (Bs := [_, _]) F kcX7 q3742 q3744 qs107 kd_X7_coming q3745 dX7_come_38 (kHs.of hM.1) rfl (by decide)) (zX7_coming F.st hM u hu0 hu8 hR a n (by omega) (by omega)) 41 rfl (Nat.le_of_ble_eq_true rfl) (by first | exact Nat.le_of_ble_eq_true rfl | omega) (by first | exact Nat.le_of_ble_eq_true rfl | omega) (by first | exact Nat.le_of_ble_eq_true rfl | omega) (by first | exact Nat.le_of_ble_eq_true rfl | omega) (fun r6 h6 hr6 => ?_)
      obtain ⟨rfl, hM, hK9⟩ := hr6
      have hK := hK.tr hK9
      refine k_goto F dX7_come_41 45 (by decide) ?_
      exact k_iret F dX7_come_45 (by first | exact Nat.le_of_ble_eq_true rfl | omega) (by first | exact Nat.le_of_ble_eq_true rfl | omega) ⟨rfl, hM, hK⟩
set_option maxHeartbeats 4000000 in
set_option maxRecDepth 100000 in
theorem zX7_pass {l : Launch} {g : kG} (S : kStart l g) {h : kH} {m : Nat} {ad : Nat → Nat} {sc R : Nat → Int32} {ar : Nat → Nat → Int32} (hM : MW h m ad sc R ar) (u : Nat) (hu : sc 6 = nI u) (hu8 : u ≤ 8) (hR : RT R) (v : Int32) : kMet l g yX7_pass (Cond.code yX7_pass cX7_pass 2 (Option.some Jvm.ClassFile.FieldType.int)) 10 0 0 [.ref m, .int v] h (mPub h m ad sc R ar u (oPass R v)) := by
  refine kEnter S kd_X7_pass (Nat.le_of_ble_eq_true rfl) (fun x F hxl hxg => ?_)
  subst hxl; subst hxg
  have hlv : lv_args 0 [.ref m, .int v] = [(0, .ref m), (1, .int v)] := rfl
  rw [hlv]
  have hK : kKp (mOwn m) h h := kKp.rf
  obtain ⟨r1, r2, r3, r4, r5, r6, r7, r8⟩ := id hR.1
  have hu0 : upd sc 8 0 6 = nI u := hu
  refine k_aload_n F dX7_pass_0 1 rfl rfl rfl ?_
  refine k_iconst (v := 0) F dX7_pass_1 2 rfl (by decide) ?_
  refine m_put F 8 (by decide) (knX7 8) q3600 rfl rfl dX7_pass_2 5 rfl hM hK rfl rfl rfl (fun h9 hM hK => ?_)
  refine k_aload_n F dX7_pass_5 6 rfl rfl rfl ?_
  refine k_iload_n F dX7_pass_6 7 rfl rfl rfl ?_
  refine k_iconst (v := 1) F dX7_pass_7 8 rfl (by decide) ?_
  refine k_bipush (v := 60) F dX7_pass_8 10 rfl (by decide) ?_
  refine k_callV F kd_X7_in q3498 q194 (kInvS (Bs := [_, _, _]) F q3496 q3497 q194 kd_X7_in q3498 dX7_pass_10 rfl (by decide)) (zX7_in F.st _ _ _) 13 rfl (Nat.le_of_ble_eq_true rfl) (by first | exact Nat.le_of_ble_eq_true rfl | omega) (by first | exact Nat.le_of_ble_eq_true rfl | omega) (by first | exact Nat.le_of_ble_eq_true rfl | omega) (by first | exact Nat.le_of_ble_eq_true rfl | omega) (fun r1 h1 hr1 => ?_)
  obtain ⟨rfl, rfl⟩ := hr1
  refine k_callV F kd_X7_right q3850 q194 (kInvV (Bs := [_]) F kcX7 q3847 q3849 qs132 kd_X7_right q3850 dX7_pass_13 (kHs.of hM.1) rfl (by decide)) (zX7_right F.st hM _) 16 rfl (Nat.le_of_ble_eq_true rfl) (by first | exact Nat.le_of_ble_eq_true rfl | omega) (by first | exact Nat.le_of_ble_eq_true rfl | omega) (by first | exact Nat.le_of_ble_eq_true rfl | omega) (by first | exact Nat.le_of_ble_eq_true rfl | omega) (fun r2 h2 hr2 => ?_)
  obtain ⟨rfl, hM, hK9⟩ := hr2
  have hK := hK.tr hK9
  cases q0 : ixB v 1 60 with
  | none =>
    rw [show oPass R v = none from by simp [oPass, q0]] at F
    rw [show inF v 1 60 = false from ixB_n q0] at hM ⊢
    refine k_ifeq F dX7_pass_16 19 27 rfl (by decide) (fun _ => ?_) (fun c_ => (by first | exact absurd rfl c_ | exact absurd c_ (by decide) | exact absurd (by assumption) c_ | exact absurd c_ (by assumption)))
    refine k_iconst (v := 0) F dX7_pass_27 28 rfl (by decide) ?_
    exact k_iret F dX7_pass_28 (by first | exact Nat.le_of_ble_eq_true rfl | omega) (by first | exact Nat.le_of_ble_eq_true rfl | omega) ⟨rfl, hM, hK⟩
  | some n =>
    obtain ⟨hn1, hn2, rfl⟩ := ixB_lt (by omega) (by omega) q0
    rw [show oPass R (nI n) = some (passF R n) from by simp [oPass, q0]] at F
    rw [show inF (nI n) 1 60 = true from ixB_s q0] at hM ⊢
    refine k_ifeq F dX7_pass_16 19 27 rfl (by decide) (fun c_ => (by first | exact absurd rfl c_ | exact absurd c_ (by decide) | exact absurd (by assumption) c_ | exact absurd c_ (by assumption))) (fun _ => ?_)
    refine k_aload_n F dX7_pass_19 20 rfl rfl rfl ?_
    refine k_iload_n F dX7_pass_20 21 rfl rfl rfl ?_
    refine k_callV F kd_X7_passing q3761 q194 (kInvV (Bs := [_]) F kcX7 q3758 q3760 qs111 kd_X7_passing q3761 dX7_pass_21 (kHs.of hM.1) rfl (by decide)) (zX7_passing F.st hM u hu0 hu8 hR n (by omega)) 24 rfl (Nat.le_of_ble_eq_true rfl) (by first | exact Nat.le_of_ble_eq_true rfl | omega) (by first | exact Nat.le_of_ble_eq_true rfl | omega) (by first | exact Nat.le_of_ble_eq_true rfl | omega) (by first | exact Nat.le_of_ble_eq_true rfl | omega) (fun r3 h3 hr3 => ?_)
    obtain ⟨rfl, hM, hK9⟩ := hr3
    have hK := hK.tr hK9
    refine k_goto F dX7_pass_24 28 (by decide) ?_
    exact k_iret F dX7_pass_28 (by first | exact Nat.le_of_ble_eq_true rfl | omega) (by first | exact Nat.le_of_ble_eq_true rfl | omega) ⟨rfl, hM, hK⟩
set_option maxHeartbeats 4000000 in
set_option maxRecDepth 100000 in
theorem zX7_call {l : Launch} {g : kG} (S : kStart l g) {h : kH} {m : Nat} {ad : Nat → Nat} {sc R : Nat → Int32} {ar : Nat → Nat → Int32} (hM : MW h m ad sc R ar) (u : Nat) (hu : sc 6 = nI u) (hu8 : u ≤ 8) (hR : RV R) (v : Int32) : kMet l g yX7_call (Cond.code yX7_call cX7_call 2 (Option.some Jvm.ClassFile.FieldType.int)) 4 0 0 [.ref m, .int v] h (mPub h m ad sc R ar u (oCall R v)) := by
  refine kEnter S kd_X7_call (Nat.le_of_ble_eq_true rfl) (fun x F hxl hxg => ?_)
  subst hxl; subst hxg
  have hlv : lv_args 0 [.ref m, .int v] = [(0, .ref m), (1, .int v)] := rfl
  rw [hlv]
  have hK : kKp (mOwn m) h h := kKp.rf
  obtain ⟨r1, r2, r3, r4, r5, r6, r7, r8⟩ := id hR
  have hu0 : upd sc 8 0 6 = nI u := hu
  refine k_aload_n F dX7_call_0 1 rfl rfl rfl ?_
  refine k_iconst (v := 0) F dX7_call_1 2 rfl (by decide) ?_
  refine m_put F 8 (by decide) (knX7 8) q3600 rfl rfl dX7_call_2 5 rfl hM hK rfl rfl rfl (fun h9 hM hK => ?_)
  refine k_aload_n F dX7_call_5 6 rfl rfl rfl ?_
  refine k_aload_n F dX7_call_6 7 rfl rfl rfl ?_
  refine k_iload_n F dX7_call_7 8 rfl rfl rfl ?_
  refine k_callV F kd_X7_isPhase q3826 q194 (kInvV (Bs := [_]) F kcX7 q3823 q3825 qs127 kd_X7_isPhase q3826 dX7_call_8 (kHs.of hM.1) rfl (by decide)) (zX7_isPhase F.st hM _) 11 rfl (Nat.le_of_ble_eq_true rfl) (by first | exact Nat.le_of_ble_eq_true rfl | omega) (by first | exact Nat.le_of_ble_eq_true rfl | omega) (by first | exact Nat.le_of_ble_eq_true rfl | omega) (by first | exact Nat.le_of_ble_eq_true rfl | omega) (fun r1 h1 hr1 => ?_)
  obtain ⟨rfl, rfl⟩ := hr1
  refine k_callV F kd_X7_right q3850 q194 (kInvV (Bs := [_]) F kcX7 q3847 q3849 qs132 kd_X7_right q3850 dX7_call_11 (kHs.of hM.1) rfl (by decide)) (zX7_right F.st hM _) 14 rfl (Nat.le_of_ble_eq_true rfl) (by first | exact Nat.le_of_ble_eq_true rfl | omega) (by first | exact Nat.le_of_ble_eq_true rfl | omega) (by first | exact Nat.le_of_ble_eq_true rfl | omega) (by first | exact Nat.le_of_ble_eq_true rfl | omega) (fun r2 h2 hr2 => ?_)
  obtain ⟨rfl, hM, hK9⟩ := hr2
  have hK := hK.tr hK9
  rw [r3] at hM ⊢
  cases q0 : ixO v (rP R) with
  | none =>
    rw [show oCall R v = none from by simp [oCall, q0]] at F
    rw [ixO_n q0] at hM ⊢
    refine k_ifeq F dX7_call_14 17 25 rfl (by decide) (fun _ => ?_) (fun c_ => (by first | exact absurd rfl c_ | exact absurd c_ (by decide) | exact absurd (by assumption) c_ | exact absurd c_ (by assumption)))
    refine k_iconst (v := 0) F dX7_call_25 26 rfl (by decide) ?_
    exact k_iret F dX7_call_26 (by first | exact Nat.le_of_ble_eq_true rfl | omega) (by first | exact Nat.le_of_ble_eq_true rfl | omega) ⟨rfl, hM, hK⟩
  | some p =>
    obtain ⟨hp, rfl⟩ := ixO_lt (by omega) q0
    rw [show oCall R (nI p) = some (callF R p) from by simp [oCall, q0]] at F
    rw [ixO_s q0] at hM ⊢
    refine k_ifeq F dX7_call_14 17 25 rfl (by decide) (fun c_ => (by first | exact absurd rfl c_ | exact absurd c_ (by decide) | exact absurd (by assumption) c_ | exact absurd c_ (by assumption))) (fun _ => ?_)
    refine k_aload_n F dX7_call_17 18 rfl rfl rfl ?_
    refine k_iload_n F dX7_call_18 19 rfl rfl rfl ?_
    refine k_callV F kd_X7_calling q3830 q194 (kInvV (Bs := [_]) F kcX7 q3827 q3829 qs128 kd_X7_calling q3830 dX7_call_19 (kHs.of hM.1) rfl (by decide)) (zX7_calling F.st hM u hu0 hu8 hR p (by omega)) 22 rfl (Nat.le_of_ble_eq_true rfl) (by first | exact Nat.le_of_ble_eq_true rfl | omega) (by first | exact Nat.le_of_ble_eq_true rfl | omega) (by first | exact Nat.le_of_ble_eq_true rfl | omega) (by first | exact Nat.le_of_ble_eq_true rfl | omega) (fun r3 h3 hr3 => ?_)
    obtain ⟨rfl, hM, hK9⟩ := hr3
    have hK := hK.tr hK9
    refine k_goto F dX7_call_22 26 (by decide) ?_
    exact k_iret F dX7_call_26 (by first | exact Nat.le_of_ble_eq_true rfl | omega) (by first | exact Nat.le_of_ble_eq_true rfl | omega) ⟨rfl, hM, hK⟩

