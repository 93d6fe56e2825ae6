/-! the reference: means; its making -/
section
seal mustS passS lookS numS goF pkTo namedF joinF isKeyF isSignF lookV memTo armS clashS memS phaseS phS1 phS2 phS3 phR

theorem kd_X7_meanWait : kCd (Cond.code yX7_meanWait cX7_meanWait 1 (Option.some Jvm.ClassFile.FieldType.double)) yX7_meanWait cX7_meanWait 1 (Option.some Jvm.ClassFile.FieldType.double) [] := kCd_code (by decide +kernel)
theorem kd_X7_greenBits : kCd (Cond.code yX7_greenBits cX7_greenBits 2 (Option.some Jvm.ClassFile.FieldType.int)) yX7_greenBits cX7_greenBits 2 (Option.some Jvm.ClassFile.FieldType.int) [] := kCd_code (by decide +kernel)
theorem kd_X7_lays : kCd (Cond.code yX7_lays cX7_lays 3 (Option.none : Option Jvm.ClassFile.FieldType)) yX7_lays cX7_lays 3 (Option.none : Option Jvm.ClassFile.FieldType) [] := kCd_code (by decide +kernel)
theorem kd_J25_isNaN : kCd (Cond.code yJ25_isNaN cJ25_isNaN 1 (Option.some Jvm.ClassFile.FieldType.boolean)) yJ25_isNaN cJ25_isNaN 1 (Option.some Jvm.ClassFile.FieldType.boolean) [] := kCd_code (by decide +kernel)
theorem kd_J25_floatToIntBits : kCd (Cond.code yJ25_floatToIntBits cJ25_floatToIntBits 1 (Option.some Jvm.ClassFile.FieldType.int)) yJ25_floatToIntBits cJ25_floatToIntBits 1 (Option.some Jvm.ClassFile.FieldType.int) [] := kCd_code (by decide +kernel)
set_option maxHeartbeats 4000000 in
set_option maxRecDepth 100000 in
theorem zJ25_isNaN {l : Launch} {g : kG} (S : kStart l g) {h : kH} {b : UInt32} (hb : FP.fIsNaN b = false) : kMet l g yJ25_isNaN (Cond.code yJ25_isNaN cJ25_isNaN 1 (Option.some Jvm.ClassFile.FieldType.boolean)) 1 0 0 [.float b] h (mRd h (.int 0)) := by
  refine kEnter S kd_J25_isNaN (Nat.le_of_ble_eq_true rfl) (fun x F hxl hxg => ?_)
  subst hxl; subst hxg
  have hlv : lv_args 0 [.float b] = [(0, .float b)] := rfl
  rw [hlv]
  refine k_fload_n F dJ25_isNaN_0 1 rfl rfl rfl ?_
  refine k_fload_n F dJ25_isNaN_1 2 rfl rfl rfl ?_
  refine k_fcmp F dJ25_isNaN_2 3 rfl ?_
  rw [fcmp_me hb]
  refine k_ifeq F dJ25_isNaN_3 6 10 rfl (by decide) (fun _ => ?_) (fun c_ => (by first | exact absurd rfl c_ | exact absurd c_ (by decide) | exact absurd (by assumption) c_ | exact absurd c_ (by assumption)))
  refine k_iconst (v := 0) F dJ25_isNaN_10 11 rfl (by decide) ?_
  exact k_zret F dJ25_isNaN_11 (by first | rfl | exact kzb _ | exact pk_nc _ | decide) (by first | exact Nat.le_of_ble_eq_true rfl | omega) (by first | exact Nat.le_of_ble_eq_true rfl | omega) ⟨rfl, rfl⟩
set_option maxHeartbeats 4000000 in
set_option maxRecDepth 100000 in
theorem zJ25_floatToIntBits {l : Launch} {g : kG} (S : kStart l g) {h : kH} {b : UInt32} (hb : FP.fIsNaN b = false) : kMet l g yJ25_floatToIntBits (Cond.code yJ25_floatToIntBits cJ25_floatToIntBits 1 (Option.some Jvm.ClassFile.FieldType.int)) 2 0 0 [.float b] h (mRd h (.int b.toInt32)) := by
  refine kEnter S kd_J25_floatToIntBits (Nat.le_of_ble_eq_true rfl) (fun x F hxl hxg => ?_)
  subst hxl; subst hxg
  have hlv : lv_args 0 [.float b] = [(0, .float b)] := rfl
  rw [hlv]
  refine k_fload_n F dJ25_floatToIntBits_0 1 rfl rfl rfl ?_
  refine k_callV F kd_J25_isNaN q680 q177 (kInvS (Bs := [_]) F q3260 q679 q177 kd_J25_isNaN q680 dJ25_floatToIntBits_1 rfl (by decide)) (zJ25_isNaN F.st hb) 4 rfl (Nat.le_of_ble_eq_true rfl) (by first | exact Nat.le_of_ble_eq_true rfl | omega) (by first | exact Nat.le_of_ble_eq_true rfl | omega) (by first | exact Nat.le_of_ble_eq_true rfl | omega) (by first | exact Nat.le_of_ble_eq_true rfl | omega) (fun r1 h1 hr1 => ?_)
  obtain ⟨rfl, rfl⟩ := hr1
  refine k_ifne F dJ25_floatToIntBits_4 7 12 rfl (by decide) (fun c_ => (by first | exact absurd rfl c_ | exact absurd c_ (by decide) | exact absurd (by assumption) c_ | exact absurd c_ (by assumption))) (fun _ => ?_)
  refine k_fload_n F dJ25_floatToIntBits_7 8 rfl rfl rfl ?_
  refine k_f2raw F q3261 q715 q714 q177 dJ25_floatToIntBits_8 11 rfl (by omega) (Nat.le_of_ble_eq_true rfl) ?_
  exact k_iret F dJ25_floatToIntBits_11 (by first | exact Nat.le_of_ble_eq_true rfl | omega) (by first | exact Nat.le_of_ble_eq_true rfl | omega) ⟨rfl, rfl⟩
set_option maxHeartbeats 4000000 in
set_option maxRecDepth 100000 in
theorem zX7_meanWait {l : Launch} {g : kG} (S : kStart l g) {h : kH} {m : Nat} {ad : Nat → Nat} {sc R : Nat → Int32} {ar : Nat → Nat → Int32} (hM : MW h m ad sc R ar) : kMet l g yX7_meanWait (Cond.code yX7_meanWait cX7_meanWait 1 (Option.some Jvm.ClassFile.FieldType.double)) 1 0 0 [.ref m] h (mDv h m ad (upd sc 8 0) R ar (.double (meanF R))) := by
  refine kEnter S kd_X7_meanWait (Nat.le_of_ble_eq_true rfl) (fun x F hxl hxg => ?_)
  subst hxl; subst hxg
  have hlv : lv_args 0 [.ref m] = [(0, .ref m)] := rfl
  rw [hlv]
  have hK : kKp (mOwn m) h h := kKp.rf
  refine k_aload_n F dX7_meanWait_0 1 rfl rfl rfl ?_
  refine k_iconst (v := 0) F dX7_meanWait_1 2 rfl (by decide) ?_
  refine m_put F 8 (by decide) (knX7 8) q3600 rfl rfl dX7_meanWait_2 5 rfl hM hK rfl rfl rfl (fun h9 hM hK => ?_)
  refine k_aload_n F dX7_meanWait_5 6 rfl rfl rfl ?_
  refine m_get F 0 (by decide) q3592 rfl dX7_meanWait_6 9 rfl hM rfl ?_
  refine k_bipush (v := 11) F dX7_meanWait_9 11 rfl (by decide) ?_
  refine m_ld F dX7_meanWait_11 12 rfl hM (11) (by first | (with_reducible rfl) | (simp only [nI_lit, pk_mul, nI_add])) (by omega) ?_
  have go : kW x 0 0 h9 36 [(0, .ref m)] [.double (meanF R)] := by
    exact k_dret F dX7_meanWait_36 (by first | exact Nat.le_of_ble_eq_true rfl | omega) (by first | exact Nat.le_of_ble_eq_true rfl | omega) ⟨rfl, hM, hK⟩
  refine k_ifne F dX7_meanWait_12 15 19 rfl (by decide) (fun c_a => ?_) (fun c_a => ?_)
  · have e : meanF R = FP.ddiv (FP.i2d (R 12)) (FP.i2d (R 11)) := if_neg c_a
    rw [e] at go
    refine k_aload_n F dX7_meanWait_19 20 rfl rfl rfl ?_
    refine m_get F 0 (by decide) q3592 rfl dX7_meanWait_20 23 rfl hM rfl ?_
    refine k_bipush (v := 12) F dX7_meanWait_23 25 rfl (by decide) ?_
    refine m_ld F dX7_meanWait_25 26 rfl hM (12) (by first | (with_reducible rfl) | (simp only [nI_lit, pk_mul, nI_add])) (by omega) ?_
    refine k_i2d F dX7_meanWait_26 27 rfl ?_
    refine k_aload_n F dX7_meanWait_27 28 rfl rfl rfl ?_
    refine m_get F 0 (by decide) q3592 rfl dX7_meanWait_28 31 rfl hM rfl ?_
    refine k_bipush (v := 11) F dX7_meanWait_31 33 rfl (by decide) ?_
    refine m_ld F dX7_meanWait_33 34 rfl hM (11) (by first | (with_reducible rfl) | (simp only [nI_lit, pk_mul, nI_add])) (by omega) ?_
    refine k_i2d F dX7_meanWait_34 35 rfl ?_
    refine k_ddiv F dX7_meanWait_35 36 rfl (mean_n c_a) ?_
    exact go
  · have e : meanF R = FP.dconst0 := if_pos c_a
    rw [e] at go
    refine k_dconst0 F dX7_meanWait_15 16 rfl ?_
    refine k_goto F dX7_meanWait_16 36 (by decide) ?_
    exact go
set_option maxHeartbeats 4000000 in
set_option maxRecDepth 100000 in
theorem zX7_greenBits {l : Launch} {g : kG} (S : kStart l g) {h : kH} {m : Nat} {ad : Nat → Nat} {sc R : Nat → Int32} {ar : Nat → Nat → Int32} (hM : MW h m ad sc R ar) (hR : RV R) {t : Nat} (h5 : R 5 = nI t) (ht : t ≤ 12000) (v : Int32) : kMet l g yX7_greenBits (Cond.code yX7_greenBits cX7_greenBits 2 (Option.some Jvm.ClassFile.FieldType.int)) 3 0 0 [.ref m, .int v] h (mAn h m ad sc R ar (oBits R v)) := by
  refine kEnter S kd_X7_greenBits (Nat.le_of_ble_eq_true rfl) (fun x F hxl hxg => ?_)
  subst hxl; subst hxg
  have hlv : lv_args 0 [.ref m, .int v] = [(0, .ref m), (1, .int v)] := rfl
  rw [hlv]
  have hK : kKp (mOwn m) h h := kKp.rf
  obtain ⟨r1, r2, r3, r4, r5, r6, r7, r8⟩ := id hR
  refine k_aload_n F dX7_greenBits_0 1 rfl rfl rfl ?_
  refine k_iconst (v := 0) F dX7_greenBits_1 2 rfl (by decide) ?_
  refine m_put F 8 (by decide) (knX7 8) q3600 rfl rfl dX7_greenBits_2 5 rfl hM hK rfl rfl rfl (fun h9 hM hK => ?_)
  refine k_aload_n F dX7_greenBits_5 6 rfl rfl rfl ?_
  refine k_aload_n F dX7_greenBits_6 7 rfl rfl rfl ?_
  refine k_iload_n F dX7_greenBits_7 8 rfl rfl rfl ?_
  refine k_callV F kd_X7_isArm q3862 q194 (kInvV (Bs := [_]) F kcX7 q3859 q3861 qs134 kd_X7_isArm q3862 dX7_greenBits_8 (kHs.of hM.1) rfl (by decide)) (zX7_isArm F.st hM _) 11 rfl (Nat.le_of_ble_eq_true rfl) (by first | exact Nat.le_of_ble_eq_true rfl | omega) (by first | exact Nat.le_of_ble_eq_true rfl | omega) (by first | exact Nat.le_of_ble_eq_true rfl | omega) (by first | exact Nat.le_of_ble_eq_true rfl | omega) (fun r1 h1 hr1 => ?_)
  obtain ⟨rfl, rfl⟩ := hr1
  rw [r1]
  cases q : ixO v (rA R) with
  | none =>
    rw [show oBits R v = none from by simp [oBits, q]] at F
    rw [ixO_n q]
    refine k_callV F kd_X7_right q3850 q194 (kInvV (Bs := [_]) F kcX7 q3847 q3849 qs132 kd_X7_right q3850 dX7_greenBits_11 (kHs.of hM.1) rfl (by decide)) (zX7_right F.st hM false) 14 rfl (Nat.le_of_ble_eq_true rfl) (by first | exact Nat.le_of_ble_eq_true rfl | omega) (by first | exact Nat.le_of_ble_eq_true rfl | omega) (by first | exact Nat.le_of_ble_eq_true rfl | omega) (by first | exact Nat.le_of_ble_eq_true rfl | omega) (fun r2 h2 hr2 => ?_)
    obtain ⟨rfl, hM, hK9⟩ := hr2
    have hK := hK.tr hK9
    refine k_ifeq F dX7_greenBits_14 17 26 rfl (by decide) (fun _ => ?_) (fun c_ => (by first | exact absurd rfl c_ | exact absurd c_ (by decide) | exact absurd (by assumption) c_ | exact absurd c_ (by assumption)))
    refine k_iconst (v := 0) F dX7_greenBits_26 27 rfl (by decide) ?_
    exact k_iret F dX7_greenBits_27 (by first | exact Nat.le_of_ble_eq_true rfl | omega) (by first | exact Nat.le_of_ble_eq_true rfl | omega) ⟨rfl, hM, hK⟩
  | some a =>
    obtain ⟨ha, rfl⟩ := ixO_lt (by omega) q
    rw [show oBits R (nI a) = some (bitsF (mOf R a 5) (R 5)) from by simp [oBits, q]] at F
    rw [ixO_s q]
    refine k_callV F kd_X7_right q3850 q194 (kInvV (Bs := [_]) F kcX7 q3847 q3849 qs132 kd_X7_right q3850 dX7_greenBits_11 (kHs.of hM.1) rfl (by decide)) (zX7_right F.st hM true) 14 rfl (Nat.le_of_ble_eq_true rfl) (by first | exact Nat.le_of_ble_eq_true rfl | omega) (by first | exact Nat.le_of_ble_eq_true rfl | omega) (by first | exact Nat.le_of_ble_eq_true rfl | omega) (by first | exact Nat.le_of_ble_eq_true rfl | omega) (fun r3 h3 hr3 => ?_)
    obtain ⟨rfl, hM, hK9⟩ := hr3
    have hK := hK.tr hK9
    refine k_ifeq F dX7_greenBits_14 17 26 rfl (by decide) (fun c_ => (by first | exact absurd rfl c_ | exact absurd c_ (by decide) | exact absurd (by assumption) c_ | exact absurd c_ (by assumption))) (fun _ => ?_)
    refine k_aload_n F dX7_greenBits_17 18 rfl rfl rfl ?_
    refine m_get F 0 (by decide) q3592 rfl dX7_greenBits_18 21 rfl hM rfl ?_
    refine k_iconst (v := 5) F dX7_greenBits_21 22 rfl (by decide) ?_
    refine m_ld F dX7_greenBits_22 23 rfl hM (5) (by first | (with_reducible rfl) | (simp only [nI_lit, pk_mul, nI_add])) (by omega) ?_
    refine k_ifne F dX7_greenBits_23 26 28 rfl (by decide) (fun c_z => ?_) (fun c_z => ?_)
    · have e : bitsF (mOf R a 5) (R 5) = (FP.fdiv (FP.i2f (mOf R a 5)) (FP.i2f (R 5))).toInt32 := if_neg c_z
      rw [e] at F
      refine k_aload_n F dX7_greenBits_28 29 rfl rfl rfl ?_
      refine k_iload_n F dX7_greenBits_29 30 rfl rfl rfl ?_
      refine k_iconst (v := 5) F dX7_greenBits_30 31 rfl (by decide) ?_
      refine k_callV F kd_X7_of q3549 q194 (kInvV (Bs := [_, _]) F kcX7 q3546 q3548 qs86 kd_X7_of q3549 dX7_greenBits_31 (kHs.of hM.1) rfl (by decide)) (zX7_of F.st hM a 5 (by omega)) 34 rfl (Nat.le_of_ble_eq_true rfl) (by first | exact Nat.le_of_ble_eq_true rfl | omega) (by first | exact Nat.le_of_ble_eq_true rfl | omega) (by first | exact Nat.le_of_ble_eq_true rfl | omega) (by first | exact Nat.le_of_ble_eq_true rfl | omega) (fun r4 h4 hr4 => ?_)
      obtain ⟨rfl, rfl⟩ := hr4
      refine k_i2f F dX7_greenBits_34 35 rfl ?_
      refine k_aload_n F dX7_greenBits_35 36 rfl rfl rfl ?_
      refine m_get F 0 (by decide) q3592 rfl dX7_greenBits_36 39 rfl hM rfl ?_
      refine k_iconst (v := 5) F dX7_greenBits_39 40 rfl (by decide) ?_
      refine m_ld F dX7_greenBits_40 41 rfl hM (5) (by first | (with_reducible rfl) | (simp only [nI_lit, pk_mul, nI_add])) (by omega) ?_
      refine k_i2f F dX7_greenBits_41 42 rfl ?_
      have hb := bits_n (a := mOf R a 5) ht (by rw [← h5]; exact c_z)
      rw [← h5] at hb
      refine k_fdiv F dX7_greenBits_42 43 rfl (fp_n32 hb) ?_
      refine k_callV F kd_J25_floatToIntBits q3259 q177 (kInvS (Bs := [_]) F q3935 q3258 q177 kd_J25_floatToIntBits q3259 dX7_greenBits_43 rfl (by decide)) (zJ25_floatToIntBits F.st hb) 46 rfl (Nat.le_of_ble_eq_true rfl) (by first | exact Nat.le_of_ble_eq_true rfl | omega) (by first | exact Nat.le_of_ble_eq_true rfl | omega) (by first | exact Nat.le_of_ble_eq_true rfl | omega) (by first | exact Nat.le_of_ble_eq_true rfl | omega) (fun r5 h5 hr5 => ?_)
      obtain ⟨rfl, rfl⟩ := hr5
      exact k_iret F dX7_greenBits_46 (by first | exact Nat.le_of_ble_eq_true rfl | omega) (by first | exact Nat.le_of_ble_eq_true rfl | omega) ⟨rfl, hM, hK⟩
    · have e : bitsF (mOf R a 5) (R 5) = 0 := if_pos c_z
      rw [e] at F
      refine k_iconst (v := 0) F dX7_greenBits_26 27 rfl (by decide) ?_
      exact k_iret F dX7_greenBits_27 (by first | exact Nat.le_of_ble_eq_true rfl | omega) (by first | exact Nat.le_of_ble_eq_true rfl | omega) ⟨rfl, hM, hK⟩
set_option maxHeartbeats 4000000 in
set_option maxRecDepth 100000 in
theorem zX7_lays {l : Launch} {g : kG} (S : kStart l g) {h : kH} {m : Nat} {ad : Nat → Nat} {sc R : Nat → Int32} {ar : Nat → Nat → Int32} {s : SS} (hM : MW h m ad (scT sc s) R ar) (hv : s.1.2.2.2 ≤ 1000) {w : Nat} {L : List Int32} (hw : kStr g h w L) (hL : ascL L) (hL6 : L.length ≤ 600) (hL1 : ∀ i, i < L.length → byL L i ≠ 0) (hR : RV (upd R 7 (-1))) : kMet l g yX7_lays (Cond.code yX7_lays cX7_lays 3 (Option.none : Option Jvm.ClassFile.FieldType)) 9 0 0 [.ref m, .ref w] h (mDo h m ad (scT (upd sc 10 0) (layQ L (mixF (byL L) (ar 9) L.length) s.1.2.2.2 R).1) (layQ L (mixF (byL L) (ar 9) L.length) s.1.2.2.2 R).2 (setA ar 9 (mixF (byL L) (ar 9) L.length))) := by
  refine kEnter S kd_X7_lays (Nat.le_of_ble_eq_true rfl) (fun x F hxl hxg => ?_)
  subst hxl; subst hxg
  have hlv : lv_args 0 [.ref m, .ref w] = [(0, .ref m), (1, .ref w)] := rfl
  rw [hlv]
  have hK : kKp (mOwn m) h h := kKp.rf
  obtain ⟨wv, wt, wt', wf, we1, we2, wr, wb, wf2⟩ := id hw
  obtain ⟨hl1, hl2⟩ := id hL
  have hS0 : ∀ t : kT, mOwn m t → t.1 ≠ 0 := fun t ht => by have : t.1 = m + 1 := ht; omega
  have hkw : ∀ h1, kKp (mOwn m) h h1 → kStr x.g h1 w L := fun h1 hK => ⟨wv, wt, wt', wf, we1, we2, wr.keep hK (fun z => hS0 _ z we1), wb.keep hK (fun z => hS0 _ z we2), wf2⟩
  have hkr : ∀ h1, kKp (mOwn m) h h1 → kHs x.g h1 w wt (eStr wv L) := fun h1 hK => wr.keep hK (fun z => hS0 _ z we1)
  refine k_iconst (v := 0) F dX7_lays_0 1 rfl (by decide) ?_
  refine k_istore_n (lv' := [(0, _), (1, _), (2, _)]) F dX7_lays_1 2 rfl rfl (Nat.le_of_ble_eq_true rfl) rfl rfl rfl ?_
  suffices hl : ∀ j, j ≤ L.length → ∀ h1, MW h1 m ad (scT sc s) (R) (setA ar 9 (mixF (byL L) (ar 9) j)) → kKp (mOwn m) h h1 → kW x 0 0 h1 2 [(0, .ref m), (1, .ref w), (2, .int (nI j))] [] from hl 0 (Nat.zero_le _) _ ((by rw [mixF_0, setA_self]; exact hM)) hK
  refine kUpTo (Q := fun j => ∀ h1, MW h1 m ad (scT sc s) (R) (setA ar 9 (mixF (byL L) (ar 9) j)) → kKp (mOwn m) h h1 → kW x 0 0 h1 2 [(0, .ref m), (1, .ref w), (2, .int (nI j))] []) (L.length) ?_ ?_
  · intro h1 hM hK
    refine k_iload_n F dX7_lays_2 3 rfl rfl rfl ?_
    refine k_aload_n F dX7_lays_3 4 rfl rfl rfl ?_
    refine k_callV F kd_J10_length q418 q161 (kInvV (Bs := []) F kcJ10 q3482 q416 q417 kd_J10_length q418 dX7_lays_4 (hkr _ hK) rfl (by decide)) (zJ10_length F.st (hkw _ hK) (by omega)) 7 rfl (Nat.le_of_ble_eq_true rfl) (by first | exact Nat.le_of_ble_eq_true rfl | omega) (by first | exact Nat.le_of_ble_eq_true rfl | omega) (by first | exact Nat.le_of_ble_eq_true rfl | omega) (by first | exact Nat.le_of_ble_eq_true rfl | omega) (fun r1 h1 hr1 => ?_)
    obtain ⟨rfl, rfl⟩ := hr1
    refine k_icmpge F dX7_lays_7 10 27 rfl (by decide) (fun _ => ?_) (fun c_ => absurd c_ (by rw [nI_leE (by omega) (by omega)]; omega))
    refine k_aload_n F dX7_lays_27 28 rfl rfl rfl ?_
    refine k_aload_n F dX7_lays_28 29 rfl rfl rfl ?_
    refine k_callV F kd_J10_length q418 q161 (kInvV (Bs := []) F kcJ10 q3482 q416 q417 kd_J10_length q418 dX7_lays_29 (hkr _ hK) rfl (by decide)) (zJ10_length F.st (hkw _ hK) (by omega)) 32 rfl (Nat.le_of_ble_eq_true rfl) (by first | exact Nat.le_of_ble_eq_true rfl | omega) (by first | exact Nat.le_of_ble_eq_true rfl | omega) (by first | exact Nat.le_of_ble_eq_true rfl | omega) (by first | exact Nat.le_of_ble_eq_true rfl | omega) (fun r2 h2 hr2 => ?_)
    obtain ⟨rfl, rfl⟩ := hr2
    refine m_put F 10 (by decide) (knX7 10) q3602 rfl rfl dX7_lays_32 35 rfl hM hK rfl rfl rfl (fun h9 hM hK => ?_)
    rw [scT_upd (by omega)] at hM
    refine k_aload_n F dX7_lays_35 36 rfl rfl rfl ?_
    refine m_get F 0 (by decide) q3592 rfl dX7_lays_36 39 rfl hM rfl ?_
    refine k_bipush (v := 7) F dX7_lays_39 41 rfl (by decide) ?_
    refine k_iconst (v := (-1)) F dX7_lays_41 42 rfl (by decide) ?_
    refine m_st F dX7_lays_42 43 rfl hM hK (7) (by first | (with_reducible rfl) | (simp only [nI_lit, pk_mul, nI_add])) (by omega) (fun h9 hM hK => ?_)
    have hn1 : (upd sc 10 (nI L.length)) 10 = nI L.length := upd_eq
    have hB1 : BufOK (setA ar 9 (mixF (byL L) (ar 9) L.length) 9) L.length := ⟨hL6, fun i hi => by
      obtain ⟨c, hc, e⟩ := hl2 i hi
      refine ⟨c, ?_, by omega, by rw [setA_s]; exact (mixF_lt hi).trans e⟩
      have := hL1 i hi
      rw [e] at this
      have : c ≠ 0 := fun z => this (by rw [z]; rfl)
      omega⟩
    refine k_aload_n F dX7_lays_43 44 rfl rfl rfl ?_
    refine k_callN F kd_X7_starts q3487 q194 (kInvV (Bs := []) F kcX7 q3484 q3486 qs72 kd_X7_starts q3487 dX7_lays_44 (kHs.of hM.1) rfl (by decide)) (zX7_starts F.st hM hn1 hB1) 47 rfl (Nat.le_of_ble_eq_true rfl) (by first | exact Nat.le_of_ble_eq_true rfl | omega) (by first | exact Nat.le_of_ble_eq_true rfl | omega) (by first | exact Nat.le_of_ble_eq_true rfl | omega) (by first | exact Nat.le_of_ble_eq_true rfl | omega) (fun h3 hr3 => ?_)
    obtain ⟨hM, hK9⟩ := hr3
    have hK := hK.tr hK9
    refine k_aload_n F dX7_lays_47 48 rfl rfl rfl ?_
    refine k_callN F kd_X7_readsSetup q3503 q194 (kInvV (Bs := []) F kcX7 q3500 q3502 qs75 kd_X7_readsSetup q3503 dX7_lays_48 (kHs.of hM.1) rfl (by decide)) (zX7_readsSetup F.st hM hn1 hB1 (startS_ok hv) hR) 51 rfl (Nat.le_of_ble_eq_true rfl) (by first | exact Nat.le_of_ble_eq_true rfl | omega) (by first | exact Nat.le_of_ble_eq_true rfl | omega) (by first | exact Nat.le_of_ble_eq_true rfl | omega) (by first | exact Nat.le_of_ble_eq_true rfl | omega) (fun h4 hr4 => ?_)
    obtain ⟨hM, hK9⟩ := hr4
    have hK := hK.tr hK9
    refine k_aload_n F dX7_lays_51 52 rfl rfl rfl ?_
    refine k_iconst (v := 0) F dX7_lays_52 53 rfl (by decide) ?_
    refine m_put F 10 (by decide) (knX7 10) q3602 rfl rfl dX7_lays_53 56 rfl hM hK rfl rfl rfl (fun h9 hM hK => ?_)
    rw [setA_s] at hM
    replace hM : MW h9 m ad (upd (scT (upd sc 10 (nI L.length)) (layQ L (mixF (byL L) (ar 9) L.length) s.1.2.2.2 R).1) 10 0) (layQ L (mixF (byL L) (ar 9) L.length) s.1.2.2.2 R).2 (setA ar 9 (mixF (byL L) (ar 9) L.length)) := hM
    rw [scT_upd (by omega), upd_upd] at hM
    exact k_vret F dX7_lays_56 (by first | exact Nat.le_of_ble_eq_true rfl | omega) (by first | exact Nat.le_of_ble_eq_true rfl | omega) ⟨hM, hK⟩
  · intro j hj ih h1 hM hK
    obtain ⟨c, hc, e⟩ := hl2 j hj
    refine k_iload_n F dX7_lays_2 3 rfl rfl rfl ?_
    refine k_aload_n F dX7_lays_3 4 rfl rfl rfl ?_
    refine k_callV F kd_J10_length q418 q161 (kInvV (Bs := []) F kcJ10 q3482 q416 q417 kd_J10_length q418 dX7_lays_4 (hkr _ hK) rfl (by decide)) (zJ10_length F.st (hkw _ hK) (by omega)) 7 rfl (Nat.le_of_ble_eq_true rfl) (by first | exact Nat.le_of_ble_eq_true rfl | omega) (by first | exact Nat.le_of_ble_eq_true rfl | omega) (by first | exact Nat.le_of_ble_eq_true rfl | omega) (by first | exact Nat.le_of_ble_eq_true rfl | omega) (fun r5 h5 hr5 => ?_)
    obtain ⟨rfl, rfl⟩ := hr5
    refine k_icmpge F dX7_lays_7 10 27 rfl (by decide) (fun c_ => absurd c_ (by rw [nI_leE (by omega) (by omega)]; omega)) (fun _ => ?_)
    refine k_aload_n F dX7_lays_10 11 rfl rfl rfl ?_
    refine m_get F 9 (by decide) q3601 rfl dX7_lays_11 14 rfl hM rfl ?_
    refine k_iload_n F dX7_lays_14 15 rfl rfl rfl ?_
    refine k_aload_n F dX7_lays_15 16 rfl rfl rfl ?_
    refine k_iload_n F dX7_lays_16 17 rfl rfl rfl ?_
    refine k_callV F kd_J10_charAt q946 q161 (kInvV (Bs := [_]) F kcJ10 q3483 q944 q945 kd_J10_charAt q946 dX7_lays_17 (hkr _ hK) rfl (by decide)) (zJ10_charAt F.st (hkw _ hK) (by omega) j hj) 20 rfl (Nat.le_of_ble_eq_true rfl) (by first | exact Nat.le_of_ble_eq_true rfl | omega) (by first | exact Nat.le_of_ble_eq_true rfl | omega) (by first | exact Nat.le_of_ble_eq_true rfl | omega) (by first | exact Nat.le_of_ble_eq_true rfl | omega) (fun r6 h6 hr6 => ?_)
    obtain ⟨rfl, rfl⟩ := hr6
    rw [show (((byL L j &&& 255).toUInt32 % 65536).toInt32) = byL L j from by rw [e]; exact chr_asc hc]
    refine m_iast F _ (by rfl) dX7_lays_20 21 rfl hM hK (j) (by first | (with_reducible rfl) | (simp only [nI_lit, pk_mul, nI_add])) (by first | decide | omega | (simp only [mSz]; omega)) (fun h9 hM hK => ?_)
    refine k_iinc (e := 1) (lv' := [(0, _), (1, _), (2, _)]) F dX7_lays_21 24 rfl rfl (by decide) rfl (Nat.le_of_ble_eq_true rfl) rfl rfl rfl ?_
    refine k_goto F dX7_lays_24 2 (by decide) ?_
    rw [nI_1']
    refine ih _ ?_ hK
    rw [← mixF_succ, ← setA_upd]
    exact hM
theorem kd_X7_init : kCd (Cond.code yX7_init cX7_init 1 (Option.none : Option Jvm.ClassFile.FieldType)) yX7_init cX7_init 1 (Option.none : Option Jvm.ClassFile.FieldType) [] := kCd_code (by decide +kernel)
theorem laysNZ : ∀ i, i < SX7_51.length → byL SX7_51 i ≠ 0 := by
  have h : (List.range SX7_51.length).all (fun i => decide (byL SX7_51 i ≠ 0)) = true := by decide +kernel
  intro i hi
  exact of_decide_eq_true (List.all_eq_true.mp h i (List.mem_range.mpr hi))
set_option maxHeartbeats 8000000 in
set_option maxHeartbeats 4000000 in
set_option maxRecDepth 100000 in
theorem zX7_init {l : Launch} {g : kG} (S : kStart l g) {h : kH} {m : Nat} (h0 : h m = some ((m + 1, 0, 0), eO 21 [.null, .null, .null, .null, .null, .null, .int 0, .int 0, .int 0, .null, .int 0, .int 0, .int 0, .int 0, .int 0, .int 0, .int 0, .null, .null, .null, .null, .int 0, .int 0, .int 0, .null, .int 0])) : kMet l g yX7_init (Cond.code yX7_init cX7_init 1 (Option.none : Option Jvm.ClassFile.FieldType)) 10 12 14131 [.ref m] h (kN (fun h' => ∃ ad ar, MW h' m ad (scT (fun _ => 0) (layQ SX7_51 (mixF (byL SX7_51) (fun _ => 0) SX7_51.length) 0 (fun _ => 0)).1) (layQ SX7_51 (mixF (byL SX7_51) (fun _ => 0) SX7_51.length) 0 (fun _ => 0)).2 ar ∧ ar 5 = (fun _ => 0) ∧ BufOK (ar 9) 0 ∧ (∀ i, ar 17 i = 0) ∧ kKp (mOwn m) h h')) := by
  refine kEnter S kd_X7_init (Nat.le_of_ble_eq_true rfl) (fun x F hxl hxg => ?_)
  subst hxl; subst hxg
  have hlv : lv_args 0 [.ref m] = [(0, .ref m)] := rfl
  rw [hlv]
  have hK : kKp (mOwn m) h h := kKp.rf
  refine k_aload_n F dX7_init_0 1 rfl rfl rfl ?_
  refine k_objInit F q3476 q219 q220 dX7_init_1 4 rfl (by omega) (Nat.le_of_ble_eq_true rfl) ?_
  refine k_aload_n F dX7_init_4 5 rfl rfl rfl ?_
  refine k_sipush (v := 993) F dX7_init_5 8 rfl (by decide) ?_
  refine k_newa F dX7_init_8 10 rfl 0 (by decide) rfl q1194 (c := .inl (fun _ => 0)) (fun _ => rfl) (m + 1, 1, 0) (m := 993) rfl (by decide) (by omega) (by omega) (fun a0 g0 => ?_)
  refine kW.gen (fun h' => h' m = some ((m + 1, 0, 0), eO 21 [.null, .null, .null, .null, .null, .null, .int 0, .int 0, .int 0, .null, .int 0, .int 0, .int 0, .int 0, .int 0, .int 0, .int 0, .null, .null, .null, .null, .int 0, .int 0, .int 0, .null, .int 0]) ∧ h' a0 = some ((m + 1, 1, 0), eI 993 (fun _ => 0)) ∧ kKp (mOwn m) h h') ⟨kUp_nw g0 h0, kUp_self, hK.tr (kKp.new g0)⟩ (fun h9 H9 => ?_)
  obtain ⟨h0, f0, hK⟩ := H9
  refine k_putF (fs' := [_, _, _, _, _, _, _, _, _, _, _, _, _, _, _, _, _, _, _, _, _, _, _, _, _, _]) F kcX7 0 (by decide) (knX7 0) q3592 (fun _ e => e) rfl rfl rfl dX7_init_10 13 rfl h0 (by simp) rfl rfl (by simp) rfl ?_
  refine kW.gen (fun h' => h' m = some ((m + 1, 0, 0), eO 21 [.ref a0, .null, .null, .null, .null, .null, .int 0, .int 0, .int 0, .null, .int 0, .int 0, .int 0, .int 0, .int 0, .int 0, .int 0, .null, .null, .null, .null, .int 0, .int 0, .int 0, .null, .int 0]) ∧ h' a0 = some ((m + 1, 1, 0), eI 993 (fun _ => 0)) ∧ kKp (mOwn m) h h') ⟨kUp_self, kUp_tag h0 f0 (by simp), hK.tr (kKp.up h0 rfl)⟩ (fun h9 H9 => ?_)
  obtain ⟨h0, f0, hK⟩ := H9
  refine k_aload_n F dX7_init_13 14 rfl rfl rfl ?_
  refine k_sipush (v := 993) F dX7_init_14 17 rfl (by decide) ?_
  refine k_newa F dX7_init_17 19 rfl 0 (by decide) rfl q1194 (c := .inl (fun _ => 0)) (fun _ => rfl) (m + 1, 1, 1) (m := 993) rfl (by decide) (by omega) (by omega) (fun a1 g1 => ?_)
  refine kW.gen (fun h' => h' m = some ((m + 1, 0, 0), eO 21 [.ref a0, .null, .null, .null, .null, .null, .int 0, .int 0, .int 0, .null, .int 0, .int 0, .int 0, .int 0, .int 0, .int 0, .int 0, .null, .null, .null, .null, .int 0, .int 0, .int 0, .null, .int 0]) ∧ h' a0 = some ((m + 1, 1, 0), eI 993 (fun _ => 0)) ∧ h' a1 = some ((m + 1, 1, 1), eI 993 (fun _ => 0)) ∧ kKp (mOwn m) h h') ⟨kUp_nw g1 h0, kUp_nw g1 f0, kUp_self, hK.tr (kKp.new g1)⟩ (fun h9 H9 => ?_)
  obtain ⟨h0, f0, f1, hK⟩ := H9
  refine k_putF (fs' := [_, _, _, _, _, _, _, _, _, _, _, _, _, _, _, _, _, _, _, _, _, _, _, _, _, _]) F kcX7 1 (by decide) (knX7 1) q3593 (fun _ e => e) rfl rfl rfl dX7_init_19 22 rfl h0 (by simp) rfl rfl (by simp) rfl ?_
  refine kW.gen (fun h' => h' m = some ((m + 1, 0, 0), eO 21 [.ref a0, .ref a1, .null, .null, .null, .null, .int 0, .int 0, .int 0, .null, .int 0, .int 0, .int 0, .int 0, .int 0, .int 0, .int 0, .null, .null, .null, .null, .int 0, .int 0, .int 0, .null, .int 0]) ∧ h' a0 = some ((m + 1, 1, 0), eI 993 (fun _ => 0)) ∧ h' a1 = some ((m + 1, 1, 1), eI 993 (fun _ => 0)) ∧ kKp (mOwn m) h h') ⟨kUp_self, kUp_tag h0 f0 (by simp), kUp_tag h0 f1 (by simp), hK.tr (kKp.up h0 rfl)⟩ (fun h9 H9 => ?_)
  obtain ⟨h0, f0, f1, hK⟩ := H9
  refine k_aload_n F dX7_init_22 23 rfl rfl rfl ?_
  refine k_sipush (v := 993) F dX7_init_23 26 rfl (by decide) ?_
  refine k_newa F dX7_init_26 28 rfl 0 (by decide) rfl q1194 (c := .inl (fun _ => 0)) (fun _ => rfl) (m + 1, 1, 2) (m := 993) rfl (by decide) (by omega) (by omega) (fun a2 g2 => ?_)
  refine kW.gen (fun h' => h' m = some ((m + 1, 0, 0), eO 21 [.ref a0, .ref a1, .null, .null, .null, .null, .int 0, .int 0, .int 0, .null, .int 0, .int 0, .int 0, .int 0, .int 0, .int 0, .int 0, .null, .null, .null, .null, .int 0, .int 0, .int 0, .null, .int 0]) ∧ h' a0 = some ((m + 1, 1, 0), eI 993 (fun _ => 0)) ∧ h' a1 = some ((m + 1, 1, 1), eI 993 (fun _ => 0)) ∧ h' a2 = some ((m + 1, 1, 2), eI 993 (fun _ => 0)) ∧ kKp (mOwn m) h h') ⟨kUp_nw g2 h0, kUp_nw g2 f0, kUp_nw g2 f1, kUp_self, hK.tr (kKp.new g2)⟩ (fun h9 H9 => ?_)
  obtain ⟨h0, f0, f1, f2, hK⟩ := H9
  refine k_putF (fs' := [_, _, _, _, _, _, _, _, _, _, _, _, _, _, _, _, _, _, _, _, _, _, _, _, _, _]) F kcX7 2 (by decide) (knX7 2) q3594 (fun _ e => e) rfl rfl rfl dX7_init_28 31 rfl h0 (by simp) rfl rfl (by simp) rfl ?_
  refine kW.gen (fun h' => h' m = some ((m + 1, 0, 0), eO 21 [.ref a0, .ref a1, .ref a2, .null, .null, .null, .int 0, .int 0, .int 0, .null, .int 0, .int 0, .int 0, .int 0, .int 0, .int 0, .int 0, .null, .null, .null, .null, .int 0, .int 0, .int 0, .null, .int 0]) ∧ h' a0 = some ((m + 1, 1, 0), eI 993 (fun _ => 0)) ∧ h' a1 = some ((m + 1, 1, 1), eI 993 (fun _ => 0)) ∧ h' a2 = some ((m + 1, 1, 2), eI 993 (fun _ => 0)) ∧ kKp (mOwn m) h h') ⟨kUp_self, kUp_tag h0 f0 (by simp), kUp_tag h0 f1 (by simp), kUp_tag h0 f2 (by simp), hK.tr (kKp.up h0 rfl)⟩ (fun h9 H9 => ?_)
  obtain ⟨h0, f0, f1, f2, hK⟩ := H9
  refine k_aload_n F dX7_init_31 32 rfl rfl rfl ?_
  refine k_sipush (v := 7944) F dX7_init_32 35 rfl (by decide) ?_
  refine k_newa F dX7_init_35 37 rfl 0 (by decide) rfl q1194 (c := .inl (fun _ => 0)) (fun _ => rfl) (m + 1, 1, 3) (m := 7944) rfl (by decide) (by omega) (by omega) (fun a3 g3 => ?_)
  refine kW.gen (fun h' => h' m = some ((m + 1, 0, 0), eO 21 [.ref a0, .ref a1, .ref a2, .null, .null, .null, .int 0, .int 0, .int 0, .null, .int 0, .int 0, .int 0, .int 0, .int 0, .int 0, .int 0, .null, .null, .null, .null, .int 0, .int 0, .int 0, .null, .int 0]) ∧ h' a0 = some ((m + 1, 1, 0), eI 993 (fun _ => 0)) ∧ h' a1 = some ((m + 1, 1, 1), eI 993 (fun _ => 0)) ∧ h' a2 = some ((m + 1, 1, 2), eI 993 (fun _ => 0)) ∧ h' a3 = some ((m + 1, 1, 3), eI 7944 (fun _ => 0)) ∧ kKp (mOwn m) h h') ⟨kUp_nw g3 h0, kUp_nw g3 f0, kUp_nw g3 f1, kUp_nw g3 f2, kUp_self, hK.tr (kKp.new g3)⟩ (fun h9 H9 => ?_)
  obtain ⟨h0, f0, f1, f2, f3, hK⟩ := H9
  refine k_putF (fs' := [_, _, _, _, _, _, _, _, _, _, _, _, _, _, _, _, _, _, _, _, _, _, _, _, _, _]) F kcX7 3 (by decide) (knX7 3) q3595 (fun _ e => e) rfl rfl rfl dX7_init_37 40 rfl h0 (by simp) rfl rfl (by simp) rfl ?_
  refine kW.gen (fun h' => h' m = some ((m + 1, 0, 0), eO 21 [.ref a0, .ref a1, .ref a2, .ref a3, .null, .null, .int 0, .int 0, .int 0, .null, .int 0, .int 0, .int 0, .int 0, .int 0, .int 0, .int 0, .null, .null, .null, .null, .int 0, .int 0, .int 0, .null, .int 0]) ∧ h' a0 = some ((m + 1, 1, 0), eI 993 (fun _ => 0)) ∧ h' a1 = some ((m + 1, 1, 1), eI 993 (fun _ => 0)) ∧ h' a2 = some ((m + 1, 1, 2), eI 993 (fun _ => 0)) ∧ h' a3 = some ((m + 1, 1, 3), eI 7944 (fun _ => 0)) ∧ kKp (mOwn m) h h') ⟨kUp_self, kUp_tag h0 f0 (by simp), kUp_tag h0 f1 (by simp), kUp_tag h0 f2 (by simp), kUp_tag h0 f3 (by simp), hK.tr (kKp.up h0 rfl)⟩ (fun h9 H9 => ?_)
  obtain ⟨h0, f0, f1, f2, f3, hK⟩ := H9
  refine k_aload_n F dX7_init_40 41 rfl rfl rfl ?_
  refine k_sipush (v := 1986) F dX7_init_41 44 rfl (by decide) ?_
  refine k_newa F dX7_init_44 46 rfl 0 (by decide) rfl q1194 (c := .inl (fun _ => 0)) (fun _ => rfl) (m + 1, 1, 4) (m := 1986) rfl (by decide) (by omega) (by omega) (fun a4 g4 => ?_)
  refine kW.gen (fun h' => h' m = some ((m + 1, 0, 0), eO 21 [.ref a0, .ref a1, .ref a2, .ref a3, .null, .null, .int 0, .int 0, .int 0, .null, .int 0, .int 0, .int 0, .int 0, .int 0, .int 0, .int 0, .null, .null, .null, .null, .int 0, .int 0, .int 0, .null, .int 0]) ∧ h' a0 = some ((m + 1, 1, 0), eI 993 (fun _ => 0)) ∧ h' a1 = some ((m + 1, 1, 1), eI 993 (fun _ => 0)) ∧ h' a2 = some ((m + 1, 1, 2), eI 993 (fun _ => 0)) ∧ h' a3 = some ((m + 1, 1, 3), eI 7944 (fun _ => 0)) ∧ h' a4 = some ((m + 1, 1, 4), eI 1986 (fun _ => 0)) ∧ kKp (mOwn m) h h') ⟨kUp_nw g4 h0, kUp_nw g4 f0, kUp_nw g4 f1, kUp_nw g4 f2, kUp_nw g4 f3, kUp_self, hK.tr (kKp.new g4)⟩ (fun h9 H9 => ?_)
  obtain ⟨h0, f0, f1, f2, f3, f4, hK⟩ := H9
  refine k_putF (fs' := [_, _, _, _, _, _, _, _, _, _, _, _, _, _, _, _, _, _, _, _, _, _, _, _, _, _]) F kcX7 4 (by decide) (knX7 4) q3596 (fun _ e => e) rfl rfl rfl dX7_init_46 49 rfl h0 (by simp) rfl rfl (by simp) rfl ?_
  refine kW.gen (fun h' => h' m = some ((m + 1, 0, 0), eO 21 [.ref a0, .ref a1, .ref a2, .ref a3, .ref a4, .null, .int 0, .int 0, .int 0, .null, .int 0, .int 0, .int 0, .int 0, .int 0, .int 0, .int 0, .null, .null, .null, .null, .int 0, .int 0, .int 0, .null, .int 0]) ∧ h' a0 = some ((m + 1, 1, 0), eI 993 (fun _ => 0)) ∧ h' a1 = some ((m + 1, 1, 1), eI 993 (fun _ => 0)) ∧ h' a2 = some ((m + 1, 1, 2), eI 993 (fun _ => 0)) ∧ h' a3 = some ((m + 1, 1, 3), eI 7944 (fun _ => 0)) ∧ h' a4 = some ((m + 1, 1, 4), eI 1986 (fun _ => 0)) ∧ kKp (mOwn m) h h') ⟨kUp_self, kUp_tag h0 f0 (by simp), kUp_tag h0 f1 (by simp), kUp_tag h0 f2 (by simp), kUp_tag h0 f3 (by simp), kUp_tag h0 f4 (by simp), hK.tr (kKp.up h0 rfl)⟩ (fun h9 H9 => ?_)
  obtain ⟨h0, f0, f1, f2, f3, f4, hK⟩ := H9
  refine k_aload_n F dX7_init_49 50 rfl rfl rfl ?_
  refine k_iconst (v := 2) F dX7_init_50 51 rfl (by decide) ?_
  refine k_newa F dX7_init_51 53 rfl 3 (by decide) rfl q3671 (c := .inl (fun _ => 0)) (fun _ => rfl) (m + 1, 1, 5) (m := 2) rfl (by decide) (by omega) (by omega) (fun a5 g5 => ?_)
  refine kW.gen (fun h' => h' m = some ((m + 1, 0, 0), eO 21 [.ref a0, .ref a1, .ref a2, .ref a3, .ref a4, .null, .int 0, .int 0, .int 0, .null, .int 0, .int 0, .int 0, .int 0, .int 0, .int 0, .int 0, .null, .null, .null, .null, .int 0, .int 0, .int 0, .null, .int 0]) ∧ h' a0 = some ((m + 1, 1, 0), eI 993 (fun _ => 0)) ∧ h' a1 = some ((m + 1, 1, 1), eI 993 (fun _ => 0)) ∧ h' a2 = some ((m + 1, 1, 2), eI 993 (fun _ => 0)) ∧ h' a3 = some ((m + 1, 1, 3), eI 7944 (fun _ => 0)) ∧ h' a4 = some ((m + 1, 1, 4), eI 1986 (fun _ => 0)) ∧ h' a5 = some ((m + 1, 1, 5), eZ 2 (fun _ => 0)) ∧ kKp (mOwn m) h h') ⟨kUp_nw g5 h0, kUp_nw g5 f0, kUp_nw g5 f1, kUp_nw g5 f2, kUp_nw g5 f3, kUp_nw g5 f4, kUp_self, hK.tr (kKp.new g5)⟩ (fun h9 H9 => ?_)
  obtain ⟨h0, f0, f1, f2, f3, f4, f5, hK⟩ := H9
  refine k_putF (fs' := [_, _, _, _, _, _, _, _, _, _, _, _, _, _, _, _, _, _, _, _, _, _, _, _, _, _]) F kcX7 5 (by decide) (knX7 5) q3597 (fun _ e => e) rfl rfl rfl dX7_init_53 56 rfl h0 (by simp) rfl rfl (by simp) rfl ?_
  refine kW.gen (fun h' => h' m = some ((m + 1, 0, 0), eO 21 [.ref a0, .ref a1, .ref a2, .ref a3, .ref a4, .ref a5, .int 0, .int 0, .int 0, .null, .int 0, .int 0, .int 0, .int 0, .int 0, .int 0, .int 0, .null, .null, .null, .null, .int 0, .int 0, .int 0, .null, .int 0]) ∧ h' a0 = some ((m + 1, 1, 0), eI 993 (fun _ => 0)) ∧ h' a1 = some ((m + 1, 1, 1), eI 993 (fun _ => 0)) ∧ h' a2 = some ((m + 1, 1, 2), eI 993 (fun _ => 0)) ∧ h' a3 = some ((m + 1, 1, 3), eI 7944 (fun _ => 0)) ∧ h' a4 = some ((m + 1, 1, 4), eI 1986 (fun _ => 0)) ∧ h' a5 = some ((m + 1, 1, 5), eZ 2 (fun _ => 0)) ∧ kKp (mOwn m) h h') ⟨kUp_self, kUp_tag h0 f0 (by simp), kUp_tag h0 f1 (by simp), kUp_tag h0 f2 (by simp), kUp_tag h0 f3 (by simp), kUp_tag h0 f4 (by simp), kUp_tag h0 f5 (by simp), hK.tr (kKp.up h0 rfl)⟩ (fun h9 H9 => ?_)
  obtain ⟨h0, f0, f1, f2, f3, f4, f5, hK⟩ := H9
  refine k_aload_n F dX7_init_56 57 rfl rfl rfl ?_
  refine k_sipush (v := 600) F dX7_init_57 60 rfl (by decide) ?_
  refine k_newa F dX7_init_60 62 rfl 0 (by decide) rfl q1194 (c := .inl (fun _ => 0)) (fun _ => rfl) (m + 1, 1, 9) (m := 600) rfl (by decide) (by omega) (by omega) (fun a9 g9 => ?_)
  refine kW.gen (fun h' => h' m = some ((m + 1, 0, 0), eO 21 [.ref a0, .ref a1, .ref a2, .ref a3, .ref a4, .ref a5, .int 0, .int 0, .int 0, .null, .int 0, .int 0, .int 0, .int 0, .int 0, .int 0, .int 0, .null, .null, .null, .null, .int 0, .int 0, .int 0, .null, .int 0]) ∧ h' a0 = some ((m + 1, 1, 0), eI 993 (fun _ => 0)) ∧ h' a1 = some ((m + 1, 1, 1), eI 993 (fun _ => 0)) ∧ h' a2 = some ((m + 1, 1, 2), eI 993 (fun _ => 0)) ∧ h' a3 = some ((m + 1, 1, 3), eI 7944 (fun _ => 0)) ∧ h' a4 = some ((m + 1, 1, 4), eI 1986 (fun _ => 0)) ∧ h' a5 = some ((m + 1, 1, 5), eZ 2 (fun _ => 0)) ∧ h' a9 = some ((m + 1, 1, 9), eI 600 (fun _ => 0)) ∧ kKp (mOwn m) h h') ⟨kUp_nw g9 h0, kUp_nw g9 f0, kUp_nw g9 f1, kUp_nw g9 f2, kUp_nw g9 f3, kUp_nw g9 f4, kUp_nw g9 f5, kUp_self, hK.tr (kKp.new g9)⟩ (fun h9 H9 => ?_)
  obtain ⟨h0, f0, f1, f2, f3, f4, f5, f9, hK⟩ := H9
  refine k_putF (fs' := [_, _, _, _, _, _, _, _, _, _, _, _, _, _, _, _, _, _, _, _, _, _, _, _, _, _]) F kcX7 9 (by decide) (knX7 9) q3601 (fun _ e => e) rfl rfl rfl dX7_init_62 65 rfl h0 (by simp) rfl rfl (by simp) rfl ?_
  refine kW.gen (fun h' => h' m = some ((m + 1, 0, 0), eO 21 [.ref a0, .ref a1, .ref a2, .ref a3, .ref a4, .ref a5, .int 0, .int 0, .int 0, .ref a9, .int 0, .int 0, .int 0, .int 0, .int 0, .int 0, .int 0, .null, .null, .null, .null, .int 0, .int 0, .int 0, .null, .int 0]) ∧ h' a0 = some ((m + 1, 1, 0), eI 993 (fun _ => 0)) ∧ h' a1 = some ((m + 1, 1, 1), eI 993 (fun _ => 0)) ∧ h' a2 = some ((m + 1, 1, 2), eI 993 (fun _ => 0)) ∧ h' a3 = some ((m + 1, 1, 3), eI 7944 (fun _ => 0)) ∧ h' a4 = some ((m + 1, 1, 4), eI 1986 (fun _ => 0)) ∧ h' a5 = some ((m + 1, 1, 5), eZ 2 (fun _ => 0)) ∧ h' a9 = some ((m + 1, 1, 9), eI 600 (fun _ => 0)) ∧ kKp (mOwn m) h h') ⟨kUp_self, kUp_tag h0 f0 (by simp), kUp_tag h0 f1 (by simp), kUp_tag h0 f2 (by simp), kUp_tag h0 f3 (by simp), kUp_tag h0 f4 (by simp), kUp_tag h0 f5 (by simp), kUp_tag h0 f9 (by simp), hK.tr (kKp.up h0 rfl)⟩ (fun h9 H9 => ?_)
  obtain ⟨h0, f0, f1, f2, f3, f4, f5, f9, hK⟩ := H9
  refine k_aload_n F dX7_init_65 66 rfl rfl rfl ?_
  refine k_iconst (v := (-1)) F dX7_init_66 67 rfl (by decide) ?_
  refine k_put (fs' := [_, _, _, _, _, _, _, _, _, _, _, _, _, _, _, _, _, _, _, _, _, _, _, _, _, _]) F kcX7 11 (by decide) (knX7 11) q3603 (fun _ e => e) rfl dX7_init_67 70 rfl h0 (by simp) rfl rfl (by simp) rfl ?_
  refine kW.gen (fun h' => h' m = some ((m + 1, 0, 0), eO 21 [.ref a0, .ref a1, .ref a2, .ref a3, .ref a4, .ref a5, .int 0, .int 0, .int 0, .ref a9, .int 0, .int (-1), .int 0, .int 0, .int 0, .int 0, .int 0, .null, .null, .null, .null, .int 0, .int 0, .int 0, .null, .int 0]) ∧ h' a0 = some ((m + 1, 1, 0), eI 993 (fun _ => 0)) ∧ h' a1 = some ((m + 1, 1, 1), eI 993 (fun _ => 0)) ∧ h' a2 = some ((m + 1, 1, 2), eI 993 (fun _ => 0)) ∧ h' a3 = some ((m + 1, 1, 3), eI 7944 (fun _ => 0)) ∧ h' a4 = some ((m + 1, 1, 4), eI 1986 (fun _ => 0)) ∧ h' a5 = some ((m + 1, 1, 5), eZ 2 (fun _ => 0)) ∧ h' a9 = some ((m + 1, 1, 9), eI 600 (fun _ => 0)) ∧ kKp (mOwn m) h h') ⟨kUp_self, kUp_tag h0 f0 (by simp), kUp_tag h0 f1 (by simp), kUp_tag h0 f2 (by simp), kUp_tag h0 f3 (by simp), kUp_tag h0 f4 (by simp), kUp_tag h0 f5 (by simp), kUp_tag h0 f9 (by simp), hK.tr (kKp.up h0 rfl)⟩ (fun h9 H9 => ?_)
  obtain ⟨h0, f0, f1, f2, f3, f4, f5, f9, hK⟩ := H9
  refine k_aload_n F dX7_init_70 71 rfl rfl rfl ?_
  refine k_bipush (v := 30) F dX7_init_71 73 rfl (by decide) ?_
  refine k_newa F dX7_init_73 75 rfl 0 (by decide) rfl q1194 (c := .inl (fun _ => 0)) (fun _ => rfl) (m + 1, 1, 17) (m := 30) rfl (by decide) (by omega) (by omega) (fun a17 g17 => ?_)
  refine kW.gen (fun h' => h' m = some ((m + 1, 0, 0), eO 21 [.ref a0, .ref a1, .ref a2, .ref a3, .ref a4, .ref a5, .int 0, .int 0, .int 0, .ref a9, .int 0, .int (-1), .int 0, .int 0, .int 0, .int 0, .int 0, .null, .null, .null, .null, .int 0, .int 0, .int 0, .null, .int 0]) ∧ h' a0 = some ((m + 1, 1, 0), eI 993 (fun _ => 0)) ∧ h' a1 = some ((m + 1, 1, 1), eI 993 (fun _ => 0)) ∧ h' a2 = some ((m + 1, 1, 2), eI 993 (fun _ => 0)) ∧ h' a3 = some ((m + 1, 1, 3), eI 7944 (fun _ => 0)) ∧ h' a4 = some ((m + 1, 1, 4), eI 1986 (fun _ => 0)) ∧ h' a5 = some ((m + 1, 1, 5), eZ 2 (fun _ => 0)) ∧ h' a9 = some ((m + 1, 1, 9), eI 600 (fun _ => 0)) ∧ h' a17 = some ((m + 1, 1, 17), eI 30 (fun _ => 0)) ∧ kKp (mOwn m) h h') ⟨kUp_nw g17 h0, kUp_nw g17 f0, kUp_nw g17 f1, kUp_nw g17 f2, kUp_nw g17 f3, kUp_nw g17 f4, kUp_nw g17 f5, kUp_nw g17 f9, kUp_self, hK.tr (kKp.new g17)⟩ (fun h9 H9 => ?_)
  obtain ⟨h0, f0, f1, f2, f3, f4, f5, f9, f17, hK⟩ := H9
  refine k_putF (fs' := [_, _, _, _, _, _, _, _, _, _, _, _, _, _, _, _, _, _, _, _, _, _, _, _, _, _]) F kcX7 17 (by decide) (knX7 17) q3609 (fun _ e => e) rfl rfl rfl dX7_init_75 78 rfl h0 (by simp) rfl rfl (by simp) rfl ?_
  refine kW.gen (fun h' => h' m = some ((m + 1, 0, 0), eO 21 [.ref a0, .ref a1, .ref a2, .ref a3, .ref a4, .ref a5, .int 0, .int 0, .int 0, .ref a9, .int 0, .int (-1), .int 0, .int 0, .int 0, .int 0, .int 0, .ref a17, .null, .null, .null, .int 0, .int 0, .int 0, .null, .int 0]) ∧ h' a0 = some ((m + 1, 1, 0), eI 993 (fun _ => 0)) ∧ h' a1 = some ((m + 1, 1, 1), eI 993 (fun _ => 0)) ∧ h' a2 = some ((m + 1, 1, 2), eI 993 (fun _ => 0)) ∧ h' a3 = some ((m + 1, 1, 3), eI 7944 (fun _ => 0)) ∧ h' a4 = some ((m + 1, 1, 4), eI 1986 (fun _ => 0)) ∧ h' a5 = some ((m + 1, 1, 5), eZ 2 (fun _ => 0)) ∧ h' a9 = some ((m + 1, 1, 9), eI 600 (fun _ => 0)) ∧ h' a17 = some ((m + 1, 1, 17), eI 30 (fun _ => 0)) ∧ kKp (mOwn m) h h') ⟨kUp_self, kUp_tag h0 f0 (by simp), kUp_tag h0 f1 (by simp), kUp_tag h0 f2 (by simp), kUp_tag h0 f3 (by simp), kUp_tag h0 f4 (by simp), kUp_tag h0 f5 (by simp), kUp_tag h0 f9 (by simp), kUp_tag h0 f17 (by simp), hK.tr (kKp.up h0 rfl)⟩ (fun h9 H9 => ?_)
  obtain ⟨h0, f0, f1, f2, f3, f4, f5, f9, f17, hK⟩ := H9
  refine k_aload_n F dX7_init_78 79 rfl rfl rfl ?_
  refine k_bipush (v := 30) F dX7_init_79 81 rfl (by decide) ?_
  refine k_newa F dX7_init_81 83 rfl 0 (by decide) rfl q1194 (c := .inl (fun _ => 0)) (fun _ => rfl) (m + 1, 1, 18) (m := 30) rfl (by decide) (by omega) (by omega) (fun a18 g18 => ?_)
  refine kW.gen (fun h' => h' m = some ((m + 1, 0, 0), eO 21 [.ref a0, .ref a1, .ref a2, .ref a3, .ref a4, .ref a5, .int 0, .int 0, .int 0, .ref a9, .int 0, .int (-1), .int 0, .int 0, .int 0, .int 0, .int 0, .ref a17, .null, .null, .null, .int 0, .int 0, .int 0, .null, .int 0]) ∧ h' a0 = some ((m + 1, 1, 0), eI 993 (fun _ => 0)) ∧ h' a1 = some ((m + 1, 1, 1), eI 993 (fun _ => 0)) ∧ h' a2 = some ((m + 1, 1, 2), eI 993 (fun _ => 0)) ∧ h' a3 = some ((m + 1, 1, 3), eI 7944 (fun _ => 0)) ∧ h' a4 = some ((m + 1, 1, 4), eI 1986 (fun _ => 0)) ∧ h' a5 = some ((m + 1, 1, 5), eZ 2 (fun _ => 0)) ∧ h' a9 = some ((m + 1, 1, 9), eI 600 (fun _ => 0)) ∧ h' a17 = some ((m + 1, 1, 17), eI 30 (fun _ => 0)) ∧ h' a18 = some ((m + 1, 1, 18), eI 30 (fun _ => 0)) ∧ kKp (mOwn m) h h') ⟨kUp_nw g18 h0, kUp_nw g18 f0, kUp_nw g18 f1, kUp_nw g18 f2, kUp_nw g18 f3, kUp_nw g18 f4, kUp_nw g18 f5, kUp_nw g18 f9, kUp_nw g18 f17, kUp_self, hK.tr (kKp.new g18)⟩ (fun h9 H9 => ?_)
  obtain ⟨h0, f0, f1, f2, f3, f4, f5, f9, f17, f18, hK⟩ := H9
  refine k_putF (fs' := [_, _, _, _, _, _, _, _, _, _, _, _, _, _, _, _, _, _, _, _, _, _, _, _, _, _]) F kcX7 18 (by decide) (knX7 18) q3610 (fun _ e => e) rfl rfl rfl dX7_init_83 86 rfl h0 (by simp) rfl rfl (by simp) rfl ?_
  refine kW.gen (fun h' => h' m = some ((m + 1, 0, 0), eO 21 [.ref a0, .ref a1, .ref a2, .ref a3, .ref a4, .ref a5, .int 0, .int 0, .int 0, .ref a9, .int 0, .int (-1), .int 0, .int 0, .int 0, .int 0, .int 0, .ref a17, .ref a18, .null, .null, .int 0, .int 0, .int 0, .null, .int 0]) ∧ h' a0 = some ((m + 1, 1, 0), eI 993 (fun _ => 0)) ∧ h' a1 = some ((m + 1, 1, 1), eI 993 (fun _ => 0)) ∧ h' a2 = some ((m + 1, 1, 2), eI 993 (fun _ => 0)) ∧ h' a3 = some ((m + 1, 1, 3), eI 7944 (fun _ => 0)) ∧ h' a4 = some ((m + 1, 1, 4), eI 1986 (fun _ => 0)) ∧ h' a5 = some ((m + 1, 1, 5), eZ 2 (fun _ => 0)) ∧ h' a9 = some ((m + 1, 1, 9), eI 600 (fun _ => 0)) ∧ h' a17 = some ((m + 1, 1, 17), eI 30 (fun _ => 0)) ∧ h' a18 = some ((m + 1, 1, 18), eI 30 (fun _ => 0)) ∧ kKp (mOwn m) h h') ⟨kUp_self, kUp_tag h0 f0 (by simp), kUp_tag h0 f1 (by simp), kUp_tag h0 f2 (by simp), kUp_tag h0 f3 (by simp), kUp_tag h0 f4 (by simp), kUp_tag h0 f5 (by simp), kUp_tag h0 f9 (by simp), kUp_tag h0 f17 (by simp), kUp_tag h0 f18 (by simp), hK.tr (kKp.up h0 rfl)⟩ (fun h9 H9 => ?_)
  obtain ⟨h0, f0, f1, f2, f3, f4, f5, f9, f17, f18, hK⟩ := H9
  refine k_aload_n F dX7_init_86 87 rfl rfl rfl ?_
  refine k_bipush (v := 30) F dX7_init_87 89 rfl (by decide) ?_
  refine k_newa F dX7_init_89 91 rfl 0 (by decide) rfl q1194 (c := .inl (fun _ => 0)) (fun _ => rfl) (m + 1, 1, 19) (m := 30) rfl (by decide) (by omega) (by omega) (fun a19 g19 => ?_)
  refine kW.gen (fun h' => h' m = some ((m + 1, 0, 0), eO 21 [.ref a0, .ref a1, .ref a2, .ref a3, .ref a4, .ref a5, .int 0, .int 0, .int 0, .ref a9, .int 0, .int (-1), .int 0, .int 0, .int 0, .int 0, .int 0, .ref a17, .ref a18, .null, .null, .int 0, .int 0, .int 0, .null, .int 0]) ∧ h' a0 = some ((m + 1, 1, 0), eI 993 (fun _ => 0)) ∧ h' a1 = some ((m + 1, 1, 1), eI 993 (fun _ => 0)) ∧ h' a2 = some ((m + 1, 1, 2), eI 993 (fun _ => 0)) ∧ h' a3 = some ((m + 1, 1, 3), eI 7944 (fun _ => 0)) ∧ h' a4 = some ((m + 1, 1, 4), eI 1986 (fun _ => 0)) ∧ h' a5 = some ((m + 1, 1, 5), eZ 2 (fun _ => 0)) ∧ h' a9 = some ((m + 1, 1, 9), eI 600 (fun _ => 0)) ∧ h' a17 = some ((m + 1, 1, 17), eI 30 (fun _ => 0)) ∧ h' a18 = some ((m + 1, 1, 18), eI 30 (fun _ => 0)) ∧ h' a19 = some ((m + 1, 1, 19), eI 30 (fun _ => 0)) ∧ kKp (mOwn m) h h') ⟨kUp_nw g19 h0, kUp_nw g19 f0, kUp_nw g19 f1, kUp_nw g19 f2, kUp_nw g19 f3, kUp_nw g19 f4, kUp_nw g19 f5, kUp_nw g19 f9, kUp_nw g19 f17, kUp_nw g19 f18, kUp_self, hK.tr (kKp.new g19)⟩ (fun h9 H9 => ?_)
  obtain ⟨h0, f0, f1, f2, f3, f4, f5, f9, f17, f18, f19, hK⟩ := H9
  refine k_putF (fs' := [_, _, _, _, _, _, _, _, _, _, _, _, _, _, _, _, _, _, _, _, _, _, _, _, _, _]) F kcX7 19 (by decide) (knX7 19) q3611 (fun _ e => e) rfl rfl rfl dX7_init_91 94 rfl h0 (by simp) rfl rfl (by simp) rfl ?_
  refine kW.gen (fun h' => h' m = some ((m + 1, 0, 0), eO 21 [.ref a0, .ref a1, .ref a2, .ref a3, .ref a4, .ref a5, .int 0, .int 0, .int 0, .ref a9, .int 0, .int (-1), .int 0, .int 0, .int 0, .int 0, .int 0, .ref a17, .ref a18, .ref a19, .null, .int 0, .int 0, .int 0, .null, .int 0]) ∧ h' a0 = some ((m + 1, 1, 0), eI 993 (fun _ => 0)) ∧ h' a1 = some ((m + 1, 1, 1), eI 993 (fun _ => 0)) ∧ h' a2 = some ((m + 1, 1, 2), eI 993 (fun _ => 0)) ∧ h' a3 = some ((m + 1, 1, 3), eI 7944 (fun _ => 0)) ∧ h' a4 = some ((m + 1, 1, 4), eI 1986 (fun _ => 0)) ∧ h' a5 = some ((m + 1, 1, 5), eZ 2 (fun _ => 0)) ∧ h' a9 = some ((m + 1, 1, 9), eI 600 (fun _ => 0)) ∧ h' a17 = some ((m + 1, 1, 17), eI 30 (fun _ => 0)) ∧ h' a18 = some ((m + 1, 1, 18), eI 30 (fun _ => 0)) ∧ h' a19 = some ((m + 1, 1, 19), eI 30 (fun _ => 0)) ∧ kKp (mOwn m) h h') ⟨kUp_self, kUp_tag h0 f0 (by simp), kUp_tag h0 f1 (by simp), kUp_tag h0 f2 (by simp), kUp_tag h0 f3 (by simp), kUp_tag h0 f4 (by simp), kUp_tag h0 f5 (by simp), kUp_tag h0 f9 (by simp), kUp_tag h0 f17 (by simp), kUp_tag h0 f18 (by simp), kUp_tag h0 f19 (by simp), hK.tr (kKp.up h0 rfl)⟩ (fun h9 H9 => ?_)
  obtain ⟨h0, f0, f1, f2, f3, f4, f5, f9, f17, f18, f19, hK⟩ := H9
  refine k_aload_n F dX7_init_94 95 rfl rfl rfl ?_
  refine k_bipush (v := 30) F dX7_init_95 97 rfl (by decide) ?_
  refine k_newa F dX7_init_97 99 rfl 0 (by decide) rfl q1194 (c := .inl (fun _ => 0)) (fun _ => rfl) (m + 1, 1, 20) (m := 30) rfl (by decide) (by omega) (by omega) (fun a20 g20 => ?_)
  refine kW.gen (fun h' => h' m = some ((m + 1, 0, 0), eO 21 [.ref a0, .ref a1, .ref a2, .ref a3, .ref a4, .ref a5, .int 0, .int 0, .int 0, .ref a9, .int 0, .int (-1), .int 0, .int 0, .int 0, .int 0, .int 0, .ref a17, .ref a18, .ref a19, .null, .int 0, .int 0, .int 0, .null, .int 0]) ∧ h' a0 = some ((m + 1, 1, 0), eI 993 (fun _ => 0)) ∧ h' a1 = some ((m + 1, 1, 1), eI 993 (fun _ => 0)) ∧ h' a2 = some ((m + 1, 1, 2), eI 993 (fun _ => 0)) ∧ h' a3 = some ((m + 1, 1, 3), eI 7944 (fun _ => 0)) ∧ h' a4 = some ((m + 1, 1, 4), eI 1986 (fun _ => 0)) ∧ h' a5 = some ((m + 1, 1, 5), eZ 2 (fun _ => 0)) ∧ h' a9 = some ((m + 1, 1, 9), eI 600 (fun _ => 0)) ∧ h' a17 = some ((m + 1, 1, 17), eI 30 (fun _ => 0)) ∧ h' a18 = some ((m + 1, 1, 18), eI 30 (fun _ => 0)) ∧ h' a19 = some ((m + 1, 1, 19), eI 30 (fun _ => 0)) ∧ h' a20 = some ((m + 1, 1, 20), eI 30 (fun _ => 0)) ∧ kKp (mOwn m) h h') ⟨kUp_nw g20 h0, kUp_nw g20 f0, kUp_nw g20 f1, kUp_nw g20 f2, kUp_nw g20 f3, kUp_nw g20 f4, kUp_nw g20 f5, kUp_nw g20 f9, kUp_nw g20 f17, kUp_nw g20 f18, kUp_nw g20 f19, kUp_self, hK.tr (kKp.new g20)⟩ (fun h9 H9 => ?_)
  obtain ⟨h0, f0, f1, f2, f3, f4, f5, f9, f17, f18, f19, f20, hK⟩ := H9
  refine k_putF (fs' := [_, _, _, _, _, _, _, _, _, _, _, _, _, _, _, _, _, _, _, _, _, _, _, _, _, _]) F kcX7 20 (by decide) (knX7 20) q3612 (fun _ e => e) rfl rfl rfl dX7_init_99 102 rfl h0 (by simp) rfl rfl (by simp) rfl ?_
  refine kW.gen (fun h' => h' m = some ((m + 1, 0, 0), eO 21 [.ref a0, .ref a1, .ref a2, .ref a3, .ref a4, .ref a5, .int 0, .int 0, .int 0, .ref a9, .int 0, .int (-1), .int 0, .int 0, .int 0, .int 0, .int 0, .ref a17, .ref a18, .ref a19, .ref a20, .int 0, .int 0, .int 0, .null, .int 0]) ∧ h' a0 = some ((m + 1, 1, 0), eI 993 (fun _ => 0)) ∧ h' a1 = some ((m + 1, 1, 1), eI 993 (fun _ => 0)) ∧ h' a2 = some ((m + 1, 1, 2), eI 993 (fun _ => 0)) ∧ h' a3 = some ((m + 1, 1, 3), eI 7944 (fun _ => 0)) ∧ h' a4 = some ((m + 1, 1, 4), eI 1986 (fun _ => 0)) ∧ h' a5 = some ((m + 1, 1, 5), eZ 2 (fun _ => 0)) ∧ h' a9 = some ((m + 1, 1, 9), eI 600 (fun _ => 0)) ∧ h' a17 = some ((m + 1, 1, 17), eI 30 (fun _ => 0)) ∧ h' a18 = some ((m + 1, 1, 18), eI 30 (fun _ => 0)) ∧ h' a19 = some ((m + 1, 1, 19), eI 30 (fun _ => 0)) ∧ h' a20 = some ((m + 1, 1, 20), eI 30 (fun _ => 0)) ∧ kKp (mOwn m) h h') ⟨kUp_self, kUp_tag h0 f0 (by simp), kUp_tag h0 f1 (by simp), kUp_tag h0 f2 (by simp), kUp_tag h0 f3 (by simp), kUp_tag h0 f4 (by simp), kUp_tag h0 f5 (by simp), kUp_tag h0 f9 (by simp), kUp_tag h0 f17 (by simp), kUp_tag h0 f18 (by simp), kUp_tag h0 f19 (by simp), kUp_tag h0 f20 (by simp), hK.tr (kKp.up h0 rfl)⟩ (fun h9 H9 => ?_)
  obtain ⟨h0, f0, f1, f2, f3, f4, f5, f9, f17, f18, f19, f20, hK⟩ := H9
  refine k_aload_n F dX7_init_102 103 rfl rfl rfl ?_
  refine k_sipush (v := 500) F dX7_init_103 106 rfl (by decide) ?_
  refine k_newa F dX7_init_106 108 rfl 0 (by decide) rfl q1194 (c := .inl (fun _ => 0)) (fun _ => rfl) (m + 1, 1, 24) (m := 500) rfl (by decide) (by omega) (by omega) (fun a24 g24 => ?_)
  refine kW.gen (fun h' => h' m = some ((m + 1, 0, 0), eO 21 [.ref a0, .ref a1, .ref a2, .ref a3, .ref a4, .ref a5, .int 0, .int 0, .int 0, .ref a9, .int 0, .int (-1), .int 0, .int 0, .int 0, .int 0, .int 0, .ref a17, .ref a18, .ref a19, .ref a20, .int 0, .int 0, .int 0, .null, .int 0]) ∧ h' a0 = some ((m + 1, 1, 0), eI 993 (fun _ => 0)) ∧ h' a1 = some ((m + 1, 1, 1), eI 993 (fun _ => 0)) ∧ h' a2 = some ((m + 1, 1, 2), eI 993 (fun _ => 0)) ∧ h' a3 = some ((m + 1, 1, 3), eI 7944 (fun _ => 0)) ∧ h' a4 = some ((m + 1, 1, 4), eI 1986 (fun _ => 0)) ∧ h' a5 = some ((m + 1, 1, 5), eZ 2 (fun _ => 0)) ∧ h' a9 = some ((m + 1, 1, 9), eI 600 (fun _ => 0)) ∧ h' a17 = some ((m + 1, 1, 17), eI 30 (fun _ => 0)) ∧ h' a18 = some ((m + 1, 1, 18), eI 30 (fun _ => 0)) ∧ h' a19 = some ((m + 1, 1, 19), eI 30 (fun _ => 0)) ∧ h' a20 = some ((m + 1, 1, 20), eI 30 (fun _ => 0)) ∧ h' a24 = some ((m + 1, 1, 24), eI 500 (fun _ => 0)) ∧ kKp (mOwn m) h h') ⟨kUp_nw g24 h0, kUp_nw g24 f0, kUp_nw g24 f1, kUp_nw g24 f2, kUp_nw g24 f3, kUp_nw g24 f4, kUp_nw g24 f5, kUp_nw g24 f9, kUp_nw g24 f17, kUp_nw g24 f18, kUp_nw g24 f19, kUp_nw g24 f20, kUp_self, hK.tr (kKp.new g24)⟩ (fun h9 H9 => ?_)
  obtain ⟨h0, f0, f1, f2, f3, f4, f5, f9, f17, f18, f19, f20, f24, hK⟩ := H9
  refine k_putF (fs' := [_, _, _, _, _, _, _, _, _, _, _, _, _, _, _, _, _, _, _, _, _, _, _, _, _, _]) F kcX7 24 (by decide) (knX7 24) q3616 (fun _ e => e) rfl rfl rfl dX7_init_108 111 rfl h0 (by simp) rfl rfl (by simp) rfl ?_
  refine kW.gen (fun h' => h' m = some ((m + 1, 0, 0), eO 21 [.ref a0, .ref a1, .ref a2, .ref a3, .ref a4, .ref a5, .int 0, .int 0, .int 0, .ref a9, .int 0, .int (-1), .int 0, .int 0, .int 0, .int 0, .int 0, .ref a17, .ref a18, .ref a19, .ref a20, .int 0, .int 0, .int 0, .ref a24, .int 0]) ∧ h' a0 = some ((m + 1, 1, 0), eI 993 (fun _ => 0)) ∧ h' a1 = some ((m + 1, 1, 1), eI 993 (fun _ => 0)) ∧ h' a2 = some ((m + 1, 1, 2), eI 993 (fun _ => 0)) ∧ h' a3 = some ((m + 1, 1, 3), eI 7944 (fun _ => 0)) ∧ h' a4 = some ((m + 1, 1, 4), eI 1986 (fun _ => 0)) ∧ h' a5 = some ((m + 1, 1, 5), eZ 2 (fun _ => 0)) ∧ h' a9 = some ((m + 1, 1, 9), eI 600 (fun _ => 0)) ∧ h' a17 = some ((m + 1, 1, 17), eI 30 (fun _ => 0)) ∧ h' a18 = some ((m + 1, 1, 18), eI 30 (fun _ => 0)) ∧ h' a19 = some ((m + 1, 1, 19), eI 30 (fun _ => 0)) ∧ h' a20 = some ((m + 1, 1, 20), eI 30 (fun _ => 0)) ∧ h' a24 = some ((m + 1, 1, 24), eI 500 (fun _ => 0)) ∧ kKp (mOwn m) h h') ⟨kUp_self, kUp_tag h0 f0 (by simp), kUp_tag h0 f1 (by simp), kUp_tag h0 f2 (by simp), kUp_tag h0 f3 (by simp), kUp_tag h0 f4 (by simp), kUp_tag h0 f5 (by simp), kUp_tag h0 f9 (by simp), kUp_tag h0 f17 (by simp), kUp_tag h0 f18 (by simp), kUp_tag h0 f19 (by simp), kUp_tag h0 f20 (by simp), kUp_tag h0 f24 (by simp), hK.tr (kKp.up h0 rfl)⟩ (fun h9 H9 => ?_)
  obtain ⟨h0, f0, f1, f2, f3, f4, f5, f9, f17, f18, f19, f20, f24, hK⟩ := H9
  have hM : MW h9 m (fun k => if k = 0 then a0 else if k = 1 then a1 else if k = 2 then a2 else if k = 3 then a3 else if k = 4 then a4 else if k = 5 then a5 else if k = 9 then a9 else if k = 17 then a17 else if k = 18 then a18 else if k = 19 then a19 else if k = 20 then a20 else if k = 24 then a24 else 0) (scT (fun _ => 0) ((0, 0, 0, 0), 0, -1)) (fun _ => 0) (fun _ _ => 0) := by
    rw [← scI_T]
    refine ⟨h0, fun k hk => ?_, ⟨_, f5, fun _ _ => rfl⟩, ⟨_, f0, fun _ _ => rfl⟩⟩
    have hk9 : k = 1 ∨ k = 2 ∨ k = 3 ∨ k = 4 ∨ k = 9 ∨ k = 17 ∨ k = 18 ∨ k = 19 ∨ k = 20 ∨ k = 24 := by
      simpa [mIx] using hk
    rcases hk9 with rfl | rfl | rfl | rfl | rfl | rfl | rfl | rfl | rfl | rfl
    · exact ⟨_, f1, fun _ _ => rfl⟩
    · exact ⟨_, f2, fun _ _ => rfl⟩
    · exact ⟨_, f3, fun _ _ => rfl⟩
    · exact ⟨_, f4, fun _ _ => rfl⟩
    · exact ⟨_, f9, fun _ _ => rfl⟩
    · exact ⟨_, f17, fun _ _ => rfl⟩
    · exact ⟨_, f18, fun _ _ => rfl⟩
    · exact ⟨_, f19, fun _ _ => rfl⟩
    · exact ⟨_, f20, fun _ _ => rfl⟩
    · exact ⟨_, f24, fun _ _ => rfl⟩
  have hz : RV (upd (fun _ => (0 : Int32)) 7 (-1)) := zeroR_RV
  refine k_aload_n F dX7_init_111 112 rfl rfl rfl ?_
  obtain ⟨q112, hz112, hl112⟩ := lsX7_51 F.st
  refine k_ldcS F hz112 dX7_init_112 114 rfl ?_
  refine k_callN F kd_X7_lays q3481 q194 (kInvV (Bs := [_]) F kcX7 q3478 q3480 qs71 kd_X7_lays q3481 dX7_init_114 (kHs.of hM.1) rfl (by decide)) (zX7_lays F.st hM (by decide) (hl112 _) (ascB_s (by decide +kernel)) (by decide +kernel) laysNZ hz) 117 rfl (Nat.le_of_ble_eq_true rfl) (by first | exact Nat.le_of_ble_eq_true rfl | omega) (by first | exact Nat.le_of_ble_eq_true rfl | omega) (by first | exact Nat.le_of_ble_eq_true rfl | omega) (by first | exact Nat.le_of_ble_eq_true rfl | omega) (fun h1 hr1 => ?_)
  obtain ⟨hM, hK9⟩ := hr1
  have hK := hK.tr hK9
  rw [show upd (fun _ => (0 : Int32)) 10 0 = fun _ => 0 from by funext k; unfold upd; split <;> rfl] at hM
  exact k_vret F dX7_init_117 (by first | exact Nat.le_of_ble_eq_true rfl | omega) (by first | exact Nat.le_of_ble_eq_true rfl | omega) ⟨_, _, hM, by rfl, ⟨Nat.zero_le _, fun i hi => absurd hi (by omega)⟩, by intro i; rfl, hK⟩
end

