/-! the reference: what is wanted, what is best -/
theorem kd_J13_min : kCd (Cond.code yJ13_min cJ13_min 2 (Option.some Jvm.ClassFile.FieldType.int)) yJ13_min cJ13_min 2 (Option.some Jvm.ClassFile.FieldType.int) [] := kCd_code (by decide +kernel)
theorem kd_J13_abs : kCd (Cond.code yJ13_abs cJ13_abs 1 (Option.some Jvm.ClassFile.FieldType.int)) yJ13_abs cJ13_abs 1 (Option.some Jvm.ClassFile.FieldType.int) [] := kCd_code (by decide +kernel)
set_option maxHeartbeats 4000000 in
set_option maxRecDepth 100000 in
theorem zJ13_min {l : Launch} {g : kG} (S : kStart l g) {h : kH} (a b : Int32) : kMet l g yJ13_min (Cond.code yJ13_min cJ13_min 2 (Option.some Jvm.ClassFile.FieldType.int)) 1 0 0 [.int a, .int b] h (mRd h (.int (iMin a b))) := by
  refine kEnter S kd_J13_min (Nat.le_of_ble_eq_true rfl) (fun x F hxl hxg => ?_)
  subst hxl; subst hxg
  have hlv : lv_args 0 [.int a, .int b] = [(0, .int a), (1, .int b)] := rfl
  rw [hlv]
  refine k_iload_n F dJ13_min_0 1 rfl rfl rfl ?_
  refine k_iload_n F dJ13_min_1 2 rfl rfl rfl ?_
  refine k_icmpgt F dJ13_min_2 5 9 rfl (by decide) (fun c_a => ?_) (fun c_a => ?_)
  · refine k_iload_n F dJ13_min_9 10 rfl rfl rfl ?_
    exact k_iret F dJ13_min_10 (by first | exact Nat.le_of_ble_eq_true rfl | omega) (by first | exact Nat.le_of_ble_eq_true rfl | omega) ⟨by simp only [iMin, if_neg (Int32.not_le.mpr c_a)], rfl⟩
  · refine k_iload_n F dJ13_min_5 6 rfl rfl rfl ?_
    refine k_goto F dJ13_min_6 10 (by decide) ?_
    exact k_iret F dJ13_min_10 (by first | exact Nat.le_of_ble_eq_true rfl | omega) (by first | exact Nat.le_of_ble_eq_true rfl | omega) ⟨by simp only [iMin, if_pos (Int32.not_lt.mp c_a)], rfl⟩
set_option maxHeartbeats 4000000 in
set_option maxRecDepth 100000 in
theorem zJ13_abs {l : Launch} {g : kG} (S : kStart l g) {h : kH} (a : Int32) : kMet l g yJ13_abs (Cond.code yJ13_abs cJ13_abs 1 (Option.some Jvm.ClassFile.FieldType.int)) 1 0 0 [.int a] h (mRd h (.int (if 0 ≤ a then a else -a))) := by
  refine kEnter S kd_J13_abs (Nat.le_of_ble_eq_true rfl) (fun x F hxl hxg => ?_)
  subst hxl; subst hxg
  have hlv : lv_args 0 [.int a] = [(0, .int a)] := rfl
  rw [hlv]
  refine k_iload_n F dJ13_abs_0 1 rfl rfl rfl ?_
  refine k_ifge F dJ13_abs_1 4 9 rfl (by decide) (fun c_a => ?_) (fun c_a => ?_)
  · refine k_iload_n F dJ13_abs_9 10 rfl rfl rfl ?_
    exact k_iret F dJ13_abs_10 (by first | exact Nat.le_of_ble_eq_true rfl | omega) (by first | exact Nat.le_of_ble_eq_true rfl | omega) ⟨by rw [if_pos c_a], rfl⟩
  · refine k_iload_n F dJ13_abs_4 5 rfl rfl rfl ?_
    refine k_ineg F dJ13_abs_5 6 rfl ?_
    refine k_goto F dJ13_abs_6 10 (by decide) ?_
    exact k_iret F dJ13_abs_10 (by first | exact Nat.le_of_ble_eq_true rfl | omega) (by first | exact Nat.le_of_ble_eq_true rfl | omega) ⟨by rw [if_neg c_a], rfl⟩
set_option maxHeartbeats 4000000 in
set_option maxRecDepth 100000 in
theorem zX7_in {l : Launch} {g : kG} (S : kStart l g) {h : kH} (v lo hi : Int32) : kMet l g yX7_in (Cond.code yX7_in cX7_in 3 (Option.some Jvm.ClassFile.FieldType.boolean)) 1 0 0 [.int v, .int lo, .int hi] h (mRd h (.int (kB (inF v lo hi)))) := by
  refine kEnter S kd_X7_in (Nat.le_of_ble_eq_true rfl) (fun x F hxl hxg => ?_)
  subst hxl; subst hxg
  have hlv : lv_args 0 [.int v, .int lo, .int hi] = [(0, .int v), (1, .int lo), (2, .int hi)] := rfl
  rw [hlv]
  refine k_iload_n F dX7_in_0 1 rfl rfl rfl ?_
  refine k_iload_n F dX7_in_1 2 rfl rfl rfl ?_
  refine k_icmpgt F dX7_in_2 5 14 rfl (by decide) (fun c_a => ?_) (fun c_a => ?_)
  · refine k_iconst (v := 0) F dX7_in_14 15 rfl (by decide) ?_
    exact k_zret F dX7_in_15 (by first | rfl | exact kzb _ | exact pk_nc _ | decide) (by first | exact Nat.le_of_ble_eq_true rfl | omega) (by first | exact Nat.le_of_ble_eq_true rfl | omega) ⟨by simp [inF, kB, Int32.not_le.mpr c_a], rfl⟩
  · refine k_iload_n F dX7_in_5 6 rfl rfl rfl ?_
    refine k_iload_n F dX7_in_6 7 rfl rfl rfl ?_
    refine k_icmpgt F dX7_in_7 10 14 rfl (by decide) (fun c_b => ?_) (fun c_b => ?_)
    · refine k_iconst (v := 0) F dX7_in_14 15 rfl (by decide) ?_
      exact k_zret F dX7_in_15 (by first | rfl | exact kzb _ | exact pk_nc _ | decide) (by first | exact Nat.le_of_ble_eq_true rfl | omega) (by first | exact Nat.le_of_ble_eq_true rfl | omega) ⟨by simp [inF, kB, Int32.not_le.mpr c_b], rfl⟩
    · refine k_iconst (v := 1) F dX7_in_10 11 rfl (by decide) ?_
      refine k_goto F dX7_in_11 15 (by decide) ?_
      exact k_zret F dX7_in_15 (by first | rfl | exact kzb _ | exact pk_nc _ | decide) (by first | exact Nat.le_of_ble_eq_true rfl | omega) (by first | exact Nat.le_of_ble_eq_true rfl | omega) ⟨by simp [inF, kB, Int32.not_lt.mp c_a, Int32.not_lt.mp c_b], rfl⟩
set_option maxHeartbeats 4000000 in
set_option maxRecDepth 100000 in
theorem zX7_asks {l : Launch} {g : kG} (S : kStart l g) {h : kH} {m : Nat} {ad : Nat → Nat} {sc R : Nat → Int32} {ar : Nat → Nat → Int32} (hM : MW h m ad sc R ar) (a : Nat) (ha : a < 8) : kMet l g yX7_asks (Cond.code yX7_asks cX7_asks 2 (Option.some Jvm.ClassFile.FieldType.boolean)) 2 0 0 [.ref m, .int (nI a)] h (mRd h (.int (kB (asksF R a)))) := by
  refine kEnter S kd_X7_asks (Nat.le_of_ble_eq_true rfl) (fun x F hxl hxg => ?_)
  subst hxl; subst hxg
  have hlv : lv_args 0 [.ref m, .int (nI a)] = [(0, .ref m), (1, .int (nI a))] := rfl
  rw [hlv]
  refine k_aload_n F dX7_asks_0 1 rfl rfl rfl ?_
  refine k_iload_n F dX7_asks_1 2 rfl rfl rfl ?_
  refine k_iconst (v := 2) F dX7_asks_2 3 rfl (by decide) ?_
  refine k_callV F kd_X7_of q3549 q194 (kInvV (Bs := [_, _]) F kcX7 q3546 q3548 qs86 kd_X7_of q3549 dX7_asks_3 (kHs.of hM.1) rfl (by decide)) (zX7_of F.st hM a 2 (by omega)) 6 rfl (Nat.le_of_ble_eq_true rfl) (by first | exact Nat.le_of_ble_eq_true rfl | omega) (by first | exact Nat.le_of_ble_eq_true rfl | omega) (by first | exact Nat.le_of_ble_eq_true rfl | omega) (by first | exact Nat.le_of_ble_eq_true rfl | omega) (fun r1 h1 hr1 => ?_)
  obtain ⟨rfl, rfl⟩ := hr1
  refine k_iconst (v := 1) F dX7_asks_6 7 rfl (by decide) ?_
  refine k_icmpeq F dX7_asks_7 10 19 rfl (by decide) (fun c_a => ?_) (fun c_a => ?_)
  · refine k_iconst (v := 1) F dX7_asks_19 20 rfl (by decide) ?_
    refine k_goto F dX7_asks_20 24 (by decide) ?_
    exact k_zret F dX7_asks_24 (by first | rfl | exact kzb _ | exact pk_nc _ | decide) (by first | exact Nat.le_of_ble_eq_true rfl | omega) (by first | exact Nat.le_of_ble_eq_true rfl | omega) ⟨by simp [asksF, kB, c_a], rfl⟩
  · refine k_aload_n F dX7_asks_10 11 rfl rfl rfl ?_
    refine k_iload_n F dX7_asks_11 12 rfl rfl rfl ?_
    refine k_iconst (v := 3) F dX7_asks_12 13 rfl (by decide) ?_
    refine k_callV F kd_X7_of q3549 q194 (kInvV (Bs := [_, _]) F kcX7 q3546 q3548 qs86 kd_X7_of q3549 dX7_asks_13 (kHs.of hM.1) rfl (by decide)) (zX7_of F.st hM a 3 (by omega)) 16 rfl (Nat.le_of_ble_eq_true rfl) (by first | exact Nat.le_of_ble_eq_true rfl | omega) (by first | exact Nat.le_of_ble_eq_true rfl | omega) (by first | exact Nat.le_of_ble_eq_true rfl | omega) (by first | exact Nat.le_of_ble_eq_true rfl | omega) (fun r2 h2 hr2 => ?_)
    obtain ⟨rfl, rfl⟩ := hr2
    refine k_ifle F dX7_asks_16 19 23 rfl (by decide) (fun c_b => ?_) (fun c_b => ?_)
    · refine k_iconst (v := 0) F dX7_asks_23 24 rfl (by decide) ?_
      exact k_zret F dX7_asks_24 (by first | rfl | exact kzb _ | exact pk_nc _ | decide) (by first | exact Nat.le_of_ble_eq_true rfl | omega) (by first | exact Nat.le_of_ble_eq_true rfl | omega) ⟨by simp [asksF, kB, c_a, Int32.not_lt.mpr c_b], rfl⟩
    · refine k_iconst (v := 1) F dX7_asks_19 20 rfl (by decide) ?_
      refine k_goto F dX7_asks_20 24 (by decide) ?_
      exact k_zret F dX7_asks_24 (by first | rfl | exact kzb _ | exact pk_nc _ | decide) (by first | exact Nat.le_of_ble_eq_true rfl | omega) (by first | exact Nat.le_of_ble_eq_true rfl | omega) ⟨by simp [asksF, kB, c_a, Int32.not_le.mp c_b], rfl⟩
set_option maxHeartbeats 4000000 in
set_option maxRecDepth 100000 in
theorem zX7_isWanted {l : Launch} {g : kG} (S : kStart l g) {h : kH} {m : Nat} {ad : Nat → Nat} {sc R : Nat → Int32} {ar : Nat → Nat → Int32} (hM : MW h m ad sc R ar) (hR : RV R) (p : Nat) (hp : p < 6) : kMet l g yX7_isWanted (Cond.code yX7_isWanted cX7_isWanted 3 (Option.some Jvm.ClassFile.FieldType.boolean)) 3 0 0 [.ref m, .int (nI p)] h (mRd h (.int (kB (wantedF R p)))) := by
  refine kEnter S kd_X7_isWanted (Nat.le_of_ble_eq_true rfl) (fun x F hxl hxg => ?_)
  subst hxl; subst hxg
  have hlv : lv_args 0 [.ref m, .int (nI p)] = [(0, .ref m), (1, .int (nI p))] := rfl
  rw [hlv]
  obtain ⟨r1, r2, r3, r4, r5, r6, r7, r8⟩ := hR
  refine k_iload_n F dX7_isWanted_0 1 rfl rfl rfl ?_
  refine k_aload_n F dX7_isWanted_1 2 rfl rfl rfl ?_
  refine m_get F 0 (by decide) q3592 rfl dX7_isWanted_2 5 rfl hM rfl ?_
  refine k_bipush (v := 6) F dX7_isWanted_5 7 rfl (by decide) ?_
  refine m_ld F dX7_isWanted_7 8 rfl hM (6) (by first | (with_reducible rfl) | (simp only [nI_lit, pk_mul, nI_add])) (by omega) ?_
  rw [r5]
  refine k_icmpne F dX7_isWanted_8 11 13 rfl (by decide) (fun c_a => ?_) (fun c_a => ?_)
  · rw [nI_inj (by omega) (by omega)] at c_a
    refine k_aload_n F dX7_isWanted_13 14 rfl rfl rfl ?_
    refine k_iload_n F dX7_isWanted_14 15 rfl rfl rfl ?_
    refine k_iconst (v := 2) F dX7_isWanted_15 16 rfl (by decide) ?_
    refine k_callV F kd_X7_ofPhase q3587 q194 (kInvV (Bs := [_, _]) F kcX7 q3584 q3586 qs95 kd_X7_ofPhase q3587 dX7_isWanted_16 (kHs.of hM.1) rfl (by decide)) (zX7_ofPhase F.st hM p 2 (by omega)) 19 rfl (Nat.le_of_ble_eq_true rfl) (by first | exact Nat.le_of_ble_eq_true rfl | omega) (by first | exact Nat.le_of_ble_eq_true rfl | omega) (by first | exact Nat.le_of_ble_eq_true rfl | omega) (by first | exact Nat.le_of_ble_eq_true rfl | omega) (fun r1 h1 hr1 => ?_)
    obtain ⟨rfl, rfl⟩ := hr1
    refine k_iconst (v := 1) F dX7_isWanted_19 20 rfl (by decide) ?_
    refine k_icmpne F dX7_isWanted_20 23 25 rfl (by decide) (fun c_b => ?_) (fun c_b => ?_)
    · refine k_iconst (v := 0) F dX7_isWanted_25 26 rfl (by decide) ?_
      refine k_istore_n (lv' := [(0, _), (1, _), (2, _)]) F dX7_isWanted_26 27 rfl rfl (Nat.le_of_ble_eq_true rfl) rfl rfl rfl ?_
      refine kUpTo (Q := fun j => (∀ i, i < j → wantA R p i = false) → kW x 0 0 h 27 [(0, .ref m), (1, .int (nI p)), (2, .int (nI j))] []) (rA R) ?_ ?_ 0 (Nat.zero_le _) (fun i hi => absurd hi (by omega))
      · intro hno
        refine k_iload_n F dX7_isWanted_27 28 rfl rfl rfl ?_
        refine k_aload_n F dX7_isWanted_28 29 rfl rfl rfl ?_
        refine m_get F 0 (by decide) q3592 rfl dX7_isWanted_29 32 rfl hM rfl ?_
        refine k_iconst (v := 3) F dX7_isWanted_32 33 rfl (by decide) ?_
        refine m_ld F dX7_isWanted_33 34 rfl hM (3) (by first | (with_reducible rfl) | (simp only [nI_lit, pk_mul, nI_add])) (by omega) ?_
        rw [r1]
        refine k_icmpge F dX7_isWanted_34 37 77 rfl (by decide) (fun c_d => ?_) (fun c_d => ?_)
        · refine k_iconst (v := 0) F dX7_isWanted_77 78 rfl (by decide) ?_
          exact k_zret F dX7_isWanted_78 (by first | rfl | exact kzb _ | exact pk_nc _ | decide) (by first | exact Nat.le_of_ble_eq_true rfl | omega) (by first | exact Nat.le_of_ble_eq_true rfl | omega) ⟨by simp only [wantedF, if_neg c_a, if_neg c_b, anyR_false hno]; rfl, rfl⟩
        · exact absurd (by rw [nI_leE (by omega) (by omega)]; omega) c_d
      · intro j hj ih hno
        refine k_iload_n F dX7_isWanted_27 28 rfl rfl rfl ?_
        refine k_aload_n F dX7_isWanted_28 29 rfl rfl rfl ?_
        refine m_get F 0 (by decide) q3592 rfl dX7_isWanted_29 32 rfl hM rfl ?_
        refine k_iconst (v := 3) F dX7_isWanted_32 33 rfl (by decide) ?_
        refine m_ld F dX7_isWanted_33 34 rfl hM (3) (by first | (with_reducible rfl) | (simp only [nI_lit, pk_mul, nI_add])) (by omega) ?_
        rw [r1]
        refine k_icmpge F dX7_isWanted_34 37 77 rfl (by decide) (fun c_e => ?_) (fun c_e => ?_)
        · rw [nI_leE (by omega) (by omega)] at c_e
          omega
        · have next : wantA R p j = false → kW x 0 0 h 71 [(0, .ref m), (1, .int (nI p)), (2, .int (nI j))] [] := by
            intro hw
            refine k_iinc (e := 1) (lv' := [(0, _), (1, _), (2, _)]) F dX7_isWanted_71 74 rfl rfl (by decide) rfl (Nat.le_of_ble_eq_true rfl) rfl rfl rfl ?_
            refine k_goto F dX7_isWanted_74 27 (by decide) ?_
            rw [nI_1]
            exact ih (fun i hi => if q : i = j then by rw [q]; exact hw else hno i (by omega))
          refine k_aload_n F dX7_isWanted_37 38 rfl rfl rfl ?_
          refine k_iload_n F dX7_isWanted_38 39 rfl rfl rfl ?_
          refine k_iload_n F dX7_isWanted_39 40 rfl rfl rfl ?_
          refine k_callV F kd_X7_hasArm q3583 q194 (kInvV (Bs := [_, _]) F kcX7 q3580 q3582 qs94 kd_X7_hasArm q3583 dX7_isWanted_40 (kHs.of hM.1) rfl (by decide)) (zX7_hasArm F.st hM p j (by omega)) 43 rfl (Nat.le_of_ble_eq_true rfl) (by first | exact Nat.le_of_ble_eq_true rfl | omega) (by first | exact Nat.le_of_ble_eq_true rfl | omega) (by first | exact Nat.le_of_ble_eq_true rfl | omega) (by first | exact Nat.le_of_ble_eq_true rfl | omega) (fun r2 h2 hr2 => ?_)
          obtain ⟨rfl, rfl⟩ := hr2
          refine k_ifeq F dX7_isWanted_43 46 71 rfl (by decide) (fun c_f => ?_) (fun c_f => ?_)
          · rw [kB_0] at c_f
            exact next (by simp [wantA, c_f])
          · rw [kB_0, Bool.not_eq_false] at c_f
            refine k_aload_n F dX7_isWanted_46 47 rfl rfl rfl ?_
            refine k_aload_n F dX7_isWanted_47 48 rfl rfl rfl ?_
            refine m_get F 0 (by decide) q3592 rfl dX7_isWanted_48 51 rfl hM rfl ?_
            refine k_bipush (v := 6) F dX7_isWanted_51 53 rfl (by decide) ?_
            refine m_ld F dX7_isWanted_53 54 rfl hM (6) (by first | (with_reducible rfl) | (simp only [nI_lit, pk_mul, nI_add])) (by omega) ?_
            refine k_iload_n F dX7_isWanted_54 55 rfl rfl rfl ?_
            rw [r5]
            refine k_callV F kd_X7_hasArm q3583 q194 (kInvV (Bs := [_, _]) F kcX7 q3580 q3582 qs94 kd_X7_hasArm q3583 dX7_isWanted_55 (kHs.of hM.1) rfl (by decide)) (zX7_hasArm F.st hM (rOn R) j (by omega)) 58 rfl (Nat.le_of_ble_eq_true rfl) (by first | exact Nat.le_of_ble_eq_true rfl | omega) (by first | exact Nat.le_of_ble_eq_true rfl | omega) (by first | exact Nat.le_of_ble_eq_true rfl | omega) (by first | exact Nat.le_of_ble_eq_true rfl | omega) (fun r3 h3 hr3 => ?_)
            obtain ⟨rfl, rfl⟩ := hr3
            refine k_ifne F dX7_isWanted_58 61 71 rfl (by decide) (fun c_g => ?_) (fun c_g => ?_)
            · rw [kB_0, Bool.not_eq_false] at c_g
              exact next (by simp [wantA, c_g])
            · rw [kB_0] at c_g
              refine k_aload_n F dX7_isWanted_61 62 rfl rfl rfl ?_
              refine k_iload_n F dX7_isWanted_62 63 rfl rfl rfl ?_
              refine k_callV F kd_X7_asks q3797 q194 (kInvV (Bs := [_]) F kcX7 q3794 q3796 qs120 kd_X7_asks q3797 dX7_isWanted_63 (kHs.of hM.1) rfl (by decide)) (zX7_asks F.st hM j (by omega)) 66 rfl (Nat.le_of_ble_eq_true rfl) (by first | exact Nat.le_of_ble_eq_true rfl | omega) (by first | exact Nat.le_of_ble_eq_true rfl | omega) (by first | exact Nat.le_of_ble_eq_true rfl | omega) (by first | exact Nat.le_of_ble_eq_true rfl | omega) (fun r4 h4 hr4 => ?_)
              obtain ⟨rfl, rfl⟩ := hr4
              refine k_ifeq F dX7_isWanted_66 69 71 rfl (by decide) (fun c_i => ?_) (fun c_i => ?_)
              · rw [kB_0] at c_i
                exact next (by simp [wantA, c_i])
              · rw [kB_0, Bool.not_eq_false] at c_i
                refine k_iconst (v := 1) F dX7_isWanted_69 70 rfl (by decide) ?_
                exact k_zret F dX7_isWanted_70 (by first | rfl | exact kzb _ | exact pk_nc _ | decide) (by first | exact Nat.le_of_ble_eq_true rfl | omega) (by first | exact Nat.le_of_ble_eq_true rfl | omega) ⟨by simp only [wantedF, if_neg c_a, if_neg c_b, anyR_true (f := wantA R p) hj (by simp [wantA, c_f, c_g, c_i])]; rfl, rfl⟩
    · refine k_iconst (v := 1) F dX7_isWanted_23 24 rfl (by decide) ?_
      exact k_zret F dX7_isWanted_24 (by first | rfl | exact kzb _ | exact pk_nc _ | decide) (by first | exact Nat.le_of_ble_eq_true rfl | omega) (by first | exact Nat.le_of_ble_eq_true rfl | omega) ⟨by simp only [wantedF, if_neg c_a, if_pos c_b]; rfl, rfl⟩
  · rw [nI_inj (by omega) (by omega)] at c_a
    refine k_iconst (v := 0) F dX7_isWanted_11 12 rfl (by decide) ?_
    exact k_zret F dX7_isWanted_12 (by first | rfl | exact kzb _ | exact pk_nc _ | decide) (by first | exact Nat.le_of_ble_eq_true rfl | omega) (by first | exact Nat.le_of_ble_eq_true rfl | omega) ⟨by simp only [wantedF, if_pos c_a]; rfl, rfl⟩
set_option maxHeartbeats 4000000 in
set_option maxRecDepth 100000 in
theorem zX7_carsOf {l : Launch} {g : kG} (S : kStart l g) {h : kH} {m : Nat} {ad : Nat → Nat} {sc R : Nat → Int32} {ar : Nat → Nat → Int32} (hM : MW h m ad sc R ar) (hR : RV R) (p : Nat) (hp : p < 6) : kMet l g yX7_carsOf (Cond.code yX7_carsOf cX7_carsOf 4 (Option.some Jvm.ClassFile.FieldType.int)) 3 0 0 [.ref m, .int (nI p)] h (mRd h (.int (carsF R p))) := by
  refine kEnter S kd_X7_carsOf (Nat.le_of_ble_eq_true rfl) (fun x F hxl hxg => ?_)
  subst hxl; subst hxg
  have hlv : lv_args 0 [.ref m, .int (nI p)] = [(0, .ref m), (1, .int (nI p))] := rfl
  rw [hlv]
  obtain ⟨r1, r2, r3, r4, r5, r6, r7, r8⟩ := hR
  refine k_iconst (v := 0) F dX7_carsOf_0 1 rfl (by decide) ?_
  refine k_istore_n (lv' := [(0, _), (1, _), (2, _)]) F dX7_carsOf_1 2 rfl rfl (Nat.le_of_ble_eq_true rfl) rfl rfl rfl ?_
  refine k_iconst (v := 0) F dX7_carsOf_2 3 rfl (by decide) ?_
  refine k_istore_n (lv' := [(0, _), (1, _), (2, _), (3, _)]) F dX7_carsOf_3 4 rfl rfl (Nat.le_of_ble_eq_true rfl) rfl rfl rfl ?_
  refine kUpTo (Q := fun j => kW x 0 0 h 4 [(0, .ref m), (1, .int (nI p)), (2, .int (sumTo (fun a => if mHas R p a = true then mOf R a 3 else 0) j)), (3, .int (nI j))] []) (rA R) ?_ ?_ 0 (Nat.zero_le _)
  · refine k_iload_n F dX7_carsOf_4 5 rfl rfl rfl ?_
    refine k_aload_n F dX7_carsOf_5 6 rfl rfl rfl ?_
    refine m_get F 0 (by decide) q3592 rfl dX7_carsOf_6 9 rfl hM rfl ?_
    refine k_iconst (v := 3) F dX7_carsOf_9 10 rfl (by decide) ?_
    refine m_ld F dX7_carsOf_10 11 rfl hM (3) (by first | (with_reducible rfl) | (simp only [nI_lit, pk_mul, nI_add])) (by omega) ?_
    rw [r1]
    refine k_icmpge F dX7_carsOf_11 14 38 rfl (by decide) (fun c_a => ?_) (fun c_a => ?_)
    · refine k_iload_n F dX7_carsOf_38 39 rfl rfl rfl ?_
      exact k_iret F dX7_carsOf_39 (by first | exact Nat.le_of_ble_eq_true rfl | omega) (by first | exact Nat.le_of_ble_eq_true rfl | omega) ⟨rfl, rfl⟩
    · exact absurd (by rw [nI_leE (by omega) (by omega)]; omega) c_a
  · intro j hj ih
    refine k_iload_n F dX7_carsOf_4 5 rfl rfl rfl ?_
    refine k_aload_n F dX7_carsOf_5 6 rfl rfl rfl ?_
    refine m_get F 0 (by decide) q3592 rfl dX7_carsOf_6 9 rfl hM rfl ?_
    refine k_iconst (v := 3) F dX7_carsOf_9 10 rfl (by decide) ?_
    refine m_ld F dX7_carsOf_10 11 rfl hM (3) (by first | (with_reducible rfl) | (simp only [nI_lit, pk_mul, nI_add])) (by omega) ?_
    rw [r1]
    refine k_icmpge F dX7_carsOf_11 14 38 rfl (by decide) (fun c_b => ?_) (fun c_b => ?_)
    · rw [nI_leE (by omega) (by omega)] at c_b
      omega
    · refine k_aload_n F dX7_carsOf_14 15 rfl rfl rfl ?_
      refine k_iload_n F dX7_carsOf_15 16 rfl rfl rfl ?_
      refine k_iload_n F dX7_carsOf_16 17 rfl rfl rfl ?_
      refine k_callV F kd_X7_hasArm q3583 q194 (kInvV (Bs := [_, _]) F kcX7 q3580 q3582 qs94 kd_X7_hasArm q3583 dX7_carsOf_17 (kHs.of hM.1) rfl (by decide)) (zX7_hasArm F.st hM p j (by omega)) 20 rfl (Nat.le_of_ble_eq_true rfl) (by first | exact Nat.le_of_ble_eq_true rfl | omega) (by first | exact Nat.le_of_ble_eq_true rfl | omega) (by first | exact Nat.le_of_ble_eq_true rfl | omega) (by first | exact Nat.le_of_ble_eq_true rfl | omega) (fun r1 h1 hr1 => ?_)
      obtain ⟨rfl, rfl⟩ := hr1
      refine k_ifeq F dX7_carsOf_20 23 32 rfl (by decide) (fun c_d => ?_) (fun c_d => ?_)
      · rw [kB_0] at c_d
        refine k_iinc (e := 1) (lv' := [(0, _), (1, _), (2, _), (3, _)]) F dX7_carsOf_32 35 rfl rfl (by decide) rfl (Nat.le_of_ble_eq_true rfl) rfl rfl rfl ?_
        refine k_goto F dX7_carsOf_35 4 (by decide) ?_
        rw [nI_1]
        simpa [sumTo, c_d] using ih
      · rw [kB_0, Bool.not_eq_false] at c_d
        refine k_iload_n F dX7_carsOf_23 24 rfl rfl rfl ?_
        refine k_aload_n F dX7_carsOf_24 25 rfl rfl rfl ?_
        refine k_iload_n F dX7_carsOf_25 26 rfl rfl rfl ?_
        refine k_iconst (v := 3) F dX7_carsOf_26 27 rfl (by decide) ?_
        refine k_callV F kd_X7_of q3549 q194 (kInvV (Bs := [_, _]) F kcX7 q3546 q3548 qs86 kd_X7_of q3549 dX7_carsOf_27 (kHs.of hM.1) rfl (by decide)) (zX7_of F.st hM j 3 (by omega)) 30 rfl (Nat.le_of_ble_eq_true rfl) (by first | exact Nat.le_of_ble_eq_true rfl | omega) (by first | exact Nat.le_of_ble_eq_true rfl | omega) (by first | exact Nat.le_of_ble_eq_true rfl | omega) (by first | exact Nat.le_of_ble_eq_true rfl | omega) (fun r2 h2 hr2 => ?_)
        obtain ⟨rfl, rfl⟩ := hr2
        refine k_iadd F dX7_carsOf_30 31 rfl ?_
        refine k_istore_n (lv' := [(0, _), (1, _), (2, _), (3, _)]) F dX7_carsOf_31 32 rfl rfl (Nat.le_of_ble_eq_true rfl) rfl rfl rfl ?_
        refine k_iinc (e := 1) (lv' := [(0, _), (1, _), (2, _), (3, _)]) F dX7_carsOf_32 35 rfl rfl (by decide) rfl (Nat.le_of_ble_eq_true rfl) rfl rfl rfl ?_
        refine k_goto F dX7_carsOf_35 4 (by decide) ?_
        rw [nI_1]
        simpa [sumTo, c_d] using ih
set_option maxHeartbeats 4000000 in
set_option maxRecDepth 100000 in
theorem zX7_firstOf {l : Launch} {g : kG} (S : kStart l g) {h : kH} {m : Nat} {ad : Nat → Nat} {sc R : Nat → Int32} {ar : Nat → Nat → Int32} (hM : MW h m ad sc R ar) (hR : RV R) (p : Nat) (hp : p < 6) : kMet l g yX7_firstOf (Cond.code yX7_firstOf cX7_firstOf 4 (Option.some Jvm.ClassFile.FieldType.int)) 3 0 0 [.ref m, .int (nI p)] h (mRd h (.int (firstF R p))) := by
  refine kEnter S kd_X7_firstOf (Nat.le_of_ble_eq_true rfl) (fun x F hxl hxg => ?_)
  subst hxl; subst hxg
  have hlv : lv_args 0 [.ref m, .int (nI p)] = [(0, .ref m), (1, .int (nI p))] := rfl
  rw [hlv]
  obtain ⟨r1, r2, r3, r4, r5, r6, r7, r8⟩ := hR
  refine k_ldc F dX7_firstOf_0 2 rfl q3810 ?_
  refine k_istore_n (lv' := [(0, _), (1, _), (2, _)]) F dX7_firstOf_2 3 rfl rfl (Nat.le_of_ble_eq_true rfl) rfl rfl rfl ?_
  refine k_iconst (v := 0) F dX7_firstOf_3 4 rfl (by decide) ?_
  refine k_istore_n (lv' := [(0, _), (1, _), (2, _), (3, _)]) F dX7_firstOf_4 5 rfl rfl (Nat.le_of_ble_eq_true rfl) rfl rfl rfl ?_
  refine kUpTo (Q := fun j => kW x 0 0 h 5 [(0, .ref m), (1, .int (nI p)), (2, .int (firstTo R p j)), (3, .int (nI j))] []) (rA R) ?_ ?_ 0 (Nat.zero_le _)
  · refine k_iload_n F dX7_firstOf_5 6 rfl rfl rfl ?_
    refine k_aload_n F dX7_firstOf_6 7 rfl rfl rfl ?_
    refine m_get F 0 (by decide) q3592 rfl dX7_firstOf_7 10 rfl hM rfl ?_
    refine k_iconst (v := 3) F dX7_firstOf_10 11 rfl (by decide) ?_
    refine m_ld F dX7_firstOf_11 12 rfl hM (3) (by first | (with_reducible rfl) | (simp only [nI_lit, pk_mul, nI_add])) (by omega) ?_
    rw [r1]
    refine k_icmpge F dX7_firstOf_12 15 50 rfl (by decide) (fun c_a => ?_) (fun c_a => ?_)
    · refine k_iload_n F dX7_firstOf_50 51 rfl rfl rfl ?_
      exact k_iret F dX7_firstOf_51 (by first | exact Nat.le_of_ble_eq_true rfl | omega) (by first | exact Nat.le_of_ble_eq_true rfl | omega) ⟨rfl, rfl⟩
    · exact absurd (by rw [nI_leE (by omega) (by omega)]; omega) c_a
  · intro j hj ih
    refine k_iload_n F dX7_firstOf_5 6 rfl rfl rfl ?_
    refine k_aload_n F dX7_firstOf_6 7 rfl rfl rfl ?_
    refine m_get F 0 (by decide) q3592 rfl dX7_firstOf_7 10 rfl hM rfl ?_
    refine k_iconst (v := 3) F dX7_firstOf_10 11 rfl (by decide) ?_
    refine m_ld F dX7_firstOf_11 12 rfl hM (3) (by first | (with_reducible rfl) | (simp only [nI_lit, pk_mul, nI_add])) (by omega) ?_
    rw [r1]
    refine k_icmpge F dX7_firstOf_12 15 50 rfl (by decide) (fun c_b => ?_) (fun c_b => ?_)
    · rw [nI_leE (by omega) (by omega)] at c_b
      omega
    · refine k_aload_n F dX7_firstOf_15 16 rfl rfl rfl ?_
      refine k_iload_n F dX7_firstOf_16 17 rfl rfl rfl ?_
      refine k_iload_n F dX7_firstOf_17 18 rfl rfl rfl ?_
      refine k_callV F kd_X7_hasArm q3583 q194 (kInvV (Bs := [_, _]) F kcX7 q3580 q3582 qs94 kd_X7_hasArm q3583 dX7_firstOf_18 (kHs.of hM.1) rfl (by decide)) (zX7_hasArm F.st hM p j (by omega)) 21 rfl (Nat.le_of_ble_eq_true rfl) (by first | exact Nat.le_of_ble_eq_true rfl | omega) (by first | exact Nat.le_of_ble_eq_true rfl | omega) (by first | exact Nat.le_of_ble_eq_true rfl | omega) (by first | exact Nat.le_of_ble_eq_true rfl | omega) (fun r1 h1 hr1 => ?_)
      obtain ⟨rfl, rfl⟩ := hr1
      refine k_ifeq F dX7_firstOf_21 24 44 rfl (by decide) (fun c_d => ?_) (fun c_d => ?_)
      · rw [kB_0] at c_d
        refine k_iinc (e := 1) (lv' := [(0, _), (1, _), (2, _), (3, _)]) F dX7_firstOf_44 47 rfl rfl (by decide) rfl (Nat.le_of_ble_eq_true rfl) rfl rfl rfl ?_
        refine k_goto F dX7_firstOf_47 5 (by decide) ?_
        rw [nI_1]
        simpa [firstTo, c_d] using ih
      · rw [kB_0, Bool.not_eq_false] at c_d
        refine k_aload_n F dX7_firstOf_24 25 rfl rfl rfl ?_
        refine k_iload_n F dX7_firstOf_25 26 rfl rfl rfl ?_
        refine k_iconst (v := 3) F dX7_firstOf_26 27 rfl (by decide) ?_
        refine k_callV F kd_X7_of q3549 q194 (kInvV (Bs := [_, _]) F kcX7 q3546 q3548 qs86 kd_X7_of q3549 dX7_firstOf_27 (kHs.of hM.1) rfl (by decide)) (zX7_of F.st hM j 3 (by omega)) 30 rfl (Nat.le_of_ble_eq_true rfl) (by first | exact Nat.le_of_ble_eq_true rfl | omega) (by first | exact Nat.le_of_ble_eq_true rfl | omega) (by first | exact Nat.le_of_ble_eq_true rfl | omega) (by first | exact Nat.le_of_ble_eq_true rfl | omega) (fun r2 h2 hr2 => ?_)
        obtain ⟨rfl, rfl⟩ := hr2
        refine k_ifle F dX7_firstOf_30 33 44 rfl (by decide) (fun c_e => ?_) (fun c_e => ?_)
        · refine k_iinc (e := 1) (lv' := [(0, _), (1, _), (2, _), (3, _)]) F dX7_firstOf_44 47 rfl rfl (by decide) rfl (Nat.le_of_ble_eq_true rfl) rfl rfl rfl ?_
          refine k_goto F dX7_firstOf_47 5 (by decide) ?_
          rw [nI_1]
          simpa [firstTo, c_d, Int32.not_lt.mpr c_e] using ih
        · refine k_iload_n F dX7_firstOf_33 34 rfl rfl rfl ?_
          refine k_aload_n F dX7_firstOf_34 35 rfl rfl rfl ?_
          refine k_iload_n F dX7_firstOf_35 36 rfl rfl rfl ?_
          refine k_iconst (v := 0) F dX7_firstOf_36 37 rfl (by decide) ?_
          refine k_callV F kd_X7_carAt q3781 q194 (kInvV (Bs := [_, _]) F kcX7 q3778 q3780 qs116 kd_X7_carAt q3781 dX7_firstOf_37 (kHs.of hM.1) rfl (by decide)) (zX7_carAt F.st hM j 0 (by omega)) 40 rfl (Nat.le_of_ble_eq_true rfl) (by first | exact Nat.le_of_ble_eq_true rfl | omega) (by first | exact Nat.le_of_ble_eq_true rfl | omega) (by first | exact Nat.le_of_ble_eq_true rfl | omega) (by first | exact Nat.le_of_ble_eq_true rfl | omega) (fun r3 h3 hr3 => ?_)
          obtain ⟨rfl, rfl⟩ := hr3
          refine k_callV F kd_J13_min q380 q164 (kInvS (Bs := [_, _]) F q3499 q379 q164 kd_J13_min q380 dX7_firstOf_40 rfl (by decide)) (zJ13_min F.st _ _) 43 rfl (Nat.le_of_ble_eq_true rfl) (by first | exact Nat.le_of_ble_eq_true rfl | omega) (by first | exact Nat.le_of_ble_eq_true rfl | omega) (by first | exact Nat.le_of_ble_eq_true rfl | omega) (by first | exact Nat.le_of_ble_eq_true rfl | omega) (fun r4 h4 hr4 => ?_)
          obtain ⟨rfl, rfl⟩ := hr4
          refine k_istore_n (lv' := [(0, _), (1, _), (2, _), (3, _)]) F dX7_firstOf_43 44 rfl rfl (Nat.le_of_ble_eq_true rfl) rfl rfl rfl ?_
          refine k_iinc (e := 1) (lv' := [(0, _), (1, _), (2, _), (3, _)]) F dX7_firstOf_44 47 rfl rfl (by decide) rfl (Nat.le_of_ble_eq_true rfl) rfl rfl rfl ?_
          refine k_goto F dX7_firstOf_47 5 (by decide) ?_
          rw [nI_1]
          simpa [firstTo, c_d, Int32.not_le.mp c_e] using ih
set_option maxHeartbeats 4000000 in
set_option maxRecDepth 100000 in
theorem zX7_rankOf {l : Launch} {g : kG} (S : kStart l g) {h : kH} {m : Nat} {ad : Nat → Nat} {sc R : Nat → Int32} {ar : Nat → Nat → Int32} (hM : MW h m ad sc R ar) (hR : RV R) (p : Nat) (hp : p < rP R) : kMet l g yX7_rankOf (Cond.code yX7_rankOf cX7_rankOf 2 (Option.some Jvm.ClassFile.FieldType.int)) 4 0 0 [.ref m, .int (nI p)] h (mRd h (.int (rankF R p))) := by
  refine kEnter S kd_X7_rankOf (Nat.le_of_ble_eq_true rfl) (fun x F hxl hxg => ?_)
  subst hxl; subst hxg
  have hlv : lv_args 0 [.ref m, .int (nI p)] = [(0, .ref m), (1, .int (nI p))] := rfl
  rw [hlv]
  obtain ⟨r1, r2, r3, r4, r5, r6, r7, r8⟩ := id hR
  refine k_aload_n F dX7_rankOf_0 1 rfl rfl rfl ?_
  refine m_get F 0 (by decide) q3592 rfl dX7_rankOf_1 4 rfl hM rfl ?_
  refine k_iconst (v := 2) F dX7_rankOf_4 5 rfl (by decide) ?_
  refine m_ld F dX7_rankOf_5 6 rfl hM (2) (by first | (with_reducible rfl) | (simp only [nI_lit, pk_mul, nI_add])) (by omega) ?_
  refine k_ifne F dX7_rankOf_6 9 33 rfl (by decide) (fun c_a => ?_) (fun c_a => ?_)
  · refine k_aload_n F dX7_rankOf_33 34 rfl rfl rfl ?_
    refine m_get F 0 (by decide) q3592 rfl dX7_rankOf_34 37 rfl hM rfl ?_
    refine k_iconst (v := 2) F dX7_rankOf_37 38 rfl (by decide) ?_
    refine m_ld F dX7_rankOf_38 39 rfl hM (2) (by first | (with_reducible rfl) | (simp only [nI_lit, pk_mul, nI_add])) (by omega) ?_
    refine k_iconst (v := 1) F dX7_rankOf_39 40 rfl (by decide) ?_
    refine k_icmpne F dX7_rankOf_40 43 52 rfl (by decide) (fun c_b => ?_) (fun c_b => ?_)
    · refine k_aload_n F dX7_rankOf_52 53 rfl rfl rfl ?_
      refine k_iload_n F dX7_rankOf_53 54 rfl rfl rfl ?_
      refine k_callV F kd_X7_firstOf q3809 q194 (kInvV (Bs := [_]) F kcX7 q3806 q3808 qs123 kd_X7_firstOf q3809 dX7_rankOf_54 (kHs.of hM.1) rfl (by decide)) (zX7_firstOf F.st hM hR p (by omega)) 57 rfl (Nat.le_of_ble_eq_true rfl) (by first | exact Nat.le_of_ble_eq_true rfl | omega) (by first | exact Nat.le_of_ble_eq_true rfl | omega) (by first | exact Nat.le_of_ble_eq_true rfl | omega) (by first | exact Nat.le_of_ble_eq_true rfl | omega) (fun r1 h1 hr1 => ?_)
      obtain ⟨rfl, rfl⟩ := hr1
      exact k_iret F dX7_rankOf_57 (by first | exact Nat.le_of_ble_eq_true rfl | omega) (by first | exact Nat.le_of_ble_eq_true rfl | omega) ⟨by simp only [rankF, if_neg c_a, if_neg c_b], rfl⟩
    · refine k_aload_n F dX7_rankOf_43 44 rfl rfl rfl ?_
      refine k_iload_n F dX7_rankOf_44 45 rfl rfl rfl ?_
      refine k_callV F kd_X7_carsOf q3805 q194 (kInvV (Bs := [_]) F kcX7 q3802 q3804 qs122 kd_X7_carsOf q3805 dX7_rankOf_45 (kHs.of hM.1) rfl (by decide)) (zX7_carsOf F.st hM hR p (by omega)) 48 rfl (Nat.le_of_ble_eq_true rfl) (by first | exact Nat.le_of_ble_eq_true rfl | omega) (by first | exact Nat.le_of_ble_eq_true rfl | omega) (by first | exact Nat.le_of_ble_eq_true rfl | omega) (by first | exact Nat.le_of_ble_eq_true rfl | omega) (fun r2 h2 hr2 => ?_)
      obtain ⟨rfl, rfl⟩ := hr2
      refine k_ineg F dX7_rankOf_48 49 rfl ?_
      refine k_goto F dX7_rankOf_49 57 (by decide) ?_
      exact k_iret F dX7_rankOf_57 (by first | exact Nat.le_of_ble_eq_true rfl | omega) (by first | exact Nat.le_of_ble_eq_true rfl | omega) ⟨by simp only [rankF, if_neg c_a, if_pos c_b], rfl⟩
  · refine k_iload_n F dX7_rankOf_9 10 rfl rfl rfl ?_
    refine k_aload_n F dX7_rankOf_10 11 rfl rfl rfl ?_
    refine m_get F 0 (by decide) q3592 rfl dX7_rankOf_11 14 rfl hM rfl ?_
    refine k_bipush (v := 6) F dX7_rankOf_14 16 rfl (by decide) ?_
    refine m_ld F dX7_rankOf_16 17 rfl hM (6) (by first | (with_reducible rfl) | (simp only [nI_lit, pk_mul, nI_add])) (by omega) ?_
    refine k_isub F dX7_rankOf_17 18 rfl ?_
    refine k_aload_n F dX7_rankOf_18 19 rfl rfl rfl ?_
    refine m_get F 0 (by decide) q3592 rfl dX7_rankOf_19 22 rfl hM rfl ?_
    refine k_iconst (v := 4) F dX7_rankOf_22 23 rfl (by decide) ?_
    refine m_ld F dX7_rankOf_23 24 rfl hM (4) (by first | (with_reducible rfl) | (simp only [nI_lit, pk_mul, nI_add])) (by omega) ?_
    refine k_iadd F dX7_rankOf_24 25 rfl ?_
    refine k_aload_n F dX7_rankOf_25 26 rfl rfl rfl ?_
    refine m_get F 0 (by decide) q3592 rfl dX7_rankOf_26 29 rfl hM rfl ?_
    refine k_iconst (v := 4) F dX7_rankOf_29 30 rfl (by decide) ?_
    refine m_ld F dX7_rankOf_30 31 rfl hM (4) (by first | (with_reducible rfl) | (simp only [nI_lit, pk_mul, nI_add])) (by omega) ?_
    refine k_irem F dX7_rankOf_31 32 rfl (by rw [r3]; exact nI_ne0 (by omega) (by omega)) ?_
    exact k_iret F dX7_rankOf_32 (by first | exact Nat.le_of_ble_eq_true rfl | omega) (by first | exact Nat.le_of_ble_eq_true rfl | omega) ⟨by simp only [rankF, if_pos c_a], rfl⟩
set_option maxHeartbeats 4000000 in
set_option maxRecDepth 100000 in
theorem zX7_best {l : Launch} {g : kG} (S : kStart l g) {h : kH} {m : Nat} {ad : Nat → Nat} {sc R : Nat → Int32} {ar : Nat → Nat → Int32} (hM : MW h m ad sc R ar) (hR : RV R) : kMet l g yX7_best (Cond.code yX7_best cX7_best 3 (Option.some Jvm.ClassFile.FieldType.int)) 5 0 0 [.ref m] h (mRd h (.int (nO (bestF R)))) := by
  refine kEnter S kd_X7_best (Nat.le_of_ble_eq_true rfl) (fun x F hxl hxg => ?_)
  subst hxl; subst hxg
  have hlv : lv_args 0 [.ref m] = [(0, .ref m)] := rfl
  rw [hlv]
  obtain ⟨r1, r2, r3, r4, r5, r6, r7, r8⟩ := id hR
  refine k_iconst (v := (-1)) F dX7_best_0 1 rfl (by decide) ?_
  refine k_istore_n (lv' := [(0, _), (1, _)]) F dX7_best_1 2 rfl rfl (Nat.le_of_ble_eq_true rfl) rfl rfl rfl ?_
  refine k_iconst (v := 0) F dX7_best_2 3 rfl (by decide) ?_
  refine k_istore_n (lv' := [(0, _), (1, _), (2, _)]) F dX7_best_3 4 rfl rfl (Nat.le_of_ble_eq_true rfl) rfl rfl rfl ?_
  refine kUpTo (Q := fun j => kW x 0 0 h 4 [(0, .ref m), (1, .int (nO (bestTo R j))), (2, .int (nI j))] []) (rP R) ?_ ?_ 0 (Nat.zero_le _)
  · refine k_iload_n F dX7_best_4 5 rfl rfl rfl ?_
    refine k_aload_n F dX7_best_5 6 rfl rfl rfl ?_
    refine m_get F 0 (by decide) q3592 rfl dX7_best_6 9 rfl hM rfl ?_
    refine k_iconst (v := 4) F dX7_best_9 10 rfl (by decide) ?_
    refine m_ld F dX7_best_10 11 rfl hM (4) (by first | (with_reducible rfl) | (simp only [nI_lit, pk_mul, nI_add])) (by omega) ?_
    rw [r3]
    refine k_icmpge F dX7_best_11 14 48 rfl (by decide) (fun c_a => ?_) (fun c_a => ?_)
    · refine k_iload_n F dX7_best_48 49 rfl rfl rfl ?_
      exact k_iret F dX7_best_49 (by first | exact Nat.le_of_ble_eq_true rfl | omega) (by first | exact Nat.le_of_ble_eq_true rfl | omega) ⟨rfl, rfl⟩
    · exact absurd (by rw [nI_leE (by omega) (by omega)]; omega) c_a
  · intro j hj ih
    refine k_iload_n F dX7_best_4 5 rfl rfl rfl ?_
    refine k_aload_n F dX7_best_5 6 rfl rfl rfl ?_
    refine m_get F 0 (by decide) q3592 rfl dX7_best_6 9 rfl hM rfl ?_
    refine k_iconst (v := 4) F dX7_best_9 10 rfl (by decide) ?_
    refine m_ld F dX7_best_10 11 rfl hM (4) (by first | (with_reducible rfl) | (simp only [nI_lit, pk_mul, nI_add])) (by omega) ?_
    rw [r3]
    refine k_icmpge F dX7_best_11 14 48 rfl (by decide) (fun c_b => ?_) (fun c_b => ?_)
    · rw [nI_leE (by omega) (by omega)] at c_b
      omega
    · refine k_aload_n F dX7_best_14 15 rfl rfl rfl ?_
      refine k_iload_n F dX7_best_15 16 rfl rfl rfl ?_
      refine k_callV F kd_X7_isWanted q3793 q194 (kInvV (Bs := [_]) F kcX7 q3790 q3792 qs119 kd_X7_isWanted q3793 dX7_best_16 (kHs.of hM.1) rfl (by decide)) (zX7_isWanted F.st hM hR j (by omega)) 19 rfl (Nat.le_of_ble_eq_true rfl) (by first | exact Nat.le_of_ble_eq_true rfl | omega) (by first | exact Nat.le_of_ble_eq_true rfl | omega) (by first | exact Nat.le_of_ble_eq_true rfl | omega) (by first | exact Nat.le_of_ble_eq_true rfl | omega) (fun r1 h1 hr1 => ?_)
      obtain ⟨rfl, rfl⟩ := hr1
      refine k_ifeq F dX7_best_19 22 42 rfl (by decide) (fun c_d => ?_) (fun c_d => ?_)
      · rw [kB_0] at c_d
        refine k_iinc (e := 1) (lv' := [(0, _), (1, _), (2, _)]) F dX7_best_42 45 rfl rfl (by decide) rfl (Nat.le_of_ble_eq_true rfl) rfl rfl rfl ?_
        refine k_goto F dX7_best_45 4 (by decide) ?_
        rw [nI_1]
        have e : bestTo R (j + 1) = bestTo R j := by
          rw [bestTo_succ]
          cases hb : bestTo R j <;> simp [c_d]
        rw [e] at ih
        exact ih
      · rw [kB_0, Bool.not_eq_false] at c_d
        refine k_iload_n F dX7_best_22 23 rfl rfl rfl ?_
        refine k_iconst (v := (-1)) F dX7_best_23 24 rfl (by decide) ?_
        cases hb : bestTo R j with
        | none =>
          refine k_icmpeq F dX7_best_24 27 40 rfl (by decide) (fun c_e => ?_) (fun c_e => ?_)
          · refine k_iload_n F dX7_best_40 41 rfl rfl rfl ?_
            refine k_istore_n (lv' := [(0, _), (1, _), (2, _)]) F dX7_best_41 42 rfl rfl (Nat.le_of_ble_eq_true rfl) rfl rfl rfl ?_
            refine k_iinc (e := 1) (lv' := [(0, _), (1, _), (2, _)]) F dX7_best_42 45 rfl rfl (by decide) rfl (Nat.le_of_ble_eq_true rfl) rfl rfl rfl ?_
            refine k_goto F dX7_best_45 4 (by decide) ?_
            rw [nI_1]
            have e : bestTo R (j + 1) = some j := by
              rw [bestTo_succ]
              simp [hb, c_d]
            rw [e] at ih
            exact ih
          · exact absurd rfl c_e
        | some q =>
          have hq := bestTo_lt hb
          refine k_icmpeq F dX7_best_24 27 40 rfl (by decide) (fun c_f => ?_) (fun c_f => ?_)
          · rw [nO_m1 (fun q2 e2 => by cases e2; omega)] at c_f
            cases c_f
          · refine k_aload_n F dX7_best_27 28 rfl rfl rfl ?_
            refine k_iload_n F dX7_best_28 29 rfl rfl rfl ?_
            refine k_callV F kd_X7_rankOf q3801 q194 (kInvV (Bs := [_]) F kcX7 q3798 q3800 qs121 kd_X7_rankOf q3801 dX7_best_29 (kHs.of hM.1) rfl (by decide)) (zX7_rankOf F.st hM hR j (by omega)) 32 rfl (Nat.le_of_ble_eq_true rfl) (by first | exact Nat.le_of_ble_eq_true rfl | omega) (by first | exact Nat.le_of_ble_eq_true rfl | omega) (by first | exact Nat.le_of_ble_eq_true rfl | omega) (by first | exact Nat.le_of_ble_eq_true rfl | omega) (fun r2 h2 hr2 => ?_)
            obtain ⟨rfl, rfl⟩ := hr2
            refine k_aload_n F dX7_best_32 33 rfl rfl rfl ?_
            refine k_iload_n F dX7_best_33 34 rfl rfl rfl ?_
            refine k_callV F kd_X7_rankOf q3801 q194 (kInvV (Bs := [_]) F kcX7 q3798 q3800 qs121 kd_X7_rankOf q3801 dX7_best_34 (kHs.of hM.1) rfl (by decide)) (zX7_rankOf F.st hM hR q (by omega)) 37 rfl (Nat.le_of_ble_eq_true rfl) (by first | exact Nat.le_of_ble_eq_true rfl | omega) (by first | exact Nat.le_of_ble_eq_true rfl | omega) (by first | exact Nat.le_of_ble_eq_true rfl | omega) (by first | exact Nat.le_of_ble_eq_true rfl | omega) (fun r3 h3 hr3 => ?_)
            obtain ⟨rfl, rfl⟩ := hr3
            refine k_icmpge F dX7_best_37 40 42 rfl (by decide) (fun c_i => ?_) (fun c_i => ?_)
            · refine k_iinc (e := 1) (lv' := [(0, _), (1, _), (2, _)]) F dX7_best_42 45 rfl rfl (by decide) rfl (Nat.le_of_ble_eq_true rfl) rfl rfl rfl ?_
              refine k_goto F dX7_best_45 4 (by decide) ?_
              rw [nI_1]
              have e : bestTo R (j + 1) = some q := by
                rw [bestTo_succ]
                simp [hb, Int32.not_lt.mpr c_i]
              rw [e] at ih
              exact ih
            · refine k_iload_n F dX7_best_40 41 rfl rfl rfl ?_
              refine k_istore_n (lv' := [(0, _), (1, _), (2, _)]) F dX7_best_41 42 rfl rfl (Nat.le_of_ble_eq_true rfl) rfl rfl rfl ?_
              refine k_iinc (e := 1) (lv' := [(0, _), (1, _), (2, _)]) F dX7_best_42 45 rfl rfl (by decide) rfl (Nat.le_of_ble_eq_true rfl) rfl rfl rfl ?_
              refine k_goto F dX7_best_45 4 (by decide) ?_
              rw [nI_1]
              have e : bestTo R (j + 1) = some j := by
                rw [bestTo_succ]
                simp [hb, c_d, Int32.not_le.mp c_i]
              rw [e] at ih
              exact ih
set_option maxHeartbeats 4000000 in
set_option maxRecDepth 100000 in
theorem zX7_keepsBusy {l : Launch} {g : kG} (S : kStart l g) {h : kH} {m : Nat} {ad : Nat → Nat} {sc R : Nat → Int32} {ar : Nat → Nat → Int32} (hM : MW h m ad sc R ar) (a : Nat) (ha : a < 8) : kMet l g yX7_keepsBusy (Cond.code yX7_keepsBusy cX7_keepsBusy 2 (Option.some Jvm.ClassFile.FieldType.boolean)) 3 0 0 [.ref m, .int (nI a)] h (mRd h (.int (kB (keepsF R a)))) := by
  refine kEnter S kd_X7_keepsBusy (Nat.le_of_ble_eq_true rfl) (fun x F hxl hxg => ?_)
  subst hxl; subst hxg
  have hlv : lv_args 0 [.ref m, .int (nI a)] = [(0, .ref m), (1, .int (nI a))] := rfl
  rw [hlv]
  refine k_aload_n F dX7_keepsBusy_0 1 rfl rfl rfl ?_
  refine k_iload_n F dX7_keepsBusy_1 2 rfl rfl rfl ?_
  refine k_callV F kd_X7_asks q3797 q194 (kInvV (Bs := [_]) F kcX7 q3794 q3796 qs120 kd_X7_asks q3797 dX7_keepsBusy_2 (kHs.of hM.1) rfl (by decide)) (zX7_asks F.st hM a (by omega)) 5 rfl (Nat.le_of_ble_eq_true rfl) (by first | exact Nat.le_of_ble_eq_true rfl | omega) (by first | exact Nat.le_of_ble_eq_true rfl | omega) (by first | exact Nat.le_of_ble_eq_true rfl | omega) (by first | exact Nat.le_of_ble_eq_true rfl | omega) (fun r1 h1 hr1 => ?_)
  obtain ⟨rfl, rfl⟩ := hr1
  refine k_ifne F dX7_keepsBusy_5 8 30 rfl (by decide) (fun c_a => ?_) (fun c_a => ?_)
  · rw [kB_0, Bool.not_eq_false] at c_a
    refine k_iconst (v := 1) F dX7_keepsBusy_30 31 rfl (by decide) ?_
    refine k_goto F dX7_keepsBusy_31 35 (by decide) ?_
    exact k_zret F dX7_keepsBusy_35 (by first | rfl | exact kzb _ | exact pk_nc _ | decide) (by first | exact Nat.le_of_ble_eq_true rfl | omega) (by first | exact Nat.le_of_ble_eq_true rfl | omega) ⟨by simp [keepsF, kB, c_a], rfl⟩
  · rw [kB_0] at c_a
    refine k_aload_n F dX7_keepsBusy_8 9 rfl rfl rfl ?_
    refine m_get F 0 (by decide) q3592 rfl dX7_keepsBusy_9 12 rfl hM rfl ?_
    refine k_iconst (v := 5) F dX7_keepsBusy_12 13 rfl (by decide) ?_
    refine m_ld F dX7_keepsBusy_13 14 rfl hM (5) (by first | (with_reducible rfl) | (simp only [nI_lit, pk_mul, nI_add])) (by omega) ?_
    refine k_aload_n F dX7_keepsBusy_14 15 rfl rfl rfl ?_
    refine k_iload_n F dX7_keepsBusy_15 16 rfl rfl rfl ?_
    refine k_iconst (v := 1) F dX7_keepsBusy_16 17 rfl (by decide) ?_
    refine k_callV F kd_X7_of q3549 q194 (kInvV (Bs := [_, _]) F kcX7 q3546 q3548 qs86 kd_X7_of q3549 dX7_keepsBusy_17 (kHs.of hM.1) rfl (by decide)) (zX7_of F.st hM a 1 (by omega)) 20 rfl (Nat.le_of_ble_eq_true rfl) (by first | exact Nat.le_of_ble_eq_true rfl | omega) (by first | exact Nat.le_of_ble_eq_true rfl | omega) (by first | exact Nat.le_of_ble_eq_true rfl | omega) (by first | exact Nat.le_of_ble_eq_true rfl | omega) (fun r2 h2 hr2 => ?_)
    obtain ⟨rfl, rfl⟩ := hr2
    refine k_isub F dX7_keepsBusy_20 21 rfl ?_
    refine k_aload_n F dX7_keepsBusy_21 22 rfl rfl rfl ?_
    refine m_get F 0 (by decide) q3592 rfl dX7_keepsBusy_22 25 rfl hM rfl ?_
    refine k_iconst (v := 1) F dX7_keepsBusy_25 26 rfl (by decide) ?_
    refine m_ld F dX7_keepsBusy_26 27 rfl hM (1) (by first | (with_reducible rfl) | (simp only [nI_lit, pk_mul, nI_add])) (by omega) ?_
    refine k_icmpge F dX7_keepsBusy_27 30 34 rfl (by decide) (fun c_b => ?_) (fun c_b => ?_)
    · refine k_iconst (v := 0) F dX7_keepsBusy_34 35 rfl (by decide) ?_
      exact k_zret F dX7_keepsBusy_35 (by first | rfl | exact kzb _ | exact pk_nc _ | decide) (by first | exact Nat.le_of_ble_eq_true rfl | omega) (by first | exact Nat.le_of_ble_eq_true rfl | omega) ⟨by simp [keepsF, kB, c_a, Int32.not_lt.mpr c_b], rfl⟩
    · refine k_iconst (v := 1) F dX7_keepsBusy_30 31 rfl (by decide) ?_
      refine k_goto F dX7_keepsBusy_31 35 (by decide) ?_
      exact k_zret F dX7_keepsBusy_35 (by first | rfl | exact kzb _ | exact pk_nc _ | decide) (by first | exact Nat.le_of_ble_eq_true rfl | omega) (by first | exact Nat.le_of_ble_eq_true rfl | omega) ⟨by simp [keepsF, kB, c_a, Int32.not_le.mp c_b], rfl⟩
set_option maxHeartbeats 4000000 in
set_option maxRecDepth 100000 in
theorem zX7_busyArm {l : Launch} {g : kG} (S : kStart l g) {h : kH} {m : Nat} {ad : Nat → Nat} {sc R : Nat → Int32} {ar : Nat → Nat → Int32} (hM : MW h m ad sc R ar) (hR : RV R) : kMet l g yX7_busyArm (Cond.code yX7_busyArm cX7_busyArm 2 (Option.some Jvm.ClassFile.FieldType.int)) 4 0 0 [.ref m] h (mRd h (.int (nO (busyF R)))) := by
  refine kEnter S kd_X7_busyArm (Nat.le_of_ble_eq_true rfl) (fun x F hxl hxg => ?_)
  subst hxl; subst hxg
  have hlv : lv_args 0 [.ref m] = [(0, .ref m)] := rfl
  rw [hlv]
  obtain ⟨r1, r2, r3, r4, r5, r6, r7, r8⟩ := id hR
  refine k_iconst (v := 0) F dX7_busyArm_0 1 rfl (by decide) ?_
  refine k_istore_n (lv' := [(0, _), (1, _)]) F dX7_busyArm_1 2 rfl rfl (Nat.le_of_ble_eq_true rfl) rfl rfl rfl ?_
  refine kUpTo (Q := fun j => (∀ i, i < j → (mHas R (rOn R) i && keepsF R i) = false) → kW x 0 0 h 2 [(0, .ref m), (1, .int (nI j))] []) (rA R) ?_ ?_ 0 (Nat.zero_le _) (fun i hi => absurd hi (by omega))
  · intro hno
    refine k_iload_n F dX7_busyArm_2 3 rfl rfl rfl ?_
    refine k_aload_n F dX7_busyArm_3 4 rfl rfl rfl ?_
    refine m_get F 0 (by decide) q3592 rfl dX7_busyArm_4 7 rfl hM rfl ?_
    refine k_iconst (v := 3) F dX7_busyArm_7 8 rfl (by decide) ?_
    refine m_ld F dX7_busyArm_8 9 rfl hM (3) (by first | (with_reducible rfl) | (simp only [nI_lit, pk_mul, nI_add])) (by omega) ?_
    rw [r1]
    refine k_icmpge F dX7_busyArm_9 12 43 rfl (by decide) (fun c_a => ?_) (fun c_a => ?_)
    · refine k_iconst (v := (-1)) F dX7_busyArm_43 44 rfl (by decide) ?_
      exact k_iret F dX7_busyArm_44 (by first | exact Nat.le_of_ble_eq_true rfl | omega) (by first | exact Nat.le_of_ble_eq_true rfl | omega) ⟨by rw [busyF, findTo_none hno]; rfl, rfl⟩
    · exact absurd (by rw [nI_leE (by omega) (by omega)]; omega) c_a
  · intro j hj ih hno
    refine k_iload_n F dX7_busyArm_2 3 rfl rfl rfl ?_
    refine k_aload_n F dX7_busyArm_3 4 rfl rfl rfl ?_
    refine m_get F 0 (by decide) q3592 rfl dX7_busyArm_4 7 rfl hM rfl ?_
    refine k_iconst (v := 3) F dX7_busyArm_7 8 rfl (by decide) ?_
    refine m_ld F dX7_busyArm_8 9 rfl hM (3) (by first | (with_reducible rfl) | (simp only [nI_lit, pk_mul, nI_add])) (by omega) ?_
    rw [r1]
    refine k_icmpge F dX7_busyArm_9 12 43 rfl (by decide) (fun c_b => ?_) (fun c_b => ?_)
    · rw [nI_leE (by omega) (by omega)] at c_b
      omega
    · have next : (mHas R (rOn R) j && keepsF R j) = false → kW x 0 0 h 37 [(0, .ref m), (1, .int (nI j))] [] := by
        intro hw
        refine k_iinc (e := 1) (lv' := [(0, _), (1, _)]) F dX7_busyArm_37 40 rfl rfl (by decide) rfl (Nat.le_of_ble_eq_true rfl) rfl rfl rfl ?_
        refine k_goto F dX7_busyArm_40 2 (by decide) ?_
        rw [nI_1]
        exact ih (fun i hi => if q : i = j then by rw [q]; exact hw else hno i (by omega))
      refine k_aload_n F dX7_busyArm_12 13 rfl rfl rfl ?_
      refine k_aload_n F dX7_busyArm_13 14 rfl rfl rfl ?_
      refine m_get F 0 (by decide) q3592 rfl dX7_busyArm_14 17 rfl hM rfl ?_
      refine k_bipush (v := 6) F dX7_busyArm_17 19 rfl (by decide) ?_
      refine m_ld F dX7_busyArm_19 20 rfl hM (6) (by first | (with_reducible rfl) | (simp only [nI_lit, pk_mul, nI_add])) (by omega) ?_
      refine k_iload_n F dX7_busyArm_20 21 rfl rfl rfl ?_
      rw [r5]
      refine k_callV F kd_X7_hasArm q3583 q194 (kInvV (Bs := [_, _]) F kcX7 q3580 q3582 qs94 kd_X7_hasArm q3583 dX7_busyArm_21 (kHs.of hM.1) rfl (by decide)) (zX7_hasArm F.st hM (rOn R) j (by omega)) 24 rfl (Nat.le_of_ble_eq_true rfl) (by first | exact Nat.le_of_ble_eq_true rfl | omega) (by first | exact Nat.le_of_ble_eq_true rfl | omega) (by first | exact Nat.le_of_ble_eq_true rfl | omega) (by first | exact Nat.le_of_ble_eq_true rfl | omega) (fun r1 h1 hr1 => ?_)
      obtain ⟨rfl, rfl⟩ := hr1
      refine k_ifeq F dX7_busyArm_24 27 37 rfl (by decide) (fun c_d => ?_) (fun c_d => ?_)
      · rw [kB_0] at c_d
        exact next (by simp [c_d])
      · rw [kB_0, Bool.not_eq_false] at c_d
        refine k_aload_n F dX7_busyArm_27 28 rfl rfl rfl ?_
        refine k_iload_n F dX7_busyArm_28 29 rfl rfl rfl ?_
        refine k_callV F kd_X7_keepsBusy q3818 q194 (kInvV (Bs := [_]) F kcX7 q3815 q3817 qs125 kd_X7_keepsBusy q3818 dX7_busyArm_29 (kHs.of hM.1) rfl (by decide)) (zX7_keepsBusy F.st hM j (by omega)) 32 rfl (Nat.le_of_ble_eq_true rfl) (by first | exact Nat.le_of_ble_eq_true rfl | omega) (by first | exact Nat.le_of_ble_eq_true rfl | omega) (by first | exact Nat.le_of_ble_eq_true rfl | omega) (by first | exact Nat.le_of_ble_eq_true rfl | omega) (fun r2 h2 hr2 => ?_)
        obtain ⟨rfl, rfl⟩ := hr2
        refine k_ifeq F dX7_busyArm_32 35 37 rfl (by decide) (fun c_e => ?_) (fun c_e => ?_)
        · rw [kB_0] at c_e
          exact next (by simp [c_e])
        · rw [kB_0, Bool.not_eq_false] at c_e
          refine k_iload_n F dX7_busyArm_35 36 rfl rfl rfl ?_
          exact k_iret F dX7_busyArm_36 (by first | exact Nat.le_of_ble_eq_true rfl | omega) (by first | exact Nat.le_of_ble_eq_true rfl | omega) ⟨by rw [busyF, findTo_some hj hno (by simp [c_d, c_e])]; rfl, rfl⟩

