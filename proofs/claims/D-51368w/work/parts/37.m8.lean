/-! the reference: more changes (printed by gen8.py) -/
set_option maxHeartbeats 4000000 in
set_option maxRecDepth 100000 in
theorem zX7_setBroken {l : Launch} {g : kG} (S : kStart l g) {h : kH} {m : Nat} {ad : Nat → Nat} {sc R : Nat → Int32} {ar : Nat → Nat → Int32} (hM : MW h m ad sc R ar) (u : Nat) (hu : sc 6 = nI u) (hu8 : u ≤ 8) (hR : RV R) (v : Int32) (b : Bool) : kMet l g yX7_setBroken (Cond.code yX7_setBroken cX7_setBroken 3 (Option.some Jvm.ClassFile.FieldType.int)) 4 0 0 [.ref m, .int v, .int (kB b)] h (mPub h m ad sc R ar u (oBrk R v b)) := by
  refine kEnter S kd_X7_setBroken (Nat.le_of_ble_eq_true rfl) (fun x F hxl hxg => ?_)
  subst hxl; subst hxg
  have hlv : lv_args 0 [.ref m, .int v, .int (kB b)] = [(0, .ref m), (1, .int v), (2, .int (kB b))] := rfl
  rw [hlv]
  have hK : kKp (mOwn m) h h := kKp.rf
  obtain ⟨r1, r2, r3, r4, r5, r6, r7, r8⟩ := id hR
  have hu0 : upd sc 8 0 6 = nI u := hu
  refine k_aload_n F dX7_setBroken_0 1 rfl rfl rfl ?_
  refine k_iconst (v := 0) F dX7_setBroken_1 2 rfl (by decide) ?_
  refine m_put F 8 (by decide) (knX7 8) q3600 rfl rfl dX7_setBroken_2 5 rfl hM hK rfl rfl rfl (fun h9 hM hK => ?_)
  refine k_aload_n F dX7_setBroken_5 6 rfl rfl rfl ?_
  refine k_aload_n F dX7_setBroken_6 7 rfl rfl rfl ?_
  refine k_iload_n F dX7_setBroken_7 8 rfl rfl rfl ?_
  refine k_callV F kd_X7_isArm q3862 q194 (kInvV (Bs := [_]) F kcX7 q3859 q3861 qs134 kd_X7_isArm q3862 dX7_setBroken_8 (kHs.of hM.1) rfl (by decide)) (zX7_isArm F.st hM _) 11 rfl (Nat.le_of_ble_eq_true rfl) (by first | exact Nat.le_of_ble_eq_true rfl | omega) (by first | exact Nat.le_of_ble_eq_true rfl | omega) (by first | exact Nat.le_of_ble_eq_true rfl | omega) (by first | exact Nat.le_of_ble_eq_true rfl | omega) (fun r1 h1 hr1 => ?_)
  obtain ⟨rfl, rfl⟩ := hr1
  refine k_callV F kd_X7_right q3850 q194 (kInvV (Bs := [_]) F kcX7 q3847 q3849 qs132 kd_X7_right q3850 dX7_setBroken_11 (kHs.of hM.1) rfl (by decide)) (zX7_right F.st hM _) 14 rfl (Nat.le_of_ble_eq_true rfl) (by first | exact Nat.le_of_ble_eq_true rfl | omega) (by first | exact Nat.le_of_ble_eq_true rfl | omega) (by first | exact Nat.le_of_ble_eq_true rfl | omega) (by first | exact Nat.le_of_ble_eq_true rfl | omega) (fun r2 h2 hr2 => ?_)
  obtain ⟨rfl, hM, hK9⟩ := hr2
  have hK := hK.tr hK9
  rw [r1] at hM ⊢
  cases q : ixO v (rA R) with
  | none =>
    rw [show oBrk R v b = none from by simp [oBrk, q]] at F
    rw [ixO_n q] at hM ⊢
    refine k_ifeq F dX7_setBroken_14 17 34 rfl (by decide) (fun _ => ?_) (fun c_ => (by first | exact absurd rfl c_ | exact absurd c_ (by decide) | exact absurd (by assumption) c_ | exact absurd c_ (by assumption)))
    refine k_iconst (v := 0) F dX7_setBroken_34 35 rfl (by decide) ?_
    exact k_iret F dX7_setBroken_35 (by first | exact Nat.le_of_ble_eq_true rfl | omega) (by first | exact Nat.le_of_ble_eq_true rfl | omega) ⟨rfl, hM, hK⟩
  | some a =>
    obtain ⟨ha, rfl⟩ := ixO_lt (by omega) q
    rw [show oBrk R (nI a) b = some (brkF R a (kB b)) from by simp [oBrk, q]] at F
    rw [ixO_s q] at hM ⊢
    refine k_ifeq F dX7_setBroken_14 17 34 rfl (by decide) (fun c_ => (by first | exact absurd rfl c_ | exact absurd c_ (by decide) | exact absurd (by assumption) c_ | exact absurd c_ (by assumption))) (fun _ => ?_)
    refine k_aload_n F dX7_setBroken_17 18 rfl rfl rfl ?_
    refine k_iload_n F dX7_setBroken_18 19 rfl rfl rfl ?_
    refine k_iload_n F dX7_setBroken_19 20 rfl rfl rfl ?_
    cases b
    · refine k_ifeq F dX7_setBroken_20 23 27 rfl (by decide) (fun _ => ?_) (fun c_ => (by first | exact absurd rfl c_ | exact absurd c_ (by decide) | exact absurd (by assumption) c_ | exact absurd c_ (by assumption)))
      refine k_iconst (v := 0) F dX7_setBroken_27 28 rfl (by decide) ?_
      refine k_callV F kd_X7_breaking q3834 q194 (kInvV (Bs := [_, _]) F kcX7 q3831 q3833 qs129 kd_X7_breaking q3834 dX7_setBroken_28 (kHs.of hM.1) rfl (by decide)) (zX7_breaking F.st hM u hu0 hu8 hR a _ (by omega)) 31 rfl (Nat.le_of_ble_eq_true rfl) (by first | exact Nat.le_of_ble_eq_true rfl | omega) (by first | exact Nat.le_of_ble_eq_true rfl | omega) (by first | exact Nat.le_of_ble_eq_true rfl | omega) (by first | exact Nat.le_of_ble_eq_true rfl | omega) (fun r3 h3 hr3 => ?_)
      obtain ⟨rfl, hM, hK9⟩ := hr3
      have hK := hK.tr hK9
      refine k_goto F dX7_setBroken_31 35 (by decide) ?_
      exact k_iret F dX7_setBroken_35 (by first | exact Nat.le_of_ble_eq_true rfl | omega) (by first | exact Nat.le_of_ble_eq_true rfl | omega) ⟨rfl, hM, hK⟩
    · refine k_ifeq F dX7_setBroken_20 23 27 rfl (by decide) (fun c_ => (by first | exact absurd rfl c_ | exact absurd c_ (by decide) | exact absurd (by assumption) c_ | exact absurd c_ (by assumption))) (fun _ => ?_)
      refine k_iconst (v := 1) F dX7_setBroken_23 24 rfl (by decide) ?_
      refine k_goto F dX7_setBroken_24 28 (by decide) ?_
      refine k_callV F kd_X7_breaking q3834 q194 (kInvV (Bs := [_, _]) F kcX7 q3831 q3833 qs129 kd_X7_breaking q3834 dX7_setBroken_28 (kHs.of hM.1) rfl (by decide)) (zX7_breaking F.st hM u hu0 hu8 hR a _ (by omega)) 31 rfl (Nat.le_of_ble_eq_true rfl) (by first | exact Nat.le_of_ble_eq_true rfl | omega) (by first | exact Nat.le_of_ble_eq_true rfl | omega) (by first | exact Nat.le_of_ble_eq_true rfl | omega) (by first | exact Nat.le_of_ble_eq_true rfl | omega) (fun r4 h4 hr4 => ?_)
      obtain ⟨rfl, hM, hK9⟩ := hr4
      have hK := hK.tr hK9
      refine k_goto F dX7_setBroken_31 35 (by decide) ?_
      exact k_iret F dX7_setBroken_35 (by first | exact Nat.le_of_ble_eq_true rfl | omega) (by first | exact Nat.le_of_ble_eq_true rfl | omega) ⟨rfl, hM, hK⟩
set_option maxHeartbeats 4000000 in
set_option maxRecDepth 100000 in
theorem zX7_clash {l : Launch} {g : kG} (S : kStart l g) {h : kH} {m : Nat} {ad : Nat → Nat} {sc R : Nat → Int32} {ar : Nat → Nat → Int32} (hM : MW h m ad sc R ar) (u : Nat) (hu : sc 6 = nI u) (hu8 : u ≤ 8) (hR : RV R) (v w : Int32) (b : Bool) : kMet l g yX7_clash (Cond.code yX7_clash cX7_clash 6 (Option.some Jvm.ClassFile.FieldType.int)) 4 0 0 [.ref m, .int v, .int w, .int (kB b)] h (mPub h m ad sc R ar u (oCls R v w b)) := by
  refine kEnter S kd_X7_clash (Nat.le_of_ble_eq_true rfl) (fun x F hxl hxg => ?_)
  subst hxl; subst hxg
  have hlv : lv_args 0 [.ref m, .int v, .int w, .int (kB b)] = [(0, .ref m), (1, .int v), (2, .int w), (3, .int (kB b))] := rfl
  rw [hlv]
  have hK : kKp (mOwn m) h h := kKp.rf
  obtain ⟨r1, r2, r3, r4, r5, r6, r7, r8⟩ := id hR
  have hu0 : upd sc 8 0 6 = nI u := hu
  refine k_aload_n F dX7_clash_0 1 rfl rfl rfl ?_
  refine k_iconst (v := 0) F dX7_clash_1 2 rfl (by decide) ?_
  refine m_put F 8 (by decide) (knX7 8) q3600 rfl rfl dX7_clash_2 5 rfl hM hK rfl rfl rfl (fun h9 hM hK => ?_)
  refine k_aload_n F dX7_clash_5 6 rfl rfl rfl ?_
  refine k_aload_n F dX7_clash_6 7 rfl rfl rfl ?_
  refine k_iload_n F dX7_clash_7 8 rfl rfl rfl ?_
  refine k_callV F kd_X7_isArm q3862 q194 (kInvV (Bs := [_]) F kcX7 q3859 q3861 qs134 kd_X7_isArm q3862 dX7_clash_8 (kHs.of hM.1) rfl (by decide)) (zX7_isArm F.st hM _) 11 rfl (Nat.le_of_ble_eq_true rfl) (by first | exact Nat.le_of_ble_eq_true rfl | omega) (by first | exact Nat.le_of_ble_eq_true rfl | omega) (by first | exact Nat.le_of_ble_eq_true rfl | omega) (by first | exact Nat.le_of_ble_eq_true rfl | omega) (fun r1 h1 hr1 => ?_)
  obtain ⟨rfl, rfl⟩ := hr1
  rw [r1]
  cases q : ixO v (rA R) with
  | none =>
    rw [show oCls R v w b = none from by simp [oCls, q]] at F
    rw [ixO_n q]
    refine k_ifeq F dX7_clash_11 14 31 rfl (by decide) (fun _ => ?_) (fun c_ => (by first | exact absurd rfl c_ | exact absurd c_ (by decide) | exact absurd (by assumption) c_ | exact absurd c_ (by assumption)))
    refine k_iconst (v := 0) F dX7_clash_31 32 rfl (by decide) ?_
    refine k_callV F kd_X7_right q3850 q194 (kInvV (Bs := [_]) F kcX7 q3847 q3849 qs132 kd_X7_right q3850 dX7_clash_32 (kHs.of hM.1) rfl (by decide)) (zX7_right F.st hM false) 35 rfl (Nat.le_of_ble_eq_true rfl) (by first | exact Nat.le_of_ble_eq_true rfl | omega) (by first | exact Nat.le_of_ble_eq_true rfl | omega) (by first | exact Nat.le_of_ble_eq_true rfl | omega) (by first | exact Nat.le_of_ble_eq_true rfl | omega) (fun r2 h2 hr2 => ?_)
    obtain ⟨rfl, hM, hK9⟩ := hr2
    have hK := hK.tr hK9
    refine k_ifne F dX7_clash_35 38 40 rfl (by decide) (fun c_ => (by first | exact absurd rfl c_ | exact absurd c_ (by decide) | exact absurd (by assumption) c_ | exact absurd c_ (by assumption))) (fun _ => ?_)
    refine k_iconst (v := 0) F dX7_clash_38 39 rfl (by decide) ?_
    exact k_iret F dX7_clash_39 (by first | exact Nat.le_of_ble_eq_true rfl | omega) (by first | exact Nat.le_of_ble_eq_true rfl | omega) ⟨rfl, hM, hK⟩
  | some a =>
    obtain ⟨ha, rfl⟩ := ixO_lt (by omega) q
    rw [ixO_s q]
    refine k_ifeq F dX7_clash_11 14 31 rfl (by decide) (fun c_ => (by first | exact absurd rfl c_ | exact absurd c_ (by decide) | exact absurd (by assumption) c_ | exact absurd c_ (by assumption))) (fun _ => ?_)
    refine k_aload_n F dX7_clash_14 15 rfl rfl rfl ?_
    refine k_iload_n F dX7_clash_15 16 rfl rfl rfl ?_
    refine k_callV F kd_X7_isArm q3862 q194 (kInvV (Bs := [_]) F kcX7 q3859 q3861 qs134 kd_X7_isArm q3862 dX7_clash_16 (kHs.of hM.1) rfl (by decide)) (zX7_isArm F.st hM _) 19 rfl (Nat.le_of_ble_eq_true rfl) (by first | exact Nat.le_of_ble_eq_true rfl | omega) (by first | exact Nat.le_of_ble_eq_true rfl | omega) (by first | exact Nat.le_of_ble_eq_true rfl | omega) (by first | exact Nat.le_of_ble_eq_true rfl | omega) (fun r3 h3 hr3 => ?_)
    obtain ⟨rfl, rfl⟩ := hr3
    rw [r1]
    cases p : ixO w (rA R) with
    | none =>
      rw [show oCls R (nI a) w b = none from by simp [oCls, q, p]] at F
      rw [ixO_n p]
      refine k_ifeq F dX7_clash_19 22 31 rfl (by decide) (fun _ => ?_) (fun c_ => (by first | exact absurd rfl c_ | exact absurd c_ (by decide) | exact absurd (by assumption) c_ | exact absurd c_ (by assumption)))
      refine k_iconst (v := 0) F dX7_clash_31 32 rfl (by decide) ?_
      refine k_callV F kd_X7_right q3850 q194 (kInvV (Bs := [_]) F kcX7 q3847 q3849 qs132 kd_X7_right q3850 dX7_clash_32 (kHs.of hM.1) rfl (by decide)) (zX7_right F.st hM false) 35 rfl (Nat.le_of_ble_eq_true rfl) (by first | exact Nat.le_of_ble_eq_true rfl | omega) (by first | exact Nat.le_of_ble_eq_true rfl | omega) (by first | exact Nat.le_of_ble_eq_true rfl | omega) (by first | exact Nat.le_of_ble_eq_true rfl | omega) (fun r4 h4 hr4 => ?_)
      obtain ⟨rfl, hM, hK9⟩ := hr4
      have hK := hK.tr hK9
      refine k_ifne F dX7_clash_35 38 40 rfl (by decide) (fun c_ => (by first | exact absurd rfl c_ | exact absurd c_ (by decide) | exact absurd (by assumption) c_ | exact absurd c_ (by assumption))) (fun _ => ?_)
      refine k_iconst (v := 0) F dX7_clash_38 39 rfl (by decide) ?_
      exact k_iret F dX7_clash_39 (by first | exact Nat.le_of_ble_eq_true rfl | omega) (by first | exact Nat.le_of_ble_eq_true rfl | omega) ⟨rfl, hM, hK⟩
    | some c =>
      obtain ⟨hc, rfl⟩ := ixO_lt (by omega) p
      rw [ixO_s p]
      refine k_ifeq F dX7_clash_19 22 31 rfl (by decide) (fun c_ => (by first | exact absurd rfl c_ | exact absurd c_ (by decide) | exact absurd (by assumption) c_ | exact absurd c_ (by assumption))) (fun _ => ?_)
      refine k_iload_n F dX7_clash_22 23 rfl rfl rfl ?_
      refine k_iload_n F dX7_clash_23 24 rfl rfl rfl ?_
      refine k_icmpeq F dX7_clash_24 27 31 rfl (by decide) (fun c_e => ?_) (fun c_e => ?_)
      · rw [nI_inj (by omega) (by omega)] at c_e
        rw [show oCls R (nI a) (nI c) b = none from by simp [oCls, q, p, c_e]] at F
        refine k_iconst (v := 0) F dX7_clash_31 32 rfl (by decide) ?_
        refine k_callV F kd_X7_right q3850 q194 (kInvV (Bs := [_]) F kcX7 q3847 q3849 qs132 kd_X7_right q3850 dX7_clash_32 (kHs.of hM.1) rfl (by decide)) (zX7_right F.st hM false) 35 rfl (Nat.le_of_ble_eq_true rfl) (by first | exact Nat.le_of_ble_eq_true rfl | omega) (by first | exact Nat.le_of_ble_eq_true rfl | omega) (by first | exact Nat.le_of_ble_eq_true rfl | omega) (by first | exact Nat.le_of_ble_eq_true rfl | omega) (fun r5 h5 hr5 => ?_)
        obtain ⟨rfl, hM, hK9⟩ := hr5
        have hK := hK.tr hK9
        refine k_ifne F dX7_clash_35 38 40 rfl (by decide) (fun c_ => (by first | exact absurd rfl c_ | exact absurd c_ (by decide) | exact absurd (by assumption) c_ | exact absurd c_ (by assumption))) (fun _ => ?_)
        refine k_iconst (v := 0) F dX7_clash_38 39 rfl (by decide) ?_
        exact k_iret F dX7_clash_39 (by first | exact Nat.le_of_ble_eq_true rfl | omega) (by first | exact Nat.le_of_ble_eq_true rfl | omega) ⟨rfl, hM, hK⟩
      · rw [nI_inj (by omega) (by omega)] at c_e
        rw [show oCls R (nI a) (nI c) b = some (clsF R a c b) from by simp [oCls, q, p, c_e]] at F
        refine k_iconst (v := 1) F dX7_clash_27 28 rfl (by decide) ?_
        refine k_goto F dX7_clash_28 32 (by decide) ?_
        refine k_callV F kd_X7_right q3850 q194 (kInvV (Bs := [_]) F kcX7 q3847 q3849 qs132 kd_X7_right q3850 dX7_clash_32 (kHs.of hM.1) rfl (by decide)) (zX7_right F.st hM true) 35 rfl (Nat.le_of_ble_eq_true rfl) (by first | exact Nat.le_of_ble_eq_true rfl | omega) (by first | exact Nat.le_of_ble_eq_true rfl | omega) (by first | exact Nat.le_of_ble_eq_true rfl | omega) (by first | exact Nat.le_of_ble_eq_true rfl | omega) (fun r6 h6 hr6 => ?_)
        obtain ⟨rfl, hM, hK9⟩ := hr6
        have hK := hK.tr hK9
        refine k_ifne F dX7_clash_35 38 40 rfl (by decide) (fun _ => ?_) (fun c_ => (by first | exact absurd rfl c_ | exact absurd c_ (by decide) | exact absurd (by assumption) c_ | exact absurd c_ (by assumption)))
        refine k_iload_n F dX7_clash_40 41 rfl rfl rfl ?_
        replace hM : MW _ m ad (upd sc 8 0) R ar := hM
        have yes : ¬ (b = true ∧ oneF R a c = true) → kW x 0 0 h6 60 [(0, .ref m), (1, .int (nI a)), (2, .int (nI c)), (3, .int (kB b))] [] := by
          intro hno
          rw [show clsF R a c b = .inr (clsR R a c b, clsN (clsR R a c b) / 2) from if_neg hno] at F
          refine k_aload_n F dX7_clash_60 61 rfl rfl rfl ?_
          refine k_callN F kd_X7_changes q3753 q194 (kInvV (Bs := []) F kcX7 q3750 q3752 qs109 kd_X7_changes q3753 dX7_clash_61 (kHs.of hM.1) rfl (by decide)) (zX7_changes F.st hM u hu0 hu8) 64 rfl (Nat.le_of_ble_eq_true rfl) (by first | exact Nat.le_of_ble_eq_true rfl | omega) (by first | exact Nat.le_of_ble_eq_true rfl | omega) (by first | exact Nat.le_of_ble_eq_true rfl | omega) (by first | exact Nat.le_of_ble_eq_true rfl | omega) (fun h7 hr7 => ?_)
          obtain ⟨hM, hK9⟩ := hr7
          have hK := hK.tr hK9
          refine k_aload_n F dX7_clash_64 65 rfl rfl rfl ?_
          refine k_iload_n F dX7_clash_65 66 rfl rfl rfl ?_
          refine k_iload_n F dX7_clash_66 67 rfl rfl rfl ?_
          refine k_iload_n F dX7_clash_67 68 rfl rfl rfl ?_
          have fin : ∀ h1, MW h1 m ad (chS (upd sc 8 0) u) (clsR R a c b) (chA (upd sc 8 0) R ar u) → kKp (mOwn m) h h1 → kW x 0 0 h1 79 [(0, .ref m), (1, .int (nI a)), (2, .int (nI c)), (3, .int (kB b))] [] := by
            intro h1 hM hK
            have lo : ∀ j, j < 65 → clsR R a c b j = R j := fun j hj => by
              unfold clsR
              rw [upd_ne (by omega), upd_ne (by omega)]
            have hR1 : RV (clsR R a c b) := hR.of (lo 3 (by omega)) (lo 4 (by omega)) (lo 6 (by omega)) (lo 7 (by omega))
            have e3 : clsR R a c b 3 = nI (rA R) := by rw [lo 3 (by omega), ← r1]
            have eA : rA (clsR R a c b) = rA R := rA_eq (lo 3 (by omega))
            generalize hQ : clsR R a c b = Q at hM hR1 e3 eA F
            refine k_iconst (v := 0) F dX7_clash_79 80 rfl (by decide) ?_
            refine k_istore (lv' := [(0, _), (1, _), (2, _), (3, _), (4, _)]) F dX7_clash_80 82 rfl (Nat.le_of_ble_eq_true rfl) rfl rfl rfl ?_
            refine k_iconst (v := 0) F dX7_clash_82 83 rfl (by decide) ?_
            refine k_istore (lv' := [(0, _), (1, _), (2, _), (3, _), (4, _), (5, _)]) F dX7_clash_83 85 rfl (Nat.le_of_ble_eq_true rfl) rfl rfl rfl ?_
            refine kUpTo (Q := fun j => kW x 0 0 h1 85 [(0, .ref m), (1, .int (nI a)), (2, .int (nI c)), (3, .int (kB b)), (4, .int (sumTo (fun a => nI (cntB (fun b => mCl Q a b) (rA Q))) j)), (5, .int (nI j))] []) (rA R) ?_ ?_ 0 (Nat.zero_le _)
            · refine k_iload F dX7_clash_85 87 rfl rfl ?_
              refine k_aload_n F dX7_clash_87 88 rfl rfl rfl ?_
              refine m_get F 0 (by decide) q3592 rfl dX7_clash_88 91 rfl hM rfl ?_
              refine k_iconst (v := 3) F dX7_clash_91 92 rfl (by decide) ?_
              refine m_ld F dX7_clash_92 93 rfl hM (3) (by first | (with_reducible rfl) | (simp only [nI_lit, pk_mul, nI_add])) (by omega) ?_
              rw [e3]
              refine k_icmpge F dX7_clash_93 96 113 rfl (by decide) (fun _ => ?_) (fun c_ => absurd c_ (by rw [nI_leE (by omega) (by omega)]; omega))
              refine k_iload F dX7_clash_113 115 rfl rfl ?_
              refine k_iconst (v := 2) F dX7_clash_115 116 rfl (by decide) ?_
              refine k_idiv F dX7_clash_116 117 rfl (by decide) ?_
              exact k_iret F dX7_clash_117 (by first | exact Nat.le_of_ble_eq_true rfl | omega) (by first | exact Nat.le_of_ble_eq_true rfl | omega) ⟨by show Value.int (clsN Q / 2) = _; unfold clsN; rw [eA], hM, hK⟩
            · intro j hj ih
              refine k_iload F dX7_clash_85 87 rfl rfl ?_
              refine k_aload_n F dX7_clash_87 88 rfl rfl rfl ?_
              refine m_get F 0 (by decide) q3592 rfl dX7_clash_88 91 rfl hM rfl ?_
              refine k_iconst (v := 3) F dX7_clash_91 92 rfl (by decide) ?_
              refine m_ld F dX7_clash_92 93 rfl hM (3) (by first | (with_reducible rfl) | (simp only [nI_lit, pk_mul, nI_add])) (by omega) ?_
              rw [e3]
              refine k_icmpge F dX7_clash_93 96 113 rfl (by decide) (fun c_ => absurd c_ (by rw [nI_leE (by omega) (by omega)]; omega)) (fun _ => ?_)
              refine k_iload F dX7_clash_96 98 rfl rfl ?_
              refine k_aload_n F dX7_clash_98 99 rfl rfl rfl ?_
              refine k_iload F dX7_clash_99 101 rfl rfl ?_
              refine k_callV F kd_X7_clashesOf q3870 q194 (kInvV (Bs := [_]) F kcX7 q3867 q3869 qs136 kd_X7_clashesOf q3870 dX7_clash_101 (kHs.of hM.1) rfl (by decide)) (zX7_clashesOf F.st hM hR1 j (by omega)) 104 rfl (Nat.le_of_ble_eq_true rfl) (by first | exact Nat.le_of_ble_eq_true rfl | omega) (by first | exact Nat.le_of_ble_eq_true rfl | omega) (by first | exact Nat.le_of_ble_eq_true rfl | omega) (by first | exact Nat.le_of_ble_eq_true rfl | omega) (fun r8 h8 hr8 => ?_)
              obtain ⟨rfl, rfl⟩ := hr8
              refine k_iadd F dX7_clash_104 105 rfl ?_
              refine k_istore (lv' := [(0, _), (1, _), (2, _), (3, _), (4, _), (5, _)]) F dX7_clash_105 107 rfl (Nat.le_of_ble_eq_true rfl) rfl rfl rfl ?_
              refine k_iinc (e := 1) (lv' := [(0, _), (1, _), (2, _), (3, _), (4, _), (5, _)]) F dX7_clash_107 110 rfl rfl (by decide) rfl (Nat.le_of_ble_eq_true rfl) rfl rfl rfl ?_
              refine k_goto F dX7_clash_110 85 (by decide) ?_
              rw [nI_1]
              exact ih
          cases b
          · refine k_ifeq F dX7_clash_68 71 75 rfl (by decide) (fun _ => ?_) (fun c_ => (by first | exact absurd rfl c_ | exact absurd c_ (by decide) | exact absurd (by assumption) c_ | exact absurd c_ (by assumption)))
            refine k_iconst (v := 0) F dX7_clash_75 76 rfl (by decide) ?_
            refine k_callN F kd_X7_putsClash q3562 q194 (kInvV (Bs := [_, _, _]) F kcX7 q3559 q3561 qs89 kd_X7_putsClash q3562 dX7_clash_76 (kHs.of hM.1) rfl (by decide)) (zX7_putsClash F.st hM a c _ (by omega) (by omega)) 79 rfl (Nat.le_of_ble_eq_true rfl) (by first | exact Nat.le_of_ble_eq_true rfl | omega) (by first | exact Nat.le_of_ble_eq_true rfl | omega) (by first | exact Nat.le_of_ble_eq_true rfl | omega) (by first | exact Nat.le_of_ble_eq_true rfl | omega) (fun h9 hr9 => ?_)
            obtain ⟨hM, hK9⟩ := hr9
            have hK := hK.tr hK9
            exact fin _ hM hK
          · refine k_ifeq F dX7_clash_68 71 75 rfl (by decide) (fun c_ => (by first | exact absurd rfl c_ | exact absurd c_ (by decide) | exact absurd (by assumption) c_ | exact absurd c_ (by assumption))) (fun _ => ?_)
            refine k_iconst (v := 1) F dX7_clash_71 72 rfl (by decide) ?_
            refine k_goto F dX7_clash_72 76 (by decide) ?_
            refine k_callN F kd_X7_putsClash q3562 q194 (kInvV (Bs := [_, _, _]) F kcX7 q3559 q3561 qs89 kd_X7_putsClash q3562 dX7_clash_76 (kHs.of hM.1) rfl (by decide)) (zX7_putsClash F.st hM a c _ (by omega) (by omega)) 79 rfl (Nat.le_of_ble_eq_true rfl) (by first | exact Nat.le_of_ble_eq_true rfl | omega) (by first | exact Nat.le_of_ble_eq_true rfl | omega) (by first | exact Nat.le_of_ble_eq_true rfl | omega) (by first | exact Nat.le_of_ble_eq_true rfl | omega) (fun h10 hr10 => ?_)
            obtain ⟨hM, hK9⟩ := hr10
            have hK := hK.tr hK9
            exact fin _ hM hK
        refine k_ifeq F dX7_clash_41 44 60 rfl (by decide) (fun c_f => ?_) (fun c_f => ?_)
        · exact yes (fun q => by rw [q.1] at c_f; cases c_f)
        · rw [kB_0, Bool.not_eq_false] at c_f
          refine k_aload_n F dX7_clash_44 45 rfl rfl rfl ?_
          refine k_iload_n F dX7_clash_45 46 rfl rfl rfl ?_
          refine k_iload_n F dX7_clash_46 47 rfl rfl rfl ?_
          refine k_callV F kd_X7_areOfOnePhase q3995 q194 (kInvV (Bs := [_, _]) F kcX7 q3992 q3994 qs144 kd_X7_areOfOnePhase q3995 dX7_clash_47 (kHs.of hM.1) rfl (by decide)) (zX7_areOfOnePhase F.st hM hR a c (by omega) (by omega)) 50 rfl (Nat.le_of_ble_eq_true rfl) (by first | exact Nat.le_of_ble_eq_true rfl | omega) (by first | exact Nat.le_of_ble_eq_true rfl | omega) (by first | exact Nat.le_of_ble_eq_true rfl | omega) (by first | exact Nat.le_of_ble_eq_true rfl | omega) (fun r11 h11 hr11 => ?_)
          obtain ⟨rfl, rfl⟩ := hr11
          refine k_ifeq F dX7_clash_50 53 60 rfl (by decide) (fun c_g => ?_) (fun c_g => ?_)
          · rw [kB_0] at c_g
            exact yes (fun q => by rw [c_g] at q; cases q.2)
          · rw [kB_0, Bool.not_eq_false] at c_g
            rw [show clsF R a c b = .inl (-5) from if_pos ⟨c_f, c_g⟩] at F
            refine k_aload_n F dX7_clash_53 54 rfl rfl rfl ?_
            refine k_bipush (v := (-5)) F dX7_clash_54 56 rfl (by decide) ?_
            refine k_callV F kd_X7_refuses q3749 q194 (kInvV (Bs := [_]) F kcX7 q3746 q3748 qs108 kd_X7_refuses q3749 dX7_clash_56 (kHs.of hM.1) rfl (by decide)) (zX7_refuses F.st hM _) 59 rfl (Nat.le_of_ble_eq_true rfl) (by first | exact Nat.le_of_ble_eq_true rfl | omega) (by first | exact Nat.le_of_ble_eq_true rfl | omega) (by first | exact Nat.le_of_ble_eq_true rfl | omega) (by first | exact Nat.le_of_ble_eq_true rfl | omega) (fun r12 h12 hr12 => ?_)
            obtain ⟨rfl, hM, hK9⟩ := hr12
            have hK := hK.tr hK9
            exact k_iret F dX7_clash_59 (by first | exact Nat.le_of_ble_eq_true rfl | omega) (by first | exact Nat.le_of_ble_eq_true rfl | omega) ⟨rfl, hM, hK⟩

set_option maxHeartbeats 4000000 in
set_option maxRecDepth 100000 in
theorem zX7_setPhase_true {l : Launch} {g : kG} (S : kStart l g) {h : kH} {m : Nat} {ad : Nat → Nat} {sc R : Nat → Int32} {ar : Nat → Nat → Int32} (hM : MW h m ad sc R ar) (u : Nat) (hu : sc 6 = nI u) (hu8 : u ≤ 8) (hR : RV R) (v w : Int32) : kMet l g yX7_setPhase (Cond.code yX7_setPhase cX7_setPhase 4 (Option.some Jvm.ClassFile.FieldType.int)) 4 0 0 [.ref m, .int v, .int (kB true), .int w] h (mPub h m ad sc R ar u (oSetP R v true w)) := by
  refine kEnter S kd_X7_setPhase (Nat.le_of_ble_eq_true rfl) (fun x F hxl hxg => ?_)
  subst hxl; subst hxg
  have hlv : lv_args 0 [.ref m, .int v, .int (kB true), .int w] = [(0, .ref m), (1, .int v), (2, .int (kB true)), (3, .int w)] := rfl
  rw [hlv]
  have hK : kKp (mOwn m) h h := kKp.rf
  obtain ⟨r1, r2, r3, r4, r5, r6, r7, r8⟩ := id hR
  have hu0 : upd sc 8 0 6 = nI u := hu
  refine k_aload_n F dX7_setPhase_0 1 rfl rfl rfl ?_
  refine k_iconst (v := 0) F dX7_setPhase_1 2 rfl (by decide) ?_
  refine m_put F 8 (by decide) (knX7 8) q3600 rfl rfl dX7_setPhase_2 5 rfl hM hK rfl rfl rfl (fun h9 hM hK => ?_)
  refine k_aload_n F dX7_setPhase_5 6 rfl rfl rfl ?_
  refine k_aload_n F dX7_setPhase_6 7 rfl rfl rfl ?_
  refine k_iload_n F dX7_setPhase_7 8 rfl rfl rfl ?_
  refine k_callV F kd_X7_isPhase q3826 q194 (kInvV (Bs := [_]) F kcX7 q3823 q3825 qs127 kd_X7_isPhase q3826 dX7_setPhase_8 (kHs.of hM.1) rfl (by decide)) (zX7_isPhase F.st hM _) 11 rfl (Nat.le_of_ble_eq_true rfl) (by first | exact Nat.le_of_ble_eq_true rfl | omega) (by first | exact Nat.le_of_ble_eq_true rfl | omega) (by first | exact Nat.le_of_ble_eq_true rfl | omega) (by first | exact Nat.le_of_ble_eq_true rfl | omega) (fun r1 h1 hr1 => ?_)
  obtain ⟨rfl, rfl⟩ := hr1
  rw [r3]
  cases q : ixO v (rP R) with
  | none =>
    rw [show oSetP R v true w = none from by simp [oSetP, q]] at F
    rw [ixO_n q]
    refine k_ifeq F dX7_setPhase_11 14 37 rfl (by decide) (fun _ => ?_) (fun c_ => (by first | exact absurd rfl c_ | exact absurd c_ (by decide) | exact absurd (by assumption) c_ | exact absurd c_ (by assumption)))
    refine k_iconst (v := 0) F dX7_setPhase_37 38 rfl (by decide) ?_
    refine k_callV F kd_X7_right q3850 q194 (kInvV (Bs := [_]) F kcX7 q3847 q3849 qs132 kd_X7_right q3850 dX7_setPhase_38 (kHs.of hM.1) rfl (by decide)) (zX7_right F.st hM false) 41 rfl (Nat.le_of_ble_eq_true rfl) (by first | exact Nat.le_of_ble_eq_true rfl | omega) (by first | exact Nat.le_of_ble_eq_true rfl | omega) (by first | exact Nat.le_of_ble_eq_true rfl | omega) (by first | exact Nat.le_of_ble_eq_true rfl | omega) (fun r2 h2 hr2 => ?_)
    obtain ⟨rfl, hM, hK9⟩ := hr2
    have hK := hK.tr hK9
    refine k_ifeq F dX7_setPhase_41 44 62 rfl (by decide) (fun _ => ?_) (fun c_ => (by first | exact absurd rfl c_ | exact absurd c_ (by decide) | exact absurd (by assumption) c_ | exact absurd c_ (by assumption)))
    refine k_iconst (v := 0) F dX7_setPhase_62 63 rfl (by decide) ?_
    exact k_iret F dX7_setPhase_63 (by first | exact Nat.le_of_ble_eq_true rfl | omega) (by first | exact Nat.le_of_ble_eq_true rfl | omega) ⟨rfl, hM, hK⟩
  | some p =>
    obtain ⟨hp, rfl⟩ := ixO_lt (by omega) q
    rw [ixO_s q]
    refine k_ifeq F dX7_setPhase_11 14 37 rfl (by decide) (fun c_ => (by first | exact absurd rfl c_ | exact absurd c_ (by decide) | exact absurd (by assumption) c_ | exact absurd c_ (by assumption))) (fun _ => ?_)
    refine k_iload_n F dX7_setPhase_14 15 rfl rfl rfl ?_
    refine k_iconst (v := 1) F dX7_setPhase_15 16 rfl (by decide) ?_
    refine k_iload_n F dX7_setPhase_16 17 rfl rfl rfl ?_
    refine k_ifeq F dX7_setPhase_17 20 25 rfl (by decide) (fun c_ => (by first | exact absurd rfl c_ | exact absurd c_ (by decide) | exact absurd (by assumption) c_ | exact absurd c_ (by assumption))) (fun _ => ?_)
    refine k_bipush (v := 60) F dX7_setPhase_20 22 rfl (by decide) ?_
    refine k_goto F dX7_setPhase_22 27 (by decide) ?_
    refine k_callV F kd_X7_in q3498 q194 (kInvS (Bs := [_, _, _]) F q3496 q3497 q194 kd_X7_in q3498 dX7_setPhase_27 rfl (by decide)) (zX7_in F.st _ _ _) 30 rfl (Nat.le_of_ble_eq_true rfl) (by first | exact Nat.le_of_ble_eq_true rfl | omega) (by first | exact Nat.le_of_ble_eq_true rfl | omega) (by first | exact Nat.le_of_ble_eq_true rfl | omega) (by first | exact Nat.le_of_ble_eq_true rfl | omega) (fun r3 h3 hr3 => ?_)
    obtain ⟨rfl, rfl⟩ := hr3
    cases q2 : ixB w 1 60 with
    | none =>
      rw [show oSetP R (nI p) true w = none from by simp [oSetP, q, q2]] at F
      rw [show inF w 1 60 = false from ixB_n q2]
      refine k_ifeq F dX7_setPhase_30 33 37 rfl (by decide) (fun _ => ?_) (fun c_ => (by first | exact absurd rfl c_ | exact absurd c_ (by decide) | exact absurd (by assumption) c_ | exact absurd c_ (by assumption)))
      refine k_iconst (v := 0) F dX7_setPhase_37 38 rfl (by decide) ?_
      refine k_callV F kd_X7_right q3850 q194 (kInvV (Bs := [_]) F kcX7 q3847 q3849 qs132 kd_X7_right q3850 dX7_setPhase_38 (kHs.of hM.1) rfl (by decide)) (zX7_right F.st hM false) 41 rfl (Nat.le_of_ble_eq_true rfl) (by first | exact Nat.le_of_ble_eq_true rfl | omega) (by first | exact Nat.le_of_ble_eq_true rfl | omega) (by first | exact Nat.le_of_ble_eq_true rfl | omega) (by first | exact Nat.le_of_ble_eq_true rfl | omega) (fun r4 h4 hr4 => ?_)
      obtain ⟨rfl, hM, hK9⟩ := hr4
      have hK := hK.tr hK9
      refine k_ifeq F dX7_setPhase_41 44 62 rfl (by decide) (fun _ => ?_) (fun c_ => (by first | exact absurd rfl c_ | exact absurd c_ (by decide) | exact absurd (by assumption) c_ | exact absurd c_ (by assumption)))
      refine k_iconst (v := 0) F dX7_setPhase_62 63 rfl (by decide) ?_
      exact k_iret F dX7_setPhase_63 (by first | exact Nat.le_of_ble_eq_true rfl | omega) (by first | exact Nat.le_of_ble_eq_true rfl | omega) ⟨rfl, hM, hK⟩
    | some k =>
      obtain ⟨k1, k2, rfl⟩ := ixB_lt (by omega) (by omega) q2
      rw [show oSetP R (nI p) true (nI k) = some (ofpF R p 0 (nI k)) from by simp [oSetP, q, q2]] at F
      rw [show inF (nI k) 1 60 = true from ixB_s q2]
      refine k_ifeq F dX7_setPhase_30 33 37 rfl (by decide) (fun c_ => (by first | exact absurd rfl c_ | exact absurd c_ (by decide) | exact absurd (by assumption) c_ | exact absurd c_ (by assumption))) (fun _ => ?_)
      refine k_iconst (v := 1) F dX7_setPhase_33 34 rfl (by decide) ?_
      refine k_goto F dX7_setPhase_34 38 (by decide) ?_
      refine k_callV F kd_X7_right q3850 q194 (kInvV (Bs := [_]) F kcX7 q3847 q3849 qs132 kd_X7_right q3850 dX7_setPhase_38 (kHs.of hM.1) rfl (by decide)) (zX7_right F.st hM true) 41 rfl (Nat.le_of_ble_eq_true rfl) (by first | exact Nat.le_of_ble_eq_true rfl | omega) (by first | exact Nat.le_of_ble_eq_true rfl | omega) (by first | exact Nat.le_of_ble_eq_true rfl | omega) (by first | exact Nat.le_of_ble_eq_true rfl | omega) (fun r5 h5 hr5 => ?_)
      obtain ⟨rfl, hM, hK9⟩ := hr5
      have hK := hK.tr hK9
      refine k_ifeq F dX7_setPhase_41 44 62 rfl (by decide) (fun c_ => (by first | exact absurd rfl c_ | exact absurd c_ (by decide) | exact absurd (by assumption) c_ | exact absurd c_ (by assumption))) (fun _ => ?_)
      refine k_aload_n F dX7_setPhase_44 45 rfl rfl rfl ?_
      refine k_iload_n F dX7_setPhase_45 46 rfl rfl rfl ?_
      refine k_iload_n F dX7_setPhase_46 47 rfl rfl rfl ?_
      refine k_ifeq F dX7_setPhase_47 50 54 rfl (by decide) (fun c_ => (by first | exact absurd rfl c_ | exact absurd c_ (by decide) | exact absurd (by assumption) c_ | exact absurd c_ (by assumption))) (fun _ => ?_)
      refine k_iconst (v := 0) F dX7_setPhase_50 51 rfl (by decide) ?_
      refine k_goto F dX7_setPhase_51 55 (by decide) ?_
      refine k_iload_n F dX7_setPhase_55 56 rfl rfl rfl ?_
      refine k_callV F kd_X7_ofPhaseSetting q3842 q194 (kInvV (Bs := [_, _, _]) F kcX7 q3839 q3841 qs131 kd_X7_ofPhaseSetting q3842 dX7_setPhase_56 (kHs.of hM.1) rfl (by decide)) (zX7_ofPhaseSetting F.st hM u hu0 hu8 p 0 _ (by omega) (by omega)) 59 rfl (Nat.le_of_ble_eq_true rfl) (by first | exact Nat.le_of_ble_eq_true rfl | omega) (by first | exact Nat.le_of_ble_eq_true rfl | omega) (by first | exact Nat.le_of_ble_eq_true rfl | omega) (by first | exact Nat.le_of_ble_eq_true rfl | omega) (fun r6 h6 hr6 => ?_)
      obtain ⟨rfl, hM, hK9⟩ := hr6
      have hK := hK.tr hK9
      refine k_goto F dX7_setPhase_59 63 (by decide) ?_
      exact k_iret F dX7_setPhase_63 (by first | exact Nat.le_of_ble_eq_true rfl | omega) (by first | exact Nat.le_of_ble_eq_true rfl | omega) ⟨rfl, hM, hK⟩
set_option maxHeartbeats 4000000 in
set_option maxRecDepth 100000 in
theorem zX7_setPhase_false {l : Launch} {g : kG} (S : kStart l g) {h : kH} {m : Nat} {ad : Nat → Nat} {sc R : Nat → Int32} {ar : Nat → Nat → Int32} (hM : MW h m ad sc R ar) (u : Nat) (hu : sc 6 = nI u) (hu8 : u ≤ 8) (hR : RV R) (v w : Int32) : kMet l g yX7_setPhase (Cond.code yX7_setPhase cX7_setPhase 4 (Option.some Jvm.ClassFile.FieldType.int)) 4 0 0 [.ref m, .int v, .int (kB false), .int w] h (mPub h m ad sc R ar u (oSetP R v false w)) := by
  refine kEnter S kd_X7_setPhase (Nat.le_of_ble_eq_true rfl) (fun x F hxl hxg => ?_)
  subst hxl; subst hxg
  have hlv : lv_args 0 [.ref m, .int v, .int (kB false), .int w] = [(0, .ref m), (1, .int v), (2, .int (kB false)), (3, .int w)] := rfl
  rw [hlv]
  have hK : kKp (mOwn m) h h := kKp.rf
  obtain ⟨r1, r2, r3, r4, r5, r6, r7, r8⟩ := id hR
  have hu0 : upd sc 8 0 6 = nI u := hu
  refine k_aload_n F dX7_setPhase_0 1 rfl rfl rfl ?_
  refine k_iconst (v := 0) F dX7_setPhase_1 2 rfl (by decide) ?_
  refine m_put F 8 (by decide) (knX7 8) q3600 rfl rfl dX7_setPhase_2 5 rfl hM hK rfl rfl rfl (fun h9 hM hK => ?_)
  refine k_aload_n F dX7_setPhase_5 6 rfl rfl rfl ?_
  refine k_aload_n F dX7_setPhase_6 7 rfl rfl rfl ?_
  refine k_iload_n F dX7_setPhase_7 8 rfl rfl rfl ?_
  refine k_callV F kd_X7_isPhase q3826 q194 (kInvV (Bs := [_]) F kcX7 q3823 q3825 qs127 kd_X7_isPhase q3826 dX7_setPhase_8 (kHs.of hM.1) rfl (by decide)) (zX7_isPhase F.st hM _) 11 rfl (Nat.le_of_ble_eq_true rfl) (by first | exact Nat.le_of_ble_eq_true rfl | omega) (by first | exact Nat.le_of_ble_eq_true rfl | omega) (by first | exact Nat.le_of_ble_eq_true rfl | omega) (by first | exact Nat.le_of_ble_eq_true rfl | omega) (fun r1 h1 hr1 => ?_)
  obtain ⟨rfl, rfl⟩ := hr1
  rw [r3]
  cases q : ixO v (rP R) with
  | none =>
    rw [show oSetP R v false w = none from by simp [oSetP, q]] at F
    rw [ixO_n q]
    refine k_ifeq F dX7_setPhase_11 14 37 rfl (by decide) (fun _ => ?_) (fun c_ => (by first | exact absurd rfl c_ | exact absurd c_ (by decide) | exact absurd (by assumption) c_ | exact absurd c_ (by assumption)))
    refine k_iconst (v := 0) F dX7_setPhase_37 38 rfl (by decide) ?_
    refine k_callV F kd_X7_right q3850 q194 (kInvV (Bs := [_]) F kcX7 q3847 q3849 qs132 kd_X7_right q3850 dX7_setPhase_38 (kHs.of hM.1) rfl (by decide)) (zX7_right F.st hM false) 41 rfl (Nat.le_of_ble_eq_true rfl) (by first | exact Nat.le_of_ble_eq_true rfl | omega) (by first | exact Nat.le_of_ble_eq_true rfl | omega) (by first | exact Nat.le_of_ble_eq_true rfl | omega) (by first | exact Nat.le_of_ble_eq_true rfl | omega) (fun r2 h2 hr2 => ?_)
    obtain ⟨rfl, hM, hK9⟩ := hr2
    have hK := hK.tr hK9
    refine k_ifeq F dX7_setPhase_41 44 62 rfl (by decide) (fun _ => ?_) (fun c_ => (by first | exact absurd rfl c_ | exact absurd c_ (by decide) | exact absurd (by assumption) c_ | exact absurd c_ (by assumption)))
    refine k_iconst (v := 0) F dX7_setPhase_62 63 rfl (by decide) ?_
    exact k_iret F dX7_setPhase_63 (by first | exact Nat.le_of_ble_eq_true rfl | omega) (by first | exact Nat.le_of_ble_eq_true rfl | omega) ⟨rfl, hM, hK⟩
  | some p =>
    obtain ⟨hp, rfl⟩ := ixO_lt (by omega) q
    rw [ixO_s q]
    refine k_ifeq F dX7_setPhase_11 14 37 rfl (by decide) (fun c_ => (by first | exact absurd rfl c_ | exact absurd c_ (by decide) | exact absurd (by assumption) c_ | exact absurd c_ (by assumption))) (fun _ => ?_)
    refine k_iload_n F dX7_setPhase_14 15 rfl rfl rfl ?_
    refine k_iconst (v := 1) F dX7_setPhase_15 16 rfl (by decide) ?_
    refine k_iload_n F dX7_setPhase_16 17 rfl rfl rfl ?_
    refine k_ifeq F dX7_setPhase_17 20 25 rfl (by decide) (fun _ => ?_) (fun c_ => (by first | exact absurd rfl c_ | exact absurd c_ (by decide) | exact absurd (by assumption) c_ | exact absurd c_ (by assumption)))
    refine k_bipush (v := 99) F dX7_setPhase_25 27 rfl (by decide) ?_
    refine k_callV F kd_X7_in q3498 q194 (kInvS (Bs := [_, _, _]) F q3496 q3497 q194 kd_X7_in q3498 dX7_setPhase_27 rfl (by decide)) (zX7_in F.st _ _ _) 30 rfl (Nat.le_of_ble_eq_true rfl) (by first | exact Nat.le_of_ble_eq_true rfl | omega) (by first | exact Nat.le_of_ble_eq_true rfl | omega) (by first | exact Nat.le_of_ble_eq_true rfl | omega) (by first | exact Nat.le_of_ble_eq_true rfl | omega) (fun r3 h3 hr3 => ?_)
    obtain ⟨rfl, rfl⟩ := hr3
    cases q2 : ixB w 1 99 with
    | none =>
      rw [show oSetP R (nI p) false w = none from by simp [oSetP, q, q2]] at F
      rw [show inF w 1 99 = false from ixB_n q2]
      refine k_ifeq F dX7_setPhase_30 33 37 rfl (by decide) (fun _ => ?_) (fun c_ => (by first | exact absurd rfl c_ | exact absurd c_ (by decide) | exact absurd (by assumption) c_ | exact absurd c_ (by assumption)))
      refine k_iconst (v := 0) F dX7_setPhase_37 38 rfl (by decide) ?_
      refine k_callV F kd_X7_right q3850 q194 (kInvV (Bs := [_]) F kcX7 q3847 q3849 qs132 kd_X7_right q3850 dX7_setPhase_38 (kHs.of hM.1) rfl (by decide)) (zX7_right F.st hM false) 41 rfl (Nat.le_of_ble_eq_true rfl) (by first | exact Nat.le_of_ble_eq_true rfl | omega) (by first | exact Nat.le_of_ble_eq_true rfl | omega) (by first | exact Nat.le_of_ble_eq_true rfl | omega) (by first | exact Nat.le_of_ble_eq_true rfl | omega) (fun r4 h4 hr4 => ?_)
      obtain ⟨rfl, hM, hK9⟩ := hr4
      have hK := hK.tr hK9
      refine k_ifeq F dX7_setPhase_41 44 62 rfl (by decide) (fun _ => ?_) (fun c_ => (by first | exact absurd rfl c_ | exact absurd c_ (by decide) | exact absurd (by assumption) c_ | exact absurd c_ (by assumption)))
      refine k_iconst (v := 0) F dX7_setPhase_62 63 rfl (by decide) ?_
      exact k_iret F dX7_setPhase_63 (by first | exact Nat.le_of_ble_eq_true rfl | omega) (by first | exact Nat.le_of_ble_eq_true rfl | omega) ⟨rfl, hM, hK⟩
    | some k =>
      obtain ⟨k1, k2, rfl⟩ := ixB_lt (by omega) (by omega) q2
      rw [show oSetP R (nI p) false (nI k) = some (ofpF R p 1 (nI k)) from by simp [oSetP, q, q2]] at F
      rw [show inF (nI k) 1 99 = true from ixB_s q2]
      refine k_ifeq F dX7_setPhase_30 33 37 rfl (by decide) (fun c_ => (by first | exact absurd rfl c_ | exact absurd c_ (by decide) | exact absurd (by assumption) c_ | exact absurd c_ (by assumption))) (fun _ => ?_)
      refine k_iconst (v := 1) F dX7_setPhase_33 34 rfl (by decide) ?_
      refine k_goto F dX7_setPhase_34 38 (by decide) ?_
      refine k_callV F kd_X7_right q3850 q194 (kInvV (Bs := [_]) F kcX7 q3847 q3849 qs132 kd_X7_right q3850 dX7_setPhase_38 (kHs.of hM.1) rfl (by decide)) (zX7_right F.st hM true) 41 rfl (Nat.le_of_ble_eq_true rfl) (by first | exact Nat.le_of_ble_eq_true rfl | omega) (by first | exact Nat.le_of_ble_eq_true rfl | omega) (by first | exact Nat.le_of_ble_eq_true rfl | omega) (by first | exact Nat.le_of_ble_eq_true rfl | omega) (fun r5 h5 hr5 => ?_)
      obtain ⟨rfl, hM, hK9⟩ := hr5
      have hK := hK.tr hK9
      refine k_ifeq F dX7_setPhase_41 44 62 rfl (by decide) (fun c_ => (by first | exact absurd rfl c_ | exact absurd c_ (by decide) | exact absurd (by assumption) c_ | exact absurd c_ (by assumption))) (fun _ => ?_)
      refine k_aload_n F dX7_setPhase_44 45 rfl rfl rfl ?_
      refine k_iload_n F dX7_setPhase_45 46 rfl rfl rfl ?_
      refine k_iload_n F dX7_setPhase_46 47 rfl rfl rfl ?_
      refine k_ifeq F dX7_setPhase_47 50 54 rfl (by decide) (fun _ => ?_) (fun c_ => (by first | exact absurd rfl c_ | exact absurd c_ (by decide) | exact absurd (by assumption) c_ | exact absurd c_ (by assumption)))
      refine k_iconst (v := 1) F dX7_setPhase_54 55 rfl (by decide) ?_
      refine k_iload_n F dX7_setPhase_55 56 rfl rfl rfl ?_
      refine k_callV F kd_X7_ofPhaseSetting q3842 q194 (kInvV (Bs := [_, _, _]) F kcX7 q3839 q3841 qs131 kd_X7_ofPhaseSetting q3842 dX7_setPhase_56 (kHs.of hM.1) rfl (by decide)) (zX7_ofPhaseSetting F.st hM u hu0 hu8 p 1 _ (by omega) (by omega)) 59 rfl (Nat.le_of_ble_eq_true rfl) (by first | exact Nat.le_of_ble_eq_true rfl | omega) (by first | exact Nat.le_of_ble_eq_true rfl | omega) (by first | exact Nat.le_of_ble_eq_true rfl | omega) (by first | exact Nat.le_of_ble_eq_true rfl | omega) (fun r6 h6 hr6 => ?_)
      obtain ⟨rfl, hM, hK9⟩ := hr6
      have hK := hK.tr hK9
      refine k_goto F dX7_setPhase_59 63 (by decide) ?_
      exact k_iret F dX7_setPhase_63 (by first | exact Nat.le_of_ble_eq_true rfl | omega) (by first | exact Nat.le_of_ble_eq_true rfl | omega) ⟨rfl, hM, hK⟩
set_option maxHeartbeats 4000000 in
set_option maxRecDepth 100000 in
theorem zX7_set {l : Launch} {g : kG} (S : kStart l g) {h : kH} {m : Nat} {ad : Nat → Nat} {sc R : Nat → Int32} {ar : Nat → Nat → Int32} (hM : MW h m ad sc R ar) (u : Nat) (hu : sc 6 = nI u) (hu8 : u ≤ 8) (v w : Int32) : kMet l g yX7_set (Cond.code yX7_set cX7_set 3 (Option.some Jvm.ClassFile.FieldType.int)) 4 0 0 [.ref m, .int v, .int w] h (mPub h m ad sc R ar u (oSet R v w)) := by
  refine kEnter S kd_X7_set (Nat.le_of_ble_eq_true rfl) (fun x F hxl hxg => ?_)
  subst hxl; subst hxg
  have hlv : lv_args 0 [.ref m, .int v, .int w] = [(0, .ref m), (1, .int v), (2, .int w)] := rfl
  rw [hlv]
  have hK : kKp (mOwn m) h h := kKp.rf
  have hu0 : upd sc 8 0 6 = nI u := hu
  refine k_aload_n F dX7_set_0 1 rfl rfl rfl ?_
  refine k_iconst (v := 0) F dX7_set_1 2 rfl (by decide) ?_
  refine m_put F 8 (by decide) (knX7 8) q3600 rfl rfl dX7_set_2 5 rfl hM hK rfl rfl rfl (fun h9 hM hK => ?_)
  refine k_aload_n F dX7_set_5 6 rfl rfl rfl ?_
  refine k_iload_n F dX7_set_6 7 rfl rfl rfl ?_
  refine k_iconst (v := 3) F dX7_set_7 8 rfl (by decide) ?_
  refine k_iconst (v := 5) F dX7_set_8 9 rfl (by decide) ?_
  refine k_callV F kd_X7_in q3498 q194 (kInvS (Bs := [_, _, _]) F q3496 q3497 q194 kd_X7_in q3498 dX7_set_9 rfl (by decide)) (zX7_in F.st _ _ _) 12 rfl (Nat.le_of_ble_eq_true rfl) (by first | exact Nat.le_of_ble_eq_true rfl | omega) (by first | exact Nat.le_of_ble_eq_true rfl | omega) (by first | exact Nat.le_of_ble_eq_true rfl | omega) (by first | exact Nat.le_of_ble_eq_true rfl | omega) (fun r1 h1 hr1 => ?_)
  obtain ⟨rfl, rfl⟩ := hr1
  cases q : ixB v 3 5 with
  | none =>
    rw [show oSet R v w = none from by simp [oSet, q]] at F
    rw [show inF v 3 5 = false from ixB_n q]
    refine k_ifeq F dX7_set_12 15 57 rfl (by decide) (fun _ => ?_) (fun c_ => (by first | exact absurd rfl c_ | exact absurd c_ (by decide) | exact absurd (by assumption) c_ | exact absurd c_ (by assumption)))
    refine k_iconst (v := 0) F dX7_set_57 58 rfl (by decide) ?_
    refine k_callV F kd_X7_right q3850 q194 (kInvV (Bs := [_]) F kcX7 q3847 q3849 qs132 kd_X7_right q3850 dX7_set_58 (kHs.of hM.1) rfl (by decide)) (zX7_right F.st hM false) 61 rfl (Nat.le_of_ble_eq_true rfl) (by first | exact Nat.le_of_ble_eq_true rfl | omega) (by first | exact Nat.le_of_ble_eq_true rfl | omega) (by first | exact Nat.le_of_ble_eq_true rfl | omega) (by first | exact Nat.le_of_ble_eq_true rfl | omega) (fun r2 h2 hr2 => ?_)
    obtain ⟨rfl, hM, hK9⟩ := hr2
    have hK := hK.tr hK9
    refine k_ifne F dX7_set_61 64 66 rfl (by decide) (fun c_ => (by first | exact absurd rfl c_ | exact absurd c_ (by decide) | exact absurd (by assumption) c_ | exact absurd c_ (by assumption))) (fun _ => ?_)
    refine k_iconst (v := 0) F dX7_set_64 65 rfl (by decide) ?_
    exact k_iret F dX7_set_65 (by first | exact Nat.le_of_ble_eq_true rfl | omega) (by first | exact Nat.le_of_ble_eq_true rfl | omega) ⟨rfl, hM, hK⟩
  | some k =>
    obtain ⟨k1, k2, rfl⟩ := ixB_lt (by omega) (by omega) q
    rcases (show k = 3 ∨ k = 4 ∨ k = 5 by omega) with rfl | rfl | rfl
    · rw [show inF (nI 3) 3 5 = true from ixB_s q]
      refine k_ifeq F dX7_set_12 15 57 rfl (by decide) (fun c_ => (by first | exact absurd rfl c_ | exact absurd c_ (by decide) | exact absurd (by assumption) c_ | exact absurd c_ (by assumption))) (fun _ => ?_)
      refine k_iload_n F dX7_set_15 16 rfl rfl rfl ?_
      refine k_iload_n F dX7_set_16 17 rfl rfl rfl ?_
      refine k_iconst (v := 3) F dX7_set_17 18 rfl (by decide) ?_
      refine k_icmpne F dX7_set_18 21 25 rfl (by decide) (fun c_ => (by first | exact absurd rfl c_ | exact absurd c_ (by decide) | exact absurd (by assumption) c_ | exact absurd c_ (by assumption))) (fun _ => ?_)
      refine k_iconst (v := 1) F dX7_set_21 22 rfl (by decide) ?_
      refine k_goto F dX7_set_22 26 (by decide) ?_
      refine k_iload_n F dX7_set_26 27 rfl rfl rfl ?_
      refine k_iconst (v := 3) F dX7_set_27 28 rfl (by decide) ?_
      refine k_icmpne F dX7_set_28 31 36 rfl (by decide) (fun c_ => (by first | exact absurd rfl c_ | exact absurd c_ (by decide) | exact absurd (by assumption) c_ | exact absurd c_ (by assumption))) (fun _ => ?_)
      refine k_bipush (v := 9) F dX7_set_31 33 rfl (by decide) ?_
      refine k_goto F dX7_set_33 47 (by decide) ?_
      refine k_callV F kd_X7_in q3498 q194 (kInvS (Bs := [_, _, _]) F q3496 q3497 q194 kd_X7_in q3498 dX7_set_47 rfl (by decide)) (zX7_in F.st _ _ _) 50 rfl (Nat.le_of_ble_eq_true rfl) (by first | exact Nat.le_of_ble_eq_true rfl | omega) (by first | exact Nat.le_of_ble_eq_true rfl | omega) (by first | exact Nat.le_of_ble_eq_true rfl | omega) (by first | exact Nat.le_of_ble_eq_true rfl | omega) (fun r3 h3 hr3 => ?_)
      obtain ⟨rfl, rfl⟩ := hr3
      cases q2 : ixB w 1 9 with
      | none =>
        rw [show oSet R (nI 3) w = none from by simp [oSet, q, q2]] at F
        rw [show inF w 1 9 = false from ixB_n q2]
        refine k_ifeq F dX7_set_50 53 57 rfl (by decide) (fun _ => ?_) (fun c_ => (by first | exact absurd rfl c_ | exact absurd c_ (by decide) | exact absurd (by assumption) c_ | exact absurd c_ (by assumption)))
        refine k_iconst (v := 0) F dX7_set_57 58 rfl (by decide) ?_
        refine k_callV F kd_X7_right q3850 q194 (kInvV (Bs := [_]) F kcX7 q3847 q3849 qs132 kd_X7_right q3850 dX7_set_58 (kHs.of hM.1) rfl (by decide)) (zX7_right F.st hM false) 61 rfl (Nat.le_of_ble_eq_true rfl) (by first | exact Nat.le_of_ble_eq_true rfl | omega) (by first | exact Nat.le_of_ble_eq_true rfl | omega) (by first | exact Nat.le_of_ble_eq_true rfl | omega) (by first | exact Nat.le_of_ble_eq_true rfl | omega) (fun r4 h4 hr4 => ?_)
        obtain ⟨rfl, hM, hK9⟩ := hr4
        have hK := hK.tr hK9
        refine k_ifne F dX7_set_61 64 66 rfl (by decide) (fun c_ => (by first | exact absurd rfl c_ | exact absurd c_ (by decide) | exact absurd (by assumption) c_ | exact absurd c_ (by assumption))) (fun _ => ?_)
        refine k_iconst (v := 0) F dX7_set_64 65 rfl (by decide) ?_
        exact k_iret F dX7_set_65 (by first | exact Nat.le_of_ble_eq_true rfl | omega) (by first | exact Nat.le_of_ble_eq_true rfl | omega) ⟨rfl, hM, hK⟩
      | some j =>
        obtain ⟨j1, j2, rfl⟩ := ixB_lt (by omega) (by omega) q2
        rw [show oSet R (nI 3) (nI j) = some (setF R 0 (nI j)) from by simp [oSet, q, q2]] at F
        rw [show inF (nI j) 1 9 = true from ixB_s q2]
        refine k_ifeq F dX7_set_50 53 57 rfl (by decide) (fun c_ => (by first | exact absurd rfl c_ | exact absurd c_ (by decide) | exact absurd (by assumption) c_ | exact absurd c_ (by assumption))) (fun _ => ?_)
        refine k_iconst (v := 1) F dX7_set_53 54 rfl (by decide) ?_
        refine k_goto F dX7_set_54 58 (by decide) ?_
        refine k_callV F kd_X7_right q3850 q194 (kInvV (Bs := [_]) F kcX7 q3847 q3849 qs132 kd_X7_right q3850 dX7_set_58 (kHs.of hM.1) rfl (by decide)) (zX7_right F.st hM true) 61 rfl (Nat.le_of_ble_eq_true rfl) (by first | exact Nat.le_of_ble_eq_true rfl | omega) (by first | exact Nat.le_of_ble_eq_true rfl | omega) (by first | exact Nat.le_of_ble_eq_true rfl | omega) (by first | exact Nat.le_of_ble_eq_true rfl | omega) (fun r5 h5 hr5 => ?_)
        obtain ⟨rfl, hM, hK9⟩ := hr5
        have hK := hK.tr hK9
        refine k_ifne F dX7_set_61 64 66 rfl (by decide) (fun _ => ?_) (fun c_ => (by first | exact absurd rfl c_ | exact absurd c_ (by decide) | exact absurd (by assumption) c_ | exact absurd c_ (by assumption)))
        refine k_aload_n F dX7_set_66 67 rfl rfl rfl ?_
        refine k_iload_n F dX7_set_67 68 rfl rfl rfl ?_
        refine k_iconst (v := 3) F dX7_set_68 69 rfl (by decide) ?_
        refine k_isub F dX7_set_69 70 rfl ?_
        refine k_iload_n F dX7_set_70 71 rfl rfl rfl ?_
        refine k_callV F kd_X7_setting q3838 q194 (kInvV (Bs := [_, _]) F kcX7 q3835 q3837 qs130 kd_X7_setting q3838 dX7_set_71 (kHs.of hM.1) rfl (by decide)) (zX7_setting F.st hM u hu0 hu8 0 _ (by omega)) 74 rfl (Nat.le_of_ble_eq_true rfl) (by first | exact Nat.le_of_ble_eq_true rfl | omega) (by first | exact Nat.le_of_ble_eq_true rfl | omega) (by first | exact Nat.le_of_ble_eq_true rfl | omega) (by first | exact Nat.le_of_ble_eq_true rfl | omega) (fun r6 h6 hr6 => ?_)
        obtain ⟨rfl, hM, hK9⟩ := hr6
        have hK := hK.tr hK9
        exact k_iret F dX7_set_74 (by first | exact Nat.le_of_ble_eq_true rfl | omega) (by first | exact Nat.le_of_ble_eq_true rfl | omega) ⟨rfl, hM, hK⟩
    · rw [show inF (nI 4) 3 5 = true from ixB_s q]
      refine k_ifeq F dX7_set_12 15 57 rfl (by decide) (fun c_ => (by first | exact absurd rfl c_ | exact absurd c_ (by decide) | exact absurd (by assumption) c_ | exact absurd c_ (by assumption))) (fun _ => ?_)
      refine k_iload_n F dX7_set_15 16 rfl rfl rfl ?_
      refine k_iload_n F dX7_set_16 17 rfl rfl rfl ?_
      refine k_iconst (v := 3) F dX7_set_17 18 rfl (by decide) ?_
      refine k_icmpne F dX7_set_18 21 25 rfl (by decide) (fun _ => ?_) (fun c_ => (by first | exact absurd rfl c_ | exact absurd c_ (by decide) | exact absurd (by assumption) c_ | exact absurd c_ (by assumption)))
      refine k_iconst (v := 0) F dX7_set_25 26 rfl (by decide) ?_
      refine k_iload_n F dX7_set_26 27 rfl rfl rfl ?_
      refine k_iconst (v := 3) F dX7_set_27 28 rfl (by decide) ?_
      refine k_icmpne F dX7_set_28 31 36 rfl (by decide) (fun _ => ?_) (fun c_ => (by first | exact absurd rfl c_ | exact absurd c_ (by decide) | exact absurd (by assumption) c_ | exact absurd c_ (by assumption)))
      refine k_iload_n F dX7_set_36 37 rfl rfl rfl ?_
      refine k_iconst (v := 4) F dX7_set_37 38 rfl (by decide) ?_
      refine k_icmpne F dX7_set_38 41 46 rfl (by decide) (fun c_ => (by first | exact absurd rfl c_ | exact absurd c_ (by decide) | exact absurd (by assumption) c_ | exact absurd c_ (by assumption))) (fun _ => ?_)
      refine k_bipush (v := 20) F dX7_set_41 43 rfl (by decide) ?_
      refine k_goto F dX7_set_43 47 (by decide) ?_
      refine k_callV F kd_X7_in q3498 q194 (kInvS (Bs := [_, _, _]) F q3496 q3497 q194 kd_X7_in q3498 dX7_set_47 rfl (by decide)) (zX7_in F.st _ _ _) 50 rfl (Nat.le_of_ble_eq_true rfl) (by first | exact Nat.le_of_ble_eq_true rfl | omega) (by first | exact Nat.le_of_ble_eq_true rfl | omega) (by first | exact Nat.le_of_ble_eq_true rfl | omega) (by first | exact Nat.le_of_ble_eq_true rfl | omega) (fun r7 h7 hr7 => ?_)
      obtain ⟨rfl, rfl⟩ := hr7
      cases q2 : ixB w 0 20 with
      | none =>
        rw [show oSet R (nI 4) w = none from by simp [oSet, q, q2]] at F
        rw [show inF w 0 20 = false from ixB_n q2]
        refine k_ifeq F dX7_set_50 53 57 rfl (by decide) (fun _ => ?_) (fun c_ => (by first | exact absurd rfl c_ | exact absurd c_ (by decide) | exact absurd (by assumption) c_ | exact absurd c_ (by assumption)))
        refine k_iconst (v := 0) F dX7_set_57 58 rfl (by decide) ?_
        refine k_callV F kd_X7_right q3850 q194 (kInvV (Bs := [_]) F kcX7 q3847 q3849 qs132 kd_X7_right q3850 dX7_set_58 (kHs.of hM.1) rfl (by decide)) (zX7_right F.st hM false) 61 rfl (Nat.le_of_ble_eq_true rfl) (by first | exact Nat.le_of_ble_eq_true rfl | omega) (by first | exact Nat.le_of_ble_eq_true rfl | omega) (by first | exact Nat.le_of_ble_eq_true rfl | omega) (by first | exact Nat.le_of_ble_eq_true rfl | omega) (fun r8 h8 hr8 => ?_)
        obtain ⟨rfl, hM, hK9⟩ := hr8
        have hK := hK.tr hK9
        refine k_ifne F dX7_set_61 64 66 rfl (by decide) (fun c_ => (by first | exact absurd rfl c_ | exact absurd c_ (by decide) | exact absurd (by assumption) c_ | exact absurd c_ (by assumption))) (fun _ => ?_)
        refine k_iconst (v := 0) F dX7_set_64 65 rfl (by decide) ?_
        exact k_iret F dX7_set_65 (by first | exact Nat.le_of_ble_eq_true rfl | omega) (by first | exact Nat.le_of_ble_eq_true rfl | omega) ⟨rfl, hM, hK⟩
      | some j =>
        obtain ⟨j1, j2, rfl⟩ := ixB_lt (by omega) (by omega) q2
        rw [show oSet R (nI 4) (nI j) = some (setF R 1 (nI j)) from by simp [oSet, q, q2]] at F
        rw [show inF (nI j) 0 20 = true from ixB_s q2]
        refine k_ifeq F dX7_set_50 53 57 rfl (by decide) (fun c_ => (by first | exact absurd rfl c_ | exact absurd c_ (by decide) | exact absurd (by assumption) c_ | exact absurd c_ (by assumption))) (fun _ => ?_)
        refine k_iconst (v := 1) F dX7_set_53 54 rfl (by decide) ?_
        refine k_goto F dX7_set_54 58 (by decide) ?_
        refine k_callV F kd_X7_right q3850 q194 (kInvV (Bs := [_]) F kcX7 q3847 q3849 qs132 kd_X7_right q3850 dX7_set_58 (kHs.of hM.1) rfl (by decide)) (zX7_right F.st hM true) 61 rfl (Nat.le_of_ble_eq_true rfl) (by first | exact Nat.le_of_ble_eq_true rfl | omega) (by first | exact Nat.le_of_ble_eq_true rfl | omega) (by first | exact Nat.le_of_ble_eq_true rfl | omega) (by first | exact Nat.le_of_ble_eq_true rfl | omega) (fun r9 h9 hr9 => ?_)
        obtain ⟨rfl, hM, hK9⟩ := hr9
        have hK := hK.tr hK9
        refine k_ifne F dX7_set_61 64 66 rfl (by decide) (fun _ => ?_) (fun c_ => (by first | exact absurd rfl c_ | exact absurd c_ (by decide) | exact absurd (by assumption) c_ | exact absurd c_ (by assumption)))
        refine k_aload_n F dX7_set_66 67 rfl rfl rfl ?_
        refine k_iload_n F dX7_set_67 68 rfl rfl rfl ?_
        refine k_iconst (v := 3) F dX7_set_68 69 rfl (by decide) ?_
        refine k_isub F dX7_set_69 70 rfl ?_
        refine k_iload_n F dX7_set_70 71 rfl rfl rfl ?_
        refine k_callV F kd_X7_setting q3838 q194 (kInvV (Bs := [_, _]) F kcX7 q3835 q3837 qs130 kd_X7_setting q3838 dX7_set_71 (kHs.of hM.1) rfl (by decide)) (zX7_setting F.st hM u hu0 hu8 1 _ (by omega)) 74 rfl (Nat.le_of_ble_eq_true rfl) (by first | exact Nat.le_of_ble_eq_true rfl | omega) (by first | exact Nat.le_of_ble_eq_true rfl | omega) (by first | exact Nat.le_of_ble_eq_true rfl | omega) (by first | exact Nat.le_of_ble_eq_true rfl | omega) (fun r10 h10 hr10 => ?_)
        obtain ⟨rfl, hM, hK9⟩ := hr10
        have hK := hK.tr hK9
        exact k_iret F dX7_set_74 (by first | exact Nat.le_of_ble_eq_true rfl | omega) (by first | exact Nat.le_of_ble_eq_true rfl | omega) ⟨rfl, hM, hK⟩
    · rw [show inF (nI 5) 3 5 = true from ixB_s q]
      refine k_ifeq F dX7_set_12 15 57 rfl (by decide) (fun c_ => (by first | exact absurd rfl c_ | exact absurd c_ (by decide) | exact absurd (by assumption) c_ | exact absurd c_ (by assumption))) (fun _ => ?_)
      refine k_iload_n F dX7_set_15 16 rfl rfl rfl ?_
      refine k_iload_n F dX7_set_16 17 rfl rfl rfl ?_
      refine k_iconst (v := 3) F dX7_set_17 18 rfl (by decide) ?_
      refine k_icmpne F dX7_set_18 21 25 rfl (by decide) (fun _ => ?_) (fun c_ => (by first | exact absurd rfl c_ | exact absurd c_ (by decide) | exact absurd (by assumption) c_ | exact absurd c_ (by assumption)))
      refine k_iconst (v := 0) F dX7_set_25 26 rfl (by decide) ?_
      refine k_iload_n F dX7_set_26 27 rfl rfl rfl ?_
      refine k_iconst (v := 3) F dX7_set_27 28 rfl (by decide) ?_
      refine k_icmpne F dX7_set_28 31 36 rfl (by decide) (fun _ => ?_) (fun c_ => (by first | exact absurd rfl c_ | exact absurd c_ (by decide) | exact absurd (by assumption) c_ | exact absurd c_ (by assumption)))
      refine k_iload_n F dX7_set_36 37 rfl rfl rfl ?_
      refine k_iconst (v := 4) F dX7_set_37 38 rfl (by decide) ?_
      refine k_icmpne F dX7_set_38 41 46 rfl (by decide) (fun _ => ?_) (fun c_ => (by first | exact absurd rfl c_ | exact absurd c_ (by decide) | exact absurd (by assumption) c_ | exact absurd c_ (by assumption)))
      refine k_iconst (v := 2) F dX7_set_46 47 rfl (by decide) ?_
      refine k_callV F kd_X7_in q3498 q194 (kInvS (Bs := [_, _, _]) F q3496 q3497 q194 kd_X7_in q3498 dX7_set_47 rfl (by decide)) (zX7_in F.st _ _ _) 50 rfl (Nat.le_of_ble_eq_true rfl) (by first | exact Nat.le_of_ble_eq_true rfl | omega) (by first | exact Nat.le_of_ble_eq_true rfl | omega) (by first | exact Nat.le_of_ble_eq_true rfl | omega) (by first | exact Nat.le_of_ble_eq_true rfl | omega) (fun r11 h11 hr11 => ?_)
      obtain ⟨rfl, rfl⟩ := hr11
      cases q2 : ixB w 0 2 with
      | none =>
        rw [show oSet R (nI 5) w = none from by simp [oSet, q, q2]] at F
        rw [show inF w 0 2 = false from ixB_n q2]
        refine k_ifeq F dX7_set_50 53 57 rfl (by decide) (fun _ => ?_) (fun c_ => (by first | exact absurd rfl c_ | exact absurd c_ (by decide) | exact absurd (by assumption) c_ | exact absurd c_ (by assumption)))
        refine k_iconst (v := 0) F dX7_set_57 58 rfl (by decide) ?_
        refine k_callV F kd_X7_right q3850 q194 (kInvV (Bs := [_]) F kcX7 q3847 q3849 qs132 kd_X7_right q3850 dX7_set_58 (kHs.of hM.1) rfl (by decide)) (zX7_right F.st hM false) 61 rfl (Nat.le_of_ble_eq_true rfl) (by first | exact Nat.le_of_ble_eq_true rfl | omega) (by first | exact Nat.le_of_ble_eq_true rfl | omega) (by first | exact Nat.le_of_ble_eq_true rfl | omega) (by first | exact Nat.le_of_ble_eq_true rfl | omega) (fun r12 h12 hr12 => ?_)
        obtain ⟨rfl, hM, hK9⟩ := hr12
        have hK := hK.tr hK9
        refine k_ifne F dX7_set_61 64 66 rfl (by decide) (fun c_ => (by first | exact absurd rfl c_ | exact absurd c_ (by decide) | exact absurd (by assumption) c_ | exact absurd c_ (by assumption))) (fun _ => ?_)
        refine k_iconst (v := 0) F dX7_set_64 65 rfl (by decide) ?_
        exact k_iret F dX7_set_65 (by first | exact Nat.le_of_ble_eq_true rfl | omega) (by first | exact Nat.le_of_ble_eq_true rfl | omega) ⟨rfl, hM, hK⟩
      | some j =>
        obtain ⟨j1, j2, rfl⟩ := ixB_lt (by omega) (by omega) q2
        rw [show oSet R (nI 5) (nI j) = some (setF R 2 (nI j)) from by simp [oSet, q, q2]] at F
        rw [show inF (nI j) 0 2 = true from ixB_s q2]
        refine k_ifeq F dX7_set_50 53 57 rfl (by decide) (fun c_ => (by first | exact absurd rfl c_ | exact absurd c_ (by decide) | exact absurd (by assumption) c_ | exact absurd c_ (by assumption))) (fun _ => ?_)
        refine k_iconst (v := 1) F dX7_set_53 54 rfl (by decide) ?_
        refine k_goto F dX7_set_54 58 (by decide) ?_
        refine k_callV F kd_X7_right q3850 q194 (kInvV (Bs := [_]) F kcX7 q3847 q3849 qs132 kd_X7_right q3850 dX7_set_58 (kHs.of hM.1) rfl (by decide)) (zX7_right F.st hM true) 61 rfl (Nat.le_of_ble_eq_true rfl) (by first | exact Nat.le_of_ble_eq_true rfl | omega) (by first | exact Nat.le_of_ble_eq_true rfl | omega) (by first | exact Nat.le_of_ble_eq_true rfl | omega) (by first | exact Nat.le_of_ble_eq_true rfl | omega) (fun r13 h13 hr13 => ?_)
        obtain ⟨rfl, hM, hK9⟩ := hr13
        have hK := hK.tr hK9
        refine k_ifne F dX7_set_61 64 66 rfl (by decide) (fun _ => ?_) (fun c_ => (by first | exact absurd rfl c_ | exact absurd c_ (by decide) | exact absurd (by assumption) c_ | exact absurd c_ (by assumption)))
        refine k_aload_n F dX7_set_66 67 rfl rfl rfl ?_
        refine k_iload_n F dX7_set_67 68 rfl rfl rfl ?_
        refine k_iconst (v := 3) F dX7_set_68 69 rfl (by decide) ?_
        refine k_isub F dX7_set_69 70 rfl ?_
        refine k_iload_n F dX7_set_70 71 rfl rfl rfl ?_
        refine k_callV F kd_X7_setting q3838 q194 (kInvV (Bs := [_, _]) F kcX7 q3835 q3837 qs130 kd_X7_setting q3838 dX7_set_71 (kHs.of hM.1) rfl (by decide)) (zX7_setting F.st hM u hu0 hu8 2 _ (by omega)) 74 rfl (Nat.le_of_ble_eq_true rfl) (by first | exact Nat.le_of_ble_eq_true rfl | omega) (by first | exact Nat.le_of_ble_eq_true rfl | omega) (by first | exact Nat.le_of_ble_eq_true rfl | omega) (by first | exact Nat.le_of_ble_eq_true rfl | omega) (fun r14 h14 hr14 => ?_)
        obtain ⟨rfl, hM, hK9⟩ := hr14
        have hK := hK.tr hK9
        exact k_iret F dX7_set_74 (by first | exact Nat.le_of_ble_eq_true rfl | omega) (by first | exact Nat.le_of_ble_eq_true rfl | omega) ⟨rfl, hM, hK⟩

