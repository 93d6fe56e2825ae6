/-! the reference: setups -/
section
seal mustS passS lookS numS goF pkTo namedF joinF isKeyF isSignF lookV memTo armS clashS memS phaseS phS1 phS2 phS3 phR

theorem kd_X7_readsArm : kCd (Cond.code yX7_readsArm cX7_readsArm 2 (Option.none : Option Jvm.ClassFile.FieldType)) yX7_readsArm cX7_readsArm 2 (Option.none : Option Jvm.ClassFile.FieldType) [] := kCd_code (by decide +kernel)
theorem kd_X7_readsClash : kCd (Cond.code yX7_readsClash cX7_readsClash 3 (Option.none : Option Jvm.ClassFile.FieldType)) yX7_readsClash cX7_readsClash 3 (Option.none : Option Jvm.ClassFile.FieldType) [] := kCd_code (by decide +kernel)
theorem kd_X7_readsMember : kCd (Cond.code yX7_readsMember cX7_readsMember 3 (Option.none : Option Jvm.ClassFile.FieldType)) yX7_readsMember cX7_readsMember 3 (Option.none : Option Jvm.ClassFile.FieldType) [] := kCd_code (by decide +kernel)
theorem kd_X7_readsPhase : kCd (Cond.code yX7_readsPhase cX7_readsPhase 4 (Option.none : Option Jvm.ClassFile.FieldType)) yX7_readsPhase cX7_readsPhase 4 (Option.none : Option Jvm.ClassFile.FieldType) [] := kCd_code (by decide +kernel)
theorem kd_X7_readsSetup : kCd (Cond.code yX7_readsSetup cX7_readsSetup 2 (Option.none : Option Jvm.ClassFile.FieldType)) yX7_readsSetup cX7_readsSetup 2 (Option.none : Option Jvm.ClassFile.FieldType) [] := kCd_code (by decide +kernel)
theorem kd_X7_load : kCd (Cond.code yX7_load cX7_load 2 (Option.some Jvm.ClassFile.FieldType.int)) yX7_load cX7_load 2 (Option.some Jvm.ClassFile.FieldType.int) [] := kCd_code (by decide +kernel)
theorem nI_1' {n : Nat} : nI n + 1 = nI (n + 1) := by rw [show (1 : Int32) = nI 1 from rfl, nI_add]
set_option maxHeartbeats 4000000 in
set_option maxRecDepth 100000 in
theorem zX7_readsArm {l : Launch} {g : kG} (S : kStart l g) {h : kH} {m : Nat} {ad : Nat → Nat} {sc R : Nat → Int32} {ar : Nat → Nat → Int32} {N : Nat} {s : SS} (hM : MW h m ad (scT sc s) R ar) (hn : sc 10 = nI N) (hB : BufOK (ar 9) N) (hs : SOK N s) (hR : RV R) : kMet l g yX7_readsArm (Cond.code yX7_readsArm cX7_readsArm 2 (Option.none : Option Jvm.ClassFile.FieldType)) 7 0 0 [.ref m] h (mDo h m ad (scT sc (armS (ar 9) N SX7_196 (s, R)).1) (armS (ar 9) N SX7_196 (s, R)).2 ar) := by
  refine kEnter S kd_X7_readsArm (Nat.le_of_ble_eq_true rfl) (fun x F hxl hxg => ?_)
  subst hxl; subst hxg
  have hlv : lv_args 0 [.ref m] = [(0, .ref m)] := rfl
  rw [hlv]
  have hK : kKp (mOwn m) h h := kKp.rf
  obtain ⟨r1, r2, r3, r4, r5, r6, r7, r8⟩ := id hR
  have hA : ∀ w q, namedF R w = some q → q < 100 := fun w q e => by have := namedF_lt e; omega
  refine k_aload_n F dX7_readsArm_0 1 rfl rfl rfl ?_
  refine k_aload_n F dX7_readsArm_1 2 rfl rfl rfl ?_
  obtain ⟨q2, hz2, hl2⟩ := lsX7_196 F.st
  refine k_ldcS F hz2 dX7_readsArm_2 4 rfl ?_
  refine k_callV F kd_X7_isKey q3508 q194 (kInvV (Bs := [_]) F kcX7 q3505 q3507 qs76 kd_X7_isKey q3508 dX7_readsArm_4 (kHs.of hM.1) rfl (by decide)) (zX7_isKey F.st hM hn hB (by repeat' (first | assumption | with_reducible refine passS_ok ?_ | with_reducible refine lookS_ok ?_ | with_reducible refine numS_ok ?_ | with_reducible refine signS_ok ?_ | with_reducible refine goS_ok ?_ | with_reducible refine mustS_ok ?_ (by omega))) (hl2 _) (ascB_s (by decide))) 7 rfl (Nat.le_of_ble_eq_true rfl) (by first | exact Nat.le_of_ble_eq_true rfl | omega) (by first | exact Nat.le_of_ble_eq_true rfl | omega) (by first | exact Nat.le_of_ble_eq_true rfl | omega) (by first | exact Nat.le_of_ble_eq_true rfl | omega) (fun r1 h1 hr1 => ?_)
  obtain ⟨rfl, rfl⟩ := hr1
  refine k_iconst (v := 1) F dX7_readsArm_7 8 rfl (by decide) ?_
  refine k_callV F kd_X7_must q3512 q194 (kInvV (Bs := [_, _]) F kcX7 q3509 q3511 qs77 kd_X7_must q3512 dX7_readsArm_8 (kHs.of hM.1) rfl (by decide)) (zX7_must F.st hM hn hB (by repeat' (first | assumption | with_reducible refine passS_ok ?_ | with_reducible refine lookS_ok ?_ | with_reducible refine numS_ok ?_ | with_reducible refine signS_ok ?_ | with_reducible refine goS_ok ?_ | with_reducible refine mustS_ok ?_ (by omega))) _ 1 (by omega) (by omega)) 11 rfl (Nat.le_of_ble_eq_true rfl) (by first | exact Nat.le_of_ble_eq_true rfl | omega) (by first | exact Nat.le_of_ble_eq_true rfl | omega) (by first | exact Nat.le_of_ble_eq_true rfl | omega) (by first | exact Nat.le_of_ble_eq_true rfl | omega) (fun r2 h2 hr2 => ?_)
  obtain ⟨rfl, hM, hK9⟩ := hr2
  have hK := hK.tr hK9
  refine k_pop F dX7_readsArm_11 12 rfl rfl ?_
  refine k_aload_n F dX7_readsArm_12 13 rfl rfl rfl ?_
  refine k_aload_n F dX7_readsArm_13 14 rfl rfl rfl ?_
  refine m_get F 0 (by decide) q3592 rfl dX7_readsArm_14 17 rfl hM rfl ?_
  refine k_iconst (v := 3) F dX7_readsArm_17 18 rfl (by decide) ?_
  refine m_ld F dX7_readsArm_18 19 rfl hM (3) (by first | (with_reducible rfl) | (simp only [nI_lit, pk_mul, nI_add])) (by omega) ?_
  rw [r1]
  refine k_bipush (v := 8) F dX7_readsArm_19 21 rfl (by decide) ?_
  have go1 : ∀ b1 : Bool, b1 = decide (rA R < 8) → kW x 0 0 h2 29 [(0, .ref m)] [.int (kB b1), .ref m] := by
    intro b1 hb1
    refine k_iconst (v := 5) F dX7_readsArm_29 30 rfl (by decide) ?_
    refine k_callV F kd_X7_must q3512 q194 (kInvV (Bs := [_, _]) F kcX7 q3509 q3511 qs77 kd_X7_must q3512 dX7_readsArm_30 (kHs.of hM.1) rfl (by decide)) (zX7_must F.st hM hn hB (by repeat' (first | assumption | with_reducible refine passS_ok ?_ | with_reducible refine lookS_ok ?_ | with_reducible refine numS_ok ?_ | with_reducible refine signS_ok ?_ | with_reducible refine goS_ok ?_ | with_reducible refine mustS_ok ?_ (by omega))) _ 5 (by omega) (by omega)) 33 rfl (Nat.le_of_ble_eq_true rfl) (by first | exact Nat.le_of_ble_eq_true rfl | omega) (by first | exact Nat.le_of_ble_eq_true rfl | omega) (by first | exact Nat.le_of_ble_eq_true rfl | omega) (by first | exact Nat.le_of_ble_eq_true rfl | omega) (fun r3 h3 hr3 => ?_)
    obtain ⟨rfl, hM, hK9⟩ := hr3
    have hK := hK.tr hK9
    refine k_pop F dX7_readsArm_33 34 rfl rfl ?_
    refine k_aload_n F dX7_readsArm_34 35 rfl rfl rfl ?_
    refine k_callN F kd_X7_passes q3516 q194 (kInvV (Bs := []) F kcX7 q3513 q3515 qs78 kd_X7_passes q3516 dX7_readsArm_35 (kHs.of hM.1) rfl (by decide)) (zX7_passes F.st hM hn hB (by repeat' (first | assumption | with_reducible refine passS_ok ?_ | with_reducible refine lookS_ok ?_ | with_reducible refine numS_ok ?_ | with_reducible refine signS_ok ?_ | with_reducible refine goS_ok ?_ | with_reducible refine mustS_ok ?_ (by omega)))) 38 rfl (Nat.le_of_ble_eq_true rfl) (by first | exact Nat.le_of_ble_eq_true rfl | omega) (by first | exact Nat.le_of_ble_eq_true rfl | omega) (by first | exact Nat.le_of_ble_eq_true rfl | omega) (by first | exact Nat.le_of_ble_eq_true rfl | omega) (fun h4 hr4 => ?_)
    obtain ⟨hM, hK9⟩ := hr4
    have hK := hK.tr hK9
    have hs3 : SOK N (passS (ar 9) N (mustS b1 5 (mustS (isKeyF (ar 9) s SX7_196) 1 s))) := (by repeat' (first | assumption | with_reducible refine passS_ok ?_ | with_reducible refine lookS_ok ?_ | with_reducible refine numS_ok ?_ | with_reducible refine signS_ok ?_ | with_reducible refine goS_ok ?_ | with_reducible refine mustS_ok ?_ (by omega)))
    generalize e3 : passS (ar 9) N (mustS b1 5 (mustS (isKeyF (ar 9) s SX7_196) 1 s)) = s3 at hM hs3
    have hs4 : SOK N (lookS s3) := lookS_ok hs3
    have h45 := hs4.2
    refine k_aload_n F dX7_readsArm_38 39 rfl rfl rfl ?_
    refine k_callV F kd_X7_looksAtName q3537 q194 (kInvV (Bs := []) F kcX7 q3534 q3536 qs83 kd_X7_looksAtName q3537 dX7_readsArm_39 (kHs.of hM.1) rfl (by decide)) (zX7_looksAtName F.st hM hn hB (by repeat' (first | assumption | with_reducible refine passS_ok ?_ | with_reducible refine lookS_ok ?_ | with_reducible refine numS_ok ?_ | with_reducible refine signS_ok ?_ | with_reducible refine goS_ok ?_ | with_reducible refine mustS_ok ?_ (by omega)))) 42 rfl (Nat.le_of_ble_eq_true rfl) (by first | exact Nat.le_of_ble_eq_true rfl | omega) (by first | exact Nat.le_of_ble_eq_true rfl | omega) (by first | exact Nat.le_of_ble_eq_true rfl | omega) (by first | exact Nat.le_of_ble_eq_true rfl | omega) (fun r5 h5 hr5 => ?_)
    obtain ⟨rfl, hM, hK9⟩ := hr5
    have hK := hK.tr hK9
    refine k_istore_n (lv' := [(0, _), (1, _)]) F dX7_readsArm_42 43 rfl rfl (Nat.le_of_ble_eq_true rfl) rfl rfl rfl ?_
    refine k_aload_n F dX7_readsArm_43 44 rfl rfl rfl ?_
    refine k_aload_n F dX7_readsArm_44 45 rfl rfl rfl ?_
    refine m_get F 16 (by decide) q3608 rfl dX7_readsArm_45 48 rfl hM rfl ?_
    refine k_topi (b := nI ((lookS s3).2.1)) rfl ?_
    have hno := nO_m1' (hA (lookV (ar 9) s3))
    have go2 : ∀ b2 : Bool, b2 = bz (lookS s3) (namedF R (lookV (ar 9) s3)).isNone → kW x 0 0 h5 65 [(0, .ref m), (1, .int (lookV (ar 9) s3))] [.int (kB b2), .ref m] := by
      intro b2 hb2
      refine k_iconst (v := 3) F dX7_readsArm_65 66 rfl (by decide) ?_
      refine k_callV F kd_X7_must q3512 q194 (kInvV (Bs := [_, _]) F kcX7 q3509 q3511 qs77 kd_X7_must q3512 dX7_readsArm_66 (kHs.of hM.1) rfl (by decide)) (zX7_must F.st hM hn hB (by repeat' (first | assumption | with_reducible refine passS_ok ?_ | with_reducible refine lookS_ok ?_ | with_reducible refine numS_ok ?_ | with_reducible refine signS_ok ?_ | with_reducible refine goS_ok ?_ | with_reducible refine mustS_ok ?_ (by omega))) _ 3 (by omega) (by omega)) 69 rfl (Nat.le_of_ble_eq_true rfl) (by first | exact Nat.le_of_ble_eq_true rfl | omega) (by first | exact Nat.le_of_ble_eq_true rfl | omega) (by first | exact Nat.le_of_ble_eq_true rfl | omega) (by first | exact Nat.le_of_ble_eq_true rfl | omega) (fun r6 h6 hr6 => ?_)
      obtain ⟨rfl, hM, hK9⟩ := hr6
      have hK := hK.tr hK9
      refine k_pop F dX7_readsArm_69 70 rfl rfl ?_
      refine k_aload_n F dX7_readsArm_70 71 rfl rfl rfl ?_
      refine k_callN F kd_X7_passes q3516 q194 (kInvV (Bs := []) F kcX7 q3513 q3515 qs78 kd_X7_passes q3516 dX7_readsArm_71 (kHs.of hM.1) rfl (by decide)) (zX7_passes F.st hM hn hB (by repeat' (first | assumption | with_reducible refine passS_ok ?_ | with_reducible refine lookS_ok ?_ | with_reducible refine numS_ok ?_ | with_reducible refine signS_ok ?_ | with_reducible refine goS_ok ?_ | with_reducible refine mustS_ok ?_ (by omega)))) 74 rfl (Nat.le_of_ble_eq_true rfl) (by first | exact Nat.le_of_ble_eq_true rfl | omega) (by first | exact Nat.le_of_ble_eq_true rfl | omega) (by first | exact Nat.le_of_ble_eq_true rfl | omega) (by first | exact Nat.le_of_ble_eq_true rfl | omega) (fun h7 hr7 => ?_)
      obtain ⟨hM, hK9⟩ := hr7
      have hK := hK.tr hK9
      have hs6 : SOK N (passS (ar 9) N (mustS b2 3 (lookS s3))) := (by repeat' (first | assumption | with_reducible refine passS_ok ?_ | with_reducible refine lookS_ok ?_ | with_reducible refine numS_ok ?_ | with_reducible refine signS_ok ?_ | with_reducible refine goS_ok ?_ | with_reducible refine mustS_ok ?_ (by omega)))
      generalize e6 : passS (ar 9) N (mustS b2 3 (lookS s3)) = s6 at hM hs6
      have h65 := hs6.2
      have ef : armS (ar 9) N SX7_196 (s, R) = (s6, if s6.2.1 = 0 then upd (upd (upd R (17 + 6 * rA R + 0) (lookV (ar 9) s3)) (17 + 6 * rA R + 1) (-99)) 3 (nI (rA R + 1)) else R) := by
        unfold armS; dsimp only; rw [← hb1, e3, ← hb2, e6]
      rw [ef] at F
      refine k_aload_n F dX7_readsArm_74 75 rfl rfl rfl ?_
      refine m_get F 16 (by decide) q3608 rfl dX7_readsArm_75 78 rfl hM rfl ?_
      refine k_topi (b := nI s6.2.1) rfl ?_
      refine k_ifeq F dX7_readsArm_78 81 82 rfl (by decide) (fun c_z => ?_) (fun c_z => ?_)
      · rw [nI_0E (by omega)] at c_z
        rw [if_pos c_z] at F
        have h8 : rA R < 8 := armS_rA (B := ar 9) (N := N) (L := SX7_196) (q := (s, R)) (by rw [ef]; exact c_z)
        refine k_aload_n F dX7_readsArm_82 83 rfl rfl rfl ?_
        refine k_aload_n F dX7_readsArm_83 84 rfl rfl rfl ?_
        refine m_get F 0 (by decide) q3592 rfl dX7_readsArm_84 87 rfl hM rfl ?_
        refine k_iconst (v := 3) F dX7_readsArm_87 88 rfl (by decide) ?_
        refine m_ld F dX7_readsArm_88 89 rfl hM (3) (by first | (with_reducible rfl) | (simp only [nI_lit, pk_mul, nI_add])) (by omega) ?_
        rw [r1]
        refine k_iconst (v := 0) F dX7_readsArm_89 90 rfl (by decide) ?_
        refine k_iload_n F dX7_readsArm_90 91 rfl rfl rfl ?_
        refine k_callN F kd_X7_puts q3553 q194 (kInvV (Bs := [_, _, _]) F kcX7 q3550 q3552 qs87 kd_X7_puts q3553 dX7_readsArm_91 (kHs.of hM.1) rfl (by decide)) (zX7_puts F.st hM (rA R) 0 _ (by omega)) 94 rfl (Nat.le_of_ble_eq_true rfl) (by first | exact Nat.le_of_ble_eq_true rfl | omega) (by first | exact Nat.le_of_ble_eq_true rfl | omega) (by first | exact Nat.le_of_ble_eq_true rfl | omega) (by first | exact Nat.le_of_ble_eq_true rfl | omega) (fun h8 hr8 => ?_)
        obtain ⟨hM, hK9⟩ := hr8
        have hK := hK.tr hK9
        refine k_aload_n F dX7_readsArm_94 95 rfl rfl rfl ?_
        refine k_aload_n F dX7_readsArm_95 96 rfl rfl rfl ?_
        refine m_get F 0 (by decide) q3592 rfl dX7_readsArm_96 99 rfl hM rfl ?_
        refine k_iconst (v := 3) F dX7_readsArm_99 100 rfl (by decide) ?_
        refine m_ld F dX7_readsArm_100 101 rfl hM (3) (by first | (with_reducible rfl) | (simp only [nI_lit, pk_mul, nI_add])) (by omega) ?_
        rw [(show upd R (17 + 6 * rA R + 0) (lookV (ar 9) s3) 3 = nI (rA R) from by rw [upd_ne (by omega)]; exact r1)]
        refine k_iconst (v := 1) F dX7_readsArm_101 102 rfl (by decide) ?_
        refine k_bipush (v := (-99)) F dX7_readsArm_102 104 rfl (by decide) ?_
        refine k_callN F kd_X7_puts q3553 q194 (kInvV (Bs := [_, _, _]) F kcX7 q3550 q3552 qs87 kd_X7_puts q3553 dX7_readsArm_104 (kHs.of hM.1) rfl (by decide)) (zX7_puts F.st hM (rA R) 1 _ (by omega)) 107 rfl (Nat.le_of_ble_eq_true rfl) (by first | exact Nat.le_of_ble_eq_true rfl | omega) (by first | exact Nat.le_of_ble_eq_true rfl | omega) (by first | exact Nat.le_of_ble_eq_true rfl | omega) (by first | exact Nat.le_of_ble_eq_true rfl | omega) (fun h9 hr9 => ?_)
        obtain ⟨hM, hK9⟩ := hr9
        have hK := hK.tr hK9
        refine k_aload_n F dX7_readsArm_107 108 rfl rfl rfl ?_
        refine m_get F 0 (by decide) q3592 rfl dX7_readsArm_108 111 rfl hM rfl ?_
        refine k_iconst (v := 3) F dX7_readsArm_111 112 rfl (by decide) ?_
        refine k_dup2_11 F dX7_readsArm_112 113 rfl rfl rfl ?_
        refine m_ld F dX7_readsArm_113 114 rfl hM (3) (by first | (with_reducible rfl) | (simp only [nI_lit, pk_mul, nI_add])) (by omega) ?_
        rw [(show upd (upd R (17 + 6 * rA R + 0) (lookV (ar 9) s3)) (17 + 6 * rA R + 1) (-99) 3 = nI (rA R) from by rw [upd_ne (by omega), upd_ne (by omega)]; exact r1)]
        refine k_iconst (v := 1) F dX7_readsArm_114 115 rfl (by decide) ?_
        refine k_iadd F dX7_readsArm_115 116 rfl ?_
        rw [nI_1']
        refine m_st F dX7_readsArm_116 117 rfl hM hK (3) (by first | (with_reducible rfl) | (simp only [nI_lit, pk_mul, nI_add])) (by omega) (fun h9 hM hK => ?_)
        exact k_vret F dX7_readsArm_117 (by first | exact Nat.le_of_ble_eq_true rfl | omega) (by first | exact Nat.le_of_ble_eq_true rfl | omega) ⟨hM, hK⟩
      · rw [nI_0E (by omega)] at c_z
        rw [if_neg c_z] at F
        exact k_vret F dX7_readsArm_81 (by first | exact Nat.le_of_ble_eq_true rfl | omega) (by first | exact Nat.le_of_ble_eq_true rfl | omega) ⟨hM, hK⟩
    refine k_ifne F dX7_readsArm_48 51 60 rfl (by decide) (fun z10 => ?_) (fun z10 => ?_)
    · refine k_iconst (v := 1) F dX7_readsArm_60 61 rfl (by decide) ?_
      refine k_goto F dX7_readsArm_61 65 (by decide) ?_
      exact go2 true (by (try simp (disch := omega) only [nI_0E, nI_inj, nI_leE, nI_ltE, kB_0, kB_1, Bool.not_eq_false, Bool.not_eq_true, hno] at z10) <;> (try simp (disch := omega) [bz, Option.isSome_iff_ne_none, z10]) <;> (try omega))
    · refine k_aload_n F dX7_readsArm_51 52 rfl rfl rfl ?_
      refine k_iload_n F dX7_readsArm_52 53 rfl rfl rfl ?_
      refine k_callV F kd_X7_named q3545 q194 (kInvV (Bs := [_]) F kcX7 q3542 q3544 qs85 kd_X7_named q3545 dX7_readsArm_53 (kHs.of hM.1) rfl (by decide)) (zX7_named F.st hM hR _) 56 rfl (Nat.le_of_ble_eq_true rfl) (by first | exact Nat.le_of_ble_eq_true rfl | omega) (by first | exact Nat.le_of_ble_eq_true rfl | omega) (by first | exact Nat.le_of_ble_eq_true rfl | omega) (by first | exact Nat.le_of_ble_eq_true rfl | omega) (fun r11 h11 hr11 => ?_)
      obtain ⟨rfl, rfl⟩ := hr11
      refine k_iconst (v := (-1)) F dX7_readsArm_56 57 rfl (by decide) ?_
      refine k_icmpne F dX7_readsArm_57 60 64 rfl (by decide) (fun z12 => ?_) (fun z12 => ?_)
      · refine k_iconst (v := 0) F dX7_readsArm_64 65 rfl (by decide) ?_
        exact go2 false (by (try simp (disch := omega) only [nI_0E, nI_inj, nI_leE, nI_ltE, kB_0, kB_1, Bool.not_eq_false, Bool.not_eq_true, hno] at z10) <;> (try simp (disch := omega) only [nI_0E, nI_inj, nI_leE, nI_ltE, kB_0, kB_1, Bool.not_eq_false, Bool.not_eq_true, hno] at z12) <;> (try simp (disch := omega) [bz, Option.isSome_iff_ne_none, z10, z12]) <;> (try omega))
      · refine k_iconst (v := 1) F dX7_readsArm_60 61 rfl (by decide) ?_
        refine k_goto F dX7_readsArm_61 65 (by decide) ?_
        exact go2 true (by (try simp (disch := omega) only [nI_0E, nI_inj, nI_leE, nI_ltE, kB_0, kB_1, Bool.not_eq_false, Bool.not_eq_true, hno] at z10) <;> (try simp (disch := omega) only [nI_0E, nI_inj, nI_leE, nI_ltE, kB_0, kB_1, Bool.not_eq_false, Bool.not_eq_true, hno] at z12) <;> (try simp (disch := omega) [bz, Option.isSome_iff_ne_none, z10, z12]) <;> (try omega))
  refine k_icmpge F dX7_readsArm_21 24 28 rfl (by decide) (fun z13 => ?_) (fun z13 => ?_)
  · refine k_iconst (v := 0) F dX7_readsArm_28 29 rfl (by decide) ?_
    exact go1 false (by (try simp (disch := omega) only [nI_0E, nI_inj, nI_leE, nI_ltE, kB_0, kB_1, Bool.not_eq_false, Bool.not_eq_true, (show (8 : Int32) = nI 8 from rfl)] at z13) <;> (try simp (disch := omega) [z13]) <;> (try omega))
  · refine k_iconst (v := 1) F dX7_readsArm_24 25 rfl (by decide) ?_
    refine k_goto F dX7_readsArm_25 29 (by decide) ?_
    exact go1 true (by (try simp (disch := omega) only [nI_0E, nI_inj, nI_leE, nI_ltE, kB_0, kB_1, Bool.not_eq_false, Bool.not_eq_true, (show (8 : Int32) = nI 8 from rfl)] at z13) <;> (try simp (disch := omega) [z13]) <;> (try omega))
set_option maxHeartbeats 4000000 in
set_option maxRecDepth 100000 in
theorem zX7_readsClash {l : Launch} {g : kG} (S : kStart l g) {h : kH} {m : Nat} {ad : Nat → Nat} {sc R : Nat → Int32} {ar : Nat → Nat → Int32} {N : Nat} {s : SS} (hM : MW h m ad (scT sc s) R ar) (hn : sc 10 = nI N) (hB : BufOK (ar 9) N) (hs : SOK N s) (hR : RV R) : kMet l g yX7_readsClash (Cond.code yX7_readsClash cX7_readsClash 3 (Option.none : Option Jvm.ClassFile.FieldType)) 4 0 0 [.ref m] h (mDo h m ad (scT sc (clashS (ar 9) N (s, R)).1) (clashS (ar 9) N (s, R)).2 ar) := by
  refine kEnter S kd_X7_readsClash (Nat.le_of_ble_eq_true rfl) (fun x F hxl hxg => ?_)
  subst hxl; subst hxg
  have hlv : lv_args 0 [.ref m] = [(0, .ref m)] := rfl
  rw [hlv]
  have hK : kKp (mOwn m) h h := kKp.rf
  obtain ⟨⟨t1, t2, t3, t4, t5⟩, t6⟩ := id hs
  obtain ⟨r1, r2, r3, r4, r5, r6, r7, r8⟩ := id hR
  have hA : ∀ w q, namedF R w = some q → q < 100 := fun w q e => by have := namedF_lt e; omega
  refine k_aload_n F dX7_readsClash_0 1 rfl rfl rfl ?_
  refine k_callN F kd_X7_goes q3491 q194 (kInvV (Bs := []) F kcX7 q3488 q3490 qs73 kd_X7_goes q3491 dX7_readsClash_1 (kHs.of hM.1) rfl (by decide)) (zX7_goes F.st hM hn hB t1) 4 rfl (Nat.le_of_ble_eq_true rfl) (by first | exact Nat.le_of_ble_eq_true rfl | omega) (by first | exact Nat.le_of_ble_eq_true rfl | omega) (by first | exact Nat.le_of_ble_eq_true rfl | omega) (by first | exact Nat.le_of_ble_eq_true rfl | omega) (fun h1 hr1 => ?_)
  obtain ⟨hM, hK9⟩ := hr1
  have hK := hK.tr hK9
  replace hM : MW h1 m ad (scT sc (goS (ar 9) N s)) R ar := hM
  have hs1 : SOK N (goS (ar 9) N s) := goS_ok hs
  generalize e1 : goS (ar 9) N s = s1 at hM hs1
  refine k_aload_n F dX7_readsClash_4 5 rfl rfl rfl ?_
  refine k_aload_n F dX7_readsClash_5 6 rfl rfl rfl ?_
  refine k_callV F kd_X7_looksAtName q3537 q194 (kInvV (Bs := []) F kcX7 q3534 q3536 qs83 kd_X7_looksAtName q3537 dX7_readsClash_6 (kHs.of hM.1) rfl (by decide)) (zX7_looksAtName F.st hM hn hB (by repeat' (first | assumption | with_reducible refine passS_ok ?_ | with_reducible refine lookS_ok ?_ | with_reducible refine numS_ok ?_ | with_reducible refine signS_ok ?_ | with_reducible refine goS_ok ?_ | with_reducible refine mustS_ok ?_ (by omega)))) 9 rfl (Nat.le_of_ble_eq_true rfl) (by first | exact Nat.le_of_ble_eq_true rfl | omega) (by first | exact Nat.le_of_ble_eq_true rfl | omega) (by first | exact Nat.le_of_ble_eq_true rfl | omega) (by first | exact Nat.le_of_ble_eq_true rfl | omega) (fun r2 h2 hr2 => ?_)
  obtain ⟨rfl, hM, hK9⟩ := hr2
  have hK := hK.tr hK9
  refine k_callV F kd_X7_named q3545 q194 (kInvV (Bs := [_]) F kcX7 q3542 q3544 qs85 kd_X7_named q3545 dX7_readsClash_9 (kHs.of hM.1) rfl (by decide)) (zX7_named F.st hM hR _) 12 rfl (Nat.le_of_ble_eq_true rfl) (by first | exact Nat.le_of_ble_eq_true rfl | omega) (by first | exact Nat.le_of_ble_eq_true rfl | omega) (by first | exact Nat.le_of_ble_eq_true rfl | omega) (by first | exact Nat.le_of_ble_eq_true rfl | omega) (fun r3 h3 hr3 => ?_)
  obtain ⟨rfl, rfl⟩ := hr3
  have hA1 := hA (lookV (ar 9) s1)
  generalize ea : namedF R (lookV (ar 9) s1) = a at hA1
  have hs2 : SOK N (lookS s1) := lookS_ok hs1
  have h25 := hs2.2
  have hno1 := nO_m1' hA1
  refine k_istore_n (lv' := [(0, _), (1, _)]) F dX7_readsClash_12 13 rfl rfl (Nat.le_of_ble_eq_true rfl) rfl rfl rfl ?_
  refine k_aload_n F dX7_readsClash_13 14 rfl rfl rfl ?_
  refine k_aload_n F dX7_readsClash_14 15 rfl rfl rfl ?_
  refine m_get F 16 (by decide) q3608 rfl dX7_readsClash_15 18 rfl hM rfl ?_
  refine k_topi (b := nI ((lookS s1).2.1)) rfl ?_
  have go1 : ∀ b1 : Bool, b1 = bz (lookS s1) a.isSome → kW x 0 0 h2 31 [(0, .ref m), (1, .int (nO a))] [.int (kB b1), .ref m] := by
    intro b1 hb1
    refine k_iconst (v := 4) F dX7_readsClash_31 32 rfl (by decide) ?_
    refine k_callV F kd_X7_must q3512 q194 (kInvV (Bs := [_, _]) F kcX7 q3509 q3511 qs77 kd_X7_must q3512 dX7_readsClash_32 (kHs.of hM.1) rfl (by decide)) (zX7_must F.st hM hn hB (by repeat' (first | assumption | with_reducible refine passS_ok ?_ | with_reducible refine lookS_ok ?_ | with_reducible refine numS_ok ?_ | with_reducible refine signS_ok ?_ | with_reducible refine goS_ok ?_ | with_reducible refine mustS_ok ?_ (by omega))) _ 4 (by omega) (by omega)) 35 rfl (Nat.le_of_ble_eq_true rfl) (by first | exact Nat.le_of_ble_eq_true rfl | omega) (by first | exact Nat.le_of_ble_eq_true rfl | omega) (by first | exact Nat.le_of_ble_eq_true rfl | omega) (by first | exact Nat.le_of_ble_eq_true rfl | omega) (fun r4 h4 hr4 => ?_)
    obtain ⟨rfl, hM, hK9⟩ := hr4
    have hK := hK.tr hK9
    refine k_pop F dX7_readsClash_35 36 rfl rfl ?_
    refine k_aload_n F dX7_readsClash_36 37 rfl rfl rfl ?_
    refine k_callN F kd_X7_passes q3516 q194 (kInvV (Bs := []) F kcX7 q3513 q3515 qs78 kd_X7_passes q3516 dX7_readsClash_37 (kHs.of hM.1) rfl (by decide)) (zX7_passes F.st hM hn hB (by repeat' (first | assumption | with_reducible refine passS_ok ?_ | with_reducible refine lookS_ok ?_ | with_reducible refine numS_ok ?_ | with_reducible refine signS_ok ?_ | with_reducible refine goS_ok ?_ | with_reducible refine mustS_ok ?_ (by omega)))) 40 rfl (Nat.le_of_ble_eq_true rfl) (by first | exact Nat.le_of_ble_eq_true rfl | omega) (by first | exact Nat.le_of_ble_eq_true rfl | omega) (by first | exact Nat.le_of_ble_eq_true rfl | omega) (by first | exact Nat.le_of_ble_eq_true rfl | omega) (fun h5 hr5 => ?_)
    obtain ⟨hM, hK9⟩ := hr5
    have hK := hK.tr hK9
    have hs4 : SOK N (passS (ar 9) N (mustS b1 4 (lookS s1))) := (by repeat' (first | assumption | with_reducible refine passS_ok ?_ | with_reducible refine lookS_ok ?_ | with_reducible refine numS_ok ?_ | with_reducible refine signS_ok ?_ | with_reducible refine goS_ok ?_ | with_reducible refine mustS_ok ?_ (by omega)))
    generalize e4 : passS (ar 9) N (mustS b1 4 (lookS s1)) = s4 at hM hs4
    refine k_aload_n F dX7_readsClash_40 41 rfl rfl rfl ?_
    refine k_aload_n F dX7_readsClash_41 42 rfl rfl rfl ?_
    refine k_callV F kd_X7_looksAtName q3537 q194 (kInvV (Bs := []) F kcX7 q3534 q3536 qs83 kd_X7_looksAtName q3537 dX7_readsClash_42 (kHs.of hM.1) rfl (by decide)) (zX7_looksAtName F.st hM hn hB (by repeat' (first | assumption | with_reducible refine passS_ok ?_ | with_reducible refine lookS_ok ?_ | with_reducible refine numS_ok ?_ | with_reducible refine signS_ok ?_ | with_reducible refine goS_ok ?_ | with_reducible refine mustS_ok ?_ (by omega)))) 45 rfl (Nat.le_of_ble_eq_true rfl) (by first | exact Nat.le_of_ble_eq_true rfl | omega) (by first | exact Nat.le_of_ble_eq_true rfl | omega) (by first | exact Nat.le_of_ble_eq_true rfl | omega) (by first | exact Nat.le_of_ble_eq_true rfl | omega) (fun r6 h6 hr6 => ?_)
    obtain ⟨rfl, hM, hK9⟩ := hr6
    have hK := hK.tr hK9
    refine k_callV F kd_X7_named q3545 q194 (kInvV (Bs := [_]) F kcX7 q3542 q3544 qs85 kd_X7_named q3545 dX7_readsClash_45 (kHs.of hM.1) rfl (by decide)) (zX7_named F.st hM hR _) 48 rfl (Nat.le_of_ble_eq_true rfl) (by first | exact Nat.le_of_ble_eq_true rfl | omega) (by first | exact Nat.le_of_ble_eq_true rfl | omega) (by first | exact Nat.le_of_ble_eq_true rfl | omega) (by first | exact Nat.le_of_ble_eq_true rfl | omega) (fun r7 h7 hr7 => ?_)
    obtain ⟨rfl, rfl⟩ := hr7
    have hA2 := hA (lookV (ar 9) s4)
    generalize eb : namedF R (lookV (ar 9) s4) = b at hA2
    have hs5 : SOK N (lookS s4) := lookS_ok hs4
    have h55 := hs5.2
    have hno2 := nO_m1' hA2
    have hinj := nO_inj hA2 hA1
    refine k_istore_n (lv' := [(0, _), (1, _), (2, _)]) F dX7_readsClash_48 49 rfl rfl (Nat.le_of_ble_eq_true rfl) rfl rfl rfl ?_
    refine k_aload_n F dX7_readsClash_49 50 rfl rfl rfl ?_
    refine k_aload_n F dX7_readsClash_50 51 rfl rfl rfl ?_
    refine m_get F 16 (by decide) q3608 rfl dX7_readsClash_51 54 rfl hM rfl ?_
    refine k_topi (b := nI ((lookS s4).2.1)) rfl ?_
    have go2 : ∀ b2 : Bool, b2 = bz (lookS s4) (!decide (b = a)) → kW x 0 0 h6 67 [(0, .ref m), (1, .int (nO a)), (2, .int (nO b))] [.int (kB b2), .ref m] := by
      intro b2 hb2
      refine k_iconst (v := 3) F dX7_readsClash_67 68 rfl (by decide) ?_
      refine k_callV F kd_X7_must q3512 q194 (kInvV (Bs := [_, _]) F kcX7 q3509 q3511 qs77 kd_X7_must q3512 dX7_readsClash_68 (kHs.of hM.1) rfl (by decide)) (zX7_must F.st hM hn hB (by repeat' (first | assumption | with_reducible refine passS_ok ?_ | with_reducible refine lookS_ok ?_ | with_reducible refine numS_ok ?_ | with_reducible refine signS_ok ?_ | with_reducible refine goS_ok ?_ | with_reducible refine mustS_ok ?_ (by omega))) _ 3 (by omega) (by omega)) 71 rfl (Nat.le_of_ble_eq_true rfl) (by first | exact Nat.le_of_ble_eq_true rfl | omega) (by first | exact Nat.le_of_ble_eq_true rfl | omega) (by first | exact Nat.le_of_ble_eq_true rfl | omega) (by first | exact Nat.le_of_ble_eq_true rfl | omega) (fun r8 h8 hr8 => ?_)
      obtain ⟨rfl, hM, hK9⟩ := hr8
      have hK := hK.tr hK9
      refine k_pop F dX7_readsClash_71 72 rfl rfl ?_
      have hs6 : SOK N (mustS b2 3 (lookS s4)) := (by repeat' (first | assumption | with_reducible refine passS_ok ?_ | with_reducible refine lookS_ok ?_ | with_reducible refine numS_ok ?_ | with_reducible refine signS_ok ?_ | with_reducible refine goS_ok ?_ | with_reducible refine mustS_ok ?_ (by omega)))
      generalize e6 : mustS b2 3 (lookS s4) = s6 at hM hs6
      have h65 := hs6.2
      refine k_aload_n F dX7_readsClash_72 73 rfl rfl rfl ?_
      refine k_aload_n F dX7_readsClash_73 74 rfl rfl rfl ?_
      refine m_get F 16 (by decide) q3608 rfl dX7_readsClash_74 77 rfl hM rfl ?_
      refine k_topi (b := nI s6.2.1) rfl ?_
      have go3 : ∀ b3 : Bool, b3 = bz s6 b.isSome → kW x 0 0 h8 90 [(0, .ref m), (1, .int (nO a)), (2, .int (nO b))] [.int (kB b3), .ref m] := by
        intro b3 hb3
        refine k_iconst (v := 4) F dX7_readsClash_90 91 rfl (by decide) ?_
        refine k_callV F kd_X7_must q3512 q194 (kInvV (Bs := [_, _]) F kcX7 q3509 q3511 qs77 kd_X7_must q3512 dX7_readsClash_91 (kHs.of hM.1) rfl (by decide)) (zX7_must F.st hM hn hB (by repeat' (first | assumption | with_reducible refine passS_ok ?_ | with_reducible refine lookS_ok ?_ | with_reducible refine numS_ok ?_ | with_reducible refine signS_ok ?_ | with_reducible refine goS_ok ?_ | with_reducible refine mustS_ok ?_ (by omega))) _ 4 (by omega) (by omega)) 94 rfl (Nat.le_of_ble_eq_true rfl) (by first | exact Nat.le_of_ble_eq_true rfl | omega) (by first | exact Nat.le_of_ble_eq_true rfl | omega) (by first | exact Nat.le_of_ble_eq_true rfl | omega) (by first | exact Nat.le_of_ble_eq_true rfl | omega) (fun r9 h9 hr9 => ?_)
        obtain ⟨rfl, hM, hK9⟩ := hr9
        have hK := hK.tr hK9
        refine k_pop F dX7_readsClash_94 95 rfl rfl ?_
        refine k_aload_n F dX7_readsClash_95 96 rfl rfl rfl ?_
        refine k_callN F kd_X7_passes q3516 q194 (kInvV (Bs := []) F kcX7 q3513 q3515 qs78 kd_X7_passes q3516 dX7_readsClash_96 (kHs.of hM.1) rfl (by decide)) (zX7_passes F.st hM hn hB (by repeat' (first | assumption | with_reducible refine passS_ok ?_ | with_reducible refine lookS_ok ?_ | with_reducible refine numS_ok ?_ | with_reducible refine signS_ok ?_ | with_reducible refine goS_ok ?_ | with_reducible refine mustS_ok ?_ (by omega)))) 99 rfl (Nat.le_of_ble_eq_true rfl) (by first | exact Nat.le_of_ble_eq_true rfl | omega) (by first | exact Nat.le_of_ble_eq_true rfl | omega) (by first | exact Nat.le_of_ble_eq_true rfl | omega) (by first | exact Nat.le_of_ble_eq_true rfl | omega) (fun h10 hr10 => ?_)
        obtain ⟨hM, hK9⟩ := hr10
        have hK := hK.tr hK9
        have hs8 : SOK N (passS (ar 9) N (mustS b3 4 s6)) := (by repeat' (first | assumption | with_reducible refine passS_ok ?_ | with_reducible refine lookS_ok ?_ | with_reducible refine numS_ok ?_ | with_reducible refine signS_ok ?_ | with_reducible refine goS_ok ?_ | with_reducible refine mustS_ok ?_ (by omega)))
        generalize e8 : passS (ar 9) N (mustS b3 4 s6) = s8 at hM hs8
        have h85 := hs8.2
        have ef : clashS (ar 9) N (s, R) = (s8, if s8.2.1 = 0 then (match (generalizing := false) a, b with
          | some a, some b => upd (upd R (65 + 8 * a + b) 1) (65 + 8 * b + a) 1
          | _, _ => R) else R) := by
          unfold clashS; subst e8; subst hb3; subst e6; subst hb2; subst eb; subst e4; subst hb1; subst ea; subst e1; rfl
        rw [ef] at F
        refine k_aload_n F dX7_readsClash_99 100 rfl rfl rfl ?_
        refine m_get F 16 (by decide) q3608 rfl dX7_readsClash_100 103 rfl hM rfl ?_
        refine k_topi (b := nI s8.2.1) rfl ?_
        refine k_ifne F dX7_readsClash_103 106 113 rfl (by decide) (fun c_z => ?_) (fun c_z => ?_)
        · rw [nI_0E (by omega)] at c_z
          rw [if_neg c_z] at F
          exact k_vret F dX7_readsClash_113 (by first | exact Nat.le_of_ble_eq_true rfl | omega) (by first | exact Nat.le_of_ble_eq_true rfl | omega) ⟨hM, hK⟩
        · rw [nI_0E (by omega)] at c_z
          rw [if_pos c_z] at F
          have q1 := c_z
          rw [← e8, passS_c, mustS_0 (by decide)] at q1
          have q2 : b.isSome = true := by have := q1.2; rw [hb3] at this; simpa [bz, q1.1] using this
          have q3 := q1.1
          rw [← e6, mustS_0 (by decide)] at q3
          have q4 := lookS_c q3.1
          rw [← e4, passS_c, mustS_0 (by decide)] at q4
          have q5 : a.isSome = true := by have := q4.2; rw [hb1] at this; simpa [bz, q4.1] using this
          obtain ⟨a', rfl⟩ := Option.isSome_iff_exists.mp q5
          obtain ⟨b', rfl⟩ := Option.isSome_iff_exists.mp q2
          have ha9 := namedF_lt ea
          have hb9 := namedF_lt eb
          refine k_aload_n F dX7_readsClash_106 107 rfl rfl rfl ?_
          refine k_iload_n F dX7_readsClash_107 108 rfl rfl rfl ?_
          refine k_iload_n F dX7_readsClash_108 109 rfl rfl rfl ?_
          refine k_iconst (v := 1) F dX7_readsClash_109 110 rfl (by decide) ?_
          refine k_callN F kd_X7_putsClash q3562 q194 (kInvV (Bs := [_, _, _]) F kcX7 q3559 q3561 qs89 kd_X7_putsClash q3562 dX7_readsClash_110 (kHs.of hM.1) rfl (by decide)) (zX7_putsClash F.st hM (a') (b') _ (by omega) (by omega)) 113 rfl (Nat.le_of_ble_eq_true rfl) (by first | exact Nat.le_of_ble_eq_true rfl | omega) (by first | exact Nat.le_of_ble_eq_true rfl | omega) (by first | exact Nat.le_of_ble_eq_true rfl | omega) (by first | exact Nat.le_of_ble_eq_true rfl | omega) (fun h11 hr11 => ?_)
          obtain ⟨hM, hK9⟩ := hr11
          have hK := hK.tr hK9
          exact k_vret F dX7_readsClash_113 (by first | exact Nat.le_of_ble_eq_true rfl | omega) (by first | exact Nat.le_of_ble_eq_true rfl | omega) ⟨hM, hK⟩
      refine k_ifne F dX7_readsClash_77 80 85 rfl (by decide) (fun z12 => ?_) (fun z12 => ?_)
      · refine k_iconst (v := 1) F dX7_readsClash_85 86 rfl (by decide) ?_
        refine k_goto F dX7_readsClash_86 90 (by decide) ?_
        exact go3 true (by (try simp (disch := omega) only [nI_0E, nI_inj, nI_leE, nI_ltE, kB_0, kB_1, Bool.not_eq_false, Bool.not_eq_true, hno2] at z12) <;> (try simp (disch := omega) [bz, Option.isSome_iff_ne_none, z12]) <;> (try omega))
      · refine k_iload_n F dX7_readsClash_80 81 rfl rfl rfl ?_
        refine k_iconst (v := (-1)) F dX7_readsClash_81 82 rfl (by decide) ?_
        refine k_icmpeq F dX7_readsClash_82 85 89 rfl (by decide) (fun z13 => ?_) (fun z13 => ?_)
        · refine k_iconst (v := 0) F dX7_readsClash_89 90 rfl (by decide) ?_
          exact go3 false (by (try simp (disch := omega) only [nI_0E, nI_inj, nI_leE, nI_ltE, kB_0, kB_1, Bool.not_eq_false, Bool.not_eq_true, hno2] at z12) <;> (try simp (disch := omega) only [nI_0E, nI_inj, nI_leE, nI_ltE, kB_0, kB_1, Bool.not_eq_false, Bool.not_eq_true, hno2] at z13) <;> (try simp (disch := omega) [bz, Option.isSome_iff_ne_none, z12, z13]) <;> (try omega))
        · refine k_iconst (v := 1) F dX7_readsClash_85 86 rfl (by decide) ?_
          refine k_goto F dX7_readsClash_86 90 (by decide) ?_
          exact go3 true (by (try simp (disch := omega) only [nI_0E, nI_inj, nI_leE, nI_ltE, kB_0, kB_1, Bool.not_eq_false, Bool.not_eq_true, hno2] at z12) <;> (try simp (disch := omega) only [nI_0E, nI_inj, nI_leE, nI_ltE, kB_0, kB_1, Bool.not_eq_false, Bool.not_eq_true, hno2] at z13) <;> (try simp (disch := omega) [bz, Option.isSome_iff_ne_none, z12, z13]) <;> (try omega))
    refine k_ifne F dX7_readsClash_54 57 62 rfl (by decide) (fun z14 => ?_) (fun z14 => ?_)
    · refine k_iconst (v := 1) F dX7_readsClash_62 63 rfl (by decide) ?_
      refine k_goto F dX7_readsClash_63 67 (by decide) ?_
      exact go2 true (by (try simp (disch := omega) only [nI_0E, nI_inj, nI_leE, nI_ltE, kB_0, kB_1, Bool.not_eq_false, Bool.not_eq_true, hinj] at z14) <;> (try simp (disch := omega) [bz, z14]) <;> (try omega))
    · refine k_iload_n F dX7_readsClash_57 58 rfl rfl rfl ?_
      refine k_iload_n F dX7_readsClash_58 59 rfl rfl rfl ?_
      refine k_icmpeq F dX7_readsClash_59 62 66 rfl (by decide) (fun z15 => ?_) (fun z15 => ?_)
      · refine k_iconst (v := 0) F dX7_readsClash_66 67 rfl (by decide) ?_
        exact go2 false (by (try simp (disch := omega) only [nI_0E, nI_inj, nI_leE, nI_ltE, kB_0, kB_1, Bool.not_eq_false, Bool.not_eq_true, hinj] at z14) <;> (try simp (disch := omega) only [nI_0E, nI_inj, nI_leE, nI_ltE, kB_0, kB_1, Bool.not_eq_false, Bool.not_eq_true, hinj] at z15) <;> (try simp (disch := omega) [bz, z14, z15]) <;> (try omega))
      · refine k_iconst (v := 1) F dX7_readsClash_62 63 rfl (by decide) ?_
        refine k_goto F dX7_readsClash_63 67 (by decide) ?_
        exact go2 true (by (try simp (disch := omega) only [nI_0E, nI_inj, nI_leE, nI_ltE, kB_0, kB_1, Bool.not_eq_false, Bool.not_eq_true, hinj] at z14) <;> (try simp (disch := omega) only [nI_0E, nI_inj, nI_leE, nI_ltE, kB_0, kB_1, Bool.not_eq_false, Bool.not_eq_true, hinj] at z15) <;> (try simp (disch := omega) [bz, z14, z15]) <;> (try omega))
  refine k_ifne F dX7_readsClash_18 21 26 rfl (by decide) (fun z16 => ?_) (fun z16 => ?_)
  · refine k_iconst (v := 1) F dX7_readsClash_26 27 rfl (by decide) ?_
    refine k_goto F dX7_readsClash_27 31 (by decide) ?_
    exact go1 true (by (try simp (disch := omega) only [nI_0E, nI_inj, nI_leE, nI_ltE, kB_0, kB_1, Bool.not_eq_false, Bool.not_eq_true, hno1] at z16) <;> (try simp (disch := omega) [bz, Option.isSome_iff_ne_none, z16]) <;> (try omega))
  · refine k_iload_n F dX7_readsClash_21 22 rfl rfl rfl ?_
    refine k_iconst (v := (-1)) F dX7_readsClash_22 23 rfl (by decide) ?_
    refine k_icmpeq F dX7_readsClash_23 26 30 rfl (by decide) (fun z17 => ?_) (fun z17 => ?_)
    · refine k_iconst (v := 0) F dX7_readsClash_30 31 rfl (by decide) ?_
      exact go1 false (by (try simp (disch := omega) only [nI_0E, nI_inj, nI_leE, nI_ltE, kB_0, kB_1, Bool.not_eq_false, Bool.not_eq_true, hno1] at z16) <;> (try simp (disch := omega) only [nI_0E, nI_inj, nI_leE, nI_ltE, kB_0, kB_1, Bool.not_eq_false, Bool.not_eq_true, hno1] at z17) <;> (try simp (disch := omega) [bz, Option.isSome_iff_ne_none, z16, z17]) <;> (try omega))
    · refine k_iconst (v := 1) F dX7_readsClash_26 27 rfl (by decide) ?_
      refine k_goto F dX7_readsClash_27 31 (by decide) ?_
      exact go1 true (by (try simp (disch := omega) only [nI_0E, nI_inj, nI_leE, nI_ltE, kB_0, kB_1, Bool.not_eq_false, Bool.not_eq_true, hno1] at z16) <;> (try simp (disch := omega) only [nI_0E, nI_inj, nI_leE, nI_ltE, kB_0, kB_1, Bool.not_eq_false, Bool.not_eq_true, hno1] at z17) <;> (try simp (disch := omega) [bz, Option.isSome_iff_ne_none, z16, z17]) <;> (try omega))
set_option maxHeartbeats 4000000 in
set_option maxRecDepth 100000 in
theorem zX7_readsMember {l : Launch} {g : kG} (S : kStart l g) {h : kH} {m : Nat} {ad : Nat → Nat} {sc R : Nat → Int32} {ar : Nat → Nat → Int32} {N : Nat} {s : SS} (hM : MW h m ad (scT sc s) R ar) (hn : sc 10 = nI N) (hB : BufOK (ar 9) N) (hs : SOK N s) (hR : RV R) (p : Nat) (hp : p < 6) : kMet l g yX7_readsMember (Cond.code yX7_readsMember cX7_readsMember 3 (Option.none : Option Jvm.ClassFile.FieldType)) 4 0 0 [.ref m, .int (nI p)] h (mDo h m ad (scT sc (memS (ar 9) N p (s, R)).1) (memS (ar 9) N p (s, R)).2 ar) := by
  refine kEnter S kd_X7_readsMember (Nat.le_of_ble_eq_true rfl) (fun x F hxl hxg => ?_)
  subst hxl; subst hxg
  have hlv : lv_args 0 [.ref m, .int (nI p)] = [(0, .ref m), (1, .int (nI p))] := rfl
  rw [hlv]
  have hK : kKp (mOwn m) h h := kKp.rf
  obtain ⟨⟨t1, t2, t3, t4, t5⟩, t6⟩ := id hs
  obtain ⟨r1, r2, r3, r4, r5, r6, r7, r8⟩ := id hR
  have hA : ∀ w q, namedF R w = some q → q < 100 := fun w q e => by have := namedF_lt e; omega
  refine k_aload_n F dX7_readsMember_0 1 rfl rfl rfl ?_
  refine k_aload_n F dX7_readsMember_1 2 rfl rfl rfl ?_
  refine k_callV F kd_X7_looksAtName q3537 q194 (kInvV (Bs := []) F kcX7 q3534 q3536 qs83 kd_X7_looksAtName q3537 dX7_readsMember_2 (kHs.of hM.1) rfl (by decide)) (zX7_looksAtName F.st hM hn hB (by repeat' (first | assumption | with_reducible refine passS_ok ?_ | with_reducible refine lookS_ok ?_ | with_reducible refine numS_ok ?_ | with_reducible refine signS_ok ?_ | with_reducible refine goS_ok ?_ | with_reducible refine mustS_ok ?_ (by omega)))) 5 rfl (Nat.le_of_ble_eq_true rfl) (by first | exact Nat.le_of_ble_eq_true rfl | omega) (by first | exact Nat.le_of_ble_eq_true rfl | omega) (by first | exact Nat.le_of_ble_eq_true rfl | omega) (by first | exact Nat.le_of_ble_eq_true rfl | omega) (fun r1 h1 hr1 => ?_)
  obtain ⟨rfl, hM, hK9⟩ := hr1
  have hK := hK.tr hK9
  refine k_callV F kd_X7_named q3545 q194 (kInvV (Bs := [_]) F kcX7 q3542 q3544 qs85 kd_X7_named q3545 dX7_readsMember_5 (kHs.of hM.1) rfl (by decide)) (zX7_named F.st hM hR _) 8 rfl (Nat.le_of_ble_eq_true rfl) (by first | exact Nat.le_of_ble_eq_true rfl | omega) (by first | exact Nat.le_of_ble_eq_true rfl | omega) (by first | exact Nat.le_of_ble_eq_true rfl | omega) (by first | exact Nat.le_of_ble_eq_true rfl | omega) (fun r2 h2 hr2 => ?_)
  obtain ⟨rfl, rfl⟩ := hr2
  have hA1 := hA (lookV (ar 9) s)
  generalize ea : namedF R (lookV (ar 9) s) = a at hA1
  have hs1 : SOK N (lookS s) := lookS_ok hs
  have h15 := hs1.2
  have hno1 := nO_m1' hA1
  refine k_istore_n (lv' := [(0, _), (1, _), (2, _)]) F dX7_readsMember_8 9 rfl rfl (Nat.le_of_ble_eq_true rfl) rfl rfl rfl ?_
  refine k_aload_n F dX7_readsMember_9 10 rfl rfl rfl ?_
  refine k_aload_n F dX7_readsMember_10 11 rfl rfl rfl ?_
  refine m_get F 16 (by decide) q3608 rfl dX7_readsMember_11 14 rfl hM rfl ?_
  refine k_topi (b := nI ((lookS s).2.1)) rfl ?_
  have go1 : ∀ b1 : Bool, b1 = bz (lookS s) (match (generalizing := false) a with
    | none => true
    | some a => joinF R p a) → kW x 0 0 h1 36 [(0, .ref m), (1, .int (nI p)), (2, .int (nO a))] [.int (kB b1), .ref m] := by
    intro b1 hb1
    refine k_iconst (v := 3) F dX7_readsMember_36 37 rfl (by decide) ?_
    refine k_callV F kd_X7_must q3512 q194 (kInvV (Bs := [_, _]) F kcX7 q3509 q3511 qs77 kd_X7_must q3512 dX7_readsMember_37 (kHs.of hM.1) rfl (by decide)) (zX7_must F.st hM hn hB (by repeat' (first | assumption | with_reducible refine passS_ok ?_ | with_reducible refine lookS_ok ?_ | with_reducible refine numS_ok ?_ | with_reducible refine signS_ok ?_ | with_reducible refine goS_ok ?_ | with_reducible refine mustS_ok ?_ (by omega))) _ 3 (by omega) (by omega)) 40 rfl (Nat.le_of_ble_eq_true rfl) (by first | exact Nat.le_of_ble_eq_true rfl | omega) (by first | exact Nat.le_of_ble_eq_true rfl | omega) (by first | exact Nat.le_of_ble_eq_true rfl | omega) (by first | exact Nat.le_of_ble_eq_true rfl | omega) (fun r3 h3 hr3 => ?_)
    obtain ⟨rfl, hM, hK9⟩ := hr3
    have hK := hK.tr hK9
    refine k_pop F dX7_readsMember_40 41 rfl rfl ?_
    have hs2 : SOK N (mustS b1 3 (lookS s)) := (by repeat' (first | assumption | with_reducible refine passS_ok ?_ | with_reducible refine lookS_ok ?_ | with_reducible refine numS_ok ?_ | with_reducible refine signS_ok ?_ | with_reducible refine goS_ok ?_ | with_reducible refine mustS_ok ?_ (by omega)))
    generalize e2 : mustS b1 3 (lookS s) = s2 at hM hs2
    have h25 := hs2.2
    refine k_aload_n F dX7_readsMember_41 42 rfl rfl rfl ?_
    refine k_aload_n F dX7_readsMember_42 43 rfl rfl rfl ?_
    refine m_get F 16 (by decide) q3608 rfl dX7_readsMember_43 46 rfl hM rfl ?_
    refine k_topi (b := nI s2.2.1) rfl ?_
    have go2 : ∀ b2 : Bool, b2 = bz s2 a.isSome → kW x 0 0 h3 59 [(0, .ref m), (1, .int (nI p)), (2, .int (nO a))] [.int (kB b2), .ref m] := by
      intro b2 hb2
      refine k_iconst (v := 4) F dX7_readsMember_59 60 rfl (by decide) ?_
      refine k_callV F kd_X7_must q3512 q194 (kInvV (Bs := [_, _]) F kcX7 q3509 q3511 qs77 kd_X7_must q3512 dX7_readsMember_60 (kHs.of hM.1) rfl (by decide)) (zX7_must F.st hM hn hB (by repeat' (first | assumption | with_reducible refine passS_ok ?_ | with_reducible refine lookS_ok ?_ | with_reducible refine numS_ok ?_ | with_reducible refine signS_ok ?_ | with_reducible refine goS_ok ?_ | with_reducible refine mustS_ok ?_ (by omega))) _ 4 (by omega) (by omega)) 63 rfl (Nat.le_of_ble_eq_true rfl) (by first | exact Nat.le_of_ble_eq_true rfl | omega) (by first | exact Nat.le_of_ble_eq_true rfl | omega) (by first | exact Nat.le_of_ble_eq_true rfl | omega) (by first | exact Nat.le_of_ble_eq_true rfl | omega) (fun r4 h4 hr4 => ?_)
      obtain ⟨rfl, hM, hK9⟩ := hr4
      have hK := hK.tr hK9
      refine k_pop F dX7_readsMember_63 64 rfl rfl ?_
      refine k_aload_n F dX7_readsMember_64 65 rfl rfl rfl ?_
      refine k_callN F kd_X7_passes q3516 q194 (kInvV (Bs := []) F kcX7 q3513 q3515 qs78 kd_X7_passes q3516 dX7_readsMember_65 (kHs.of hM.1) rfl (by decide)) (zX7_passes F.st hM hn hB (by repeat' (first | assumption | with_reducible refine passS_ok ?_ | with_reducible refine lookS_ok ?_ | with_reducible refine numS_ok ?_ | with_reducible refine signS_ok ?_ | with_reducible refine goS_ok ?_ | with_reducible refine mustS_ok ?_ (by omega)))) 68 rfl (Nat.le_of_ble_eq_true rfl) (by first | exact Nat.le_of_ble_eq_true rfl | omega) (by first | exact Nat.le_of_ble_eq_true rfl | omega) (by first | exact Nat.le_of_ble_eq_true rfl | omega) (by first | exact Nat.le_of_ble_eq_true rfl | omega) (fun h5 hr5 => ?_)
      obtain ⟨hM, hK9⟩ := hr5
      have hK := hK.tr hK9
      have hs4 : SOK N (passS (ar 9) N (mustS b2 4 s2)) := (by repeat' (first | assumption | with_reducible refine passS_ok ?_ | with_reducible refine lookS_ok ?_ | with_reducible refine numS_ok ?_ | with_reducible refine signS_ok ?_ | with_reducible refine goS_ok ?_ | with_reducible refine mustS_ok ?_ (by omega)))
      generalize e4 : passS (ar 9) N (mustS b2 4 s2) = s4 at hM hs4
      have h45 := hs4.2
      have ef : memS (ar 9) N p (s, R) = (s4, if s4.2.1 = 0 then (match (generalizing := false) a with
        | none => R
        | some a => upd R (129 + 12 * p + (4 + a)) 1) else R) := by
        unfold memS; subst e4; subst hb2; subst e2; subst hb1; subst ea; rfl
      rw [ef] at F
      refine k_aload_n F dX7_readsMember_68 69 rfl rfl rfl ?_
      refine m_get F 16 (by decide) q3608 rfl dX7_readsMember_69 72 rfl hM rfl ?_
      refine k_topi (b := nI s4.2.1) rfl ?_
      refine k_ifne F dX7_readsMember_72 75 84 rfl (by decide) (fun c_z => ?_) (fun c_z => ?_)
      · rw [nI_0E (by omega)] at c_z
        rw [if_neg c_z] at F
        exact k_vret F dX7_readsMember_84 (by first | exact Nat.le_of_ble_eq_true rfl | omega) (by first | exact Nat.le_of_ble_eq_true rfl | omega) ⟨hM, hK⟩
      · rw [nI_0E (by omega)] at c_z
        rw [if_pos c_z] at F
        have q1 := c_z
        rw [← e4, passS_c, mustS_0 (by decide)] at q1
        have q2 : a.isSome = true := by have := q1.2; rw [hb2] at this; simpa [bz, q1.1] using this
        obtain ⟨a', rfl⟩ := Option.isSome_iff_exists.mp q2
        have ha9 := namedF_lt ea
        refine k_aload_n F dX7_readsMember_75 76 rfl rfl rfl ?_
        refine k_iload_n F dX7_readsMember_76 77 rfl rfl rfl ?_
        refine k_iconst (v := 4) F dX7_readsMember_77 78 rfl (by decide) ?_
        refine k_iload_n F dX7_readsMember_78 79 rfl rfl rfl ?_
        refine k_iadd F dX7_readsMember_79 80 rfl ?_
        refine k_topi (b := nI (4 + a')) (by show nI 4 + nI a' = _; rw [nI_add]) ?_
        refine k_iconst (v := 1) F dX7_readsMember_80 81 rfl (by decide) ?_
        refine k_callN F kd_X7_putPhase q3571 q194 (kInvV (Bs := [_, _, _]) F kcX7 q3568 q3570 qs91 kd_X7_putPhase q3571 dX7_readsMember_81 (kHs.of hM.1) rfl (by decide)) (zX7_putPhase F.st hM p ((4 + (a'))) _ (by omega)) 84 rfl (Nat.le_of_ble_eq_true rfl) (by first | exact Nat.le_of_ble_eq_true rfl | omega) (by first | exact Nat.le_of_ble_eq_true rfl | omega) (by first | exact Nat.le_of_ble_eq_true rfl | omega) (by first | exact Nat.le_of_ble_eq_true rfl | omega) (fun h6 hr6 => ?_)
        obtain ⟨hM, hK9⟩ := hr6
        have hK := hK.tr hK9
        exact k_vret F dX7_readsMember_84 (by first | exact Nat.le_of_ble_eq_true rfl | omega) (by first | exact Nat.le_of_ble_eq_true rfl | omega) ⟨hM, hK⟩
    refine k_ifne F dX7_readsMember_46 49 54 rfl (by decide) (fun z7 => ?_) (fun z7 => ?_)
    · refine k_iconst (v := 1) F dX7_readsMember_54 55 rfl (by decide) ?_
      refine k_goto F dX7_readsMember_55 59 (by decide) ?_
      exact go2 true (by (try simp (disch := omega) only [nI_0E, nI_inj, nI_leE, nI_ltE, kB_0, kB_1, Bool.not_eq_false, Bool.not_eq_true, hno1] at z7) <;> (try simp (disch := omega) [bz, Option.isSome_iff_ne_none, z7]) <;> (try omega))
    · refine k_iload_n F dX7_readsMember_49 50 rfl rfl rfl ?_
      refine k_iconst (v := (-1)) F dX7_readsMember_50 51 rfl (by decide) ?_
      refine k_icmpeq F dX7_readsMember_51 54 58 rfl (by decide) (fun z8 => ?_) (fun z8 => ?_)
      · refine k_iconst (v := 0) F dX7_readsMember_58 59 rfl (by decide) ?_
        exact go2 false (by (try simp (disch := omega) only [nI_0E, nI_inj, nI_leE, nI_ltE, kB_0, kB_1, Bool.not_eq_false, Bool.not_eq_true, hno1] at z7) <;> (try simp (disch := omega) only [nI_0E, nI_inj, nI_leE, nI_ltE, kB_0, kB_1, Bool.not_eq_false, Bool.not_eq_true, hno1] at z8) <;> (try simp (disch := omega) [bz, Option.isSome_iff_ne_none, z7, z8]) <;> (try omega))
      · refine k_iconst (v := 1) F dX7_readsMember_54 55 rfl (by decide) ?_
        refine k_goto F dX7_readsMember_55 59 (by decide) ?_
        exact go2 true (by (try simp (disch := omega) only [nI_0E, nI_inj, nI_leE, nI_ltE, kB_0, kB_1, Bool.not_eq_false, Bool.not_eq_true, hno1] at z7) <;> (try simp (disch := omega) only [nI_0E, nI_inj, nI_leE, nI_ltE, kB_0, kB_1, Bool.not_eq_false, Bool.not_eq_true, hno1] at z8) <;> (try simp (disch := omega) [bz, Option.isSome_iff_ne_none, z7, z8]) <;> (try omega))
  cases a with
  | none =>
    refine k_ifne F dX7_readsMember_14 17 31 rfl (by decide) (fun c_z => ?_) (fun c_z => ?_)
    · rw [nI_0E (by omega)] at c_z
      refine k_iconst (v := 1) F dX7_readsMember_31 32 rfl (by decide) ?_
      refine k_goto F dX7_readsMember_32 36 (by decide) ?_
      exact go1 true (by simp [bz, c_z])
    · refine k_iload_n F dX7_readsMember_17 18 rfl rfl rfl ?_
      refine k_iconst (v := (-1)) F dX7_readsMember_18 19 rfl (by decide) ?_
      refine k_icmpeq F dX7_readsMember_19 22 31 rfl (by decide) (fun _ => ?_) (fun c_ => (by first | exact absurd rfl c_ | exact absurd c_ (by decide) | exact absurd (by assumption) c_ | exact absurd c_ (by assumption)))
      refine k_iconst (v := 1) F dX7_readsMember_31 32 rfl (by decide) ?_
      refine k_goto F dX7_readsMember_32 36 (by decide) ?_
      exact go1 true (by simp [bz])
  | some a' =>
    have ha9 := namedF_lt ea
    have hn9 : ¬ (nI a' = -1) := fun e => by have := hno1.mp e; cases this
    have hn8 : ¬ (nO (some a') = -1) := hn9
    refine k_ifne F dX7_readsMember_14 17 31 rfl (by decide) (fun z9 => ?_) (fun z9 => ?_)
    · refine k_iconst (v := 1) F dX7_readsMember_31 32 rfl (by decide) ?_
      refine k_goto F dX7_readsMember_32 36 (by decide) ?_
      exact go1 true (by (try simp (disch := omega) only [nI_0E, nI_inj, nI_leE, nI_ltE, kB_0, kB_1, Bool.not_eq_false, Bool.not_eq_true, hn9, hn8] at z9) <;> (try simp (disch := omega) [bz, z9]) <;> (try omega))
    · refine k_iload_n F dX7_readsMember_17 18 rfl rfl rfl ?_
      refine k_iconst (v := (-1)) F dX7_readsMember_18 19 rfl (by decide) ?_
      refine k_icmpeq F dX7_readsMember_19 22 31 rfl (by decide) (fun z10 => ?_) (fun z10 => ?_)
      · refine k_iconst (v := 1) F dX7_readsMember_31 32 rfl (by decide) ?_
        refine k_goto F dX7_readsMember_32 36 (by decide) ?_
        exact go1 true (by (try simp (disch := omega) only [nI_0E, nI_inj, nI_leE, nI_ltE, kB_0, kB_1, Bool.not_eq_false, Bool.not_eq_true, hn9, hn8] at z9) <;> (try simp (disch := omega) only [nI_0E, nI_inj, nI_leE, nI_ltE, kB_0, kB_1, Bool.not_eq_false, Bool.not_eq_true, hn9, hn8] at z10) <;> (try simp (disch := omega) [bz, z9, z10]) <;> (try omega))
      · refine k_aload_n F dX7_readsMember_22 23 rfl rfl rfl ?_
        refine k_iload_n F dX7_readsMember_23 24 rfl rfl rfl ?_
        refine k_iload_n F dX7_readsMember_24 25 rfl rfl rfl ?_
        refine k_callV F kd_X7_canJoin q3579 q194 (kInvV (Bs := [_, _]) F kcX7 q3576 q3578 qs93 kd_X7_canJoin q3579 dX7_readsMember_25 (kHs.of hM.1) rfl (by decide)) (zX7_canJoin F.st hM hR p (a') (by omega) (by omega)) 28 rfl (Nat.le_of_ble_eq_true rfl) (by first | exact Nat.le_of_ble_eq_true rfl | omega) (by first | exact Nat.le_of_ble_eq_true rfl | omega) (by first | exact Nat.le_of_ble_eq_true rfl | omega) (by first | exact Nat.le_of_ble_eq_true rfl | omega) (fun r11 h11 hr11 => ?_)
        obtain ⟨rfl, rfl⟩ := hr11
        refine k_ifeq F dX7_readsMember_28 31 35 rfl (by decide) (fun z12 => ?_) (fun z12 => ?_)
        · refine k_iconst (v := 0) F dX7_readsMember_35 36 rfl (by decide) ?_
          exact go1 false (by (try simp (disch := omega) only [nI_0E, nI_inj, nI_leE, nI_ltE, kB_0, kB_1, Bool.not_eq_false, Bool.not_eq_true, hn9, hn8] at z9) <;> (try simp (disch := omega) only [nI_0E, nI_inj, nI_leE, nI_ltE, kB_0, kB_1, Bool.not_eq_false, Bool.not_eq_true, hn9, hn8] at z10) <;> (try simp (disch := omega) only [nI_0E, nI_inj, nI_leE, nI_ltE, kB_0, kB_1, Bool.not_eq_false, Bool.not_eq_true, hn9, hn8] at z12) <;> (try simp (disch := omega) [bz, z9, z10, z12]) <;> (try omega))
        · refine k_iconst (v := 1) F dX7_readsMember_31 32 rfl (by decide) ?_
          refine k_goto F dX7_readsMember_32 36 (by decide) ?_
          exact go1 true (by (try simp (disch := omega) only [nI_0E, nI_inj, nI_leE, nI_ltE, kB_0, kB_1, Bool.not_eq_false, Bool.not_eq_true, hn9, hn8] at z9) <;> (try simp (disch := omega) only [nI_0E, nI_inj, nI_leE, nI_ltE, kB_0, kB_1, Bool.not_eq_false, Bool.not_eq_true, hn9, hn8] at z10) <;> (try simp (disch := omega) only [nI_0E, nI_inj, nI_leE, nI_ltE, kB_0, kB_1, Bool.not_eq_false, Bool.not_eq_true, hn9, hn8] at z12) <;> (try simp (disch := omega) [bz, z9, z10, z12]) <;> (try omega))
set_option maxHeartbeats 4000000 in
set_option maxRecDepth 100000 in
theorem zX7_readsPhase {l : Launch} {g : kG} (S : kStart l g) {h : kH} {m : Nat} {ad : Nat → Nat} {sc R : Nat → Int32} {ar : Nat → Nat → Int32} {N : Nat} {s : SS} (hM : MW h m ad (scT sc s) R ar) (hn : sc 10 = nI N) (hB : BufOK (ar 9) N) (hs : SOK N s) (hR : RV R) : kMet l g yX7_readsPhase (Cond.code yX7_readsPhase cX7_readsPhase 4 (Option.none : Option Jvm.ClassFile.FieldType)) 7 0 0 [.ref m] h (mDo h m ad (scT sc (phaseS (ar 9) N SX7_214 (s, R)).1) (phaseS (ar 9) N SX7_214 (s, R)).2 ar) := by
  refine kEnter S kd_X7_readsPhase (Nat.le_of_ble_eq_true rfl) (fun x F hxl hxg => ?_)
  subst hxl; subst hxg
  have hlv : lv_args 0 [.ref m] = [(0, .ref m)] := rfl
  rw [hlv]
  have hK : kKp (mOwn m) h h := kKp.rf
  obtain ⟨r1, r2, r3, r4, r5, r6, r7, r8⟩ := id hR
  refine k_aload_n F dX7_readsPhase_0 1 rfl rfl rfl ?_
  refine k_aload_n F dX7_readsPhase_1 2 rfl rfl rfl ?_
  obtain ⟨q2, hz2, hl2⟩ := lsX7_214 F.st
  refine k_ldcS F hz2 dX7_readsPhase_2 4 rfl ?_
  refine k_callV F kd_X7_isKey q3508 q194 (kInvV (Bs := [_]) F kcX7 q3505 q3507 qs76 kd_X7_isKey q3508 dX7_readsPhase_4 (kHs.of hM.1) rfl (by decide)) (zX7_isKey F.st hM hn hB (by repeat' (first | assumption | with_reducible refine passS_ok ?_ | with_reducible refine lookS_ok ?_ | with_reducible refine numS_ok ?_ | with_reducible refine signS_ok ?_ | with_reducible refine goS_ok ?_ | with_reducible refine mustS_ok ?_ (by omega))) (hl2 _) (ascB_s (by decide))) 7 rfl (Nat.le_of_ble_eq_true rfl) (by first | exact Nat.le_of_ble_eq_true rfl | omega) (by first | exact Nat.le_of_ble_eq_true rfl | omega) (by first | exact Nat.le_of_ble_eq_true rfl | omega) (by first | exact Nat.le_of_ble_eq_true rfl | omega) (fun r1 h1 hr1 => ?_)
  obtain ⟨rfl, rfl⟩ := hr1
  refine k_iconst (v := 1) F dX7_readsPhase_7 8 rfl (by decide) ?_
  refine k_callV F kd_X7_must q3512 q194 (kInvV (Bs := [_, _]) F kcX7 q3509 q3511 qs77 kd_X7_must q3512 dX7_readsPhase_8 (kHs.of hM.1) rfl (by decide)) (zX7_must F.st hM hn hB (by repeat' (first | assumption | with_reducible refine passS_ok ?_ | with_reducible refine lookS_ok ?_ | with_reducible refine numS_ok ?_ | with_reducible refine signS_ok ?_ | with_reducible refine goS_ok ?_ | with_reducible refine mustS_ok ?_ (by omega))) _ 1 (by omega) (by omega)) 11 rfl (Nat.le_of_ble_eq_true rfl) (by first | exact Nat.le_of_ble_eq_true rfl | omega) (by first | exact Nat.le_of_ble_eq_true rfl | omega) (by first | exact Nat.le_of_ble_eq_true rfl | omega) (by first | exact Nat.le_of_ble_eq_true rfl | omega) (fun r2 h2 hr2 => ?_)
  obtain ⟨rfl, hM, hK9⟩ := hr2
  have hK := hK.tr hK9
  refine k_pop F dX7_readsPhase_11 12 rfl rfl ?_
  refine k_aload_n F dX7_readsPhase_12 13 rfl rfl rfl ?_
  refine k_aload_n F dX7_readsPhase_13 14 rfl rfl rfl ?_
  refine m_get F 0 (by decide) q3592 rfl dX7_readsPhase_14 17 rfl hM rfl ?_
  refine k_iconst (v := 4) F dX7_readsPhase_17 18 rfl (by decide) ?_
  refine m_ld F dX7_readsPhase_18 19 rfl hM (4) (by first | (with_reducible rfl) | (simp only [nI_lit, pk_mul, nI_add])) (by omega) ?_
  rw [r3]
  refine k_bipush (v := 6) F dX7_readsPhase_19 21 rfl (by decide) ?_
  have go1 : ∀ b1 : Bool, b1 = decide (rP R < 6) → kW x 0 0 h2 29 [(0, .ref m)] [.int (kB b1), .ref m] := by
    intro b1 hb1
    refine k_iconst (v := 5) F dX7_readsPhase_29 30 rfl (by decide) ?_
    refine k_callV F kd_X7_must q3512 q194 (kInvV (Bs := [_, _]) F kcX7 q3509 q3511 qs77 kd_X7_must q3512 dX7_readsPhase_30 (kHs.of hM.1) rfl (by decide)) (zX7_must F.st hM hn hB (by repeat' (first | assumption | with_reducible refine passS_ok ?_ | with_reducible refine lookS_ok ?_ | with_reducible refine numS_ok ?_ | with_reducible refine signS_ok ?_ | with_reducible refine goS_ok ?_ | with_reducible refine mustS_ok ?_ (by omega))) _ 5 (by omega) (by omega)) 33 rfl (Nat.le_of_ble_eq_true rfl) (by first | exact Nat.le_of_ble_eq_true rfl | omega) (by first | exact Nat.le_of_ble_eq_true rfl | omega) (by first | exact Nat.le_of_ble_eq_true rfl | omega) (by first | exact Nat.le_of_ble_eq_true rfl | omega) (fun r3 h3 hr3 => ?_)
    obtain ⟨rfl, hM, hK9⟩ := hr3
    have hK := hK.tr hK9
    refine k_pop F dX7_readsPhase_33 34 rfl rfl ?_
    refine k_aload_n F dX7_readsPhase_34 35 rfl rfl rfl ?_
    refine k_callN F kd_X7_passes q3516 q194 (kInvV (Bs := []) F kcX7 q3513 q3515 qs78 kd_X7_passes q3516 dX7_readsPhase_35 (kHs.of hM.1) rfl (by decide)) (zX7_passes F.st hM hn hB (by repeat' (first | assumption | with_reducible refine passS_ok ?_ | with_reducible refine lookS_ok ?_ | with_reducible refine numS_ok ?_ | with_reducible refine signS_ok ?_ | with_reducible refine goS_ok ?_ | with_reducible refine mustS_ok ?_ (by omega)))) 38 rfl (Nat.le_of_ble_eq_true rfl) (by first | exact Nat.le_of_ble_eq_true rfl | omega) (by first | exact Nat.le_of_ble_eq_true rfl | omega) (by first | exact Nat.le_of_ble_eq_true rfl | omega) (by first | exact Nat.le_of_ble_eq_true rfl | omega) (fun h4 hr4 => ?_)
    obtain ⟨hM, hK9⟩ := hr4
    have hK := hK.tr hK9
    have hs1 : SOK N (passS (ar 9) N (mustS b1 5 (mustS (isKeyF (ar 9) s SX7_214) 1 s))) := (by repeat' (first | assumption | with_reducible refine passS_ok ?_ | with_reducible refine lookS_ok ?_ | with_reducible refine numS_ok ?_ | with_reducible refine signS_ok ?_ | with_reducible refine goS_ok ?_ | with_reducible refine mustS_ok ?_ (by omega)))
    have e1 : phS1 (ar 9) N SX7_214 (s, R) = passS (ar 9) N (mustS b1 5 (mustS (isKeyF (ar 9) s SX7_214) 1 s)) := by
      unfold phS1; dsimp only; rw [hb1]
    generalize passS (ar 9) N (mustS b1 5 (mustS (isKeyF (ar 9) s SX7_214) 1 s)) = s1 at hM hs1 e1
    refine k_aload_n F dX7_readsPhase_38 39 rfl rfl rfl ?_
    refine m_get F 0 (by decide) q3592 rfl dX7_readsPhase_39 42 rfl hM rfl ?_
    refine k_iconst (v := 4) F dX7_readsPhase_42 43 rfl (by decide) ?_
    refine m_ld F dX7_readsPhase_43 44 rfl hM (4) (by first | (with_reducible rfl) | (simp only [nI_lit, pk_mul, nI_add])) (by omega) ?_
    rw [r3]
    refine k_istore_n (lv' := [(0, _), (1, _)]) F dX7_readsPhase_44 45 rfl rfl (Nat.le_of_ble_eq_true rfl) rfl rfl rfl ?_
    refine k_aload_n F dX7_readsPhase_45 46 rfl rfl rfl ?_
    refine k_iconst (v := 1) F dX7_readsPhase_46 47 rfl (by decide) ?_
    refine k_bipush (v := 60) F dX7_readsPhase_47 49 rfl (by decide) ?_
    refine k_callV F kd_X7_number q3520 q194 (kInvV (Bs := [_, _]) F kcX7 q3517 q3519 qs79 kd_X7_number q3520 dX7_readsPhase_49 (kHs.of hM.1) rfl (by decide)) (zX7_number F.st hM hn hB (by repeat' (first | assumption | with_reducible refine passS_ok ?_ | with_reducible refine lookS_ok ?_ | with_reducible refine numS_ok ?_ | with_reducible refine signS_ok ?_ | with_reducible refine goS_ok ?_ | with_reducible refine mustS_ok ?_ (by omega))) _ _) 52 rfl (Nat.le_of_ble_eq_true rfl) (by first | exact Nat.le_of_ble_eq_true rfl | omega) (by first | exact Nat.le_of_ble_eq_true rfl | omega) (by first | exact Nat.le_of_ble_eq_true rfl | omega) (by first | exact Nat.le_of_ble_eq_true rfl | omega) (fun r5 h5 hr5 => ?_)
    obtain ⟨rfl, hM, hK9⟩ := hr5
    have hK := hK.tr hK9
    refine k_istore_n (lv' := [(0, _), (1, _), (2, _)]) F dX7_readsPhase_52 53 rfl rfl (Nat.le_of_ble_eq_true rfl) rfl rfl rfl ?_
    refine k_aload_n F dX7_readsPhase_53 54 rfl rfl rfl ?_
    refine k_iload_n F dX7_readsPhase_54 55 rfl rfl rfl ?_
    refine k_bipush (v := 99) F dX7_readsPhase_55 57 rfl (by decide) ?_
    refine k_callV F kd_X7_number q3520 q194 (kInvV (Bs := [_, _]) F kcX7 q3517 q3519 qs79 kd_X7_number q3520 dX7_readsPhase_57 (kHs.of hM.1) rfl (by decide)) (zX7_number F.st hM hn hB (by repeat' (first | assumption | with_reducible refine passS_ok ?_ | with_reducible refine lookS_ok ?_ | with_reducible refine numS_ok ?_ | with_reducible refine signS_ok ?_ | with_reducible refine goS_ok ?_ | with_reducible refine mustS_ok ?_ (by omega))) _ _) 60 rfl (Nat.le_of_ble_eq_true rfl) (by first | exact Nat.le_of_ble_eq_true rfl | omega) (by first | exact Nat.le_of_ble_eq_true rfl | omega) (by first | exact Nat.le_of_ble_eq_true rfl | omega) (by first | exact Nat.le_of_ble_eq_true rfl | omega) (fun r6 h6 hr6 => ?_)
    obtain ⟨rfl, hM, hK9⟩ := hr6
    have hK := hK.tr hK9
    refine k_istore_n (lv' := [(0, _), (1, _), (2, _), (3, _)]) F dX7_readsPhase_60 61 rfl rfl (Nat.le_of_ble_eq_true rfl) rfl rfl rfl ?_
    have e2 : phS2 (ar 9) N SX7_214 (s, R) = numS (ar 9) N 1 60 s1 := by unfold phS2; rw [e1]
    have e3 : phS3 (ar 9) N SX7_214 (s, R) = numS (ar 9) N (nI s1.1.2.2.2) 99 (numS (ar 9) N 1 60 s1) := by unfold phS3; rw [e1, e2]
    have er : phR (ar 9) N SX7_214 (s, R) = upd (upd R (129 + 12 * rP R + 0) (nI s1.1.2.2.2)) (129 + 12 * rP R + 1) (nI (numS (ar 9) N 1 60 s1).1.2.2.2) := by unfold phR; rw [e1, e2]
    have hs3 : SOK N (numS (ar 9) N (nI s1.1.2.2.2) 99 (numS (ar 9) N 1 60 s1)) := (by repeat' (first | assumption | with_reducible refine passS_ok ?_ | with_reducible refine lookS_ok ?_ | with_reducible refine numS_ok ?_ | with_reducible refine signS_ok ?_ | with_reducible refine goS_ok ?_ | with_reducible refine mustS_ok ?_ (by omega)))
    replace hM : MW h6 m ad (scT sc (numS (ar 9) N (nI s1.1.2.2.2) 99 (numS (ar 9) N 1 60 s1))) R ar := hM
    generalize numS (ar 9) N (nI s1.1.2.2.2) 99 (numS (ar 9) N 1 60 s1) = s3 at hM hs3 e3
    generalize hv1 : (nI s1.1.2.2.2) = v1 at er
    generalize hv2 : (nI (numS (ar 9) N 1 60 s1).1.2.2.2) = v2 at er
    have h35 := hs3.2
    have ef : phaseS (ar 9) N SX7_214 (s, R) = if s3.2.1 = 0 then ((memTo (ar 9) N (rP R) (N + 2) (memS (ar 9) N (rP R) (s3, phR (ar 9) N SX7_214 (s, R)))).1, upd (memTo (ar 9) N (rP R) (N + 2) (memS (ar 9) N (rP R) (s3, phR (ar 9) N SX7_214 (s, R)))).2 4 (nI (rP R + 1))) else (s3, R) := by
      unfold phaseS; rw [e3]
    rw [ef] at F
    refine k_aload_n F dX7_readsPhase_61 62 rfl rfl rfl ?_
    refine m_get F 16 (by decide) q3608 rfl dX7_readsPhase_62 65 rfl hM rfl ?_
    refine k_topi (b := nI s3.2.1) rfl ?_
    refine k_ifeq F dX7_readsPhase_65 68 69 rfl (by decide) (fun c_z => ?_) (fun c_z => ?_)
    · rw [nI_0E (by omega)] at c_z
      rw [if_pos c_z] at F
      have h6 : rP R < 6 := phS3_rP (B := ar 9) (N := N) (L := SX7_214) (q := (s, R)) (by rw [e3]; exact c_z)
      refine k_aload_n F dX7_readsPhase_69 70 rfl rfl rfl ?_
      refine k_iload_n F dX7_readsPhase_70 71 rfl rfl rfl ?_
      refine k_iconst (v := 0) F dX7_readsPhase_71 72 rfl (by decide) ?_
      refine k_iload_n F dX7_readsPhase_72 73 rfl rfl rfl ?_
      refine k_callN F kd_X7_putPhase q3571 q194 (kInvV (Bs := [_, _, _]) F kcX7 q3568 q3570 qs91 kd_X7_putPhase q3571 dX7_readsPhase_73 (kHs.of hM.1) rfl (by decide)) (zX7_putPhase F.st hM (rP R) 0 _ (by omega)) 76 rfl (Nat.le_of_ble_eq_true rfl) (by first | exact Nat.le_of_ble_eq_true rfl | omega) (by first | exact Nat.le_of_ble_eq_true rfl | omega) (by first | exact Nat.le_of_ble_eq_true rfl | omega) (by first | exact Nat.le_of_ble_eq_true rfl | omega) (fun h7 hr7 => ?_)
      obtain ⟨hM, hK9⟩ := hr7
      have hK := hK.tr hK9
      refine k_aload_n F dX7_readsPhase_76 77 rfl rfl rfl ?_
      refine k_iload_n F dX7_readsPhase_77 78 rfl rfl rfl ?_
      refine k_iconst (v := 1) F dX7_readsPhase_78 79 rfl (by decide) ?_
      refine k_iload_n F dX7_readsPhase_79 80 rfl rfl rfl ?_
      refine k_callN F kd_X7_putPhase q3571 q194 (kInvV (Bs := [_, _, _]) F kcX7 q3568 q3570 qs91 kd_X7_putPhase q3571 dX7_readsPhase_80 (kHs.of hM.1) rfl (by decide)) (zX7_putPhase F.st hM (rP R) 1 _ (by omega)) 83 rfl (Nat.le_of_ble_eq_true rfl) (by first | exact Nat.le_of_ble_eq_true rfl | omega) (by first | exact Nat.le_of_ble_eq_true rfl | omega) (by first | exact Nat.le_of_ble_eq_true rfl | omega) (by first | exact Nat.le_of_ble_eq_true rfl | omega) (fun h8 hr8 => ?_)
      obtain ⟨hM, hK9⟩ := hr8
      have hK := hK.tr hK9
      replace hM : MW h8 m ad (scT sc s3) (upd (upd R (129 + 12 * rP R + 0) v1) (129 + 12 * rP R + 1) v2) ar := hM
      have hR1 : RV (phR (ar 9) N SX7_214 (s, R)) := hR.same (fun j hj => phR_lo (by omega))
      rw [← er] at hM
      refine k_aload_n F dX7_readsPhase_83 84 rfl rfl rfl ?_
      refine k_iload_n F dX7_readsPhase_84 85 rfl rfl rfl ?_
      refine k_callN F kd_X7_readsMember q3575 q194 (kInvV (Bs := [_]) F kcX7 q3572 q3574 qs92 kd_X7_readsMember q3575 dX7_readsPhase_85 (kHs.of hM.1) rfl (by decide)) (zX7_readsMember F.st hM hn hB (by repeat' (first | assumption | with_reducible refine passS_ok ?_ | with_reducible refine lookS_ok ?_ | with_reducible refine numS_ok ?_ | with_reducible refine signS_ok ?_ | with_reducible refine goS_ok ?_ | with_reducible refine mustS_ok ?_ (by omega))) hR1 (rP R) (by omega)) 88 rfl (Nat.le_of_ble_eq_true rfl) (by first | exact Nat.le_of_ble_eq_true rfl | omega) (by first | exact Nat.le_of_ble_eq_true rfl | omega) (by first | exact Nat.le_of_ble_eq_true rfl | omega) (by first | exact Nat.le_of_ble_eq_true rfl | omega) (fun h9 hr9 => ?_)
      obtain ⟨hM, hK9⟩ := hr9
      have hK := hK.tr hK9
      refine kW.keep (lv' := [(0, _), (1, _)]) [0, 1] rfl ?_
      have loop : ∀ (f : Nat) (q : PS) (h1 : kH), (q.1.2.1 = 0 → q.1.1.2.2.1 = 1 → N + 1 - q.1.1.2.1 ≤ f) → SOK N q.1 → RV q.2 → q.2 4 = nI (rP R) → memTo (ar 9) N (rP R) f q = memTo (ar 9) N (rP R) (N + 2) (memS (ar 9) N (rP R) (s3, phR (ar 9) N SX7_214 (s, R))) → MW h1 m ad (scT sc q.1) q.2 ar → kKp (mOwn m) h h1 → kW x 0 0 h1 88 [(0, .ref m), (1, .int (nI ((rP R))))] [] := by
        intro f
        induction f with
        | zero =>
          intro q h1 hf hq hV h4 he hM hK
          have hq5 := hq.2
          have hqk := hq.1.2.2.1
          have hqt := hq.1.2.1
          have hqn := hq.1.1
          rw [show memTo (ar 9) N (rP R) 0 q = q from by rw [memTo]] at he
          rw [← he] at F
          have out : kW x 0 0 h1 111 [(0, .ref m), (1, .int (nI ((rP R))))] [] := by
            refine k_aload_n F dX7_readsPhase_111 112 rfl rfl rfl ?_
            refine m_get F 0 (by decide) q3592 rfl dX7_readsPhase_112 115 rfl hM rfl ?_
            refine k_iconst (v := 4) F dX7_readsPhase_115 116 rfl (by decide) ?_
            refine k_dup2_11 F dX7_readsPhase_116 117 rfl rfl rfl ?_
            refine m_ld F dX7_readsPhase_117 118 rfl hM (4) (by first | (with_reducible rfl) | (simp only [nI_lit, pk_mul, nI_add])) (by omega) ?_
            rw [h4]
            refine k_iconst (v := 1) F dX7_readsPhase_118 119 rfl (by decide) ?_
            refine k_iadd F dX7_readsPhase_119 120 rfl ?_
            rw [nI_1']
            refine m_st F dX7_readsPhase_120 121 rfl hM hK (4) (by first | (with_reducible rfl) | (simp only [nI_lit, pk_mul, nI_add])) (by omega) (fun h9 hM hK => ?_)
            exact k_vret F dX7_readsPhase_121 (by first | exact Nat.le_of_ble_eq_true rfl | omega) (by first | exact Nat.le_of_ble_eq_true rfl | omega) ⟨hM, hK⟩
          refine k_aload_n F dX7_readsPhase_88 89 rfl rfl rfl ?_
          refine m_get F 16 (by decide) q3608 rfl dX7_readsPhase_89 92 rfl hM rfl ?_
          refine k_topi (b := nI q.1.2.1) rfl ?_
          refine k_ifne F dX7_readsPhase_92 95 111 rfl (by decide) (fun c_a => ?_) (fun c_a => ?_)
          · exact out
          · rw [nI_0E (by omega)] at c_a
            refine k_aload_n F dX7_readsPhase_95 96 rfl rfl rfl ?_
            refine m_get F 14 (by decide) q3606 rfl dX7_readsPhase_96 99 rfl hM rfl ?_
            refine k_topi (b := nI q.1.1.2.2.1) rfl ?_
            refine k_iconst (v := 1) F dX7_readsPhase_99 100 rfl (by decide) ?_
            refine k_icmpne F dX7_readsPhase_100 103 111 rfl (by decide) (fun c_d => ?_) (fun c_d => ?_)
            · exact out
            · rw [show (1 : Int32) = nI 1 from rfl, nI_inj (by omega) (by omega)] at c_d
              have := hf c_a c_d
              omega
        | succ f ih =>
          intro q h1 hf hq hV h4 he hM hK
          have hq5 := hq.2
          have hqk := hq.1.2.2.1
          have hqt := hq.1.2.1
          have hqn := hq.1.1
          have out : ¬ (q.1.2.1 = 0 ∧ q.1.1.2.2.1 = 1) → kW x 0 0 h1 111 [(0, .ref m), (1, .int (nI ((rP R))))] [] := by
            intro hc
            rw [show memTo (ar 9) N (rP R) (f + 1) q = q from by rw [memTo, if_neg hc]] at he
            rw [← he] at F
            refine k_aload_n F dX7_readsPhase_111 112 rfl rfl rfl ?_
            refine m_get F 0 (by decide) q3592 rfl dX7_readsPhase_112 115 rfl hM rfl ?_
            refine k_iconst (v := 4) F dX7_readsPhase_115 116 rfl (by decide) ?_
            refine k_dup2_11 F dX7_readsPhase_116 117 rfl rfl rfl ?_
            refine m_ld F dX7_readsPhase_117 118 rfl hM (4) (by first | (with_reducible rfl) | (simp only [nI_lit, pk_mul, nI_add])) (by omega) ?_
            rw [h4]
            refine k_iconst (v := 1) F dX7_readsPhase_118 119 rfl (by decide) ?_
            refine k_iadd F dX7_readsPhase_119 120 rfl ?_
            rw [nI_1']
            refine m_st F dX7_readsPhase_120 121 rfl hM hK (4) (by first | (with_reducible rfl) | (simp only [nI_lit, pk_mul, nI_add])) (by omega) (fun h9 hM hK => ?_)
            exact k_vret F dX7_readsPhase_121 (by first | exact Nat.le_of_ble_eq_true rfl | omega) (by first | exact Nat.le_of_ble_eq_true rfl | omega) ⟨hM, hK⟩
          refine k_aload_n F dX7_readsPhase_88 89 rfl rfl rfl ?_
          refine m_get F 16 (by decide) q3608 rfl dX7_readsPhase_89 92 rfl hM rfl ?_
          refine k_topi (b := nI q.1.2.1) rfl ?_
          refine k_ifne F dX7_readsPhase_92 95 111 rfl (by decide) (fun c_a => ?_) (fun c_a => ?_)
          · rw [nI_0E (by omega)] at c_a
            exact out (fun z => c_a z.1)
          · rw [nI_0E (by omega)] at c_a
            refine k_aload_n F dX7_readsPhase_95 96 rfl rfl rfl ?_
            refine m_get F 14 (by decide) q3606 rfl dX7_readsPhase_96 99 rfl hM rfl ?_
            refine k_topi (b := nI q.1.1.2.2.1) rfl ?_
            refine k_iconst (v := 1) F dX7_readsPhase_99 100 rfl (by decide) ?_
            refine k_icmpne F dX7_readsPhase_100 103 111 rfl (by decide) (fun c_d => ?_) (fun c_d => ?_)
            · rw [show (1 : Int32) = nI 1 from rfl, nI_inj (by omega) (by omega)] at c_d
              exact out (fun z => c_d z.2)
            · rw [show (1 : Int32) = nI 1 from rfl, nI_inj (by omega) (by omega)] at c_d
              refine k_aload_n F dX7_readsPhase_103 104 rfl rfl rfl ?_
              refine k_iload_n F dX7_readsPhase_104 105 rfl rfl rfl ?_
              refine k_callN F kd_X7_readsMember q3575 q194 (kInvV (Bs := [_]) F kcX7 q3572 q3574 qs92 kd_X7_readsMember q3575 dX7_readsPhase_105 (kHs.of hM.1) rfl (by decide)) (zX7_readsMember F.st hM hn hB hq hV (((rP R))) (by omega)) 108 rfl (Nat.le_of_ble_eq_true rfl) (by first | exact Nat.le_of_ble_eq_true rfl | omega) (by first | exact Nat.le_of_ble_eq_true rfl | omega) (by first | exact Nat.le_of_ble_eq_true rfl | omega) (by first | exact Nat.le_of_ble_eq_true rfl | omega) (fun h10 hr10 => ?_)
              obtain ⟨hM, hK9⟩ := hr10
              have hK := hK.tr hK9
              refine k_goto F dX7_readsPhase_108 88 (by decide) ?_
              refine ih (memS (ar 9) N (rP R) q) _ (fun e _ => ?_) (memS_ok hq) (hV.same (fun j hj => memS_lo (by omega))) (by rw [memS_lo (by omega)]; exact h4) ?_ hM hK
              · have h9 := memS_adv hq e
                have h8 := hf c_a c_d
                omega
              · rw [← he]
                exact (show memTo (ar 9) N (rP R) (f + 1) q = memTo (ar 9) N (rP R) f (memS (ar 9) N (rP R) q) from by rw [memTo, if_pos ⟨c_a, c_d⟩]).symm
      exact loop (N + 2) (memS (ar 9) N (rP R) (s3, phR (ar 9) N SX7_214 (s, R))) _ (fun _ _ => by omega) (memS_ok hs3) (hR1.same (fun j hj => memS_lo (by omega))) (by rw [memS_lo (by omega)]; exact (phR_lo (by omega)).trans r3) rfl hM hK
    · rw [nI_0E (by omega)] at c_z
      rw [if_neg c_z] at F
      exact k_vret F dX7_readsPhase_68 (by first | exact Nat.le_of_ble_eq_true rfl | omega) (by first | exact Nat.le_of_ble_eq_true rfl | omega) ⟨hM, hK⟩
  refine k_icmpge F dX7_readsPhase_21 24 28 rfl (by decide) (fun z11 => ?_) (fun z11 => ?_)
  · refine k_iconst (v := 0) F dX7_readsPhase_28 29 rfl (by decide) ?_
    exact go1 false (by (try simp (disch := omega) only [nI_0E, nI_inj, nI_leE, nI_ltE, kB_0, kB_1, Bool.not_eq_false, Bool.not_eq_true, (show (6 : Int32) = nI 6 from rfl)] at z11) <;> (try simp (disch := omega) [z11]) <;> (try omega))
  · refine k_iconst (v := 1) F dX7_readsPhase_24 25 rfl (by decide) ?_
    refine k_goto F dX7_readsPhase_25 29 (by decide) ?_
    exact go1 true (by (try simp (disch := omega) only [nI_0E, nI_inj, nI_leE, nI_ltE, kB_0, kB_1, Bool.not_eq_false, Bool.not_eq_true, (show (6 : Int32) = nI 6 from rfl)] at z11) <;> (try simp (disch := omega) [z11]) <;> (try omega))
end

