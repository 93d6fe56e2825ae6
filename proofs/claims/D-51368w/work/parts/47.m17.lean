/-! the reference: setups, the whole -/
section
seal mustS passS lookS numS goF pkTo namedF joinF isKeyF isSignF lookV memTo armS clashS memS phaseS phS1 phS2 phS3 phR

set_option maxHeartbeats 4000000 in
set_option maxRecDepth 100000 in
theorem zX7_readsSetup {l : Launch} {g : kG} (S : kStart l g) {h : kH} {m : Nat} {ad : Nat → Nat} {sc R : Nat → Int32} {ar : Nat → Nat → Int32} {N : Nat} {s : SS} (hM : MW h m ad (scT sc s) R ar) (hn : sc 10 = nI N) (hB : BufOK (ar 9) N) (hs : SOK N s) (hR : RV R) : kMet l g yX7_readsSetup (Cond.code yX7_readsSetup cX7_readsSetup 2 (Option.none : Option Jvm.ClassFile.FieldType)) 8 0 0 [.ref m] h (mDo h m ad (scT sc (setupS (ar 9) N SX7_222 SX7_196 SX7_230 SX7_214 (s, R)).1) (setupS (ar 9) N SX7_222 SX7_196 SX7_230 SX7_214 (s, R)).2 ar) := by
  refine kEnter S kd_X7_readsSetup (Nat.le_of_ble_eq_true rfl) (fun x F hxl hxg => ?_)
  subst hxl; subst hxg
  have hlv : lv_args 0 [.ref m] = [(0, .ref m)] := rfl
  rw [hlv]
  have hK : kKp (mOwn m) h h := kKp.rf
  refine k_aload_n F dX7_readsSetup_0 1 rfl rfl rfl ?_
  refine k_aload_n F dX7_readsSetup_1 2 rfl rfl rfl ?_
  obtain ⟨q2, hz2, hl2⟩ := lsX7_222 F.st
  refine k_ldcS F hz2 dX7_readsSetup_2 4 rfl ?_
  refine k_callV F kd_X7_isKey q3508 q194 (kInvV (Bs := [_]) F kcX7 q3505 q3507 qs76 kd_X7_isKey q3508 dX7_readsSetup_4 (kHs.of hM.1) rfl (by decide)) (zX7_isKey F.st hM hn hB (by repeat' (first | assumption | with_reducible refine passS_ok ?_ | with_reducible refine lookS_ok ?_ | with_reducible refine numS_ok ?_ | with_reducible refine signS_ok ?_ | with_reducible refine goS_ok ?_ | with_reducible refine mustS_ok ?_ (by omega))) (hl2 _) (ascB_s (by decide))) 7 rfl (Nat.le_of_ble_eq_true rfl) (by first | exact Nat.le_of_ble_eq_true rfl | omega) (by first | exact Nat.le_of_ble_eq_true rfl | omega) (by first | exact Nat.le_of_ble_eq_true rfl | omega) (by first | exact Nat.le_of_ble_eq_true rfl | omega) (fun r1 h1 hr1 => ?_)
  obtain ⟨rfl, rfl⟩ := hr1
  refine k_iconst (v := 1) F dX7_readsSetup_7 8 rfl (by decide) ?_
  refine k_callV F kd_X7_must q3512 q194 (kInvV (Bs := [_, _]) F kcX7 q3509 q3511 qs77 kd_X7_must q3512 dX7_readsSetup_8 (kHs.of hM.1) rfl (by decide)) (zX7_must F.st hM hn hB (by repeat' (first | assumption | with_reducible refine passS_ok ?_ | with_reducible refine lookS_ok ?_ | with_reducible refine numS_ok ?_ | with_reducible refine signS_ok ?_ | with_reducible refine goS_ok ?_ | with_reducible refine mustS_ok ?_ (by omega))) _ 1 (by omega) (by omega)) 11 rfl (Nat.le_of_ble_eq_true rfl) (by first | exact Nat.le_of_ble_eq_true rfl | omega) (by first | exact Nat.le_of_ble_eq_true rfl | omega) (by first | exact Nat.le_of_ble_eq_true rfl | omega) (by first | exact Nat.le_of_ble_eq_true rfl | omega) (fun r2 h2 hr2 => ?_)
  obtain ⟨rfl, hM, hK9⟩ := hr2
  have hK := hK.tr hK9
  refine k_pop F dX7_readsSetup_11 12 rfl rfl ?_
  refine k_aload_n F dX7_readsSetup_12 13 rfl rfl rfl ?_
  refine k_callN F kd_X7_passes q3516 q194 (kInvV (Bs := []) F kcX7 q3513 q3515 qs78 kd_X7_passes q3516 dX7_readsSetup_13 (kHs.of hM.1) rfl (by decide)) (zX7_passes F.st hM hn hB (by repeat' (first | assumption | with_reducible refine passS_ok ?_ | with_reducible refine lookS_ok ?_ | with_reducible refine numS_ok ?_ | with_reducible refine signS_ok ?_ | with_reducible refine goS_ok ?_ | with_reducible refine mustS_ok ?_ (by omega)))) 16 rfl (Nat.le_of_ble_eq_true rfl) (by first | exact Nat.le_of_ble_eq_true rfl | omega) (by first | exact Nat.le_of_ble_eq_true rfl | omega) (by first | exact Nat.le_of_ble_eq_true rfl | omega) (by first | exact Nat.le_of_ble_eq_true rfl | omega) (fun h3 hr3 => ?_)
  obtain ⟨hM, hK9⟩ := hr3
  have hK := hK.tr hK9
  refine k_aload_n F dX7_readsSetup_16 17 rfl rfl rfl ?_
  refine m_get F 0 (by decide) q3592 rfl dX7_readsSetup_17 20 rfl hM rfl ?_
  refine k_iconst (v := 0) F dX7_readsSetup_20 21 rfl (by decide) ?_
  refine k_aload_n F dX7_readsSetup_21 22 rfl rfl rfl ?_
  refine k_iconst (v := 1) F dX7_readsSetup_22 23 rfl (by decide) ?_
  refine k_bipush (v := 9) F dX7_readsSetup_23 25 rfl (by decide) ?_
  refine k_callV F kd_X7_number q3520 q194 (kInvV (Bs := [_, _]) F kcX7 q3517 q3519 qs79 kd_X7_number q3520 dX7_readsSetup_25 (kHs.of hM.1) rfl (by decide)) (zX7_number F.st hM hn hB (by repeat' (first | assumption | with_reducible refine passS_ok ?_ | with_reducible refine lookS_ok ?_ | with_reducible refine numS_ok ?_ | with_reducible refine signS_ok ?_ | with_reducible refine goS_ok ?_ | with_reducible refine mustS_ok ?_ (by omega))) _ _) 28 rfl (Nat.le_of_ble_eq_true rfl) (by first | exact Nat.le_of_ble_eq_true rfl | omega) (by first | exact Nat.le_of_ble_eq_true rfl | omega) (by first | exact Nat.le_of_ble_eq_true rfl | omega) (by first | exact Nat.le_of_ble_eq_true rfl | omega) (fun r4 h4 hr4 => ?_)
  obtain ⟨rfl, hM, hK9⟩ := hr4
  have hK := hK.tr hK9
  refine m_st F dX7_readsSetup_28 29 rfl hM hK (0) (by first | (with_reducible rfl) | (simp only [nI_lit, pk_mul, nI_add])) (by omega) (fun h9 hM hK => ?_)
  refine k_aload_n F dX7_readsSetup_29 30 rfl rfl rfl ?_
  refine m_get F 0 (by decide) q3592 rfl dX7_readsSetup_30 33 rfl hM rfl ?_
  refine k_iconst (v := 1) F dX7_readsSetup_33 34 rfl (by decide) ?_
  refine k_aload_n F dX7_readsSetup_34 35 rfl rfl rfl ?_
  refine k_iconst (v := 0) F dX7_readsSetup_35 36 rfl (by decide) ?_
  refine k_bipush (v := 20) F dX7_readsSetup_36 38 rfl (by decide) ?_
  refine k_callV F kd_X7_number q3520 q194 (kInvV (Bs := [_, _]) F kcX7 q3517 q3519 qs79 kd_X7_number q3520 dX7_readsSetup_38 (kHs.of hM.1) rfl (by decide)) (zX7_number F.st hM hn hB (by repeat' (first | assumption | with_reducible refine passS_ok ?_ | with_reducible refine lookS_ok ?_ | with_reducible refine numS_ok ?_ | with_reducible refine signS_ok ?_ | with_reducible refine goS_ok ?_ | with_reducible refine mustS_ok ?_ (by omega))) _ _) 41 rfl (Nat.le_of_ble_eq_true rfl) (by first | exact Nat.le_of_ble_eq_true rfl | omega) (by first | exact Nat.le_of_ble_eq_true rfl | omega) (by first | exact Nat.le_of_ble_eq_true rfl | omega) (by first | exact Nat.le_of_ble_eq_true rfl | omega) (fun r5 h5 hr5 => ?_)
  obtain ⟨rfl, hM, hK9⟩ := hr5
  have hK := hK.tr hK9
  refine m_st F dX7_readsSetup_41 42 rfl hM hK (1) (by first | (with_reducible rfl) | (simp only [nI_lit, pk_mul, nI_add])) (by omega) (fun h9 hM hK => ?_)
  refine k_aload_n F dX7_readsSetup_42 43 rfl rfl rfl ?_
  refine m_get F 0 (by decide) q3592 rfl dX7_readsSetup_43 46 rfl hM rfl ?_
  refine k_iconst (v := 2) F dX7_readsSetup_46 47 rfl (by decide) ?_
  refine k_aload_n F dX7_readsSetup_47 48 rfl rfl rfl ?_
  refine k_iconst (v := 0) F dX7_readsSetup_48 49 rfl (by decide) ?_
  refine k_iconst (v := 2) F dX7_readsSetup_49 50 rfl (by decide) ?_
  refine k_callV F kd_X7_number q3520 q194 (kInvV (Bs := [_, _]) F kcX7 q3517 q3519 qs79 kd_X7_number q3520 dX7_readsSetup_50 (kHs.of hM.1) rfl (by decide)) (zX7_number F.st hM hn hB (by repeat' (first | assumption | with_reducible refine passS_ok ?_ | with_reducible refine lookS_ok ?_ | with_reducible refine numS_ok ?_ | with_reducible refine signS_ok ?_ | with_reducible refine goS_ok ?_ | with_reducible refine mustS_ok ?_ (by omega))) _ _) 53 rfl (Nat.le_of_ble_eq_true rfl) (by first | exact Nat.le_of_ble_eq_true rfl | omega) (by first | exact Nat.le_of_ble_eq_true rfl | omega) (by first | exact Nat.le_of_ble_eq_true rfl | omega) (by first | exact Nat.le_of_ble_eq_true rfl | omega) (fun r6 h6 hr6 => ?_)
  obtain ⟨rfl, hM, hK9⟩ := hr6
  have hK := hK.tr hK9
  refine m_st F dX7_readsSetup_53 54 rfl hM hK (2) (by first | (with_reducible rfl) | (simp only [nI_lit, pk_mul, nI_add])) (by omega) (fun h9 hM hK => ?_)
  refine k_aload_n F dX7_readsSetup_54 55 rfl rfl rfl ?_
  refine k_bipush (v := 59) F dX7_readsSetup_55 57 rfl (by decide) ?_
  refine k_callN F kd_X7_takesSign q3524 q194 (kInvV (Bs := [_]) F kcX7 q3521 q3523 qs80 kd_X7_takesSign q3524 dX7_readsSetup_57 (kHs.of hM.1) rfl (by decide)) (zX7_takesSign F.st hM hn hB (by repeat' (first | assumption | with_reducible refine passS_ok ?_ | with_reducible refine lookS_ok ?_ | with_reducible refine numS_ok ?_ | with_reducible refine signS_ok ?_ | with_reducible refine goS_ok ?_ | with_reducible refine mustS_ok ?_ (by omega))) _) 60 rfl (Nat.le_of_ble_eq_true rfl) (by first | exact Nat.le_of_ble_eq_true rfl | omega) (by first | exact Nat.le_of_ble_eq_true rfl | omega) (by first | exact Nat.le_of_ble_eq_true rfl | omega) (by first | exact Nat.le_of_ble_eq_true rfl | omega) (fun h7 hr7 => ?_)
  obtain ⟨hM, hK9⟩ := hr7
  have hK := hK.tr hK9
  refine k_aload_n F dX7_readsSetup_60 61 rfl rfl rfl ?_
  refine k_callN F kd_X7_readsArm q3532 q194 (kInvV (Bs := []) F kcX7 q3529 q3531 qs82 kd_X7_readsArm q3532 dX7_readsSetup_61 (kHs.of hM.1) rfl (by decide)) (zX7_readsArm F.st hM hn hB (by repeat' (first | assumption | with_reducible refine passS_ok ?_ | with_reducible refine lookS_ok ?_ | with_reducible refine numS_ok ?_ | with_reducible refine signS_ok ?_ | with_reducible refine goS_ok ?_ | with_reducible refine mustS_ok ?_ (by omega))) (((hR.lo (by omega)).lo (by omega)).lo (by omega))) 64 rfl (Nat.le_of_ble_eq_true rfl) (by first | exact Nat.le_of_ble_eq_true rfl | omega) (by first | exact Nat.le_of_ble_eq_true rfl | omega) (by first | exact Nat.le_of_ble_eq_true rfl | omega) (by first | exact Nat.le_of_ble_eq_true rfl | omega) (fun h8 hr8 => ?_)
  obtain ⟨hM, hK9⟩ := hr8
  have hK := hK.tr hK9
  refine k_iconst (v := 0) F dX7_readsSetup_64 65 rfl (by decide) ?_
  refine k_istore_n (lv' := [(0, _), (1, _)]) F dX7_readsSetup_65 66 rfl rfl (Nat.le_of_ble_eq_true rfl) rfl rfl rfl ?_
  replace hM : MW h8 m ad (scT sc (setH (ar 9) N SX7_222 SX7_196 (s, R)).1) (setH (ar 9) N SX7_222 SX7_196 (s, R)).2 ar := hM
  have loop : ∀ (f part : Nat) (q : PS) (h1 : kH), (q.1.2.1 = 0 → N + 1 - q.1.1.2.1 ≤ f) → SOK N q.1 → RV q.2 → part ≤ 2 → partsTo (ar 9) N SX7_196 SX7_230 SX7_214 f part q = partsTo (ar 9) N SX7_196 SX7_230 SX7_214 (N + 2) 0 (setH (ar 9) N SX7_222 SX7_196 (s, R)) → MW h1 m ad (scT sc q.1) q.2 ar → kKp (mOwn m) h h1 → kW x 0 0 h1 66 [(0, .ref m), (1, .int (nI part))] [] := by
    intro f
    induction f with
    | zero =>
      intro part q h1 hf hq hV hp he hM hK
      have hno : isSignF (ar 9) N q.1 59 = false := by
        cases hz : isSignF (ar 9) N q.1 59 with
        | false => rfl
        | true =>
          exfalso
          have h2 := isSignF_k hz
          have h3 := hf h2.1
          have h4 := hq.1.2.1
          have h5 := hq.1.1
          omega
      have ef : setupS (ar 9) N SX7_222 SX7_196 SX7_230 SX7_214 (s, R) = (mustS (decide (q.1.1.2.2.1 = 0) && decide (part = 2)) 1 q.1, q.2) := by
        unfold setupS; dsimp only; rw [← he]; rfl
      rw [ef] at F
      have hqk := hq.1.2.2.1
      refine k_aload_n F dX7_readsSetup_66 67 rfl rfl rfl ?_
      refine k_bipush (v := 59) F dX7_readsSetup_67 69 rfl (by decide) ?_
      refine k_callV F kd_X7_isSign q3528 q194 (kInvV (Bs := [_]) F kcX7 q3525 q3527 qs81 kd_X7_isSign q3528 dX7_readsSetup_69 (kHs.of hM.1) rfl (by decide)) (zX7_isSign F.st hM hn hB (by repeat' (first | assumption | with_reducible refine passS_ok ?_ | with_reducible refine lookS_ok ?_ | with_reducible refine numS_ok ?_ | with_reducible refine signS_ok ?_ | with_reducible refine goS_ok ?_ | with_reducible refine mustS_ok ?_ (by omega))) _) 72 rfl (Nat.le_of_ble_eq_true rfl) (by first | exact Nat.le_of_ble_eq_true rfl | omega) (by first | exact Nat.le_of_ble_eq_true rfl | omega) (by first | exact Nat.le_of_ble_eq_true rfl | omega) (by first | exact Nat.le_of_ble_eq_true rfl | omega) (fun r9 h9 hr9 => ?_)
      obtain ⟨rfl, rfl⟩ := hr9
      rw [hno]
      refine k_ifeq F dX7_readsSetup_72 75 140 rfl (by decide) (fun _ => ?_) (fun c_ => (by first | exact absurd rfl c_ | exact absurd c_ (by decide) | exact absurd (by assumption) c_ | exact absurd c_ (by assumption)))
      refine k_aload_n F dX7_readsSetup_140 141 rfl rfl rfl ?_
      refine k_aload_n F dX7_readsSetup_141 142 rfl rfl rfl ?_
      refine m_get F 14 (by decide) q3606 rfl dX7_readsSetup_142 145 rfl hM rfl ?_
      refine k_topi (b := nI q.1.1.2.2.1) rfl ?_
      have go1 : ∀ b1 : Bool, b1 = (decide (q.1.1.2.2.1 = 0) && decide (part = 2)) → kW x 0 0 h1 158 [(0, .ref m), (1, .int (nI part))] [.int (kB b1), .ref m] := by
        intro b1 hb1
        rw [← hb1] at F
        refine k_iconst (v := 1) F dX7_readsSetup_158 159 rfl (by decide) ?_
        refine k_callV F kd_X7_must q3512 q194 (kInvV (Bs := [_, _]) F kcX7 q3509 q3511 qs77 kd_X7_must q3512 dX7_readsSetup_159 (kHs.of hM.1) rfl (by decide)) (zX7_must F.st hM hn hB (by repeat' (first | assumption | with_reducible refine passS_ok ?_ | with_reducible refine lookS_ok ?_ | with_reducible refine numS_ok ?_ | with_reducible refine signS_ok ?_ | with_reducible refine goS_ok ?_ | with_reducible refine mustS_ok ?_ (by omega))) _ 1 (by omega) (by omega)) 162 rfl (Nat.le_of_ble_eq_true rfl) (by first | exact Nat.le_of_ble_eq_true rfl | omega) (by first | exact Nat.le_of_ble_eq_true rfl | omega) (by first | exact Nat.le_of_ble_eq_true rfl | omega) (by first | exact Nat.le_of_ble_eq_true rfl | omega) (fun r10 h10 hr10 => ?_)
        obtain ⟨rfl, hM, hK9⟩ := hr10
        have hK := hK.tr hK9
        refine k_pop F dX7_readsSetup_162 163 rfl rfl ?_
        exact k_vret F dX7_readsSetup_163 (by first | exact Nat.le_of_ble_eq_true rfl | omega) (by first | exact Nat.le_of_ble_eq_true rfl | omega) ⟨hM, hK⟩
      refine k_ifne F dX7_readsSetup_145 148 157 rfl (by decide) (fun z11 => ?_) (fun z11 => ?_)
      · refine k_iconst (v := 0) F dX7_readsSetup_157 158 rfl (by decide) ?_
        exact go1 false (by (try simp (disch := omega) only [nI_0E, nI_inj, nI_leE, nI_ltE, kB_0, kB_1, Bool.not_eq_false, Bool.not_eq_true, (show (2 : Int32) = nI 2 from rfl)] at z11) <;> (try simp (disch := omega) [z11]) <;> (try omega))
      · refine k_iload_n F dX7_readsSetup_148 149 rfl rfl rfl ?_
        refine k_iconst (v := 2) F dX7_readsSetup_149 150 rfl (by decide) ?_
        refine k_icmpne F dX7_readsSetup_150 153 157 rfl (by decide) (fun z12 => ?_) (fun z12 => ?_)
        · refine k_iconst (v := 0) F dX7_readsSetup_157 158 rfl (by decide) ?_
          exact go1 false (by (try simp (disch := omega) only [nI_0E, nI_inj, nI_leE, nI_ltE, kB_0, kB_1, Bool.not_eq_false, Bool.not_eq_true, (show (2 : Int32) = nI 2 from rfl)] at z11) <;> (try simp (disch := omega) only [nI_0E, nI_inj, nI_leE, nI_ltE, kB_0, kB_1, Bool.not_eq_false, Bool.not_eq_true, (show (2 : Int32) = nI 2 from rfl)] at z12) <;> (try simp (disch := omega) [z11, z12]) <;> (try omega))
        · refine k_iconst (v := 1) F dX7_readsSetup_153 154 rfl (by decide) ?_
          refine k_goto F dX7_readsSetup_154 158 (by decide) ?_
          exact go1 true (by (try simp (disch := omega) only [nI_0E, nI_inj, nI_leE, nI_ltE, kB_0, kB_1, Bool.not_eq_false, Bool.not_eq_true, (show (2 : Int32) = nI 2 from rfl)] at z11) <;> (try simp (disch := omega) only [nI_0E, nI_inj, nI_leE, nI_ltE, kB_0, kB_1, Bool.not_eq_false, Bool.not_eq_true, (show (2 : Int32) = nI 2 from rfl)] at z12) <;> (try simp (disch := omega) [z11, z12]) <;> (try omega))
    | succ f ih =>
      intro part q h1 hf hq hV hp he hM hK
      have hqk := hq.1.2.2.1
      refine k_aload_n F dX7_readsSetup_66 67 rfl rfl rfl ?_
      refine k_bipush (v := 59) F dX7_readsSetup_67 69 rfl (by decide) ?_
      refine k_callV F kd_X7_isSign q3528 q194 (kInvV (Bs := [_]) F kcX7 q3525 q3527 qs81 kd_X7_isSign q3528 dX7_readsSetup_69 (kHs.of hM.1) rfl (by decide)) (zX7_isSign F.st hM hn hB (by repeat' (first | assumption | with_reducible refine passS_ok ?_ | with_reducible refine lookS_ok ?_ | with_reducible refine numS_ok ?_ | with_reducible refine signS_ok ?_ | with_reducible refine goS_ok ?_ | with_reducible refine mustS_ok ?_ (by omega))) _) 72 rfl (Nat.le_of_ble_eq_true rfl) (by first | exact Nat.le_of_ble_eq_true rfl | omega) (by first | exact Nat.le_of_ble_eq_true rfl | omega) (by first | exact Nat.le_of_ble_eq_true rfl | omega) (by first | exact Nat.le_of_ble_eq_true rfl | omega) (fun r13 h13 hr13 => ?_)
      obtain ⟨rfl, rfl⟩ := hr13
      cases hno : isSignF (ar 9) N q.1 59 with
      | false =>
        have ef : setupS (ar 9) N SX7_222 SX7_196 SX7_230 SX7_214 (s, R) = (mustS (decide (q.1.1.2.2.1 = 0) && decide (part = 2)) 1 q.1, q.2) := by
          unfold setupS; dsimp only; rw [← he]; unfold partsTo; rw [hno, if_neg (by decide)]
        rw [ef] at F
        refine k_ifeq F dX7_readsSetup_72 75 140 rfl (by decide) (fun _ => ?_) (fun c_ => (by first | exact absurd rfl c_ | exact absurd c_ (by decide) | exact absurd (by assumption) c_ | exact absurd c_ (by assumption)))
        refine k_aload_n F dX7_readsSetup_140 141 rfl rfl rfl ?_
        refine k_aload_n F dX7_readsSetup_141 142 rfl rfl rfl ?_
        refine m_get F 14 (by decide) q3606 rfl dX7_readsSetup_142 145 rfl hM rfl ?_
        refine k_topi (b := nI q.1.1.2.2.1) rfl ?_
        have go1 : ∀ b1 : Bool, b1 = (decide (q.1.1.2.2.1 = 0) && decide (part = 2)) → kW x 0 0 h1 158 [(0, .ref m), (1, .int (nI part))] [.int (kB b1), .ref m] := by
          intro b1 hb1
          rw [← hb1] at F
          refine k_iconst (v := 1) F dX7_readsSetup_158 159 rfl (by decide) ?_
          refine k_callV F kd_X7_must q3512 q194 (kInvV (Bs := [_, _]) F kcX7 q3509 q3511 qs77 kd_X7_must q3512 dX7_readsSetup_159 (kHs.of hM.1) rfl (by decide)) (zX7_must F.st hM hn hB (by repeat' (first | assumption | with_reducible refine passS_ok ?_ | with_reducible refine lookS_ok ?_ | with_reducible refine numS_ok ?_ | with_reducible refine signS_ok ?_ | with_reducible refine goS_ok ?_ | with_reducible refine mustS_ok ?_ (by omega))) _ 1 (by omega) (by omega)) 162 rfl (Nat.le_of_ble_eq_true rfl) (by first | exact Nat.le_of_ble_eq_true rfl | omega) (by first | exact Nat.le_of_ble_eq_true rfl | omega) (by first | exact Nat.le_of_ble_eq_true rfl | omega) (by first | exact Nat.le_of_ble_eq_true rfl | omega) (fun r14 h14 hr14 => ?_)
          obtain ⟨rfl, hM, hK9⟩ := hr14
          have hK := hK.tr hK9
          refine k_pop F dX7_readsSetup_162 163 rfl rfl ?_
          exact k_vret F dX7_readsSetup_163 (by first | exact Nat.le_of_ble_eq_true rfl | omega) (by first | exact Nat.le_of_ble_eq_true rfl | omega) ⟨hM, hK⟩
        refine k_ifne F dX7_readsSetup_145 148 157 rfl (by decide) (fun z15 => ?_) (fun z15 => ?_)
        · refine k_iconst (v := 0) F dX7_readsSetup_157 158 rfl (by decide) ?_
          exact go1 false (by (try simp (disch := omega) only [nI_0E, nI_inj, nI_leE, nI_ltE, kB_0, kB_1, Bool.not_eq_false, Bool.not_eq_true, (show (2 : Int32) = nI 2 from rfl)] at z15) <;> (try simp (disch := omega) [z15]) <;> (try omega))
        · refine k_iload_n F dX7_readsSetup_148 149 rfl rfl rfl ?_
          refine k_iconst (v := 2) F dX7_readsSetup_149 150 rfl (by decide) ?_
          refine k_icmpne F dX7_readsSetup_150 153 157 rfl (by decide) (fun z16 => ?_) (fun z16 => ?_)
          · refine k_iconst (v := 0) F dX7_readsSetup_157 158 rfl (by decide) ?_
            exact go1 false (by (try simp (disch := omega) only [nI_0E, nI_inj, nI_leE, nI_ltE, kB_0, kB_1, Bool.not_eq_false, Bool.not_eq_true, (show (2 : Int32) = nI 2 from rfl)] at z15) <;> (try simp (disch := omega) only [nI_0E, nI_inj, nI_leE, nI_ltE, kB_0, kB_1, Bool.not_eq_false, Bool.not_eq_true, (show (2 : Int32) = nI 2 from rfl)] at z16) <;> (try simp (disch := omega) [z15, z16]) <;> (try omega))
          · refine k_iconst (v := 1) F dX7_readsSetup_153 154 rfl (by decide) ?_
            refine k_goto F dX7_readsSetup_154 158 (by decide) ?_
            exact go1 true (by (try simp (disch := omega) only [nI_0E, nI_inj, nI_leE, nI_ltE, kB_0, kB_1, Bool.not_eq_false, Bool.not_eq_true, (show (2 : Int32) = nI 2 from rfl)] at z15) <;> (try simp (disch := omega) only [nI_0E, nI_inj, nI_leE, nI_ltE, kB_0, kB_1, Bool.not_eq_false, Bool.not_eq_true, (show (2 : Int32) = nI 2 from rfl)] at z16) <;> (try simp (disch := omega) [z15, z16]) <;> (try omega))
      | true =>
        have hsg := isSignF_k hno
        have hadv : adv (q.1.1.2.1 + 1) (goS (ar 9) N q.1) := adv.goN hq (by rw [hsg.2]; decide)
        have hq1 : SOK N (goS (ar 9) N q.1) := goS_ok hq
        have hf9 := hf hsg.1
        rw [show partsTo (ar 9) N SX7_196 SX7_230 SX7_214 (f + 1) part q = partsTo (ar 9) N SX7_196 SX7_230 SX7_214 f (partF (ar 9) SX7_196 SX7_230 (goS (ar 9) N q.1) part) (partS (ar 9) N SX7_196 SX7_230 SX7_214 (partF (ar 9) SX7_196 SX7_230 (goS (ar 9) N q.1) part) (goS (ar 9) N q.1, q.2)) from if_pos hno] at he
        refine k_ifeq F dX7_readsSetup_72 75 140 rfl (by decide) (fun c_ => (by first | exact absurd rfl c_ | exact absurd c_ (by decide) | exact absurd (by assumption) c_ | exact absurd c_ (by assumption))) (fun _ => ?_)
        refine k_aload_n F dX7_readsSetup_75 76 rfl rfl rfl ?_
        refine k_callN F kd_X7_goes q3491 q194 (kInvV (Bs := []) F kcX7 q3488 q3490 qs73 kd_X7_goes q3491 dX7_readsSetup_76 (kHs.of hM.1) rfl (by decide)) (zX7_goes F.st hM hn hB hq.1.1) 79 rfl (Nat.le_of_ble_eq_true rfl) (by first | exact Nat.le_of_ble_eq_true rfl | omega) (by first | exact Nat.le_of_ble_eq_true rfl | omega) (by first | exact Nat.le_of_ble_eq_true rfl | omega) (by first | exact Nat.le_of_ble_eq_true rfl | omega) (fun h17 hr17 => ?_)
        obtain ⟨hM, hK9⟩ := hr17
        have hK := hK.tr hK9
        replace hM : MW h17 m ad (scT sc (goS (ar 9) N q.1)) q.2 ar := hM
        generalize goS (ar 9) N q.1 = s1 at hM he hadv hq1
        have goO : ∀ p2 : Nat, p2 = partF (ar 9) SX7_196 SX7_230 s1 part → p2 ≤ 2 → kW x 0 0 h17 110 [(0, .ref m), (1, .int (nI p2))] [] := by
          intro p2 hp2 hle
          rw [← hp2] at he
          have hn2 : (partS (ar 9) N SX7_196 SX7_230 SX7_214 p2 (s1, q.2)).1.2.1 = 0 → N + 1 - (partS (ar 9) N SX7_196 SX7_230 SX7_214 p2 (s1, q.2)).1.1.2.1 ≤ f := fun e => by
            have := adv.part (part := p2) (LA := SX7_196) (LC := SX7_230) (LP := SX7_214) (q := (s1, q.2)) hq1 hadv e
            omega
          have hk2 : SOK N (partS (ar 9) N SX7_196 SX7_230 SX7_214 p2 (s1, q.2)).1 := partS_ok hq1
          have hV2 : RV (partS (ar 9) N SX7_196 SX7_230 SX7_214 p2 (s1, q.2)).2 := partS_RV hV
          refine k_iload_n F dX7_readsSetup_110 111 rfl rfl rfl ?_
          refine k_ifne F dX7_readsSetup_111 114 121 rfl (by decide) (fun c_a => ?_) (fun c_a => ?_)
          · rw [nI_0E (by omega)] at c_a
            refine k_iload_n F dX7_readsSetup_121 122 rfl rfl rfl ?_
            refine k_iconst (v := 1) F dX7_readsSetup_122 123 rfl (by decide) ?_
            refine k_icmpne F dX7_readsSetup_123 126 133 rfl (by decide) (fun c_d => ?_) (fun c_d => ?_)
            · rw [show (1 : Int32) = nI 1 from rfl, nI_inj (by omega) (by omega)] at c_d
              refine k_aload_n F dX7_readsSetup_133 134 rfl rfl rfl ?_
              refine k_callN F kd_X7_readsPhase q3566 q194 (kInvV (Bs := []) F kcX7 q3563 q3565 qs90 kd_X7_readsPhase q3566 dX7_readsSetup_134 (kHs.of hM.1) rfl (by decide)) (zX7_readsPhase F.st hM hn hB hq1 hV) 137 rfl (Nat.le_of_ble_eq_true rfl) (by first | exact Nat.le_of_ble_eq_true rfl | omega) (by first | exact Nat.le_of_ble_eq_true rfl | omega) (by first | exact Nat.le_of_ble_eq_true rfl | omega) (by first | exact Nat.le_of_ble_eq_true rfl | omega) (fun h18 hr18 => ?_)
              obtain ⟨hM, hK9⟩ := hr18
              have hK := hK.tr hK9
              refine k_goto F dX7_readsSetup_137 66 (by decide) ?_
              have e2 : partS (ar 9) N SX7_196 SX7_230 SX7_214 p2 (s1, q.2) = phaseS (ar 9) N SX7_214 (s1, q.2) := by unfold partS; rw [if_neg c_a, if_neg c_d]
              rw [e2] at he hn2 hk2 hV2
              exact ih p2 _ _ hn2 hk2 hV2 hle he hM hK
            · rw [show (1 : Int32) = nI 1 from rfl, nI_inj (by omega) (by omega)] at c_d
              refine k_aload_n F dX7_readsSetup_126 127 rfl rfl rfl ?_
              refine k_callN F kd_X7_readsClash q3558 q194 (kInvV (Bs := []) F kcX7 q3555 q3557 qs88 kd_X7_readsClash q3558 dX7_readsSetup_127 (kHs.of hM.1) rfl (by decide)) (zX7_readsClash F.st hM hn hB hq1 hV) 130 rfl (Nat.le_of_ble_eq_true rfl) (by first | exact Nat.le_of_ble_eq_true rfl | omega) (by first | exact Nat.le_of_ble_eq_true rfl | omega) (by first | exact Nat.le_of_ble_eq_true rfl | omega) (by first | exact Nat.le_of_ble_eq_true rfl | omega) (fun h19 hr19 => ?_)
              obtain ⟨hM, hK9⟩ := hr19
              have hK := hK.tr hK9
              refine k_goto F dX7_readsSetup_130 66 (by decide) ?_
              have e2 : partS (ar 9) N SX7_196 SX7_230 SX7_214 p2 (s1, q.2) = clashS (ar 9) N (s1, q.2) := by unfold partS; rw [if_neg c_a, if_pos c_d]
              rw [e2] at he hn2 hk2 hV2
              exact ih p2 _ _ hn2 hk2 hV2 hle he hM hK
          · rw [nI_0E (by omega)] at c_a
            refine k_aload_n F dX7_readsSetup_114 115 rfl rfl rfl ?_
            refine k_callN F kd_X7_readsArm q3532 q194 (kInvV (Bs := []) F kcX7 q3529 q3531 qs82 kd_X7_readsArm q3532 dX7_readsSetup_115 (kHs.of hM.1) rfl (by decide)) (zX7_readsArm F.st hM hn hB hq1 hV) 118 rfl (Nat.le_of_ble_eq_true rfl) (by first | exact Nat.le_of_ble_eq_true rfl | omega) (by first | exact Nat.le_of_ble_eq_true rfl | omega) (by first | exact Nat.le_of_ble_eq_true rfl | omega) (by first | exact Nat.le_of_ble_eq_true rfl | omega) (fun h20 hr20 => ?_)
            obtain ⟨hM, hK9⟩ := hr20
            have hK := hK.tr hK9
            refine k_goto F dX7_readsSetup_118 66 (by decide) ?_
            have e2 : partS (ar 9) N SX7_196 SX7_230 SX7_214 p2 (s1, q.2) = armS (ar 9) N SX7_196 (s1, q.2) := by unfold partS; rw [if_pos c_a]
            rw [e2] at he hn2 hk2 hV2
            exact ih p2 _ _ hn2 hk2 hV2 hle he hM hK
        have goM : ∀ p1 : Nat, p1 = (if part = 0 ∧ isKeyF (ar 9) s1 SX7_196 = false then 1 else part) → p1 ≤ 2 → kW x 0 0 h17 94 [(0, .ref m), (1, .int (nI p1))] [] := by
          intro p1 hp1 hle
          have ep : partF (ar 9) SX7_196 SX7_230 s1 part = if p1 = 1 ∧ isKeyF (ar 9) s1 SX7_230 = false then 2 else p1 := by
            unfold partF; dsimp only; rw [← hp1]
          refine k_iload_n F dX7_readsSetup_94 95 rfl rfl rfl ?_
          refine k_iconst (v := 1) F dX7_readsSetup_95 96 rfl (by decide) ?_
          refine k_icmpne F dX7_readsSetup_96 99 110 rfl (by decide) (fun c_a => ?_) (fun c_a => ?_)
          · rw [show (1 : Int32) = nI 1 from rfl, nI_inj (by omega) (by omega)] at c_a
            exact goO p1 (by rw [ep, if_neg (fun z => c_a z.1)]) hle
          · rw [show (1 : Int32) = nI 1 from rfl, nI_inj (by omega) (by omega)] at c_a
            refine k_aload_n F dX7_readsSetup_99 100 rfl rfl rfl ?_
            obtain ⟨q100, hz100, hl100⟩ := lsX7_230 F.st
            refine k_ldcS F hz100 dX7_readsSetup_100 102 rfl ?_
            refine k_callV F kd_X7_isKey q3508 q194 (kInvV (Bs := [_]) F kcX7 q3505 q3507 qs76 kd_X7_isKey q3508 dX7_readsSetup_102 (kHs.of hM.1) rfl (by decide)) (zX7_isKey F.st hM hn hB (by repeat' (first | assumption | with_reducible refine passS_ok ?_ | with_reducible refine lookS_ok ?_ | with_reducible refine numS_ok ?_ | with_reducible refine signS_ok ?_ | with_reducible refine goS_ok ?_ | with_reducible refine mustS_ok ?_ (by omega))) (hl100 _) (ascB_s (by decide))) 105 rfl (Nat.le_of_ble_eq_true rfl) (by first | exact Nat.le_of_ble_eq_true rfl | omega) (by first | exact Nat.le_of_ble_eq_true rfl | omega) (by first | exact Nat.le_of_ble_eq_true rfl | omega) (by first | exact Nat.le_of_ble_eq_true rfl | omega) (fun r21 h21 hr21 => ?_)
            obtain ⟨rfl, rfl⟩ := hr21
            refine k_ifne F dX7_readsSetup_105 108 110 rfl (by decide) (fun c_d => ?_) (fun c_d => ?_)
            · rw [kB_0, Bool.not_eq_false] at c_d
              exact goO p1 (by rw [ep, if_neg (fun z => by rw [c_d] at z; cases z.2)]) hle
            · rw [kB_0] at c_d
              refine k_iconst (v := 2) F dX7_readsSetup_108 109 rfl (by decide) ?_
              refine k_istore_n (lv' := [(0, _), (1, _)]) F dX7_readsSetup_109 110 rfl rfl (Nat.le_of_ble_eq_true rfl) rfl rfl rfl ?_
              exact goO 2 (by rw [ep, if_pos ⟨c_a, c_d⟩]) (by omega)
        refine k_iload_n F dX7_readsSetup_79 80 rfl rfl rfl ?_
        refine k_ifne F dX7_readsSetup_80 83 94 rfl (by decide) (fun c_a => ?_) (fun c_a => ?_)
        · rw [nI_0E (by omega)] at c_a
          exact goM part (by rw [if_neg (fun z => c_a z.1)]) hp
        · rw [nI_0E (by omega)] at c_a
          refine k_aload_n F dX7_readsSetup_83 84 rfl rfl rfl ?_
          obtain ⟨q84, hz84, hl84⟩ := lsX7_196 F.st
          refine k_ldcS F hz84 dX7_readsSetup_84 86 rfl ?_
          refine k_callV F kd_X7_isKey q3508 q194 (kInvV (Bs := [_]) F kcX7 q3505 q3507 qs76 kd_X7_isKey q3508 dX7_readsSetup_86 (kHs.of hM.1) rfl (by decide)) (zX7_isKey F.st hM hn hB (by repeat' (first | assumption | with_reducible refine passS_ok ?_ | with_reducible refine lookS_ok ?_ | with_reducible refine numS_ok ?_ | with_reducible refine signS_ok ?_ | with_reducible refine goS_ok ?_ | with_reducible refine mustS_ok ?_ (by omega))) (hl84 _) (ascB_s (by decide))) 89 rfl (Nat.le_of_ble_eq_true rfl) (by first | exact Nat.le_of_ble_eq_true rfl | omega) (by first | exact Nat.le_of_ble_eq_true rfl | omega) (by first | exact Nat.le_of_ble_eq_true rfl | omega) (by first | exact Nat.le_of_ble_eq_true rfl | omega) (fun r22 h22 hr22 => ?_)
          obtain ⟨rfl, rfl⟩ := hr22
          refine k_ifne F dX7_readsSetup_89 92 94 rfl (by decide) (fun c_d => ?_) (fun c_d => ?_)
          · rw [kB_0, Bool.not_eq_false] at c_d
            exact goM part (by rw [if_neg (fun z => by rw [c_d] at z; cases z.2)]) hp
          · rw [kB_0] at c_d
            refine k_iconst (v := 1) F dX7_readsSetup_92 93 rfl (by decide) ?_
            refine k_istore_n (lv' := [(0, _), (1, _)]) F dX7_readsSetup_93 94 rfl rfl (Nat.le_of_ble_eq_true rfl) rfl rfl rfl ?_
            exact goM 1 (by rw [if_pos ⟨c_a, c_d⟩]) (by omega)
  exact loop (N + 2) 0 _ _ (fun _ => by omega) (setH_ok hs) (setH_RV hR) (by omega) rfl hM hK
set_option maxHeartbeats 4000000 in
set_option maxRecDepth 100000 in
theorem zX7_load {l : Launch} {g : kG} (S : kStart l g) {h : kH} {m : Nat} {ad : Nat → Nat} {sc R : Nat → Int32} {ar : Nat → Nat → Int32} {N : Nat} {s : SS} (hM : MW h m ad (scT sc s) R ar) (hn : sc 10 = nI N) (hB : BufOK (ar 9) N) (hv : s.1.2.2.2 ≤ 1000) : kMet l g yX7_load (Cond.code yX7_load cX7_load 2 (Option.some Jvm.ClassFile.FieldType.int)) 9 0 0 [.ref m] h (kV (fun w h' => w = .int (loadV (ar 9) N s.1.2.2.2) ∧ (∃ A, MW h' m ad (scT (loadC sc (ar 9) N s.1.2.2.2) (loadQ (ar 9) N s.1.2.2.2).1) (loadR R (ar 9) N s.1.2.2.2) (loadA ar A (ar 9) N s.1.2.2.2)) ∧ kKp (mOwn m) h h')) := by
  refine kEnter S kd_X7_load (Nat.le_of_ble_eq_true rfl) (fun x F hxl hxg => ?_)
  subst hxl; subst hxg
  have hlv : lv_args 0 [.ref m] = [(0, .ref m)] := rfl
  rw [hlv]
  have hK : kKp (mOwn m) h h := kKp.rf
  refine k_aload_n F dX7_load_0 1 rfl rfl rfl ?_
  refine k_iconst (v := 0) F dX7_load_1 2 rfl (by decide) ?_
  refine m_put F 8 (by decide) (knX7 8) q3600 rfl rfl dX7_load_2 5 rfl hM hK rfl rfl rfl (fun h9 hM hK => ?_)
  rw [scT_upd (by omega)] at hM
  refine k_iconst (v := 0) F dX7_load_5 6 rfl (by decide) ?_
  refine k_istore_n (lv' := [(0, _), (1, _)]) F dX7_load_6 7 rfl rfl (Nat.le_of_ble_eq_true rfl) rfl rfl rfl ?_
  suffices hl : ∀ j, j ≤ 993 → ∀ h1, MW h1 m ad (scT (upd sc 8 0) s) (mixF (fun _ => (0 : Int32)) R j) (setA ar 2 (mixF R (ar 2) j)) → kKp (mOwn m) h h1 → kW x 0 0 h1 7 [(0, .ref m), (1, .int (nI j))] [] from hl 0 (Nat.zero_le _) _ ((by rw [mixF_0, mixF_0, setA_self]; exact hM)) hK
  refine kUpTo (Q := fun j => ∀ h1, MW h1 m ad (scT (upd sc 8 0) s) (mixF (fun _ => (0 : Int32)) R j) (setA ar 2 (mixF R (ar 2) j)) → kKp (mOwn m) h h1 → kW x 0 0 h1 7 [(0, .ref m), (1, .int (nI j))] []) (993) ?_ ?_
  · intro h1 hM hK
    refine k_iload_n F dX7_load_7 8 rfl rfl rfl ?_
    refine k_sipush (v := 993) F dX7_load_8 11 rfl (by decide) ?_
    refine k_topi (b := nI 993) (by rfl) ?_
    refine k_icmpge F dX7_load_11 14 39 rfl (by decide) (fun _ => ?_) (fun c_ => absurd c_ (by rw [nI_leE (by omega) (by omega)]; omega))
    refine k_aload_n F dX7_load_39 40 rfl rfl rfl ?_
    refine m_get F 0 (by decide) q3592 rfl dX7_load_40 43 rfl hM rfl ?_
    refine k_bipush (v := 7) F dX7_load_43 45 rfl (by decide) ?_
    refine k_iconst (v := (-1)) F dX7_load_45 46 rfl (by decide) ?_
    refine m_st F dX7_load_46 47 rfl hM hK (7) (by first | (with_reducible rfl) | (simp only [nI_lit, pk_mul, nI_add])) (by omega) (fun h9 hM hK => ?_)
    have e0 : ∀ i, i < 993 → upd (mixF (fun _ => (0 : Int32)) R 993) 7 (-1) i = zeroR i := fun i hi => by
      unfold zeroR upd mixF
      split
      · rfl
      · first | rfl | exact if_pos hi
    replace hM := hM.row e0
    have hn1 : (upd sc 8 0) 10 = nI N := hn
    have hB1 : BufOK (setA ar 2 (mixF R (ar 2) 993) 9) N := hB
    refine k_aload_n F dX7_load_47 48 rfl rfl rfl ?_
    refine k_callN F kd_X7_starts q3487 q194 (kInvV (Bs := []) F kcX7 q3484 q3486 qs72 kd_X7_starts q3487 dX7_load_48 (kHs.of hM.1) rfl (by decide)) (zX7_starts F.st hM hn1 hB1) 51 rfl (Nat.le_of_ble_eq_true rfl) (by first | exact Nat.le_of_ble_eq_true rfl | omega) (by first | exact Nat.le_of_ble_eq_true rfl | omega) (by first | exact Nat.le_of_ble_eq_true rfl | omega) (by first | exact Nat.le_of_ble_eq_true rfl | omega) (fun h1 hr1 => ?_)
    obtain ⟨hM, hK9⟩ := hr1
    have hK := hK.tr hK9
    replace hM : MW h1 m ad (scT (upd sc 8 0) (startS (ar 9) N s.1.2.2.2)) zeroR (setA ar 2 (mixF R (ar 2) 993)) := hM
    refine k_aload_n F dX7_load_51 52 rfl rfl rfl ?_
    refine k_callN F kd_X7_readsSetup q3503 q194 (kInvV (Bs := []) F kcX7 q3500 q3502 qs75 kd_X7_readsSetup q3503 dX7_load_52 (kHs.of hM.1) rfl (by decide)) (zX7_readsSetup F.st hM hn1 hB1 (startS_ok hv) zeroR_RV) 55 rfl (Nat.le_of_ble_eq_true rfl) (by first | exact Nat.le_of_ble_eq_true rfl | omega) (by first | exact Nat.le_of_ble_eq_true rfl | omega) (by first | exact Nat.le_of_ble_eq_true rfl | omega) (by first | exact Nat.le_of_ble_eq_true rfl | omega) (fun h2 hr2 => ?_)
    obtain ⟨hM, hK9⟩ := hr2
    have hK := hK.tr hK9
    replace hM : MW h2 m ad (scT (upd sc 8 0) (loadQ (ar 9) N s.1.2.2.2).1) (loadQ (ar 9) N s.1.2.2.2).2 (setA ar 2 (mixF R (ar 2) 993)) := hM
    have hq : SOK N (loadQ (ar 9) N s.1.2.2.2).1 := setupS_ok (startS_ok hv)
    generalize eq : loadQ (ar 9) N s.1.2.2.2 = q at hM hq
    have hq5 := hq.2
    refine k_aload_n F dX7_load_55 56 rfl rfl rfl ?_
    refine k_iconst (v := 0) F dX7_load_56 57 rfl (by decide) ?_
    refine m_put F 10 (by decide) (knX7 10) q3602 rfl rfl dX7_load_57 60 rfl hM hK rfl rfl rfl (fun h9 hM hK => ?_)
    rw [scT_upd (by omega)] at hM
    refine k_aload_n F dX7_load_60 61 rfl rfl rfl ?_
    refine m_get F 16 (by decide) q3608 rfl dX7_load_61 64 rfl hM rfl ?_
    refine k_topi (b := nI q.1.2.1) rfl ?_
    refine k_ifeq F dX7_load_64 67 102 rfl (by decide) (fun c_a => ?_) (fun c_a => ?_)
    · rw [nI_0E (by omega)] at c_a
      unfold loadV loadC loadR loadA at F
      simp only [eq, if_pos c_a] at F
      refine k_aload_n F dX7_load_102 103 rfl rfl rfl ?_
      refine k_iconst (v := 0) F dX7_load_103 104 rfl (by decide) ?_
      refine m_put F 6 (by decide) (knX7 6) q3598 rfl rfl dX7_load_104 107 rfl hM hK rfl rfl rfl (fun h9 hM hK => ?_)
      rw [scT_upd (by omega)] at hM
      refine k_aload_n F dX7_load_107 108 rfl rfl rfl ?_
      refine k_iconst (v := 0) F dX7_load_108 109 rfl (by decide) ?_
      refine m_put F 7 (by decide) (knX7 7) q3599 rfl rfl dX7_load_109 112 rfl hM hK rfl rfl rfl (fun h9 hM hK => ?_)
      rw [scT_upd (by omega)] at hM
      refine k_aload_n F dX7_load_112 113 rfl rfl rfl ?_
      refine m_get F 5 (by decide) q3597 rfl dX7_load_113 116 rfl hM rfl ?_
      refine k_iconst (v := 0) F dX7_load_116 117 rfl (by decide) ?_
      refine k_iconst (v := 0) F dX7_load_117 118 rfl (by decide) ?_
      refine m_zast F dX7_load_118 119 rfl hM hK (0) (by first | (with_reducible rfl) | (simp only [nI_lit, pk_mul, nI_add])) (by first | decide | omega | (simp only [mSz]; omega)) rfl (fun h9 hM hK => ?_)
      refine k_aload_n F dX7_load_119 120 rfl rfl rfl ?_
      refine m_get F 5 (by decide) q3597 rfl dX7_load_120 123 rfl hM rfl ?_
      refine k_iconst (v := 1) F dX7_load_123 124 rfl (by decide) ?_
      refine k_iconst (v := 0) F dX7_load_124 125 rfl (by decide) ?_
      refine m_zast F dX7_load_125 126 rfl hM hK (1) (by first | (with_reducible rfl) | (simp only [nI_lit, pk_mul, nI_add])) (by first | decide | omega | (simp only [mSz]; omega)) rfl (fun h9 hM hK => ?_)
      refine k_aload_n F dX7_load_126 127 rfl rfl rfl ?_
      refine m_get F 0 (by decide) q3592 rfl dX7_load_127 130 rfl hM rfl ?_
      refine k_iconst (v := 4) F dX7_load_130 131 rfl (by decide) ?_
      refine m_ld F dX7_load_131 132 rfl hM (4) (by first | (with_reducible rfl) | (simp only [nI_lit, pk_mul, nI_add])) (by omega) ?_
      exact k_iret F dX7_load_132 (by first | exact Nat.le_of_ble_eq_true rfl | omega) (by first | exact Nat.le_of_ble_eq_true rfl | omega) ⟨rfl, ⟨_, hM⟩, hK⟩
    · rw [nI_0E (by omega)] at c_a
      unfold loadV loadC loadR loadA at F
      simp only [eq, if_neg c_a] at F
      refine k_iconst (v := 0) F dX7_load_67 68 rfl (by decide) ?_
      refine k_istore_n (lv' := [(0, _), (1, _)]) F dX7_load_68 69 rfl rfl (Nat.le_of_ble_eq_true rfl) rfl rfl rfl ?_
      suffices hl : ∀ j, j ≤ 993 → ∀ h1, MW h1 m ad (scT (upd (upd sc 8 0) 10 0) q.1) (mixF R q.2 j) (setA ar 2 (mixF R (ar 2) 993)) → kKp (mOwn m) h h1 → kW x 0 0 h1 69 [(0, .ref m), (1, .int (nI j))] [] from hl 0 (Nat.zero_le _) _ ((by rw [mixF_0]; exact hM)) hK
      refine kUpTo (Q := fun j => ∀ h1, MW h1 m ad (scT (upd (upd sc 8 0) 10 0) q.1) (mixF R q.2 j) (setA ar 2 (mixF R (ar 2) 993)) → kKp (mOwn m) h h1 → kW x 0 0 h1 69 [(0, .ref m), (1, .int (nI j))] []) (993) ?_ ?_
      · intro h1 hM hK
        refine k_iload_n F dX7_load_69 70 rfl rfl rfl ?_
        refine k_sipush (v := 993) F dX7_load_70 73 rfl (by decide) ?_
        refine k_topi (b := nI 993) (by rfl) ?_
        refine k_icmpge F dX7_load_73 76 94 rfl (by decide) (fun _ => ?_) (fun c_ => absurd c_ (by rw [nI_leE (by omega) (by omega)]; omega))
        refine k_bipush (v := (-20)) F dX7_load_94 96 rfl (by decide) ?_
        refine k_aload_n F dX7_load_96 97 rfl rfl rfl ?_
        refine m_get F 16 (by decide) q3608 rfl dX7_load_97 100 rfl hM rfl ?_
        refine k_topi (b := nI q.1.2.1) rfl ?_
        refine k_isub F dX7_load_100 101 rfl ?_
        exact k_iret F dX7_load_101 (by first | exact Nat.le_of_ble_eq_true rfl | omega) (by first | exact Nat.le_of_ble_eq_true rfl | omega) ⟨rfl, ⟨_, hM.row (fun i hi => mixF_lt hi)⟩, hK⟩
      · intro j hj ih h1 hM hK
        refine k_iload_n F dX7_load_69 70 rfl rfl rfl ?_
        refine k_sipush (v := 993) F dX7_load_70 73 rfl (by decide) ?_
        refine k_topi (b := nI 993) (by rfl) ?_
        refine k_icmpge F dX7_load_73 76 94 rfl (by decide) (fun c_ => absurd c_ (by rw [nI_leE (by omega) (by omega)]; omega)) (fun _ => ?_)
        refine k_aload_n F dX7_load_76 77 rfl rfl rfl ?_
        refine m_get F 0 (by decide) q3592 rfl dX7_load_77 80 rfl hM rfl ?_
        refine k_iload_n F dX7_load_80 81 rfl rfl rfl ?_
        refine k_aload_n F dX7_load_81 82 rfl rfl rfl ?_
        refine m_get F 2 (by decide) q3594 rfl dX7_load_82 85 rfl hM rfl ?_
        refine k_iload_n F dX7_load_85 86 rfl rfl rfl ?_
        refine m_iald F _ (by rfl) dX7_load_86 87 rfl hM (j) (by first | (with_reducible rfl) | (simp only [nI_lit, pk_mul, nI_add])) (by first | decide | omega | (simp only [mSz]; omega)) ?_
        rw [show setA ar 2 (mixF R (ar 2) 993) 2 j = R j from (congrFun setA_s j).trans (mixF_lt hj)]
        refine m_st F dX7_load_87 88 rfl hM hK (j) (by first | (with_reducible rfl) | (simp only [nI_lit, pk_mul, nI_add])) (by omega) (fun h9 hM hK => ?_)
        refine k_iinc (e := 1) (lv' := [(0, _), (1, _)]) F dX7_load_88 91 rfl rfl (by decide) rfl (Nat.le_of_ble_eq_true rfl) rfl rfl rfl ?_
        refine k_goto F dX7_load_91 69 (by decide) ?_
        rw [nI_1']
        refine ih _ ?_ hK
        rw [← mixF_succ]
        exact hM
  · intro j hj ih h1 hM hK
    refine k_iload_n F dX7_load_7 8 rfl rfl rfl ?_
    refine k_sipush (v := 993) F dX7_load_8 11 rfl (by decide) ?_
    refine k_topi (b := nI 993) (by rfl) ?_
    refine k_icmpge F dX7_load_11 14 39 rfl (by decide) (fun c_ => absurd c_ (by rw [nI_leE (by omega) (by omega)]; omega)) (fun _ => ?_)
    refine k_aload_n F dX7_load_14 15 rfl rfl rfl ?_
    refine m_get F 2 (by decide) q3594 rfl dX7_load_15 18 rfl hM rfl ?_
    refine k_iload_n F dX7_load_18 19 rfl rfl rfl ?_
    refine k_aload_n F dX7_load_19 20 rfl rfl rfl ?_
    refine m_get F 0 (by decide) q3592 rfl dX7_load_20 23 rfl hM rfl ?_
    refine k_iload_n F dX7_load_23 24 rfl rfl rfl ?_
    refine m_ld F dX7_load_24 25 rfl hM (j) (by first | (with_reducible rfl) | (simp only [nI_lit, pk_mul, nI_add])) (by omega) ?_
    rw [show mixF (fun _ => (0 : Int32)) R j j = R j from if_neg (by omega)]
    refine m_iast F _ (by rfl) dX7_load_25 26 rfl hM hK (j) (by first | (with_reducible rfl) | (simp only [nI_lit, pk_mul, nI_add])) (by first | decide | omega | (simp only [mSz]; omega)) (fun h9 hM hK => ?_)
    refine k_aload_n F dX7_load_26 27 rfl rfl rfl ?_
    refine m_get F 0 (by decide) q3592 rfl dX7_load_27 30 rfl hM rfl ?_
    refine k_iload_n F dX7_load_30 31 rfl rfl rfl ?_
    refine k_iconst (v := 0) F dX7_load_31 32 rfl (by decide) ?_
    refine m_st F dX7_load_32 33 rfl hM hK (j) (by first | (with_reducible rfl) | (simp only [nI_lit, pk_mul, nI_add])) (by omega) (fun h9 hM hK => ?_)
    refine k_iinc (e := 1) (lv' := [(0, _), (1, _)]) F dX7_load_33 36 rfl rfl (by decide) rfl (Nat.le_of_ble_eq_true rfl) rfl rfl rfl ?_
    refine k_goto F dX7_load_36 7 (by decide) ?_
    rw [nI_1']
    refine ih _ ?_ hK
    rw [setA_upd, mixF_succ (f := R)] at hM
    rw [← mixF_succ (f := fun _ => (0 : Int32))]
    exact hM
end

