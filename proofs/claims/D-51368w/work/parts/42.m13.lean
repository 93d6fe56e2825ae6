/-! the reference: reading steps -/

set_option maxHeartbeats 4000000 in
set_option maxRecDepth 100000 in
theorem zX7_starts {l : Launch} {g : kG} (S : kStart l g) {h : kH} {m : Nat} {ad : Nat → Nat} {sc R : Nat → Int32} {ar : Nat → Nat → Int32} {N : Nat} {s : SS} (hM : MW h m ad (scT sc s) R ar) (hn : sc 10 = nI N) (hB : BufOK (ar 9) N) : kMet l g yX7_starts (Cond.code yX7_starts cX7_starts 1 (Option.none : Option Jvm.ClassFile.FieldType)) 3 0 0 [.ref m] h (mDo h m ad (scT sc (startS (ar 9) N s.1.2.2.2)) R ar) := by
  refine kEnter S kd_X7_starts (Nat.le_of_ble_eq_true rfl) (fun x F hxl hxg => ?_)
  subst hxl; subst hxg
  have hlv : lv_args 0 [.ref m] = [(0, .ref m)] := rfl
  rw [hlv]
  have hK : kKp (mOwn m) h h := kKp.rf
  obtain ⟨⟨s0, b0, k0, v0⟩, c0, e0⟩ := s
  refine k_aload_n F dX7_starts_0 1 rfl rfl rfl ?_
  refine k_iconst (v := 0) F dX7_starts_1 2 rfl (by decide) ?_
  refine m_put F 12 (by decide) (knX7 12) q3604 rfl rfl dX7_starts_2 5 rfl hM hK rfl rfl rfl (fun h9 hM hK => ?_)
  replace hM : MW _ m ad (upd (scR sc (s0, b0, k0, v0) (nI c0) e0) 12 (nI 0)) R ar := hM
  rw [scR_12] at hM
  refine k_aload_n F dX7_starts_5 6 rfl rfl rfl ?_
  refine k_iconst (v := 0) F dX7_starts_6 7 rfl (by decide) ?_
  refine m_put F 16 (by decide) (knX7 16) q3608 rfl rfl dX7_starts_7 10 rfl hM hK rfl rfl rfl (fun h9 hM hK => ?_)
  rw [scR_16] at hM
  refine k_aload_n F dX7_starts_10 11 rfl rfl rfl ?_
  refine k_iconst (v := (-1)) F dX7_starts_11 12 rfl (by decide) ?_
  refine m_put F 11 (by decide) (knX7 11) q3603 rfl rfl dX7_starts_12 15 rfl hM hK rfl rfl rfl (fun h9 hM hK => ?_)
  rw [scR_11] at hM
  refine k_aload_n F dX7_starts_15 16 rfl rfl rfl ?_
  refine k_callN F kd_X7_goes q3491 q194 (kInvV (Bs := []) F kcX7 q3488 q3490 qs73 kd_X7_goes q3491 dX7_starts_16 (kHs.of hM.1) rfl (by decide)) (zX7_goes F.st hM hn hB (Nat.zero_le _)) 19 rfl (Nat.le_of_ble_eq_true rfl) (by first | exact Nat.le_of_ble_eq_true rfl | omega) (by first | exact Nat.le_of_ble_eq_true rfl | omega) (by first | exact Nat.le_of_ble_eq_true rfl | omega) (by first | exact Nat.le_of_ble_eq_true rfl | omega) (fun h1 hr1 => ?_)
  obtain ⟨hM, hK9⟩ := hr1
  have hK := hK.tr hK9
  exact k_vret F dX7_starts_19 (by first | exact Nat.le_of_ble_eq_true rfl | omega) (by first | exact Nat.le_of_ble_eq_true rfl | omega) ⟨hM, hK⟩
set_option maxHeartbeats 4000000 in
set_option maxRecDepth 100000 in
theorem zX7_must {l : Launch} {g : kG} (S : kStart l g) {h : kH} {m : Nat} {ad : Nat → Nat} {sc R : Nat → Int32} {ar : Nat → Nat → Int32} {N : Nat} {s : SS} (hM : MW h m ad (scT sc s) R ar) (hn : sc 10 = nI N) (hB : BufOK (ar 9) N) (hs : SOK N s) (b : Bool) (n : Nat) (hn1 : 0 < n) (hn5 : n ≤ 5) : kMet l g yX7_must (Cond.code yX7_must cX7_must 3 (Option.some Jvm.ClassFile.FieldType.boolean)) 1 0 0 [.ref m, .int (kB b), .int (nI n)] h (mDv h m ad (scT sc (mustS b n s)) R ar (.int (kB (decide ((mustS b n s).2.1 = 0))))) := by
  refine kEnter S kd_X7_must (Nat.le_of_ble_eq_true rfl) (fun x F hxl hxg => ?_)
  subst hxl; subst hxg
  have hlv : lv_args 0 [.ref m, .int (kB b), .int (nI n)] = [(0, .ref m), (1, .int (kB b)), (2, .int (nI n))] := rfl
  rw [hlv]
  have hK : kKp (mOwn m) h h := kKp.rf
  obtain ⟨⟨s1, s2, s3, s4, s5⟩, s6⟩ := id hs
  have fin : ∀ (s' : SS) h1, s'.2.1 ≤ 5 → mustS b n s = s' → MW h1 m ad (scT sc s') R ar → kKp (mOwn m) h h1 → kW x 0 0 h1 24 [(0, .ref m), (1, .int (kB b)), (2, .int (nI n))] [] := by
    intro s' h1 h5 es hM hK
    rw [es] at F
    refine k_aload_n F dX7_must_24 25 rfl rfl rfl ?_
    refine m_get F 16 (by decide) q3608 rfl dX7_must_25 28 rfl hM rfl ?_
    refine k_topi (b := nI (s'.2.1)) rfl ?_
    refine k_ifne F dX7_must_28 31 35 rfl (by decide) (fun c_z => ?_) (fun c_z => ?_)
    · rw [nI_0E (by omega)] at c_z
      refine k_iconst (v := 0) F dX7_must_35 36 rfl (by decide) ?_
      exact k_zret F dX7_must_36 (by first | rfl | exact kzb _ | exact pk_nc _ | decide) (by first | exact Nat.le_of_ble_eq_true rfl | omega) (by first | exact Nat.le_of_ble_eq_true rfl | omega) ⟨by rw [decide_eq_false c_z]; rfl, hM, hK⟩
    · rw [nI_0E (by omega)] at c_z
      refine k_iconst (v := 1) F dX7_must_31 32 rfl (by decide) ?_
      refine k_goto F dX7_must_32 36 (by decide) ?_
      exact k_zret F dX7_must_36 (by first | rfl | exact kzb _ | exact pk_nc _ | decide) (by first | exact Nat.le_of_ble_eq_true rfl | omega) (by first | exact Nat.le_of_ble_eq_true rfl | omega) ⟨by rw [decide_eq_true c_z]; rfl, hM, hK⟩
  refine k_aload_n F dX7_must_0 1 rfl rfl rfl ?_
  refine m_get F 16 (by decide) q3608 rfl dX7_must_1 4 rfl hM rfl ?_
  refine k_topi (b := nI s.2.1) rfl ?_
  refine k_ifne F dX7_must_4 7 24 rfl (by decide) (fun c_a => ?_) (fun c_a => ?_)
  · rw [nI_0E (by omega)] at c_a
    exact fin s _ s6 (if_neg (fun q => c_a q.1)) hM hK
  · rw [nI_0E (by omega)] at c_a
    refine k_iload_n F dX7_must_7 8 rfl rfl rfl ?_
    refine k_ifne F dX7_must_8 11 24 rfl (by decide) (fun c_d => ?_) (fun c_d => ?_)
    · rw [kB_0, Bool.not_eq_false] at c_d
      exact fin s _ s6 (if_neg (fun q => by rw [c_d] at q; cases q.2)) hM hK
    · rw [kB_0] at c_d
      refine k_aload_n F dX7_must_11 12 rfl rfl rfl ?_
      refine k_iload_n F dX7_must_12 13 rfl rfl rfl ?_
      refine m_put F 16 (by decide) (knX7 16) q3608 rfl rfl dX7_must_13 16 rfl hM hK rfl rfl rfl (fun h9 hM hK => ?_)
      replace hM : MW _ m ad (upd (scR sc s.1 (nI s.2.1) s.2.2) 16 (nI n)) R ar := hM
      rw [scR_16] at hM
      refine k_aload_n F dX7_must_16 17 rfl rfl rfl ?_
      refine k_aload_n F dX7_must_17 18 rfl rfl rfl ?_
      refine m_get F 13 (by decide) q3605 rfl dX7_must_18 21 rfl hM rfl ?_
      refine k_topi (b := nI s.1.2.1) rfl ?_
      refine m_put F 11 (by decide) (knX7 11) q3603 rfl rfl dX7_must_21 24 rfl hM hK rfl rfl rfl (fun h9 hM hK => ?_)
      rw [scR_11] at hM
      exact fin (s.1, n, nI s.1.2.1) _ (by dsimp only; omega) (if_pos ⟨c_a, c_d⟩) hM hK
set_option maxHeartbeats 4000000 in
set_option maxRecDepth 100000 in
theorem zX7_passes {l : Launch} {g : kG} (S : kStart l g) {h : kH} {m : Nat} {ad : Nat → Nat} {sc R : Nat → Int32} {ar : Nat → Nat → Int32} {N : Nat} {s : SS} (hM : MW h m ad (scT sc s) R ar) (hn : sc 10 = nI N) (hB : BufOK (ar 9) N) (hs : SOK N s) : kMet l g yX7_passes (Cond.code yX7_passes cX7_passes 1 (Option.none : Option Jvm.ClassFile.FieldType)) 3 0 0 [.ref m] h (mDo h m ad (scT sc (passS (ar 9) N s)) R ar) := by
  refine kEnter S kd_X7_passes (Nat.le_of_ble_eq_true rfl) (fun x F hxl hxg => ?_)
  subst hxl; subst hxg
  have hlv : lv_args 0 [.ref m] = [(0, .ref m)] := rfl
  rw [hlv]
  have hK : kKp (mOwn m) h h := kKp.rf
  obtain ⟨⟨s1, s2, s3, s4, s5⟩, s6⟩ := id hs
  refine k_aload_n F dX7_passes_0 1 rfl rfl rfl ?_
  refine m_get F 16 (by decide) q3608 rfl dX7_passes_1 4 rfl hM rfl ?_
  refine k_topi (b := nI s.2.1) rfl ?_
  refine k_ifne F dX7_passes_4 7 11 rfl (by decide) (fun c_a => ?_) (fun c_a => ?_)
  · rw [nI_0E (by omega)] at c_a
    rw [show passS (ar 9) N s = s from if_neg c_a] at F
    exact k_vret F dX7_passes_11 (by first | exact Nat.le_of_ble_eq_true rfl | omega) (by first | exact Nat.le_of_ble_eq_true rfl | omega) ⟨hM, hK⟩
  · rw [nI_0E (by omega)] at c_a
    rw [show passS (ar 9) N s = goS (ar 9) N s from if_pos c_a] at F
    refine k_aload_n F dX7_passes_7 8 rfl rfl rfl ?_
    refine k_callN F kd_X7_goes q3491 q194 (kInvV (Bs := []) F kcX7 q3488 q3490 qs73 kd_X7_goes q3491 dX7_passes_8 (kHs.of hM.1) rfl (by decide)) (zX7_goes F.st hM hn hB s1) 11 rfl (Nat.le_of_ble_eq_true rfl) (by first | exact Nat.le_of_ble_eq_true rfl | omega) (by first | exact Nat.le_of_ble_eq_true rfl | omega) (by first | exact Nat.le_of_ble_eq_true rfl | omega) (by first | exact Nat.le_of_ble_eq_true rfl | omega) (fun h1 hr1 => ?_)
    obtain ⟨hM, hK9⟩ := hr1
    have hK := hK.tr hK9
    exact k_vret F dX7_passes_11 (by first | exact Nat.le_of_ble_eq_true rfl | omega) (by first | exact Nat.le_of_ble_eq_true rfl | omega) ⟨hM, hK⟩
set_option maxHeartbeats 4000000 in
set_option maxRecDepth 100000 in
theorem zX7_isSign {l : Launch} {g : kG} (S : kStart l g) {h : kH} {m : Nat} {ad : Nat → Nat} {sc R : Nat → Int32} {ar : Nat → Nat → Int32} {N : Nat} {s : SS} (hM : MW h m ad (scT sc s) R ar) (hn : sc 10 = nI N) (hB : BufOK (ar 9) N) (hs : SOK N s) (c : Int32) : kMet l g yX7_isSign (Cond.code yX7_isSign cX7_isSign 2 (Option.some Jvm.ClassFile.FieldType.boolean)) 2 0 0 [.ref m, .int c] h (mRd h (.int (kB (isSignF (ar 9) N s c)))) := by
  refine kEnter S kd_X7_isSign (Nat.le_of_ble_eq_true rfl) (fun x F hxl hxg => ?_)
  subst hxl; subst hxg
  have hlv : lv_args 0 [.ref m, .int c] = [(0, .ref m), (1, .int c)] := rfl
  rw [hlv]
  obtain ⟨⟨s1, s2, s3, s4, s5⟩, s6⟩ := id hs
  have hN : N ≤ 600 := hB.1
  refine k_aload_n F dX7_isSign_0 1 rfl rfl rfl ?_
  refine m_get F 16 (by decide) q3608 rfl dX7_isSign_1 4 rfl hM rfl ?_
  refine k_topi (b := nI s.2.1) rfl ?_
  have no : isSignF (ar 9) N s c = false → kW x 0 0 h 31 [(0, .ref m), (1, .int c)] [] := by
    intro e
    rw [e] at F
    refine k_iconst (v := 0) F dX7_isSign_31 32 rfl (by decide) ?_
    exact k_zret F dX7_isSign_32 (by first | rfl | exact kzb _ | exact pk_nc _ | decide) (by first | exact Nat.le_of_ble_eq_true rfl | omega) (by first | exact Nat.le_of_ble_eq_true rfl | omega) ⟨rfl, rfl⟩
  refine k_ifne F dX7_isSign_4 7 31 rfl (by decide) (fun c_a => ?_) (fun c_a => ?_)
  · rw [nI_0E (by omega)] at c_a
    exact no (by unfold isSignF; rw [decide_eq_false c_a]; rfl)
  · rw [nI_0E (by omega)] at c_a
    refine k_aload_n F dX7_isSign_7 8 rfl rfl rfl ?_
    refine m_get F 14 (by decide) q3606 rfl dX7_isSign_8 11 rfl hM rfl ?_
    refine k_topi (b := nI s.1.2.2.1) rfl ?_
    refine k_iconst (v := 3) F dX7_isSign_11 12 rfl (by decide) ?_
    refine k_topi (b := nI 3) (by rfl) ?_
    refine k_icmpne F dX7_isSign_12 15 31 rfl (by decide) (fun c_d => ?_) (fun c_d => ?_)
    · rw [nI_inj (by omega) (by omega)] at c_d
      exact no (by unfold isSignF; rw [decide_eq_false c_d, decide_eq_true c_a]; rfl)
    · rw [nI_inj (by omega) (by omega)] at c_d
      refine k_aload_n F dX7_isSign_15 16 rfl rfl rfl ?_
      refine k_aload_n F dX7_isSign_16 17 rfl rfl rfl ?_
      refine m_get F 13 (by decide) q3605 rfl dX7_isSign_17 20 rfl hM rfl ?_
      refine k_topi (b := nI s.1.2.1) rfl ?_
      refine k_callV F kd_X7_seen q3495 q194 (kInvV (Bs := [_]) F kcX7 q3492 q3494 qs74 kd_X7_seen q3495 dX7_isSign_20 (kHs.of hM.1) rfl (by decide)) (zX7_seen F.st hM s.1.2.1 N hn hB.1 (by omega)) 23 rfl (Nat.le_of_ble_eq_true rfl) (by first | exact Nat.le_of_ble_eq_true rfl | omega) (by first | exact Nat.le_of_ble_eq_true rfl | omega) (by first | exact Nat.le_of_ble_eq_true rfl | omega) (by first | exact Nat.le_of_ble_eq_true rfl | omega) (fun r1 h1 hr1 => ?_)
      obtain ⟨rfl, rfl⟩ := hr1
      refine k_iload_n F dX7_isSign_23 24 rfl rfl rfl ?_
      refine k_icmpne F dX7_isSign_24 27 31 rfl (by decide) (fun c_g => ?_) (fun c_g => ?_)
      · exact no (by unfold isSignF; rw [beq_eq_false_iff_ne.mpr c_g, decide_eq_true c_d, decide_eq_true c_a]; rfl)
      · refine k_iconst (v := 1) F dX7_isSign_27 28 rfl (by decide) ?_
        refine k_goto F dX7_isSign_28 32 (by decide) ?_
        exact k_zret F dX7_isSign_32 (by first | rfl | exact kzb _ | exact pk_nc _ | decide) (by first | exact Nat.le_of_ble_eq_true rfl | omega) (by first | exact Nat.le_of_ble_eq_true rfl | omega) ⟨by unfold isSignF; rw [beq_iff_eq.mpr c_g, decide_eq_true c_d, decide_eq_true c_a]; rfl, rfl⟩
set_option maxHeartbeats 4000000 in
set_option maxRecDepth 100000 in
theorem zX7_takesSign {l : Launch} {g : kG} (S : kStart l g) {h : kH} {m : Nat} {ad : Nat → Nat} {sc R : Nat → Int32} {ar : Nat → Nat → Int32} {N : Nat} {s : SS} (hM : MW h m ad (scT sc s) R ar) (hn : sc 10 = nI N) (hB : BufOK (ar 9) N) (hs : SOK N s) (c : Int32) : kMet l g yX7_takesSign (Cond.code yX7_takesSign cX7_takesSign 2 (Option.none : Option Jvm.ClassFile.FieldType)) 4 0 0 [.ref m, .int c] h (mDo h m ad (scT sc (signS (ar 9) N c s)) R ar) := by
  refine kEnter S kd_X7_takesSign (Nat.le_of_ble_eq_true rfl) (fun x F hxl hxg => ?_)
  subst hxl; subst hxg
  have hlv : lv_args 0 [.ref m, .int c] = [(0, .ref m), (1, .int c)] := rfl
  rw [hlv]
  have hK : kKp (mOwn m) h h := kKp.rf
  refine k_aload_n F dX7_takesSign_0 1 rfl rfl rfl ?_
  refine k_aload_n F dX7_takesSign_1 2 rfl rfl rfl ?_
  refine k_iload_n F dX7_takesSign_2 3 rfl rfl rfl ?_
  refine k_callV F kd_X7_isSign q3528 q194 (kInvV (Bs := [_]) F kcX7 q3525 q3527 qs81 kd_X7_isSign q3528 dX7_takesSign_3 (kHs.of hM.1) rfl (by decide)) (zX7_isSign F.st hM hn hB hs _) 6 rfl (Nat.le_of_ble_eq_true rfl) (by first | exact Nat.le_of_ble_eq_true rfl | omega) (by first | exact Nat.le_of_ble_eq_true rfl | omega) (by first | exact Nat.le_of_ble_eq_true rfl | omega) (by first | exact Nat.le_of_ble_eq_true rfl | omega) (fun r1 h1 hr1 => ?_)
  obtain ⟨rfl, rfl⟩ := hr1
  refine k_iconst (v := 1) F dX7_takesSign_6 7 rfl (by decide) ?_
  refine k_callV F kd_X7_must q3512 q194 (kInvV (Bs := [_, _]) F kcX7 q3509 q3511 qs77 kd_X7_must q3512 dX7_takesSign_7 (kHs.of hM.1) rfl (by decide)) (zX7_must F.st hM hn hB hs _ 1 (by omega) (by omega)) 10 rfl (Nat.le_of_ble_eq_true rfl) (by first | exact Nat.le_of_ble_eq_true rfl | omega) (by first | exact Nat.le_of_ble_eq_true rfl | omega) (by first | exact Nat.le_of_ble_eq_true rfl | omega) (by first | exact Nat.le_of_ble_eq_true rfl | omega) (fun r2 h2 hr2 => ?_)
  obtain ⟨rfl, hM, hK9⟩ := hr2
  have hK := hK.tr hK9
  refine k_pop F dX7_takesSign_10 11 rfl rfl ?_
  refine k_aload_n F dX7_takesSign_11 12 rfl rfl rfl ?_
  refine k_callN F kd_X7_passes q3516 q194 (kInvV (Bs := []) F kcX7 q3513 q3515 qs78 kd_X7_passes q3516 dX7_takesSign_12 (kHs.of hM.1) rfl (by decide)) (zX7_passes F.st hM hn hB (mustS_ok hs (by omega))) 15 rfl (Nat.le_of_ble_eq_true rfl) (by first | exact Nat.le_of_ble_eq_true rfl | omega) (by first | exact Nat.le_of_ble_eq_true rfl | omega) (by first | exact Nat.le_of_ble_eq_true rfl | omega) (by first | exact Nat.le_of_ble_eq_true rfl | omega) (fun h3 hr3 => ?_)
  obtain ⟨hM, hK9⟩ := hr3
  have hK := hK.tr hK9
  exact k_vret F dX7_takesSign_15 (by first | exact Nat.le_of_ble_eq_true rfl | omega) (by first | exact Nat.le_of_ble_eq_true rfl | omega) ⟨hM, hK⟩
set_option maxHeartbeats 4000000 in
set_option maxRecDepth 100000 in
theorem zX7_number {l : Launch} {g : kG} (S : kStart l g) {h : kH} {m : Nat} {ad : Nat → Nat} {sc R : Nat → Int32} {ar : Nat → Nat → Int32} {N : Nat} {s : SS} (hM : MW h m ad (scT sc s) R ar) (hn : sc 10 = nI N) (hB : BufOK (ar 9) N) (hs : SOK N s) (lo hi : Int32) : kMet l g yX7_number (Cond.code yX7_number cX7_number 4 (Option.some Jvm.ClassFile.FieldType.int)) 4 0 0 [.ref m, .int lo, .int hi] h (mDv h m ad (scT sc (numS (ar 9) N lo hi s)) R ar (.int (nI s.1.2.2.2))) := by
  refine kEnter S kd_X7_number (Nat.le_of_ble_eq_true rfl) (fun x F hxl hxg => ?_)
  subst hxl; subst hxg
  have hlv : lv_args 0 [.ref m, .int lo, .int hi] = [(0, .ref m), (1, .int lo), (2, .int hi)] := rfl
  rw [hlv]
  have hK : kKp (mOwn m) h h := kKp.rf
  obtain ⟨⟨s1, s2, s3, s4, s5⟩, s6⟩ := id hs
  have fin : ∀ (s' : SS) h1, SOK N s' → s'.1 = s.1 → numS (ar 9) N lo hi s = passS (ar 9) N s' → MW h1 m ad (scT sc s') R ar → kKp (mOwn m) h h1 → kW x 0 0 h1 36 [(0, .ref m), (1, .int lo), (2, .int hi)] [] := by
    intro s' h1 h5 e1 es hM hK
    rw [es] at F
    refine k_aload_n F dX7_number_36 37 rfl rfl rfl ?_
    refine m_get F 15 (by decide) q3607 rfl dX7_number_37 40 rfl hM rfl ?_
    refine k_topi (b := nI (s'.1.2.2.2)) rfl ?_
    refine k_istore_n (lv' := [(0, _), (1, _), (2, _), (3, _)]) F dX7_number_40 41 rfl rfl (Nat.le_of_ble_eq_true rfl) rfl rfl rfl ?_
    refine k_aload_n F dX7_number_41 42 rfl rfl rfl ?_
    refine k_callN F kd_X7_passes q3516 q194 (kInvV (Bs := []) F kcX7 q3513 q3515 qs78 kd_X7_passes q3516 dX7_number_42 (kHs.of hM.1) rfl (by decide)) (zX7_passes F.st hM hn hB h5) 45 rfl (Nat.le_of_ble_eq_true rfl) (by first | exact Nat.le_of_ble_eq_true rfl | omega) (by first | exact Nat.le_of_ble_eq_true rfl | omega) (by first | exact Nat.le_of_ble_eq_true rfl | omega) (by first | exact Nat.le_of_ble_eq_true rfl | omega) (fun h1 hr1 => ?_)
    obtain ⟨hM, hK9⟩ := hr1
    have hK := hK.tr hK9
    refine k_iload_n F dX7_number_45 46 rfl rfl rfl ?_
    exact k_iret F dX7_number_46 (by first | exact Nat.le_of_ble_eq_true rfl | omega) (by first | exact Nat.le_of_ble_eq_true rfl | omega) ⟨by rw [e1], hM, hK⟩
  have go : kW x 0 0 h 15 [(0, .ref m), (1, .int lo), (2, .int hi)] [.int (nI 1), .int (kB ((decide (s.1.2.2.1 = 2)))), .ref m] := by
    refine k_callV F kd_X7_must q3512 q194 (kInvV (Bs := [_, _]) F kcX7 q3509 q3511 qs77 kd_X7_must q3512 dX7_number_15 (kHs.of hM.1) rfl (by decide)) (zX7_must F.st hM hn hB hs _ 1 (by omega) (by omega)) 18 rfl (Nat.le_of_ble_eq_true rfl) (by first | exact Nat.le_of_ble_eq_true rfl | omega) (by first | exact Nat.le_of_ble_eq_true rfl | omega) (by first | exact Nat.le_of_ble_eq_true rfl | omega) (by first | exact Nat.le_of_ble_eq_true rfl | omega) (fun r2 h2 hr2 => ?_)
    obtain ⟨rfl, hM, hK9⟩ := hr2
    have hK := hK.tr hK9
    refine k_ifeq F dX7_number_18 21 36 rfl (by decide) (fun c_a => ?_) (fun c_a => ?_)
    · rw [kB_0, decide_eq_false_iff_not] at c_a
      exact fin _ _ (mustS_ok hs (by omega)) mustS_1 (by unfold numS; dsimp only; rw [if_neg c_a]) hM hK
    · rw [kB_0, decide_eq_false_iff_not, Classical.not_not] at c_a
      refine k_aload_n F dX7_number_21 22 rfl rfl rfl ?_
      refine k_aload_n F dX7_number_22 23 rfl rfl rfl ?_
      refine m_get F 15 (by decide) q3607 rfl dX7_number_23 26 rfl hM rfl ?_
      refine k_topi (b := nI ((mustS (decide (s.1.2.2.1 = 2)) 1 s).1.2.2.2)) rfl ?_
      refine k_iload_n F dX7_number_26 27 rfl rfl rfl ?_
      refine k_iload_n F dX7_number_27 28 rfl rfl rfl ?_
      refine k_callV F kd_X7_in q3498 q194 (kInvS (Bs := [_, _, _]) F q3496 q3497 q194 kd_X7_in q3498 dX7_number_28 rfl (by decide)) (zX7_in F.st _ _ _) 31 rfl (Nat.le_of_ble_eq_true rfl) (by first | exact Nat.le_of_ble_eq_true rfl | omega) (by first | exact Nat.le_of_ble_eq_true rfl | omega) (by first | exact Nat.le_of_ble_eq_true rfl | omega) (by first | exact Nat.le_of_ble_eq_true rfl | omega) (fun r3 h3 hr3 => ?_)
      obtain ⟨rfl, rfl⟩ := hr3
      rw [mustS_1]
      refine k_iconst (v := 2) F dX7_number_31 32 rfl (by decide) ?_
      refine k_callV F kd_X7_must q3512 q194 (kInvV (Bs := [_, _]) F kcX7 q3509 q3511 qs77 kd_X7_must q3512 dX7_number_32 (kHs.of hM.1) rfl (by decide)) (zX7_must F.st hM hn hB (mustS_ok hs (by omega)) _ 2 (by omega) (by omega)) 35 rfl (Nat.le_of_ble_eq_true rfl) (by first | exact Nat.le_of_ble_eq_true rfl | omega) (by first | exact Nat.le_of_ble_eq_true rfl | omega) (by first | exact Nat.le_of_ble_eq_true rfl | omega) (by first | exact Nat.le_of_ble_eq_true rfl | omega) (fun r4 h4 hr4 => ?_)
      obtain ⟨rfl, hM, hK9⟩ := hr4
      have hK := hK.tr hK9
      refine k_pop F dX7_number_35 36 rfl rfl ?_
      exact fin _ _ (mustS_ok (mustS_ok hs (by omega)) (by omega)) (by rw [mustS_1, mustS_1]) (by unfold numS; dsimp only; rw [if_pos c_a]) hM hK
  refine k_aload_n F dX7_number_0 1 rfl rfl rfl ?_
  refine k_aload_n F dX7_number_1 2 rfl rfl rfl ?_
  refine m_get F 14 (by decide) q3606 rfl dX7_number_2 5 rfl hM rfl ?_
  refine k_topi (b := nI s.1.2.2.1) rfl ?_
  refine k_iconst (v := 2) F dX7_number_5 6 rfl (by decide) ?_
  refine k_topi (b := nI 2) (by rfl) ?_
  refine k_icmpne F dX7_number_6 9 13 rfl (by decide) (fun c_z => ?_) (fun c_z => ?_)
  · rw [nI_inj (by omega) (by omega)] at c_z
    rw [decide_eq_false c_z] at go
    refine k_iconst (v := 0) F dX7_number_13 14 rfl (by decide) ?_
    refine k_iconst (v := 1) F dX7_number_14 15 rfl (by decide) ?_
    exact go
  · rw [nI_inj (by omega) (by omega)] at c_z
    rw [decide_eq_true c_z] at go
    refine k_iconst (v := 1) F dX7_number_9 10 rfl (by decide) ?_
    refine k_goto F dX7_number_10 14 (by decide) ?_
    refine k_iconst (v := 1) F dX7_number_14 15 rfl (by decide) ?_
    exact go
set_option maxHeartbeats 4000000 in
set_option maxRecDepth 100000 in
theorem zX7_looksAtName {l : Launch} {g : kG} (S : kStart l g) {h : kH} {m : Nat} {ad : Nat → Nat} {sc R : Nat → Int32} {ar : Nat → Nat → Int32} {N : Nat} {s : SS} (hM : MW h m ad (scT sc s) R ar) (hn : sc 10 = nI N) (hB : BufOK (ar 9) N) (hs : SOK N s) : kMet l g yX7_looksAtName (Cond.code yX7_looksAtName cX7_looksAtName 1 (Option.some Jvm.ClassFile.FieldType.int)) 2 0 0 [.ref m] h (mDv h m ad (scT sc (lookS s)) R ar (.int (lookV (ar 9) s))) := by
  refine kEnter S kd_X7_looksAtName (Nat.le_of_ble_eq_true rfl) (fun x F hxl hxg => ?_)
  subst hxl; subst hxg
  have hlv : lv_args 0 [.ref m] = [(0, .ref m)] := rfl
  rw [hlv]
  have hK : kKp (mOwn m) h h := kKp.rf
  obtain ⟨⟨s1, s2, s3, s4, s5⟩, s6⟩ := id hs
  have hN : N ≤ 600 := hB.1
  have fin : ∀ (s' : SS) h1, SOK N s' → lookS s = s' → MW h1 m ad (scT sc s') R ar → kKp (mOwn m) h h1 → kW x 0 0 h1 46 [(0, .ref m)] [] := by
    intro s' h1 h5 es hM hK
    have e1 : s'.1 = s.1 := by rw [← es, lookS_1]
    have h55 := h5.2
    refine k_aload_n F dX7_looksAtName_46 47 rfl rfl rfl ?_
    refine m_get F 16 (by decide) q3608 rfl dX7_looksAtName_47 50 rfl hM rfl ?_
    refine k_topi (b := nI (s'.2.1)) rfl ?_
    refine k_ifne F dX7_looksAtName_50 53 73 rfl (by decide) (fun c_a => ?_) (fun c_a => ?_)
    · rw [nI_0E (by omega), ← es] at c_a
      refine k_iconst (v := 0) F dX7_looksAtName_73 74 rfl (by decide) ?_
      exact k_iret F dX7_looksAtName_74 (by first | exact Nat.le_of_ble_eq_true rfl | omega) (by first | exact Nat.le_of_ble_eq_true rfl | omega) ⟨by unfold lookV; rw [if_neg c_a], by rw [es]; exact hM, hK⟩
    · rw [nI_0E (by omega), ← es] at c_a
      refine k_aload_n F dX7_looksAtName_53 54 rfl rfl rfl ?_
      refine k_aload_n F dX7_looksAtName_54 55 rfl rfl rfl ?_
      refine m_get F 13 (by decide) q3605 rfl dX7_looksAtName_55 58 rfl hM rfl ?_
      refine k_topi (b := nI (s'.1.2.1)) rfl ?_
      refine k_aload_n F dX7_looksAtName_58 59 rfl rfl rfl ?_
      refine m_get F 12 (by decide) q3604 rfl dX7_looksAtName_59 62 rfl hM rfl ?_
      refine k_topi (b := nI (s'.1.1)) rfl ?_
      refine k_aload_n F dX7_looksAtName_62 63 rfl rfl rfl ?_
      refine m_get F 13 (by decide) q3605 rfl dX7_looksAtName_63 66 rfl hM rfl ?_
      refine k_topi (b := nI (s'.1.2.1)) rfl ?_
      refine k_isub F dX7_looksAtName_66 67 rfl ?_
      rw [e1]
      refine k_topi (b := nI (s.1.1 - s.1.2.1)) (pk_sub s2) ?_
      refine k_callV F kd_X7_packed q3541 q194 (kInvV (Bs := [_, _]) F kcX7 q3538 q3540 qs84 kd_X7_packed q3541 dX7_looksAtName_67 (kHs.of hM.1) rfl (by decide)) (zX7_packed F.st hM s.1.2.1 (((s.1.1 - s.1.2.1))) (by omega)) 70 rfl (Nat.le_of_ble_eq_true rfl) (by first | exact Nat.le_of_ble_eq_true rfl | omega) (by first | exact Nat.le_of_ble_eq_true rfl | omega) (by first | exact Nat.le_of_ble_eq_true rfl | omega) (by first | exact Nat.le_of_ble_eq_true rfl | omega) (fun r1 h1 hr1 => ?_)
      obtain ⟨rfl, rfl⟩ := hr1
      refine k_goto F dX7_looksAtName_70 74 (by decide) ?_
      exact k_iret F dX7_looksAtName_74 (by first | exact Nat.le_of_ble_eq_true rfl | omega) (by first | exact Nat.le_of_ble_eq_true rfl | omega) ⟨by unfold lookV; rw [if_pos c_a], by rw [es]; exact hM, hK⟩
  have go : kW x 0 0 h 15 [(0, .ref m)] [.int (nI 1), .int (kB ((decide (s.1.2.2.1 = 1)))), .ref m] := by
    refine k_callV F kd_X7_must q3512 q194 (kInvV (Bs := [_, _]) F kcX7 q3509 q3511 qs77 kd_X7_must q3512 dX7_looksAtName_15 (kHs.of hM.1) rfl (by decide)) (zX7_must F.st hM hn hB hs _ 1 (by omega) (by omega)) 18 rfl (Nat.le_of_ble_eq_true rfl) (by first | exact Nat.le_of_ble_eq_true rfl | omega) (by first | exact Nat.le_of_ble_eq_true rfl | omega) (by first | exact Nat.le_of_ble_eq_true rfl | omega) (by first | exact Nat.le_of_ble_eq_true rfl | omega) (fun r2 h2 hr2 => ?_)
    obtain ⟨rfl, hM, hK9⟩ := hr2
    have hK := hK.tr hK9
    refine k_ifeq F dX7_looksAtName_18 21 46 rfl (by decide) (fun c_a => ?_) (fun c_a => ?_)
    · rw [kB_0, decide_eq_false_iff_not] at c_a
      exact fin _ _ (mustS_ok hs (by omega)) (by unfold lookS; dsimp only; rw [if_neg c_a]) hM hK
    · rw [kB_0, decide_eq_false_iff_not, Classical.not_not] at c_a
      refine k_aload_n F dX7_looksAtName_21 22 rfl rfl rfl ?_
      refine k_aload_n F dX7_looksAtName_22 23 rfl rfl rfl ?_
      refine m_get F 12 (by decide) q3604 rfl dX7_looksAtName_23 26 rfl hM rfl ?_
      refine k_topi (b := nI ((mustS (decide (s.1.2.2.1 = 1)) 1 s).1.1)) rfl ?_
      refine k_aload_n F dX7_looksAtName_26 27 rfl rfl rfl ?_
      refine m_get F 13 (by decide) q3605 rfl dX7_looksAtName_27 30 rfl hM rfl ?_
      refine k_topi (b := nI ((mustS (decide (s.1.2.2.1 = 1)) 1 s).1.2.1)) rfl ?_
      refine k_isub F dX7_looksAtName_30 31 rfl ?_
      rw [mustS_1]
      refine k_topi (b := nI (s.1.1 - s.1.2.1)) (pk_sub s2) ?_
      have go2 : kW x 0 0 h2 42 [(0, .ref m)] [.int (nI 2), .int (kB ((decide (s.1.1 - s.1.2.1 ≤ 6)))), .ref m] := by
        refine k_callV F kd_X7_must q3512 q194 (kInvV (Bs := [_, _]) F kcX7 q3509 q3511 qs77 kd_X7_must q3512 dX7_looksAtName_42 (kHs.of hM.1) rfl (by decide)) (zX7_must F.st hM hn hB (mustS_ok hs (by omega)) _ 2 (by omega) (by omega)) 45 rfl (Nat.le_of_ble_eq_true rfl) (by first | exact Nat.le_of_ble_eq_true rfl | omega) (by first | exact Nat.le_of_ble_eq_true rfl | omega) (by first | exact Nat.le_of_ble_eq_true rfl | omega) (by first | exact Nat.le_of_ble_eq_true rfl | omega) (fun r3 h3 hr3 => ?_)
        obtain ⟨rfl, hM, hK9⟩ := hr3
        have hK := hK.tr hK9
        refine k_pop F dX7_looksAtName_45 46 rfl rfl ?_
        exact fin _ _ (mustS_ok (mustS_ok hs (by omega)) (by omega)) (by unfold lookS; dsimp only; rw [if_pos c_a]) hM hK
      refine k_bipush (v := 6) F dX7_looksAtName_31 33 rfl (by decide) ?_
      refine k_topi (b := nI 6) (by rfl) ?_
      refine k_icmpgt F dX7_looksAtName_33 36 40 rfl (by decide) (fun c_z => ?_) (fun c_z => ?_)
      · rw [nI_ltE (by omega) (by omega)] at c_z
        rw [decide_eq_false (by omega)] at go2
        refine k_iconst (v := 0) F dX7_looksAtName_40 41 rfl (by decide) ?_
        refine k_iconst (v := 2) F dX7_looksAtName_41 42 rfl (by decide) ?_
        exact go2
      · rw [nI_ltE (by omega) (by omega)] at c_z
        rw [decide_eq_true (by omega)] at go2
        refine k_iconst (v := 1) F dX7_looksAtName_36 37 rfl (by decide) ?_
        refine k_goto F dX7_looksAtName_37 41 (by decide) ?_
        refine k_iconst (v := 2) F dX7_looksAtName_41 42 rfl (by decide) ?_
        exact go2
  refine k_aload_n F dX7_looksAtName_0 1 rfl rfl rfl ?_
  refine k_aload_n F dX7_looksAtName_1 2 rfl rfl rfl ?_
  refine m_get F 14 (by decide) q3606 rfl dX7_looksAtName_2 5 rfl hM rfl ?_
  refine k_topi (b := nI s.1.2.2.1) rfl ?_
  refine k_iconst (v := 1) F dX7_looksAtName_5 6 rfl (by decide) ?_
  refine k_topi (b := nI 1) (by rfl) ?_
  refine k_icmpne F dX7_looksAtName_6 9 13 rfl (by decide) (fun c_z => ?_) (fun c_z => ?_)
  · rw [nI_inj (by omega) (by omega)] at c_z
    rw [decide_eq_false c_z] at go
    refine k_iconst (v := 0) F dX7_looksAtName_13 14 rfl (by decide) ?_
    refine k_iconst (v := 1) F dX7_looksAtName_14 15 rfl (by decide) ?_
    exact go
  · rw [nI_inj (by omega) (by omega)] at c_z
    rw [decide_eq_true c_z] at go
    refine k_iconst (v := 1) F dX7_looksAtName_9 10 rfl (by decide) ?_
    refine k_goto F dX7_looksAtName_10 14 (by decide) ?_
    refine k_iconst (v := 1) F dX7_looksAtName_14 15 rfl (by decide) ?_
    exact go
set_option maxHeartbeats 4000000 in
set_option maxRecDepth 100000 in
theorem zX7_takesName {l : Launch} {g : kG} (S : kStart l g) {h : kH} {m : Nat} {ad : Nat → Nat} {sc R : Nat → Int32} {ar : Nat → Nat → Int32} {N : Nat} {s : SS} (hM : MW h m ad (scT sc s) R ar) (hn : sc 10 = nI N) (hB : BufOK (ar 9) N) (hs : SOK N s) : kMet l g yX7_takesName (Cond.code yX7_takesName cX7_takesName 2 (Option.some Jvm.ClassFile.FieldType.int)) 4 0 0 [.ref m] h (mDv h m ad (scT sc (passS (ar 9) N (lookS s))) R ar (.int (lookV (ar 9) s))) := by
  refine kEnter S kd_X7_takesName (Nat.le_of_ble_eq_true rfl) (fun x F hxl hxg => ?_)
  subst hxl; subst hxg
  have hlv : lv_args 0 [.ref m] = [(0, .ref m)] := rfl
  rw [hlv]
  have hK : kKp (mOwn m) h h := kKp.rf
  refine k_aload_n F dX7_takesName_0 1 rfl rfl rfl ?_
  refine k_callV F kd_X7_looksAtName q3537 q194 (kInvV (Bs := []) F kcX7 q3534 q3536 qs83 kd_X7_looksAtName q3537 dX7_takesName_1 (kHs.of hM.1) rfl (by decide)) (zX7_looksAtName F.st hM hn hB hs) 4 rfl (Nat.le_of_ble_eq_true rfl) (by first | exact Nat.le_of_ble_eq_true rfl | omega) (by first | exact Nat.le_of_ble_eq_true rfl | omega) (by first | exact Nat.le_of_ble_eq_true rfl | omega) (by first | exact Nat.le_of_ble_eq_true rfl | omega) (fun r1 h1 hr1 => ?_)
  obtain ⟨rfl, hM, hK9⟩ := hr1
  have hK := hK.tr hK9
  refine k_istore_n (lv' := [(0, _), (1, _)]) F dX7_takesName_4 5 rfl rfl (Nat.le_of_ble_eq_true rfl) rfl rfl rfl ?_
  refine k_aload_n F dX7_takesName_5 6 rfl rfl rfl ?_
  refine k_callN F kd_X7_passes q3516 q194 (kInvV (Bs := []) F kcX7 q3513 q3515 qs78 kd_X7_passes q3516 dX7_takesName_6 (kHs.of hM.1) rfl (by decide)) (zX7_passes F.st hM hn hB (lookS_ok hs)) 9 rfl (Nat.le_of_ble_eq_true rfl) (by first | exact Nat.le_of_ble_eq_true rfl | omega) (by first | exact Nat.le_of_ble_eq_true rfl | omega) (by first | exact Nat.le_of_ble_eq_true rfl | omega) (by first | exact Nat.le_of_ble_eq_true rfl | omega) (fun h2 hr2 => ?_)
  obtain ⟨hM, hK9⟩ := hr2
  have hK := hK.tr hK9
  refine k_iload_n F dX7_takesName_9 10 rfl rfl rfl ?_
  exact k_iret F dX7_takesName_10 (by first | exact Nat.le_of_ble_eq_true rfl | omega) (by first | exact Nat.le_of_ble_eq_true rfl | omega) ⟨rfl, hM, hK⟩

