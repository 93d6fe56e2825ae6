/-! the reference: scripts, done -/
section
seal ordersS mustS passS lookS numS goF pkTo namedF joinF isKeyF isSignF lookV memTo armS clashS memS phaseS phS1 phS2 phS3 phR

theorem kd_X7_does : kCd (Cond.code yX7_does cX7_does 4 (Option.some Jvm.ClassFile.FieldType.boolean)) yX7_does cX7_does 4 (Option.some Jvm.ClassFile.FieldType.boolean) [] := kCd_code (by decide +kernel)
theorem kd_X7_doesAll : kCd (Cond.code yX7_doesAll cX7_doesAll 5 (Option.some Jvm.ClassFile.FieldType.boolean)) yX7_doesAll cX7_doesAll 5 (Option.some Jvm.ClassFile.FieldType.boolean) [] := kCd_code (by decide +kernel)
theorem kd_X7_play : kCd (Cond.code yX7_play cX7_play 2 (Option.some Jvm.ClassFile.FieldType.int)) yX7_play cX7_play 2 (Option.some Jvm.ClassFile.FieldType.int) [] := kCd_code (by decide +kernel)
set_option maxHeartbeats 4000000 in
set_option maxRecDepth 100000 in
theorem zX7_does {l : Launch} {g : kG} (S : kStart l g) {h : kH} {m : Nat} {ad : Nat → Nat} {sc R : Nat → Int32} {ar : Nat → Nat → Int32} (hM : MW h m ad sc R ar) (u : Nat) (hu : sc 6 = nI u) (hu8 : u ≤ 8) (hR : RT R) (hs23 : sc 23 = 1) (i kd : Nat) (hi : i < 30) (h17 : ar 17 i = nI kd) (hk : kd ≤ 8) (h19 : kd ≠ 3 → kd ≠ 4 → ∃ n, ar 19 i = nI n ∧ n ≤ 99) : kMet l g yX7_does (Cond.code yX7_does cX7_does 4 (Option.some Jvm.ClassFile.FieldType.boolean)) 10 0 0 [.ref m, .int (nI i)] h (mDv h m ad (dS sc (doF R ar i)) (dR R (doF R ar i)) ar (.int (kB (dB (doF R ar i))))) := by
  refine kEnter S kd_X7_does (Nat.le_of_ble_eq_true rfl) (fun x F hxl hxg => ?_)
  subst hxl; subst hxg
  have hlv : lv_args 0 [.ref m, .int (nI i)] = [(0, .ref m), (1, .int (nI i))] := rfl
  rw [hlv]
  have hK : kKp (mOwn m) h h := kKp.rf
  have hRV := hR.1
  obtain ⟨r1, r2, r3, r4, r5, r6, r7, r8⟩ := id hR.1
  have hA : ∀ q, namedF R (ar 18 i) = some q → q < 100 := fun q e => by have := namedF_lt e; omega
  have ha8 : ∀ q, namedF R (ar 18 i) = some q → q < 8 := fun q e => by have := namedF_lt e; omega
  rcases (show kd = 0 ∨ kd = 1 ∨ kd = 2 ∨ kd = 3 ∨ kd = 4 ∨ kd = 5 ∨ kd = 6 ∨ kd = 7 ∨ kd = 8 by omega) with rfl | rfl | rfl | rfl | rfl | rfl | rfl | rfl | rfl
  · obtain ⟨n, h19, hn9⟩ := h19 (by omega) (by omega)
    have hd0 := doF_k (R := R) (k := i) h17 (by omega) h19 hn9
    have hip : inF (nI n) 0 (R 4 - 1) = decide (n < rP R) := by
      rw [r3]
      by_cases c : n < rP R
      · rw [decide_eq_true c]
        exact (inIx (by omega)).mpr ⟨n, c, rfl⟩
      · rw [decide_eq_false c, ← Bool.not_eq_true]
        intro z
        obtain ⟨k, k1, k2⟩ := (inIx (by omega)).mp z
        rw [nI_inj (by omega) (by omega)] at k2
        omega
    refine k_aload_n F dX7_does_0 1 rfl rfl rfl ?_
    refine m_get F 19 (by decide) q3611 rfl dX7_does_1 4 rfl hM rfl ?_
    refine k_iload_n F dX7_does_4 5 rfl rfl rfl ?_
    refine m_iald F _ (by rfl) dX7_does_5 6 rfl hM (i) (by first | (with_reducible rfl) | (simp only [nI_lit, pk_mul, nI_add])) (by first | decide | omega | (simp only [mSz]; omega)) ?_
    rw [h19]
    refine k_istore_n (lv' := [(0, _), (1, _), (2, _)]) F dX7_does_6 7 rfl rfl (Nat.le_of_ble_eq_true rfl) rfl rfl rfl ?_
    refine k_aload_n F dX7_does_7 8 rfl rfl rfl ?_
    refine k_aload_n F dX7_does_8 9 rfl rfl rfl ?_
    refine m_get F 18 (by decide) q3610 rfl dX7_does_9 12 rfl hM rfl ?_
    refine k_iload_n F dX7_does_12 13 rfl rfl rfl ?_
    refine m_iald F _ (by rfl) dX7_does_13 14 rfl hM (i) (by first | (with_reducible rfl) | (simp only [nI_lit, pk_mul, nI_add])) (by first | decide | omega | (simp only [mSz]; omega)) ?_
    refine k_callV F kd_X7_named q3545 q194 (kInvV (Bs := [_]) F kcX7 q3542 q3544 qs85 kd_X7_named q3545 dX7_does_14 (kHs.of hM.1) rfl (by decide)) (zX7_named F.st hM hRV _) 17 rfl (Nat.le_of_ble_eq_true rfl) (by first | exact Nat.le_of_ble_eq_true rfl | omega) (by first | exact Nat.le_of_ble_eq_true rfl | omega) (by first | exact Nat.le_of_ble_eq_true rfl | omega) (by first | exact Nat.le_of_ble_eq_true rfl | omega) (fun r1 h1 hr1 => ?_)
    obtain ⟨rfl, rfl⟩ := hr1
    generalize namedF R (ar 18 i) = a at hA hd0 ha8
    refine k_istore_n (lv' := [(0, _), (1, _), (2, _), (3, _)]) F dX7_does_17 18 rfl rfl (Nat.le_of_ble_eq_true rfl) rfl rfl rfl ?_
    refine k_aload_n F dX7_does_18 19 rfl rfl rfl ?_
    refine m_get F 17 (by decide) q3609 rfl dX7_does_19 22 rfl hM rfl ?_
    refine k_iload_n F dX7_does_22 23 rfl rfl rfl ?_
    refine m_iald F _ (by rfl) dX7_does_23 24 rfl hM (i) (by first | (with_reducible rfl) | (simp only [nI_lit, pk_mul, nI_add])) (by first | decide | omega | (simp only [mSz]; omega)) ?_
    rw [h17]
    refine k_tableIn F dX7_does_24 72 (by decide) (by decide) (by rfl) (by decide) ?_
    cases a with
    | none =>
      rw [show doF R ar i = none from hd0] at F
      refine k_iload_n F dX7_does_72 73 rfl rfl rfl ?_
      refine k_iconst (v := (-1)) F dX7_does_73 74 rfl (by decide) ?_
      refine k_icmpeq F dX7_does_74 77 90 rfl (by decide) (fun _ => ?_) (fun c_ => (by first | exact absurd rfl c_ | exact absurd c_ (by decide) | exact absurd (by assumption) c_ | exact absurd c_ (by assumption)))
      refine k_iconst (v := 0) F dX7_does_90 91 rfl (by decide) ?_
      exact k_zret F dX7_does_91 (by first | rfl | exact kzb _ | exact pk_nc _ | decide) (by first | exact Nat.le_of_ble_eq_true rfl | omega) (by first | exact Nat.le_of_ble_eq_true rfl | omega) ⟨rfl, hM, hK⟩
    | some a =>
      have ha9 := ha8 a rfl
      rw [show doF R ar i = some (comingF R a n) from hd0] at F
      refine k_iload_n F dX7_does_72 73 rfl rfl rfl ?_
      refine k_iconst (v := (-1)) F dX7_does_73 74 rfl (by decide) ?_
      refine k_icmpeq F dX7_does_74 77 90 rfl (by decide) (fun c_ => (absurd (show nI a = -1 from c_) (nI_m1 (by omega)))) (fun _ => ?_)
      refine k_aload_n F dX7_does_77 78 rfl rfl rfl ?_
      refine k_iload_n F dX7_does_78 79 rfl rfl rfl ?_
      refine k_iload_n F dX7_does_79 80 rfl rfl rfl ?_
      refine k_callV F kd_X7_coming q3745 q194 (kInvV (Bs := [_, _]) F kcX7 q3742 q3744 qs107 kd_X7_coming q3745 dX7_does_80 (kHs.of hM.1) rfl (by decide)) (zX7_coming F.st hM u hu hu8 hR a n (by omega) (by omega)) 83 rfl (Nat.le_of_ble_eq_true rfl) (by first | exact Nat.le_of_ble_eq_true rfl | omega) (by first | exact Nat.le_of_ble_eq_true rfl | omega) (by first | exact Nat.le_of_ble_eq_true rfl | omega) (by first | exact Nat.le_of_ble_eq_true rfl | omega) (fun r2 h2 hr2 => ?_)
      obtain ⟨rfl, hM, hK9⟩ := hr2
      have hK := hK.tr hK9
      replace hM : MW h2 m ad (dS sc (some (comingF R a n))) (aR R (comingF R a n)) ar := by rw [← aS_23 (u := u) hs23]; rw [aA_23 (sc := sc) (R := R) (u := u) (o := comingF R a n) hs23] at hM; exact hM
      refine k_iflt F dX7_does_83 86 90 rfl (by decide) (fun c_z => ?_) (fun c_z => ?_)
      · rw [show dB (some (comingF R a n)) = false from decide_eq_false (Int32.not_le.mpr c_z)] at F
        refine k_iconst (v := 0) F dX7_does_90 91 rfl (by decide) ?_
        exact k_zret F dX7_does_91 (by first | rfl | exact kzb _ | exact pk_nc _ | decide) (by first | exact Nat.le_of_ble_eq_true rfl | omega) (by first | exact Nat.le_of_ble_eq_true rfl | omega) ⟨rfl, hM, hK⟩
      · rw [show dB (some (comingF R a n)) = true from decide_eq_true (Int32.not_lt.mp c_z)] at F
        refine k_iconst (v := 1) F dX7_does_86 87 rfl (by decide) ?_
        refine k_goto F dX7_does_87 91 (by decide) ?_
        exact k_zret F dX7_does_91 (by first | rfl | exact kzb _ | exact pk_nc _ | decide) (by first | exact Nat.le_of_ble_eq_true rfl | omega) (by first | exact Nat.le_of_ble_eq_true rfl | omega) ⟨rfl, hM, hK⟩
  · obtain ⟨n, h19, hn9⟩ := h19 (by omega) (by omega)
    have hd0 := doF_k (R := R) (k := i) h17 (by omega) h19 hn9
    have hip : inF (nI n) 0 (R 4 - 1) = decide (n < rP R) := by
      rw [r3]
      by_cases c : n < rP R
      · rw [decide_eq_true c]
        exact (inIx (by omega)).mpr ⟨n, c, rfl⟩
      · rw [decide_eq_false c, ← Bool.not_eq_true]
        intro z
        obtain ⟨k, k1, k2⟩ := (inIx (by omega)).mp z
        rw [nI_inj (by omega) (by omega)] at k2
        omega
    refine k_aload_n F dX7_does_0 1 rfl rfl rfl ?_
    refine m_get F 19 (by decide) q3611 rfl dX7_does_1 4 rfl hM rfl ?_
    refine k_iload_n F dX7_does_4 5 rfl rfl rfl ?_
    refine m_iald F _ (by rfl) dX7_does_5 6 rfl hM (i) (by first | (with_reducible rfl) | (simp only [nI_lit, pk_mul, nI_add])) (by first | decide | omega | (simp only [mSz]; omega)) ?_
    rw [h19]
    refine k_istore_n (lv' := [(0, _), (1, _), (2, _)]) F dX7_does_6 7 rfl rfl (Nat.le_of_ble_eq_true rfl) rfl rfl rfl ?_
    refine k_aload_n F dX7_does_7 8 rfl rfl rfl ?_
    refine k_aload_n F dX7_does_8 9 rfl rfl rfl ?_
    refine m_get F 18 (by decide) q3610 rfl dX7_does_9 12 rfl hM rfl ?_
    refine k_iload_n F dX7_does_12 13 rfl rfl rfl ?_
    refine m_iald F _ (by rfl) dX7_does_13 14 rfl hM (i) (by first | (with_reducible rfl) | (simp only [nI_lit, pk_mul, nI_add])) (by first | decide | omega | (simp only [mSz]; omega)) ?_
    refine k_callV F kd_X7_named q3545 q194 (kInvV (Bs := [_]) F kcX7 q3542 q3544 qs85 kd_X7_named q3545 dX7_does_14 (kHs.of hM.1) rfl (by decide)) (zX7_named F.st hM hRV _) 17 rfl (Nat.le_of_ble_eq_true rfl) (by first | exact Nat.le_of_ble_eq_true rfl | omega) (by first | exact Nat.le_of_ble_eq_true rfl | omega) (by first | exact Nat.le_of_ble_eq_true rfl | omega) (by first | exact Nat.le_of_ble_eq_true rfl | omega) (fun r3 h3 hr3 => ?_)
    obtain ⟨rfl, rfl⟩ := hr3
    generalize namedF R (ar 18 i) = a at hA hd0 ha8
    refine k_istore_n (lv' := [(0, _), (1, _), (2, _), (3, _)]) F dX7_does_17 18 rfl rfl (Nat.le_of_ble_eq_true rfl) rfl rfl rfl ?_
    refine k_aload_n F dX7_does_18 19 rfl rfl rfl ?_
    refine m_get F 17 (by decide) q3609 rfl dX7_does_19 22 rfl hM rfl ?_
    refine k_iload_n F dX7_does_22 23 rfl rfl rfl ?_
    refine m_iald F _ (by rfl) dX7_does_23 24 rfl hM (i) (by first | (with_reducible rfl) | (simp only [nI_lit, pk_mul, nI_add])) (by first | decide | omega | (simp only [mSz]; omega)) ?_
    rw [h17]
    refine k_tableIn F dX7_does_24 92 (by decide) (by decide) (by rfl) (by decide) ?_
    rw [show doF R ar i = some (passF R n) from hd0] at F
    refine k_aload_n F dX7_does_92 93 rfl rfl rfl ?_
    refine k_iload_n F dX7_does_93 94 rfl rfl rfl ?_
    refine k_callV F kd_X7_passing q3761 q194 (kInvV (Bs := [_]) F kcX7 q3758 q3760 qs111 kd_X7_passing q3761 dX7_does_94 (kHs.of hM.1) rfl (by decide)) (zX7_passing F.st hM u hu hu8 hR n (by omega)) 97 rfl (Nat.le_of_ble_eq_true rfl) (by first | exact Nat.le_of_ble_eq_true rfl | omega) (by first | exact Nat.le_of_ble_eq_true rfl | omega) (by first | exact Nat.le_of_ble_eq_true rfl | omega) (by first | exact Nat.le_of_ble_eq_true rfl | omega) (fun r4 h4 hr4 => ?_)
    obtain ⟨rfl, hM, hK9⟩ := hr4
    have hK := hK.tr hK9
    replace hM : MW h4 m ad (dS sc (some (passF R n))) (aR R (passF R n)) ar := by rw [← aS_23 (u := u) hs23]; rw [aA_23 (sc := sc) (R := R) (u := u) (o := passF R n) hs23] at hM; exact hM
    refine k_iflt F dX7_does_97 100 104 rfl (by decide) (fun c_z => ?_) (fun c_z => ?_)
    · rw [show dB (some (passF R n)) = false from decide_eq_false (Int32.not_le.mpr c_z)] at F
      refine k_iconst (v := 0) F dX7_does_104 105 rfl (by decide) ?_
      exact k_zret F dX7_does_105 (by first | rfl | exact kzb _ | exact pk_nc _ | decide) (by first | exact Nat.le_of_ble_eq_true rfl | omega) (by first | exact Nat.le_of_ble_eq_true rfl | omega) ⟨rfl, hM, hK⟩
    · rw [show dB (some (passF R n)) = true from decide_eq_true (Int32.not_lt.mp c_z)] at F
      refine k_iconst (v := 1) F dX7_does_100 101 rfl (by decide) ?_
      refine k_goto F dX7_does_101 105 (by decide) ?_
      exact k_zret F dX7_does_105 (by first | rfl | exact kzb _ | exact pk_nc _ | decide) (by first | exact Nat.le_of_ble_eq_true rfl | omega) (by first | exact Nat.le_of_ble_eq_true rfl | omega) ⟨rfl, hM, hK⟩
  · obtain ⟨n, h19, hn9⟩ := h19 (by omega) (by omega)
    have hd0 := doF_k (R := R) (k := i) h17 (by omega) h19 hn9
    have hip : inF (nI n) 0 (R 4 - 1) = decide (n < rP R) := by
      rw [r3]
      by_cases c : n < rP R
      · rw [decide_eq_true c]
        exact (inIx (by omega)).mpr ⟨n, c, rfl⟩
      · rw [decide_eq_false c, ← Bool.not_eq_true]
        intro z
        obtain ⟨k, k1, k2⟩ := (inIx (by omega)).mp z
        rw [nI_inj (by omega) (by omega)] at k2
        omega
    refine k_aload_n F dX7_does_0 1 rfl rfl rfl ?_
    refine m_get F 19 (by decide) q3611 rfl dX7_does_1 4 rfl hM rfl ?_
    refine k_iload_n F dX7_does_4 5 rfl rfl rfl ?_
    refine m_iald F _ (by rfl) dX7_does_5 6 rfl hM (i) (by first | (with_reducible rfl) | (simp only [nI_lit, pk_mul, nI_add])) (by first | decide | omega | (simp only [mSz]; omega)) ?_
    rw [h19]
    refine k_istore_n (lv' := [(0, _), (1, _), (2, _)]) F dX7_does_6 7 rfl rfl (Nat.le_of_ble_eq_true rfl) rfl rfl rfl ?_
    refine k_aload_n F dX7_does_7 8 rfl rfl rfl ?_
    refine k_aload_n F dX7_does_8 9 rfl rfl rfl ?_
    refine m_get F 18 (by decide) q3610 rfl dX7_does_9 12 rfl hM rfl ?_
    refine k_iload_n F dX7_does_12 13 rfl rfl rfl ?_
    refine m_iald F _ (by rfl) dX7_does_13 14 rfl hM (i) (by first | (with_reducible rfl) | (simp only [nI_lit, pk_mul, nI_add])) (by first | decide | omega | (simp only [mSz]; omega)) ?_
    refine k_callV F kd_X7_named q3545 q194 (kInvV (Bs := [_]) F kcX7 q3542 q3544 qs85 kd_X7_named q3545 dX7_does_14 (kHs.of hM.1) rfl (by decide)) (zX7_named F.st hM hRV _) 17 rfl (Nat.le_of_ble_eq_true rfl) (by first | exact Nat.le_of_ble_eq_true rfl | omega) (by first | exact Nat.le_of_ble_eq_true rfl | omega) (by first | exact Nat.le_of_ble_eq_true rfl | omega) (by first | exact Nat.le_of_ble_eq_true rfl | omega) (fun r5 h5 hr5 => ?_)
    obtain ⟨rfl, rfl⟩ := hr5
    generalize namedF R (ar 18 i) = a at hA hd0 ha8
    refine k_istore_n (lv' := [(0, _), (1, _), (2, _), (3, _)]) F dX7_does_17 18 rfl rfl (Nat.le_of_ble_eq_true rfl) rfl rfl rfl ?_
    refine k_aload_n F dX7_does_18 19 rfl rfl rfl ?_
    refine m_get F 17 (by decide) q3609 rfl dX7_does_19 22 rfl hM rfl ?_
    refine k_iload_n F dX7_does_22 23 rfl rfl rfl ?_
    refine m_iald F _ (by rfl) dX7_does_23 24 rfl hM (i) (by first | (with_reducible rfl) | (simp only [nI_lit, pk_mul, nI_add])) (by first | decide | omega | (simp only [mSz]; omega)) ?_
    rw [h17]
    refine k_tableIn F dX7_does_24 106 (by decide) (by decide) (by rfl) (by decide) ?_
    have hd1 : doF R ar i = if n < rP R then some (callF R n) else none := hd0
    refine k_aload_n F dX7_does_106 107 rfl rfl rfl ?_
    refine k_iload_n F dX7_does_107 108 rfl rfl rfl ?_
    refine k_callV F kd_X7_isPhase q3826 q194 (kInvV (Bs := [_]) F kcX7 q3823 q3825 qs127 kd_X7_isPhase q3826 dX7_does_108 (kHs.of hM.1) rfl (by decide)) (zX7_isPhase F.st hM _) 111 rfl (Nat.le_of_ble_eq_true rfl) (by first | exact Nat.le_of_ble_eq_true rfl | omega) (by first | exact Nat.le_of_ble_eq_true rfl | omega) (by first | exact Nat.le_of_ble_eq_true rfl | omega) (by first | exact Nat.le_of_ble_eq_true rfl | omega) (fun r6 h6 hr6 => ?_)
    obtain ⟨rfl, rfl⟩ := hr6
    rw [hip]
    refine k_ifeq F dX7_does_111 114 126 rfl (by decide) (fun c_p => ?_) (fun c_p => ?_)
    · rw [kB_0, decide_eq_false_iff_not] at c_p
      rw [hd1, if_neg c_p] at F
      refine k_iconst (v := 0) F dX7_does_126 127 rfl (by decide) ?_
      exact k_zret F dX7_does_127 (by first | rfl | exact kzb _ | exact pk_nc _ | decide) (by first | exact Nat.le_of_ble_eq_true rfl | omega) (by first | exact Nat.le_of_ble_eq_true rfl | omega) ⟨rfl, hM, hK⟩
    · rw [kB_0, decide_eq_false_iff_not, Classical.not_not] at c_p
      rw [hd1, if_pos c_p] at F
      refine k_aload_n F dX7_does_114 115 rfl rfl rfl ?_
      refine k_iload_n F dX7_does_115 116 rfl rfl rfl ?_
      refine k_callV F kd_X7_calling q3830 q194 (kInvV (Bs := [_]) F kcX7 q3827 q3829 qs128 kd_X7_calling q3830 dX7_does_116 (kHs.of hM.1) rfl (by decide)) (zX7_calling F.st hM u hu hu8 hRV n (by omega)) 119 rfl (Nat.le_of_ble_eq_true rfl) (by first | exact Nat.le_of_ble_eq_true rfl | omega) (by first | exact Nat.le_of_ble_eq_true rfl | omega) (by first | exact Nat.le_of_ble_eq_true rfl | omega) (by first | exact Nat.le_of_ble_eq_true rfl | omega) (fun r7 h7 hr7 => ?_)
      obtain ⟨rfl, hM, hK9⟩ := hr7
      have hK := hK.tr hK9
      replace hM : MW h7 m ad (dS sc (some (callF R n))) (aR R (callF R n)) ar := by rw [← aS_23 (u := u) hs23]; rw [aA_23 (sc := sc) (R := R) (u := u) (o := callF R n) hs23] at hM; exact hM
      refine k_iflt F dX7_does_119 122 126 rfl (by decide) (fun c_z => ?_) (fun c_z => ?_)
      · rw [show dB (some (callF R n)) = false from decide_eq_false (Int32.not_le.mpr c_z)] at F
        refine k_iconst (v := 0) F dX7_does_126 127 rfl (by decide) ?_
        exact k_zret F dX7_does_127 (by first | rfl | exact kzb _ | exact pk_nc _ | decide) (by first | exact Nat.le_of_ble_eq_true rfl | omega) (by first | exact Nat.le_of_ble_eq_true rfl | omega) ⟨rfl, hM, hK⟩
      · rw [show dB (some (callF R n)) = true from decide_eq_true (Int32.not_lt.mp c_z)] at F
        refine k_iconst (v := 1) F dX7_does_122 123 rfl (by decide) ?_
        refine k_goto F dX7_does_123 127 (by decide) ?_
        exact k_zret F dX7_does_127 (by first | rfl | exact kzb _ | exact pk_nc _ | decide) (by first | exact Nat.le_of_ble_eq_true rfl | omega) (by first | exact Nat.le_of_ble_eq_true rfl | omega) ⟨rfl, hM, hK⟩
  · have hd0 := doF_b (R := R) h17 (by omega)
    refine k_aload_n F dX7_does_0 1 rfl rfl rfl ?_
    refine m_get F 19 (by decide) q3611 rfl dX7_does_1 4 rfl hM rfl ?_
    refine k_iload_n F dX7_does_4 5 rfl rfl rfl ?_
    refine m_iald F _ (by rfl) dX7_does_5 6 rfl hM (i) (by first | (with_reducible rfl) | (simp only [nI_lit, pk_mul, nI_add])) (by first | decide | omega | (simp only [mSz]; omega)) ?_
    refine k_istore_n (lv' := [(0, _), (1, _), (2, _)]) F dX7_does_6 7 rfl rfl (Nat.le_of_ble_eq_true rfl) rfl rfl rfl ?_
    refine k_aload_n F dX7_does_7 8 rfl rfl rfl ?_
    refine k_aload_n F dX7_does_8 9 rfl rfl rfl ?_
    refine m_get F 18 (by decide) q3610 rfl dX7_does_9 12 rfl hM rfl ?_
    refine k_iload_n F dX7_does_12 13 rfl rfl rfl ?_
    refine m_iald F _ (by rfl) dX7_does_13 14 rfl hM (i) (by first | (with_reducible rfl) | (simp only [nI_lit, pk_mul, nI_add])) (by first | decide | omega | (simp only [mSz]; omega)) ?_
    refine k_callV F kd_X7_named q3545 q194 (kInvV (Bs := [_]) F kcX7 q3542 q3544 qs85 kd_X7_named q3545 dX7_does_14 (kHs.of hM.1) rfl (by decide)) (zX7_named F.st hM hRV _) 17 rfl (Nat.le_of_ble_eq_true rfl) (by first | exact Nat.le_of_ble_eq_true rfl | omega) (by first | exact Nat.le_of_ble_eq_true rfl | omega) (by first | exact Nat.le_of_ble_eq_true rfl | omega) (by first | exact Nat.le_of_ble_eq_true rfl | omega) (fun r8 h8 hr8 => ?_)
    obtain ⟨rfl, rfl⟩ := hr8
    generalize namedF R (ar 18 i) = a at hA hd0 ha8
    refine k_istore_n (lv' := [(0, _), (1, _), (2, _), (3, _)]) F dX7_does_17 18 rfl rfl (Nat.le_of_ble_eq_true rfl) rfl rfl rfl ?_
    refine k_aload_n F dX7_does_18 19 rfl rfl rfl ?_
    refine m_get F 17 (by decide) q3609 rfl dX7_does_19 22 rfl hM rfl ?_
    refine k_iload_n F dX7_does_22 23 rfl rfl rfl ?_
    refine m_iald F _ (by rfl) dX7_does_23 24 rfl hM (i) (by first | (with_reducible rfl) | (simp only [nI_lit, pk_mul, nI_add])) (by first | decide | omega | (simp only [mSz]; omega)) ?_
    rw [h17]
    refine k_tableIn F dX7_does_24 128 (by decide) (by decide) (by rfl) (by decide) ?_
    cases a with
    | none =>
      rw [show doF R ar i = none from hd0] at F
      refine k_iload_n F dX7_does_128 129 rfl rfl rfl ?_
      refine k_iconst (v := (-1)) F dX7_does_129 130 rfl (by decide) ?_
      refine k_icmpeq F dX7_does_130 133 146 rfl (by decide) (fun _ => ?_) (fun c_ => (by first | exact absurd rfl c_ | exact absurd c_ (by decide) | exact absurd (by assumption) c_ | exact absurd c_ (by assumption)))
      refine k_iconst (v := 0) F dX7_does_146 147 rfl (by decide) ?_
      exact k_zret F dX7_does_147 (by first | rfl | exact kzb _ | exact pk_nc _ | decide) (by first | exact Nat.le_of_ble_eq_true rfl | omega) (by first | exact Nat.le_of_ble_eq_true rfl | omega) ⟨rfl, hM, hK⟩
    | some a =>
      have ha9 := ha8 a rfl
      rw [show doF R ar i = some (brkF R a 1) from hd0] at F
      refine k_iload_n F dX7_does_128 129 rfl rfl rfl ?_
      refine k_iconst (v := (-1)) F dX7_does_129 130 rfl (by decide) ?_
      refine k_icmpeq F dX7_does_130 133 146 rfl (by decide) (fun c_ => (absurd (show nI a = -1 from c_) (nI_m1 (by omega)))) (fun _ => ?_)
      refine k_aload_n F dX7_does_133 134 rfl rfl rfl ?_
      refine k_iload_n F dX7_does_134 135 rfl rfl rfl ?_
      refine k_iconst (v := 1) F dX7_does_135 136 rfl (by decide) ?_
      refine k_callV F kd_X7_breaking q3834 q194 (kInvV (Bs := [_, _]) F kcX7 q3831 q3833 qs129 kd_X7_breaking q3834 dX7_does_136 (kHs.of hM.1) rfl (by decide)) (zX7_breaking F.st hM u hu hu8 hRV a _ (by omega)) 139 rfl (Nat.le_of_ble_eq_true rfl) (by first | exact Nat.le_of_ble_eq_true rfl | omega) (by first | exact Nat.le_of_ble_eq_true rfl | omega) (by first | exact Nat.le_of_ble_eq_true rfl | omega) (by first | exact Nat.le_of_ble_eq_true rfl | omega) (fun r9 h9 hr9 => ?_)
      obtain ⟨rfl, hM, hK9⟩ := hr9
      have hK := hK.tr hK9
      replace hM : MW h9 m ad (dS sc (some (brkF R a 1))) (aR R (brkF R a 1)) ar := by rw [← aS_23 (u := u) hs23]; rw [aA_23 (sc := sc) (R := R) (u := u) (o := brkF R a 1) hs23] at hM; exact hM
      refine k_iflt F dX7_does_139 142 146 rfl (by decide) (fun c_z => ?_) (fun c_z => ?_)
      · rw [show dB (some (brkF R a 1)) = false from decide_eq_false (Int32.not_le.mpr c_z)] at F
        refine k_iconst (v := 0) F dX7_does_146 147 rfl (by decide) ?_
        exact k_zret F dX7_does_147 (by first | rfl | exact kzb _ | exact pk_nc _ | decide) (by first | exact Nat.le_of_ble_eq_true rfl | omega) (by first | exact Nat.le_of_ble_eq_true rfl | omega) ⟨rfl, hM, hK⟩
      · rw [show dB (some (brkF R a 1)) = true from decide_eq_true (Int32.not_lt.mp c_z)] at F
        refine k_iconst (v := 1) F dX7_does_142 143 rfl (by decide) ?_
        refine k_goto F dX7_does_143 147 (by decide) ?_
        exact k_zret F dX7_does_147 (by first | rfl | exact kzb _ | exact pk_nc _ | decide) (by first | exact Nat.le_of_ble_eq_true rfl | omega) (by first | exact Nat.le_of_ble_eq_true rfl | omega) ⟨rfl, hM, hK⟩
  · have hd0 := doF_b (R := R) h17 (by omega)
    refine k_aload_n F dX7_does_0 1 rfl rfl rfl ?_
    refine m_get F 19 (by decide) q3611 rfl dX7_does_1 4 rfl hM rfl ?_
    refine k_iload_n F dX7_does_4 5 rfl rfl rfl ?_
    refine m_iald F _ (by rfl) dX7_does_5 6 rfl hM (i) (by first | (with_reducible rfl) | (simp only [nI_lit, pk_mul, nI_add])) (by first | decide | omega | (simp only [mSz]; omega)) ?_
    refine k_istore_n (lv' := [(0, _), (1, _), (2, _)]) F dX7_does_6 7 rfl rfl (Nat.le_of_ble_eq_true rfl) rfl rfl rfl ?_
    refine k_aload_n F dX7_does_7 8 rfl rfl rfl ?_
    refine k_aload_n F dX7_does_8 9 rfl rfl rfl ?_
    refine m_get F 18 (by decide) q3610 rfl dX7_does_9 12 rfl hM rfl ?_
    refine k_iload_n F dX7_does_12 13 rfl rfl rfl ?_
    refine m_iald F _ (by rfl) dX7_does_13 14 rfl hM (i) (by first | (with_reducible rfl) | (simp only [nI_lit, pk_mul, nI_add])) (by first | decide | omega | (simp only [mSz]; omega)) ?_
    refine k_callV F kd_X7_named q3545 q194 (kInvV (Bs := [_]) F kcX7 q3542 q3544 qs85 kd_X7_named q3545 dX7_does_14 (kHs.of hM.1) rfl (by decide)) (zX7_named F.st hM hRV _) 17 rfl (Nat.le_of_ble_eq_true rfl) (by first | exact Nat.le_of_ble_eq_true rfl | omega) (by first | exact Nat.le_of_ble_eq_true rfl | omega) (by first | exact Nat.le_of_ble_eq_true rfl | omega) (by first | exact Nat.le_of_ble_eq_true rfl | omega) (fun r10 h10 hr10 => ?_)
    obtain ⟨rfl, rfl⟩ := hr10
    generalize namedF R (ar 18 i) = a at hA hd0 ha8
    refine k_istore_n (lv' := [(0, _), (1, _), (2, _), (3, _)]) F dX7_does_17 18 rfl rfl (Nat.le_of_ble_eq_true rfl) rfl rfl rfl ?_
    refine k_aload_n F dX7_does_18 19 rfl rfl rfl ?_
    refine m_get F 17 (by decide) q3609 rfl dX7_does_19 22 rfl hM rfl ?_
    refine k_iload_n F dX7_does_22 23 rfl rfl rfl ?_
    refine m_iald F _ (by rfl) dX7_does_23 24 rfl hM (i) (by first | (with_reducible rfl) | (simp only [nI_lit, pk_mul, nI_add])) (by first | decide | omega | (simp only [mSz]; omega)) ?_
    rw [h17]
    refine k_tableIn F dX7_does_24 148 (by decide) (by decide) (by rfl) (by decide) ?_
    cases a with
    | none =>
      rw [show doF R ar i = none from hd0] at F
      refine k_iload_n F dX7_does_148 149 rfl rfl rfl ?_
      refine k_iconst (v := (-1)) F dX7_does_149 150 rfl (by decide) ?_
      refine k_icmpeq F dX7_does_150 153 166 rfl (by decide) (fun _ => ?_) (fun c_ => (by first | exact absurd rfl c_ | exact absurd c_ (by decide) | exact absurd (by assumption) c_ | exact absurd c_ (by assumption)))
      refine k_iconst (v := 0) F dX7_does_166 167 rfl (by decide) ?_
      exact k_zret F dX7_does_167 (by first | rfl | exact kzb _ | exact pk_nc _ | decide) (by first | exact Nat.le_of_ble_eq_true rfl | omega) (by first | exact Nat.le_of_ble_eq_true rfl | omega) ⟨rfl, hM, hK⟩
    | some a =>
      have ha9 := ha8 a rfl
      rw [show doF R ar i = some (brkF R a 0) from hd0] at F
      refine k_iload_n F dX7_does_148 149 rfl rfl rfl ?_
      refine k_iconst (v := (-1)) F dX7_does_149 150 rfl (by decide) ?_
      refine k_icmpeq F dX7_does_150 153 166 rfl (by decide) (fun c_ => (absurd (show nI a = -1 from c_) (nI_m1 (by omega)))) (fun _ => ?_)
      refine k_aload_n F dX7_does_153 154 rfl rfl rfl ?_
      refine k_iload_n F dX7_does_154 155 rfl rfl rfl ?_
      refine k_iconst (v := 0) F dX7_does_155 156 rfl (by decide) ?_
      refine k_callV F kd_X7_breaking q3834 q194 (kInvV (Bs := [_, _]) F kcX7 q3831 q3833 qs129 kd_X7_breaking q3834 dX7_does_156 (kHs.of hM.1) rfl (by decide)) (zX7_breaking F.st hM u hu hu8 hRV a _ (by omega)) 159 rfl (Nat.le_of_ble_eq_true rfl) (by first | exact Nat.le_of_ble_eq_true rfl | omega) (by first | exact Nat.le_of_ble_eq_true rfl | omega) (by first | exact Nat.le_of_ble_eq_true rfl | omega) (by first | exact Nat.le_of_ble_eq_true rfl | omega) (fun r11 h11 hr11 => ?_)
      obtain ⟨rfl, hM, hK9⟩ := hr11
      have hK := hK.tr hK9
      replace hM : MW h11 m ad (dS sc (some (brkF R a 0))) (aR R (brkF R a 0)) ar := by rw [← aS_23 (u := u) hs23]; rw [aA_23 (sc := sc) (R := R) (u := u) (o := brkF R a 0) hs23] at hM; exact hM
      refine k_iflt F dX7_does_159 162 166 rfl (by decide) (fun c_z => ?_) (fun c_z => ?_)
      · rw [show dB (some (brkF R a 0)) = false from decide_eq_false (Int32.not_le.mpr c_z)] at F
        refine k_iconst (v := 0) F dX7_does_166 167 rfl (by decide) ?_
        exact k_zret F dX7_does_167 (by first | rfl | exact kzb _ | exact pk_nc _ | decide) (by first | exact Nat.le_of_ble_eq_true rfl | omega) (by first | exact Nat.le_of_ble_eq_true rfl | omega) ⟨rfl, hM, hK⟩
      · rw [show dB (some (brkF R a 0)) = true from decide_eq_true (Int32.not_lt.mp c_z)] at F
        refine k_iconst (v := 1) F dX7_does_162 163 rfl (by decide) ?_
        refine k_goto F dX7_does_163 167 (by decide) ?_
        exact k_zret F dX7_does_167 (by first | rfl | exact kzb _ | exact pk_nc _ | decide) (by first | exact Nat.le_of_ble_eq_true rfl | omega) (by first | exact Nat.le_of_ble_eq_true rfl | omega) ⟨rfl, hM, hK⟩
  · obtain ⟨n, h19, hn9⟩ := h19 (by omega) (by omega)
    have hd0 := doF_k (R := R) (k := i) h17 (by omega) h19 hn9
    have hip : inF (nI n) 0 (R 4 - 1) = decide (n < rP R) := by
      rw [r3]
      by_cases c : n < rP R
      · rw [decide_eq_true c]
        exact (inIx (by omega)).mpr ⟨n, c, rfl⟩
      · rw [decide_eq_false c, ← Bool.not_eq_true]
        intro z
        obtain ⟨k, k1, k2⟩ := (inIx (by omega)).mp z
        rw [nI_inj (by omega) (by omega)] at k2
        omega
    refine k_aload_n F dX7_does_0 1 rfl rfl rfl ?_
    refine m_get F 19 (by decide) q3611 rfl dX7_does_1 4 rfl hM rfl ?_
    refine k_iload_n F dX7_does_4 5 rfl rfl rfl ?_
    refine m_iald F _ (by rfl) dX7_does_5 6 rfl hM (i) (by first | (with_reducible rfl) | (simp only [nI_lit, pk_mul, nI_add])) (by first | decide | omega | (simp only [mSz]; omega)) ?_
    rw [h19]
    refine k_istore_n (lv' := [(0, _), (1, _), (2, _)]) F dX7_does_6 7 rfl rfl (Nat.le_of_ble_eq_true rfl) rfl rfl rfl ?_
    refine k_aload_n F dX7_does_7 8 rfl rfl rfl ?_
    refine k_aload_n F dX7_does_8 9 rfl rfl rfl ?_
    refine m_get F 18 (by decide) q3610 rfl dX7_does_9 12 rfl hM rfl ?_
    refine k_iload_n F dX7_does_12 13 rfl rfl rfl ?_
    refine m_iald F _ (by rfl) dX7_does_13 14 rfl hM (i) (by first | (with_reducible rfl) | (simp only [nI_lit, pk_mul, nI_add])) (by first | decide | omega | (simp only [mSz]; omega)) ?_
    refine k_callV F kd_X7_named q3545 q194 (kInvV (Bs := [_]) F kcX7 q3542 q3544 qs85 kd_X7_named q3545 dX7_does_14 (kHs.of hM.1) rfl (by decide)) (zX7_named F.st hM hRV _) 17 rfl (Nat.le_of_ble_eq_true rfl) (by first | exact Nat.le_of_ble_eq_true rfl | omega) (by first | exact Nat.le_of_ble_eq_true rfl | omega) (by first | exact Nat.le_of_ble_eq_true rfl | omega) (by first | exact Nat.le_of_ble_eq_true rfl | omega) (fun r12 h12 hr12 => ?_)
    obtain ⟨rfl, rfl⟩ := hr12
    generalize namedF R (ar 18 i) = a at hA hd0 ha8
    refine k_istore_n (lv' := [(0, _), (1, _), (2, _), (3, _)]) F dX7_does_17 18 rfl rfl (Nat.le_of_ble_eq_true rfl) rfl rfl rfl ?_
    refine k_aload_n F dX7_does_18 19 rfl rfl rfl ?_
    refine m_get F 17 (by decide) q3609 rfl dX7_does_19 22 rfl hM rfl ?_
    refine k_iload_n F dX7_does_22 23 rfl rfl rfl ?_
    refine m_iald F _ (by rfl) dX7_does_23 24 rfl hM (i) (by first | (with_reducible rfl) | (simp only [nI_lit, pk_mul, nI_add])) (by first | decide | omega | (simp only [mSz]; omega)) ?_
    rw [h17]
    refine k_tableIn F dX7_does_24 168 (by decide) (by decide) (by rfl) (by decide) ?_
    rw [show doF R ar i = some (setF R 2 (nI n)) from hd0] at F
    refine k_aload_n F dX7_does_168 169 rfl rfl rfl ?_
    refine k_iconst (v := 2) F dX7_does_169 170 rfl (by decide) ?_
    refine k_iload_n F dX7_does_170 171 rfl rfl rfl ?_
    refine k_callV F kd_X7_setting q3838 q194 (kInvV (Bs := [_, _]) F kcX7 q3835 q3837 qs130 kd_X7_setting q3838 dX7_does_171 (kHs.of hM.1) rfl (by decide)) (zX7_setting F.st hM u hu hu8 2 _ (by omega)) 174 rfl (Nat.le_of_ble_eq_true rfl) (by first | exact Nat.le_of_ble_eq_true rfl | omega) (by first | exact Nat.le_of_ble_eq_true rfl | omega) (by first | exact Nat.le_of_ble_eq_true rfl | omega) (by first | exact Nat.le_of_ble_eq_true rfl | omega) (fun r13 h13 hr13 => ?_)
    obtain ⟨rfl, hM, hK9⟩ := hr13
    have hK := hK.tr hK9
    replace hM : MW h13 m ad (dS sc (some (setF R 2 (nI n)))) (aR R (setF R 2 (nI n))) ar := by rw [← aS_23 (u := u) hs23]; rw [aA_23 (sc := sc) (R := R) (u := u) (o := setF R 2 (nI n)) hs23] at hM; exact hM
    refine k_iflt F dX7_does_174 177 181 rfl (by decide) (fun c_z => ?_) (fun c_z => ?_)
    · rw [show dB (some (setF R 2 (nI n))) = false from decide_eq_false (Int32.not_le.mpr c_z)] at F
      refine k_iconst (v := 0) F dX7_does_181 182 rfl (by decide) ?_
      exact k_zret F dX7_does_182 (by first | rfl | exact kzb _ | exact pk_nc _ | decide) (by first | exact Nat.le_of_ble_eq_true rfl | omega) (by first | exact Nat.le_of_ble_eq_true rfl | omega) ⟨rfl, hM, hK⟩
    · rw [show dB (some (setF R 2 (nI n))) = true from decide_eq_true (Int32.not_lt.mp c_z)] at F
      refine k_iconst (v := 1) F dX7_does_177 178 rfl (by decide) ?_
      refine k_goto F dX7_does_178 182 (by decide) ?_
      exact k_zret F dX7_does_182 (by first | rfl | exact kzb _ | exact pk_nc _ | decide) (by first | exact Nat.le_of_ble_eq_true rfl | omega) (by first | exact Nat.le_of_ble_eq_true rfl | omega) ⟨rfl, hM, hK⟩
  · obtain ⟨n, h19, hn9⟩ := h19 (by omega) (by omega)
    have hd0 := doF_k (R := R) (k := i) h17 (by omega) h19 hn9
    have hip : inF (nI n) 0 (R 4 - 1) = decide (n < rP R) := by
      rw [r3]
      by_cases c : n < rP R
      · rw [decide_eq_true c]
        exact (inIx (by omega)).mpr ⟨n, c, rfl⟩
      · rw [decide_eq_false c, ← Bool.not_eq_true]
        intro z
        obtain ⟨k, k1, k2⟩ := (inIx (by omega)).mp z
        rw [nI_inj (by omega) (by omega)] at k2
        omega
    refine k_aload_n F dX7_does_0 1 rfl rfl rfl ?_
    refine m_get F 19 (by decide) q3611 rfl dX7_does_1 4 rfl hM rfl ?_
    refine k_iload_n F dX7_does_4 5 rfl rfl rfl ?_
    refine m_iald F _ (by rfl) dX7_does_5 6 rfl hM (i) (by first | (with_reducible rfl) | (simp only [nI_lit, pk_mul, nI_add])) (by first | decide | omega | (simp only [mSz]; omega)) ?_
    rw [h19]
    refine k_istore_n (lv' := [(0, _), (1, _), (2, _)]) F dX7_does_6 7 rfl rfl (Nat.le_of_ble_eq_true rfl) rfl rfl rfl ?_
    refine k_aload_n F dX7_does_7 8 rfl rfl rfl ?_
    refine k_aload_n F dX7_does_8 9 rfl rfl rfl ?_
    refine m_get F 18 (by decide) q3610 rfl dX7_does_9 12 rfl hM rfl ?_
    refine k_iload_n F dX7_does_12 13 rfl rfl rfl ?_
    refine m_iald F _ (by rfl) dX7_does_13 14 rfl hM (i) (by first | (with_reducible rfl) | (simp only [nI_lit, pk_mul, nI_add])) (by first | decide | omega | (simp only [mSz]; omega)) ?_
    refine k_callV F kd_X7_named q3545 q194 (kInvV (Bs := [_]) F kcX7 q3542 q3544 qs85 kd_X7_named q3545 dX7_does_14 (kHs.of hM.1) rfl (by decide)) (zX7_named F.st hM hRV _) 17 rfl (Nat.le_of_ble_eq_true rfl) (by first | exact Nat.le_of_ble_eq_true rfl | omega) (by first | exact Nat.le_of_ble_eq_true rfl | omega) (by first | exact Nat.le_of_ble_eq_true rfl | omega) (by first | exact Nat.le_of_ble_eq_true rfl | omega) (fun r14 h14 hr14 => ?_)
    obtain ⟨rfl, rfl⟩ := hr14
    generalize namedF R (ar 18 i) = a at hA hd0 ha8
    refine k_istore_n (lv' := [(0, _), (1, _), (2, _), (3, _)]) F dX7_does_17 18 rfl rfl (Nat.le_of_ble_eq_true rfl) rfl rfl rfl ?_
    refine k_aload_n F dX7_does_18 19 rfl rfl rfl ?_
    refine m_get F 17 (by decide) q3609 rfl dX7_does_19 22 rfl hM rfl ?_
    refine k_iload_n F dX7_does_22 23 rfl rfl rfl ?_
    refine m_iald F _ (by rfl) dX7_does_23 24 rfl hM (i) (by first | (with_reducible rfl) | (simp only [nI_lit, pk_mul, nI_add])) (by first | decide | omega | (simp only [mSz]; omega)) ?_
    rw [h17]
    refine k_tableIn F dX7_does_24 183 (by decide) (by decide) (by rfl) (by decide) ?_
    rw [show doF R ar i = some (setF R 1 (nI n)) from hd0] at F
    refine k_aload_n F dX7_does_183 184 rfl rfl rfl ?_
    refine k_iconst (v := 1) F dX7_does_184 185 rfl (by decide) ?_
    refine k_iload_n F dX7_does_185 186 rfl rfl rfl ?_
    refine k_callV F kd_X7_setting q3838 q194 (kInvV (Bs := [_, _]) F kcX7 q3835 q3837 qs130 kd_X7_setting q3838 dX7_does_186 (kHs.of hM.1) rfl (by decide)) (zX7_setting F.st hM u hu hu8 1 _ (by omega)) 189 rfl (Nat.le_of_ble_eq_true rfl) (by first | exact Nat.le_of_ble_eq_true rfl | omega) (by first | exact Nat.le_of_ble_eq_true rfl | omega) (by first | exact Nat.le_of_ble_eq_true rfl | omega) (by first | exact Nat.le_of_ble_eq_true rfl | omega) (fun r15 h15 hr15 => ?_)
    obtain ⟨rfl, hM, hK9⟩ := hr15
    have hK := hK.tr hK9
    replace hM : MW h15 m ad (dS sc (some (setF R 1 (nI n)))) (aR R (setF R 1 (nI n))) ar := by rw [← aS_23 (u := u) hs23]; rw [aA_23 (sc := sc) (R := R) (u := u) (o := setF R 1 (nI n)) hs23] at hM; exact hM
    refine k_iflt F dX7_does_189 192 196 rfl (by decide) (fun c_z => ?_) (fun c_z => ?_)
    · rw [show dB (some (setF R 1 (nI n))) = false from decide_eq_false (Int32.not_le.mpr c_z)] at F
      refine k_iconst (v := 0) F dX7_does_196 197 rfl (by decide) ?_
      exact k_zret F dX7_does_197 (by first | rfl | exact kzb _ | exact pk_nc _ | decide) (by first | exact Nat.le_of_ble_eq_true rfl | omega) (by first | exact Nat.le_of_ble_eq_true rfl | omega) ⟨rfl, hM, hK⟩
    · rw [show dB (some (setF R 1 (nI n))) = true from decide_eq_true (Int32.not_lt.mp c_z)] at F
      refine k_iconst (v := 1) F dX7_does_192 193 rfl (by decide) ?_
      refine k_goto F dX7_does_193 197 (by decide) ?_
      exact k_zret F dX7_does_197 (by first | rfl | exact kzb _ | exact pk_nc _ | decide) (by first | exact Nat.le_of_ble_eq_true rfl | omega) (by first | exact Nat.le_of_ble_eq_true rfl | omega) ⟨rfl, hM, hK⟩
  · obtain ⟨n, h19, hn9⟩ := h19 (by omega) (by omega)
    have hd0 := doF_k (R := R) (k := i) h17 (by omega) h19 hn9
    have hip : inF (nI n) 0 (R 4 - 1) = decide (n < rP R) := by
      rw [r3]
      by_cases c : n < rP R
      · rw [decide_eq_true c]
        exact (inIx (by omega)).mpr ⟨n, c, rfl⟩
      · rw [decide_eq_false c, ← Bool.not_eq_true]
        intro z
        obtain ⟨k, k1, k2⟩ := (inIx (by omega)).mp z
        rw [nI_inj (by omega) (by omega)] at k2
        omega
    refine k_aload_n F dX7_does_0 1 rfl rfl rfl ?_
    refine m_get F 19 (by decide) q3611 rfl dX7_does_1 4 rfl hM rfl ?_
    refine k_iload_n F dX7_does_4 5 rfl rfl rfl ?_
    refine m_iald F _ (by rfl) dX7_does_5 6 rfl hM (i) (by first | (with_reducible rfl) | (simp only [nI_lit, pk_mul, nI_add])) (by first | decide | omega | (simp only [mSz]; omega)) ?_
    rw [h19]
    refine k_istore_n (lv' := [(0, _), (1, _), (2, _)]) F dX7_does_6 7 rfl rfl (Nat.le_of_ble_eq_true rfl) rfl rfl rfl ?_
    refine k_aload_n F dX7_does_7 8 rfl rfl rfl ?_
    refine k_aload_n F dX7_does_8 9 rfl rfl rfl ?_
    refine m_get F 18 (by decide) q3610 rfl dX7_does_9 12 rfl hM rfl ?_
    refine k_iload_n F dX7_does_12 13 rfl rfl rfl ?_
    refine m_iald F _ (by rfl) dX7_does_13 14 rfl hM (i) (by first | (with_reducible rfl) | (simp only [nI_lit, pk_mul, nI_add])) (by first | decide | omega | (simp only [mSz]; omega)) ?_
    refine k_callV F kd_X7_named q3545 q194 (kInvV (Bs := [_]) F kcX7 q3542 q3544 qs85 kd_X7_named q3545 dX7_does_14 (kHs.of hM.1) rfl (by decide)) (zX7_named F.st hM hRV _) 17 rfl (Nat.le_of_ble_eq_true rfl) (by first | exact Nat.le_of_ble_eq_true rfl | omega) (by first | exact Nat.le_of_ble_eq_true rfl | omega) (by first | exact Nat.le_of_ble_eq_true rfl | omega) (by first | exact Nat.le_of_ble_eq_true rfl | omega) (fun r16 h16 hr16 => ?_)
    obtain ⟨rfl, rfl⟩ := hr16
    generalize namedF R (ar 18 i) = a at hA hd0 ha8
    refine k_istore_n (lv' := [(0, _), (1, _), (2, _), (3, _)]) F dX7_does_17 18 rfl rfl (Nat.le_of_ble_eq_true rfl) rfl rfl rfl ?_
    refine k_aload_n F dX7_does_18 19 rfl rfl rfl ?_
    refine m_get F 17 (by decide) q3609 rfl dX7_does_19 22 rfl hM rfl ?_
    refine k_iload_n F dX7_does_22 23 rfl rfl rfl ?_
    refine m_iald F _ (by rfl) dX7_does_23 24 rfl hM (i) (by first | (with_reducible rfl) | (simp only [nI_lit, pk_mul, nI_add])) (by first | decide | omega | (simp only [mSz]; omega)) ?_
    rw [h17]
    refine k_tableIn F dX7_does_24 198 (by decide) (by decide) (by rfl) (by decide) ?_
    have hd1 : doF R ar i = if n < rP R then some (ofpF R n 0 (ar 20 i)) else none := hd0
    refine k_aload_n F dX7_does_198 199 rfl rfl rfl ?_
    refine k_iload_n F dX7_does_199 200 rfl rfl rfl ?_
    refine k_callV F kd_X7_isPhase q3826 q194 (kInvV (Bs := [_]) F kcX7 q3823 q3825 qs127 kd_X7_isPhase q3826 dX7_does_200 (kHs.of hM.1) rfl (by decide)) (zX7_isPhase F.st hM _) 203 rfl (Nat.le_of_ble_eq_true rfl) (by first | exact Nat.le_of_ble_eq_true rfl | omega) (by first | exact Nat.le_of_ble_eq_true rfl | omega) (by first | exact Nat.le_of_ble_eq_true rfl | omega) (by first | exact Nat.le_of_ble_eq_true rfl | omega) (fun r17 h17 hr17 => ?_)
    obtain ⟨rfl, rfl⟩ := hr17
    rw [hip]
    refine k_ifeq F dX7_does_203 206 225 rfl (by decide) (fun c_p => ?_) (fun c_p => ?_)
    · rw [kB_0, decide_eq_false_iff_not] at c_p
      rw [hd1, if_neg c_p] at F
      refine k_iconst (v := 0) F dX7_does_225 226 rfl (by decide) ?_
      exact k_zret F dX7_does_226 (by first | rfl | exact kzb _ | exact pk_nc _ | decide) (by first | exact Nat.le_of_ble_eq_true rfl | omega) (by first | exact Nat.le_of_ble_eq_true rfl | omega) ⟨rfl, hM, hK⟩
    · rw [kB_0, decide_eq_false_iff_not, Classical.not_not] at c_p
      rw [hd1, if_pos c_p] at F
      refine k_aload_n F dX7_does_206 207 rfl rfl rfl ?_
      refine k_iload_n F dX7_does_207 208 rfl rfl rfl ?_
      refine k_iconst (v := 0) F dX7_does_208 209 rfl (by decide) ?_
      refine k_aload_n F dX7_does_209 210 rfl rfl rfl ?_
      refine m_get F 20 (by decide) q3612 rfl dX7_does_210 213 rfl hM rfl ?_
      refine k_iload_n F dX7_does_213 214 rfl rfl rfl ?_
      refine m_iald F _ (by rfl) dX7_does_214 215 rfl hM (i) (by first | (with_reducible rfl) | (simp only [nI_lit, pk_mul, nI_add])) (by first | decide | omega | (simp only [mSz]; omega)) ?_
      refine k_callV F kd_X7_ofPhaseSetting q3842 q194 (kInvV (Bs := [_, _, _]) F kcX7 q3839 q3841 qs131 kd_X7_ofPhaseSetting q3842 dX7_does_215 (kHs.of hM.1) rfl (by decide)) (zX7_ofPhaseSetting F.st hM u hu hu8 n 0 _ (by omega) (by omega)) 218 rfl (Nat.le_of_ble_eq_true rfl) (by first | exact Nat.le_of_ble_eq_true rfl | omega) (by first | exact Nat.le_of_ble_eq_true rfl | omega) (by first | exact Nat.le_of_ble_eq_true rfl | omega) (by first | exact Nat.le_of_ble_eq_true rfl | omega) (fun r18 h18 hr18 => ?_)
      obtain ⟨rfl, hM, hK9⟩ := hr18
      have hK := hK.tr hK9
      replace hM : MW h18 m ad (dS sc (some (ofpF R n 0 (ar 20 i)))) (aR R (ofpF R n 0 (ar 20 i))) ar := by rw [← aS_23 (u := u) hs23]; rw [aA_23 (sc := sc) (R := R) (u := u) (o := ofpF R n 0 (ar 20 i)) hs23] at hM; exact hM
      refine k_iflt F dX7_does_218 221 225 rfl (by decide) (fun c_z => ?_) (fun c_z => ?_)
      · rw [show dB (some (ofpF R n 0 (ar 20 i))) = false from decide_eq_false (Int32.not_le.mpr c_z)] at F
        refine k_iconst (v := 0) F dX7_does_225 226 rfl (by decide) ?_
        exact k_zret F dX7_does_226 (by first | rfl | exact kzb _ | exact pk_nc _ | decide) (by first | exact Nat.le_of_ble_eq_true rfl | omega) (by first | exact Nat.le_of_ble_eq_true rfl | omega) ⟨rfl, hM, hK⟩
      · rw [show dB (some (ofpF R n 0 (ar 20 i))) = true from decide_eq_true (Int32.not_lt.mp c_z)] at F
        refine k_iconst (v := 1) F dX7_does_221 222 rfl (by decide) ?_
        refine k_goto F dX7_does_222 226 (by decide) ?_
        exact k_zret F dX7_does_226 (by first | rfl | exact kzb _ | exact pk_nc _ | decide) (by first | exact Nat.le_of_ble_eq_true rfl | omega) (by first | exact Nat.le_of_ble_eq_true rfl | omega) ⟨rfl, hM, hK⟩
  · obtain ⟨n, h19, hn9⟩ := h19 (by omega) (by omega)
    have hd0 := doF_k (R := R) (k := i) h17 (by omega) h19 hn9
    have hip : inF (nI n) 0 (R 4 - 1) = decide (n < rP R) := by
      rw [r3]
      by_cases c : n < rP R
      · rw [decide_eq_true c]
        exact (inIx (by omega)).mpr ⟨n, c, rfl⟩
      · rw [decide_eq_false c, ← Bool.not_eq_true]
        intro z
        obtain ⟨k, k1, k2⟩ := (inIx (by omega)).mp z
        rw [nI_inj (by omega) (by omega)] at k2
        omega
    refine k_aload_n F dX7_does_0 1 rfl rfl rfl ?_
    refine m_get F 19 (by decide) q3611 rfl dX7_does_1 4 rfl hM rfl ?_
    refine k_iload_n F dX7_does_4 5 rfl rfl rfl ?_
    refine m_iald F _ (by rfl) dX7_does_5 6 rfl hM (i) (by first | (with_reducible rfl) | (simp only [nI_lit, pk_mul, nI_add])) (by first | decide | omega | (simp only [mSz]; omega)) ?_
    rw [h19]
    refine k_istore_n (lv' := [(0, _), (1, _), (2, _)]) F dX7_does_6 7 rfl rfl (Nat.le_of_ble_eq_true rfl) rfl rfl rfl ?_
    refine k_aload_n F dX7_does_7 8 rfl rfl rfl ?_
    refine k_aload_n F dX7_does_8 9 rfl rfl rfl ?_
    refine m_get F 18 (by decide) q3610 rfl dX7_does_9 12 rfl hM rfl ?_
    refine k_iload_n F dX7_does_12 13 rfl rfl rfl ?_
    refine m_iald F _ (by rfl) dX7_does_13 14 rfl hM (i) (by first | (with_reducible rfl) | (simp only [nI_lit, pk_mul, nI_add])) (by first | decide | omega | (simp only [mSz]; omega)) ?_
    refine k_callV F kd_X7_named q3545 q194 (kInvV (Bs := [_]) F kcX7 q3542 q3544 qs85 kd_X7_named q3545 dX7_does_14 (kHs.of hM.1) rfl (by decide)) (zX7_named F.st hM hRV _) 17 rfl (Nat.le_of_ble_eq_true rfl) (by first | exact Nat.le_of_ble_eq_true rfl | omega) (by first | exact Nat.le_of_ble_eq_true rfl | omega) (by first | exact Nat.le_of_ble_eq_true rfl | omega) (by first | exact Nat.le_of_ble_eq_true rfl | omega) (fun r19 h19 hr19 => ?_)
    obtain ⟨rfl, rfl⟩ := hr19
    generalize namedF R (ar 18 i) = a at hA hd0 ha8
    refine k_istore_n (lv' := [(0, _), (1, _), (2, _), (3, _)]) F dX7_does_17 18 rfl rfl (Nat.le_of_ble_eq_true rfl) rfl rfl rfl ?_
    refine k_aload_n F dX7_does_18 19 rfl rfl rfl ?_
    refine m_get F 17 (by decide) q3609 rfl dX7_does_19 22 rfl hM rfl ?_
    refine k_iload_n F dX7_does_22 23 rfl rfl rfl ?_
    refine m_iald F _ (by rfl) dX7_does_23 24 rfl hM (i) (by first | (with_reducible rfl) | (simp only [nI_lit, pk_mul, nI_add])) (by first | decide | omega | (simp only [mSz]; omega)) ?_
    rw [h17]
    refine k_tableOut F dX7_does_24 227 (by decide) (by decide) ?_
    have hd1 : doF R ar i = if n < rP R then some (ofpF R n 1 (ar 20 i)) else none := hd0
    refine k_aload_n F dX7_does_227 228 rfl rfl rfl ?_
    refine k_iload_n F dX7_does_228 229 rfl rfl rfl ?_
    refine k_callV F kd_X7_isPhase q3826 q194 (kInvV (Bs := [_]) F kcX7 q3823 q3825 qs127 kd_X7_isPhase q3826 dX7_does_229 (kHs.of hM.1) rfl (by decide)) (zX7_isPhase F.st hM _) 232 rfl (Nat.le_of_ble_eq_true rfl) (by first | exact Nat.le_of_ble_eq_true rfl | omega) (by first | exact Nat.le_of_ble_eq_true rfl | omega) (by first | exact Nat.le_of_ble_eq_true rfl | omega) (by first | exact Nat.le_of_ble_eq_true rfl | omega) (fun r20 h20 hr20 => ?_)
    obtain ⟨rfl, rfl⟩ := hr20
    rw [hip]
    refine k_ifeq F dX7_does_232 235 254 rfl (by decide) (fun c_p => ?_) (fun c_p => ?_)
    · rw [kB_0, decide_eq_false_iff_not] at c_p
      rw [hd1, if_neg c_p] at F
      refine k_iconst (v := 0) F dX7_does_254 255 rfl (by decide) ?_
      exact k_zret F dX7_does_255 (by first | rfl | exact kzb _ | exact pk_nc _ | decide) (by first | exact Nat.le_of_ble_eq_true rfl | omega) (by first | exact Nat.le_of_ble_eq_true rfl | omega) ⟨rfl, hM, hK⟩
    · rw [kB_0, decide_eq_false_iff_not, Classical.not_not] at c_p
      rw [hd1, if_pos c_p] at F
      refine k_aload_n F dX7_does_235 236 rfl rfl rfl ?_
      refine k_iload_n F dX7_does_236 237 rfl rfl rfl ?_
      refine k_iconst (v := 1) F dX7_does_237 238 rfl (by decide) ?_
      refine k_aload_n F dX7_does_238 239 rfl rfl rfl ?_
      refine m_get F 20 (by decide) q3612 rfl dX7_does_239 242 rfl hM rfl ?_
      refine k_iload_n F dX7_does_242 243 rfl rfl rfl ?_
      refine m_iald F _ (by rfl) dX7_does_243 244 rfl hM (i) (by first | (with_reducible rfl) | (simp only [nI_lit, pk_mul, nI_add])) (by first | decide | omega | (simp only [mSz]; omega)) ?_
      refine k_callV F kd_X7_ofPhaseSetting q3842 q194 (kInvV (Bs := [_, _, _]) F kcX7 q3839 q3841 qs131 kd_X7_ofPhaseSetting q3842 dX7_does_244 (kHs.of hM.1) rfl (by decide)) (zX7_ofPhaseSetting F.st hM u hu hu8 n 1 _ (by omega) (by omega)) 247 rfl (Nat.le_of_ble_eq_true rfl) (by first | exact Nat.le_of_ble_eq_true rfl | omega) (by first | exact Nat.le_of_ble_eq_true rfl | omega) (by first | exact Nat.le_of_ble_eq_true rfl | omega) (by first | exact Nat.le_of_ble_eq_true rfl | omega) (fun r21 h21 hr21 => ?_)
      obtain ⟨rfl, hM, hK9⟩ := hr21
      have hK := hK.tr hK9
      replace hM : MW h21 m ad (dS sc (some (ofpF R n 1 (ar 20 i)))) (aR R (ofpF R n 1 (ar 20 i))) ar := by rw [← aS_23 (u := u) hs23]; rw [aA_23 (sc := sc) (R := R) (u := u) (o := ofpF R n 1 (ar 20 i)) hs23] at hM; exact hM
      refine k_iflt F dX7_does_247 250 254 rfl (by decide) (fun c_z => ?_) (fun c_z => ?_)
      · rw [show dB (some (ofpF R n 1 (ar 20 i))) = false from decide_eq_false (Int32.not_le.mpr c_z)] at F
        refine k_iconst (v := 0) F dX7_does_254 255 rfl (by decide) ?_
        exact k_zret F dX7_does_255 (by first | rfl | exact kzb _ | exact pk_nc _ | decide) (by first | exact Nat.le_of_ble_eq_true rfl | omega) (by first | exact Nat.le_of_ble_eq_true rfl | omega) ⟨rfl, hM, hK⟩
      · rw [show dB (some (ofpF R n 1 (ar 20 i))) = true from decide_eq_true (Int32.not_lt.mp c_z)] at F
        refine k_iconst (v := 1) F dX7_does_250 251 rfl (by decide) ?_
        refine k_goto F dX7_does_251 255 (by decide) ?_
        exact k_zret F dX7_does_255 (by first | rfl | exact kzb _ | exact pk_nc _ | decide) (by first | exact Nat.le_of_ble_eq_true rfl | omega) (by first | exact Nat.le_of_ble_eq_true rfl | omega) ⟨rfl, hM, hK⟩
set_option maxHeartbeats 4000000 in
set_option maxRecDepth 100000 in
theorem zX7_doesAllS {l : Launch} {g : kG} (S : kStart l g) {h : kH} {m : Nat} {ad : Nat → Nat} {sc : Nat → Int32} {ar : Nat → Nat → Int32} {t : ST} (hM : MW h m ad (scD sc t) t.1 ar) (u : Nat) (hu : sc 6 = nI u) (hu8 : u ≤ 8) (hs23 : sc 23 = 1) {lvR : Nat} (hlv : 60 ≤ lvR) (rec : Nat → Nat → ST → Bool × ST) (Q : Nat → Nat → Prop) (hrok : ∀ k e t, Q k e → STok t → STok (rec k e t).2) (k e : Nat) (hk : k ≤ e) (he30 : e ≤ 30) (ho : ordOK ar e) (ht : STok t) (hN : ∀ i, k ≤ i → i < e → ar 17 i = 9 → ∃ t, ar 20 i = nI t ∧ i < t ∧ t ≤ e ∧ Q (i + 1) t) (hRec : ∀ (h1 : kH) (k1 e1 : Nat) (t1 : ST), Q k1 e1 → k1 ≤ e1 → e1 ≤ e → STok t1 → MW h1 m ad (scD sc t1) t1.1 ar → kMet l g yX7_doesAll (Cond.code yX7_doesAll cX7_doesAll 5 (Option.some Jvm.ClassFile.FieldType.boolean)) lvR 0 0 [.ref m, .int (nI k1), .int (nI e1)] h1 (mDv h1 m ad (scD sc (rec k1 e1 t1).2) (rec k1 e1 t1).2.1 ar (.int (kB (rec k1 e1 t1).1)))) : kMet l g yX7_doesAll (Cond.code yX7_doesAll cX7_doesAll 5 (Option.some Jvm.ClassFile.FieldType.boolean)) (lvR+1) 0 0 [.ref m, .int (nI k), .int (nI e)] h (mDv h m ad (scD sc (doesW rec ar 31 k e t).2) (doesW rec ar 31 k e t).2.1 ar (.int (kB (doesW rec ar 31 k e t).1))) := by
  refine kEnter S kd_X7_doesAll (Nat.le_of_ble_eq_true rfl) (fun x F hxl hxg => ?_)
  subst hxl; subst hxg
  have hlv : lv_args 0 [.ref m, .int (nI k), .int (nI e)] = [(0, .ref m), (1, .int (nI k)), (2, .int (nI e))] := rfl
  rw [hlv]
  have hK : kKp (mOwn m) h h := kKp.rf
  have loop : ∀ (f j : Nat) (t1 : ST) (h1 : kH), e - j < f → k ≤ j → j ≤ e → STok t1 → doesW rec ar f j e t1 = doesW rec ar 31 k e t → MW h1 m ad (scD sc t1) t1.1 ar → kKp (mOwn m) h h1 → kW x 0 0 h1 2 [(0, .ref m), (1, .int (nI k)), (2, .int (nI e)), (3, .int (nI j))] [] := by
    intro f
    induction f with
    | zero => intro j t1 h1 hf; omega
    | succ f ih =>
      intro j t1 h1 hf hkj hje ht1 he hM hK
      refine k_iload_n F dX7_doesAll_2 3 rfl rfl rfl ?_
      refine k_iload_n F dX7_doesAll_3 4 rfl rfl rfl ?_
      refine k_icmpge F dX7_doesAll_4 7 101 rfl (by decide) (fun c_a => ?_) (fun c_a => ?_)
      · rw [nI_leE (by omega) (by omega)] at c_a
        rw [show doesW rec ar (f + 1) j e t1 = (true, t1) from if_neg (by omega)] at he
        rw [← he] at F
        refine k_iconst (v := 1) F dX7_doesAll_101 102 rfl (by decide) ?_
        exact k_zret F dX7_doesAll_102 (by first | rfl | exact kzb _ | exact pk_nc _ | decide) (by first | exact Nat.le_of_ble_eq_true rfl | omega) (by first | exact Nat.le_of_ble_eq_true rfl | omega) ⟨rfl, hM, hK⟩
      · rw [nI_leE (by omega) (by omega), Nat.not_le] at c_a
        obtain ⟨kd, q1, q2, q34⟩ := ho j c_a
        refine k_aload_n F dX7_doesAll_7 8 rfl rfl rfl ?_
        refine m_get F 17 (by decide) q3609 rfl dX7_doesAll_8 11 rfl hM rfl ?_
        refine k_iload_n F dX7_doesAll_11 12 rfl rfl rfl ?_
        refine m_iald F _ (by rfl) dX7_doesAll_12 13 rfl hM (j) (by first | (with_reducible rfl) | (simp only [nI_lit, pk_mul, nI_add])) (by first | decide | omega | (simp only [mSz]; omega)) ?_
        rw [q1]
        refine k_bipush (v := 9) F dX7_doesAll_13 15 rfl (by decide) ?_
        refine k_icmpne F dX7_doesAll_15 18 66 rfl (by decide) (fun c_d => ?_) (fun c_d => ?_)
        · rw [show (9 : Int32) = nI 9 from rfl, nI_inj (by omega) (by omega)] at c_d
          have hn9 : ¬ ar 17 j = 9 := by rw [q1, show (9 : Int32) = nI 9 from rfl, nI_inj (by omega) (by omega)]; exact c_d
          rw [show doesW rec ar (f + 1) j e t1 = (if (stepD ar j t1).1 = true then doesW rec ar f (j + 1) e (stepD ar j t1).2 else (false, (stepD ar j t1).2)) from (if_pos c_a).trans (if_neg hn9)] at he
          have hst := stepD_ok ht1 (ho j c_a)
          have ht2 := ht1.2
          refine k_aload_n F dX7_doesAll_66 67 rfl rfl rfl ?_
          refine m_get F 22 (by decide) q3614 rfl dX7_doesAll_67 70 rfl hM rfl ?_
          refine k_topi (b := nI t1.2.2) scD_22 ?_
          refine k_bipush (v := 40) F dX7_doesAll_70 72 rfl (by decide) ?_
          refine k_icmpeq F dX7_doesAll_72 75 83 rfl (by decide) (fun c_g => ?_) (fun c_g => ?_)
          · rw [show (40 : Int32) = nI 40 from rfl, nI_inj (by omega) (by omega)] at c_g
            have es : stepD ar j t1 = (false, t1) := if_pos c_g
            rw [es, if_neg Bool.false_ne_true] at he
            rw [← he] at F
            refine k_iconst (v := 0) F dX7_doesAll_83 84 rfl (by decide) ?_
            exact k_zret F dX7_doesAll_84 (by first | rfl | exact kzb _ | exact pk_nc _ | decide) (by first | exact Nat.le_of_ble_eq_true rfl | omega) (by first | exact Nat.le_of_ble_eq_true rfl | omega) ⟨rfl, hM, hK⟩
          · rw [show (40 : Int32) = nI 40 from rfl, nI_inj (by omega) (by omega)] at c_g
            have es := stepD_eq (ar := ar) (k := j) c_g
            refine k_aload_n F dX7_doesAll_75 76 rfl rfl rfl ?_
            refine k_iload_n F dX7_doesAll_76 77 rfl rfl rfl ?_
            refine k_callV F kd_X7_does q3741 q194 (kInvV (Bs := [_]) F kcX7 q3738 q3740 qs106 kd_X7_does q3741 dX7_doesAll_77 (kHs.of hM.1) rfl (by decide)) (zX7_does F.st hM u hu hu8 ht1.1 hs23 j kd (by omega) q1 (by omega) q34) 80 rfl (Nat.le_of_ble_eq_true rfl) (by first | exact Nat.le_of_ble_eq_true rfl | omega) (by first | exact Nat.le_of_ble_eq_true rfl | omega) (by first | exact Nat.le_of_ble_eq_true rfl | omega) (by first | exact Nat.le_of_ble_eq_true rfl | omega) (fun r1 h1 hr1 => ?_)
            obtain ⟨rfl, hM, hK9⟩ := hr1
            have hK := hK.tr hK9
            refine k_ifne F dX7_doesAll_80 83 85 rfl (by decide) (fun c_i => ?_) (fun c_i => ?_)
            · rw [kB_0, Bool.not_eq_false] at c_i
              have es2 : stepD ar j t1 = (true, dR t1.1 (doF t1.1 ar j), dRf t1.2.1 (doF t1.1 ar j), t1.2.2 + 1) := by rw [es, c_i]; rfl
              rw [es2] at he hst
              rw [if_pos rfl] at he
              replace hM : MW h1 m ad (scD sc (dR t1.1 (doF t1.1 ar j), dRf t1.2.1 (doF t1.1 ar j), t1.2.2)) (dR t1.1 (doF t1.1 ar j)) ar := by rw [← scD_dS (t := t1) (o := doF t1.1 ar j)]; exact hM
              refine k_aload_n F dX7_doesAll_85 86 rfl rfl rfl ?_
              refine k_dup F dX7_doesAll_86 87 rfl rfl ?_
              refine m_get F 22 (by decide) q3614 rfl dX7_doesAll_87 90 rfl hM rfl ?_
              refine k_topi (b := nI t1.2.2) scD_22 ?_
              refine k_iconst (v := 1) F dX7_doesAll_90 91 rfl (by decide) ?_
              refine k_iadd F dX7_doesAll_91 92 rfl ?_
              refine m_put F 22 (by decide) (knX7 22) q3614 rfl rfl dX7_doesAll_92 95 rfl hM hK rfl rfl rfl (fun h9 hM hK => ?_)
              rw [nI_1', scD_s] at hM
              refine k_iinc (e := 1) (lv' := [(0, _), (1, _), (2, _), (3, _)]) F dX7_doesAll_95 98 rfl rfl (by decide) rfl (Nat.le_of_ble_eq_true rfl) rfl rfl rfl ?_
              refine k_goto F dX7_doesAll_98 2 (by decide) ?_
              rw [nI_1']
              exact ih (j + 1) _ _ (by omega) (by omega) (by omega) hst he hM hK
            · rw [kB_0] at c_i
              have es2 : stepD ar j t1 = (false, dR t1.1 (doF t1.1 ar j), dRf t1.2.1 (doF t1.1 ar j), t1.2.2) := by rw [es, c_i]; rfl
              rw [es2, if_neg Bool.false_ne_true] at he
              rw [← he] at F
              refine k_iconst (v := 0) F dX7_doesAll_83 84 rfl (by decide) ?_
              replace hM : MW h1 m ad (scD sc (dR t1.1 (doF t1.1 ar j), dRf t1.2.1 (doF t1.1 ar j), t1.2.2)) (dR t1.1 (doF t1.1 ar j)) ar := by rw [← scD_dS (t := t1) (o := doF t1.1 ar j)]; exact hM
              exact k_zret F dX7_doesAll_84 (by first | rfl | exact kzb _ | exact pk_nc _ | decide) (by first | exact Nat.le_of_ble_eq_true rfl | omega) (by first | exact Nat.le_of_ble_eq_true rfl | omega) ⟨rfl, hM, hK⟩
        · rw [show (9 : Int32) = nI 9 from rfl, nI_inj (by omega) (by omega)] at c_d
          have h9 : ar 17 j = 9 := by rw [q1, c_d]; rfl
          obtain ⟨n, q3, q4⟩ := q34 (by omega) (by omega)
          obtain ⟨z, z1, z2, z3, zQ⟩ := hN j hkj c_a h9
          have ez : twN ar j = z := by unfold twN; rw [z1, nI_clamp (by omega)]
          have eo : onN ar j = n := by unfold onN; rw [q3, nI_clamp (by omega)]
          rw [show doesW rec ar (f + 1) j e t1 = (if (iterD (rec (j + 1) (twN ar j)) (onN ar j) t1).1 = true then doesW rec ar f (twN ar j) e (iterD (rec (j + 1) (twN ar j)) (onN ar j) t1).2 else (false, (iterD (rec (j + 1) (twN ar j)) (onN ar j) t1).2)) from (if_pos c_a).trans (if_pos h9), ez, eo] at he
          refine k_iconst (v := 0) F dX7_doesAll_18 19 rfl (by decide) ?_
          refine k_istore (lv' := [(0, _), (1, _), (2, _), (3, _), (4, _)]) F dX7_doesAll_19 21 rfl (Nat.le_of_ble_eq_true rfl) rfl rfl rfl ?_
          have inner : ∀ (w c : Nat) (t2 : ST) (h1 : kH), c + w = n → STok t2 → iterD (rec (j + 1) z) w t2 = iterD (rec (j + 1) z) n t1 → MW h1 m ad (scD sc t2) t2.1 ar → kKp (mOwn m) h h1 → kW x 0 0 h1 21 [(0, .ref m), (1, .int (nI k)), (2, .int (nI e)), (3, .int (nI j)), (4, .int (nI c))] [] := by
            intro w
            induction w with
            | zero =>
              intro c t2 h1 hc ht2 hi hM hK
              rw [← hi] at he
              rw [show iterD (rec (j + 1) z) 0 t2 = (true, t2) from rfl, if_pos rfl] at he
              refine k_iload F dX7_doesAll_21 23 rfl rfl ?_
              refine k_aload_n F dX7_doesAll_23 24 rfl rfl rfl ?_
              refine m_get F 19 (by decide) q3611 rfl dX7_doesAll_24 27 rfl hM rfl ?_
              refine k_iload_n F dX7_doesAll_27 28 rfl rfl rfl ?_
              refine m_iald F _ (by rfl) dX7_doesAll_28 29 rfl hM (j) (by first | (with_reducible rfl) | (simp only [nI_lit, pk_mul, nI_add])) (by first | decide | omega | (simp only [mSz]; omega)) ?_
              rw [q3]
              refine k_icmpge F dX7_doesAll_29 32 56 rfl (by decide) (fun _ => ?_) (fun c_ => (absurd (by rw [nI_leE (by omega) (by omega)]; omega) c_))
              refine k_aload_n F dX7_doesAll_56 57 rfl rfl rfl ?_
              refine m_get F 20 (by decide) q3612 rfl dX7_doesAll_57 60 rfl hM rfl ?_
              refine k_iload_n F dX7_doesAll_60 61 rfl rfl rfl ?_
              refine m_iald F _ (by rfl) dX7_doesAll_61 62 rfl hM (j) (by first | (with_reducible rfl) | (simp only [nI_lit, pk_mul, nI_add])) (by first | decide | omega | (simp only [mSz]; omega)) ?_
              rw [z1]
              refine k_istore_n (lv' := [(0, _), (1, _), (2, _), (3, _), (4, _)]) F dX7_doesAll_62 63 rfl rfl (Nat.le_of_ble_eq_true rfl) rfl rfl rfl ?_
              refine k_goto F dX7_doesAll_63 2 (by decide) ?_
              refine kW.keep (lv' := [(0, _), (1, _), (2, _), (3, _)]) [0, 1, 2, 3] rfl ?_
              exact ih z t2 _ (by omega) (by omega) z3 ht2 he hM hK
            | succ w ihw =>
              intro c t2 h1 hc ht2 hi hM hK
              rw [show iterD (rec (j + 1) z) (w + 1) t2 = if (rec (j + 1) z t2).1 = true then iterD (rec (j + 1) z) w (rec (j + 1) z t2).2 else (false, (rec (j + 1) z t2).2) from rfl] at hi
              have hrk := hrok (j + 1) z t2 zQ ht2
              refine k_iload F dX7_doesAll_21 23 rfl rfl ?_
              refine k_aload_n F dX7_doesAll_23 24 rfl rfl rfl ?_
              refine m_get F 19 (by decide) q3611 rfl dX7_doesAll_24 27 rfl hM rfl ?_
              refine k_iload_n F dX7_doesAll_27 28 rfl rfl rfl ?_
              refine m_iald F _ (by rfl) dX7_doesAll_28 29 rfl hM (j) (by first | (with_reducible rfl) | (simp only [nI_lit, pk_mul, nI_add])) (by first | decide | omega | (simp only [mSz]; omega)) ?_
              rw [q3]
              refine k_icmpge F dX7_doesAll_29 32 56 rfl (by decide) (fun c_ => (absurd c_ (by rw [nI_leE (by omega) (by omega)]; omega))) (fun _ => ?_)
              refine k_aload_n F dX7_doesAll_32 33 rfl rfl rfl ?_
              refine k_iload_n F dX7_doesAll_33 34 rfl rfl rfl ?_
              refine k_iconst (v := 1) F dX7_doesAll_34 35 rfl (by decide) ?_
              refine k_iadd F dX7_doesAll_35 36 rfl ?_
              refine k_aload_n F dX7_doesAll_36 37 rfl rfl rfl ?_
              refine m_get F 20 (by decide) q3612 rfl dX7_doesAll_37 40 rfl hM rfl ?_
              refine k_iload_n F dX7_doesAll_40 41 rfl rfl rfl ?_
              refine m_iald F _ (by rfl) dX7_doesAll_41 42 rfl hM (j) (by first | (with_reducible rfl) | (simp only [nI_lit, pk_mul, nI_add])) (by first | decide | omega | (simp only [mSz]; omega)) ?_
              rw [z1, nI_1']
              refine k_callV F kd_X7_doesAll q3737 q194 (kInvV (Bs := [_, _]) F kcX7 q3734 q3736 qs105 kd_X7_doesAll q3737 dX7_doesAll_42 (kHs.of hM.1) rfl (by decide)) (hRec _ (j + 1) z t2 zQ (by omega) z3 ht2 hM) 45 rfl (Nat.le_of_ble_eq_true rfl) (by first | exact Nat.le_of_ble_eq_true rfl | omega) (by first | exact Nat.le_of_ble_eq_true rfl | omega) (by first | exact Nat.le_of_ble_eq_true rfl | omega) (by first | exact Nat.le_of_ble_eq_true rfl | omega) (fun r2 h2 hr2 => ?_)
              obtain ⟨rfl, hM, hK9⟩ := hr2
              have hK := hK.tr hK9
              refine k_ifne F dX7_doesAll_45 48 50 rfl (by decide) (fun c_y => ?_) (fun c_y => ?_)
              · rw [kB_0, Bool.not_eq_false] at c_y
                rw [if_pos c_y] at hi
                refine k_iinc (e := 1) (lv' := [(0, _), (1, _), (2, _), (3, _), (4, _)]) F dX7_doesAll_50 53 rfl rfl (by decide) rfl (Nat.le_of_ble_eq_true rfl) rfl rfl rfl ?_
                refine k_goto F dX7_doesAll_53 21 (by decide) ?_
                rw [nI_1']
                exact ihw (c + 1) _ _ (by omega) hrk hi hM hK
              · rw [kB_0] at c_y
                rw [if_neg (by rw [c_y]; decide)] at hi
                rw [← hi, if_neg Bool.false_ne_true] at he
                rw [← he] at F
                refine k_iconst (v := 0) F dX7_doesAll_48 49 rfl (by decide) ?_
                exact k_zret F dX7_doesAll_49 (by first | rfl | exact kzb _ | exact pk_nc _ | decide) (by first | exact Nat.le_of_ble_eq_true rfl | omega) (by first | exact Nat.le_of_ble_eq_true rfl | omega) ⟨rfl, hM, hK⟩
          exact inner n 0 t1 _ (by omega) ht1 rfl hM hK
  refine k_iload_n F dX7_doesAll_0 1 rfl rfl rfl ?_
  refine k_istore_n (lv' := [(0, _), (1, _), (2, _), (3, _)]) F dX7_doesAll_1 2 rfl rfl (Nat.le_of_ble_eq_true rfl) rfl rfl rfl ?_
  exact loop 31 k t _ (by omega) (Nat.le_refl _) hk ht rfl hM hK
theorem zX7_doesAll {l : Launch} {g : kG} (S : kStart l g) {m : Nat} {ad : Nat → Nat} {sc : Nat → Int32} {ar : Nat → Nat → Int32} (u : Nat) (hu : sc 6 = nI u) (hu8 : u ≤ 8) (hs23 : sc 23 = 1) : ∀ (d : Nat) (h : kH) (k e : Nat) (t : ST), k ≤ e → e ≤ 30 → ordOK ar e → nestO ar d k e → STok t → MW h m ad (scD sc t) t.1 ar → kMet l g yX7_doesAll (Cond.code yX7_doesAll cX7_doesAll 5 (Option.some Jvm.ClassFile.FieldType.boolean)) (61 + d) 0 0 [.ref m, .int (nI k), .int (nI e)] h (mDv h m ad (scD sc (doesD ar d k e t).2) (doesD ar d k e t).2.1 ar (.int (kB (doesD ar d k e t).1))) := by
  intro d
  induction d with
  | zero =>
    intro h k e t hk he ho hN ht hM
    exact zX7_doesAllS S hM u hu hu8 hs23 (lvR := 60) (by omega) (fun _ _ t => (true, t)) (fun _ _ => False) (fun _ _ _ z => absurd z id) k e hk he ho ht (fun i a b c => absurd c (hN i a b)) (fun _ _ _ _ z => absurd z id)
  | succ d ih =>
    intro h k e t hk he ho hN ht hM
    refine zX7_doesAllS S hM u hu hu8 hs23 (lvR := 61 + d) (by omega) (doesD ar d) (fun k1 e1 => k1 ≤ e1 ∧ e1 ≤ e ∧ nestO ar d k1 e1) (fun k1 e1 t z ht => doesD_ok he ho d k1 e1 z.2.1 z.2.2 ht) k e hk he ho ht (fun i a b c => ?_) (fun h1 k1 e1 t1 z z1 z2 z3 z4 => ih h1 k1 e1 t1 z1 (by omega) (fun i hi => ho i (by omega)) z.2.2 z3 z4)
    obtain ⟨t, y1, y2, y3, y4⟩ := hN i a b c
    exact ⟨t, y1, y2, y3, by omega, y3, y4⟩
seal doesD doesW
set_option maxHeartbeats 4000000 in
set_option maxRecDepth 100000 in
theorem zX7_play {l : Launch} {g : kG} (S : kStart l g) {h : kH} {m : Nat} {ad : Nat → Nat} {sc R : Nat → Int32} {ar : Nat → Nat → Int32} {N : Nat} {s : SS} (hM : MW h m ad (scT sc s) R ar) (hn : sc 10 = nI N) (hB : BufOK (ar 9) N) (hv : s.1.2.2.2 ≤ 1000) (u : Nat) (hu : sc 6 = nI u) (hu8 : u ≤ 8) (hR : RT R) : kMet l g yX7_play (Cond.code yX7_play cX7_play 2 (Option.some Jvm.ClassFile.FieldType.int)) 80 0 0 [.ref m] h (kV (fun w h' => w = .int (playV R (sc 7) (playQ0 (ar 9) N ar s.1.2.2.2)) ∧ MW h' m ad (playC sc R (playQ0 (ar 9) N ar s.1.2.2.2) u) (playR R (sc 7) (playQ0 (ar 9) N ar s.1.2.2.2)) (playA R (playQ0 (ar 9) N ar s.1.2.2.2) u) ∧ kKp (mOwn m) h h')) := by
  refine kEnter S kd_X7_play (Nat.le_of_ble_eq_true rfl) (fun x F hxl hxg => ?_)
  subst hxl; subst hxg
  have hlv : lv_args 0 [.ref m] = [(0, .ref m)] := rfl
  rw [hlv]
  have hK : kKp (mOwn m) h h := kKp.rf
  refine k_aload_n F dX7_play_0 1 rfl rfl rfl ?_
  refine k_iconst (v := 0) F dX7_play_1 2 rfl (by decide) ?_
  refine m_put F 8 (by decide) (knX7 8) q3600 rfl rfl dX7_play_2 5 rfl hM hK rfl rfl rfl (fun h9 hM hK => ?_)
  rw [scT_upd (by omega)] at hM
  have hn1 : (upd sc 8 0) 10 = nI N := hn
  refine k_aload_n F dX7_play_5 6 rfl rfl rfl ?_
  refine k_callN F kd_X7_starts q3487 q194 (kInvV (Bs := []) F kcX7 q3484 q3486 qs72 kd_X7_starts q3487 dX7_play_6 (kHs.of hM.1) rfl (by decide)) (zX7_starts F.st hM hn1 hB) 9 rfl (Nat.le_of_ble_eq_true rfl) (by first | exact Nat.le_of_ble_eq_true rfl | omega) (by first | exact Nat.le_of_ble_eq_true rfl | omega) (by first | exact Nat.le_of_ble_eq_true rfl | omega) (by first | exact Nat.le_of_ble_eq_true rfl | omega) (fun h1 hr1 => ?_)
  obtain ⟨hM, hK9⟩ := hr1
  have hK := hK.tr hK9
  refine k_aload_n F dX7_play_9 10 rfl rfl rfl ?_
  refine k_iconst (v := 0) F dX7_play_10 11 rfl (by decide) ?_
  refine m_put F 21 (by decide) (knX7 21) q3613 rfl rfl dX7_play_11 14 rfl hM hK rfl rfl rfl (fun h9 hM hK => ?_)
  replace hM : MW h9 m ad (scQ (upd sc 8 0) (startS (ar 9) N s.1.2.2.2, 0, ar)) R ar := by unfold scQ; rw [← scT_upd (by omega)]; exact hM
  have hq0 : QOK (ar 9) N (startS (ar 9) N s.1.2.2.2, 0, ar) := ⟨startS_ok hv, by dsimp only; omega, rfl⟩
  refine k_aload_n F dX7_play_14 15 rfl rfl rfl ?_
  refine k_iconst (v := 0) F dX7_play_15 16 rfl (by decide) ?_
  refine k_callN F kd_X7_readsOrders q3699 q194 (kInvV (Bs := [_]) F kcX7 q3696 q3698 qs98 kd_X7_readsOrders q3699 dX7_play_16 (kHs.of hM.1) rfl (by decide)) (zX7_readsOrders F.st hn1 hB 3 0 (by omega) (N + 2) _ _ hq0 (fun _ _ => by omega) (fun z => absurd z (by omega)) hM) 19 rfl (Nat.le_of_ble_eq_true rfl) (by first | exact Nat.le_of_ble_eq_true rfl | omega) (by first | exact Nat.le_of_ble_eq_true rfl | omega) (by first | exact Nat.le_of_ble_eq_true rfl | omega) (by first | exact Nat.le_of_ble_eq_true rfl | omega) (fun h2 hr2 => ?_)
  obtain ⟨hM, hK9⟩ := hr2
  have hK := hK.tr hK9
  have hq1 := ordersS_ok (B := ar 9) (N := N) (Ls := LsX7) (N + 2) 0 _ hq0
  have hnest := playQ_nest (B := ar 9) (N := N) (ar := ar) hv rfl
  replace hM : MW h2 m ad (scQ (upd sc 8 0) (playQ0 (ar 9) N ar s.1.2.2.2)) R (playQ0 (ar 9) N ar s.1.2.2.2).2.2 := hM
  replace hq1 : QOK (ar 9) N (playQ0 (ar 9) N ar s.1.2.2.2) := hq1
  generalize playQ0 (ar 9) N ar s.1.2.2.2 = q at hM hq1 hnest F
  obtain ⟨qs, qo, qa⟩ := q
  obtain ⟨hq2, hq3, hq4⟩ := hq1
  dsimp only at hq2 hq3 hq4
  have eqs : playS (qs, qo, qa) = mustS (decide (qs.1.2.2.1 = 0)) 1 qs := rfl
  unfold playV playC playR playA playT at F
  have hqk := hq2.1.2.2.1
  replace hM : MW h2 m ad (scT (upd (upd sc 8 0) 21 (nI qo)) qs) R qa := hM
  refine k_aload_n F dX7_play_19 20 rfl rfl rfl ?_
  refine k_aload_n F dX7_play_20 21 rfl rfl rfl ?_
  refine m_get F 14 (by decide) q3606 rfl dX7_play_21 24 rfl hM rfl ?_
  refine k_topi (b := nI qs.1.2.2.1) rfl ?_
  have go1 : ∀ b1 : Bool, b1 = decide (qs.1.2.2.1 = 0) → kW x 0 0 h2 32 [(0, .ref m)] [.int (kB b1), .ref m] := by
    intro b1 hb1
    have hBq : BufOK (qa 9) N := by rw [hq4]; exact hB
    refine k_iconst (v := 1) F dX7_play_32 33 rfl (by decide) ?_
    refine k_callV F kd_X7_must q3512 q194 (kInvV (Bs := [_, _]) F kcX7 q3509 q3511 qs77 kd_X7_must q3512 dX7_play_33 (kHs.of hM.1) rfl (by decide)) (zX7_must F.st hM hn hBq (by repeat' (first | assumption | with_reducible refine passS_ok ?_ | with_reducible refine lookS_ok ?_ | with_reducible refine numS_ok ?_ | with_reducible refine signS_ok ?_ | with_reducible refine goS_ok ?_ | with_reducible refine mustS_ok ?_ (by omega))) _ 1 (by omega) (by omega)) 36 rfl (Nat.le_of_ble_eq_true rfl) (by first | exact Nat.le_of_ble_eq_true rfl | omega) (by first | exact Nat.le_of_ble_eq_true rfl | omega) (by first | exact Nat.le_of_ble_eq_true rfl | omega) (by first | exact Nat.le_of_ble_eq_true rfl | omega) (fun r3 h3 hr3 => ?_)
    obtain ⟨rfl, hM, hK9⟩ := hr3
    have hK := hK.tr hK9
    refine k_pop F dX7_play_36 37 rfl rfl ?_
    refine k_aload_n F dX7_play_37 38 rfl rfl rfl ?_
    refine k_iconst (v := 0) F dX7_play_38 39 rfl (by decide) ?_
    rw [← hb1] at eqs
    rw [eqs] at F hnest
    dsimp only at F hnest
    have hs2 : SOK N (mustS b1 1 qs) := (by repeat' (first | assumption | with_reducible refine passS_ok ?_ | with_reducible refine lookS_ok ?_ | with_reducible refine numS_ok ?_ | with_reducible refine signS_ok ?_ | with_reducible refine goS_ok ?_ | with_reducible refine mustS_ok ?_ (by omega)))
    generalize mustS b1 1 qs = s2 at F hnest hs2 hM
    refine m_put F 10 (by decide) (knX7 10) q3602 rfl rfl dX7_play_39 42 rfl hM hK rfl rfl rfl (fun h9 hM hK => ?_)
    rw [scT_upd (by omega)] at hM
    have h25 := hs2.2
    refine k_aload_n F dX7_play_42 43 rfl rfl rfl ?_
    refine m_get F 16 (by decide) q3608 rfl dX7_play_43 46 rfl hM rfl ?_
    refine k_topi (b := nI s2.2.1) rfl ?_
    refine k_ifeq F dX7_play_46 49 57 rfl (by decide) (fun c_a => ?_) (fun c_a => ?_)
    · rw [nI_0E (by omega)] at c_a
      obtain ⟨hn1, hn2⟩ := hnest c_a
      rw [if_pos c_a, if_pos c_a, if_pos c_a, if_pos c_a] at F
      have hu1 : (upd (upd (upd sc 8 0) 21 (nI qo)) 10 0) 6 = nI u := hu
      refine k_aload_n F dX7_play_57 58 rfl rfl rfl ?_
      refine k_callN F kd_X7_keeps q3733 q194 (kInvV (Bs := []) F kcX7 q3730 q3732 qs104 kd_X7_keeps q3733 dX7_play_58 (kHs.of hM.1) rfl (by decide)) (zX7_keeps F.st hM u ((scT_at (by omega)).trans hu1) hu8) 61 rfl (Nat.le_of_ble_eq_true rfl) (by first | exact Nat.le_of_ble_eq_true rfl | omega) (by first | exact Nat.le_of_ble_eq_true rfl | omega) (by first | exact Nat.le_of_ble_eq_true rfl | omega) (by first | exact Nat.le_of_ble_eq_true rfl | omega) (fun h4 hr4 => ?_)
      obtain ⟨hM, hK9⟩ := hr4
      have hK := hK.tr hK9
      refine k_aload_n F dX7_play_61 62 rfl rfl rfl ?_
      refine k_iconst (v := 1) F dX7_play_62 63 rfl (by decide) ?_
      refine m_put F 23 (by decide) (knX7 23) q3615 rfl rfl dX7_play_63 66 rfl hM hK rfl rfl rfl (fun h9 hM hK => ?_)
      refine k_aload_n F dX7_play_66 67 rfl rfl rfl ?_
      refine k_iconst (v := 0) F dX7_play_67 68 rfl (by decide) ?_
      refine m_put F 22 (by decide) (knX7 22) q3614 rfl rfl dX7_play_68 71 rfl hM hK rfl rfl rfl (fun h9 hM hK => ?_)
      have hu2 : keepU u + 1 ≤ 8 := by unfold keepU; split <;> omega
      replace hM : MW h9 m ad (scD (playC0 sc qo s2 u 1) (R, sc 7, 0)) R (setA qa 3 (keepE R (qa 3) u)) := by
        rw [playC0_D]
        exact hM
      have ho2 : ordOK (setA qa 3 (keepE R (qa 3) u)) qo := hn1
      have hns2 : nestO (setA qa 3 (keepE R (qa 3) u)) 3 0 qo := nestO_congr (fun _ _ => rfl) (fun _ _ => rfl) hn2
      refine k_aload_n F dX7_play_71 72 rfl rfl rfl ?_
      refine k_iconst (v := 0) F dX7_play_72 73 rfl (by decide) ?_
      refine k_aload_n F dX7_play_73 74 rfl rfl rfl ?_
      refine m_get F 21 (by decide) q3613 rfl dX7_play_74 77 rfl hM rfl ?_
      refine k_topi (b := nI qo) playC0_21 ?_
      refine k_callV F kd_X7_doesAll q3737 q194 (kInvV (Bs := [_, _]) F kcX7 q3734 q3736 qs105 kd_X7_doesAll q3737 dX7_play_77 (kHs.of hM.1) rfl (by decide)) (zX7_doesAll F.st (sc := playC0 sc qo s2 u 1) (keepU u + 1) playC0_6 hu2 playC0_23 3 _ 0 qo (R, sc 7, 0) (by omega) hq3 ho2 hns2 ⟨hR, by dsimp only; omega⟩ hM) 80 rfl (Nat.le_of_ble_eq_true rfl) (by first | exact Nat.le_of_ble_eq_true rfl | omega) (by first | exact Nat.le_of_ble_eq_true rfl | omega) (by first | exact Nat.le_of_ble_eq_true rfl | omega) (by first | exact Nat.le_of_ble_eq_true rfl | omega) (fun r5 h5 hr5 => ?_)
      obtain ⟨rfl, hM, hK9⟩ := hr5
      have hK := hK.tr hK9
      have ed : doesD (setA qa 3 (keepE R (qa 3) u)) 3 0 qo (R, sc 7, 0) = doesD qa 3 0 qo (R, sc 7, 0) := doesD_congr (ar := qa) (ar' := setA qa 3 (keepE R (qa 3) u)) (fun _ => rfl) (fun _ => rfl) (fun _ => rfl) (fun _ => rfl) 3 0 qo _
      rw [ed] at hM
      refine k_istore_n (lv' := [(0, _), (1, _)]) F dX7_play_80 81 rfl rfl (Nat.le_of_ble_eq_true rfl) rfl rfl rfl ?_
      refine k_aload_n F dX7_play_81 82 rfl rfl rfl ?_
      refine k_iconst (v := 0) F dX7_play_82 83 rfl (by decide) ?_
      refine m_put F 23 (by decide) (knX7 23) q3615 rfl rfl dX7_play_83 86 rfl hM hK rfl rfl rfl (fun h9 hM hK => ?_)
      rw [playC0_end] at hM
      refine k_aload_n F dX7_play_86 87 rfl rfl rfl ?_
      refine m_get F 22 (by decide) q3614 rfl dX7_play_87 90 rfl hM rfl ?_
      exact k_iret F dX7_play_90 (by first | exact Nat.le_of_ble_eq_true rfl | omega) (by first | exact Nat.le_of_ble_eq_true rfl | omega) ⟨by rw [scD_22], hM, hK⟩
    · rw [nI_0E (by omega)] at c_a
      rw [if_neg c_a, if_neg c_a, if_neg c_a, if_neg c_a] at F
      refine k_bipush (v := (-20)) F dX7_play_49 51 rfl (by decide) ?_
      refine k_aload_n F dX7_play_51 52 rfl rfl rfl ?_
      refine m_get F 16 (by decide) q3608 rfl dX7_play_52 55 rfl hM rfl ?_
      refine k_topi (b := nI s2.2.1) rfl ?_
      refine k_isub F dX7_play_55 56 rfl ?_
      exact k_iret F dX7_play_56 (by first | exact Nat.le_of_ble_eq_true rfl | omega) (by first | exact Nat.le_of_ble_eq_true rfl | omega) ⟨rfl, hM, hK⟩
  refine k_ifne F dX7_play_24 27 31 rfl (by decide) (fun z6 => ?_) (fun z6 => ?_)
  · refine k_iconst (v := 0) F dX7_play_31 32 rfl (by decide) ?_
    exact go1 false (by (try simp (disch := omega) only [nI_0E, nI_inj, nI_leE, nI_ltE, kB_0, kB_1, Bool.not_eq_false, Bool.not_eq_true] at z6) <;> (try simp (disch := omega) [z6]) <;> (try omega))
  · refine k_iconst (v := 1) F dX7_play_27 28 rfl (by decide) ?_
    refine k_goto F dX7_play_28 32 (by decide) ?_
    exact go1 true (by (try simp (disch := omega) only [nI_0E, nI_inj, nI_leE, nI_ltE, kB_0, kB_1, Bool.not_eq_false, Bool.not_eq_true] at z6) <;> (try simp (disch := omega) [z6]) <;> (try omega))
end

