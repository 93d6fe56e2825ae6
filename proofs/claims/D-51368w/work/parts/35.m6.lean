/-! the reference: public questions, two numbers each (printed by gen5.py) -/
set_option maxHeartbeats 4000000 in
set_option maxRecDepth 100000 in
theorem zX7_arm {l : Launch} {g : kG} (S : kStart l g) {h : kH} {m : Nat} {ad : Nat → Nat} {sc R : Nat → Int32} {ar : Nat → Nat → Int32} (hM : MW h m ad sc R ar) (hR : RV R) (v w : Int32) : kMet l g yX7_arm (Cond.code yX7_arm cX7_arm 3 (Option.some Jvm.ClassFile.FieldType.int)) 4 0 0 [.ref m, .int v, .int w] h (mAn h m ad sc R ar (oArm R v w)) := by
  refine kEnter S kd_X7_arm (Nat.le_of_ble_eq_true rfl) (fun x F hxl hxg => ?_)
  subst hxl; subst hxg
  have hlv : lv_args 0 [.ref m, .int v, .int w] = [(0, .ref m), (1, .int v), (2, .int w)] := rfl
  rw [hlv]
  have hK : kKp (mOwn m) h h := kKp.rf
  obtain ⟨r1, r2, r3, r4, r5, r6, r7, r8⟩ := id hR
  refine k_aload_n F dX7_arm_0 1 rfl rfl rfl ?_
  refine k_iconst (v := 0) F dX7_arm_1 2 rfl (by decide) ?_
  refine m_put F 8 (by decide) (knX7 8) q3600 rfl rfl dX7_arm_2 5 rfl hM hK rfl rfl rfl (fun h9 hM hK => ?_)
  refine k_aload_n F dX7_arm_5 6 rfl rfl rfl ?_
  refine k_aload_n F dX7_arm_6 7 rfl rfl rfl ?_
  refine k_iload_n F dX7_arm_7 8 rfl rfl rfl ?_
  refine k_callV F kd_X7_isArm q3862 q194 (kInvV (Bs := [_]) F kcX7 q3859 q3861 qs134 kd_X7_isArm q3862 dX7_arm_8 (kHs.of hM.1) rfl (by decide)) (zX7_isArm F.st hM _) 11 rfl (Nat.le_of_ble_eq_true rfl) (by first | exact Nat.le_of_ble_eq_true rfl | omega) (by first | exact Nat.le_of_ble_eq_true rfl | omega) (by first | exact Nat.le_of_ble_eq_true rfl | omega) (by first | exact Nat.le_of_ble_eq_true rfl | omega) (fun r1 h1 hr1 => ?_)
  obtain ⟨rfl, rfl⟩ := hr1
  rw [r1]
  have fail : oArm R v w = none → ∀ h1, MW h1 m ad (upd sc 8 0) R ar → kKp (mOwn m) h h1 → kW x 0 0 h1 29 [(0, .ref m), (1, .int v), (2, .int w)] [.int (kB false), .ref m] := by
    intro ho h1 hM hK
    rw [ho] at F
    refine k_callV F kd_X7_right q3850 q194 (kInvV (Bs := [_]) F kcX7 q3847 q3849 qs132 kd_X7_right q3850 dX7_arm_29 (kHs.of hM.1) rfl (by decide)) (zX7_right F.st hM false) 32 rfl (Nat.le_of_ble_eq_true rfl) (by first | exact Nat.le_of_ble_eq_true rfl | omega) (by first | exact Nat.le_of_ble_eq_true rfl | omega) (by first | exact Nat.le_of_ble_eq_true rfl | omega) (by first | exact Nat.le_of_ble_eq_true rfl | omega) (fun r2 h2 hr2 => ?_)
    obtain ⟨rfl, hM, hK9⟩ := hr2
    have hK := hK.tr hK9
    refine k_ifne F dX7_arm_32 35 37 rfl (by decide) (fun c_z => ?_) (fun c_z => ?_)
    · exact absurd rfl c_z
    · refine k_iconst (v := 0) F dX7_arm_35 36 rfl (by decide) ?_
      exact k_iret F dX7_arm_36 (by first | exact Nat.le_of_ble_eq_true rfl | omega) (by first | exact Nat.le_of_ble_eq_true rfl | omega) ⟨rfl, hM, hK⟩
  cases q1 : ixO v (rA R) with
  | none =>
    rw [ixO_n q1]
    refine k_ifeq F dX7_arm_11 14 28 rfl (by decide) (fun c_a => ?_) (fun c_a => ?_)
    · refine k_iconst (v := 0) F dX7_arm_28 29 rfl (by decide) ?_
      exact fail (by simp [oArm, o2, q1]) _ hM hK
    · exact absurd rfl c_a
  | some a =>
    obtain ⟨ha, rfl⟩ := ixO_lt (by omega) q1
    rw [ixO_s q1]
    refine k_ifeq F dX7_arm_11 14 28 rfl (by decide) (fun c_b => ?_) (fun c_b => ?_)
    · exact absurd c_b (by decide)
    · refine k_iload_n F dX7_arm_14 15 rfl rfl rfl ?_
      refine k_iconst (v := 0) F dX7_arm_15 16 rfl (by decide) ?_
      refine k_bipush (v := 9) F dX7_arm_16 18 rfl (by decide) ?_
      refine k_callV F kd_X7_in q3498 q194 (kInvS (Bs := [_, _, _]) F q3496 q3497 q194 kd_X7_in q3498 dX7_arm_18 rfl (by decide)) (zX7_in F.st _ _ _) 21 rfl (Nat.le_of_ble_eq_true rfl) (by first | exact Nat.le_of_ble_eq_true rfl | omega) (by first | exact Nat.le_of_ble_eq_true rfl | omega) (by first | exact Nat.le_of_ble_eq_true rfl | omega) (by first | exact Nat.le_of_ble_eq_true rfl | omega) (fun r3 h3 hr3 => ?_)
      obtain ⟨rfl, rfl⟩ := hr3
      rw [show (9 : Int32) = nI 10 - 1 from by decide]
      have hn2 : (10 : Nat) < 2 ^ 30 := by omega
      cases q2 : ixO w (10) with
      | none =>
        rw [ixO_n q2]
        refine k_ifeq F dX7_arm_21 24 28 rfl (by decide) (fun c_d => ?_) (fun c_d => ?_)
        · refine k_iconst (v := 0) F dX7_arm_28 29 rfl (by decide) ?_
          exact fail (by simp [oArm, o2, q1, q2]) _ hM hK
        · exact absurd rfl c_d
      | some k =>
        obtain ⟨hk, rfl⟩ := ixO_lt hn2 q2
        rw [ixO_s q2]
        refine k_ifeq F dX7_arm_21 24 28 rfl (by decide) (fun c_e => ?_) (fun c_e => ?_)
        · exact absurd c_e (by decide)
        · refine k_iconst (v := 1) F dX7_arm_24 25 rfl (by decide) ?_
          refine k_goto F dX7_arm_25 29 (by decide) ?_
          refine k_callV F kd_X7_right q3850 q194 (kInvV (Bs := [_]) F kcX7 q3847 q3849 qs132 kd_X7_right q3850 dX7_arm_29 (kHs.of hM.1) rfl (by decide)) (zX7_right F.st hM true) 32 rfl (Nat.le_of_ble_eq_true rfl) (by first | exact Nat.le_of_ble_eq_true rfl | omega) (by first | exact Nat.le_of_ble_eq_true rfl | omega) (by first | exact Nat.le_of_ble_eq_true rfl | omega) (by first | exact Nat.le_of_ble_eq_true rfl | omega) (fun r4 h4 hr4 => ?_)
          obtain ⟨rfl, hM, hK9⟩ := hr4
          have hK := hK.tr hK9
          have ho : oArm R (nI a) (nI k) = some (armF R a k) := by simp [oArm, o2, q1, q2]
          rw [ho] at F
          replace hM : MW _ m ad (upd sc 8 0) R ar := hM
          refine k_ifne F dX7_arm_32 35 37 rfl (by decide) (fun c_g => ?_) (fun c_g => ?_)
          · refine k_iload_n F dX7_arm_37 38 rfl rfl rfl ?_
            rcases (show k = 0 ∨ k = 1 ∨ k = 2 ∨ k = 3 ∨ k = 4 ∨ k = 5 ∨ k = 6 ∨ k = 7 ∨ k = 8 ∨ k = 9 by omega) with rfl | rfl | rfl | rfl | rfl | rfl | rfl | rfl | rfl | rfl
            · refine k_tableIn F dX7_arm_38 88 (by decide) (by decide) (by rfl) (by decide) ?_
              refine k_aload_n F dX7_arm_88 89 rfl rfl rfl ?_
              refine k_iload_n F dX7_arm_89 90 rfl rfl rfl ?_
              refine k_callV F kd_X7_lightOf q3773 q194 (kInvV (Bs := [_]) F kcX7 q3770 q3772 qs114 kd_X7_lightOf q3773 dX7_arm_90 (kHs.of hM.1) rfl (by decide)) (zX7_lightOf F.st hM hR a (by omega)) 93 rfl (Nat.le_of_ble_eq_true rfl) (by first | exact Nat.le_of_ble_eq_true rfl | omega) (by first | exact Nat.le_of_ble_eq_true rfl | omega) (by first | exact Nat.le_of_ble_eq_true rfl | omega) (by first | exact Nat.le_of_ble_eq_true rfl | omega) (fun r5 h5 hr5 => ?_)
              obtain ⟨rfl, rfl⟩ := hr5
              exact k_iret F dX7_arm_93 (by first | exact Nat.le_of_ble_eq_true rfl | omega) (by first | exact Nat.le_of_ble_eq_true rfl | omega) ⟨rfl, hM, hK⟩
            · refine k_tableIn F dX7_arm_38 94 (by decide) (by decide) (by rfl) (by decide) ?_
              refine k_aload_n F dX7_arm_94 95 rfl rfl rfl ?_
              refine k_iload_n F dX7_arm_95 96 rfl rfl rfl ?_
              refine k_iconst (v := 3) F dX7_arm_96 97 rfl (by decide) ?_
              refine k_callV F kd_X7_of q3549 q194 (kInvV (Bs := [_, _]) F kcX7 q3546 q3548 qs86 kd_X7_of q3549 dX7_arm_97 (kHs.of hM.1) rfl (by decide)) (zX7_of F.st hM a 3 (by omega)) 100 rfl (Nat.le_of_ble_eq_true rfl) (by first | exact Nat.le_of_ble_eq_true rfl | omega) (by first | exact Nat.le_of_ble_eq_true rfl | omega) (by first | exact Nat.le_of_ble_eq_true rfl | omega) (by first | exact Nat.le_of_ble_eq_true rfl | omega) (fun r6 h6 hr6 => ?_)
              obtain ⟨rfl, rfl⟩ := hr6
              exact k_iret F dX7_arm_100 (by first | exact Nat.le_of_ble_eq_true rfl | omega) (by first | exact Nat.le_of_ble_eq_true rfl | omega) ⟨rfl, hM, hK⟩
            · refine k_tableIn F dX7_arm_38 101 (by decide) (by decide) (by rfl) (by decide) ?_
              refine k_aload_n F dX7_arm_101 102 rfl rfl rfl ?_
              refine k_iload_n F dX7_arm_102 103 rfl rfl rfl ?_
              refine k_iconst (v := 1) F dX7_arm_103 104 rfl (by decide) ?_
              refine k_callV F kd_X7_of q3549 q194 (kInvV (Bs := [_, _]) F kcX7 q3546 q3548 qs86 kd_X7_of q3549 dX7_arm_104 (kHs.of hM.1) rfl (by decide)) (zX7_of F.st hM a 1 (by omega)) 107 rfl (Nat.le_of_ble_eq_true rfl) (by first | exact Nat.le_of_ble_eq_true rfl | omega) (by first | exact Nat.le_of_ble_eq_true rfl | omega) (by first | exact Nat.le_of_ble_eq_true rfl | omega) (by first | exact Nat.le_of_ble_eq_true rfl | omega) (fun r7 h7 hr7 => ?_)
              obtain ⟨rfl, rfl⟩ := hr7
              exact k_iret F dX7_arm_107 (by first | exact Nat.le_of_ble_eq_true rfl | omega) (by first | exact Nat.le_of_ble_eq_true rfl | omega) ⟨rfl, hM, hK⟩
            · refine k_tableIn F dX7_arm_38 108 (by decide) (by decide) (by rfl) (by decide) ?_
              refine k_aload_n F dX7_arm_108 109 rfl rfl rfl ?_
              refine k_iload_n F dX7_arm_109 110 rfl rfl rfl ?_
              refine k_iconst (v := 2) F dX7_arm_110 111 rfl (by decide) ?_
              refine k_callV F kd_X7_of q3549 q194 (kInvV (Bs := [_, _]) F kcX7 q3546 q3548 qs86 kd_X7_of q3549 dX7_arm_111 (kHs.of hM.1) rfl (by decide)) (zX7_of F.st hM a 2 (by omega)) 114 rfl (Nat.le_of_ble_eq_true rfl) (by first | exact Nat.le_of_ble_eq_true rfl | omega) (by first | exact Nat.le_of_ble_eq_true rfl | omega) (by first | exact Nat.le_of_ble_eq_true rfl | omega) (by first | exact Nat.le_of_ble_eq_true rfl | omega) (fun r8 h8 hr8 => ?_)
              obtain ⟨rfl, rfl⟩ := hr8
              exact k_iret F dX7_arm_114 (by first | exact Nat.le_of_ble_eq_true rfl | omega) (by first | exact Nat.le_of_ble_eq_true rfl | omega) ⟨rfl, hM, hK⟩
            · refine k_tableIn F dX7_arm_38 115 (by decide) (by decide) (by rfl) (by decide) ?_
              refine k_aload_n F dX7_arm_115 116 rfl rfl rfl ?_
              refine k_iload_n F dX7_arm_116 117 rfl rfl rfl ?_
              refine k_callV F kd_X7_asks q3797 q194 (kInvV (Bs := [_]) F kcX7 q3794 q3796 qs120 kd_X7_asks q3797 dX7_arm_117 (kHs.of hM.1) rfl (by decide)) (zX7_asks F.st hM a (by omega)) 120 rfl (Nat.le_of_ble_eq_true rfl) (by first | exact Nat.le_of_ble_eq_true rfl | omega) (by first | exact Nat.le_of_ble_eq_true rfl | omega) (by first | exact Nat.le_of_ble_eq_true rfl | omega) (by first | exact Nat.le_of_ble_eq_true rfl | omega) (fun r9 h9 hr9 => ?_)
              obtain ⟨rfl, rfl⟩ := hr9
              refine k_ifeq F dX7_arm_120 123 127 rfl (by decide) (fun c_l => ?_) (fun c_l => ?_)
              · rw [kB_0] at c_l
                refine k_iconst (v := 0) F dX7_arm_127 128 rfl (by decide) ?_
                exact k_iret F dX7_arm_128 (by first | exact Nat.le_of_ble_eq_true rfl | omega) (by first | exact Nat.le_of_ble_eq_true rfl | omega) ⟨by show Value.int (kB (asksF R a)) = _; rw [c_l]; rfl, hM, hK⟩
              · rw [kB_0, Bool.not_eq_false] at c_l
                refine k_iconst (v := 1) F dX7_arm_123 124 rfl (by decide) ?_
                refine k_goto F dX7_arm_124 128 (by decide) ?_
                exact k_iret F dX7_arm_128 (by first | exact Nat.le_of_ble_eq_true rfl | omega) (by first | exact Nat.le_of_ble_eq_true rfl | omega) ⟨by show Value.int (kB (asksF R a)) = _; rw [c_l]; rfl, hM, hK⟩
            · refine k_tableIn F dX7_arm_38 129 (by decide) (by decide) (by rfl) (by decide) ?_
              refine k_aload_n F dX7_arm_129 130 rfl rfl rfl ?_
              refine k_iload_n F dX7_arm_130 131 rfl rfl rfl ?_
              refine k_callV F kd_X7_phasesOf q3866 q194 (kInvV (Bs := [_]) F kcX7 q3863 q3865 qs135 kd_X7_phasesOf q3866 dX7_arm_131 (kHs.of hM.1) rfl (by decide)) (zX7_phasesOf F.st hM hR a (by omega)) 134 rfl (Nat.le_of_ble_eq_true rfl) (by first | exact Nat.le_of_ble_eq_true rfl | omega) (by first | exact Nat.le_of_ble_eq_true rfl | omega) (by first | exact Nat.le_of_ble_eq_true rfl | omega) (by first | exact Nat.le_of_ble_eq_true rfl | omega) (fun r10 h10 hr10 => ?_)
              obtain ⟨rfl, rfl⟩ := hr10
              exact k_iret F dX7_arm_134 (by first | exact Nat.le_of_ble_eq_true rfl | omega) (by first | exact Nat.le_of_ble_eq_true rfl | omega) ⟨rfl, hM, hK⟩
            · refine k_tableIn F dX7_arm_38 135 (by decide) (by decide) (by rfl) (by decide) ?_
              refine k_aload_n F dX7_arm_135 136 rfl rfl rfl ?_
              refine k_iload_n F dX7_arm_136 137 rfl rfl rfl ?_
              refine k_callV F kd_X7_clashesOf q3870 q194 (kInvV (Bs := [_]) F kcX7 q3867 q3869 qs136 kd_X7_clashesOf q3870 dX7_arm_137 (kHs.of hM.1) rfl (by decide)) (zX7_clashesOf F.st hM hR a (by omega)) 140 rfl (Nat.le_of_ble_eq_true rfl) (by first | exact Nat.le_of_ble_eq_true rfl | omega) (by first | exact Nat.le_of_ble_eq_true rfl | omega) (by first | exact Nat.le_of_ble_eq_true rfl | omega) (by first | exact Nat.le_of_ble_eq_true rfl | omega) (fun r11 h11 hr11 => ?_)
              obtain ⟨rfl, rfl⟩ := hr11
              exact k_iret F dX7_arm_140 (by first | exact Nat.le_of_ble_eq_true rfl | omega) (by first | exact Nat.le_of_ble_eq_true rfl | omega) ⟨rfl, hM, hK⟩
            · refine k_tableIn F dX7_arm_38 141 (by decide) (by decide) (by rfl) (by decide) ?_
              refine k_aload_n F dX7_arm_141 142 rfl rfl rfl ?_
              refine k_iload_n F dX7_arm_142 143 rfl rfl rfl ?_
              refine k_iconst (v := 4) F dX7_arm_143 144 rfl (by decide) ?_
              refine k_callV F kd_X7_of q3549 q194 (kInvV (Bs := [_, _]) F kcX7 q3546 q3548 qs86 kd_X7_of q3549 dX7_arm_144 (kHs.of hM.1) rfl (by decide)) (zX7_of F.st hM a 4 (by omega)) 147 rfl (Nat.le_of_ble_eq_true rfl) (by first | exact Nat.le_of_ble_eq_true rfl | omega) (by first | exact Nat.le_of_ble_eq_true rfl | omega) (by first | exact Nat.le_of_ble_eq_true rfl | omega) (by first | exact Nat.le_of_ble_eq_true rfl | omega) (fun r12 h12 hr12 => ?_)
              obtain ⟨rfl, rfl⟩ := hr12
              exact k_iret F dX7_arm_147 (by first | exact Nat.le_of_ble_eq_true rfl | omega) (by first | exact Nat.le_of_ble_eq_true rfl | omega) ⟨rfl, hM, hK⟩
            · refine k_tableIn F dX7_arm_38 148 (by decide) (by decide) (by rfl) (by decide) ?_
              refine k_aload_n F dX7_arm_148 149 rfl rfl rfl ?_
              refine k_iload_n F dX7_arm_149 150 rfl rfl rfl ?_
              refine k_iconst (v := 3) F dX7_arm_150 151 rfl (by decide) ?_
              refine k_callV F kd_X7_of q3549 q194 (kInvV (Bs := [_, _]) F kcX7 q3546 q3548 qs86 kd_X7_of q3549 dX7_arm_151 (kHs.of hM.1) rfl (by decide)) (zX7_of F.st hM a 3 (by omega)) 154 rfl (Nat.le_of_ble_eq_true rfl) (by first | exact Nat.le_of_ble_eq_true rfl | omega) (by first | exact Nat.le_of_ble_eq_true rfl | omega) (by first | exact Nat.le_of_ble_eq_true rfl | omega) (by first | exact Nat.le_of_ble_eq_true rfl | omega) (fun r13 h13 hr13 => ?_)
              obtain ⟨rfl, rfl⟩ := hr13
              refine k_ifne F dX7_arm_154 157 161 rfl (by decide) (fun c_l => ?_) (fun c_l => ?_)
              · refine k_aload_n F dX7_arm_161 162 rfl rfl rfl ?_
                refine m_get F 0 (by decide) q3592 rfl dX7_arm_162 165 rfl hM rfl ?_
                refine k_iconst (v := 5) F dX7_arm_165 166 rfl (by decide) ?_
                refine m_ld F dX7_arm_166 167 rfl hM (5) (by first | (with_reducible rfl) | (simp only [nI_lit, pk_mul, nI_add])) (by omega) ?_
                refine k_aload_n F dX7_arm_167 168 rfl rfl rfl ?_
                refine k_iload_n F dX7_arm_168 169 rfl rfl rfl ?_
                refine k_iconst (v := 0) F dX7_arm_169 170 rfl (by decide) ?_
                refine k_callV F kd_X7_carAt q3781 q194 (kInvV (Bs := [_, _]) F kcX7 q3778 q3780 qs116 kd_X7_carAt q3781 dX7_arm_170 (kHs.of hM.1) rfl (by decide)) (zX7_carAt F.st hM a 0 (by omega)) 173 rfl (Nat.le_of_ble_eq_true rfl) (by first | exact Nat.le_of_ble_eq_true rfl | omega) (by first | exact Nat.le_of_ble_eq_true rfl | omega) (by first | exact Nat.le_of_ble_eq_true rfl | omega) (by first | exact Nat.le_of_ble_eq_true rfl | omega) (fun r14 h14 hr14 => ?_)
                obtain ⟨rfl, rfl⟩ := hr14
                refine k_isub F dX7_arm_173 174 rfl ?_
                exact k_iret F dX7_arm_174 (by first | exact Nat.le_of_ble_eq_true rfl | omega) (by first | exact Nat.le_of_ble_eq_true rfl | omega) ⟨by show Value.int (if mOf R a 3 = 0 then 0 else R 5 - mCar R a 0) = _; rw [if_neg c_l], hM, hK⟩
              · refine k_iconst (v := 0) F dX7_arm_157 158 rfl (by decide) ?_
                refine k_goto F dX7_arm_158 174 (by decide) ?_
                exact k_iret F dX7_arm_174 (by first | exact Nat.le_of_ble_eq_true rfl | omega) (by first | exact Nat.le_of_ble_eq_true rfl | omega) ⟨by show Value.int (if mOf R a 3 = 0 then 0 else R 5 - mCar R a 0) = _; rw [if_pos c_l], hM, hK⟩
            · refine k_tableOut F dX7_arm_38 175 (by decide) (by decide) ?_
              refine k_aload_n F dX7_arm_175 176 rfl rfl rfl ?_
              refine k_iload_n F dX7_arm_176 177 rfl rfl rfl ?_
              refine k_iconst (v := 5) F dX7_arm_177 178 rfl (by decide) ?_
              refine k_callV F kd_X7_of q3549 q194 (kInvV (Bs := [_, _]) F kcX7 q3546 q3548 qs86 kd_X7_of q3549 dX7_arm_178 (kHs.of hM.1) rfl (by decide)) (zX7_of F.st hM a 5 (by omega)) 181 rfl (Nat.le_of_ble_eq_true rfl) (by first | exact Nat.le_of_ble_eq_true rfl | omega) (by first | exact Nat.le_of_ble_eq_true rfl | omega) (by first | exact Nat.le_of_ble_eq_true rfl | omega) (by first | exact Nat.le_of_ble_eq_true rfl | omega) (fun r15 h15 hr15 => ?_)
              obtain ⟨rfl, rfl⟩ := hr15
              exact k_iret F dX7_arm_181 (by first | exact Nat.le_of_ble_eq_true rfl | omega) (by first | exact Nat.le_of_ble_eq_true rfl | omega) ⟨rfl, hM, hK⟩
          · exact absurd c_g (by decide)
set_option maxHeartbeats 4000000 in
set_option maxRecDepth 100000 in
theorem zX7_phase {l : Launch} {g : kG} (S : kStart l g) {h : kH} {m : Nat} {ad : Nat → Nat} {sc R : Nat → Int32} {ar : Nat → Nat → Int32} (hM : MW h m ad sc R ar) (hR : RV R) (v w : Int32) : kMet l g yX7_phase (Cond.code yX7_phase cX7_phase 3 (Option.some Jvm.ClassFile.FieldType.int)) 4 0 0 [.ref m, .int v, .int w] h (mAn h m ad sc R ar (oPhase R v w)) := by
  refine kEnter S kd_X7_phase (Nat.le_of_ble_eq_true rfl) (fun x F hxl hxg => ?_)
  subst hxl; subst hxg
  have hlv : lv_args 0 [.ref m, .int v, .int w] = [(0, .ref m), (1, .int v), (2, .int w)] := rfl
  rw [hlv]
  have hK : kKp (mOwn m) h h := kKp.rf
  obtain ⟨r1, r2, r3, r4, r5, r6, r7, r8⟩ := id hR
  refine k_aload_n F dX7_phase_0 1 rfl rfl rfl ?_
  refine k_iconst (v := 0) F dX7_phase_1 2 rfl (by decide) ?_
  refine m_put F 8 (by decide) (knX7 8) q3600 rfl rfl dX7_phase_2 5 rfl hM hK rfl rfl rfl (fun h9 hM hK => ?_)
  refine k_aload_n F dX7_phase_5 6 rfl rfl rfl ?_
  refine k_aload_n F dX7_phase_6 7 rfl rfl rfl ?_
  refine k_iload_n F dX7_phase_7 8 rfl rfl rfl ?_
  refine k_callV F kd_X7_isPhase q3826 q194 (kInvV (Bs := [_]) F kcX7 q3823 q3825 qs127 kd_X7_isPhase q3826 dX7_phase_8 (kHs.of hM.1) rfl (by decide)) (zX7_isPhase F.st hM _) 11 rfl (Nat.le_of_ble_eq_true rfl) (by first | exact Nat.le_of_ble_eq_true rfl | omega) (by first | exact Nat.le_of_ble_eq_true rfl | omega) (by first | exact Nat.le_of_ble_eq_true rfl | omega) (by first | exact Nat.le_of_ble_eq_true rfl | omega) (fun r1 h1 hr1 => ?_)
  obtain ⟨rfl, rfl⟩ := hr1
  rw [r3]
  have fail : oPhase R v w = none → ∀ h1, MW h1 m ad (upd sc 8 0) R ar → kKp (mOwn m) h h1 → kW x 0 0 h1 29 [(0, .ref m), (1, .int v), (2, .int w)] [.int (kB false), .ref m] := by
    intro ho h1 hM hK
    rw [ho] at F
    refine k_callV F kd_X7_right q3850 q194 (kInvV (Bs := [_]) F kcX7 q3847 q3849 qs132 kd_X7_right q3850 dX7_phase_29 (kHs.of hM.1) rfl (by decide)) (zX7_right F.st hM false) 32 rfl (Nat.le_of_ble_eq_true rfl) (by first | exact Nat.le_of_ble_eq_true rfl | omega) (by first | exact Nat.le_of_ble_eq_true rfl | omega) (by first | exact Nat.le_of_ble_eq_true rfl | omega) (by first | exact Nat.le_of_ble_eq_true rfl | omega) (fun r2 h2 hr2 => ?_)
    obtain ⟨rfl, hM, hK9⟩ := hr2
    have hK := hK.tr hK9
    refine k_ifne F dX7_phase_32 35 37 rfl (by decide) (fun c_z => ?_) (fun c_z => ?_)
    · exact absurd rfl c_z
    · refine k_iconst (v := 0) F dX7_phase_35 36 rfl (by decide) ?_
      exact k_iret F dX7_phase_36 (by first | exact Nat.le_of_ble_eq_true rfl | omega) (by first | exact Nat.le_of_ble_eq_true rfl | omega) ⟨rfl, hM, hK⟩
  cases q1 : ixO v (rP R) with
  | none =>
    rw [ixO_n q1]
    refine k_ifeq F dX7_phase_11 14 28 rfl (by decide) (fun c_a => ?_) (fun c_a => ?_)
    · refine k_iconst (v := 0) F dX7_phase_28 29 rfl (by decide) ?_
      exact fail (by simp [oPhase, o2, q1]) _ hM hK
    · exact absurd rfl c_a
  | some a =>
    obtain ⟨ha, rfl⟩ := ixO_lt (by omega) q1
    rw [ixO_s q1]
    refine k_ifeq F dX7_phase_11 14 28 rfl (by decide) (fun c_b => ?_) (fun c_b => ?_)
    · exact absurd c_b (by decide)
    · refine k_iload_n F dX7_phase_14 15 rfl rfl rfl ?_
      refine k_iconst (v := 0) F dX7_phase_15 16 rfl (by decide) ?_
      refine k_bipush (v := 6) F dX7_phase_16 18 rfl (by decide) ?_
      refine k_callV F kd_X7_in q3498 q194 (kInvS (Bs := [_, _, _]) F q3496 q3497 q194 kd_X7_in q3498 dX7_phase_18 rfl (by decide)) (zX7_in F.st _ _ _) 21 rfl (Nat.le_of_ble_eq_true rfl) (by first | exact Nat.le_of_ble_eq_true rfl | omega) (by first | exact Nat.le_of_ble_eq_true rfl | omega) (by first | exact Nat.le_of_ble_eq_true rfl | omega) (by first | exact Nat.le_of_ble_eq_true rfl | omega) (fun r3 h3 hr3 => ?_)
      obtain ⟨rfl, rfl⟩ := hr3
      rw [show (6 : Int32) = nI 7 - 1 from by decide]
      have hn2 : (7 : Nat) < 2 ^ 30 := by omega
      cases q2 : ixO w (7) with
      | none =>
        rw [ixO_n q2]
        refine k_ifeq F dX7_phase_21 24 28 rfl (by decide) (fun c_d => ?_) (fun c_d => ?_)
        · refine k_iconst (v := 0) F dX7_phase_28 29 rfl (by decide) ?_
          exact fail (by simp [oPhase, o2, q1, q2]) _ hM hK
        · exact absurd rfl c_d
      | some k =>
        obtain ⟨hk, rfl⟩ := ixO_lt hn2 q2
        rw [ixO_s q2]
        refine k_ifeq F dX7_phase_21 24 28 rfl (by decide) (fun c_e => ?_) (fun c_e => ?_)
        · exact absurd c_e (by decide)
        · refine k_iconst (v := 1) F dX7_phase_24 25 rfl (by decide) ?_
          refine k_goto F dX7_phase_25 29 (by decide) ?_
          refine k_callV F kd_X7_right q3850 q194 (kInvV (Bs := [_]) F kcX7 q3847 q3849 qs132 kd_X7_right q3850 dX7_phase_29 (kHs.of hM.1) rfl (by decide)) (zX7_right F.st hM true) 32 rfl (Nat.le_of_ble_eq_true rfl) (by first | exact Nat.le_of_ble_eq_true rfl | omega) (by first | exact Nat.le_of_ble_eq_true rfl | omega) (by first | exact Nat.le_of_ble_eq_true rfl | omega) (by first | exact Nat.le_of_ble_eq_true rfl | omega) (fun r4 h4 hr4 => ?_)
          obtain ⟨rfl, hM, hK9⟩ := hr4
          have hK := hK.tr hK9
          have ho : oPhase R (nI a) (nI k) = some (phaseF R a k) := by simp [oPhase, o2, q1, q2]
          rw [ho] at F
          replace hM : MW _ m ad (upd sc 8 0) R ar := hM
          refine k_ifne F dX7_phase_32 35 37 rfl (by decide) (fun c_g => ?_) (fun c_g => ?_)
          · refine k_iload_n F dX7_phase_37 38 rfl rfl rfl ?_
            rcases (show k = 0 ∨ k = 1 ∨ k = 2 ∨ k = 3 ∨ k = 4 ∨ k = 5 ∨ k = 6 by omega) with rfl | rfl | rfl | rfl | rfl | rfl | rfl
            · refine k_tableOut F dX7_phase_38 112 (by decide) (by decide) ?_
              refine k_aload_n F dX7_phase_112 113 rfl rfl rfl ?_
              refine k_iload_n F dX7_phase_113 114 rfl rfl rfl ?_
              refine k_iload_n F dX7_phase_114 115 rfl rfl rfl ?_
              refine k_callV F kd_X7_ofPhase q3587 q194 (kInvV (Bs := [_, _]) F kcX7 q3584 q3586 qs95 kd_X7_ofPhase q3587 dX7_phase_115 (kHs.of hM.1) rfl (by decide)) (zX7_ofPhase F.st hM a 0 (by omega)) 118 rfl (Nat.le_of_ble_eq_true rfl) (by first | exact Nat.le_of_ble_eq_true rfl | omega) (by first | exact Nat.le_of_ble_eq_true rfl | omega) (by first | exact Nat.le_of_ble_eq_true rfl | omega) (by first | exact Nat.le_of_ble_eq_true rfl | omega) (fun r5 h5 hr5 => ?_)
              obtain ⟨rfl, rfl⟩ := hr5
              exact k_iret F dX7_phase_118 (by first | exact Nat.le_of_ble_eq_true rfl | omega) (by first | exact Nat.le_of_ble_eq_true rfl | omega) ⟨rfl, hM, hK⟩
            · refine k_tableOut F dX7_phase_38 112 (by decide) (by decide) ?_
              refine k_aload_n F dX7_phase_112 113 rfl rfl rfl ?_
              refine k_iload_n F dX7_phase_113 114 rfl rfl rfl ?_
              refine k_iload_n F dX7_phase_114 115 rfl rfl rfl ?_
              refine k_callV F kd_X7_ofPhase q3587 q194 (kInvV (Bs := [_, _]) F kcX7 q3584 q3586 qs95 kd_X7_ofPhase q3587 dX7_phase_115 (kHs.of hM.1) rfl (by decide)) (zX7_ofPhase F.st hM a 1 (by omega)) 118 rfl (Nat.le_of_ble_eq_true rfl) (by first | exact Nat.le_of_ble_eq_true rfl | omega) (by first | exact Nat.le_of_ble_eq_true rfl | omega) (by first | exact Nat.le_of_ble_eq_true rfl | omega) (by first | exact Nat.le_of_ble_eq_true rfl | omega) (fun r6 h6 hr6 => ?_)
              obtain ⟨rfl, rfl⟩ := hr6
              exact k_iret F dX7_phase_118 (by first | exact Nat.le_of_ble_eq_true rfl | omega) (by first | exact Nat.le_of_ble_eq_true rfl | omega) ⟨rfl, hM, hK⟩
            · refine k_tableIn F dX7_phase_38 72 (by decide) (by decide) (by rfl) (by decide) ?_
              refine k_aload_n F dX7_phase_72 73 rfl rfl rfl ?_
              refine k_iload_n F dX7_phase_73 74 rfl rfl rfl ?_
              refine k_callV F kd_X7_armsOf q3878 q194 (kInvV (Bs := [_]) F kcX7 q3875 q3877 qs137 kd_X7_armsOf q3878 dX7_phase_74 (kHs.of hM.1) rfl (by decide)) (zX7_armsOf F.st hM hR a (by omega)) 77 rfl (Nat.le_of_ble_eq_true rfl) (by first | exact Nat.le_of_ble_eq_true rfl | omega) (by first | exact Nat.le_of_ble_eq_true rfl | omega) (by first | exact Nat.le_of_ble_eq_true rfl | omega) (by first | exact Nat.le_of_ble_eq_true rfl | omega) (fun r7 h7 hr7 => ?_)
              obtain ⟨rfl, rfl⟩ := hr7
              exact k_iret F dX7_phase_77 (by first | exact Nat.le_of_ble_eq_true rfl | omega) (by first | exact Nat.le_of_ble_eq_true rfl | omega) ⟨rfl, hM, hK⟩
            · refine k_tableIn F dX7_phase_38 78 (by decide) (by decide) (by rfl) (by decide) ?_
              refine k_aload_n F dX7_phase_78 79 rfl rfl rfl ?_
              refine k_iload_n F dX7_phase_79 80 rfl rfl rfl ?_
              refine k_iconst (v := 2) F dX7_phase_80 81 rfl (by decide) ?_
              refine k_callV F kd_X7_ofPhase q3587 q194 (kInvV (Bs := [_, _]) F kcX7 q3584 q3586 qs95 kd_X7_ofPhase q3587 dX7_phase_81 (kHs.of hM.1) rfl (by decide)) (zX7_ofPhase F.st hM a 2 (by omega)) 84 rfl (Nat.le_of_ble_eq_true rfl) (by first | exact Nat.le_of_ble_eq_true rfl | omega) (by first | exact Nat.le_of_ble_eq_true rfl | omega) (by first | exact Nat.le_of_ble_eq_true rfl | omega) (by first | exact Nat.le_of_ble_eq_true rfl | omega) (fun r8 h8 hr8 => ?_)
              obtain ⟨rfl, rfl⟩ := hr8
              exact k_iret F dX7_phase_84 (by first | exact Nat.le_of_ble_eq_true rfl | omega) (by first | exact Nat.le_of_ble_eq_true rfl | omega) ⟨rfl, hM, hK⟩
            · refine k_tableIn F dX7_phase_38 85 (by decide) (by decide) (by rfl) (by decide) ?_
              refine k_aload_n F dX7_phase_85 86 rfl rfl rfl ?_
              refine k_iload_n F dX7_phase_86 87 rfl rfl rfl ?_
              refine k_callV F kd_X7_isWanted q3793 q194 (kInvV (Bs := [_]) F kcX7 q3790 q3792 qs119 kd_X7_isWanted q3793 dX7_phase_87 (kHs.of hM.1) rfl (by decide)) (zX7_isWanted F.st hM hR a (by omega)) 90 rfl (Nat.le_of_ble_eq_true rfl) (by first | exact Nat.le_of_ble_eq_true rfl | omega) (by first | exact Nat.le_of_ble_eq_true rfl | omega) (by first | exact Nat.le_of_ble_eq_true rfl | omega) (by first | exact Nat.le_of_ble_eq_true rfl | omega) (fun r9 h9 hr9 => ?_)
              obtain ⟨rfl, rfl⟩ := hr9
              refine k_ifeq F dX7_phase_90 93 97 rfl (by decide) (fun c_l => ?_) (fun c_l => ?_)
              · rw [kB_0] at c_l
                refine k_iconst (v := 0) F dX7_phase_97 98 rfl (by decide) ?_
                exact k_iret F dX7_phase_98 (by first | exact Nat.le_of_ble_eq_true rfl | omega) (by first | exact Nat.le_of_ble_eq_true rfl | omega) ⟨by show Value.int (kB (wantedF R a)) = _; rw [c_l]; rfl, hM, hK⟩
              · rw [kB_0, Bool.not_eq_false] at c_l
                refine k_iconst (v := 1) F dX7_phase_93 94 rfl (by decide) ?_
                refine k_goto F dX7_phase_94 98 (by decide) ?_
                exact k_iret F dX7_phase_98 (by first | exact Nat.le_of_ble_eq_true rfl | omega) (by first | exact Nat.le_of_ble_eq_true rfl | omega) ⟨by show Value.int (kB (wantedF R a)) = _; rw [c_l]; rfl, hM, hK⟩
            · refine k_tableIn F dX7_phase_38 99 (by decide) (by decide) (by rfl) (by decide) ?_
              refine k_aload_n F dX7_phase_99 100 rfl rfl rfl ?_
              refine k_iload_n F dX7_phase_100 101 rfl rfl rfl ?_
              refine k_callV F kd_X7_carsOf q3805 q194 (kInvV (Bs := [_]) F kcX7 q3802 q3804 qs122 kd_X7_carsOf q3805 dX7_phase_101 (kHs.of hM.1) rfl (by decide)) (zX7_carsOf F.st hM hR a (by omega)) 104 rfl (Nat.le_of_ble_eq_true rfl) (by first | exact Nat.le_of_ble_eq_true rfl | omega) (by first | exact Nat.le_of_ble_eq_true rfl | omega) (by first | exact Nat.le_of_ble_eq_true rfl | omega) (by first | exact Nat.le_of_ble_eq_true rfl | omega) (fun r10 h10 hr10 => ?_)
              obtain ⟨rfl, rfl⟩ := hr10
              exact k_iret F dX7_phase_104 (by first | exact Nat.le_of_ble_eq_true rfl | omega) (by first | exact Nat.le_of_ble_eq_true rfl | omega) ⟨rfl, hM, hK⟩
            · refine k_tableIn F dX7_phase_38 105 (by decide) (by decide) (by rfl) (by decide) ?_
              refine k_aload_n F dX7_phase_105 106 rfl rfl rfl ?_
              refine k_iload_n F dX7_phase_106 107 rfl rfl rfl ?_
              refine k_iconst (v := 3) F dX7_phase_107 108 rfl (by decide) ?_
              refine k_callV F kd_X7_ofPhase q3587 q194 (kInvV (Bs := [_, _]) F kcX7 q3584 q3586 qs95 kd_X7_ofPhase q3587 dX7_phase_108 (kHs.of hM.1) rfl (by decide)) (zX7_ofPhase F.st hM a 3 (by omega)) 111 rfl (Nat.le_of_ble_eq_true rfl) (by first | exact Nat.le_of_ble_eq_true rfl | omega) (by first | exact Nat.le_of_ble_eq_true rfl | omega) (by first | exact Nat.le_of_ble_eq_true rfl | omega) (by first | exact Nat.le_of_ble_eq_true rfl | omega) (fun r11 h11 hr11 => ?_)
              obtain ⟨rfl, rfl⟩ := hr11
              exact k_iret F dX7_phase_111 (by first | exact Nat.le_of_ble_eq_true rfl | omega) (by first | exact Nat.le_of_ble_eq_true rfl | omega) ⟨rfl, hM, hK⟩
          · exact absurd c_g (by decide)
set_option maxHeartbeats 4000000 in
set_option maxRecDepth 100000 in
theorem zX7_has {l : Launch} {g : kG} (S : kStart l g) {h : kH} {m : Nat} {ad : Nat → Nat} {sc R : Nat → Int32} {ar : Nat → Nat → Int32} (hM : MW h m ad sc R ar) (hR : RV R) (v w : Int32) : kMet l g yX7_has (Cond.code yX7_has cX7_has 3 (Option.some Jvm.ClassFile.FieldType.boolean)) 3 0 0 [.ref m, .int v, .int w] h (mAn h m ad sc R ar (oHas R v w)) := by
  refine kEnter S kd_X7_has (Nat.le_of_ble_eq_true rfl) (fun x F hxl hxg => ?_)
  subst hxl; subst hxg
  have hlv : lv_args 0 [.ref m, .int v, .int w] = [(0, .ref m), (1, .int v), (2, .int w)] := rfl
  rw [hlv]
  have hK : kKp (mOwn m) h h := kKp.rf
  obtain ⟨r1, r2, r3, r4, r5, r6, r7, r8⟩ := id hR
  refine k_aload_n F dX7_has_0 1 rfl rfl rfl ?_
  refine k_iconst (v := 0) F dX7_has_1 2 rfl (by decide) ?_
  refine m_put F 8 (by decide) (knX7 8) q3600 rfl rfl dX7_has_2 5 rfl hM hK rfl rfl rfl (fun h9 hM hK => ?_)
  refine k_aload_n F dX7_has_5 6 rfl rfl rfl ?_
  refine k_aload_n F dX7_has_6 7 rfl rfl rfl ?_
  refine k_iload_n F dX7_has_7 8 rfl rfl rfl ?_
  refine k_callV F kd_X7_isPhase q3826 q194 (kInvV (Bs := [_]) F kcX7 q3823 q3825 qs127 kd_X7_isPhase q3826 dX7_has_8 (kHs.of hM.1) rfl (by decide)) (zX7_isPhase F.st hM _) 11 rfl (Nat.le_of_ble_eq_true rfl) (by first | exact Nat.le_of_ble_eq_true rfl | omega) (by first | exact Nat.le_of_ble_eq_true rfl | omega) (by first | exact Nat.le_of_ble_eq_true rfl | omega) (by first | exact Nat.le_of_ble_eq_true rfl | omega) (fun r1 h1 hr1 => ?_)
  obtain ⟨rfl, rfl⟩ := hr1
  rw [r3]
  have fail : oHas R v w = none → ∀ h1, MW h1 m ad (upd sc 8 0) R ar → kKp (mOwn m) h h1 → kW x 0 0 h1 27 [(0, .ref m), (1, .int v), (2, .int w)] [.int (kB false), .ref m] := by
    intro ho h1 hM hK
    rw [ho] at F
    refine k_callV F kd_X7_right q3850 q194 (kInvV (Bs := [_]) F kcX7 q3847 q3849 qs132 kd_X7_right q3850 dX7_has_27 (kHs.of hM.1) rfl (by decide)) (zX7_right F.st hM false) 30 rfl (Nat.le_of_ble_eq_true rfl) (by first | exact Nat.le_of_ble_eq_true rfl | omega) (by first | exact Nat.le_of_ble_eq_true rfl | omega) (by first | exact Nat.le_of_ble_eq_true rfl | omega) (by first | exact Nat.le_of_ble_eq_true rfl | omega) (fun r2 h2 hr2 => ?_)
    obtain ⟨rfl, hM, hK9⟩ := hr2
    have hK := hK.tr hK9
    refine k_ifeq F dX7_has_30 33 46 rfl (by decide) (fun c_z => ?_) (fun c_z => ?_)
    · refine k_iconst (v := 0) F dX7_has_46 47 rfl (by decide) ?_
      exact k_zret F dX7_has_47 (by first | rfl | exact kzb _ | exact pk_nc _ | decide) (by first | exact Nat.le_of_ble_eq_true rfl | omega) (by first | exact Nat.le_of_ble_eq_true rfl | omega) ⟨rfl, hM, hK⟩
    · exact absurd rfl c_z
  cases q1 : ixO v (rP R) with
  | none =>
    rw [ixO_n q1]
    refine k_ifeq F dX7_has_11 14 26 rfl (by decide) (fun c_a => ?_) (fun c_a => ?_)
    · refine k_iconst (v := 0) F dX7_has_26 27 rfl (by decide) ?_
      exact fail (by simp [oHas, o2, q1]) _ hM hK
    · exact absurd rfl c_a
  | some a =>
    obtain ⟨ha, rfl⟩ := ixO_lt (by omega) q1
    rw [ixO_s q1]
    refine k_ifeq F dX7_has_11 14 26 rfl (by decide) (fun c_b => ?_) (fun c_b => ?_)
    · exact absurd c_b (by decide)
    · refine k_aload_n F dX7_has_14 15 rfl rfl rfl ?_
      refine k_iload_n F dX7_has_15 16 rfl rfl rfl ?_
      refine k_callV F kd_X7_isArm q3862 q194 (kInvV (Bs := [_]) F kcX7 q3859 q3861 qs134 kd_X7_isArm q3862 dX7_has_16 (kHs.of hM.1) rfl (by decide)) (zX7_isArm F.st hM _) 19 rfl (Nat.le_of_ble_eq_true rfl) (by first | exact Nat.le_of_ble_eq_true rfl | omega) (by first | exact Nat.le_of_ble_eq_true rfl | omega) (by first | exact Nat.le_of_ble_eq_true rfl | omega) (by first | exact Nat.le_of_ble_eq_true rfl | omega) (fun r3 h3 hr3 => ?_)
      obtain ⟨rfl, rfl⟩ := hr3
      rw [r1]
      have hn2 : rA R < 2 ^ 30 := by omega
      cases q2 : ixO w (rA R) with
      | none =>
        rw [ixO_n q2]
        refine k_ifeq F dX7_has_19 22 26 rfl (by decide) (fun c_d => ?_) (fun c_d => ?_)
        · refine k_iconst (v := 0) F dX7_has_26 27 rfl (by decide) ?_
          exact fail (by simp [oHas, o2, q1, q2]) _ hM hK
        · exact absurd rfl c_d
      | some k =>
        obtain ⟨hk, rfl⟩ := ixO_lt hn2 q2
        rw [ixO_s q2]
        refine k_ifeq F dX7_has_19 22 26 rfl (by decide) (fun c_e => ?_) (fun c_e => ?_)
        · exact absurd c_e (by decide)
        · refine k_iconst (v := 1) F dX7_has_22 23 rfl (by decide) ?_
          refine k_goto F dX7_has_23 27 (by decide) ?_
          refine k_callV F kd_X7_right q3850 q194 (kInvV (Bs := [_]) F kcX7 q3847 q3849 qs132 kd_X7_right q3850 dX7_has_27 (kHs.of hM.1) rfl (by decide)) (zX7_right F.st hM true) 30 rfl (Nat.le_of_ble_eq_true rfl) (by first | exact Nat.le_of_ble_eq_true rfl | omega) (by first | exact Nat.le_of_ble_eq_true rfl | omega) (by first | exact Nat.le_of_ble_eq_true rfl | omega) (by first | exact Nat.le_of_ble_eq_true rfl | omega) (fun r4 h4 hr4 => ?_)
          obtain ⟨rfl, hM, hK9⟩ := hr4
          have hK := hK.tr hK9
          have ho : oHas R (nI a) (nI k) = some (kB (mHas R a k)) := by simp [oHas, o2, q1, q2]
          rw [ho] at F
          replace hM : MW _ m ad (upd sc 8 0) R ar := hM
          refine k_ifeq F dX7_has_30 33 46 rfl (by decide) (fun c_g => ?_) (fun c_g => ?_)
          · exact absurd c_g (by decide)
          · refine k_aload_n F dX7_has_33 34 rfl rfl rfl ?_
            refine k_iload_n F dX7_has_34 35 rfl rfl rfl ?_
            refine k_iload_n F dX7_has_35 36 rfl rfl rfl ?_
            refine k_callV F kd_X7_hasArm q3583 q194 (kInvV (Bs := [_, _]) F kcX7 q3580 q3582 qs94 kd_X7_hasArm q3583 dX7_has_36 (kHs.of hM.1) rfl (by decide)) (zX7_hasArm F.st hM a k (by omega)) 39 rfl (Nat.le_of_ble_eq_true rfl) (by first | exact Nat.le_of_ble_eq_true rfl | omega) (by first | exact Nat.le_of_ble_eq_true rfl | omega) (by first | exact Nat.le_of_ble_eq_true rfl | omega) (by first | exact Nat.le_of_ble_eq_true rfl | omega) (fun r5 h5 hr5 => ?_)
            obtain ⟨rfl, rfl⟩ := hr5
            refine k_ifeq F dX7_has_39 42 46 rfl (by decide) (fun c_l => ?_) (fun c_l => ?_)
            · rw [kB_0] at c_l
              refine k_iconst (v := 0) F dX7_has_46 47 rfl (by decide) ?_
              exact k_zret F dX7_has_47 (by first | rfl | exact kzb _ | exact pk_nc _ | decide) (by first | exact Nat.le_of_ble_eq_true rfl | omega) (by first | exact Nat.le_of_ble_eq_true rfl | omega) ⟨by show Value.int (kB (mHas R a k)) = _; rw [c_l]; rfl, hM, hK⟩
            · rw [kB_0, Bool.not_eq_false] at c_l
              refine k_iconst (v := 1) F dX7_has_42 43 rfl (by decide) ?_
              refine k_goto F dX7_has_43 47 (by decide) ?_
              exact k_zret F dX7_has_47 (by first | rfl | exact kzb _ | exact pk_nc _ | decide) (by first | exact Nat.le_of_ble_eq_true rfl | omega) (by first | exact Nat.le_of_ble_eq_true rfl | omega) ⟨by show Value.int (kB (mHas R a k)) = _; rw [c_l]; rfl, hM, hK⟩
set_option maxHeartbeats 4000000 in
set_option maxRecDepth 100000 in
theorem zX7_doClash {l : Launch} {g : kG} (S : kStart l g) {h : kH} {m : Nat} {ad : Nat → Nat} {sc R : Nat → Int32} {ar : Nat → Nat → Int32} (hM : MW h m ad sc R ar) (hR : RV R) (v w : Int32) : kMet l g yX7_doClash (Cond.code yX7_doClash cX7_doClash 3 (Option.some Jvm.ClassFile.FieldType.boolean)) 3 0 0 [.ref m, .int v, .int w] h (mAn h m ad sc R ar (oClash R v w)) := by
  refine kEnter S kd_X7_doClash (Nat.le_of_ble_eq_true rfl) (fun x F hxl hxg => ?_)
  subst hxl; subst hxg
  have hlv : lv_args 0 [.ref m, .int v, .int w] = [(0, .ref m), (1, .int v), (2, .int w)] := rfl
  rw [hlv]
  have hK : kKp (mOwn m) h h := kKp.rf
  obtain ⟨r1, r2, r3, r4, r5, r6, r7, r8⟩ := id hR
  refine k_aload_n F dX7_doClash_0 1 rfl rfl rfl ?_
  refine k_iconst (v := 0) F dX7_doClash_1 2 rfl (by decide) ?_
  refine m_put F 8 (by decide) (knX7 8) q3600 rfl rfl dX7_doClash_2 5 rfl hM hK rfl rfl rfl (fun h9 hM hK => ?_)
  refine k_aload_n F dX7_doClash_5 6 rfl rfl rfl ?_
  refine k_aload_n F dX7_doClash_6 7 rfl rfl rfl ?_
  refine k_iload_n F dX7_doClash_7 8 rfl rfl rfl ?_
  refine k_callV F kd_X7_isArm q3862 q194 (kInvV (Bs := [_]) F kcX7 q3859 q3861 qs134 kd_X7_isArm q3862 dX7_doClash_8 (kHs.of hM.1) rfl (by decide)) (zX7_isArm F.st hM _) 11 rfl (Nat.le_of_ble_eq_true rfl) (by first | exact Nat.le_of_ble_eq_true rfl | omega) (by first | exact Nat.le_of_ble_eq_true rfl | omega) (by first | exact Nat.le_of_ble_eq_true rfl | omega) (by first | exact Nat.le_of_ble_eq_true rfl | omega) (fun r1 h1 hr1 => ?_)
  obtain ⟨rfl, rfl⟩ := hr1
  rw [r1]
  have fail : oClash R v w = none → ∀ h1, MW h1 m ad (upd sc 8 0) R ar → kKp (mOwn m) h h1 → kW x 0 0 h1 27 [(0, .ref m), (1, .int v), (2, .int w)] [.int (kB false), .ref m] := by
    intro ho h1 hM hK
    rw [ho] at F
    refine k_callV F kd_X7_right q3850 q194 (kInvV (Bs := [_]) F kcX7 q3847 q3849 qs132 kd_X7_right q3850 dX7_doClash_27 (kHs.of hM.1) rfl (by decide)) (zX7_right F.st hM false) 30 rfl (Nat.le_of_ble_eq_true rfl) (by first | exact Nat.le_of_ble_eq_true rfl | omega) (by first | exact Nat.le_of_ble_eq_true rfl | omega) (by first | exact Nat.le_of_ble_eq_true rfl | omega) (by first | exact Nat.le_of_ble_eq_true rfl | omega) (fun r2 h2 hr2 => ?_)
    obtain ⟨rfl, hM, hK9⟩ := hr2
    have hK := hK.tr hK9
    refine k_ifeq F dX7_doClash_30 33 46 rfl (by decide) (fun c_z => ?_) (fun c_z => ?_)
    · refine k_iconst (v := 0) F dX7_doClash_46 47 rfl (by decide) ?_
      exact k_zret F dX7_doClash_47 (by first | rfl | exact kzb _ | exact pk_nc _ | decide) (by first | exact Nat.le_of_ble_eq_true rfl | omega) (by first | exact Nat.le_of_ble_eq_true rfl | omega) ⟨rfl, hM, hK⟩
    · exact absurd rfl c_z
  cases q1 : ixO v (rA R) with
  | none =>
    rw [ixO_n q1]
    refine k_ifeq F dX7_doClash_11 14 26 rfl (by decide) (fun c_a => ?_) (fun c_a => ?_)
    · refine k_iconst (v := 0) F dX7_doClash_26 27 rfl (by decide) ?_
      exact fail (by simp [oClash, o2, q1]) _ hM hK
    · exact absurd rfl c_a
  | some a =>
    obtain ⟨ha, rfl⟩ := ixO_lt (by omega) q1
    rw [ixO_s q1]
    refine k_ifeq F dX7_doClash_11 14 26 rfl (by decide) (fun c_b => ?_) (fun c_b => ?_)
    · exact absurd c_b (by decide)
    · refine k_aload_n F dX7_doClash_14 15 rfl rfl rfl ?_
      refine k_iload_n F dX7_doClash_15 16 rfl rfl rfl ?_
      refine k_callV F kd_X7_isArm q3862 q194 (kInvV (Bs := [_]) F kcX7 q3859 q3861 qs134 kd_X7_isArm q3862 dX7_doClash_16 (kHs.of hM.1) rfl (by decide)) (zX7_isArm F.st hM _) 19 rfl (Nat.le_of_ble_eq_true rfl) (by first | exact Nat.le_of_ble_eq_true rfl | omega) (by first | exact Nat.le_of_ble_eq_true rfl | omega) (by first | exact Nat.le_of_ble_eq_true rfl | omega) (by first | exact Nat.le_of_ble_eq_true rfl | omega) (fun r3 h3 hr3 => ?_)
      obtain ⟨rfl, rfl⟩ := hr3
      rw [r1]
      have hn2 : rA R < 2 ^ 30 := by omega
      cases q2 : ixO w (rA R) with
      | none =>
        rw [ixO_n q2]
        refine k_ifeq F dX7_doClash_19 22 26 rfl (by decide) (fun c_d => ?_) (fun c_d => ?_)
        · refine k_iconst (v := 0) F dX7_doClash_26 27 rfl (by decide) ?_
          exact fail (by simp [oClash, o2, q1, q2]) _ hM hK
        · exact absurd rfl c_d
      | some k =>
        obtain ⟨hk, rfl⟩ := ixO_lt hn2 q2
        rw [ixO_s q2]
        refine k_ifeq F dX7_doClash_19 22 26 rfl (by decide) (fun c_e => ?_) (fun c_e => ?_)
        · exact absurd c_e (by decide)
        · refine k_iconst (v := 1) F dX7_doClash_22 23 rfl (by decide) ?_
          refine k_goto F dX7_doClash_23 27 (by decide) ?_
          refine k_callV F kd_X7_right q3850 q194 (kInvV (Bs := [_]) F kcX7 q3847 q3849 qs132 kd_X7_right q3850 dX7_doClash_27 (kHs.of hM.1) rfl (by decide)) (zX7_right F.st hM true) 30 rfl (Nat.le_of_ble_eq_true rfl) (by first | exact Nat.le_of_ble_eq_true rfl | omega) (by first | exact Nat.le_of_ble_eq_true rfl | omega) (by first | exact Nat.le_of_ble_eq_true rfl | omega) (by first | exact Nat.le_of_ble_eq_true rfl | omega) (fun r4 h4 hr4 => ?_)
          obtain ⟨rfl, hM, hK9⟩ := hr4
          have hK := hK.tr hK9
          have ho : oClash R (nI a) (nI k) = some (kB (mCl R a k)) := by simp [oClash, o2, q1, q2]
          rw [ho] at F
          replace hM : MW _ m ad (upd sc 8 0) R ar := hM
          refine k_ifeq F dX7_doClash_30 33 46 rfl (by decide) (fun c_g => ?_) (fun c_g => ?_)
          · exact absurd c_g (by decide)
          · refine k_aload_n F dX7_doClash_33 34 rfl rfl rfl ?_
            refine k_iload_n F dX7_doClash_34 35 rfl rfl rfl ?_
            refine k_iload_n F dX7_doClash_35 36 rfl rfl rfl ?_
            refine k_callV F kd_X7_areClashing q3591 q194 (kInvV (Bs := [_, _]) F kcX7 q3588 q3590 qs96 kd_X7_areClashing q3591 dX7_doClash_36 (kHs.of hM.1) rfl (by decide)) (zX7_areClashing F.st hM a k (by omega)) 39 rfl (Nat.le_of_ble_eq_true rfl) (by first | exact Nat.le_of_ble_eq_true rfl | omega) (by first | exact Nat.le_of_ble_eq_true rfl | omega) (by first | exact Nat.le_of_ble_eq_true rfl | omega) (by first | exact Nat.le_of_ble_eq_true rfl | omega) (fun r5 h5 hr5 => ?_)
            obtain ⟨rfl, rfl⟩ := hr5
            refine k_ifeq F dX7_doClash_39 42 46 rfl (by decide) (fun c_l => ?_) (fun c_l => ?_)
            · rw [kB_0] at c_l
              refine k_iconst (v := 0) F dX7_doClash_46 47 rfl (by decide) ?_
              exact k_zret F dX7_doClash_47 (by first | rfl | exact kzb _ | exact pk_nc _ | decide) (by first | exact Nat.le_of_ble_eq_true rfl | omega) (by first | exact Nat.le_of_ble_eq_true rfl | omega) ⟨by show Value.int (kB (mCl R a k)) = _; rw [c_l]; rfl, hM, hK⟩
            · rw [kB_0, Bool.not_eq_false] at c_l
              refine k_iconst (v := 1) F dX7_doClash_42 43 rfl (by decide) ?_
              refine k_goto F dX7_doClash_43 47 (by decide) ?_
              exact k_zret F dX7_doClash_47 (by first | rfl | exact kzb _ | exact pk_nc _ | decide) (by first | exact Nat.le_of_ble_eq_true rfl | omega) (by first | exact Nat.le_of_ble_eq_true rfl | omega) ⟨by show Value.int (kB (mCl R a k)) = _; rw [c_l]; rfl, hM, hK⟩
set_option maxHeartbeats 4000000 in
set_option maxRecDepth 100000 in
theorem zX7_why {l : Launch} {g : kG} (S : kStart l g) {h : kH} {m : Nat} {ad : Nat → Nat} {sc R : Nat → Int32} {ar : Nat → Nat → Int32} (hM : MW h m ad sc R ar) (hR : RV R) (h8 : rNx R = none → R 8 = 0) (v w : Int32) : kMet l g yX7_why (Cond.code yX7_why cX7_why 4 (Option.some Jvm.ClassFile.FieldType.int)) 7 0 0 [.ref m, .int v, .int w] h (mAn h m ad sc R ar (oWhy R v w)) := by
  refine kEnter S kd_X7_why (Nat.le_of_ble_eq_true rfl) (fun x F hxl hxg => ?_)
  subst hxl; subst hxg
  have hlv : lv_args 0 [.ref m, .int v, .int w] = [(0, .ref m), (1, .int v), (2, .int w)] := rfl
  rw [hlv]
  have hK : kKp (mOwn m) h h := kKp.rf
  obtain ⟨r1, r2, r3, r4, r5, r6, r7, r8⟩ := id hR
  refine k_aload_n F dX7_why_0 1 rfl rfl rfl ?_
  refine k_iconst (v := 0) F dX7_why_1 2 rfl (by decide) ?_
  refine m_put F 8 (by decide) (knX7 8) q3600 rfl rfl dX7_why_2 5 rfl hM hK rfl rfl rfl (fun h9 hM hK => ?_)
  refine k_aload_n F dX7_why_5 6 rfl rfl rfl ?_
  refine k_aload_n F dX7_why_6 7 rfl rfl rfl ?_
  refine k_iload_n F dX7_why_7 8 rfl rfl rfl ?_
  refine k_callV F kd_X7_isArm q3862 q194 (kInvV (Bs := [_]) F kcX7 q3859 q3861 qs134 kd_X7_isArm q3862 dX7_why_8 (kHs.of hM.1) rfl (by decide)) (zX7_isArm F.st hM _) 11 rfl (Nat.le_of_ble_eq_true rfl) (by first | exact Nat.le_of_ble_eq_true rfl | omega) (by first | exact Nat.le_of_ble_eq_true rfl | omega) (by first | exact Nat.le_of_ble_eq_true rfl | omega) (by first | exact Nat.le_of_ble_eq_true rfl | omega) (fun r1 h1 hr1 => ?_)
  obtain ⟨rfl, rfl⟩ := hr1
  rw [r1]
  have fail : oWhy R v w = none → ∀ h1, MW h1 m ad (upd sc 8 0) R ar → kKp (mOwn m) h h1 → kW x 0 0 h1 28 [(0, .ref m), (1, .int v), (2, .int w)] [.int (kB false), .ref m] := by
    intro ho h1 hM hK
    rw [ho] at F
    refine k_callV F kd_X7_right q3850 q194 (kInvV (Bs := [_]) F kcX7 q3847 q3849 qs132 kd_X7_right q3850 dX7_why_28 (kHs.of hM.1) rfl (by decide)) (zX7_right F.st hM false) 31 rfl (Nat.le_of_ble_eq_true rfl) (by first | exact Nat.le_of_ble_eq_true rfl | omega) (by first | exact Nat.le_of_ble_eq_true rfl | omega) (by first | exact Nat.le_of_ble_eq_true rfl | omega) (by first | exact Nat.le_of_ble_eq_true rfl | omega) (fun r2 h2 hr2 => ?_)
    obtain ⟨rfl, hM, hK9⟩ := hr2
    have hK := hK.tr hK9
    refine k_ifne F dX7_why_31 34 36 rfl (by decide) (fun c_z => ?_) (fun c_z => ?_)
    · exact absurd rfl c_z
    · refine k_iconst (v := 0) F dX7_why_34 35 rfl (by decide) ?_
      exact k_iret F dX7_why_35 (by first | exact Nat.le_of_ble_eq_true rfl | omega) (by first | exact Nat.le_of_ble_eq_true rfl | omega) ⟨rfl, hM, hK⟩
  cases q1 : ixO v (rA R) with
  | none =>
    rw [ixO_n q1]
    refine k_ifeq F dX7_why_11 14 27 rfl (by decide) (fun c_a => ?_) (fun c_a => ?_)
    · refine k_iconst (v := 0) F dX7_why_27 28 rfl (by decide) ?_
      exact fail (by simp [oWhy, o2, q1]) _ hM hK
    · exact absurd rfl c_a
  | some a =>
    obtain ⟨ha, rfl⟩ := ixO_lt (by omega) q1
    rw [ixO_s q1]
    refine k_ifeq F dX7_why_11 14 27 rfl (by decide) (fun c_b => ?_) (fun c_b => ?_)
    · exact absurd c_b (by decide)
    · refine k_iload_n F dX7_why_14 15 rfl rfl rfl ?_
      refine k_iconst (v := 0) F dX7_why_15 16 rfl (by decide) ?_
      refine k_iconst (v := 1) F dX7_why_16 17 rfl (by decide) ?_
      refine k_callV F kd_X7_in q3498 q194 (kInvS (Bs := [_, _, _]) F q3496 q3497 q194 kd_X7_in q3498 dX7_why_17 rfl (by decide)) (zX7_in F.st _ _ _) 20 rfl (Nat.le_of_ble_eq_true rfl) (by first | exact Nat.le_of_ble_eq_true rfl | omega) (by first | exact Nat.le_of_ble_eq_true rfl | omega) (by first | exact Nat.le_of_ble_eq_true rfl | omega) (by first | exact Nat.le_of_ble_eq_true rfl | omega) (fun r3 h3 hr3 => ?_)
      obtain ⟨rfl, rfl⟩ := hr3
      rw [show (1 : Int32) = nI 2 - 1 from by decide]
      have hn2 : (2 : Nat) < 2 ^ 30 := by omega
      cases q2 : ixO w (2) with
      | none =>
        rw [ixO_n q2]
        refine k_ifeq F dX7_why_20 23 27 rfl (by decide) (fun c_d => ?_) (fun c_d => ?_)
        · refine k_iconst (v := 0) F dX7_why_27 28 rfl (by decide) ?_
          exact fail (by simp [oWhy, o2, q1, q2]) _ hM hK
        · exact absurd rfl c_d
      | some k =>
        obtain ⟨hk, rfl⟩ := ixO_lt hn2 q2
        rw [ixO_s q2]
        refine k_ifeq F dX7_why_20 23 27 rfl (by decide) (fun c_e => ?_) (fun c_e => ?_)
        · exact absurd c_e (by decide)
        · refine k_iconst (v := 1) F dX7_why_23 24 rfl (by decide) ?_
          refine k_goto F dX7_why_24 28 (by decide) ?_
          refine k_callV F kd_X7_right q3850 q194 (kInvV (Bs := [_]) F kcX7 q3847 q3849 qs132 kd_X7_right q3850 dX7_why_28 (kHs.of hM.1) rfl (by decide)) (zX7_right F.st hM true) 31 rfl (Nat.le_of_ble_eq_true rfl) (by first | exact Nat.le_of_ble_eq_true rfl | omega) (by first | exact Nat.le_of_ble_eq_true rfl | omega) (by first | exact Nat.le_of_ble_eq_true rfl | omega) (by first | exact Nat.le_of_ble_eq_true rfl | omega) (fun r4 h4 hr4 => ?_)
          obtain ⟨rfl, hM, hK9⟩ := hr4
          have hK := hK.tr hK9
          have ho : oWhy R (nI a) (nI k) = some (if k = 0 then reasonF R a else causeF R a) := by simp [oWhy, o2, q1, q2]
          rw [ho] at F
          replace hM : MW _ m ad (upd sc 8 0) R ar := hM
          refine k_ifne F dX7_why_31 34 36 rfl (by decide) (fun c_g => ?_) (fun c_g => ?_)
          · refine k_aload_n F dX7_why_36 37 rfl rfl rfl ?_
            refine k_iload_n F dX7_why_37 38 rfl rfl rfl ?_
            refine k_callV F kd_X7_reasonOf q3909 q194 (kInvV (Bs := [_]) F kcX7 q3906 q3908 qs138 kd_X7_reasonOf q3909 dX7_why_38 (kHs.of hM.1) rfl (by decide)) (zX7_reasonOf F.st hM hR h8 a ha) 41 rfl (Nat.le_of_ble_eq_true rfl) (by first | exact Nat.le_of_ble_eq_true rfl | omega) (by first | exact Nat.le_of_ble_eq_true rfl | omega) (by first | exact Nat.le_of_ble_eq_true rfl | omega) (by first | exact Nat.le_of_ble_eq_true rfl | omega) (fun r5 h5 hr5 => ?_)
            obtain ⟨rfl, rfl⟩ := hr5
            refine k_istore_n (lv' := [(0, _), (1, _), (2, _), (3, _)]) F dX7_why_41 42 rfl rfl (Nat.le_of_ble_eq_true rfl) rfl rfl rfl ?_
            refine k_iload_n F dX7_why_42 43 rfl rfl rfl ?_
            rcases (show k = 0 ∨ k = 1 by omega) with rfl | rfl
            · refine k_ifne F dX7_why_43 46 48 rfl (by decide) (fun c_l => ?_) (fun c_l => ?_)
              · exact absurd rfl c_l
              · refine k_iload_n F dX7_why_46 47 rfl rfl rfl ?_
                exact k_iret F dX7_why_47 (by first | exact Nat.le_of_ble_eq_true rfl | omega) (by first | exact Nat.le_of_ble_eq_true rfl | omega) ⟨rfl, hM, hK⟩
            · refine k_ifne F dX7_why_43 46 48 rfl (by decide) (fun c_o => ?_) (fun c_o => ?_)
              · refine k_iload_n F dX7_why_48 49 rfl rfl rfl ?_
                show kW _ _ _ _ _ _ [.int (reasonF R a)]
                have hcs := reasonF_ix R a
                generalize hr : reasonF R a = r at hcs ⊢
                have hca : ∀ u : Int32, causeF R a = u → some (if (1 : Nat) = 0 then reasonF R a else causeF R a) = some u := fun u hu => by rw [if_neg (by decide), hu]
                have hce : causeF R a = if r = 2 ∨ r = 3 then 100 + R 7 else if r = 5 then 200 + mPh R (rOn R) 0 - R 9 else if r = 6 then 300 + nO (busyF R) else if r = 7 ∨ r = 8 then 400 + nO (bestF R) else 0 := by unfold causeF; rw [hr]
                rcases hcs with rfl | rfl | rfl | rfl | rfl | rfl | rfl | rfl | rfl
                · refine k_tableOut F dX7_why_49 146 (by decide) (by decide) ?_
                  refine k_iconst (v := 0) F dX7_why_146 147 rfl (by decide) ?_
                  exact k_iret F dX7_why_147 (by first | exact Nat.le_of_ble_eq_true rfl | omega) (by first | exact Nat.le_of_ble_eq_true rfl | omega) ⟨by show Value.int (if (1 : Nat) = 0 then reasonF R a else causeF R a) = _; rw [if_neg (by decide), hce]; rfl, hM, hK⟩
                · refine k_tableOut F dX7_why_49 146 (by decide) (by decide) ?_
                  refine k_iconst (v := 0) F dX7_why_146 147 rfl (by decide) ?_
                  exact k_iret F dX7_why_147 (by first | exact Nat.le_of_ble_eq_true rfl | omega) (by first | exact Nat.le_of_ble_eq_true rfl | omega) ⟨by show Value.int (if (1 : Nat) = 0 then reasonF R a else causeF R a) = _; rw [if_neg (by decide), hce]; rfl, hM, hK⟩
                · refine k_tableIn F dX7_why_49 92 (by decide) (by decide) (by rfl) (by decide) ?_
                  refine k_bipush (v := 100) F dX7_why_92 94 rfl (by decide) ?_
                  refine k_aload_n F dX7_why_94 95 rfl rfl rfl ?_
                  refine m_get F 0 (by decide) q3592 rfl dX7_why_95 98 rfl hM rfl ?_
                  refine k_bipush (v := 7) F dX7_why_98 100 rfl (by decide) ?_
                  refine m_ld F dX7_why_100 101 rfl hM (7) (by first | (with_reducible rfl) | (simp only [nI_lit, pk_mul, nI_add])) (by omega) ?_
                  refine k_iadd F dX7_why_101 102 rfl ?_
                  exact k_iret F dX7_why_102 (by first | exact Nat.le_of_ble_eq_true rfl | omega) (by first | exact Nat.le_of_ble_eq_true rfl | omega) ⟨by show Value.int (if (1 : Nat) = 0 then reasonF R a else causeF R a) = _; rw [if_neg (by decide), hce]; rfl, hM, hK⟩
                · refine k_tableIn F dX7_why_49 92 (by decide) (by decide) (by rfl) (by decide) ?_
                  refine k_bipush (v := 100) F dX7_why_92 94 rfl (by decide) ?_
                  refine k_aload_n F dX7_why_94 95 rfl rfl rfl ?_
                  refine m_get F 0 (by decide) q3592 rfl dX7_why_95 98 rfl hM rfl ?_
                  refine k_bipush (v := 7) F dX7_why_98 100 rfl (by decide) ?_
                  refine m_ld F dX7_why_100 101 rfl hM (7) (by first | (with_reducible rfl) | (simp only [nI_lit, pk_mul, nI_add])) (by omega) ?_
                  refine k_iadd F dX7_why_101 102 rfl ?_
                  exact k_iret F dX7_why_102 (by first | exact Nat.le_of_ble_eq_true rfl | omega) (by first | exact Nat.le_of_ble_eq_true rfl | omega) ⟨by show Value.int (if (1 : Nat) = 0 then reasonF R a else causeF R a) = _; rw [if_neg (by decide), hce]; rfl, hM, hK⟩
                · refine k_tableIn F dX7_why_49 146 (by decide) (by decide) (by rfl) (by decide) ?_
                  refine k_iconst (v := 0) F dX7_why_146 147 rfl (by decide) ?_
                  exact k_iret F dX7_why_147 (by first | exact Nat.le_of_ble_eq_true rfl | omega) (by first | exact Nat.le_of_ble_eq_true rfl | omega) ⟨by show Value.int (if (1 : Nat) = 0 then reasonF R a else causeF R a) = _; rw [if_neg (by decide), hce]; rfl, hM, hK⟩
                · refine k_tableIn F dX7_why_49 103 (by decide) (by decide) (by rfl) (by decide) ?_
                  refine k_sipush (v := 200) F dX7_why_103 106 rfl (by decide) ?_
                  refine k_aload_n F dX7_why_106 107 rfl rfl rfl ?_
                  refine k_aload_n F dX7_why_107 108 rfl rfl rfl ?_
                  refine m_get F 0 (by decide) q3592 rfl dX7_why_108 111 rfl hM rfl ?_
                  refine k_bipush (v := 6) F dX7_why_111 113 rfl (by decide) ?_
                  refine m_ld F dX7_why_113 114 rfl hM (6) (by first | (with_reducible rfl) | (simp only [nI_lit, pk_mul, nI_add])) (by omega) ?_
                  refine k_iconst (v := 0) F dX7_why_114 115 rfl (by decide) ?_
                  rw [r5]
                  refine k_callV F kd_X7_ofPhase q3587 q194 (kInvV (Bs := [_, _]) F kcX7 q3584 q3586 qs95 kd_X7_ofPhase q3587 dX7_why_115 (kHs.of hM.1) rfl (by decide)) (zX7_ofPhase F.st hM (rOn R) 0 (by omega)) 118 rfl (Nat.le_of_ble_eq_true rfl) (by first | exact Nat.le_of_ble_eq_true rfl | omega) (by first | exact Nat.le_of_ble_eq_true rfl | omega) (by first | exact Nat.le_of_ble_eq_true rfl | omega) (by first | exact Nat.le_of_ble_eq_true rfl | omega) (fun r6 h6 hr6 => ?_)
                  obtain ⟨rfl, rfl⟩ := hr6
                  refine k_iadd F dX7_why_118 119 rfl ?_
                  refine k_aload_n F dX7_why_119 120 rfl rfl rfl ?_
                  refine m_get F 0 (by decide) q3592 rfl dX7_why_120 123 rfl hM rfl ?_
                  refine k_bipush (v := 9) F dX7_why_123 125 rfl (by decide) ?_
                  refine m_ld F dX7_why_125 126 rfl hM (9) (by first | (with_reducible rfl) | (simp only [nI_lit, pk_mul, nI_add])) (by omega) ?_
                  refine k_isub F dX7_why_126 127 rfl ?_
                  exact k_iret F dX7_why_127 (by first | exact Nat.le_of_ble_eq_true rfl | omega) (by first | exact Nat.le_of_ble_eq_true rfl | omega) ⟨by show Value.int (if (1 : Nat) = 0 then reasonF R a else causeF R a) = _; rw [if_neg (by decide), hce]; rfl, hM, hK⟩
                · refine k_tableIn F dX7_why_49 128 (by decide) (by decide) (by rfl) (by decide) ?_
                  refine k_sipush (v := 300) F dX7_why_128 131 rfl (by decide) ?_
                  refine k_aload_n F dX7_why_131 132 rfl rfl rfl ?_
                  refine k_callV F kd_X7_busyArm q3814 q194 (kInvV (Bs := []) F kcX7 q3811 q3813 qs124 kd_X7_busyArm q3814 dX7_why_132 (kHs.of hM.1) rfl (by decide)) (zX7_busyArm F.st hM hR) 135 rfl (Nat.le_of_ble_eq_true rfl) (by first | exact Nat.le_of_ble_eq_true rfl | omega) (by first | exact Nat.le_of_ble_eq_true rfl | omega) (by first | exact Nat.le_of_ble_eq_true rfl | omega) (by first | exact Nat.le_of_ble_eq_true rfl | omega) (fun r7 h7 hr7 => ?_)
                  obtain ⟨rfl, rfl⟩ := hr7
                  refine k_iadd F dX7_why_135 136 rfl ?_
                  exact k_iret F dX7_why_136 (by first | exact Nat.le_of_ble_eq_true rfl | omega) (by first | exact Nat.le_of_ble_eq_true rfl | omega) ⟨by show Value.int (if (1 : Nat) = 0 then reasonF R a else causeF R a) = _; rw [if_neg (by decide), hce]; rfl, hM, hK⟩
                · refine k_tableIn F dX7_why_49 137 (by decide) (by decide) (by rfl) (by decide) ?_
                  refine k_sipush (v := 400) F dX7_why_137 140 rfl (by decide) ?_
                  refine k_aload_n F dX7_why_140 141 rfl rfl rfl ?_
                  refine k_callV F kd_X7_best q3789 q194 (kInvV (Bs := []) F kcX7 q3786 q3788 qs118 kd_X7_best q3789 dX7_why_141 (kHs.of hM.1) rfl (by decide)) (zX7_best F.st hM hR) 144 rfl (Nat.le_of_ble_eq_true rfl) (by first | exact Nat.le_of_ble_eq_true rfl | omega) (by first | exact Nat.le_of_ble_eq_true rfl | omega) (by first | exact Nat.le_of_ble_eq_true rfl | omega) (by first | exact Nat.le_of_ble_eq_true rfl | omega) (fun r8 h8 hr8 => ?_)
                  obtain ⟨rfl, rfl⟩ := hr8
                  refine k_iadd F dX7_why_144 145 rfl ?_
                  exact k_iret F dX7_why_145 (by first | exact Nat.le_of_ble_eq_true rfl | omega) (by first | exact Nat.le_of_ble_eq_true rfl | omega) ⟨by show Value.int (if (1 : Nat) = 0 then reasonF R a else causeF R a) = _; rw [if_neg (by decide), hce]; rfl, hM, hK⟩
                · refine k_tableIn F dX7_why_49 137 (by decide) (by decide) (by rfl) (by decide) ?_
                  refine k_sipush (v := 400) F dX7_why_137 140 rfl (by decide) ?_
                  refine k_aload_n F dX7_why_140 141 rfl rfl rfl ?_
                  refine k_callV F kd_X7_best q3789 q194 (kInvV (Bs := []) F kcX7 q3786 q3788 qs118 kd_X7_best q3789 dX7_why_141 (kHs.of hM.1) rfl (by decide)) (zX7_best F.st hM hR) 144 rfl (Nat.le_of_ble_eq_true rfl) (by first | exact Nat.le_of_ble_eq_true rfl | omega) (by first | exact Nat.le_of_ble_eq_true rfl | omega) (by first | exact Nat.le_of_ble_eq_true rfl | omega) (by first | exact Nat.le_of_ble_eq_true rfl | omega) (fun r9 h9 hr9 => ?_)
                  obtain ⟨rfl, rfl⟩ := hr9
                  refine k_iadd F dX7_why_144 145 rfl ?_
                  exact k_iret F dX7_why_145 (by first | exact Nat.le_of_ble_eq_true rfl | omega) (by first | exact Nat.le_of_ble_eq_true rfl | omega) ⟨by show Value.int (if (1 : Nat) = 0 then reasonF R a else causeF R a) = _; rw [if_neg (by decide), hce]; rfl, hM, hK⟩
              · exact absurd (show nI 1 = 0 from c_o) (by decide)
          · exact absurd c_g (by decide)
set_option maxHeartbeats 4000000 in
set_option maxRecDepth 100000 in
theorem zX7_car {l : Launch} {g : kG} (S : kStart l g) {h : kH} {m : Nat} {ad : Nat → Nat} {sc R : Nat → Int32} {ar : Nat → Nat → Int32} (hM : MW h m ad sc R ar) (hR : RT R) (v w : Int32) : kMet l g yX7_car (Cond.code yX7_car cX7_car 3 (Option.some Jvm.ClassFile.FieldType.int)) 3 0 0 [.ref m, .int v, .int w] h (mAn h m ad sc R ar (oCar R v w)) := by
  refine kEnter S kd_X7_car (Nat.le_of_ble_eq_true rfl) (fun x F hxl hxg => ?_)
  subst hxl; subst hxg
  have hlv : lv_args 0 [.ref m, .int v, .int w] = [(0, .ref m), (1, .int v), (2, .int w)] := rfl
  rw [hlv]
  have hK : kKp (mOwn m) h h := kKp.rf
  obtain ⟨hV, hcs, hn⟩ := id hR
  obtain ⟨r1, r2, r3, r4, r5, r6, r7, r8⟩ := id hV
  refine k_aload_n F dX7_car_0 1 rfl rfl rfl ?_
  refine k_iconst (v := 0) F dX7_car_1 2 rfl (by decide) ?_
  refine m_put F 8 (by decide) (knX7 8) q3600 rfl rfl dX7_car_2 5 rfl hM hK rfl rfl rfl (fun h9 hM hK => ?_)
  refine k_aload_n F dX7_car_5 6 rfl rfl rfl ?_
  refine k_aload_n F dX7_car_6 7 rfl rfl rfl ?_
  refine k_iload_n F dX7_car_7 8 rfl rfl rfl ?_
  refine k_callV F kd_X7_isArm q3862 q194 (kInvV (Bs := [_]) F kcX7 q3859 q3861 qs134 kd_X7_isArm q3862 dX7_car_8 (kHs.of hM.1) rfl (by decide)) (zX7_isArm F.st hM _) 11 rfl (Nat.le_of_ble_eq_true rfl) (by first | exact Nat.le_of_ble_eq_true rfl | omega) (by first | exact Nat.le_of_ble_eq_true rfl | omega) (by first | exact Nat.le_of_ble_eq_true rfl | omega) (by first | exact Nat.le_of_ble_eq_true rfl | omega) (fun r1 h1 hr1 => ?_)
  obtain ⟨rfl, rfl⟩ := hr1
  refine k_callV F kd_X7_right q3850 q194 (kInvV (Bs := [_]) F kcX7 q3847 q3849 qs132 kd_X7_right q3850 dX7_car_11 (kHs.of hM.1) rfl (by decide)) (zX7_right F.st hM _) 14 rfl (Nat.le_of_ble_eq_true rfl) (by first | exact Nat.le_of_ble_eq_true rfl | omega) (by first | exact Nat.le_of_ble_eq_true rfl | omega) (by first | exact Nat.le_of_ble_eq_true rfl | omega) (by first | exact Nat.le_of_ble_eq_true rfl | omega) (fun r2 h2 hr2 => ?_)
  obtain ⟨rfl, hM, hK9⟩ := hr2
  have hK := hK.tr hK9
  rw [r1] at hM ⊢
  cases q1 : ixO v (rA R) with
  | none =>
    have ho : oCar R v w = none := by simp [oCar, q1]
    rw [ho] at F
    rw [ixO_n q1] at hM ⊢
    refine k_ifne F dX7_car_14 17 19 rfl (by decide) (fun c_a => ?_) (fun c_a => ?_)
    · exact absurd rfl c_a
    · refine k_iconst (v := 0) F dX7_car_17 18 rfl (by decide) ?_
      exact k_iret F dX7_car_18 (by first | exact Nat.le_of_ble_eq_true rfl | omega) (by first | exact Nat.le_of_ble_eq_true rfl | omega) ⟨rfl, hM, hK⟩
  | some a =>
    have ho : oCar R v w = some (carF R a w) := by simp [oCar, q1]
    rw [ho] at F
    rw [ixO_s q1] at hM ⊢
    obtain ⟨ha, rfl⟩ := ixO_lt (by omega) q1
    obtain ⟨c, hc, ec⟩ := hcs a (by omega)
    have erc : rC R a = c := by unfold rC; rw [ec]; exact nI_clamp (by omega)
    refine k_ifne F dX7_car_14 17 19 rfl (by decide) (fun c_b => ?_) (fun c_b => ?_)
    · refine k_iload_n F dX7_car_19 20 rfl rfl rfl ?_
      refine k_iconst (v := 0) F dX7_car_20 21 rfl (by decide) ?_
      refine k_aload_n F dX7_car_21 22 rfl rfl rfl ?_
      refine k_iload_n F dX7_car_22 23 rfl rfl rfl ?_
      refine k_iconst (v := 3) F dX7_car_23 24 rfl (by decide) ?_
      refine k_callV F kd_X7_of q3549 q194 (kInvV (Bs := [_, _]) F kcX7 q3546 q3548 qs86 kd_X7_of q3549 dX7_car_24 (kHs.of hM.1) rfl (by decide)) (zX7_of F.st hM a 3 (by omega)) 27 rfl (Nat.le_of_ble_eq_true rfl) (by first | exact Nat.le_of_ble_eq_true rfl | omega) (by first | exact Nat.le_of_ble_eq_true rfl | omega) (by first | exact Nat.le_of_ble_eq_true rfl | omega) (by first | exact Nat.le_of_ble_eq_true rfl | omega) (fun r3 h3 hr3 => ?_)
      obtain ⟨rfl, rfl⟩ := hr3
      refine k_iconst (v := 1) F dX7_car_27 28 rfl (by decide) ?_
      refine k_isub F dX7_car_28 29 rfl ?_
      refine k_callV F kd_X7_in q3498 q194 (kInvS (Bs := [_, _, _]) F q3496 q3497 q194 kd_X7_in q3498 dX7_car_29 rfl (by decide)) (zX7_in F.st _ _ _) 32 rfl (Nat.le_of_ble_eq_true rfl) (by first | exact Nat.le_of_ble_eq_true rfl | omega) (by first | exact Nat.le_of_ble_eq_true rfl | omega) (by first | exact Nat.le_of_ble_eq_true rfl | omega) (by first | exact Nat.le_of_ble_eq_true rfl | omega) (fun r4 h4 hr4 => ?_)
      obtain ⟨rfl, rfl⟩ := hr4
      rw [ec]
      cases q2 : ixO w c with
      | none =>
        rw [ixO_n q2]
        refine k_ifeq F dX7_car_32 35 44 rfl (by decide) (fun c_d => ?_) (fun c_d => ?_)
        · refine k_iconst (v := (-1)) F dX7_car_44 45 rfl (by decide) ?_
          exact k_iret F dX7_car_45 (by first | exact Nat.le_of_ble_eq_true rfl | omega) (by first | exact Nat.le_of_ble_eq_true rfl | omega) ⟨by show Value.int (carF R a w) = _; unfold carF; rw [erc, q2], hM, hK⟩
        · exact absurd rfl c_d
      | some k =>
        rw [ixO_s q2]
        obtain ⟨hk, rfl⟩ := ixO_lt (by omega) q2
        refine k_ifeq F dX7_car_32 35 44 rfl (by decide) (fun c_e => ?_) (fun c_e => ?_)
        · exact absurd c_e (by decide)
        · refine k_aload_n F dX7_car_35 36 rfl rfl rfl ?_
          refine k_iload_n F dX7_car_36 37 rfl rfl rfl ?_
          refine k_iload_n F dX7_car_37 38 rfl rfl rfl ?_
          refine k_callV F kd_X7_carAt q3781 q194 (kInvV (Bs := [_, _]) F kcX7 q3778 q3780 qs116 kd_X7_carAt q3781 dX7_car_38 (kHs.of hM.1) rfl (by decide)) (zX7_carAt F.st hM a k (by omega)) 41 rfl (Nat.le_of_ble_eq_true rfl) (by first | exact Nat.le_of_ble_eq_true rfl | omega) (by first | exact Nat.le_of_ble_eq_true rfl | omega) (by first | exact Nat.le_of_ble_eq_true rfl | omega) (by first | exact Nat.le_of_ble_eq_true rfl | omega) (fun r5 h5 hr5 => ?_)
          obtain ⟨rfl, rfl⟩ := hr5
          refine k_goto F dX7_car_41 45 (by decide) ?_
          exact k_iret F dX7_car_45 (by first | exact Nat.le_of_ble_eq_true rfl | omega) (by first | exact Nat.le_of_ble_eq_true rfl | omega) ⟨by show Value.int (carF R a (nI k)) = _; unfold carF; rw [erc, q2], hM, hK⟩
    · exact absurd c_b (by decide)
set_option maxHeartbeats 4000000 in
set_option maxRecDepth 100000 in
theorem zX7_account {l : Launch} {g : kG} (S : kStart l g) {h : kH} {m : Nat} {ad : Nat → Nat} {sc R : Nat → Int32} {ar : Nat → Nat → Int32} (hM : MW h m ad sc R ar) (v : Int32) : kMet l g yX7_account (Cond.code yX7_account cX7_account 2 (Option.some Jvm.ClassFile.FieldType.int)) 2 0 0 [.ref m, .int v] h (mAn h m ad sc R ar (oAcc R (sc 7) v)) := by
  refine kEnter S kd_X7_account (Nat.le_of_ble_eq_true rfl) (fun x F hxl hxg => ?_)
  subst hxl; subst hxg
  have hlv : lv_args 0 [.ref m, .int v] = [(0, .ref m), (1, .int v)] := rfl
  rw [hlv]
  have hK : kKp (mOwn m) h h := kKp.rf
  refine k_aload_n F dX7_account_0 1 rfl rfl rfl ?_
  refine k_iconst (v := 0) F dX7_account_1 2 rfl (by decide) ?_
  refine m_put F 8 (by decide) (knX7 8) q3600 rfl rfl dX7_account_2 5 rfl hM hK rfl rfl rfl (fun h9 hM hK => ?_)
  refine k_aload_n F dX7_account_5 6 rfl rfl rfl ?_
  refine k_iload_n F dX7_account_6 7 rfl rfl rfl ?_
  refine k_iconst (v := 0) F dX7_account_7 8 rfl (by decide) ?_
  refine k_bipush (v := 7) F dX7_account_8 10 rfl (by decide) ?_
  refine k_callV F kd_X7_in q3498 q194 (kInvS (Bs := [_, _, _]) F q3496 q3497 q194 kd_X7_in q3498 dX7_account_10 rfl (by decide)) (zX7_in F.st _ _ _) 13 rfl (Nat.le_of_ble_eq_true rfl) (by first | exact Nat.le_of_ble_eq_true rfl | omega) (by first | exact Nat.le_of_ble_eq_true rfl | omega) (by first | exact Nat.le_of_ble_eq_true rfl | omega) (by first | exact Nat.le_of_ble_eq_true rfl | omega) (fun r1 h1 hr1 => ?_)
  obtain ⟨rfl, rfl⟩ := hr1
  refine k_callV F kd_X7_right q3850 q194 (kInvV (Bs := [_]) F kcX7 q3847 q3849 qs132 kd_X7_right q3850 dX7_account_13 (kHs.of hM.1) rfl (by decide)) (zX7_right F.st hM _) 16 rfl (Nat.le_of_ble_eq_true rfl) (by first | exact Nat.le_of_ble_eq_true rfl | omega) (by first | exact Nat.le_of_ble_eq_true rfl | omega) (by first | exact Nat.le_of_ble_eq_true rfl | omega) (by first | exact Nat.le_of_ble_eq_true rfl | omega) (fun r2 h2 hr2 => ?_)
  obtain ⟨rfl, hM, hK9⟩ := hr2
  have hK := hK.tr hK9
  rw [show (7 : Int32) = nI 8 - 1 from by decide] at hM ⊢
  cases q1 : ixO v 8 with
  | none =>
    have ho : oAcc R (sc 7) v = none := by simp [oAcc, q1]
    rw [ho] at F
    rw [ixO_n q1] at hM ⊢
    refine k_ifne F dX7_account_16 19 21 rfl (by decide) (fun c_a => ?_) (fun c_a => ?_)
    · exact absurd rfl c_a
    · refine k_iconst (v := 0) F dX7_account_19 20 rfl (by decide) ?_
      exact k_iret F dX7_account_20 (by first | exact Nat.le_of_ble_eq_true rfl | omega) (by first | exact Nat.le_of_ble_eq_true rfl | omega) ⟨rfl, hM, hK⟩
  | some k =>
    have ho : oAcc R (sc 7) v = some (if k = 7 then sc 7 else R (10 + k)) := by simp [oAcc, q1]
    rw [ho] at F
    rw [ixO_s q1] at hM ⊢
    obtain ⟨hk, rfl⟩ := ixO_lt (by omega) q1
    replace hM : MW _ m ad (upd sc 8 0) R ar := hM
    refine k_ifne F dX7_account_16 19 21 rfl (by decide) (fun c_b => ?_) (fun c_b => ?_)
    · refine k_iload_n F dX7_account_21 22 rfl rfl rfl ?_
      refine k_bipush (v := 7) F dX7_account_22 24 rfl (by decide) ?_
      rw [show (7 : Int32) = nI 7 from rfl]
      refine k_icmpne F dX7_account_24 27 34 rfl (by decide) (fun c_d => ?_) (fun c_d => ?_)
      · rw [nI_inj (by omega) (by omega)] at c_d
        refine k_aload_n F dX7_account_34 35 rfl rfl rfl ?_
        refine m_get F 0 (by decide) q3592 rfl dX7_account_35 38 rfl hM rfl ?_
        refine k_bipush (v := 10) F dX7_account_38 40 rfl (by decide) ?_
        refine k_iload_n F dX7_account_40 41 rfl rfl rfl ?_
        refine k_iadd F dX7_account_41 42 rfl ?_
        refine m_ld F dX7_account_42 43 rfl hM (10 + k) (by first | (with_reducible rfl) | (simp only [nI_lit, pk_mul, nI_add])) (by omega) ?_
        exact k_iret F dX7_account_43 (by first | exact Nat.le_of_ble_eq_true rfl | omega) (by first | exact Nat.le_of_ble_eq_true rfl | omega) ⟨by show Value.int (if k = 7 then sc 7 else R (10 + k)) = _; rw [if_neg c_d], hM, hK⟩
      · rw [nI_inj (by omega) (by omega)] at c_d
        refine k_aload_n F dX7_account_27 28 rfl rfl rfl ?_
        refine m_get F 7 (by decide) q3599 rfl dX7_account_28 31 rfl hM rfl ?_
        refine k_goto F dX7_account_31 43 (by decide) ?_
        exact k_iret F dX7_account_43 (by first | exact Nat.le_of_ble_eq_true rfl | omega) (by first | exact Nat.le_of_ble_eq_true rfl | omega) ⟨by show Value.int (if k = 7 then sc 7 else R (10 + k)) = _; rw [if_pos c_d]; rfl, hM, hK⟩
    · exact absurd c_b (by decide)
set_option maxHeartbeats 4000000 in
set_option maxRecDepth 100000 in
theorem zX7_gap {l : Launch} {g : kG} (S : kStart l g) {h : kH} {m : Nat} {ad : Nat → Nat} {sc R : Nat → Int32} {ar : Nat → Nat → Int32} (hM : MW h m ad sc R ar) (hR : RV R) : kMet l g yX7_gap (Cond.code yX7_gap cX7_gap 4 (Option.some Jvm.ClassFile.FieldType.int)) 4 0 0 [.ref m] h (mDv h m ad (upd sc 8 0) R ar (.int (gapF R))) := by
  refine kEnter S kd_X7_gap (Nat.le_of_ble_eq_true rfl) (fun x F hxl hxg => ?_)
  subst hxl; subst hxg
  have hlv : lv_args 0 [.ref m] = [(0, .ref m)] := rfl
  rw [hlv]
  have hK : kKp (mOwn m) h h := kKp.rf
  obtain ⟨r1, r2, r3, r4, r5, r6, r7, r8⟩ := id hR
  refine k_aload_n F dX7_gap_0 1 rfl rfl rfl ?_
  refine k_iconst (v := 0) F dX7_gap_1 2 rfl (by decide) ?_
  refine m_put F 8 (by decide) (knX7 8) q3600 rfl rfl dX7_gap_2 5 rfl hM hK rfl rfl rfl (fun h9 hM hK => ?_)
  refine k_aload_n F dX7_gap_5 6 rfl rfl rfl ?_
  refine m_get F 0 (by decide) q3592 rfl dX7_gap_6 9 rfl hM rfl ?_
  refine k_bipush (v := 10) F dX7_gap_9 11 rfl (by decide) ?_
  refine m_ld F dX7_gap_11 12 rfl hM (10) (by first | (with_reducible rfl) | (simp only [nI_lit, pk_mul, nI_add])) (by omega) ?_
  refine k_aload_n F dX7_gap_12 13 rfl rfl rfl ?_
  refine m_get F 0 (by decide) q3592 rfl dX7_gap_13 16 rfl hM rfl ?_
  refine k_bipush (v := 11) F dX7_gap_16 18 rfl (by decide) ?_
  refine m_ld F dX7_gap_18 19 rfl hM (11) (by first | (with_reducible rfl) | (simp only [nI_lit, pk_mul, nI_add])) (by omega) ?_
  refine k_isub F dX7_gap_19 20 rfl ?_
  refine k_aload_n F dX7_gap_20 21 rfl rfl rfl ?_
  refine k_callV F kd_X7_allCars q3854 q194 (kInvV (Bs := []) F kcX7 q3851 q3853 qs133 kd_X7_allCars q3854 dX7_gap_21 (kHs.of hM.1) rfl (by decide)) (zX7_allCars F.st hM hR) 24 rfl (Nat.le_of_ble_eq_true rfl) (by first | exact Nat.le_of_ble_eq_true rfl | omega) (by first | exact Nat.le_of_ble_eq_true rfl | omega) (by first | exact Nat.le_of_ble_eq_true rfl | omega) (by first | exact Nat.le_of_ble_eq_true rfl | omega) (fun r1 h1 hr1 => ?_)
  obtain ⟨rfl, rfl⟩ := hr1
  refine k_isub F dX7_gap_24 25 rfl ?_
  refine k_callV F kd_J13_abs q2970 q164 (kInvS (Bs := [_]) F q3922 q2969 q164 kd_J13_abs q2970 dX7_gap_25 rfl (by decide)) (zJ13_abs F.st _) 28 rfl (Nat.le_of_ble_eq_true rfl) (by first | exact Nat.le_of_ble_eq_true rfl | omega) (by first | exact Nat.le_of_ble_eq_true rfl | omega) (by first | exact Nat.le_of_ble_eq_true rfl | omega) (by first | exact Nat.le_of_ble_eq_true rfl | omega) (fun r2 h2 hr2 => ?_)
  obtain ⟨rfl, rfl⟩ := hr2
  refine k_istore_n (lv' := [(0, _), (1, _)]) F dX7_gap_28 29 rfl rfl (Nat.le_of_ble_eq_true rfl) rfl rfl rfl ?_
  refine k_iconst (v := 0) F dX7_gap_29 30 rfl (by decide) ?_
  refine k_istore_n (lv' := [(0, _), (1, _), (2, _)]) F dX7_gap_30 31 rfl rfl (Nat.le_of_ble_eq_true rfl) rfl rfl rfl ?_
  rename_i hM0 hK0
  generalize hd : (if 0 ≤ R 10 - R 11 - sumTo (fun a => mOf R a 3) (rA R) then R 10 - R 11 - sumTo (fun a => mOf R a 3) (rA R) else -(R 10 - R 11 - sumTo (fun a => mOf R a 3) (rA R))) = d
  have hg : gapF R = badAll R (rA R) d + nI (cntB (mixedF R) (rP R)) := by unfold gapF; simp only [hd]
  refine kUpTo (Q := fun j => kW x 0 0 h9 31 [(0, .ref m), (1, .int (badAll R j d)), (2, .int (nI j))] []) (rA R) ?_ ?_ 0 (Nat.zero_le _)
  · refine k_iload_n F dX7_gap_31 32 rfl rfl rfl ?_
    refine k_aload_n F dX7_gap_32 33 rfl rfl rfl ?_
    refine m_get F 0 (by decide) q3592 rfl dX7_gap_33 36 rfl hM rfl ?_
    refine k_iconst (v := 3) F dX7_gap_36 37 rfl (by decide) ?_
    refine m_ld F dX7_gap_37 38 rfl hM (3) (by first | (with_reducible rfl) | (simp only [nI_lit, pk_mul, nI_add])) (by omega) ?_
    rw [r1]
    refine k_icmpge F dX7_gap_38 41 90 rfl (by decide) (fun c_a => ?_) (fun c_a => ?_)
    · refine k_iconst (v := 0) F dX7_gap_90 91 rfl (by decide) ?_
      refine k_istore_n (lv' := [(0, _), (1, _), (2, _)]) F dX7_gap_91 92 rfl rfl (Nat.le_of_ble_eq_true rfl) rfl rfl rfl ?_
      refine kUpTo (Q := fun j => kW x 0 0 h9 92 [(0, .ref m), (1, .int (badAll R (rA R) d + nI (cntB (mixedF R) j))), (2, .int (nI j))] []) (rP R) ?_ ?_ 0 (Nat.zero_le _) |> (fun z => by simpa [cntB, nI_0] using z)
      · refine k_iload_n F dX7_gap_92 93 rfl rfl rfl ?_
        refine k_aload_n F dX7_gap_93 94 rfl rfl rfl ?_
        refine m_get F 0 (by decide) q3592 rfl dX7_gap_94 97 rfl hM rfl ?_
        refine k_iconst (v := 4) F dX7_gap_97 98 rfl (by decide) ?_
        refine m_ld F dX7_gap_98 99 rfl hM (4) (by first | (with_reducible rfl) | (simp only [nI_lit, pk_mul, nI_add])) (by omega) ?_
        rw [r3]
        refine k_icmpge F dX7_gap_99 102 124 rfl (by decide) (fun c_b => ?_) (fun c_b => ?_)
        · refine k_iload_n F dX7_gap_124 125 rfl rfl rfl ?_
          exact k_iret F dX7_gap_125 (by first | exact Nat.le_of_ble_eq_true rfl | omega) (by first | exact Nat.le_of_ble_eq_true rfl | omega) ⟨by rw [hg], hM, hK⟩
        · exact absurd (by rw [nI_leE (by omega) (by omega)]; omega) c_b
      · intro j hj ih
        refine k_iload_n F dX7_gap_92 93 rfl rfl rfl ?_
        refine k_aload_n F dX7_gap_93 94 rfl rfl rfl ?_
        refine m_get F 0 (by decide) q3592 rfl dX7_gap_94 97 rfl hM rfl ?_
        refine k_iconst (v := 4) F dX7_gap_97 98 rfl (by decide) ?_
        refine m_ld F dX7_gap_98 99 rfl hM (4) (by first | (with_reducible rfl) | (simp only [nI_lit, pk_mul, nI_add])) (by omega) ?_
        rw [r3]
        refine k_icmpge F dX7_gap_99 102 124 rfl (by decide) (fun c_d => ?_) (fun c_d => ?_)
        · rw [nI_leE (by omega) (by omega)] at c_d
          omega
        · refine k_iload_n F dX7_gap_102 103 rfl rfl rfl ?_
          refine k_aload_n F dX7_gap_103 104 rfl rfl rfl ?_
          refine k_iload_n F dX7_gap_104 105 rfl rfl rfl ?_
          refine k_callV F kd_X7_isMixed q3926 q194 (kInvV (Bs := [_]) F kcX7 q3923 q3925 qs140 kd_X7_isMixed q3926 dX7_gap_105 (kHs.of hM.1) rfl (by decide)) (zX7_isMixed F.st hM hR j (by omega)) 108 rfl (Nat.le_of_ble_eq_true rfl) (by first | exact Nat.le_of_ble_eq_true rfl | omega) (by first | exact Nat.le_of_ble_eq_true rfl | omega) (by first | exact Nat.le_of_ble_eq_true rfl | omega) (by first | exact Nat.le_of_ble_eq_true rfl | omega) (fun r3 h3 hr3 => ?_)
          obtain ⟨rfl, rfl⟩ := hr3
          have fin : ∀ b : Bool, b = mixedF R j → kW x 0 0 h9 116 [(0, .ref m), (1, .int (badAll R (rA R) d + nI (cntB (mixedF R) j))), (2, .int (nI j))] [.int (kB b), .int (badAll R (rA R) d + nI (cntB (mixedF R) j))] := by
            intro b hb
            refine k_iadd F dX7_gap_116 117 rfl ?_
            refine k_istore_n (lv' := [(0, _), (1, _), (2, _)]) F dX7_gap_117 118 rfl rfl (Nat.le_of_ble_eq_true rfl) rfl rfl rfl ?_
            refine k_iinc (e := 1) (lv' := [(0, _), (1, _), (2, _)]) F dX7_gap_118 121 rfl rfl (by decide) rfl (Nat.le_of_ble_eq_true rfl) rfl rfl rfl ?_
            refine k_goto F dX7_gap_121 92 (by decide) ?_
            rw [nI_1]
            have e : badAll R (rA R) d + nI (cntB (mixedF R) j) + kB b = badAll R (rA R) d + nI (cntB (mixedF R) (j + 1)) := by
              rw [Int32.add_assoc, hb]
              cases hq : mixedF R j
              · rw [show cntB (mixedF R) (j + 1) = cntB (mixedF R) j from by simp [cntB, hq]]
                exact congrArg (badAll R (rA R) d + ·) (Int32.add_zero _)
              · rw [show cntB (mixedF R) (j + 1) = cntB (mixedF R) j + 1 from by simp [cntB, hq], ← nI_add]
                rfl
            rw [e]
            exact ih
          refine k_ifeq F dX7_gap_108 111 115 rfl (by decide) (fun c_e => ?_) (fun c_e => ?_)
          · rw [kB_0] at c_e
            refine k_iconst (v := 0) F dX7_gap_115 116 rfl (by decide) ?_
            exact fin false c_e.symm
          · rw [kB_0, Bool.not_eq_false] at c_e
            refine k_iconst (v := 1) F dX7_gap_111 112 rfl (by decide) ?_
            refine k_goto F dX7_gap_112 116 (by decide) ?_
            exact fin true c_e.symm
    · exact absurd (by rw [nI_leE (by omega) (by omega)]; omega) c_a
  · intro j hj ih
    refine k_iload_n F dX7_gap_31 32 rfl rfl rfl ?_
    refine k_aload_n F dX7_gap_32 33 rfl rfl rfl ?_
    refine m_get F 0 (by decide) q3592 rfl dX7_gap_33 36 rfl hM rfl ?_
    refine k_iconst (v := 3) F dX7_gap_36 37 rfl (by decide) ?_
    refine m_ld F dX7_gap_37 38 rfl hM (3) (by first | (with_reducible rfl) | (simp only [nI_lit, pk_mul, nI_add])) (by omega) ?_
    rw [r1]
    refine k_icmpge F dX7_gap_38 41 90 rfl (by decide) (fun c_f => ?_) (fun c_f => ?_)
    · rw [nI_leE (by omega) (by omega)] at c_f
      omega
    · refine k_iconst (v := 0) F dX7_gap_41 42 rfl (by decide) ?_
      refine k_istore_n (lv' := [(0, _), (1, _), (2, _), (3, _)]) F dX7_gap_42 43 rfl rfl (Nat.le_of_ble_eq_true rfl) rfl rfl rfl ?_
      refine kUpTo (Q := fun b => kW x 0 0 h9 43 [(0, .ref m), (1, .int (badAll R j d + nI (cntB (badF R j) b))), (2, .int (nI j)), (3, .int (nI b))] []) j ?_ ?_ 0 (Nat.zero_le _) |> (fun z => by simpa [cntB, nI_0] using z)
      · refine k_iload_n F dX7_gap_43 44 rfl rfl rfl ?_
        refine k_iload_n F dX7_gap_44 45 rfl rfl rfl ?_
        refine k_icmpge F dX7_gap_45 48 84 rfl (by decide) (fun c_g => ?_) (fun c_g => ?_)
        · refine kW.keep (lv' := [(0, _), (1, _), (2, _)]) [0, 1, 2] rfl ?_
          refine k_iinc (e := 1) (lv' := [(0, _), (1, _), (2, _)]) F dX7_gap_84 87 rfl rfl (by decide) rfl (Nat.le_of_ble_eq_true rfl) rfl rfl rfl ?_
          refine k_goto F dX7_gap_87 31 (by decide) ?_
          rw [nI_1]
          exact ih
        · exact absurd (by rw [nI_leE (by omega) (by omega)]; omega) c_g
      · intro b hb ih2
        refine k_iload_n F dX7_gap_43 44 rfl rfl rfl ?_
        refine k_iload_n F dX7_gap_44 45 rfl rfl rfl ?_
        refine k_icmpge F dX7_gap_45 48 84 rfl (by decide) (fun c_i => ?_) (fun c_i => ?_)
        · rw [nI_leE (by omega) (by omega)] at c_i
          omega
        · have no : badF R j b = false → kW x 0 0 h9 78 [(0, .ref m), (1, .int (badAll R j d + nI (cntB (badF R j) b))), (2, .int (nI j)), (3, .int (nI b))] [] := by
            intro hb
            refine k_iinc (e := 1) (lv' := [(0, _), (1, _), (2, _), (3, _)]) F dX7_gap_78 81 rfl rfl (by decide) rfl (Nat.le_of_ble_eq_true rfl) rfl rfl rfl ?_
            refine k_goto F dX7_gap_81 43 (by decide) ?_
            rw [nI_1]
            simpa [cntB, hb] using ih2
          refine k_aload_n F dX7_gap_48 49 rfl rfl rfl ?_
          refine k_iload_n F dX7_gap_49 50 rfl rfl rfl ?_
          refine k_iload_n F dX7_gap_50 51 rfl rfl rfl ?_
          refine k_callV F kd_X7_areClashing q3591 q194 (kInvV (Bs := [_, _]) F kcX7 q3588 q3590 qs96 kd_X7_areClashing q3591 dX7_gap_51 (kHs.of hM.1) rfl (by decide)) (zX7_areClashing F.st hM j b (by omega)) 54 rfl (Nat.le_of_ble_eq_true rfl) (by first | exact Nat.le_of_ble_eq_true rfl | omega) (by first | exact Nat.le_of_ble_eq_true rfl | omega) (by first | exact Nat.le_of_ble_eq_true rfl | omega) (by first | exact Nat.le_of_ble_eq_true rfl | omega) (fun r4 h4 hr4 => ?_)
          obtain ⟨rfl, rfl⟩ := hr4
          refine k_ifeq F dX7_gap_54 57 78 rfl (by decide) (fun c_k => ?_) (fun c_k => ?_)
          · rw [kB_0] at c_k
            exact no (by simp [badF, c_k])
          · rw [kB_0, Bool.not_eq_false] at c_k
            refine k_aload_n F dX7_gap_57 58 rfl rfl rfl ?_
            refine k_iload_n F dX7_gap_58 59 rfl rfl rfl ?_
            refine k_callV F kd_X7_lightOf q3773 q194 (kInvV (Bs := [_]) F kcX7 q3770 q3772 qs114 kd_X7_lightOf q3773 dX7_gap_59 (kHs.of hM.1) rfl (by decide)) (zX7_lightOf F.st hM hR j (by omega)) 62 rfl (Nat.le_of_ble_eq_true rfl) (by first | exact Nat.le_of_ble_eq_true rfl | omega) (by first | exact Nat.le_of_ble_eq_true rfl | omega) (by first | exact Nat.le_of_ble_eq_true rfl | omega) (by first | exact Nat.le_of_ble_eq_true rfl | omega) (fun r5 h5 hr5 => ?_)
            obtain ⟨rfl, rfl⟩ := hr5
            refine k_iconst (v := 2) F dX7_gap_62 63 rfl (by decide) ?_
            refine k_icmpeq F dX7_gap_63 66 78 rfl (by decide) (fun c_l => ?_) (fun c_l => ?_)
            · exact no (by simp [badF, c_l])
            · refine k_aload_n F dX7_gap_66 67 rfl rfl rfl ?_
              refine k_iload_n F dX7_gap_67 68 rfl rfl rfl ?_
              refine k_callV F kd_X7_lightOf q3773 q194 (kInvV (Bs := [_]) F kcX7 q3770 q3772 qs114 kd_X7_lightOf q3773 dX7_gap_68 (kHs.of hM.1) rfl (by decide)) (zX7_lightOf F.st hM hR b (by omega)) 71 rfl (Nat.le_of_ble_eq_true rfl) (by first | exact Nat.le_of_ble_eq_true rfl | omega) (by first | exact Nat.le_of_ble_eq_true rfl | omega) (by first | exact Nat.le_of_ble_eq_true rfl | omega) (by first | exact Nat.le_of_ble_eq_true rfl | omega) (fun r6 h6 hr6 => ?_)
              obtain ⟨rfl, rfl⟩ := hr6
              refine k_iconst (v := 2) F dX7_gap_71 72 rfl (by decide) ?_
              refine k_icmpeq F dX7_gap_72 75 78 rfl (by decide) (fun c_o => ?_) (fun c_o => ?_)
              · exact no (by simp [badF, c_o])
              · refine k_iinc (e := 1) (lv' := [(0, _), (1, _), (2, _), (3, _)]) F dX7_gap_75 78 rfl rfl (by decide) rfl (Nat.le_of_ble_eq_true rfl) rfl rfl rfl ?_
                refine k_iinc (e := 1) (lv' := [(0, _), (1, _), (2, _), (3, _)]) F dX7_gap_78 81 rfl rfl (by decide) rfl (Nat.le_of_ble_eq_true rfl) rfl rfl rfl ?_
                refine k_goto F dX7_gap_81 43 (by decide) ?_
                rw [nI_1]
                have e : badAll R j d + nI (cntB (badF R j) b) + 1 = badAll R j d + nI (cntB (badF R j) (b + 1)) := by
                  rw [Int32.add_assoc, nI_1]
                  have : badF R j b = true := by simp [badF, c_k, c_l, c_o]
                  simp [cntB, this]
                rw [e]
                exact ih2

