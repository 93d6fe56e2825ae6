/-! the reference: tokens -/
theorem kd_X7_seen : kCd (Cond.code yX7_seen cX7_seen 2 (Option.some Jvm.ClassFile.FieldType.int)) yX7_seen cX7_seen 2 (Option.some Jvm.ClassFile.FieldType.int) [] := kCd_code (by decide +kernel)
theorem kd_X7_goes : kCd (Cond.code yX7_goes cX7_goes 2 (Option.none : Option Jvm.ClassFile.FieldType)) yX7_goes cX7_goes 2 (Option.none : Option Jvm.ClassFile.FieldType) [] := kCd_code (by decide +kernel)
theorem kd_X7_starts : kCd (Cond.code yX7_starts cX7_starts 1 (Option.none : Option Jvm.ClassFile.FieldType)) yX7_starts cX7_starts 1 (Option.none : Option Jvm.ClassFile.FieldType) [] := kCd_code (by decide +kernel)
theorem kd_X7_must : kCd (Cond.code yX7_must cX7_must 3 (Option.some Jvm.ClassFile.FieldType.boolean)) yX7_must cX7_must 3 (Option.some Jvm.ClassFile.FieldType.boolean) [] := kCd_code (by decide +kernel)
theorem kd_X7_passes : kCd (Cond.code yX7_passes cX7_passes 1 (Option.none : Option Jvm.ClassFile.FieldType)) yX7_passes cX7_passes 1 (Option.none : Option Jvm.ClassFile.FieldType) [] := kCd_code (by decide +kernel)
theorem kd_X7_isSign : kCd (Cond.code yX7_isSign cX7_isSign 2 (Option.some Jvm.ClassFile.FieldType.boolean)) yX7_isSign cX7_isSign 2 (Option.some Jvm.ClassFile.FieldType.boolean) [] := kCd_code (by decide +kernel)
theorem kd_X7_number : kCd (Cond.code yX7_number cX7_number 4 (Option.some Jvm.ClassFile.FieldType.int)) yX7_number cX7_number 4 (Option.some Jvm.ClassFile.FieldType.int) [] := kCd_code (by decide +kernel)
theorem kd_X7_takesSign : kCd (Cond.code yX7_takesSign cX7_takesSign 2 (Option.none : Option Jvm.ClassFile.FieldType)) yX7_takesSign cX7_takesSign 2 (Option.none : Option Jvm.ClassFile.FieldType) [] := kCd_code (by decide +kernel)
theorem kd_X7_looksAtName : kCd (Cond.code yX7_looksAtName cX7_looksAtName 1 (Option.some Jvm.ClassFile.FieldType.int)) yX7_looksAtName cX7_looksAtName 1 (Option.some Jvm.ClassFile.FieldType.int) [] := kCd_code (by decide +kernel)
theorem kd_X7_takesName : kCd (Cond.code yX7_takesName cX7_takesName 2 (Option.some Jvm.ClassFile.FieldType.int)) yX7_takesName cX7_takesName 2 (Option.some Jvm.ClassFile.FieldType.int) [] := kCd_code (by decide +kernel)
set_option maxHeartbeats 4000000 in
set_option maxRecDepth 100000 in
theorem zX7_seen {l : Launch} {g : kG} (S : kStart l g) {h : kH} {m : Nat} {ad : Nat → Nat} {sc R : Nat → Int32} {ar : Nat → Nat → Int32} (hM : MW h m ad sc R ar) (k N : Nat) (hn : sc 10 = nI N) (hN : N ≤ 600) (hk : k ≤ 700) : kMet l g yX7_seen (Cond.code yX7_seen cX7_seen 2 (Option.some Jvm.ClassFile.FieldType.int)) 1 0 0 [.ref m, .int (nI k)] h (mRd h (.int (atF (ar 9) N k))) := by
  refine kEnter S kd_X7_seen (Nat.le_of_ble_eq_true rfl) (fun x F hxl hxg => ?_)
  subst hxl; subst hxg
  have hlv : lv_args 0 [.ref m, .int (nI k)] = [(0, .ref m), (1, .int (nI k))] := rfl
  rw [hlv]
  refine k_iload_n F dX7_seen_0 1 rfl rfl rfl ?_
  refine k_aload_n F dX7_seen_1 2 rfl rfl rfl ?_
  refine m_get F 10 (by decide) q3602 rfl dX7_seen_2 5 rfl hM rfl ?_
  rw [hn]
  refine k_icmpge F dX7_seen_5 8 17 rfl (by decide) (fun c_a => ?_) (fun c_a => ?_)
  · rw [nI_leE (by omega) (by omega)] at c_a
    refine k_iconst (v := (-1)) F dX7_seen_17 18 rfl (by decide) ?_
    exact k_iret F dX7_seen_18 (by first | exact Nat.le_of_ble_eq_true rfl | omega) (by first | exact Nat.le_of_ble_eq_true rfl | omega) ⟨by unfold atF; rw [if_neg (by omega)], rfl⟩
  · rw [nI_leE (by omega) (by omega)] at c_a
    refine k_aload_n F dX7_seen_8 9 rfl rfl rfl ?_
    refine m_get F 9 (by decide) q3601 rfl dX7_seen_9 12 rfl hM rfl ?_
    refine k_iload_n F dX7_seen_12 13 rfl rfl rfl ?_
    refine m_iald F _ (by rfl) dX7_seen_13 14 rfl hM (k) (by first | (with_reducible rfl) | (simp only [nI_lit, pk_mul, nI_add])) (by first | decide | omega | (simp only [mSz]; omega)) ?_
    refine k_goto F dX7_seen_14 18 (by decide) ?_
    exact k_iret F dX7_seen_18 (by first | exact Nat.le_of_ble_eq_true rfl | omega) (by first | exact Nat.le_of_ble_eq_true rfl | omega) ⟨by unfold atF; rw [if_pos (by omega)], rfl⟩
set_option maxHeartbeats 4000000 in
set_option maxRecDepth 100000 in
theorem zX7_goes {l : Launch} {g : kG} (S : kStart l g) {h : kH} {m : Nat} {ad : Nat → Nat} {sc R : Nat → Int32} {ar : Nat → Nat → Int32} {N : Nat} {t : Tk} {c e : Int32} (hM : MW h m ad (scR sc t c e) R ar) (hn : sc 10 = nI N) (hB : BufOK (ar 9) N) (ht : t.1 ≤ N) : kMet l g yX7_goes (Cond.code yX7_goes cX7_goes 2 (Option.none : Option Jvm.ClassFile.FieldType)) 2 0 0 [.ref m] h (mDo h m ad (scR sc (goF (ar 9) N t) c e) R ar) := by
  refine kEnter S kd_X7_goes (Nat.le_of_ble_eq_true rfl) (fun x F hxl hxg => ?_)
  subst hxl; subst hxg
  have hlv : lv_args 0 [.ref m] = [(0, .ref m)] := rfl
  rw [hlv]
  have hK : kKp (mOwn m) h h := kKp.rf
  obtain ⟨hN, hby⟩ := id hB
  obtain ⟨s0, b0, k0, v0⟩ := t
  dsimp only at ht
  -- behind the blanks
  have at_in : ∀ k, k < N → atF (ar 9) N k = ar 9 k := fun k hk => if_pos hk
  have at_out : ∀ k, N ≤ k → atF (ar 9) N k = -1 := fun k hk => if_neg (by omega)
  have fin : ∀ h1 b, scanF blkF (ar 9) N s0 = b → b ≤ N → MW h1 m ad (scR sc (b, b0, k0, v0) c e) R ar → kKp (mOwn m) h h1 → kW x 0 0 h1 39 [(0, .ref m)] [] := by
    intro h1 b eb hb hM hK
    refine k_aload_n F dX7_goes_39 40 rfl rfl rfl ?_
    refine k_aload_n F dX7_goes_40 41 rfl rfl rfl ?_
    refine m_get F 12 (by decide) q3604 rfl dX7_goes_41 44 rfl hM rfl ?_
    refine k_topi (b := nI b) rfl ?_
    refine m_put F 13 (by decide) (knX7 13) q3605 rfl rfl dX7_goes_44 47 rfl hM hK rfl rfl rfl (fun h9 hM hK => ?_)
    rw [scR_13] at hM
    refine k_aload_n F dX7_goes_47 48 rfl rfl rfl ?_
    refine k_aload_n F dX7_goes_48 49 rfl rfl rfl ?_
    refine m_get F 12 (by decide) q3604 rfl dX7_goes_49 52 rfl hM rfl ?_
    refine k_topi (b := nI b) rfl ?_
    refine k_callV F kd_X7_seen q3495 q194 (kInvV (Bs := [_]) F kcX7 q3492 q3494 qs74 kd_X7_seen q3495 dX7_goes_52 (kHs.of hM.1) rfl (by decide)) (zX7_seen F.st hM b N hn hN (by omega)) 55 rfl (Nat.le_of_ble_eq_true rfl) (by first | exact Nat.le_of_ble_eq_true rfl | omega) (by first | exact Nat.le_of_ble_eq_true rfl | omega) (by first | exact Nat.le_of_ble_eq_true rfl | omega) (by first | exact Nat.le_of_ble_eq_true rfl | omega) (fun r1 h1 hr1 => ?_)
    obtain ⟨rfl, rfl⟩ := hr1
    refine k_istore_n (lv' := [(0, _), (1, _)]) F dX7_goes_55 56 rfl rfl (Nat.le_of_ble_eq_true rfl) rfl rfl rfl ?_
    refine k_iload_n F dX7_goes_56 57 rfl rfl rfl ?_
    refine k_iconst (v := (-1)) F dX7_goes_57 58 rfl (by decide) ?_
    refine k_icmpne F dX7_goes_58 61 69 rfl (by decide) (fun c_a => ?_) (fun c_a => ?_)
    · have hbN : b < N := by
        by_cases q : b < N
        · exact q
        · rw [at_out b (by omega)] at c_a
          exact absurd rfl c_a
      rw [at_in b hbN] at c_a ⊢
      refine k_iload_n F dX7_goes_69 70 rfl rfl rfl ?_
      refine k_bipush (v := 97) F dX7_goes_70 72 rfl (by decide) ?_
      refine k_bipush (v := 122) F dX7_goes_72 74 rfl (by decide) ?_
      refine k_callV F kd_X7_in q3498 q194 (kInvS (Bs := [_, _, _]) F q3496 q3497 q194 kd_X7_in q3498 dX7_goes_74 rfl (by decide)) (zX7_in F.st _ _ _) 77 rfl (Nat.le_of_ble_eq_true rfl) (by first | exact Nat.le_of_ble_eq_true rfl | omega) (by first | exact Nat.le_of_ble_eq_true rfl | omega) (by first | exact Nat.le_of_ble_eq_true rfl | omega) (by first | exact Nat.le_of_ble_eq_true rfl | omega) (fun r2 h2 hr2 => ?_)
      obtain ⟨rfl, rfl⟩ := hr2
      generalize hq : ar 9 b = q
      refine k_ifeq F dX7_goes_77 80 116 rfl (by decide) (fun c_d => ?_) (fun c_d => ?_)
      · rw [kB_0] at c_d
        refine k_iload_n F dX7_goes_116 117 rfl rfl rfl ?_
        refine k_bipush (v := 48) F dX7_goes_117 119 rfl (by decide) ?_
        refine k_bipush (v := 57) F dX7_goes_119 121 rfl (by decide) ?_
        refine k_callV F kd_X7_in q3498 q194 (kInvS (Bs := [_, _, _]) F q3496 q3497 q194 kd_X7_in q3498 dX7_goes_121 rfl (by decide)) (zX7_in F.st _ _ _) 124 rfl (Nat.le_of_ble_eq_true rfl) (by first | exact Nat.le_of_ble_eq_true rfl | omega) (by first | exact Nat.le_of_ble_eq_true rfl | omega) (by first | exact Nat.le_of_ble_eq_true rfl | omega) (by first | exact Nat.le_of_ble_eq_true rfl | omega) (fun r3 h3 hr3 => ?_)
        obtain ⟨rfl, rfl⟩ := hr3
        refine k_ifeq F dX7_goes_124 127 197 rfl (by decide) (fun c_f => ?_) (fun c_f => ?_)
        · rw [kB_0] at c_f
          have fin3 : ∀ h1 z, z = (if sgnF q = true then 3 else 4 : Nat) → kW x 0 0 h1 221 [(0, .ref m), (1, .int q)] [.int (nI z), .ref m] → kW x 0 0 h1 221 [(0, .ref m), (1, .int q)] [.int (nI z), .ref m] := fun _ _ _ kk => kk
          have go3 : ∀ (z : Nat), z = (if sgnF q = true then 3 else 4 : Nat) → kW x 0 0 h9 221 [(0, .ref m), (1, .int q)] [.int (nI z), .ref m] := by
            intro z hz
            refine m_put F 14 (by decide) (knX7 14) q3606 rfl rfl dX7_goes_221 224 rfl hM hK rfl rfl rfl (fun h9 hM hK => ?_)
            rw [scR_14] at hM
            refine k_aload_n F dX7_goes_224 225 rfl rfl rfl ?_
            refine k_dup F dX7_goes_225 226 rfl rfl ?_
            refine m_get F 12 (by decide) q3604 rfl dX7_goes_226 229 rfl hM rfl ?_
            refine k_topi (b := nI b) rfl ?_
            refine k_iconst (v := 1) F dX7_goes_229 230 rfl (by decide) ?_
            refine k_iadd F dX7_goes_230 231 rfl ?_
            refine m_put F 12 (by decide) (knX7 12) q3604 rfl rfl dX7_goes_231 234 rfl hM hK rfl rfl rfl (fun h9 hM hK => ?_)
            rw [nI_1, scR_12] at hM
            exact k_vret F dX7_goes_234 (by first | exact Nat.le_of_ble_eq_true rfl | omega) (by first | exact Nat.le_of_ble_eq_true rfl | omega) ⟨by unfold goF; dsimp only; rw [eb, if_neg (by omega), hq, if_neg (by unfold letF; rw [c_d]; decide), if_neg (by unfold digF; rw [c_f]; decide), ← hz]; exact hM, hK⟩
          refine k_aload_n F dX7_goes_197 198 rfl rfl rfl ?_
          refine k_iload_n F dX7_goes_198 199 rfl rfl rfl ?_
          refine k_bipush (v := 59) F dX7_goes_199 201 rfl (by decide) ?_
          refine k_icmpeq F dX7_goes_201 204 216 rfl (by decide) (fun c_i => ?_) (fun c_i => ?_)
          · refine k_iconst (v := 3) F dX7_goes_216 217 rfl (by decide) ?_
            refine k_goto F dX7_goes_217 221 (by decide) ?_
            exact go3 3 (by rw [if_pos]; unfold sgnF; rw [c_i]; rfl)
          · refine k_iload_n F dX7_goes_204 205 rfl rfl rfl ?_
            refine k_bipush (v := 40) F dX7_goes_205 207 rfl (by decide) ?_
            refine k_icmpeq F dX7_goes_207 210 216 rfl (by decide) (fun c_j => ?_) (fun c_j => ?_)
            · refine k_iconst (v := 3) F dX7_goes_216 217 rfl (by decide) ?_
              refine k_goto F dX7_goes_217 221 (by decide) ?_
              exact go3 3 (by rw [if_pos]; unfold sgnF; rw [c_j]; rfl)
            · refine k_iload_n F dX7_goes_210 211 rfl rfl rfl ?_
              refine k_bipush (v := 41) F dX7_goes_211 213 rfl (by decide) ?_
              refine k_icmpne F dX7_goes_213 216 220 rfl (by decide) (fun c_k => ?_) (fun c_k => ?_)
              · refine k_iconst (v := 4) F dX7_goes_220 221 rfl (by decide) ?_
                exact go3 4 (by rw [if_neg]; unfold sgnF; simp [c_i, c_j, c_k])
              · refine k_iconst (v := 3) F dX7_goes_216 217 rfl (by decide) ?_
                refine k_goto F dX7_goes_217 221 (by decide) ?_
                exact go3 3 (by rw [if_pos]; unfold sgnF; rw [c_k]; rfl)
        · rw [kB_0, Bool.not_eq_false] at c_f
          refine k_aload_n F dX7_goes_127 128 rfl rfl rfl ?_
          refine k_iconst (v := 2) F dX7_goes_128 129 rfl (by decide) ?_
          refine m_put F 14 (by decide) (knX7 14) q3606 rfl rfl dX7_goes_129 132 rfl hM hK rfl rfl rfl (fun h9 hM hK => ?_)
          rw [show (2 : Int32) = nI 2 from rfl, scR_14] at hM
          refine k_aload_n F dX7_goes_132 133 rfl rfl rfl ?_
          refine k_iconst (v := 0) F dX7_goes_133 134 rfl (by decide) ?_
          refine m_put F 15 (by decide) (knX7 15) q3607 rfl rfl dX7_goes_134 137 rfl hM hK rfl rfl rfl (fun h9 hM hK => ?_)
          rw [show (0 : Int32) = nI 0 from rfl, scR_15] at hM
          have loop : ∀ (f n : Nat) (h1 : kH), N - (b + n) ≤ f → b + n ≤ N → scanF digF (ar 9) N b = scanF digF (ar 9) N (b + n) → MW h1 m ad (scR sc (b + n, b, 2, vTo (ar 9) b n) c e) R ar → kKp (mOwn m) h h1 → kW x 0 0 h1 137 [(0, .ref m), (1, .int q)] [] := by
            intro f
            induction f with
            | zero =>
              intro n h1 hf hbn hs hM hK
              refine k_aload_n F dX7_goes_137 138 rfl rfl rfl ?_
              refine k_aload_n F dX7_goes_138 139 rfl rfl rfl ?_
              refine m_get F 12 (by decide) q3604 rfl dX7_goes_139 142 rfl hM rfl ?_
              refine k_topi (b := nI (b + n)) rfl ?_
              refine k_callV F kd_X7_seen q3495 q194 (kInvV (Bs := [_]) F kcX7 q3492 q3494 qs74 kd_X7_seen q3495 dX7_goes_142 (kHs.of hM.1) rfl (by decide)) (zX7_seen F.st hM (b + n) N hn hN (by omega)) 145 rfl (Nat.le_of_ble_eq_true rfl) (by first | exact Nat.le_of_ble_eq_true rfl | omega) (by first | exact Nat.le_of_ble_eq_true rfl | omega) (by first | exact Nat.le_of_ble_eq_true rfl | omega) (by first | exact Nat.le_of_ble_eq_true rfl | omega) (fun r4 h4 hr4 => ?_)
              obtain ⟨rfl, rfl⟩ := hr4
              refine k_bipush (v := 48) F dX7_goes_145 147 rfl (by decide) ?_
              refine k_bipush (v := 57) F dX7_goes_147 149 rfl (by decide) ?_
              refine k_callV F kd_X7_in q3498 q194 (kInvS (Bs := [_, _, _]) F q3496 q3497 q194 kd_X7_in q3498 dX7_goes_149 rfl (by decide)) (zX7_in F.st _ _ _) 152 rfl (Nat.le_of_ble_eq_true rfl) (by first | exact Nat.le_of_ble_eq_true rfl | omega) (by first | exact Nat.le_of_ble_eq_true rfl | omega) (by first | exact Nat.le_of_ble_eq_true rfl | omega) (by first | exact Nat.le_of_ble_eq_true rfl | omega) (fun r5 h5 hr5 => ?_)
              obtain ⟨rfl, rfl⟩ := hr5
              rw [at_out _ (by omega)]
              refine k_ifeq F dX7_goes_152 155 234 rfl (by decide) (fun _ => ?_) (fun c_ => (absurd (by decide) c_))
              have es : scanF digF (ar 9) N b = b + n := by rw [hs, scanF_end (by omega)]
              exact k_vret F dX7_goes_234 (by first | exact Nat.le_of_ble_eq_true rfl | omega) (by first | exact Nat.le_of_ble_eq_true rfl | omega) ⟨by unfold goF; dsimp only; rw [eb, if_neg (by omega), hq, if_neg (by unfold letF; rw [c_d]; decide), if_pos (by unfold digF; rw [c_f]), es, Nat.add_sub_cancel_left]; exact hM, hK⟩
            | succ f ih =>
              intro n h1 hf hbn hs hM hK
              refine k_aload_n F dX7_goes_137 138 rfl rfl rfl ?_
              refine k_aload_n F dX7_goes_138 139 rfl rfl rfl ?_
              refine m_get F 12 (by decide) q3604 rfl dX7_goes_139 142 rfl hM rfl ?_
              refine k_topi (b := nI (b + n)) rfl ?_
              refine k_callV F kd_X7_seen q3495 q194 (kInvV (Bs := [_]) F kcX7 q3492 q3494 qs74 kd_X7_seen q3495 dX7_goes_142 (kHs.of hM.1) rfl (by decide)) (zX7_seen F.st hM (b + n) N hn hN (by omega)) 145 rfl (Nat.le_of_ble_eq_true rfl) (by first | exact Nat.le_of_ble_eq_true rfl | omega) (by first | exact Nat.le_of_ble_eq_true rfl | omega) (by first | exact Nat.le_of_ble_eq_true rfl | omega) (by first | exact Nat.le_of_ble_eq_true rfl | omega) (fun r6 h6 hr6 => ?_)
              obtain ⟨rfl, rfl⟩ := hr6
              refine k_bipush (v := 48) F dX7_goes_145 147 rfl (by decide) ?_
              refine k_bipush (v := 57) F dX7_goes_147 149 rfl (by decide) ?_
              refine k_callV F kd_X7_in q3498 q194 (kInvS (Bs := [_, _, _]) F q3496 q3497 q194 kd_X7_in q3498 dX7_goes_149 rfl (by decide)) (zX7_in F.st _ _ _) 152 rfl (Nat.le_of_ble_eq_true rfl) (by first | exact Nat.le_of_ble_eq_true rfl | omega) (by first | exact Nat.le_of_ble_eq_true rfl | omega) (by first | exact Nat.le_of_ble_eq_true rfl | omega) (by first | exact Nat.le_of_ble_eq_true rfl | omega) (fun r7 h7 hr7 => ?_)
              obtain ⟨rfl, rfl⟩ := hr7
              refine k_ifeq F dX7_goes_152 155 234 rfl (by decide) (fun c_g => ?_) (fun c_g => ?_)
              · rw [kB_0] at c_g
                have es : scanF digF (ar 9) N b = b + n := by
                  rw [hs]
                  by_cases w : b + n < N
                  · rw [at_in _ w] at c_g
                    exact scanF_stop w c_g
                  · exact scanF_end (by omega)
                exact k_vret F dX7_goes_234 (by first | exact Nat.le_of_ble_eq_true rfl | omega) (by first | exact Nat.le_of_ble_eq_true rfl | omega) ⟨by unfold goF; dsimp only; rw [eb, if_neg (by omega), hq, if_neg (by unfold letF; rw [c_d]; decide), if_pos (by unfold digF; rw [c_f]), es, Nat.add_sub_cancel_left]; exact hM, hK⟩
              · rw [kB_0, Bool.not_eq_false] at c_g
                have hw : b + n < N := by
                  by_cases w : b + n < N
                  · exact w
                  · rw [at_out _ (by omega)] at c_g
                    exact absurd c_g (by decide)
                rw [at_in _ hw] at c_g
                obtain ⟨d, d1, d2, d3⟩ := (inBet (a := 48) (b := 57) (by omega) (by omega)).mp c_g
                have hv := vTo_le (ar 9) b n
                refine k_aload_n F dX7_goes_155 156 rfl rfl rfl ?_
                refine k_sipush (v := 1000) F dX7_goes_156 159 rfl (by decide) ?_
                refine k_bipush (v := 10) F dX7_goes_159 161 rfl (by decide) ?_
                refine k_aload_n F dX7_goes_161 162 rfl rfl rfl ?_
                refine m_get F 15 (by decide) q3607 rfl dX7_goes_162 165 rfl hM rfl ?_
                refine k_topi (b := nI (vTo (ar 9) b n)) rfl ?_
                refine k_imul F dX7_goes_165 166 rfl ?_
                refine k_aload_n F dX7_goes_166 167 rfl rfl rfl ?_
                refine k_aload_n F dX7_goes_167 168 rfl rfl rfl ?_
                refine m_get F 12 (by decide) q3604 rfl dX7_goes_168 171 rfl hM rfl ?_
                refine k_topi (b := nI (b + n)) rfl ?_
                refine k_callV F kd_X7_seen q3495 q194 (kInvV (Bs := [_]) F kcX7 q3492 q3494 qs74 kd_X7_seen q3495 dX7_goes_171 (kHs.of hM.1) rfl (by decide)) (zX7_seen F.st hM (b + n) N hn hN (by omega)) 174 rfl (Nat.le_of_ble_eq_true rfl) (by first | exact Nat.le_of_ble_eq_true rfl | omega) (by first | exact Nat.le_of_ble_eq_true rfl | omega) (by first | exact Nat.le_of_ble_eq_true rfl | omega) (by first | exact Nat.le_of_ble_eq_true rfl | omega) (fun r8 h8 hr8 => ?_)
                obtain ⟨rfl, rfl⟩ := hr8
                rw [at_in _ hw, d3]
                refine k_iadd F dX7_goes_174 175 rfl ?_
                refine k_bipush (v := 48) F dX7_goes_175 177 rfl (by decide) ?_
                refine k_isub F dX7_goes_177 178 rfl ?_
                refine k_topi (b := nI (10 * vTo (ar 9) b n + d - 48)) (by rw [show (10 : Int32) = nI 10 from rfl, pk_mul, nI_add, show (48 : Int32) = nI 48 from rfl, pk_sub (by omega)]) ?_
                refine k_callV F kd_J13_min q380 q164 (kInvS (Bs := [_, _]) F q3499 q379 q164 kd_J13_min q380 dX7_goes_178 rfl (by decide)) (zJ13_min F.st _ _) 181 rfl (Nat.le_of_ble_eq_true rfl) (by first | exact Nat.le_of_ble_eq_true rfl | omega) (by first | exact Nat.le_of_ble_eq_true rfl | omega) (by first | exact Nat.le_of_ble_eq_true rfl | omega) (by first | exact Nat.le_of_ble_eq_true rfl | omega) (fun r9 h9 hr9 => ?_)
                obtain ⟨rfl, rfl⟩ := hr9
                have et : iMin 1000 (nI (10 * vTo (ar 9) b n + d - 48)) = nI (vTo (ar 9) b (n + 1)) := by
                  show _ = nI (min 1000 (10 * vTo (ar 9) b n + (ar 9 (b + n)).toNatClampNeg - 48))
                  rw [d3, nI_clamp (by omega)]
                  exact iMin_nI (a := 1000) (by omega) (by omega)
                refine k_topi (b := nI (vTo (ar 9) b (n + 1))) et ?_
                refine m_put F 15 (by decide) (knX7 15) q3607 rfl rfl dX7_goes_181 184 rfl hM hK rfl rfl rfl (fun h9 hM hK => ?_)
                rw [scR_15] at hM
                refine k_aload_n F dX7_goes_184 185 rfl rfl rfl ?_
                refine k_dup F dX7_goes_185 186 rfl rfl ?_
                refine m_get F 12 (by decide) q3604 rfl dX7_goes_186 189 rfl hM rfl ?_
                refine k_topi (b := nI (b + n)) rfl ?_
                refine k_iconst (v := 1) F dX7_goes_189 190 rfl (by decide) ?_
                refine k_iadd F dX7_goes_190 191 rfl ?_
                refine m_put F 12 (by decide) (knX7 12) q3604 rfl rfl dX7_goes_191 194 rfl hM hK rfl rfl rfl (fun h9 hM hK => ?_)
                refine k_goto F dX7_goes_194 137 (by decide) ?_
                rw [nI_1, scR_12] at hM
                refine ih (n + 1) _ (by omega) (by omega) ?_ hM hK
                rw [hs]
                exact scanF_go hw c_g
          exact loop N 0 _ (by omega) (by omega) rfl hM hK
      · rw [kB_0, Bool.not_eq_false] at c_d
        refine k_aload_n F dX7_goes_80 81 rfl rfl rfl ?_
        refine k_iconst (v := 1) F dX7_goes_81 82 rfl (by decide) ?_
        refine m_put F 14 (by decide) (knX7 14) q3606 rfl rfl dX7_goes_82 85 rfl hM hK rfl rfl rfl (fun h9 hM hK => ?_)
        rw [show (1 : Int32) = nI 1 from rfl, scR_14] at hM
        have loop : ∀ (f n : Nat) (h1 : kH), N - (b + n) ≤ f → b + n ≤ N → scanF letF (ar 9) N b = scanF letF (ar 9) N (b + n) → MW h1 m ad (scR sc (b + n, b, 1, v0) c e) R ar → kKp (mOwn m) h h1 → kW x 0 0 h1 85 [(0, .ref m), (1, .int q)] [] := by
          intro f
          induction f with
          | zero =>
            intro n h1 hf hbn hs hM hK
            refine k_aload_n F dX7_goes_85 86 rfl rfl rfl ?_
            refine k_aload_n F dX7_goes_86 87 rfl rfl rfl ?_
            refine m_get F 12 (by decide) q3604 rfl dX7_goes_87 90 rfl hM rfl ?_
            refine k_topi (b := nI (b + n)) rfl ?_
            refine k_callV F kd_X7_seen q3495 q194 (kInvV (Bs := [_]) F kcX7 q3492 q3494 qs74 kd_X7_seen q3495 dX7_goes_90 (kHs.of hM.1) rfl (by decide)) (zX7_seen F.st hM (b + n) N hn hN (by omega)) 93 rfl (Nat.le_of_ble_eq_true rfl) (by first | exact Nat.le_of_ble_eq_true rfl | omega) (by first | exact Nat.le_of_ble_eq_true rfl | omega) (by first | exact Nat.le_of_ble_eq_true rfl | omega) (by first | exact Nat.le_of_ble_eq_true rfl | omega) (fun r10 h10 hr10 => ?_)
            obtain ⟨rfl, rfl⟩ := hr10
            refine k_bipush (v := 97) F dX7_goes_93 95 rfl (by decide) ?_
            refine k_bipush (v := 122) F dX7_goes_95 97 rfl (by decide) ?_
            refine k_callV F kd_X7_in q3498 q194 (kInvS (Bs := [_, _, _]) F q3496 q3497 q194 kd_X7_in q3498 dX7_goes_97 rfl (by decide)) (zX7_in F.st _ _ _) 100 rfl (Nat.le_of_ble_eq_true rfl) (by first | exact Nat.le_of_ble_eq_true rfl | omega) (by first | exact Nat.le_of_ble_eq_true rfl | omega) (by first | exact Nat.le_of_ble_eq_true rfl | omega) (by first | exact Nat.le_of_ble_eq_true rfl | omega) (fun r11 h11 hr11 => ?_)
            obtain ⟨rfl, rfl⟩ := hr11
            rw [at_out _ (by omega)]
            refine k_ifeq F dX7_goes_100 103 234 rfl (by decide) (fun _ => ?_) (fun c_ => (absurd (by decide) c_))
            have es : scanF letF (ar 9) N b = b + n := by rw [hs, scanF_end (by omega)]
            exact k_vret F dX7_goes_234 (by first | exact Nat.le_of_ble_eq_true rfl | omega) (by first | exact Nat.le_of_ble_eq_true rfl | omega) ⟨by unfold goF; dsimp only; rw [eb, if_neg (by omega), hq, if_pos (by unfold letF; rw [c_d]), es]; exact hM, hK⟩
          | succ f ih =>
            intro n h1 hf hbn hs hM hK
            refine k_aload_n F dX7_goes_85 86 rfl rfl rfl ?_
            refine k_aload_n F dX7_goes_86 87 rfl rfl rfl ?_
            refine m_get F 12 (by decide) q3604 rfl dX7_goes_87 90 rfl hM rfl ?_
            refine k_topi (b := nI (b + n)) rfl ?_
            refine k_callV F kd_X7_seen q3495 q194 (kInvV (Bs := [_]) F kcX7 q3492 q3494 qs74 kd_X7_seen q3495 dX7_goes_90 (kHs.of hM.1) rfl (by decide)) (zX7_seen F.st hM (b + n) N hn hN (by omega)) 93 rfl (Nat.le_of_ble_eq_true rfl) (by first | exact Nat.le_of_ble_eq_true rfl | omega) (by first | exact Nat.le_of_ble_eq_true rfl | omega) (by first | exact Nat.le_of_ble_eq_true rfl | omega) (by first | exact Nat.le_of_ble_eq_true rfl | omega) (fun r12 h12 hr12 => ?_)
            obtain ⟨rfl, rfl⟩ := hr12
            refine k_bipush (v := 97) F dX7_goes_93 95 rfl (by decide) ?_
            refine k_bipush (v := 122) F dX7_goes_95 97 rfl (by decide) ?_
            refine k_callV F kd_X7_in q3498 q194 (kInvS (Bs := [_, _, _]) F q3496 q3497 q194 kd_X7_in q3498 dX7_goes_97 rfl (by decide)) (zX7_in F.st _ _ _) 100 rfl (Nat.le_of_ble_eq_true rfl) (by first | exact Nat.le_of_ble_eq_true rfl | omega) (by first | exact Nat.le_of_ble_eq_true rfl | omega) (by first | exact Nat.le_of_ble_eq_true rfl | omega) (by first | exact Nat.le_of_ble_eq_true rfl | omega) (fun r13 h13 hr13 => ?_)
            obtain ⟨rfl, rfl⟩ := hr13
            refine k_ifeq F dX7_goes_100 103 234 rfl (by decide) (fun c_g => ?_) (fun c_g => ?_)
            · rw [kB_0] at c_g
              have es : scanF letF (ar 9) N b = b + n := by
                rw [hs]
                by_cases w : b + n < N
                · rw [at_in _ w] at c_g
                  exact scanF_stop w c_g
                · exact scanF_end (by omega)
              exact k_vret F dX7_goes_234 (by first | exact Nat.le_of_ble_eq_true rfl | omega) (by first | exact Nat.le_of_ble_eq_true rfl | omega) ⟨by unfold goF; dsimp only; rw [eb, if_neg (by omega), hq, if_pos (by unfold letF; rw [c_d]), es]; exact hM, hK⟩
            · rw [kB_0, Bool.not_eq_false] at c_g
              have hw : b + n < N := by
                by_cases w : b + n < N
                · exact w
                · rw [at_out _ (by omega)] at c_g
                  exact absurd c_g (by decide)
              rw [at_in _ hw] at c_g
              refine k_aload_n F dX7_goes_103 104 rfl rfl rfl ?_
              refine k_dup F dX7_goes_104 105 rfl rfl ?_
              refine m_get F 12 (by decide) q3604 rfl dX7_goes_105 108 rfl hM rfl ?_
              refine k_topi (b := nI (b + n)) rfl ?_
              refine k_iconst (v := 1) F dX7_goes_108 109 rfl (by decide) ?_
              refine k_iadd F dX7_goes_109 110 rfl ?_
              refine m_put F 12 (by decide) (knX7 12) q3604 rfl rfl dX7_goes_110 113 rfl hM hK rfl rfl rfl (fun h9 hM hK => ?_)
              refine k_goto F dX7_goes_113 85 (by decide) ?_
              rw [nI_1, scR_12] at hM
              refine ih (n + 1) _ (by omega) (by omega) ?_ hM hK
              rw [hs]
              exact scanF_go hw c_g
        exact loop N 0 _ (by omega) (by omega) rfl hM hK
    · have hbN : N ≤ b := by
        by_cases q : N ≤ b
        · exact q
        · rw [at_in b (by omega)] at c_a
          obtain ⟨d, d1, d2, d3⟩ := hby b (by omega)
          rw [d3] at c_a
          exact absurd c_a (nI_m1 (by omega))
      refine k_aload_n F dX7_goes_61 62 rfl rfl rfl ?_
      refine k_iconst (v := 0) F dX7_goes_62 63 rfl (by decide) ?_
      refine m_put F 14 (by decide) (knX7 14) q3606 rfl rfl dX7_goes_63 66 rfl hM hK rfl rfl rfl (fun h9 hM hK => ?_)
      rw [show (0 : Int32) = nI 0 from rfl, scR_14] at hM
      refine k_goto F dX7_goes_66 234 (by decide) ?_
      exact k_vret F dX7_goes_234 (by first | exact Nat.le_of_ble_eq_true rfl | omega) (by first | exact Nat.le_of_ble_eq_true rfl | omega) ⟨by unfold goF; dsimp only; rw [eb, if_pos (by omega)]; exact hM, hK⟩
  -- the blanks
  have loop : ∀ (f n : Nat) (h1 : kH), N - n ≤ f → n ≤ N → scanF blkF (ar 9) N s0 = scanF blkF (ar 9) N n → MW h1 m ad (scR sc (n, b0, k0, v0) c e) R ar → kKp (mOwn m) h h1 → kW x 0 0 h1 0 [(0, .ref m)] [] := by
    intro f
    induction f with
    | zero =>
      intro n h1 hf hbn hs hM hK
      refine k_aload_n F dX7_goes_0 1 rfl rfl rfl ?_
      refine k_aload_n F dX7_goes_1 2 rfl rfl rfl ?_
      refine m_get F 12 (by decide) q3604 rfl dX7_goes_2 5 rfl hM rfl ?_
      refine k_topi (b := nI n) rfl ?_
      refine k_callV F kd_X7_seen q3495 q194 (kInvV (Bs := [_]) F kcX7 q3492 q3494 qs74 kd_X7_seen q3495 dX7_goes_5 (kHs.of hM.1) rfl (by decide)) (zX7_seen F.st hM n N hn hN (by omega)) 8 rfl (Nat.le_of_ble_eq_true rfl) (by first | exact Nat.le_of_ble_eq_true rfl | omega) (by first | exact Nat.le_of_ble_eq_true rfl | omega) (by first | exact Nat.le_of_ble_eq_true rfl | omega) (by first | exact Nat.le_of_ble_eq_true rfl | omega) (fun r14 h14 hr14 => ?_)
      obtain ⟨rfl, rfl⟩ := hr14
      refine k_bipush (v := 32) F dX7_goes_8 10 rfl (by decide) ?_
      rw [at_out _ (by omega)]
      refine k_icmpeq F dX7_goes_10 13 26 rfl (by decide) (fun c_ => (by first | exact absurd rfl c_ | exact absurd c_ (by decide) | exact absurd (by assumption) c_ | exact absurd c_ (by assumption))) (fun _ => ?_)
      refine k_aload_n F dX7_goes_13 14 rfl rfl rfl ?_
      refine k_aload_n F dX7_goes_14 15 rfl rfl rfl ?_
      refine m_get F 12 (by decide) q3604 rfl dX7_goes_15 18 rfl hM rfl ?_
      refine k_topi (b := nI n) rfl ?_
      refine k_callV F kd_X7_seen q3495 q194 (kInvV (Bs := [_]) F kcX7 q3492 q3494 qs74 kd_X7_seen q3495 dX7_goes_18 (kHs.of hM.1) rfl (by decide)) (zX7_seen F.st hM n N hn hN (by omega)) 21 rfl (Nat.le_of_ble_eq_true rfl) (by first | exact Nat.le_of_ble_eq_true rfl | omega) (by first | exact Nat.le_of_ble_eq_true rfl | omega) (by first | exact Nat.le_of_ble_eq_true rfl | omega) (by first | exact Nat.le_of_ble_eq_true rfl | omega) (fun r15 h15 hr15 => ?_)
      obtain ⟨rfl, rfl⟩ := hr15
      refine k_bipush (v := 10) F dX7_goes_21 23 rfl (by decide) ?_
      rw [at_out _ (by omega)]
      refine k_icmpne F dX7_goes_23 26 39 rfl (by decide) (fun _ => ?_) (fun c_ => (by first | exact absurd rfl c_ | exact absurd c_ (by decide) | exact absurd (by assumption) c_ | exact absurd c_ (by assumption)))
      exact fin _ n (by rw [hs, scanF_end (by omega)]) hbn hM hK
    | succ f ih =>
      intro n h1 hf hbn hs hM hK
      have again : blkF (atF (ar 9) N n) = true → kW x 0 0 h1 26 [(0, .ref m)] [] := by
        intro hb
        have hw : n < N := by
          by_cases w : n < N
          · exact w
          · rw [at_out _ (by omega)] at hb
            exact absurd hb (by decide)
        rw [at_in _ hw] at hb
        refine k_aload_n F dX7_goes_26 27 rfl rfl rfl ?_
        refine k_dup F dX7_goes_27 28 rfl rfl ?_
        refine m_get F 12 (by decide) q3604 rfl dX7_goes_28 31 rfl hM rfl ?_
        refine k_topi (b := nI n) rfl ?_
        refine k_iconst (v := 1) F dX7_goes_31 32 rfl (by decide) ?_
        refine k_iadd F dX7_goes_32 33 rfl ?_
        refine m_put F 12 (by decide) (knX7 12) q3604 rfl rfl dX7_goes_33 36 rfl hM hK rfl rfl rfl (fun h9 hM hK => ?_)
        refine k_goto F dX7_goes_36 0 (by decide) ?_
        rw [nI_1, scR_12] at hM
        refine ih (n + 1) _ (by omega) (by omega) ?_ hM hK
        rw [hs]
        exact scanF_go hw hb
      refine k_aload_n F dX7_goes_0 1 rfl rfl rfl ?_
      refine k_aload_n F dX7_goes_1 2 rfl rfl rfl ?_
      refine m_get F 12 (by decide) q3604 rfl dX7_goes_2 5 rfl hM rfl ?_
      refine k_topi (b := nI n) rfl ?_
      refine k_callV F kd_X7_seen q3495 q194 (kInvV (Bs := [_]) F kcX7 q3492 q3494 qs74 kd_X7_seen q3495 dX7_goes_5 (kHs.of hM.1) rfl (by decide)) (zX7_seen F.st hM n N hn hN (by omega)) 8 rfl (Nat.le_of_ble_eq_true rfl) (by first | exact Nat.le_of_ble_eq_true rfl | omega) (by first | exact Nat.le_of_ble_eq_true rfl | omega) (by first | exact Nat.le_of_ble_eq_true rfl | omega) (by first | exact Nat.le_of_ble_eq_true rfl | omega) (fun r16 h16 hr16 => ?_)
      obtain ⟨rfl, rfl⟩ := hr16
      refine k_bipush (v := 32) F dX7_goes_8 10 rfl (by decide) ?_
      refine k_icmpeq F dX7_goes_10 13 26 rfl (by decide) (fun c_a => ?_) (fun c_a => ?_)
      · exact again (by unfold blkF; rw [c_a]; rfl)
      · refine k_aload_n F dX7_goes_13 14 rfl rfl rfl ?_
        refine k_aload_n F dX7_goes_14 15 rfl rfl rfl ?_
        refine m_get F 12 (by decide) q3604 rfl dX7_goes_15 18 rfl hM rfl ?_
        refine k_topi (b := nI n) rfl ?_
        refine k_callV F kd_X7_seen q3495 q194 (kInvV (Bs := [_]) F kcX7 q3492 q3494 qs74 kd_X7_seen q3495 dX7_goes_18 (kHs.of hM.1) rfl (by decide)) (zX7_seen F.st hM n N hn hN (by omega)) 21 rfl (Nat.le_of_ble_eq_true rfl) (by first | exact Nat.le_of_ble_eq_true rfl | omega) (by first | exact Nat.le_of_ble_eq_true rfl | omega) (by first | exact Nat.le_of_ble_eq_true rfl | omega) (by first | exact Nat.le_of_ble_eq_true rfl | omega) (fun r17 h17 hr17 => ?_)
        obtain ⟨rfl, rfl⟩ := hr17
        refine k_bipush (v := 10) F dX7_goes_21 23 rfl (by decide) ?_
        refine k_icmpne F dX7_goes_23 26 39 rfl (by decide) (fun c_d => ?_) (fun c_d => ?_)
        · refine fin _ n ?_ hbn hM hK
          rw [hs]
          by_cases w : n < N
          · rw [at_in _ w] at c_a c_d
            exact scanF_stop w (by unfold blkF; simp [c_a, c_d])
          · exact scanF_end (by omega)
        · exact again (by unfold blkF; rw [c_d]; rfl)
  exact loop N s0 _ (by omega) ht rfl hM hK

