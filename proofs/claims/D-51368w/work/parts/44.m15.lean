/-! the reference: words -/
theorem kd_X7_isKey : kCd (Cond.code yX7_isKey cX7_isKey 3 (Option.some Jvm.ClassFile.FieldType.boolean)) yX7_isKey cX7_isKey 3 (Option.some Jvm.ClassFile.FieldType.boolean) [] := kCd_code (by decide +kernel)
set_option maxHeartbeats 4000000 in
set_option maxRecDepth 100000 in
theorem zX7_isKey {l : Launch} {g : kG} (S : kStart l g) {h : kH} {m : Nat} {ad : Nat → Nat} {sc R : Nat → Int32} {ar : Nat → Nat → Int32} {N : Nat} {s : SS} (hM : MW h m ad (scT sc s) R ar) (hn : sc 10 = nI N) (hB : BufOK (ar 9) N) (hs : SOK N s) {w : Nat} {L : List Int32} (hw : kStr g h w L) (hL : ascL L) : kMet l g yX7_isKey (Cond.code yX7_isKey cX7_isKey 3 (Option.some Jvm.ClassFile.FieldType.boolean)) 6 0 0 [.ref m, .ref w] h (mRd h (.int (kB (isKeyF (ar 9) s L)))) := by
  refine kEnter S kd_X7_isKey (Nat.le_of_ble_eq_true rfl) (fun x F hxl hxg => ?_)
  subst hxl; subst hxg
  have hlv : lv_args 0 [.ref m, .ref w] = [(0, .ref m), (1, .ref w)] := rfl
  rw [hlv]
  obtain ⟨⟨s1, s2, s3, s4, s5⟩, s6⟩ := id hs
  obtain ⟨v, t, t', f, e1, e2, hr, hb, hf⟩ := id hw
  obtain ⟨hl1, hl2⟩ := id hL
  have hN : N ≤ 600 := hB.1
  have no : isKeyF (ar 9) s L = false → kW x 0 0 h 31 [(0, .ref m), (1, .ref w)] [] := by
    intro e
    rw [e] at F
    refine k_iconst (v := 0) F dX7_isKey_31 32 rfl (by decide) ?_
    exact k_zret F dX7_isKey_32 (by first | rfl | exact kzb _ | exact pk_nc _ | decide) (by first | exact Nat.le_of_ble_eq_true rfl | omega) (by first | exact Nat.le_of_ble_eq_true rfl | omega) ⟨rfl, rfl⟩
  refine k_aload_n F dX7_isKey_0 1 rfl rfl rfl ?_
  refine m_get F 16 (by decide) q3608 rfl dX7_isKey_1 4 rfl hM rfl ?_
  refine k_topi (b := nI s.2.1) rfl ?_
  refine k_ifne F dX7_isKey_4 7 31 rfl (by decide) (fun c_a => ?_) (fun c_a => ?_)
  · rw [nI_0E (by omega)] at c_a
    exact no (by unfold isKeyF; rw [decide_eq_false c_a]; rfl)
  · rw [nI_0E (by omega)] at c_a
    refine k_aload_n F dX7_isKey_7 8 rfl rfl rfl ?_
    refine m_get F 14 (by decide) q3606 rfl dX7_isKey_8 11 rfl hM rfl ?_
    refine k_topi (b := nI s.1.2.2.1) rfl ?_
    refine k_iconst (v := 1) F dX7_isKey_11 12 rfl (by decide) ?_
    refine k_topi (b := nI 1) (by rfl) ?_
    refine k_icmpne F dX7_isKey_12 15 31 rfl (by decide) (fun c_d => ?_) (fun c_d => ?_)
    · rw [nI_inj (by omega) (by omega)] at c_d
      exact no (by unfold isKeyF; rw [decide_eq_false c_d, decide_eq_true c_a]; rfl)
    · rw [nI_inj (by omega) (by omega)] at c_d
      refine k_aload_n F dX7_isKey_15 16 rfl rfl rfl ?_
      refine m_get F 12 (by decide) q3604 rfl dX7_isKey_16 19 rfl hM rfl ?_
      refine k_topi (b := nI s.1.1) rfl ?_
      refine k_aload_n F dX7_isKey_19 20 rfl rfl rfl ?_
      refine m_get F 13 (by decide) q3605 rfl dX7_isKey_20 23 rfl hM rfl ?_
      refine k_topi (b := nI s.1.2.1) rfl ?_
      refine k_isub F dX7_isKey_23 24 rfl ?_
      refine k_topi (b := nI (s.1.1 - s.1.2.1)) (pk_sub s2) ?_
      refine k_aload_n F dX7_isKey_24 25 rfl rfl rfl ?_
      refine k_callV F kd_J10_length q418 q161 (kInvV (Bs := []) F kcJ10 q3482 q416 q417 kd_J10_length q418 dX7_isKey_25 hr rfl (by decide)) (zJ10_length F.st hw (by omega)) 28 rfl (Nat.le_of_ble_eq_true rfl) (by first | exact Nat.le_of_ble_eq_true rfl | omega) (by first | exact Nat.le_of_ble_eq_true rfl | omega) (by first | exact Nat.le_of_ble_eq_true rfl | omega) (by first | exact Nat.le_of_ble_eq_true rfl | omega) (fun r1 h1 hr1 => ?_)
      obtain ⟨rfl, rfl⟩ := hr1
      refine k_icmpeq F dX7_isKey_28 31 33 rfl (by decide) (fun c_g => ?_) (fun c_g => ?_)
      · rw [nI_inj (by omega) (by omega)] at c_g
        have ec : isKeyF (ar 9) s L = (List.range L.length).all (fun j => ar 9 (s.1.2.1 + j) == byL L j) := by
          unfold isKeyF
          rw [decide_eq_true c_g, decide_eq_true c_d, decide_eq_true c_a]
          rfl
        refine k_iconst (v := 0) F dX7_isKey_33 34 rfl (by decide) ?_
        refine k_istore_n (lv' := [(0, _), (1, _), (2, _)]) F dX7_isKey_34 35 rfl rfl (Nat.le_of_ble_eq_true rfl) rfl rfl rfl ?_
        refine kUpTo (Q := fun j => (∀ i, i < j → (ar 9 (s.1.2.1 + i) == byL L i) = true) → kW x 0 0 h 35 [(0, .ref m), (1, .ref w), (2, .int (nI j))] []) (L.length) ?_ ?_ 0 (Nat.zero_le _) (fun i hi => absurd hi (by omega))
        · intro hl
          refine k_iload_n F dX7_isKey_35 36 rfl rfl rfl ?_
          refine k_aload_n F dX7_isKey_36 37 rfl rfl rfl ?_
          refine k_callV F kd_J10_length q418 q161 (kInvV (Bs := []) F kcJ10 q3482 q416 q417 kd_J10_length q418 dX7_isKey_37 hr rfl (by decide)) (zJ10_length F.st hw (by omega)) 40 rfl (Nat.le_of_ble_eq_true rfl) (by first | exact Nat.le_of_ble_eq_true rfl | omega) (by first | exact Nat.le_of_ble_eq_true rfl | omega) (by first | exact Nat.le_of_ble_eq_true rfl | omega) (by first | exact Nat.le_of_ble_eq_true rfl | omega) (fun r2 h2 hr2 => ?_)
          obtain ⟨rfl, rfl⟩ := hr2
          refine k_icmpge F dX7_isKey_40 43 70 rfl (by decide) (fun _ => ?_) (fun c_ => absurd c_ (by rw [nI_leE (by omega) (by omega)]; omega))
          refine k_iconst (v := 1) F dX7_isKey_70 71 rfl (by decide) ?_
          have ef : isKeyF (ar 9) s L = true := by
            rw [ec, List.all_eq_true]
            exact fun i hi => hl i (List.mem_range.mp hi)
          rw [ef] at F
          exact k_zret F dX7_isKey_71 (by first | rfl | exact kzb _ | exact pk_nc _ | decide) (by first | exact Nat.le_of_ble_eq_true rfl | omega) (by first | exact Nat.le_of_ble_eq_true rfl | omega) ⟨rfl, rfl⟩
        · intro j hj ih hl
          obtain ⟨c, hc, e⟩ := hl2 j hj
          refine k_iload_n F dX7_isKey_35 36 rfl rfl rfl ?_
          refine k_aload_n F dX7_isKey_36 37 rfl rfl rfl ?_
          refine k_callV F kd_J10_length q418 q161 (kInvV (Bs := []) F kcJ10 q3482 q416 q417 kd_J10_length q418 dX7_isKey_37 hr rfl (by decide)) (zJ10_length F.st hw (by omega)) 40 rfl (Nat.le_of_ble_eq_true rfl) (by first | exact Nat.le_of_ble_eq_true rfl | omega) (by first | exact Nat.le_of_ble_eq_true rfl | omega) (by first | exact Nat.le_of_ble_eq_true rfl | omega) (by first | exact Nat.le_of_ble_eq_true rfl | omega) (fun r3 h3 hr3 => ?_)
          obtain ⟨rfl, rfl⟩ := hr3
          refine k_icmpge F dX7_isKey_40 43 70 rfl (by decide) (fun c_ => absurd c_ (by rw [nI_leE (by omega) (by omega)]; omega)) (fun _ => ?_)
          refine k_aload_n F dX7_isKey_43 44 rfl rfl rfl ?_
          refine m_get F 9 (by decide) q3601 rfl dX7_isKey_44 47 rfl hM rfl ?_
          refine k_aload_n F dX7_isKey_47 48 rfl rfl rfl ?_
          refine m_get F 13 (by decide) q3605 rfl dX7_isKey_48 51 rfl hM rfl ?_
          refine k_topi (b := nI s.1.2.1) rfl ?_
          refine k_iload_n F dX7_isKey_51 52 rfl rfl rfl ?_
          refine k_iadd F dX7_isKey_52 53 rfl ?_
          refine m_iald F _ (by rfl) dX7_isKey_53 54 rfl hM ((s.1.2.1 + j)) (by first | (with_reducible rfl) | (simp only [nI_lit, pk_mul, nI_add])) (by first | decide | omega | (simp only [mSz]; omega)) ?_
          refine k_aload_n F dX7_isKey_54 55 rfl rfl rfl ?_
          refine k_iload_n F dX7_isKey_55 56 rfl rfl rfl ?_
          refine k_callV F kd_J10_charAt q946 q161 (kInvV (Bs := [_]) F kcJ10 q3483 q944 q945 kd_J10_charAt q946 dX7_isKey_56 hr rfl (by decide)) (zJ10_charAt F.st hw (by omega) j hj) 59 rfl (Nat.le_of_ble_eq_true rfl) (by first | exact Nat.le_of_ble_eq_true rfl | omega) (by first | exact Nat.le_of_ble_eq_true rfl | omega) (by first | exact Nat.le_of_ble_eq_true rfl | omega) (by first | exact Nat.le_of_ble_eq_true rfl | omega) (fun r4 h4 hr4 => ?_)
          obtain ⟨rfl, rfl⟩ := hr4
          rw [e, chr_asc hc]
          refine k_icmpeq F dX7_isKey_59 62 64 rfl (by decide) (fun c_i => ?_) (fun c_i => ?_)
          · refine k_iinc (e := 1) (lv' := [(0, _), (1, _), (2, _)]) F dX7_isKey_64 67 rfl rfl (by decide) rfl (Nat.le_of_ble_eq_true rfl) rfl rfl rfl ?_
            refine k_goto F dX7_isKey_67 35 (by decide) ?_
            rw [nI_1]
            exact ih (fun q hq => if z : q = j then by rw [z, e, c_i]; exact beq_self_eq_true _ else hl q (by omega))
          · refine k_iconst (v := 0) F dX7_isKey_62 63 rfl (by decide) ?_
            have ef : isKeyF (ar 9) s L = false := by
              rw [ec, List.all_eq_false]
              exact ⟨j, List.mem_range.mpr hj, by rw [e]; simpa using c_i⟩
            rw [ef] at F
            exact k_zret F dX7_isKey_63 (by first | rfl | exact kzb _ | exact pk_nc _ | decide) (by first | exact Nat.le_of_ble_eq_true rfl | omega) (by first | exact Nat.le_of_ble_eq_true rfl | omega) ⟨rfl, rfl⟩
      · rw [nI_inj (by omega) (by omega)] at c_g
        exact no (by unfold isKeyF; rw [decide_eq_false c_g, decide_eq_true c_d, decide_eq_true c_a]; rfl)

