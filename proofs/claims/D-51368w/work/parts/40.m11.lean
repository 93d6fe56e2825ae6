/-! the reference: reports -/
theorem kd_X7_writesName : kCd (Cond.code yX7_writesName cX7_writesName 3 (Option.none : Option Jvm.ClassFile.FieldType)) yX7_writesName cX7_writesName 3 (Option.none : Option Jvm.ClassFile.FieldType) [] := kCd_code (by decide +kernel)
theorem kd_X7_report : kCd (Cond.code yX7_report cX7_report 2 (Option.some Jvm.ClassFile.FieldType.int)) yX7_report cX7_report 2 (Option.some Jvm.ClassFile.FieldType.int) [] := kCd_code (by decide +kernel)
theorem kd_X7_writesPhase : kCd (Cond.code yX7_writesPhase cX7_writesPhase 4 (Option.none : Option Jvm.ClassFile.FieldType)) yX7_writesPhase cX7_writesPhase 4 (Option.none : Option Jvm.ClassFile.FieldType) [] := kCd_code (by decide +kernel)
theorem kd_X7_phases : kCd (Cond.code yX7_phases cX7_phases 2 (Option.some Jvm.ClassFile.FieldType.int)) yX7_phases cX7_phases 2 (Option.some Jvm.ClassFile.FieldType.int) [] := kCd_code (by decide +kernel)
set_option maxHeartbeats 4000000 in
set_option maxRecDepth 100000 in
theorem zX7_writesName {l : Launch} {g : kG} (S : kStart l g) {h : kH} {m : Nat} {ad : Nat → Nat} {sc R : Nat → Int32} {ar : Nat → Nat → Int32} {L : List Int32} (hT : MT h m ad sc R ar L) (hL : L.length ≤ 490) (hR : RV R) (hN : RNm R) (a : Nat) (ha : a < rA R) : kMet l g yX7_writesName (Cond.code yX7_writesName cX7_writesName 3 (Option.none : Option Jvm.ClassFile.FieldType)) 3 0 0 [.ref m, .int (nI a)] h (mDoT h m ad sc R ar (L ++ nameL (rN R a))) := by
  refine kEnter S kd_X7_writesName (Nat.le_of_ble_eq_true rfl) (fun x F hxl hxg => ?_)
  subst hxl; subst hxg
  have hlv : lv_args 0 [.ref m, .int (nI a)] = [(0, .ref m), (1, .int (nI a))] := rfl
  rw [hlv]
  have hK : kKp (mOwn m) h h := kKp.rf
  obtain ⟨r1, r2, r3, r4, r5, r6, r7, r8⟩ := id hR
  have h8 := hN a ha
  refine k_iconst (v := 0) F dX7_writesName_0 1 rfl (by decide) ?_
  refine k_istore_n (lv' := [(0, _), (1, _), (2, _)]) F dX7_writesName_1 2 rfl rfl (Nat.le_of_ble_eq_true rfl) rfl rfl rfl ?_
  suffices hl : ∀ j, j ≤ many (rN R a) → ∀ h1, MT h1 m ad sc R ar (L ++ (nameL (rN R a)).take j) → kKp (mOwn m) h h1 → kW x 0 0 h1 2 [(0, .ref m), (1, .int (nI a)), (2, .int (nI j))] [] from hl 0 (Nat.zero_le _) _ (by simpa using hT) hK
  refine kUpTo (Q := fun j => ∀ h1, MT h1 m ad sc R ar (L ++ (nameL (rN R a)).take j) → kKp (mOwn m) h h1 → kW x 0 0 h1 2 [(0, .ref m), (1, .int (nI a)), (2, .int (nI j))] []) (many (rN R a)) ?_ ?_
  · intro h1 hT hK
    obtain ⟨f0, hM, hf0⟩ := id hT
    refine k_aload_n F dX7_writesName_2 3 rfl rfl rfl ?_
    refine k_iload_n F dX7_writesName_3 4 rfl rfl rfl ?_
    refine k_iconst (v := 0) F dX7_writesName_4 5 rfl (by decide) ?_
    refine k_callV F kd_X7_of q3549 q194 (kInvV (Bs := [_, _]) F kcX7 q3546 q3548 qs86 kd_X7_of q3549 dX7_writesName_5 (kHs.of hM.1) rfl (by decide)) (zX7_of F.st hM a 0 (by omega)) 8 rfl (Nat.le_of_ble_eq_true rfl) (by first | exact Nat.le_of_ble_eq_true rfl | omega) (by first | exact Nat.le_of_ble_eq_true rfl | omega) (by first | exact Nat.le_of_ble_eq_true rfl | omega) (by first | exact Nat.le_of_ble_eq_true rfl | omega) (fun r1 h1 hr1 => ?_)
    obtain ⟨rfl, rfl⟩ := hr1
    rw [h8.1]
    refine k_iload_n F dX7_writesName_8 9 rfl rfl rfl ?_
    refine k_callV F kd_X7_letterOf q3897 q194 (kInvS (Bs := [_, _]) F q3895 q3896 q194 kd_X7_letterOf q3897 dX7_writesName_9 rfl (by decide)) (zX7_letterOf F.st (rN R a) _ (RNm_lt hN ha)) 12 rfl (Nat.le_of_ble_eq_true rfl) (by first | exact Nat.le_of_ble_eq_true rfl | omega) (by first | exact Nat.le_of_ble_eq_true rfl | omega) (by first | exact Nat.le_of_ble_eq_true rfl | omega) (by first | exact Nat.le_of_ble_eq_true rfl | omega) (fun r2 h2 hr2 => ?_)
    obtain ⟨rfl, rfl⟩ := hr2
    refine k_iconst (v := (-1)) F dX7_writesName_12 13 rfl (by decide) ?_
    rw [lettF_ge]
    refine k_icmpeq F dX7_writesName_13 16 36 rfl (by decide) (fun _ => ?_) (fun c_ => (by first | exact absurd rfl c_ | exact absurd c_ (by decide) | exact absurd (by assumption) c_ | exact absurd c_ (by assumption)))
    exact k_vret F dX7_writesName_36 (by first | exact Nat.le_of_ble_eq_true rfl | omega) (by first | exact Nat.le_of_ble_eq_true rfl | omega) ⟨by rw [List.take_of_length_le (by rw [nameL_len]; omega)] at hT; exact hT, hK⟩
  · intro j hj ih h1 hT hK
    obtain ⟨f0, hM, hf0⟩ := id hT
    refine k_aload_n F dX7_writesName_2 3 rfl rfl rfl ?_
    refine k_iload_n F dX7_writesName_3 4 rfl rfl rfl ?_
    refine k_iconst (v := 0) F dX7_writesName_4 5 rfl (by decide) ?_
    refine k_callV F kd_X7_of q3549 q194 (kInvV (Bs := [_, _]) F kcX7 q3546 q3548 qs86 kd_X7_of q3549 dX7_writesName_5 (kHs.of hM.1) rfl (by decide)) (zX7_of F.st hM a 0 (by omega)) 8 rfl (Nat.le_of_ble_eq_true rfl) (by first | exact Nat.le_of_ble_eq_true rfl | omega) (by first | exact Nat.le_of_ble_eq_true rfl | omega) (by first | exact Nat.le_of_ble_eq_true rfl | omega) (by first | exact Nat.le_of_ble_eq_true rfl | omega) (fun r3 h3 hr3 => ?_)
    obtain ⟨rfl, rfl⟩ := hr3
    rw [h8.1]
    refine k_iload_n F dX7_writesName_8 9 rfl rfl rfl ?_
    refine k_callV F kd_X7_letterOf q3897 q194 (kInvS (Bs := [_, _]) F q3895 q3896 q194 kd_X7_letterOf q3897 dX7_writesName_9 rfl (by decide)) (zX7_letterOf F.st (rN R a) _ (RNm_lt hN ha)) 12 rfl (Nat.le_of_ble_eq_true rfl) (by first | exact Nat.le_of_ble_eq_true rfl | omega) (by first | exact Nat.le_of_ble_eq_true rfl | omega) (by first | exact Nat.le_of_ble_eq_true rfl | omega) (by first | exact Nat.le_of_ble_eq_true rfl | omega) (fun r4 h4 hr4 => ?_)
    obtain ⟨rfl, rfl⟩ := hr4
    refine k_iconst (v := (-1)) F dX7_writesName_12 13 rfl (by decide) ?_
    rw [lettF_lt hj]
    refine k_icmpeq F dX7_writesName_13 16 36 rfl (by decide) (fun c_ => (absurd c_ (nI_m1 (by have := Nat.mod_lt (divs (rN R a) (many (rN R a) - 1 - j)) (show 0 < 27 by omega); omega)))) (fun _ => ?_)
    refine k_aload_n F dX7_writesName_16 17 rfl rfl rfl ?_
    refine k_aload_n F dX7_writesName_17 18 rfl rfl rfl ?_
    refine k_iload_n F dX7_writesName_18 19 rfl rfl rfl ?_
    refine k_iconst (v := 0) F dX7_writesName_19 20 rfl (by decide) ?_
    refine k_callV F kd_X7_of q3549 q194 (kInvV (Bs := [_, _]) F kcX7 q3546 q3548 qs86 kd_X7_of q3549 dX7_writesName_20 (kHs.of hM.1) rfl (by decide)) (zX7_of F.st hM a 0 (by omega)) 23 rfl (Nat.le_of_ble_eq_true rfl) (by first | exact Nat.le_of_ble_eq_true rfl | omega) (by first | exact Nat.le_of_ble_eq_true rfl | omega) (by first | exact Nat.le_of_ble_eq_true rfl | omega) (by first | exact Nat.le_of_ble_eq_true rfl | omega) (fun r5 h5 hr5 => ?_)
    obtain ⟨rfl, rfl⟩ := hr5
    rw [h8.1]
    refine k_iload_n F dX7_writesName_23 24 rfl rfl rfl ?_
    refine k_callV F kd_X7_letterOf q3897 q194 (kInvS (Bs := [_, _]) F q3895 q3896 q194 kd_X7_letterOf q3897 dX7_writesName_24 rfl (by decide)) (zX7_letterOf F.st (rN R a) _ (RNm_lt hN ha)) 27 rfl (Nat.le_of_ble_eq_true rfl) (by first | exact Nat.le_of_ble_eq_true rfl | omega) (by first | exact Nat.le_of_ble_eq_true rfl | omega) (by first | exact Nat.le_of_ble_eq_true rfl | omega) (by first | exact Nat.le_of_ble_eq_true rfl | omega) (fun r6 h6 hr6 => ?_)
    obtain ⟨rfl, rfl⟩ := hr6
    rw [lettF_lt hj]
    refine k_callN F kd_X7_writes q4011 q194 (kInvV (Bs := [_]) F kcX7 q4008 q4010 qs145 kd_X7_writes q4011 dX7_writesName_27 (kHs.of hT.fact) rfl (by decide)) (zX7_writes F.st hT (by (try simp only [List.length_append, List.length_take, List.length_cons, List.length_nil, nameL_len]); omega) _) 30 rfl (Nat.le_of_ble_eq_true rfl) (by first | exact Nat.le_of_ble_eq_true rfl | omega) (by first | exact Nat.le_of_ble_eq_true rfl | omega) (by first | exact Nat.le_of_ble_eq_true rfl | omega) (by first | exact Nat.le_of_ble_eq_true rfl | omega) (fun h7 hr7 => ?_)
    obtain ⟨hT, hK9⟩ := hr7
    obtain ⟨f9, hM, hf9⟩ := id hT
    have hK := hK.tr hK9
    refine k_iinc (e := 1) (lv' := [(0, _), (1, _), (2, _)]) F dX7_writesName_30 33 rfl rfl (by decide) rfl (Nat.le_of_ble_eq_true rfl) rfl rfl rfl ?_
    refine k_goto F dX7_writesName_33 2 (by decide) ?_
    rw [nI_1]
    refine ih _ ?_ hK
    rw [nameL_take hj, ← List.append_assoc]
    exact hT
set_option maxHeartbeats 4000000 in
set_option maxRecDepth 100000 in
theorem zX7_report {l : Launch} {g : kG} (S : kStart l g) {h : kH} {m : Nat} {ad : Nat → Nat} {sc R : Nat → Int32} {ar : Nat → Nat → Int32} (hM : MW h m ad sc R ar) (hR : RT R) (hN : RNm R) : kMet l g yX7_report (Cond.code yX7_report cX7_report 2 (Option.some Jvm.ClassFile.FieldType.int)) 4 0 0 [.ref m] h (kV (fun w h' => w = .int (nI (repTo R (rA R)).length) ∧ MT h' m ad (upd sc 8 0) R ar (repTo R (rA R)) ∧ kKp (mOwn m) h h')) := by
  refine kEnter S kd_X7_report (Nat.le_of_ble_eq_true rfl) (fun x F hxl hxg => ?_)
  subst hxl; subst hxg
  have hlv : lv_args 0 [.ref m] = [(0, .ref m)] := rfl
  rw [hlv]
  have hK : kKp (mOwn m) h h := kKp.rf
  obtain ⟨r1, r2, r3, r4, r5, r6, r7, r8⟩ := id hR.1
  refine k_aload_n F dX7_report_0 1 rfl rfl rfl ?_
  refine k_iconst (v := 0) F dX7_report_1 2 rfl (by decide) ?_
  refine m_put F 8 (by decide) (knX7 8) q3600 rfl rfl dX7_report_2 5 rfl hM hK rfl rfl rfl (fun h9 hM hK => ?_)
  refine k_aload_n F dX7_report_5 6 rfl rfl rfl ?_
  refine k_iconst (v := 0) F dX7_report_6 7 rfl (by decide) ?_
  refine m_put F 25 (by decide) (knX7 25) q3617 rfl rfl dX7_report_7 10 rfl hM hK rfl rfl rfl (fun h9 hM hK => ?_)
  refine k_iconst (v := 0) F dX7_report_10 11 rfl (by decide) ?_
  refine k_istore_n (lv' := [(0, _), (1, _)]) F dX7_report_11 12 rfl rfl (Nat.le_of_ble_eq_true rfl) rfl rfl rfl ?_
  have hT0 : MT h9 m ad (upd sc 8 0) R ar [] := ⟨ar 24, by rw [setA_self]; exact hM, preL_nil⟩
  refine kUpTo (Q := fun j => ∀ h1, MT h1 m ad (upd sc 8 0) R ar (repTo R j) → kKp (mOwn m) h h1 → kW x 0 0 h1 12 [(0, .ref m), (1, .int (nI j))] []) (rA R) ?_ ?_ 0 (Nat.zero_le _) _ hT0 hK
  · intro h1 hT hK
    obtain ⟨f0, hM, hf0⟩ := id hT
    refine k_iload_n F dX7_report_12 13 rfl rfl rfl ?_
    refine k_aload_n F dX7_report_13 14 rfl rfl rfl ?_
    refine m_get F 0 (by decide) q3592 rfl dX7_report_14 17 rfl hM rfl ?_
    refine k_iconst (v := 3) F dX7_report_17 18 rfl (by decide) ?_
    refine m_ld F dX7_report_18 19 rfl hM (3) (by first | (with_reducible rfl) | (simp only [nI_lit, pk_mul, nI_add])) (by omega) ?_
    rw [r1]
    refine k_icmpge F dX7_report_19 22 135 rfl (by decide) (fun _ => ?_) (fun c_ => absurd c_ (by rw [nI_leE (by omega) (by omega)]; omega))
    refine k_aload_n F dX7_report_135 136 rfl rfl rfl ?_
    refine m_get F 25 (by decide) q3617 rfl dX7_report_136 139 rfl hM rfl ?_
    exact k_iret F dX7_report_139 (by first | exact Nat.le_of_ble_eq_true rfl | omega) (by first | exact Nat.le_of_ble_eq_true rfl | omega) ⟨by rw [upd_eq], hT, hK⟩
  · intro j hj ih h1 hT hK
    have hlen := repTo_len R hN j (by omega)
    have h6 := (hN j hj).2.2
    obtain ⟨c, hc, ec⟩ := hR.2.1 j (by omega)
    have erc : rC R j = c := by unfold rC; rw [ec]; exact nI_clamp (by omega)
    have b1 : (if 0 < j then [(32 : Int32)] else []).length ≤ 1 := by split <;> simp
    have b2 : (if 9 < c then [nI (48 + c / 10)] else []).length ≤ 1 := by split <;> simp
    have b3 : (if mOf R j 2 = 1 then [(33 : Int32)] else []).length ≤ 1 := by split <;> simp
    obtain ⟨f0, hM, hf0⟩ := id hT
    refine k_iload_n F dX7_report_12 13 rfl rfl rfl ?_
    refine k_aload_n F dX7_report_13 14 rfl rfl rfl ?_
    refine m_get F 0 (by decide) q3592 rfl dX7_report_14 17 rfl hM rfl ?_
    refine k_iconst (v := 3) F dX7_report_17 18 rfl (by decide) ?_
    refine m_ld F dX7_report_18 19 rfl hM (3) (by first | (with_reducible rfl) | (simp only [nI_lit, pk_mul, nI_add])) (by omega) ?_
    rw [r1]
    refine k_icmpge F dX7_report_19 22 135 rfl (by decide) (fun c_ => absurd c_ (by rw [nI_leE (by omega) (by omega)]; omega)) (fun _ => ?_)
    refine k_iload_n F dX7_report_22 23 rfl rfl rfl ?_
    suffices c1 : ∀ h1, MT h1 m ad (upd sc 8 0) R ar (repTo R j ++ (if 0 < j then [32] else [])) → kKp (mOwn m) h h1 → kW x 0 0 h1 32 [(0, .ref m), (1, .int (nI j))] [] from by
      refine k_ifle F dX7_report_23 26 32 rfl (by decide) (fun c_a => ?_) (fun c_a => ?_)
      · exact c1 _ (by rw [if_neg (by rw [show (0 : Int32) = nI 0 from rfl, nI_leE (by omega) (by omega)] at c_a; omega), List.append_nil]; exact hT) hK
      · refine k_aload_n F dX7_report_26 27 rfl rfl rfl ?_
        refine k_bipush (v := 32) F dX7_report_27 29 rfl (by decide) ?_
        refine k_callN F kd_X7_writes q4011 q194 (kInvV (Bs := [_]) F kcX7 q4008 q4010 qs145 kd_X7_writes q4011 dX7_report_29 (kHs.of hT.fact) rfl (by decide)) (zX7_writes F.st hT (by (try simp only [List.length_append, List.length_take, List.length_cons, List.length_nil, nameL_len]); omega) _) 32 rfl (Nat.le_of_ble_eq_true rfl) (by first | exact Nat.le_of_ble_eq_true rfl | omega) (by first | exact Nat.le_of_ble_eq_true rfl | omega) (by first | exact Nat.le_of_ble_eq_true rfl | omega) (by first | exact Nat.le_of_ble_eq_true rfl | omega) (fun h1 hr1 => ?_)
        obtain ⟨hT, hK9⟩ := hr1
        obtain ⟨f9, hM, hf9⟩ := id hT
        have hK := hK.tr hK9
        exact c1 _ (by rw [if_pos (by rw [show (0 : Int32) = nI 0 from rfl, nI_leE (by omega) (by omega)] at c_a; omega)]; exact hT) hK
    intro h1 hT hK
    obtain ⟨f0, hM, hf0⟩ := id hT
    refine k_aload_n F dX7_report_32 33 rfl rfl rfl ?_
    refine k_iload_n F dX7_report_33 34 rfl rfl rfl ?_
    refine k_callN F kd_X7_writesName q4015 q194 (kInvV (Bs := [_]) F kcX7 q4012 q4014 qs146 kd_X7_writesName q4015 dX7_report_34 (kHs.of hT.fact) rfl (by decide)) (zX7_writesName F.st hT (by (try simp only [List.length_append, List.length_take, List.length_cons, List.length_nil, nameL_len]); omega) hR.1 hN j (by omega)) 37 rfl (Nat.le_of_ble_eq_true rfl) (by first | exact Nat.le_of_ble_eq_true rfl | omega) (by first | exact Nat.le_of_ble_eq_true rfl | omega) (by first | exact Nat.le_of_ble_eq_true rfl | omega) (by first | exact Nat.le_of_ble_eq_true rfl | omega) (fun h2 hr2 => ?_)
    obtain ⟨hT, hK9⟩ := hr2
    obtain ⟨f9, hM, hf9⟩ := id hT
    have hK := hK.tr hK9
    refine k_aload_n F dX7_report_37 38 rfl rfl rfl ?_
    refine k_aload_n F dX7_report_38 39 rfl rfl rfl ?_
    refine k_iload_n F dX7_report_39 40 rfl rfl rfl ?_
    suffices c2 : ∀ q, q = (if lightF R j = 0 then 71 else if lightF R j = 1 then (65 : Int32) else 82) → kW x 0 0 h2 67 [(0, .ref m), (1, .int (nI j))] [.int q, .ref m] from by
      refine k_callV F kd_X7_lightOf q3773 q194 (kInvV (Bs := [_]) F kcX7 q3770 q3772 qs114 kd_X7_lightOf q3773 dX7_report_40 (kHs.of hM.1) rfl (by decide)) (zX7_lightOf F.st hM hR.1 j (by omega)) 43 rfl (Nat.le_of_ble_eq_true rfl) (by first | exact Nat.le_of_ble_eq_true rfl | omega) (by first | exact Nat.le_of_ble_eq_true rfl | omega) (by first | exact Nat.le_of_ble_eq_true rfl | omega) (by first | exact Nat.le_of_ble_eq_true rfl | omega) (fun r3 h3 hr3 => ?_)
      obtain ⟨rfl, rfl⟩ := hr3
      refine k_ifne F dX7_report_43 46 51 rfl (by decide) (fun c_d => ?_) (fun c_d => ?_)
      · refine k_aload_n F dX7_report_51 52 rfl rfl rfl ?_
        refine k_iload_n F dX7_report_52 53 rfl rfl rfl ?_
        refine k_callV F kd_X7_lightOf q3773 q194 (kInvV (Bs := [_]) F kcX7 q3770 q3772 qs114 kd_X7_lightOf q3773 dX7_report_53 (kHs.of hM.1) rfl (by decide)) (zX7_lightOf F.st hM hR.1 j (by omega)) 56 rfl (Nat.le_of_ble_eq_true rfl) (by first | exact Nat.le_of_ble_eq_true rfl | omega) (by first | exact Nat.le_of_ble_eq_true rfl | omega) (by first | exact Nat.le_of_ble_eq_true rfl | omega) (by first | exact Nat.le_of_ble_eq_true rfl | omega) (fun r4 h4 hr4 => ?_)
        obtain ⟨rfl, rfl⟩ := hr4
        refine k_iconst (v := 1) F dX7_report_56 57 rfl (by decide) ?_
        refine k_icmpne F dX7_report_57 60 65 rfl (by decide) (fun c_e => ?_) (fun c_e => ?_)
        · refine k_bipush (v := 82) F dX7_report_65 67 rfl (by decide) ?_
          exact c2 _ (by rw [if_neg c_d, if_neg c_e])
        · refine k_bipush (v := 65) F dX7_report_60 62 rfl (by decide) ?_
          refine k_goto F dX7_report_62 67 (by decide) ?_
          exact c2 _ (by rw [if_neg c_d, if_pos c_e])
      · refine k_bipush (v := 71) F dX7_report_46 48 rfl (by decide) ?_
        refine k_goto F dX7_report_48 67 (by decide) ?_
        exact c2 _ (by rw [if_pos c_d])
    intro q hq
    refine k_callN F kd_X7_writes q4011 q194 (kInvV (Bs := [_]) F kcX7 q4008 q4010 qs145 kd_X7_writes q4011 dX7_report_67 (kHs.of hT.fact) rfl (by decide)) (zX7_writes F.st hT (by (try simp only [List.length_append, List.length_take, List.length_cons, List.length_nil, nameL_len]); omega) _) 70 rfl (Nat.le_of_ble_eq_true rfl) (by first | exact Nat.le_of_ble_eq_true rfl | omega) (by first | exact Nat.le_of_ble_eq_true rfl | omega) (by first | exact Nat.le_of_ble_eq_true rfl | omega) (by first | exact Nat.le_of_ble_eq_true rfl | omega) (fun h5 hr5 => ?_)
    obtain ⟨hT, hK9⟩ := hr5
    obtain ⟨f9, hM, hf9⟩ := id hT
    have hK := hK.tr hK9
    refine k_aload_n F dX7_report_70 71 rfl rfl rfl ?_
    refine k_iload_n F dX7_report_71 72 rfl rfl rfl ?_
    refine k_iconst (v := 3) F dX7_report_72 73 rfl (by decide) ?_
    refine k_callV F kd_X7_of q3549 q194 (kInvV (Bs := [_, _]) F kcX7 q3546 q3548 qs86 kd_X7_of q3549 dX7_report_73 (kHs.of hM.1) rfl (by decide)) (zX7_of F.st hM j 3 (by omega)) 76 rfl (Nat.le_of_ble_eq_true rfl) (by first | exact Nat.le_of_ble_eq_true rfl | omega) (by first | exact Nat.le_of_ble_eq_true rfl | omega) (by first | exact Nat.le_of_ble_eq_true rfl | omega) (by first | exact Nat.le_of_ble_eq_true rfl | omega) (fun r6 h6 hr6 => ?_)
    obtain ⟨rfl, rfl⟩ := hr6
    rw [ec]
    refine k_bipush (v := 9) F dX7_report_76 78 rfl (by decide) ?_
    suffices c3 : ∀ h1, MT h1 m ad (upd sc 8 0) R ar (((((repTo R j ++ (if 0 < j then [32] else [])) ++ nameL (rN R j)) ++ [q])) ++ (if 9 < c then [nI (48 + c / 10)] else [])) → kKp (mOwn m) h h1 → kW x 0 0 h1 97 [(0, .ref m), (1, .int (nI j))] [] from by
      refine k_topi (b := nI 9) (by rfl) ?_
      refine k_icmple F dX7_report_78 81 97 rfl (by decide) (fun c_f => ?_) (fun c_f => ?_)
      · rw [nI_leE (by omega) (by omega)] at c_f
        exact c3 _ (by rw [if_neg (show ¬ 9 < c by omega), List.append_nil]; exact hT) hK
      · rw [nI_leE (by omega) (by omega)] at c_f
        refine k_aload_n F dX7_report_81 82 rfl rfl rfl ?_
        refine k_bipush (v := 48) F dX7_report_82 84 rfl (by decide) ?_
        refine k_aload_n F dX7_report_84 85 rfl rfl rfl ?_
        refine k_iload_n F dX7_report_85 86 rfl rfl rfl ?_
        refine k_iconst (v := 3) F dX7_report_86 87 rfl (by decide) ?_
        refine k_callV F kd_X7_of q3549 q194 (kInvV (Bs := [_, _]) F kcX7 q3546 q3548 qs86 kd_X7_of q3549 dX7_report_87 (kHs.of hM.1) rfl (by decide)) (zX7_of F.st hM j 3 (by omega)) 90 rfl (Nat.le_of_ble_eq_true rfl) (by first | exact Nat.le_of_ble_eq_true rfl | omega) (by first | exact Nat.le_of_ble_eq_true rfl | omega) (by first | exact Nat.le_of_ble_eq_true rfl | omega) (by first | exact Nat.le_of_ble_eq_true rfl | omega) (fun r7 h7 hr7 => ?_)
        obtain ⟨rfl, rfl⟩ := hr7
        rw [ec]
        refine k_bipush (v := 10) F dX7_report_90 92 rfl (by decide) ?_
        refine k_idiv F dX7_report_92 93 rfl (by decide) ?_
        refine k_topi (b := nI (c / 10)) (pk_div (a := c) (d := 10) (by omega) (by omega) (by omega)) ?_
        refine k_iadd F dX7_report_93 94 rfl ?_
        refine k_topi (b := nI (48 + c / 10)) (by first | (with_reducible rfl) | (simp only [nI_lit, pk_mul, nI_add])) ?_
        refine k_callN F kd_X7_writes q4011 q194 (kInvV (Bs := [_]) F kcX7 q4008 q4010 qs145 kd_X7_writes q4011 dX7_report_94 (kHs.of hT.fact) rfl (by decide)) (zX7_writes F.st hT (by (try simp only [List.length_append, List.length_take, List.length_cons, List.length_nil, nameL_len]); omega) _) 97 rfl (Nat.le_of_ble_eq_true rfl) (by first | exact Nat.le_of_ble_eq_true rfl | omega) (by first | exact Nat.le_of_ble_eq_true rfl | omega) (by first | exact Nat.le_of_ble_eq_true rfl | omega) (by first | exact Nat.le_of_ble_eq_true rfl | omega) (fun h8 hr8 => ?_)
        obtain ⟨hT, hK9⟩ := hr8
        obtain ⟨f9, hM, hf9⟩ := id hT
        have hK := hK.tr hK9
        exact c3 _ (by rw [if_pos (show 9 < c by omega)]; exact hT) hK
    intro h1 hT hK
    obtain ⟨f0, hM, hf0⟩ := id hT
    refine k_aload_n F dX7_report_97 98 rfl rfl rfl ?_
    refine k_bipush (v := 48) F dX7_report_98 100 rfl (by decide) ?_
    refine k_aload_n F dX7_report_100 101 rfl rfl rfl ?_
    refine k_iload_n F dX7_report_101 102 rfl rfl rfl ?_
    refine k_iconst (v := 3) F dX7_report_102 103 rfl (by decide) ?_
    refine k_callV F kd_X7_of q3549 q194 (kInvV (Bs := [_, _]) F kcX7 q3546 q3548 qs86 kd_X7_of q3549 dX7_report_103 (kHs.of hM.1) rfl (by decide)) (zX7_of F.st hM j 3 (by omega)) 106 rfl (Nat.le_of_ble_eq_true rfl) (by first | exact Nat.le_of_ble_eq_true rfl | omega) (by first | exact Nat.le_of_ble_eq_true rfl | omega) (by first | exact Nat.le_of_ble_eq_true rfl | omega) (by first | exact Nat.le_of_ble_eq_true rfl | omega) (fun r9 h9 hr9 => ?_)
    obtain ⟨rfl, rfl⟩ := hr9
    rw [ec]
    refine k_bipush (v := 10) F dX7_report_106 108 rfl (by decide) ?_
    refine k_irem F dX7_report_108 109 rfl (by decide) ?_
    refine k_topi (b := nI (c % 10)) (pk_rem (a := c) (d := 10) (by omega) (by omega) (by omega)) ?_
    refine k_iadd F dX7_report_109 110 rfl ?_
    refine k_topi (b := nI (48 + c % 10)) (by first | (with_reducible rfl) | (simp only [nI_lit, pk_mul, nI_add])) ?_
    refine k_callN F kd_X7_writes q4011 q194 (kInvV (Bs := [_]) F kcX7 q4008 q4010 qs145 kd_X7_writes q4011 dX7_report_110 (kHs.of hT.fact) rfl (by decide)) (zX7_writes F.st hT (by (try simp only [List.length_append, List.length_take, List.length_cons, List.length_nil, nameL_len]); omega) _) 113 rfl (Nat.le_of_ble_eq_true rfl) (by first | exact Nat.le_of_ble_eq_true rfl | omega) (by first | exact Nat.le_of_ble_eq_true rfl | omega) (by first | exact Nat.le_of_ble_eq_true rfl | omega) (by first | exact Nat.le_of_ble_eq_true rfl | omega) (fun h10 hr10 => ?_)
    obtain ⟨hT, hK9⟩ := hr10
    obtain ⟨f9, hM, hf9⟩ := id hT
    have hK := hK.tr hK9
    refine k_aload_n F dX7_report_113 114 rfl rfl rfl ?_
    refine k_iload_n F dX7_report_114 115 rfl rfl rfl ?_
    refine k_iconst (v := 2) F dX7_report_115 116 rfl (by decide) ?_
    refine k_callV F kd_X7_of q3549 q194 (kInvV (Bs := [_, _]) F kcX7 q3546 q3548 qs86 kd_X7_of q3549 dX7_report_116 (kHs.of hM.1) rfl (by decide)) (zX7_of F.st hM j 2 (by omega)) 119 rfl (Nat.le_of_ble_eq_true rfl) (by first | exact Nat.le_of_ble_eq_true rfl | omega) (by first | exact Nat.le_of_ble_eq_true rfl | omega) (by first | exact Nat.le_of_ble_eq_true rfl | omega) (by first | exact Nat.le_of_ble_eq_true rfl | omega) (fun r11 h11 hr11 => ?_)
    obtain ⟨rfl, rfl⟩ := hr11
    refine k_iconst (v := 1) F dX7_report_119 120 rfl (by decide) ?_
    suffices c4 : ∀ h1, MT h1 m ad (upd sc 8 0) R ar (((((((repTo R j ++ (if 0 < j then [32] else [])) ++ nameL (rN R j)) ++ [q])) ++ (if 9 < c then [nI (48 + c / 10)] else [])) ++ [nI (48 + c % 10)]) ++ (if mOf R j 2 = 1 then [33] else [])) → kKp (mOwn m) h h1 → kW x 0 0 h1 129 [(0, .ref m), (1, .int (nI j))] [] from by
      refine k_icmpne F dX7_report_120 123 129 rfl (by decide) (fun c_g => ?_) (fun c_g => ?_)
      · exact c4 _ (by rw [if_neg c_g, List.append_nil]; exact hT) hK
      · refine k_aload_n F dX7_report_123 124 rfl rfl rfl ?_
        refine k_bipush (v := 33) F dX7_report_124 126 rfl (by decide) ?_
        refine k_callN F kd_X7_writes q4011 q194 (kInvV (Bs := [_]) F kcX7 q4008 q4010 qs145 kd_X7_writes q4011 dX7_report_126 (kHs.of hT.fact) rfl (by decide)) (zX7_writes F.st hT (by (try simp only [List.length_append, List.length_take, List.length_cons, List.length_nil, nameL_len]); omega) _) 129 rfl (Nat.le_of_ble_eq_true rfl) (by first | exact Nat.le_of_ble_eq_true rfl | omega) (by first | exact Nat.le_of_ble_eq_true rfl | omega) (by first | exact Nat.le_of_ble_eq_true rfl | omega) (by first | exact Nat.le_of_ble_eq_true rfl | omega) (fun h12 hr12 => ?_)
        obtain ⟨hT, hK9⟩ := hr12
        obtain ⟨f9, hM, hf9⟩ := id hT
        have hK := hK.tr hK9
        exact c4 _ (by rw [if_pos c_g]; exact hT) hK
    intro h1 hT hK
    refine k_iinc (e := 1) (lv' := [(0, _), (1, _)]) F dX7_report_129 132 rfl rfl (by decide) rfl (Nat.le_of_ble_eq_true rfl) rfl rfl rfl ?_
    refine k_goto F dX7_report_132 12 (by decide) ?_
    rw [nI_1]
    refine ih _ ?_ hK
    show MT h1 m ad (upd sc 8 0) R ar (repTo R j ++ armL R j)
    unfold armL
    rw [erc, ← hq]
    simp only [List.append_assoc] at hT
    exact hT
set_option maxHeartbeats 4000000 in
set_option maxRecDepth 100000 in
theorem zX7_writesPhase {l : Launch} {g : kG} (S : kStart l g) {h : kH} {m : Nat} {ad : Nat → Nat} {sc R : Nat → Int32} {ar : Nat → Nat → Int32} {L : List Int32} (hT : MT h m ad sc R ar L) (hL : L.length ≤ 400) (hR : RV R) (hN : RNm R) (p : Nat) (hp : p < 6) : kMet l g yX7_writesPhase (Cond.code yX7_writesPhase cX7_writesPhase 4 (Option.none : Option Jvm.ClassFile.FieldType)) 4 0 0 [.ref m, .int (nI p)] h (mDoT h m ad sc R ar (L ++ ([nI (48 + p)] ++ ((if p = rOn R then [42] else []) ++ ((if mPh R p 2 = 1 then [43] else []) ++ ([58] ++ membTo R p (rA R))))))) := by
  refine kEnter S kd_X7_writesPhase (Nat.le_of_ble_eq_true rfl) (fun x F hxl hxg => ?_)
  subst hxl; subst hxg
  have hlv : lv_args 0 [.ref m, .int (nI p)] = [(0, .ref m), (1, .int (nI p))] := rfl
  rw [hlv]
  have hK : kKp (mOwn m) h h := kKp.rf
  obtain ⟨r1, r2, r3, r4, r5, r6, r7, r8⟩ := id hR
  have b2 : (if p = rOn R then [(42 : Int32)] else []).length ≤ 1 := by split <;> simp
  have b3 : (if mPh R p 2 = 1 then [(43 : Int32)] else []).length ≤ 1 := by split <;> simp
  obtain ⟨f0, hM, hf0⟩ := id hT
  refine k_aload_n F dX7_writesPhase_0 1 rfl rfl rfl ?_
  refine k_bipush (v := 48) F dX7_writesPhase_1 3 rfl (by decide) ?_
  refine k_iload_n F dX7_writesPhase_3 4 rfl rfl rfl ?_
  refine k_iadd F dX7_writesPhase_4 5 rfl ?_
  refine k_topi (b := nI (48 + p)) (by first | (with_reducible rfl) | (simp only [nI_lit, pk_mul, nI_add])) ?_
  refine k_callN F kd_X7_writes q4011 q194 (kInvV (Bs := [_]) F kcX7 q4008 q4010 qs145 kd_X7_writes q4011 dX7_writesPhase_5 (kHs.of hT.fact) rfl (by decide)) (zX7_writes F.st hT (by (try simp only [List.length_append, List.length_take, List.length_cons, List.length_nil, nameL_len]); omega) _) 8 rfl (Nat.le_of_ble_eq_true rfl) (by first | exact Nat.le_of_ble_eq_true rfl | omega) (by first | exact Nat.le_of_ble_eq_true rfl | omega) (by first | exact Nat.le_of_ble_eq_true rfl | omega) (by first | exact Nat.le_of_ble_eq_true rfl | omega) (fun h1 hr1 => ?_)
  obtain ⟨hT, hK9⟩ := hr1
  obtain ⟨f9, hM, hf9⟩ := id hT
  have hK := hK.tr hK9
  refine k_iload_n F dX7_writesPhase_8 9 rfl rfl rfl ?_
  refine k_aload_n F dX7_writesPhase_9 10 rfl rfl rfl ?_
  refine m_get F 0 (by decide) q3592 rfl dX7_writesPhase_10 13 rfl hM rfl ?_
  refine k_bipush (v := 6) F dX7_writesPhase_13 15 rfl (by decide) ?_
  refine m_ld F dX7_writesPhase_15 16 rfl hM (6) (by first | (with_reducible rfl) | (simp only [nI_lit, pk_mul, nI_add])) (by omega) ?_
  rw [r5]
  suffices c1 : ∀ h1, MT h1 m ad sc R ar ((L ++ [nI (48 + p)]) ++ (if p = rOn R then [42] else [])) → kKp (mOwn m) h h1 → kW x 0 0 h1 25 [(0, .ref m), (1, .int (nI p))] [] from by
    refine k_icmpne F dX7_writesPhase_16 19 25 rfl (by decide) (fun c_a => ?_) (fun c_a => ?_)
    · rw [nI_inj (by omega) (by omega)] at c_a
      exact c1 _ (by rw [if_neg c_a, List.append_nil]; exact hT) hK
    · rw [nI_inj (by omega) (by omega)] at c_a
      refine k_aload_n F dX7_writesPhase_19 20 rfl rfl rfl ?_
      refine k_bipush (v := 42) F dX7_writesPhase_20 22 rfl (by decide) ?_
      refine k_callN F kd_X7_writes q4011 q194 (kInvV (Bs := [_]) F kcX7 q4008 q4010 qs145 kd_X7_writes q4011 dX7_writesPhase_22 (kHs.of hT.fact) rfl (by decide)) (zX7_writes F.st hT (by (try simp only [List.length_append, List.length_take, List.length_cons, List.length_nil, nameL_len]); omega) _) 25 rfl (Nat.le_of_ble_eq_true rfl) (by first | exact Nat.le_of_ble_eq_true rfl | omega) (by first | exact Nat.le_of_ble_eq_true rfl | omega) (by first | exact Nat.le_of_ble_eq_true rfl | omega) (by first | exact Nat.le_of_ble_eq_true rfl | omega) (fun h2 hr2 => ?_)
      obtain ⟨hT, hK9⟩ := hr2
      obtain ⟨f9, hM, hf9⟩ := id hT
      have hK := hK.tr hK9
      exact c1 _ (by rw [if_pos c_a]; exact hT) hK
  intro h1 hT hK
  obtain ⟨f0, hM, hf0⟩ := id hT
  refine k_aload_n F dX7_writesPhase_25 26 rfl rfl rfl ?_
  refine k_iload_n F dX7_writesPhase_26 27 rfl rfl rfl ?_
  refine k_iconst (v := 2) F dX7_writesPhase_27 28 rfl (by decide) ?_
  refine k_callV F kd_X7_ofPhase q3587 q194 (kInvV (Bs := [_, _]) F kcX7 q3584 q3586 qs95 kd_X7_ofPhase q3587 dX7_writesPhase_28 (kHs.of hM.1) rfl (by decide)) (zX7_ofPhase F.st hM p 2 (by omega)) 31 rfl (Nat.le_of_ble_eq_true rfl) (by first | exact Nat.le_of_ble_eq_true rfl | omega) (by first | exact Nat.le_of_ble_eq_true rfl | omega) (by first | exact Nat.le_of_ble_eq_true rfl | omega) (by first | exact Nat.le_of_ble_eq_true rfl | omega) (fun r3 h3 hr3 => ?_)
  obtain ⟨rfl, rfl⟩ := hr3
  refine k_iconst (v := 1) F dX7_writesPhase_31 32 rfl (by decide) ?_
  suffices c2 : ∀ h1, MT h1 m ad sc R ar (((L ++ [nI (48 + p)]) ++ (if p = rOn R then [42] else [])) ++ (if mPh R p 2 = 1 then [43] else [])) → kKp (mOwn m) h h1 → kW x 0 0 h1 41 [(0, .ref m), (1, .int (nI p))] [] from by
    refine k_icmpne F dX7_writesPhase_32 35 41 rfl (by decide) (fun c_a => ?_) (fun c_a => ?_)
    · exact c2 _ (by rw [if_neg c_a, List.append_nil]; exact hT) hK
    · refine k_aload_n F dX7_writesPhase_35 36 rfl rfl rfl ?_
      refine k_bipush (v := 43) F dX7_writesPhase_36 38 rfl (by decide) ?_
      refine k_callN F kd_X7_writes q4011 q194 (kInvV (Bs := [_]) F kcX7 q4008 q4010 qs145 kd_X7_writes q4011 dX7_writesPhase_38 (kHs.of hT.fact) rfl (by decide)) (zX7_writes F.st hT (by (try simp only [List.length_append, List.length_take, List.length_cons, List.length_nil, nameL_len]); omega) _) 41 rfl (Nat.le_of_ble_eq_true rfl) (by first | exact Nat.le_of_ble_eq_true rfl | omega) (by first | exact Nat.le_of_ble_eq_true rfl | omega) (by first | exact Nat.le_of_ble_eq_true rfl | omega) (by first | exact Nat.le_of_ble_eq_true rfl | omega) (fun h4 hr4 => ?_)
      obtain ⟨hT, hK9⟩ := hr4
      obtain ⟨f9, hM, hf9⟩ := id hT
      have hK := hK.tr hK9
      exact c2 _ (by rw [if_pos c_a]; exact hT) hK
  intro h1 hT hK
  obtain ⟨f0, hM, hf0⟩ := id hT
  refine k_aload_n F dX7_writesPhase_41 42 rfl rfl rfl ?_
  refine k_bipush (v := 58) F dX7_writesPhase_42 44 rfl (by decide) ?_
  refine k_callN F kd_X7_writes q4011 q194 (kInvV (Bs := [_]) F kcX7 q4008 q4010 qs145 kd_X7_writes q4011 dX7_writesPhase_44 (kHs.of hT.fact) rfl (by decide)) (zX7_writes F.st hT (by (try simp only [List.length_append, List.length_take, List.length_cons, List.length_nil, nameL_len]); omega) _) 47 rfl (Nat.le_of_ble_eq_true rfl) (by first | exact Nat.le_of_ble_eq_true rfl | omega) (by first | exact Nat.le_of_ble_eq_true rfl | omega) (by first | exact Nat.le_of_ble_eq_true rfl | omega) (by first | exact Nat.le_of_ble_eq_true rfl | omega) (fun h5 hr5 => ?_)
  obtain ⟨hT, hK9⟩ := hr5
  obtain ⟨f9, hM, hf9⟩ := id hT
  have hK := hK.tr hK9
  refine k_iconst (v := 1) F dX7_writesPhase_47 48 rfl (by decide) ?_
  refine k_istore_n (lv' := [(0, _), (1, _), (2, _)]) F dX7_writesPhase_48 49 rfl rfl (Nat.le_of_ble_eq_true rfl) rfl rfl rfl ?_
  refine k_iconst (v := 0) F dX7_writesPhase_49 50 rfl (by decide) ?_
  refine k_istore_n (lv' := [(0, _), (1, _), (2, _), (3, _)]) F dX7_writesPhase_50 51 rfl rfl (Nat.le_of_ble_eq_true rfl) rfl rfl rfl ?_
  generalize hQ : (((L ++ [nI (48 + p)]) ++ (if p = rOn R then [42] else [])) ++ (if mPh R p 2 = 1 then [43] else [])) ++ [58] = Q at hT
  have hQl : Q.length ≤ 410 := by
    rw [← hQ]
    simp only [List.length_append, List.length_cons, List.length_nil]
    omega
  refine kUpTo (Q := fun j => ∀ h1, MT h1 m ad sc R ar (Q ++ membTo R p j) → kKp (mOwn m) h h1 → kW x 0 0 h1 51 [(0, .ref m), (1, .int (nI p)), (2, .int (kB ((cntB (mHas R p) j == 0)))), (3, .int (nI j))] []) (rA R) ?_ ?_ 0 (Nat.zero_le _) _ (by rw [show membTo R p 0 = [] from rfl, List.append_nil]; exact hT) hK
  · intro h1 hT hK
    obtain ⟨f0, hM, hf0⟩ := id hT
    refine k_iload_n F dX7_writesPhase_51 52 rfl rfl rfl ?_
    refine k_aload_n F dX7_writesPhase_52 53 rfl rfl rfl ?_
    refine m_get F 0 (by decide) q3592 rfl dX7_writesPhase_53 56 rfl hM rfl ?_
    refine k_iconst (v := 3) F dX7_writesPhase_56 57 rfl (by decide) ?_
    refine m_ld F dX7_writesPhase_57 58 rfl hM (3) (by first | (with_reducible rfl) | (simp only [nI_lit, pk_mul, nI_add])) (by omega) ?_
    rw [r1]
    refine k_icmpge F dX7_writesPhase_58 61 96 rfl (by decide) (fun _ => ?_) (fun c_ => absurd c_ (by rw [nI_leE (by omega) (by omega)]; omega))
    exact k_vret F dX7_writesPhase_96 (by first | exact Nat.le_of_ble_eq_true rfl | omega) (by first | exact Nat.le_of_ble_eq_true rfl | omega) ⟨by rw [← hQ] at hT; simp only [List.append_assoc] at hT ⊢; exact hT, hK⟩
  · intro j hj ih h1 hT hK
    have hlen := membTo_len R p hN j (by omega)
    have h6 := (hN j hj).2.2
    have b4 : (if cntB (mHas R p) j = 0 then [] else [(44 : Int32)]).length ≤ 1 := by split <;> simp
    obtain ⟨f0, hM, hf0⟩ := id hT
    have nxt : ∀ h1, MT h1 m ad sc R ar (Q ++ membTo R p (j + 1)) → kKp (mOwn m) h h1 → kW x 0 0 h1 90 [(0, .ref m), (1, .int (nI p)), (2, .int (kB ((cntB (mHas R p) (j + 1) == 0)))), (3, .int (nI j))] [] := by
      intro h1 hT hK
      refine k_iinc (e := 1) (lv' := [(0, _), (1, _), (2, _), (3, _)]) F dX7_writesPhase_90 93 rfl rfl (by decide) rfl (Nat.le_of_ble_eq_true rfl) rfl rfl rfl ?_
      refine k_goto F dX7_writesPhase_93 51 (by decide) ?_
      rw [nI_1]
      exact ih _ hT hK
    refine k_iload_n F dX7_writesPhase_51 52 rfl rfl rfl ?_
    refine k_aload_n F dX7_writesPhase_52 53 rfl rfl rfl ?_
    refine m_get F 0 (by decide) q3592 rfl dX7_writesPhase_53 56 rfl hM rfl ?_
    refine k_iconst (v := 3) F dX7_writesPhase_56 57 rfl (by decide) ?_
    refine m_ld F dX7_writesPhase_57 58 rfl hM (3) (by first | (with_reducible rfl) | (simp only [nI_lit, pk_mul, nI_add])) (by omega) ?_
    rw [r1]
    refine k_icmpge F dX7_writesPhase_58 61 96 rfl (by decide) (fun c_ => absurd c_ (by rw [nI_leE (by omega) (by omega)]; omega)) (fun _ => ?_)
    refine k_aload_n F dX7_writesPhase_61 62 rfl rfl rfl ?_
    refine k_iload_n F dX7_writesPhase_62 63 rfl rfl rfl ?_
    refine k_iload_n F dX7_writesPhase_63 64 rfl rfl rfl ?_
    refine k_callV F kd_X7_hasArm q3583 q194 (kInvV (Bs := [_, _]) F kcX7 q3580 q3582 qs94 kd_X7_hasArm q3583 dX7_writesPhase_64 (kHs.of hM.1) rfl (by decide)) (zX7_hasArm F.st hM p j (by omega)) 67 rfl (Nat.le_of_ble_eq_true rfl) (by first | exact Nat.le_of_ble_eq_true rfl | omega) (by first | exact Nat.le_of_ble_eq_true rfl | omega) (by first | exact Nat.le_of_ble_eq_true rfl | omega) (by first | exact Nat.le_of_ble_eq_true rfl | omega) (fun r6 h6 hr6 => ?_)
    obtain ⟨rfl, rfl⟩ := hr6
    refine k_ifne F dX7_writesPhase_67 70 73 rfl (by decide) (fun c_d => ?_) (fun c_d => ?_)
    · rw [kB_0, Bool.not_eq_false] at c_d
      have em : membTo R p (j + 1) = membTo R p j ++ ((if cntB (mHas R p) j = 0 then [] else [44]) ++ nameL (rN R j)) := if_pos c_d
      have ec : (cntB (mHas R p) (j + 1) == 0) = false := beq_eq_false_iff_ne.mpr (cntB_has c_d)
      rw [em, ec] at nxt
      suffices c3 : ∀ h1, MT h1 m ad sc R ar ((Q ++ membTo R p j) ++ (if cntB (mHas R p) j = 0 then [] else [44])) → kKp (mOwn m) h h1 → kW x 0 0 h1 83 [(0, .ref m), (1, .int (nI p)), (2, .int (kB ((cntB (mHas R p) j == 0)))), (3, .int (nI j))] [] from by
        refine k_iload_n F dX7_writesPhase_73 74 rfl rfl rfl ?_
        refine k_ifne F dX7_writesPhase_74 77 83 rfl (by decide) (fun c_e => ?_) (fun c_e => ?_)
        · rw [kB_0, Bool.not_eq_false, beq_iff_eq] at c_e
          exact c3 _ (by rw [if_pos c_e, List.append_nil]; exact hT) hK
        · rw [kB_0, beq_eq_false_iff_ne] at c_e
          refine k_aload_n F dX7_writesPhase_77 78 rfl rfl rfl ?_
          refine k_bipush (v := 44) F dX7_writesPhase_78 80 rfl (by decide) ?_
          refine k_callN F kd_X7_writes q4011 q194 (kInvV (Bs := [_]) F kcX7 q4008 q4010 qs145 kd_X7_writes q4011 dX7_writesPhase_80 (kHs.of hT.fact) rfl (by decide)) (zX7_writes F.st hT (by (try simp only [List.length_append, List.length_take, List.length_cons, List.length_nil, nameL_len]); omega) _) 83 rfl (Nat.le_of_ble_eq_true rfl) (by first | exact Nat.le_of_ble_eq_true rfl | omega) (by first | exact Nat.le_of_ble_eq_true rfl | omega) (by first | exact Nat.le_of_ble_eq_true rfl | omega) (by first | exact Nat.le_of_ble_eq_true rfl | omega) (fun h7 hr7 => ?_)
          obtain ⟨hT, hK9⟩ := hr7
          obtain ⟨f9, hM, hf9⟩ := id hT
          have hK := hK.tr hK9
          exact c3 _ (by rw [if_neg c_e]; exact hT) hK
      intro h1 hT hK
      obtain ⟨f0, hM, hf0⟩ := id hT
      refine k_iconst (v := 0) F dX7_writesPhase_83 84 rfl (by decide) ?_
      refine k_istore_n (lv' := [(0, _), (1, _), (2, _), (3, _)]) F dX7_writesPhase_84 85 rfl rfl (Nat.le_of_ble_eq_true rfl) rfl rfl rfl ?_
      refine k_aload_n F dX7_writesPhase_85 86 rfl rfl rfl ?_
      refine k_iload_n F dX7_writesPhase_86 87 rfl rfl rfl ?_
      refine k_callN F kd_X7_writesName q4015 q194 (kInvV (Bs := [_]) F kcX7 q4012 q4014 qs146 kd_X7_writesName q4015 dX7_writesPhase_87 (kHs.of hT.fact) rfl (by decide)) (zX7_writesName F.st hT (by (try simp only [List.length_append, List.length_take, List.length_cons, List.length_nil, nameL_len]); omega) hR hN j (by omega)) 90 rfl (Nat.le_of_ble_eq_true rfl) (by first | exact Nat.le_of_ble_eq_true rfl | omega) (by first | exact Nat.le_of_ble_eq_true rfl | omega) (by first | exact Nat.le_of_ble_eq_true rfl | omega) (by first | exact Nat.le_of_ble_eq_true rfl | omega) (fun h8 hr8 => ?_)
      obtain ⟨hT, hK9⟩ := hr8
      obtain ⟨f9, hM, hf9⟩ := id hT
      have hK := hK.tr hK9
      refine nxt _ ?_ hK
      simp only [List.append_assoc] at hT ⊢
      exact hT
    · rw [kB_0] at c_d
      have em : membTo R p (j + 1) = membTo R p j := if_neg (by rw [c_d]; decide)
      have ec : cntB (mHas R p) (j + 1) = cntB (mHas R p) j := by simp [cntB, c_d]
      rw [em, ec] at nxt
      refine k_goto F dX7_writesPhase_70 90 (by decide) ?_
      exact nxt _ hT hK
set_option maxHeartbeats 4000000 in
set_option maxRecDepth 100000 in
theorem zX7_phases {l : Launch} {g : kG} (S : kStart l g) {h : kH} {m : Nat} {ad : Nat → Nat} {sc R : Nat → Int32} {ar : Nat → Nat → Int32} (hM : MW h m ad sc R ar) (hR : RV R) (hN : RNm R) : kMet l g yX7_phases (Cond.code yX7_phases cX7_phases 2 (Option.some Jvm.ClassFile.FieldType.int)) 5 0 0 [.ref m] h (kV (fun w h' => w = .int (nI (phsTo R (rP R)).length) ∧ MT h' m ad (upd sc 8 0) R ar (phsTo R (rP R)) ∧ kKp (mOwn m) h h')) := by
  refine kEnter S kd_X7_phases (Nat.le_of_ble_eq_true rfl) (fun x F hxl hxg => ?_)
  subst hxl; subst hxg
  have hlv : lv_args 0 [.ref m] = [(0, .ref m)] := rfl
  rw [hlv]
  have hK : kKp (mOwn m) h h := kKp.rf
  obtain ⟨r1, r2, r3, r4, r5, r6, r7, r8⟩ := id hR
  refine k_aload_n F dX7_phases_0 1 rfl rfl rfl ?_
  refine k_iconst (v := 0) F dX7_phases_1 2 rfl (by decide) ?_
  refine m_put F 8 (by decide) (knX7 8) q3600 rfl rfl dX7_phases_2 5 rfl hM hK rfl rfl rfl (fun h9 hM hK => ?_)
  refine k_aload_n F dX7_phases_5 6 rfl rfl rfl ?_
  refine k_iconst (v := 0) F dX7_phases_6 7 rfl (by decide) ?_
  refine m_put F 25 (by decide) (knX7 25) q3617 rfl rfl dX7_phases_7 10 rfl hM hK rfl rfl rfl (fun h9 hM hK => ?_)
  refine k_iconst (v := 0) F dX7_phases_10 11 rfl (by decide) ?_
  refine k_istore_n (lv' := [(0, _), (1, _)]) F dX7_phases_11 12 rfl rfl (Nat.le_of_ble_eq_true rfl) rfl rfl rfl ?_
  have hT0 : MT h9 m ad (upd sc 8 0) R ar [] := ⟨ar 24, by rw [setA_self]; exact hM, preL_nil⟩
  refine kUpTo (Q := fun j => ∀ h1, MT h1 m ad (upd sc 8 0) R ar (phsTo R j) → kKp (mOwn m) h h1 → kW x 0 0 h1 12 [(0, .ref m), (1, .int (nI j))] []) (rP R) ?_ ?_ 0 (Nat.zero_le _) _ hT0 hK
  · intro h1 hT hK
    obtain ⟨f0, hM, hf0⟩ := id hT
    refine k_iload_n F dX7_phases_12 13 rfl rfl rfl ?_
    refine k_aload_n F dX7_phases_13 14 rfl rfl rfl ?_
    refine m_get F 0 (by decide) q3592 rfl dX7_phases_14 17 rfl hM rfl ?_
    refine k_iconst (v := 4) F dX7_phases_17 18 rfl (by decide) ?_
    refine m_ld F dX7_phases_18 19 rfl hM (4) (by first | (with_reducible rfl) | (simp only [nI_lit, pk_mul, nI_add])) (by omega) ?_
    rw [r3]
    refine k_icmpge F dX7_phases_19 22 43 rfl (by decide) (fun _ => ?_) (fun c_ => absurd c_ (by rw [nI_leE (by omega) (by omega)]; omega))
    refine k_aload_n F dX7_phases_43 44 rfl rfl rfl ?_
    refine m_get F 25 (by decide) q3617 rfl dX7_phases_44 47 rfl hM rfl ?_
    exact k_iret F dX7_phases_47 (by first | exact Nat.le_of_ble_eq_true rfl | omega) (by first | exact Nat.le_of_ble_eq_true rfl | omega) ⟨by rw [upd_eq], hT, hK⟩
  · intro j hj ih h1 hT hK
    have hlen := phsTo_len R hN r2 j
    have b1 : (if 0 < j then [(32 : Int32)] else []).length ≤ 1 := by split <;> simp
    obtain ⟨f0, hM, hf0⟩ := id hT
    refine k_iload_n F dX7_phases_12 13 rfl rfl rfl ?_
    refine k_aload_n F dX7_phases_13 14 rfl rfl rfl ?_
    refine m_get F 0 (by decide) q3592 rfl dX7_phases_14 17 rfl hM rfl ?_
    refine k_iconst (v := 4) F dX7_phases_17 18 rfl (by decide) ?_
    refine m_ld F dX7_phases_18 19 rfl hM (4) (by first | (with_reducible rfl) | (simp only [nI_lit, pk_mul, nI_add])) (by omega) ?_
    rw [r3]
    refine k_icmpge F dX7_phases_19 22 43 rfl (by decide) (fun c_ => absurd c_ (by rw [nI_leE (by omega) (by omega)]; omega)) (fun _ => ?_)
    refine k_iload_n F dX7_phases_22 23 rfl rfl rfl ?_
    suffices c1 : ∀ h1, MT h1 m ad (upd sc 8 0) R ar (phsTo R j ++ (if 0 < j then [32] else [])) → kKp (mOwn m) h h1 → kW x 0 0 h1 32 [(0, .ref m), (1, .int (nI j))] [] from by
      refine k_ifle F dX7_phases_23 26 32 rfl (by decide) (fun c_a => ?_) (fun c_a => ?_)
      · exact c1 _ (by rw [if_neg (by rw [show (0 : Int32) = nI 0 from rfl, nI_leE (by omega) (by omega)] at c_a; omega), List.append_nil]; exact hT) hK
      · refine k_aload_n F dX7_phases_26 27 rfl rfl rfl ?_
        refine k_bipush (v := 32) F dX7_phases_27 29 rfl (by decide) ?_
        refine k_callN F kd_X7_writes q4011 q194 (kInvV (Bs := [_]) F kcX7 q4008 q4010 qs145 kd_X7_writes q4011 dX7_phases_29 (kHs.of hT.fact) rfl (by decide)) (zX7_writes F.st hT (by (try simp only [List.length_append, List.length_take, List.length_cons, List.length_nil, nameL_len]); omega) _) 32 rfl (Nat.le_of_ble_eq_true rfl) (by first | exact Nat.le_of_ble_eq_true rfl | omega) (by first | exact Nat.le_of_ble_eq_true rfl | omega) (by first | exact Nat.le_of_ble_eq_true rfl | omega) (by first | exact Nat.le_of_ble_eq_true rfl | omega) (fun h1 hr1 => ?_)
        obtain ⟨hT, hK9⟩ := hr1
        obtain ⟨f9, hM, hf9⟩ := id hT
        have hK := hK.tr hK9
        exact c1 _ (by rw [if_pos (by rw [show (0 : Int32) = nI 0 from rfl, nI_leE (by omega) (by omega)] at c_a; omega)]; exact hT) hK
    intro h1 hT hK
    obtain ⟨f0, hM, hf0⟩ := id hT
    refine k_aload_n F dX7_phases_32 33 rfl rfl rfl ?_
    refine k_iload_n F dX7_phases_33 34 rfl rfl rfl ?_
    refine k_callN F kd_X7_writesPhase q4023 q194 (kInvV (Bs := [_]) F kcX7 q4020 q4022 qs147 kd_X7_writesPhase q4023 dX7_phases_34 (kHs.of hT.fact) rfl (by decide)) (zX7_writesPhase F.st hT (by (try simp only [List.length_append, List.length_take, List.length_cons, List.length_nil, nameL_len]); omega) hR hN j (by omega)) 37 rfl (Nat.le_of_ble_eq_true rfl) (by first | exact Nat.le_of_ble_eq_true rfl | omega) (by first | exact Nat.le_of_ble_eq_true rfl | omega) (by first | exact Nat.le_of_ble_eq_true rfl | omega) (by first | exact Nat.le_of_ble_eq_true rfl | omega) (fun h2 hr2 => ?_)
    obtain ⟨hT, hK9⟩ := hr2
    obtain ⟨f9, hM, hf9⟩ := id hT
    have hK := hK.tr hK9
    refine k_iinc (e := 1) (lv' := [(0, _), (1, _)]) F dX7_phases_37 40 rfl rfl (by decide) rfl (Nat.le_of_ble_eq_true rfl) rfl rfl rfl ?_
    refine k_goto F dX7_phases_40 12 (by decide) ?_
    rw [nI_1]
    refine ih _ ?_ hK
    show MT _ m ad (upd sc 8 0) R ar (phsTo R j ++ phL R j)
    unfold phL
    simp only [List.append_assoc] at hT ⊢
    exact hT

