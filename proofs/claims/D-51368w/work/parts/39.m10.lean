/-! the reference: bytes, letters, reports -/
theorem kd_X7_feeds : kCd (Cond.code yX7_feeds cX7_feeds 4 (Option.none : Option Jvm.ClassFile.FieldType)) yX7_feeds cX7_feeds 4 (Option.none : Option Jvm.ClassFile.FieldType) [] := kCd_code (by decide +kernel)
theorem kd_X7_feed : kCd (Cond.code yX7_feed cX7_feed 7 (Option.some Jvm.ClassFile.FieldType.int)) yX7_feed cX7_feed 7 (Option.some Jvm.ClassFile.FieldType.int) [] := kCd_code (by decide +kernel)
theorem kd_X7_letterOf : kCd (Cond.code yX7_letterOf cX7_letterOf 5 (Option.some Jvm.ClassFile.FieldType.int)) yX7_letterOf cX7_letterOf 5 (Option.some Jvm.ClassFile.FieldType.int) [] := kCd_code (by decide +kernel)
theorem kd_X7_letter : kCd (Cond.code yX7_letter cX7_letter 3 (Option.some Jvm.ClassFile.FieldType.int)) yX7_letter cX7_letter 3 (Option.some Jvm.ClassFile.FieldType.int) [] := kCd_code (by decide +kernel)
theorem kd_X7_find : kCd (Cond.code yX7_find cX7_find 2 (Option.some Jvm.ClassFile.FieldType.int)) yX7_find cX7_find 2 (Option.some Jvm.ClassFile.FieldType.int) [] := kCd_code (by decide +kernel)
theorem kd_X7_reportByte : kCd (Cond.code yX7_reportByte cX7_reportByte 2 (Option.some Jvm.ClassFile.FieldType.int)) yX7_reportByte cX7_reportByte 2 (Option.some Jvm.ClassFile.FieldType.int) [] := kCd_code (by decide +kernel)
theorem kd_X7_writes : kCd (Cond.code yX7_writes cX7_writes 2 (Option.none : Option Jvm.ClassFile.FieldType)) yX7_writes cX7_writes 2 (Option.none : Option Jvm.ClassFile.FieldType) [] := kCd_code (by decide +kernel)
set_option maxHeartbeats 4000000 in
set_option maxRecDepth 100000 in
theorem zX7_feeds {l : Launch} {g : kG} (S : kStart l g) {h : kH} {m : Nat} {ad : Nat → Nat} {sc R : Nat → Int32} {ar : Nat → Nat → Int32} (hM : MW h m ad sc R ar) (n : Nat) (hn : sc 10 = nI n) (hn6 : n ≤ 620) (w : Int32) : kMet l g yX7_feeds (Cond.code yX7_feeds cX7_feeds 4 (Option.none : Option Jvm.ClassFile.FieldType)) 1 0 0 [.ref m, .int w] h (mDo h m ad (upd sc 10 (nI (feedsF (ar 9, n) w).2)) R (setA ar 9 (feedsF (ar 9, n) w).1)) := by
  refine kEnter S kd_X7_feeds (Nat.le_of_ble_eq_true rfl) (fun x F hxl hxg => ?_)
  subst hxl; subst hxg
  have hlv : lv_args 0 [.ref m, .int w] = [(0, .ref m), (1, .int w)] := rfl
  rw [hlv]
  have hK : kKp (mOwn m) h h := kKp.rf
  have step : ∀ (b : Nat) (q : (Nat → Int32) × Nat) (h1 : kH), b ≤ 24 → q.2 ≤ 700 → MW h1 m ad (upd sc 10 (nI q.2)) R (setA ar 9 q.1) → kKp (mOwn m) h h1 → (∀ h2, MW h2 m ad (upd sc 10 (nI (pushB q (byB w b)).2)) R (setA ar 9 (pushB q (byB w b)).1) → kKp (mOwn m) h h2 → kW x 0 0 h2 52 [(0, .ref m), (1, .int w), (2, .int (nI b))] []) → kW x 0 0 h1 3 [(0, .ref m), (1, .int w), (2, .int (nI b))] [] := by
    intro b q h1 hb hq hM hK kk
    refine k_iload_n F dX7_feeds_3 4 rfl rfl rfl ?_
    refine k_iflt F dX7_feeds_4 7 58 rfl (by decide) (fun c_ => (absurd c_ (Int32.not_lt.mpr (nI_pos' (by omega))))) (fun _ => ?_)
    refine k_iload_n F dX7_feeds_7 8 rfl rfl rfl ?_
    refine k_iload_n F dX7_feeds_8 9 rfl rfl rfl ?_
    refine k_ishr F dX7_feeds_9 10 rfl ?_
    refine k_sipush (v := 255) F dX7_feeds_10 13 rfl (by decide) ?_
    refine k_iand F dX7_feeds_13 14 rfl ?_
    refine k_istore_n (lv' := [(0, _), (1, _), (2, _), (3, _)]) F dX7_feeds_14 15 rfl rfl (Nat.le_of_ble_eq_true rfl) rfl rfl rfl ?_
    refine k_iload_n F dX7_feeds_15 16 rfl rfl rfl ?_
    have e8 : (w >>> (nI b &&& 31)) &&& 255 = byB w b := by
      unfold byB
      rw [pk_andN (k := 5) (by omega) (by rfl), Nat.mod_eq_of_lt (by omega)]
    rw [e8]
    refine k_ifne F dX7_feeds_16 19 22 rfl (by decide) (fun c_a => ?_) (fun c_a => ?_)
    · have ep : pushB q (byB w b) = (if q.2 < 600 then upd q.1 q.2 (byB w b) else q.1, q.2 + 1) := if_neg c_a
      have fin : ∀ h2, MW h2 m ad (upd sc 10 (nI q.2)) R (setA ar 9 (if q.2 < 600 then upd q.1 q.2 (byB w b) else q.1)) → kKp (mOwn m) h h2 → kW x 0 0 h2 42 [(0, .ref m), (1, .int w), (2, .int (nI b))] [] := by
        intro h2 hM hK
        refine k_aload_n F dX7_feeds_42 43 rfl rfl rfl ?_
        refine k_dup F dX7_feeds_43 44 rfl rfl ?_
        refine m_get F 10 (by decide) q3602 rfl dX7_feeds_44 47 rfl hM rfl ?_
        refine k_iconst (v := 1) F dX7_feeds_47 48 rfl (by decide) ?_
        refine k_iadd F dX7_feeds_48 49 rfl ?_
        refine m_put F 10 (by decide) (knX7 10) q3602 rfl rfl dX7_feeds_49 52 rfl hM hK rfl rfl rfl (fun h9 hM hK => ?_)
        rw [upd_eq, nI_1, upd_upd] at hM
        refine kk _ ?_ hK
        rw [ep]
        exact hM
      refine k_aload_n F dX7_feeds_22 23 rfl rfl rfl ?_
      refine m_get F 10 (by decide) q3602 rfl dX7_feeds_23 26 rfl hM rfl ?_
      rw [show upd sc 10 (nI q.2) 10 = nI q.2 from upd_eq]
      refine k_sipush (v := 600) F dX7_feeds_26 29 rfl (by decide) ?_
      refine k_topi (b := nI 600) (by rfl) ?_
      refine k_icmpge F dX7_feeds_29 32 42 rfl (by decide) (fun c_d => ?_) (fun c_d => ?_)
      · rw [nI_leE (by omega) (by omega)] at c_d
        refine kW.keep (lv' := [(0, _), (1, _), (2, _)]) [0, 1, 2] rfl ?_
        refine fin _ ?_ hK
        rw [if_neg (by omega)]
        exact hM
      · rw [nI_leE (by omega) (by omega)] at c_d
        refine k_aload_n F dX7_feeds_32 33 rfl rfl rfl ?_
        refine m_get F 9 (by decide) q3601 rfl dX7_feeds_33 36 rfl hM rfl ?_
        refine k_aload_n F dX7_feeds_36 37 rfl rfl rfl ?_
        refine m_get F 10 (by decide) q3602 rfl dX7_feeds_37 40 rfl hM rfl ?_
        rw [show upd sc 10 (nI q.2) 10 = nI q.2 from upd_eq]
        refine k_iload_n F dX7_feeds_40 41 rfl rfl rfl ?_
        refine m_iast F _ (by rfl) dX7_feeds_41 42 rfl hM hK (q.2) (by first | (with_reducible rfl) | (simp only [nI_lit, pk_mul, nI_add])) (by first | decide | omega | (simp only [mSz]; omega)) (fun h9 hM hK => ?_)
        refine kW.keep (lv' := [(0, _), (1, _), (2, _)]) [0, 1, 2] rfl ?_
        refine fin _ ?_ hK
        rw [if_pos (by omega)]
        rw [setA_upd] at hM
        exact hM
    · refine kW.keep (lv' := [(0, _), (1, _), (2, _)]) [0, 1, 2] rfl ?_
      refine k_goto F dX7_feeds_19 52 (by decide) ?_
      refine kk _ ?_ hK
      rw [show pushB q (byB w b) = q from if_pos c_a]
      exact hM
  have back : ∀ (b : Nat) h2, 8 ≤ b → b < 100 → kW x 0 0 h2 3 [(0, .ref m), (1, .int w), (2, .int (nI (b - 8)))] [] → kW x 0 0 h2 52 [(0, .ref m), (1, .int w), (2, .int (nI b))] [] := by
    intro b h2 hb hb2 kk
    refine k_iinc (e := (-8)) (lv' := [(0, _), (1, _), (2, _)]) F dX7_feeds_52 55 rfl rfl (by decide) rfl (Nat.le_of_ble_eq_true rfl) rfl rfl rfl ?_
    refine k_goto F dX7_feeds_55 3 (by decide) ?_
    rw [show nI b + (-8) = nI (b - 8) from by
      have e : nI b = nI (b - 8) + nI 8 := by rw [nI_add, Nat.sub_add_cancel hb]
      rw [e, Int32.add_assoc, show nI 8 + (-8) = 0 from by decide, Int32.add_zero]]
    exact kk
  refine k_bipush (v := 24) F dX7_feeds_0 2 rfl (by decide) ?_
  refine k_istore_n (lv' := [(0, _), (1, _), (2, _)]) F dX7_feeds_2 3 rfl rfl (Nat.le_of_ble_eq_true rfl) rfl rfl rfl ?_
  have l0 := pushB_le (ar 9, n) (byB w 24)
  have l1 := pushB_le (pushB (ar 9, n) (byB w 24)) (byB w 16)
  have l2 := pushB_le (pushB (pushB (ar 9, n) (byB w 24)) (byB w 16)) (byB w 8)
  dsimp only at l0
  refine step 24 (ar 9, n) _ (by omega) (by omega) (by rw [← hn, upd_self, setA_self]; exact hM) hK (fun h2 hM hK => back 24 _ (by omega) (by omega) ?_)
  refine step 16 _ _ (by omega) (by omega) hM hK (fun h2 hM hK => back 16 _ (by omega) (by omega) ?_)
  refine step 8 _ _ (by omega) (by omega) hM hK (fun h2 hM hK => back 8 _ (by omega) (by omega) ?_)
  refine step 0 _ _ (by omega) (by omega) hM hK (fun h2 hM hK => ?_)
  refine k_iinc (e := (-8)) (lv' := [(0, _), (1, _), (2, _)]) F dX7_feeds_52 55 rfl rfl (by decide) rfl (Nat.le_of_ble_eq_true rfl) rfl rfl rfl ?_
  refine k_goto F dX7_feeds_55 3 (by decide) ?_
  refine k_iload_n F dX7_feeds_3 4 rfl rfl rfl ?_
  refine k_iflt F dX7_feeds_4 7 58 rfl (by decide) (fun _ => ?_) (fun c_ => (absurd (by decide) c_))
  exact k_vret F dX7_feeds_58 (by first | exact Nat.le_of_ble_eq_true rfl | omega) (by first | exact Nat.le_of_ble_eq_true rfl | omega) ⟨hM, hK⟩
set_option maxHeartbeats 4000000 in
set_option maxRecDepth 100000 in
theorem zX7_feed {l : Launch} {g : kG} (S : kStart l g) {h : kH} {m : Nat} {ad : Nat → Nat} {sc R : Nat → Int32} {ar : Nat → Nat → Int32} (hM : MW h m ad sc R ar) (n : Nat) (hn : sc 10 = nI n) (hn6 : n ≤ 600) (a b c d e : Int32) : kMet l g yX7_feed (Cond.code yX7_feed cX7_feed 7 (Option.some Jvm.ClassFile.FieldType.int)) 2 0 0 [.ref m, .int a, .int b, .int c, .int d, .int e] h (mDv h m ad (upd (upd sc 8 0) 10 (nI (if (feedF (ar 9, n) a b c d e).2 ≤ 600 then (feedF (ar 9, n) a b c d e).2 else n))) R (setA ar 9 (feedF (ar 9, n) a b c d e).1) (.int (if (feedF (ar 9, n) a b c d e).2 ≤ 600 then nI (feedF (ar 9, n) a b c d e).2 else -1))) := by
  refine kEnter S kd_X7_feed (Nat.le_of_ble_eq_true rfl) (fun x F hxl hxg => ?_)
  subst hxl; subst hxg
  have hlv : lv_args 0 [.ref m, .int a, .int b, .int c, .int d, .int e] = [(0, .ref m), (1, .int a), (2, .int b), (3, .int c), (4, .int d), (5, .int e)] := rfl
  rw [hlv]
  have hK : kKp (mOwn m) h h := kKp.rf
  have hn0 : upd sc 8 0 10 = nI n := hn
  have l1 := feedsF_le (ar 9, n) a
  have l2 := feedsF_le (feedsF (ar 9, n) a) b
  have l3 := feedsF_le (feedsF (feedsF (ar 9, n) a) b) c
  have l4 := feedsF_le (feedsF (feedsF (feedsF (ar 9, n) a) b) c) d
  have l5 := feedsF_le (feedsF (feedsF (feedsF (feedsF (ar 9, n) a) b) c) d) e
  dsimp only at l1
  refine k_aload_n F dX7_feed_0 1 rfl rfl rfl ?_
  refine k_iconst (v := 0) F dX7_feed_1 2 rfl (by decide) ?_
  refine m_put F 8 (by decide) (knX7 8) q3600 rfl rfl dX7_feed_2 5 rfl hM hK rfl rfl rfl (fun h9 hM hK => ?_)
  refine k_aload_n F dX7_feed_5 6 rfl rfl rfl ?_
  refine m_get F 10 (by decide) q3602 rfl dX7_feed_6 9 rfl hM rfl ?_
  rw [hn0]
  refine k_istore (lv' := [(0, _), (1, _), (2, _), (3, _), (4, _), (5, _), (6, _)]) F dX7_feed_9 11 rfl (Nat.le_of_ble_eq_true rfl) rfl rfl rfl ?_
  refine k_aload_n F dX7_feed_11 12 rfl rfl rfl ?_
  refine k_iload_n F dX7_feed_12 13 rfl rfl rfl ?_
  refine k_callN F kd_X7_feeds q3683 q194 (kInvV (Bs := [_]) F kcX7 q3680 q3682 qs97 kd_X7_feeds q3683 dX7_feed_13 (kHs.of hM.1) rfl (by decide)) (zX7_feeds F.st hM n hn0 (by omega) _) 16 rfl (Nat.le_of_ble_eq_true rfl) (by first | exact Nat.le_of_ble_eq_true rfl | omega) (by first | exact Nat.le_of_ble_eq_true rfl | omega) (by first | exact Nat.le_of_ble_eq_true rfl | omega) (by first | exact Nat.le_of_ble_eq_true rfl | omega) (fun h1 hr1 => ?_)
  obtain ⟨hM, hK9⟩ := hr1
  have hK := hK.tr hK9
  refine k_aload_n F dX7_feed_16 17 rfl rfl rfl ?_
  refine k_iload_n F dX7_feed_17 18 rfl rfl rfl ?_
  refine k_callN F kd_X7_feeds q3683 q194 (kInvV (Bs := [_]) F kcX7 q3680 q3682 qs97 kd_X7_feeds q3683 dX7_feed_18 (kHs.of hM.1) rfl (by decide)) (zX7_feeds F.st hM _ upd_eq (by omega) _) 21 rfl (Nat.le_of_ble_eq_true rfl) (by first | exact Nat.le_of_ble_eq_true rfl | omega) (by first | exact Nat.le_of_ble_eq_true rfl | omega) (by first | exact Nat.le_of_ble_eq_true rfl | omega) (by first | exact Nat.le_of_ble_eq_true rfl | omega) (fun h2 hr2 => ?_)
  obtain ⟨hM, hK9⟩ := hr2
  have hK := hK.tr hK9
  refine k_aload_n F dX7_feed_21 22 rfl rfl rfl ?_
  rw [setA_s, upd_upd, setA_setA] at hM
  rw [pEta] at hM
  refine k_iload_n F dX7_feed_22 23 rfl rfl rfl ?_
  refine k_callN F kd_X7_feeds q3683 q194 (kInvV (Bs := [_]) F kcX7 q3680 q3682 qs97 kd_X7_feeds q3683 dX7_feed_23 (kHs.of hM.1) rfl (by decide)) (zX7_feeds F.st hM _ upd_eq (by omega) _) 26 rfl (Nat.le_of_ble_eq_true rfl) (by first | exact Nat.le_of_ble_eq_true rfl | omega) (by first | exact Nat.le_of_ble_eq_true rfl | omega) (by first | exact Nat.le_of_ble_eq_true rfl | omega) (by first | exact Nat.le_of_ble_eq_true rfl | omega) (fun h3 hr3 => ?_)
  obtain ⟨hM, hK9⟩ := hr3
  have hK := hK.tr hK9
  refine k_aload_n F dX7_feed_26 27 rfl rfl rfl ?_
  rw [setA_s, upd_upd, setA_setA] at hM
  rw [pEta] at hM
  refine k_iload F dX7_feed_27 29 rfl rfl ?_
  refine k_callN F kd_X7_feeds q3683 q194 (kInvV (Bs := [_]) F kcX7 q3680 q3682 qs97 kd_X7_feeds q3683 dX7_feed_29 (kHs.of hM.1) rfl (by decide)) (zX7_feeds F.st hM _ upd_eq (by omega) _) 32 rfl (Nat.le_of_ble_eq_true rfl) (by first | exact Nat.le_of_ble_eq_true rfl | omega) (by first | exact Nat.le_of_ble_eq_true rfl | omega) (by first | exact Nat.le_of_ble_eq_true rfl | omega) (by first | exact Nat.le_of_ble_eq_true rfl | omega) (fun h4 hr4 => ?_)
  obtain ⟨hM, hK9⟩ := hr4
  have hK := hK.tr hK9
  refine k_aload_n F dX7_feed_32 33 rfl rfl rfl ?_
  rw [setA_s, upd_upd, setA_setA] at hM
  rw [pEta] at hM
  refine k_iload F dX7_feed_33 35 rfl rfl ?_
  refine k_callN F kd_X7_feeds q3683 q194 (kInvV (Bs := [_]) F kcX7 q3680 q3682 qs97 kd_X7_feeds q3683 dX7_feed_35 (kHs.of hM.1) rfl (by decide)) (zX7_feeds F.st hM _ upd_eq (by omega) _) 38 rfl (Nat.le_of_ble_eq_true rfl) (by first | exact Nat.le_of_ble_eq_true rfl | omega) (by first | exact Nat.le_of_ble_eq_true rfl | omega) (by first | exact Nat.le_of_ble_eq_true rfl | omega) (by first | exact Nat.le_of_ble_eq_true rfl | omega) (fun h5 hr5 => ?_)
  obtain ⟨hM, hK9⟩ := hr5
  have hK := hK.tr hK9
  rw [setA_s, upd_upd, setA_setA] at hM
  rw [pEta] at hM
  replace hM : MW h5 m ad (upd (upd sc 8 0) 10 (nI (feedF (ar 9, n) a b c d e).2)) R (setA ar 9 (feedF (ar 9, n) a b c d e).1) := hM
  have l6 : (feedF (ar 9, n) a b c d e).2 ≤ 620 := by unfold feedF; omega
  generalize hq : feedF (ar 9, n) a b c d e = q at hM F l6
  refine k_aload_n F dX7_feed_38 39 rfl rfl rfl ?_
  refine m_get F 10 (by decide) q3602 rfl dX7_feed_39 42 rfl hM rfl ?_
  rw [show upd (upd sc 8 0) 10 (nI q.2) 10 = nI q.2 from upd_eq]
  refine k_sipush (v := 600) F dX7_feed_42 45 rfl (by decide) ?_
  refine k_topi (b := nI 600) (by rfl) ?_
  refine k_icmpgt F dX7_feed_45 48 53 rfl (by decide) (fun c_z => ?_) (fun c_z => ?_)
  · rw [nI_ltE (by omega) (by omega)] at c_z
    rw [if_neg (by omega), if_neg (by omega)] at F
    refine k_aload_n F dX7_feed_53 54 rfl rfl rfl ?_
    refine k_iload F dX7_feed_54 56 rfl rfl ?_
    refine m_put F 10 (by decide) (knX7 10) q3602 rfl rfl dX7_feed_56 59 rfl hM hK rfl rfl rfl (fun h9 hM hK => ?_)
    refine k_iconst (v := (-1)) F dX7_feed_59 60 rfl (by decide) ?_
    exact k_iret F dX7_feed_60 (by first | exact Nat.le_of_ble_eq_true rfl | omega) (by first | exact Nat.le_of_ble_eq_true rfl | omega) ⟨rfl, by rw [upd_upd] at hM; exact hM, hK⟩
  · rw [nI_ltE (by omega) (by omega)] at c_z
    rw [if_pos (by omega), if_pos (by omega)] at F
    refine k_aload_n F dX7_feed_48 49 rfl rfl rfl ?_
    refine m_get F 10 (by decide) q3602 rfl dX7_feed_49 52 rfl hM rfl ?_
    exact k_iret F dX7_feed_52 (by first | exact Nat.le_of_ble_eq_true rfl | omega) (by first | exact Nat.le_of_ble_eq_true rfl | omega) ⟨by rw [upd_eq], hM, hK⟩
set_option maxHeartbeats 4000000 in
set_option maxRecDepth 100000 in
theorem zX7_letterOf {l : Launch} {g : kG} (S : kStart l g) {h : kH} (v : Nat) (i : Int32) (hv : v < 2 ^ 31) : kMet l g yX7_letterOf (Cond.code yX7_letterOf cX7_letterOf 5 (Option.some Jvm.ClassFile.FieldType.int)) 2 0 0 [.int (nI v), .int i] h (mRd h (.int (lettF v i))) := by
  refine kEnter S kd_X7_letterOf (Nat.le_of_ble_eq_true rfl) (fun x F hxl hxg => ?_)
  subst hxl; subst hxg
  have hlv : lv_args 0 [.int (nI v), .int i] = [(0, .int (nI v)), (1, .int i)] := rfl
  rw [hlv]
  have hm40 : many v ≤ 40 := many_le 40 v
  refine k_iconst (v := 0) F dX7_letterOf_0 1 rfl (by decide) ?_
  refine k_istore_n (lv' := [(0, _), (1, _), (2, _)]) F dX7_letterOf_1 2 rfl rfl (Nat.le_of_ble_eq_true rfl) rfl rfl rfl ?_
  refine k_iload_n F dX7_letterOf_2 3 rfl rfl rfl ?_
  refine k_istore_n (lv' := [(0, _), (1, _), (2, _), (3, _)]) F dX7_letterOf_3 4 rfl rfl (Nat.le_of_ble_eq_true rfl) rfl rfl rfl ?_
  suffices hl : ∀ (f w : Nat), w < 27 ^ f → w ≤ v → many w ≤ many v → kW x 0 0 h 4 [(0, .int (nI v)), (1, .int i), (2, .int (nI ((many v - many w)))), (3, .int (nI w))] [] from by
    have := hl 40 v (by have h2 : (2 : Nat) ^ 31 < 27 ^ 40 := (by decide); omega) (Nat.le_refl _) (Nat.le_refl _)
    rw [Nat.sub_self] at this
    exact this
  have fin : kW x 0 0 h 19 [(0, .int (nI v)), (1, .int i), (2, .int (nI ((many v)))), (3, .int (nI 0))] [] := by
    refine k_iload_n F dX7_letterOf_19 20 rfl rfl rfl ?_
    refine k_iconst (v := 0) F dX7_letterOf_20 21 rfl (by decide) ?_
    refine k_iload_n F dX7_letterOf_21 22 rfl rfl rfl ?_
    refine k_iconst (v := 1) F dX7_letterOf_22 23 rfl (by decide) ?_
    refine k_isub F dX7_letterOf_23 24 rfl ?_
    refine k_callV F kd_X7_in q3498 q194 (kInvS (Bs := [_, _, _]) F q3496 q3497 q194 kd_X7_in q3498 dX7_letterOf_24 rfl (by decide)) (zX7_in F.st _ _ _) 27 rfl (Nat.le_of_ble_eq_true rfl) (by first | exact Nat.le_of_ble_eq_true rfl | omega) (by first | exact Nat.le_of_ble_eq_true rfl | omega) (by first | exact Nat.le_of_ble_eq_true rfl | omega) (by first | exact Nat.le_of_ble_eq_true rfl | omega) (fun r1 h1 hr1 => ?_)
    obtain ⟨rfl, rfl⟩ := hr1
    rw [show inF i 0 (nI (many v) - 1) = (ixO i (many v)).isSome from by
      cases q : ixO i (many v) with
      | none => exact ixO_n q
      | some k => exact ixO_s q]
    cases q : ixO i (many v) with
    | none =>
      rw [show lettF v i = -1 from by unfold lettF; rw [q]] at F
      refine k_ifne F dX7_letterOf_27 30 32 rfl (by decide) (fun c_ => (by first | exact absurd rfl c_ | exact absurd c_ (by decide) | exact absurd (by assumption) c_ | exact absurd c_ (by assumption))) (fun _ => ?_)
      refine k_iconst (v := (-1)) F dX7_letterOf_30 31 rfl (by decide) ?_
      exact k_iret F dX7_letterOf_31 (by first | exact Nat.le_of_ble_eq_true rfl | omega) (by first | exact Nat.le_of_ble_eq_true rfl | omega) ⟨rfl, rfl⟩
    | some k =>
      obtain ⟨hk, rfl⟩ := ixO_lt (by omega) q
      rw [show (some k).isSome = true from rfl]
      refine k_ifne F dX7_letterOf_27 30 32 rfl (by decide) (fun _ => ?_) (fun c_ => (by first | exact absurd rfl c_ | exact absurd c_ (by decide) | exact absurd (by assumption) c_ | exact absurd c_ (by assumption)))
      refine k_iload_n F dX7_letterOf_32 33 rfl rfl rfl ?_
      refine k_istore_n (lv' := [(0, _), (1, _), (2, _), (3, _)]) F dX7_letterOf_33 34 rfl rfl (Nat.le_of_ble_eq_true rfl) rfl rfl rfl ?_
      refine k_iload_n F dX7_letterOf_34 35 rfl rfl rfl ?_
      refine k_iconst (v := 1) F dX7_letterOf_35 36 rfl (by decide) ?_
      refine k_iadd F dX7_letterOf_36 37 rfl ?_
      refine k_istore (lv' := [(0, _), (1, _), (2, _), (3, _), (4, _)]) F dX7_letterOf_37 39 rfl (Nat.le_of_ble_eq_true rfl) rfl rfl rfl ?_
      rw [nI_1]
      refine kUpTo (Q := fun j => kW x 0 0 h 39 [(0, .int (nI v)), (1, .int (nI k)), (2, .int (nI ((many v)))), (3, .int (nI ((divs v j)))), (4, .int (nI ((k + 1 + j))))] []) (many v - 1 - k) ?_ ?_ 0 (Nat.zero_le _)
      · rw [show k + 1 + (many v - 1 - k) = many v from by omega]
        refine k_iload F dX7_letterOf_39 41 rfl rfl ?_
        refine k_iload_n F dX7_letterOf_41 42 rfl rfl rfl ?_
        refine k_icmpge F dX7_letterOf_42 45 56 rfl (by decide) (fun _ => ?_) (fun c_ => absurd c_ (by rw [nI_leE (by omega) (by omega)]; omega))
        have := divs_le (many v - 1 - k) v
        refine k_bipush (v := 96) F dX7_letterOf_56 58 rfl (by decide) ?_
        refine k_iload_n F dX7_letterOf_58 59 rfl rfl rfl ?_
        refine k_bipush (v := 27) F dX7_letterOf_59 61 rfl (by decide) ?_
        refine k_irem F dX7_letterOf_61 62 rfl (by decide) ?_
        refine k_topi (b := nI (((divs v (many v - 1 - k))) % 27)) (by first | (simp only [nI_add, nI_1']; exact (pk_rem (a := ((divs v (many v - 1 - k)))) (d := 27) (by omega) (by omega) (by omega))) | exact (pk_rem (a := ((divs v (many v - 1 - k)))) (d := 27) (by omega) (by omega) (by omega))) ?_
        refine k_iadd F dX7_letterOf_62 63 rfl ?_
        exact k_iret F dX7_letterOf_63 (by first | exact Nat.le_of_ble_eq_true rfl | omega) (by first | exact Nat.le_of_ble_eq_true rfl | omega) ⟨by rw [lettF_lt hk, show (96 : Int32) = nI 96 from rfl, nI_add], rfl⟩
      · intro j hj ih
        refine k_iload F dX7_letterOf_39 41 rfl rfl ?_
        refine k_iload_n F dX7_letterOf_41 42 rfl rfl rfl ?_
        refine k_icmpge F dX7_letterOf_42 45 56 rfl (by decide) (fun c_ => absurd c_ (by rw [nI_leE (by omega) (by omega)]; omega)) (fun _ => ?_)
        have := divs_le j v
        refine k_iload_n F dX7_letterOf_45 46 rfl rfl rfl ?_
        refine k_bipush (v := 27) F dX7_letterOf_46 48 rfl (by decide) ?_
        refine k_idiv F dX7_letterOf_48 49 rfl (by decide) ?_
        refine k_topi (b := nI (((divs v j)) / 27)) (by first | (simp only [nI_add, nI_1']; exact (pk_div (a := ((divs v j))) (d := 27) (by omega) (by omega) (by omega))) | exact (pk_div (a := ((divs v j))) (d := 27) (by omega) (by omega) (by omega))) ?_
        refine k_istore_n (lv' := [(0, _), (1, _), (2, _), (3, _), (4, _)]) F dX7_letterOf_49 50 rfl rfl (Nat.le_of_ble_eq_true rfl) rfl rfl rfl ?_
        refine k_iinc (e := 1) (lv' := [(0, _), (1, _), (2, _), (3, _), (4, _)]) F dX7_letterOf_50 53 rfl rfl (by decide) rfl (Nat.le_of_ble_eq_true rfl) rfl rfl rfl ?_
        refine k_goto F dX7_letterOf_53 39 (by decide) ?_
        rw [nI_1, ← divs_succ]
        exact ih
  intro f
  induction f with
  | zero =>
    intro w hw _ _
    have : w = 0 := by simpa using hw
    subst this
    rw [many_0, Nat.sub_zero]
    refine k_iload_n F dX7_letterOf_4 5 rfl rfl rfl ?_
    refine k_ifle F dX7_letterOf_5 8 19 rfl (by decide) (fun _ => ?_) (fun c_ => (absurd (by decide) c_))
    exact fin
  | succ f ih =>
    intro w hw hwv hm
    by_cases c : w = 0
    · subst c
      rw [many_0, Nat.sub_zero]
      refine k_iload_n F dX7_letterOf_4 5 rfl rfl rfl ?_
      refine k_ifle F dX7_letterOf_5 8 19 rfl (by decide) (fun _ => ?_) (fun c_ => (absurd (by decide) c_))
      exact fin
    · refine k_iload_n F dX7_letterOf_4 5 rfl rfl rfl ?_
      refine k_ifle F dX7_letterOf_5 8 19 rfl (by decide) (fun c_ => (absurd c_ (Int32.not_le.mpr (by rw [nI_posE (by omega)]; omega)))) (fun _ => ?_)
      refine k_iinc (e := 1) (lv' := [(0, _), (1, _), (2, _), (3, _)]) F dX7_letterOf_8 11 rfl rfl (by decide) rfl (Nat.le_of_ble_eq_true rfl) rfl rfl rfl ?_
      refine k_iload_n F dX7_letterOf_11 12 rfl rfl rfl ?_
      refine k_bipush (v := 27) F dX7_letterOf_12 14 rfl (by decide) ?_
      refine k_idiv F dX7_letterOf_14 15 rfl (by decide) ?_
      refine k_topi (b := nI (w / 27)) (pk_div (a := w) (d := 27) (by omega) (by omega) (by omega)) ?_
      refine k_istore_n (lv' := [(0, _), (1, _), (2, _), (3, _)]) F dX7_letterOf_15 16 rfl rfl (Nat.le_of_ble_eq_true rfl) rfl rfl rfl ?_
      refine k_goto F dX7_letterOf_16 4 (by decide) ?_
      have e := many_pos (v := w) (by omega) c
      have e2 : many v - many w + 1 = many v - many (w / 27) := by omega
      rw [nI_1, e2]
      have := Nat.div_le_self w 27
      refine ih (w / 27) (by rw [Nat.div_lt_iff_lt_mul (by omega)]; rw [Nat.pow_succ] at hw; exact hw) (by omega) (by omega)
set_option maxHeartbeats 4000000 in
set_option maxRecDepth 100000 in
theorem zX7_letter {l : Launch} {g : kG} (S : kStart l g) {h : kH} {m : Nat} {ad : Nat → Nat} {sc R : Nat → Int32} {ar : Nat → Nat → Int32} (hM : MW h m ad sc R ar) (hR : RV R) (hN : RNm R) (v w : Int32) : kMet l g yX7_letter (Cond.code yX7_letter cX7_letter 3 (Option.some Jvm.ClassFile.FieldType.int)) 3 0 0 [.ref m, .int v, .int w] h (mAn h m ad sc R ar (oLett R v w)) := by
  refine kEnter S kd_X7_letter (Nat.le_of_ble_eq_true rfl) (fun x F hxl hxg => ?_)
  subst hxl; subst hxg
  have hlv : lv_args 0 [.ref m, .int v, .int w] = [(0, .ref m), (1, .int v), (2, .int w)] := rfl
  rw [hlv]
  have hK : kKp (mOwn m) h h := kKp.rf
  obtain ⟨r1, r2, r3, r4, r5, r6, r7, r8⟩ := id hR
  refine k_aload_n F dX7_letter_0 1 rfl rfl rfl ?_
  refine k_iconst (v := 0) F dX7_letter_1 2 rfl (by decide) ?_
  refine m_put F 8 (by decide) (knX7 8) q3600 rfl rfl dX7_letter_2 5 rfl hM hK rfl rfl rfl (fun h9 hM hK => ?_)
  refine k_aload_n F dX7_letter_5 6 rfl rfl rfl ?_
  refine k_aload_n F dX7_letter_6 7 rfl rfl rfl ?_
  refine k_iload_n F dX7_letter_7 8 rfl rfl rfl ?_
  refine k_callV F kd_X7_isArm q3862 q194 (kInvV (Bs := [_]) F kcX7 q3859 q3861 qs134 kd_X7_isArm q3862 dX7_letter_8 (kHs.of hM.1) rfl (by decide)) (zX7_isArm F.st hM _) 11 rfl (Nat.le_of_ble_eq_true rfl) (by first | exact Nat.le_of_ble_eq_true rfl | omega) (by first | exact Nat.le_of_ble_eq_true rfl | omega) (by first | exact Nat.le_of_ble_eq_true rfl | omega) (by first | exact Nat.le_of_ble_eq_true rfl | omega) (fun r1 h1 hr1 => ?_)
  obtain ⟨rfl, rfl⟩ := hr1
  refine k_callV F kd_X7_right q3850 q194 (kInvV (Bs := [_]) F kcX7 q3847 q3849 qs132 kd_X7_right q3850 dX7_letter_11 (kHs.of hM.1) rfl (by decide)) (zX7_right F.st hM _) 14 rfl (Nat.le_of_ble_eq_true rfl) (by first | exact Nat.le_of_ble_eq_true rfl | omega) (by first | exact Nat.le_of_ble_eq_true rfl | omega) (by first | exact Nat.le_of_ble_eq_true rfl | omega) (by first | exact Nat.le_of_ble_eq_true rfl | omega) (fun r2 h2 hr2 => ?_)
  obtain ⟨rfl, hM, hK9⟩ := hr2
  have hK := hK.tr hK9
  rw [r1] at hM ⊢
  cases q1 : ixO v (rA R) with
  | none =>
    rw [show oLett R v w = none from by simp [oLett, q1]] at F
    rw [ixO_n q1] at hM ⊢
    refine k_ifeq F dX7_letter_14 17 30 rfl (by decide) (fun _ => ?_) (fun c_ => (by first | exact absurd rfl c_ | exact absurd c_ (by decide) | exact absurd (by assumption) c_ | exact absurd c_ (by assumption)))
    refine k_iconst (v := 0) F dX7_letter_30 31 rfl (by decide) ?_
    exact k_iret F dX7_letter_31 (by first | exact Nat.le_of_ble_eq_true rfl | omega) (by first | exact Nat.le_of_ble_eq_true rfl | omega) ⟨rfl, hM, hK⟩
  | some a =>
    obtain ⟨ha, rfl⟩ := ixO_lt (by omega) q1
    rw [show oLett R (nI a) w = some (lettF (rN R a) w) from by simp [oLett, q1]] at F
    rw [ixO_s q1] at hM ⊢
    refine k_ifeq F dX7_letter_14 17 30 rfl (by decide) (fun c_ => (by first | exact absurd rfl c_ | exact absurd c_ (by decide) | exact absurd (by assumption) c_ | exact absurd c_ (by assumption))) (fun _ => ?_)
    refine k_aload_n F dX7_letter_17 18 rfl rfl rfl ?_
    refine k_iload_n F dX7_letter_18 19 rfl rfl rfl ?_
    refine k_iconst (v := 0) F dX7_letter_19 20 rfl (by decide) ?_
    refine k_callV F kd_X7_of q3549 q194 (kInvV (Bs := [_, _]) F kcX7 q3546 q3548 qs86 kd_X7_of q3549 dX7_letter_20 (kHs.of hM.1) rfl (by decide)) (zX7_of F.st hM a 0 (by omega)) 23 rfl (Nat.le_of_ble_eq_true rfl) (by first | exact Nat.le_of_ble_eq_true rfl | omega) (by first | exact Nat.le_of_ble_eq_true rfl | omega) (by first | exact Nat.le_of_ble_eq_true rfl | omega) (by first | exact Nat.le_of_ble_eq_true rfl | omega) (fun r3 h3 hr3 => ?_)
    obtain ⟨rfl, rfl⟩ := hr3
    rw [(hN a ha).1]
    refine k_iload_n F dX7_letter_23 24 rfl rfl rfl ?_
    refine k_callV F kd_X7_letterOf q3897 q194 (kInvS (Bs := [_, _]) F q3895 q3896 q194 kd_X7_letterOf q3897 dX7_letter_24 rfl (by decide)) (zX7_letterOf F.st _ _ (RNm_lt hN ha)) 27 rfl (Nat.le_of_ble_eq_true rfl) (by first | exact Nat.le_of_ble_eq_true rfl | omega) (by first | exact Nat.le_of_ble_eq_true rfl | omega) (by first | exact Nat.le_of_ble_eq_true rfl | omega) (by first | exact Nat.le_of_ble_eq_true rfl | omega) (fun r4 h4 hr4 => ?_)
    obtain ⟨rfl, rfl⟩ := hr4
    refine k_goto F dX7_letter_27 31 (by decide) ?_
    exact k_iret F dX7_letter_31 (by first | exact Nat.le_of_ble_eq_true rfl | omega) (by first | exact Nat.le_of_ble_eq_true rfl | omega) ⟨rfl, hM, hK⟩
set_option maxHeartbeats 4000000 in
set_option maxRecDepth 100000 in
theorem zX7_find {l : Launch} {g : kG} (S : kStart l g) {h : kH} {m : Nat} {ad : Nat → Nat} {sc R : Nat → Int32} {ar : Nat → Nat → Int32} (hM : MW h m ad sc R ar) (hR : RV R) (n : Nat) (hn : sc 10 = nI n) (hn6 : n ≤ 600) : kMet l g yX7_find (Cond.code yX7_find cX7_find 2 (Option.some Jvm.ClassFile.FieldType.int)) 3 0 0 [.ref m] h (mDv h m ad (upd sc 8 0) R ar (.int (findF R (ar 9) n))) := by
  refine kEnter S kd_X7_find (Nat.le_of_ble_eq_true rfl) (fun x F hxl hxg => ?_)
  subst hxl; subst hxg
  have hlv : lv_args 0 [.ref m] = [(0, .ref m)] := rfl
  rw [hlv]
  have hK : kKp (mOwn m) h h := kKp.rf
  have hn0 : upd sc 8 0 10 = nI n := hn
  refine k_aload_n F dX7_find_0 1 rfl rfl rfl ?_
  refine k_iconst (v := 0) F dX7_find_1 2 rfl (by decide) ?_
  refine m_put F 8 (by decide) (knX7 8) q3600 rfl rfl dX7_find_2 5 rfl hM hK rfl rfl rfl (fun h9 hM hK => ?_)
  refine k_aload_n F dX7_find_5 6 rfl rfl rfl ?_
  refine m_get F 10 (by decide) q3602 rfl dX7_find_6 9 rfl hM rfl ?_
  rw [hn0]
  refine k_iconst (v := 1) F dX7_find_9 10 rfl (by decide) ?_
  refine k_bipush (v := 6) F dX7_find_10 12 rfl (by decide) ?_
  refine k_callV F kd_X7_in q3498 q194 (kInvS (Bs := [_, _, _]) F q3496 q3497 q194 kd_X7_in q3498 dX7_find_12 rfl (by decide)) (zX7_in F.st _ _ _) 15 rfl (Nat.le_of_ble_eq_true rfl) (by first | exact Nat.le_of_ble_eq_true rfl | omega) (by first | exact Nat.le_of_ble_eq_true rfl | omega) (by first | exact Nat.le_of_ble_eq_true rfl | omega) (by first | exact Nat.le_of_ble_eq_true rfl | omega) (fun r1 h1 hr1 => ?_)
  obtain ⟨rfl, rfl⟩ := hr1
  rw [show inF (nI n) 1 6 = decide (1 ≤ n ∧ n ≤ 6) from by
    by_cases q : 1 ≤ n ∧ n ≤ 6
    · rw [decide_eq_true q]
      exact (inBet (a := 1) (b := 6) (by omega) (by omega)).mpr ⟨n, q.1, q.2, rfl⟩
    · rw [decide_eq_false q]
      refine (Bool.not_eq_true _).mp (fun e => q ?_)
      obtain ⟨k, h1, h2, h3⟩ := (inBet (a := 1) (b := 6) (by omega) (by omega)).mp e
      rw [nI_inj (by omega) (by omega)] at h3
      omega]
  by_cases q : 1 ≤ n ∧ n ≤ 6
  · rw [decide_eq_true q]
    refine k_ifne F dX7_find_15 18 20 rfl (by decide) (fun _ => ?_) (fun c_ => (by first | exact absurd rfl c_ | exact absurd c_ (by decide) | exact absurd (by assumption) c_ | exact absurd c_ (by assumption)))
    refine k_iconst (v := 0) F dX7_find_20 21 rfl (by decide) ?_
    refine k_istore_n (lv' := [(0, _), (1, _)]) F dX7_find_21 22 rfl rfl (Nat.le_of_ble_eq_true rfl) rfl rfl rfl ?_
    refine kUpTo (Q := fun j => (∀ i, i < j → inF (ar 9 i) 97 122 = true) → kW x 0 0 h9 22 [(0, .ref m), (1, .int (nI j))] []) (n) ?_ ?_ 0 (Nat.zero_le _) (fun i hi => absurd hi (by omega))
    · intro hl
      refine k_iload_n F dX7_find_22 23 rfl rfl rfl ?_
      refine k_aload_n F dX7_find_23 24 rfl rfl rfl ?_
      refine m_get F 10 (by decide) q3602 rfl dX7_find_24 27 rfl hM rfl ?_
      rw [hn0]
      refine k_icmpge F dX7_find_27 30 54 rfl (by decide) (fun _ => ?_) (fun c_ => absurd c_ (by rw [nI_leE (by omega) (by omega)]; omega))
      refine k_aload_n F dX7_find_54 55 rfl rfl rfl ?_
      refine k_aload_n F dX7_find_55 56 rfl rfl rfl ?_
      refine k_iconst (v := 0) F dX7_find_56 57 rfl (by decide) ?_
      refine k_aload_n F dX7_find_57 58 rfl rfl rfl ?_
      refine m_get F 10 (by decide) q3602 rfl dX7_find_58 61 rfl hM rfl ?_
      rw [hn0]
      refine k_callV F kd_X7_packed q3541 q194 (kInvV (Bs := [_, _]) F kcX7 q3538 q3540 qs84 kd_X7_packed q3541 dX7_find_61 (kHs.of hM.1) rfl (by decide)) (zX7_packed F.st hM 0 n (by omega)) 64 rfl (Nat.le_of_ble_eq_true rfl) (by first | exact Nat.le_of_ble_eq_true rfl | omega) (by first | exact Nat.le_of_ble_eq_true rfl | omega) (by first | exact Nat.le_of_ble_eq_true rfl | omega) (by first | exact Nat.le_of_ble_eq_true rfl | omega) (fun r2 h2 hr2 => ?_)
      obtain ⟨rfl, rfl⟩ := hr2
      refine k_callV F kd_X7_named q3545 q194 (kInvV (Bs := [_]) F kcX7 q3542 q3544 qs85 kd_X7_named q3545 dX7_find_64 (kHs.of hM.1) rfl (by decide)) (zX7_named F.st hM hR _) 67 rfl (Nat.le_of_ble_eq_true rfl) (by first | exact Nat.le_of_ble_eq_true rfl | omega) (by first | exact Nat.le_of_ble_eq_true rfl | omega) (by first | exact Nat.le_of_ble_eq_true rfl | omega) (by first | exact Nat.le_of_ble_eq_true rfl | omega) (fun r3 h3 hr3 => ?_)
      obtain ⟨rfl, rfl⟩ := hr3
      have hlow : lowF (ar 9) n = true := by
        unfold lowF
        rw [List.all_eq_true]
        exact fun i hi => hl i (List.mem_range.mp hi)
      exact k_iret F dX7_find_67 (by first | exact Nat.le_of_ble_eq_true rfl | omega) (by first | exact Nat.le_of_ble_eq_true rfl | omega) ⟨by unfold findF; rw [if_pos ⟨q.1, q.2, hlow⟩], hM, hK⟩
    · intro j hj ih hl
      refine k_iload_n F dX7_find_22 23 rfl rfl rfl ?_
      refine k_aload_n F dX7_find_23 24 rfl rfl rfl ?_
      refine m_get F 10 (by decide) q3602 rfl dX7_find_24 27 rfl hM rfl ?_
      rw [hn0]
      refine k_icmpge F dX7_find_27 30 54 rfl (by decide) (fun c_ => absurd c_ (by rw [nI_leE (by omega) (by omega)]; omega)) (fun _ => ?_)
      refine k_aload_n F dX7_find_30 31 rfl rfl rfl ?_
      refine m_get F 9 (by decide) q3601 rfl dX7_find_31 34 rfl hM rfl ?_
      refine k_iload_n F dX7_find_34 35 rfl rfl rfl ?_
      refine m_iald F _ (by rfl) dX7_find_35 36 rfl hM (j) (by first | (with_reducible rfl) | (simp only [nI_lit, pk_mul, nI_add])) (by first | decide | omega | (simp only [mSz]; omega)) ?_
      refine k_bipush (v := 97) F dX7_find_36 38 rfl (by decide) ?_
      refine k_bipush (v := 122) F dX7_find_38 40 rfl (by decide) ?_
      refine k_callV F kd_X7_in q3498 q194 (kInvS (Bs := [_, _, _]) F q3496 q3497 q194 kd_X7_in q3498 dX7_find_40 rfl (by decide)) (zX7_in F.st _ _ _) 43 rfl (Nat.le_of_ble_eq_true rfl) (by first | exact Nat.le_of_ble_eq_true rfl | omega) (by first | exact Nat.le_of_ble_eq_true rfl | omega) (by first | exact Nat.le_of_ble_eq_true rfl | omega) (by first | exact Nat.le_of_ble_eq_true rfl | omega) (fun r4 h4 hr4 => ?_)
      obtain ⟨rfl, rfl⟩ := hr4
      refine k_ifne F dX7_find_43 46 48 rfl (by decide) (fun c_d => ?_) (fun c_d => ?_)
      · have hlj : inF (ar 9 j) 97 122 = true := by cases qq : inF (ar 9 j) 97 122 with
          | true => rfl
          | false => rw [qq] at c_d; exact absurd rfl c_d
        refine k_iinc (e := 1) (lv' := [(0, _), (1, _)]) F dX7_find_48 51 rfl rfl (by decide) rfl (Nat.le_of_ble_eq_true rfl) rfl rfl rfl ?_
        refine k_goto F dX7_find_51 22 (by decide) ?_
        rw [nI_1]
        exact ih (fun i hi => if e : i = j then by rw [e]; exact hlj else hl i (by omega))
      · rw [kB_0] at c_d
        have hlow : ¬ lowF (ar 9) n = true := by
          unfold lowF
          rw [List.all_eq_true]
          intro e
          have := e j (List.mem_range.mpr hj)
          rw [c_d] at this
          cases this
        refine k_iconst (v := (-1)) F dX7_find_46 47 rfl (by decide) ?_
        exact k_iret F dX7_find_47 (by first | exact Nat.le_of_ble_eq_true rfl | omega) (by first | exact Nat.le_of_ble_eq_true rfl | omega) ⟨by unfold findF; rw [if_neg (fun q => hlow q.2.2)], hM, hK⟩
  · rw [decide_eq_false q]
    refine k_ifne F dX7_find_15 18 20 rfl (by decide) (fun c_ => (by first | exact absurd rfl c_ | exact absurd c_ (by decide) | exact absurd (by assumption) c_ | exact absurd c_ (by assumption))) (fun _ => ?_)
    refine k_iconst (v := (-1)) F dX7_find_18 19 rfl (by decide) ?_
    exact k_iret F dX7_find_19 (by first | exact Nat.le_of_ble_eq_true rfl | omega) (by first | exact Nat.le_of_ble_eq_true rfl | omega) ⟨by unfold findF; rw [if_neg (fun e => q ⟨e.1, e.2.1⟩)], hM, hK⟩
set_option maxHeartbeats 4000000 in
set_option maxRecDepth 100000 in
theorem zX7_reportByte {l : Launch} {g : kG} (S : kStart l g) {h : kH} {m : Nat} {ad : Nat → Nat} {sc R : Nat → Int32} {ar : Nat → Nat → Int32} (hM : MW h m ad sc R ar) (n : Nat) (hn : sc 25 = nI n) (hn6 : n ≤ 500) (v : Int32) : kMet l g yX7_reportByte (Cond.code yX7_reportByte cX7_reportByte 2 (Option.some Jvm.ClassFile.FieldType.int)) 2 0 0 [.ref m, .int v] h (mDv h m ad (upd sc 8 0) R ar (.int ((ixO v n).elim (-1) (ar 24)))) := by
  refine kEnter S kd_X7_reportByte (Nat.le_of_ble_eq_true rfl) (fun x F hxl hxg => ?_)
  subst hxl; subst hxg
  have hlv : lv_args 0 [.ref m, .int v] = [(0, .ref m), (1, .int v)] := rfl
  rw [hlv]
  have hK : kKp (mOwn m) h h := kKp.rf
  have hn0 : upd sc 8 0 25 = nI n := hn
  refine k_aload_n F dX7_reportByte_0 1 rfl rfl rfl ?_
  refine k_iconst (v := 0) F dX7_reportByte_1 2 rfl (by decide) ?_
  refine m_put F 8 (by decide) (knX7 8) q3600 rfl rfl dX7_reportByte_2 5 rfl hM hK rfl rfl rfl (fun h9 hM hK => ?_)
  refine k_iload_n F dX7_reportByte_5 6 rfl rfl rfl ?_
  refine k_iconst (v := 0) F dX7_reportByte_6 7 rfl (by decide) ?_
  refine k_aload_n F dX7_reportByte_7 8 rfl rfl rfl ?_
  refine m_get F 25 (by decide) q3617 rfl dX7_reportByte_8 11 rfl hM rfl ?_
  rw [hn0]
  refine k_iconst (v := 1) F dX7_reportByte_11 12 rfl (by decide) ?_
  refine k_isub F dX7_reportByte_12 13 rfl ?_
  refine k_callV F kd_X7_in q3498 q194 (kInvS (Bs := [_, _, _]) F q3496 q3497 q194 kd_X7_in q3498 dX7_reportByte_13 rfl (by decide)) (zX7_in F.st _ _ _) 16 rfl (Nat.le_of_ble_eq_true rfl) (by first | exact Nat.le_of_ble_eq_true rfl | omega) (by first | exact Nat.le_of_ble_eq_true rfl | omega) (by first | exact Nat.le_of_ble_eq_true rfl | omega) (by first | exact Nat.le_of_ble_eq_true rfl | omega) (fun r1 h1 hr1 => ?_)
  obtain ⟨rfl, rfl⟩ := hr1
  cases q1 : ixO v n with
  | none =>
    rw [q1] at F
    rw [ixO_n q1]
    refine k_ifeq F dX7_reportByte_16 19 28 rfl (by decide) (fun _ => ?_) (fun c_ => (by first | exact absurd rfl c_ | exact absurd c_ (by decide) | exact absurd (by assumption) c_ | exact absurd c_ (by assumption)))
    refine k_iconst (v := (-1)) F dX7_reportByte_28 29 rfl (by decide) ?_
    exact k_iret F dX7_reportByte_29 (by first | exact Nat.le_of_ble_eq_true rfl | omega) (by first | exact Nat.le_of_ble_eq_true rfl | omega) ⟨rfl, hM, hK⟩
  | some k =>
    obtain ⟨ha, rfl⟩ := ixO_lt (by omega) q1
    rw [q1] at F
    rw [ixO_s q1]
    refine k_ifeq F dX7_reportByte_16 19 28 rfl (by decide) (fun c_ => (by first | exact absurd rfl c_ | exact absurd c_ (by decide) | exact absurd (by assumption) c_ | exact absurd c_ (by assumption))) (fun _ => ?_)
    refine k_aload_n F dX7_reportByte_19 20 rfl rfl rfl ?_
    refine m_get F 24 (by decide) q3616 rfl dX7_reportByte_20 23 rfl hM rfl ?_
    refine k_iload_n F dX7_reportByte_23 24 rfl rfl rfl ?_
    refine m_iald F _ (by rfl) dX7_reportByte_24 25 rfl hM (k) (by first | (with_reducible rfl) | (simp only [nI_lit, pk_mul, nI_add])) (by first | decide | omega | (simp only [mSz]; omega)) ?_
    refine k_goto F dX7_reportByte_25 29 (by decide) ?_
    exact k_iret F dX7_reportByte_29 (by first | exact Nat.le_of_ble_eq_true rfl | omega) (by first | exact Nat.le_of_ble_eq_true rfl | omega) ⟨rfl, hM, hK⟩
set_option maxHeartbeats 4000000 in
set_option maxRecDepth 100000 in
theorem zX7_writes {l : Launch} {g : kG} (S : kStart l g) {h : kH} {m : Nat} {ad : Nat → Nat} {sc R : Nat → Int32} {ar : Nat → Nat → Int32} {L : List Int32} (hT : MT h m ad sc R ar L) (hL : L.length < 500) (c : Int32) : kMet l g yX7_writes (Cond.code yX7_writes cX7_writes 2 (Option.none : Option Jvm.ClassFile.FieldType)) 1 0 0 [.ref m, .int c] h (mDoT h m ad sc R ar (L ++ [c])) := by
  refine kEnter S kd_X7_writes (Nat.le_of_ble_eq_true rfl) (fun x F hxl hxg => ?_)
  subst hxl; subst hxg
  have hlv : lv_args 0 [.ref m, .int c] = [(0, .ref m), (1, .int c)] := rfl
  rw [hlv]
  have hK : kKp (mOwn m) h h := kKp.rf
  obtain ⟨f, hM, hf⟩ := hT
  refine k_aload_n F dX7_writes_0 1 rfl rfl rfl ?_
  refine m_get F 24 (by decide) q3616 rfl dX7_writes_1 4 rfl hM rfl ?_
  refine k_aload_n F dX7_writes_4 5 rfl rfl rfl ?_
  refine m_get F 25 (by decide) q3617 rfl dX7_writes_5 8 rfl hM rfl ?_
  rw [show upd sc 25 (nI L.length) 25 = nI L.length from upd_eq]
  refine k_iload_n F dX7_writes_8 9 rfl rfl rfl ?_
  refine m_iast F _ (by rfl) dX7_writes_9 10 rfl hM hK (L.length) (by first | (with_reducible rfl) | (simp only [nI_lit, pk_mul, nI_add])) (by first | decide | omega | (simp only [mSz]; omega)) (fun h9 hM hK => ?_)
  refine k_aload_n F dX7_writes_10 11 rfl rfl rfl ?_
  refine k_dup F dX7_writes_11 12 rfl rfl ?_
  refine m_get F 25 (by decide) q3617 rfl dX7_writes_12 15 rfl hM rfl ?_
  refine k_iconst (v := 1) F dX7_writes_15 16 rfl (by decide) ?_
  refine k_iadd F dX7_writes_16 17 rfl ?_
  refine m_put F 25 (by decide) (knX7 25) q3617 rfl rfl dX7_writes_17 20 rfl hM hK rfl rfl rfl (fun h9 hM hK => ?_)
  rw [upd_eq, nI_1, upd_upd, setA_upd] at hM
  exact k_vret F dX7_writes_20 (by first | exact Nat.le_of_ble_eq_true rfl | omega) (by first | exact Nat.le_of_ble_eq_true rfl | omega) ⟨⟨_, by rw [List.length_append, List.length_singleton]; exact hM, preL_snoc hf⟩, hK⟩

