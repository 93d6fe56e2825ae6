/-! the component: phases -/
def pc8 (M : Nat) : Nat := (List.range 8).countP (fun i => M.testBit i)
def bcS (i : Int64) (n : Int32) : Int64 := (i.toUInt64 >>> (n.toInt64.toUInt64 &&& Int64.toUInt64 63)).toInt64
def bcF (i : Int64) : Int32 :=
  let a := i - (bcS i 1 &&& 6148914691236517205)
  let b := (a &&& 3689348814741910323) + (bcS a 2 &&& 3689348814741910323)
  let c := (b + bcS b 4) &&& 1085102592571150095
  let d := c + bcS c 8
  let e := d + bcS d 16
  let f := e + bcS e 32
  f.toInt32 &&& 127
theorem bcF_pc : ∀ M, M < 256 → bcF (Int64.ofNat M) = nI (pc8 M) := by decide +kernel
set_option maxHeartbeats 4000000 in
set_option maxRecDepth 100000 in
theorem zJ33_bitCount {l : Launch} {g : kG} (S : kStart l g) {h : kH} (M : Nat) (hM : M < 256) : kMet l g yJ33_bitCount (Cond.code yJ33_bitCount cJ33_bitCount 2 (Option.some Jvm.ClassFile.FieldType.int)) 1 0 0 [.long (Int64.ofNat M)] h (mRd h (.int (nI (pc8 M)))) := by
  refine kEnter S kd_J33_bitCount (Nat.le_of_ble_eq_true rfl) (fun x F hxl hxg => ?_)
  subst hxl; subst hxg
  have hlv : lv_args 0 [.long (Int64.ofNat M)] = [(0, .long (Int64.ofNat M))] := rfl
  rw [hlv]
  refine k_lload_n F dJ33_bitCount_0 1 rfl rfl rfl ?_
  refine k_lload_n F dJ33_bitCount_1 2 rfl rfl rfl ?_
  refine k_iconst (v := 1) F dJ33_bitCount_2 3 rfl (by decide) ?_
  refine k_lushr F dJ33_bitCount_3 4 rfl rfl ?_
  refine k_ldc2 F dJ33_bitCount_4 7 rfl q3175 ?_
  refine k_land F dJ33_bitCount_7 8 rfl ?_
  refine k_lsub F dJ33_bitCount_8 9 rfl ?_
  refine k_lstore_n (lv' := [(0, _)]) F dJ33_bitCount_9 10 rfl rfl (Nat.le_of_ble_eq_true rfl) rfl rfl rfl ?_
  refine k_lload_n F dJ33_bitCount_10 11 rfl rfl rfl ?_
  refine k_ldc2 F dJ33_bitCount_11 14 rfl q3176 ?_
  refine k_land F dJ33_bitCount_14 15 rfl ?_
  refine k_lload_n F dJ33_bitCount_15 16 rfl rfl rfl ?_
  refine k_iconst (v := 2) F dJ33_bitCount_16 17 rfl (by decide) ?_
  refine k_lushr F dJ33_bitCount_17 18 rfl rfl ?_
  refine k_ldc2 F dJ33_bitCount_18 21 rfl q3176 ?_
  refine k_land F dJ33_bitCount_21 22 rfl ?_
  refine k_ladd F dJ33_bitCount_22 23 rfl ?_
  refine k_lstore_n (lv' := [(0, _)]) F dJ33_bitCount_23 24 rfl rfl (Nat.le_of_ble_eq_true rfl) rfl rfl rfl ?_
  refine k_lload_n F dJ33_bitCount_24 25 rfl rfl rfl ?_
  refine k_lload_n F dJ33_bitCount_25 26 rfl rfl rfl ?_
  refine k_iconst (v := 4) F dJ33_bitCount_26 27 rfl (by decide) ?_
  refine k_lushr F dJ33_bitCount_27 28 rfl rfl ?_
  refine k_ladd F dJ33_bitCount_28 29 rfl ?_
  refine k_ldc2 F dJ33_bitCount_29 32 rfl q3177 ?_
  refine k_land F dJ33_bitCount_32 33 rfl ?_
  refine k_lstore_n (lv' := [(0, _)]) F dJ33_bitCount_33 34 rfl rfl (Nat.le_of_ble_eq_true rfl) rfl rfl rfl ?_
  refine k_lload_n F dJ33_bitCount_34 35 rfl rfl rfl ?_
  refine k_lload_n F dJ33_bitCount_35 36 rfl rfl rfl ?_
  refine k_bipush (v := 8) F dJ33_bitCount_36 38 rfl (by decide) ?_
  refine k_lushr F dJ33_bitCount_38 39 rfl rfl ?_
  refine k_ladd F dJ33_bitCount_39 40 rfl ?_
  refine k_lstore_n (lv' := [(0, _)]) F dJ33_bitCount_40 41 rfl rfl (Nat.le_of_ble_eq_true rfl) rfl rfl rfl ?_
  refine k_lload_n F dJ33_bitCount_41 42 rfl rfl rfl ?_
  refine k_lload_n F dJ33_bitCount_42 43 rfl rfl rfl ?_
  refine k_bipush (v := 16) F dJ33_bitCount_43 45 rfl (by decide) ?_
  refine k_lushr F dJ33_bitCount_45 46 rfl rfl ?_
  refine k_ladd F dJ33_bitCount_46 47 rfl ?_
  refine k_lstore_n (lv' := [(0, _)]) F dJ33_bitCount_47 48 rfl rfl (Nat.le_of_ble_eq_true rfl) rfl rfl rfl ?_
  refine k_lload_n F dJ33_bitCount_48 49 rfl rfl rfl ?_
  refine k_lload_n F dJ33_bitCount_49 50 rfl rfl rfl ?_
  refine k_bipush (v := 32) F dJ33_bitCount_50 52 rfl (by decide) ?_
  refine k_lushr F dJ33_bitCount_52 53 rfl rfl ?_
  refine k_ladd F dJ33_bitCount_53 54 rfl ?_
  refine k_lstore_n (lv' := [(0, _)]) F dJ33_bitCount_54 55 rfl rfl (Nat.le_of_ble_eq_true rfl) rfl rfl rfl ?_
  refine k_lload_n F dJ33_bitCount_55 56 rfl rfl rfl ?_
  refine k_l2i F dJ33_bitCount_56 57 rfl ?_
  refine k_bipush (v := 127) F dJ33_bitCount_57 59 rfl (by decide) ?_
  refine k_iand F dJ33_bitCount_59 60 rfl ?_
  exact k_iret F dJ33_bitCount_60 (by first | exact Nat.le_of_ble_eq_true rfl | omega) (by first | exact Nat.le_of_ble_eq_true rfl | omega) ⟨by show _ = Value.int (bcF (Int64.ofNat M)); rw [bcF_pc M hM], rfl⟩
set_option maxHeartbeats 4000000 in
set_option maxRecDepth 100000 in
theorem zJ35_cardinality {l : Launch} {g : kG} (S : kStart l g) {h : kH} {a b : Nat} {t t' : kT} {M : Nat} (hB : BsR h a b t t' M) : kMet l g yJ35_cardinality (Cond.code yJ35_cardinality cJ35_cardinality 3 (Option.some Jvm.ClassFile.FieldType.int)) 2 0 0 [.ref a] h (mRd h (.int (nI (pc8 M)))) := by
  refine kEnter S kd_J35_cardinality (Nat.le_of_ble_eq_true rfl) (fun x F hxl hxg => ?_)
  subst hxl; subst hxg
  have hlv : lv_args 0 [.ref a] = [(0, .ref a)] := rfl
  rw [hlv]
  obtain ⟨u, f, e1, e2, e3, e4, e5⟩ := id hB
  rcases e2 with rfl | ⟨rfl, rfl⟩
  · refine k_iconst (v := 0) F dJ35_cardinality_0 1 rfl (by decide) ?_
    refine k_istore_n (lv' := [(0, _), (1, _)]) F dJ35_cardinality_1 2 rfl rfl (Nat.le_of_ble_eq_true rfl) rfl rfl rfl ?_
    refine k_iconst (v := 0) F dJ35_cardinality_2 3 rfl (by decide) ?_
    refine k_istore_n (lv' := [(0, _), (1, _), (2, _)]) F dJ35_cardinality_3 4 rfl rfl (Nat.le_of_ble_eq_true rfl) rfl rfl rfl ?_
    refine k_iload_n F dJ35_cardinality_4 5 rfl rfl rfl ?_
    refine k_aload_n F dJ35_cardinality_5 6 rfl rfl rfl ?_
    refine k_get F kcJ35 1 (by decide) q1944 (fun _ e => e) dJ35_cardinality_6 9 rfl (kHs.of e3) rfl ?_
    refine k_icmpge F dJ35_cardinality_9 12 30 rfl (by decide) (fun c_ => (absurd c_ (by decide))) (fun _ => ?_)
    refine k_iload_n F dJ35_cardinality_12 13 rfl rfl rfl ?_
    refine k_aload_n F dJ35_cardinality_13 14 rfl rfl rfl ?_
    refine k_get F kcJ35 0 (by decide) q1943 (fun _ e => e) dJ35_cardinality_14 17 rfl (kHs.of e3) rfl ?_
    refine k_iload_n F dJ35_cardinality_17 18 rfl rfl rfl ?_
    refine k_lald F dJ35_cardinality_18 19 rfl (kHs.of e4) (j := 0) rfl (by omega) (by omega) ?_
    rw [e5]
    refine k_callV F kd_J33_bitCount q3174 q189 (kInvS (Bs := [_]) F q3172 q3173 q189 kd_J33_bitCount q3174 dJ35_cardinality_19 rfl (by decide)) (zJ33_bitCount F.st M e1) 22 rfl (Nat.le_of_ble_eq_true rfl) (by first | exact Nat.le_of_ble_eq_true rfl | omega) (by first | exact Nat.le_of_ble_eq_true rfl | omega) (by first | exact Nat.le_of_ble_eq_true rfl | omega) (by first | exact Nat.le_of_ble_eq_true rfl | omega) (fun r1 h1 hr1 => ?_)
    obtain ⟨rfl, rfl⟩ := hr1
    refine k_iadd F dJ35_cardinality_22 23 rfl ?_
    refine k_topi (b := nI (pc8 M)) (by show nI 0 + nI (pc8 M) = _; rw [nI_add, Nat.zero_add]) ?_
    refine k_istore_n (lv' := [(0, _), (1, _), (2, _)]) F dJ35_cardinality_23 24 rfl rfl (Nat.le_of_ble_eq_true rfl) rfl rfl rfl ?_
    refine k_iinc (e := 1) (lv' := [(0, _), (1, _), (2, _)]) F dJ35_cardinality_24 27 rfl rfl (by decide) rfl (Nat.le_of_ble_eq_true rfl) rfl rfl rfl ?_
    refine k_goto F dJ35_cardinality_27 4 (by decide) ?_
    refine k_iload_n F dJ35_cardinality_4 5 rfl rfl rfl ?_
    refine k_aload_n F dJ35_cardinality_5 6 rfl rfl rfl ?_
    refine k_get F kcJ35 1 (by decide) q1944 (fun _ e => e) dJ35_cardinality_6 9 rfl (kHs.of e3) rfl ?_
    refine k_icmpge F dJ35_cardinality_9 12 30 rfl (by decide) (fun _ => ?_) (fun c_ => (absurd (by decide) c_))
    refine k_iload_n F dJ35_cardinality_30 31 rfl rfl rfl ?_
    exact k_iret F dJ35_cardinality_31 (by first | exact Nat.le_of_ble_eq_true rfl | omega) (by first | exact Nat.le_of_ble_eq_true rfl | omega) ⟨rfl, rfl⟩
  · refine k_iconst (v := 0) F dJ35_cardinality_0 1 rfl (by decide) ?_
    refine k_istore_n (lv' := [(0, _), (1, _)]) F dJ35_cardinality_1 2 rfl rfl (Nat.le_of_ble_eq_true rfl) rfl rfl rfl ?_
    refine k_iconst (v := 0) F dJ35_cardinality_2 3 rfl (by decide) ?_
    refine k_istore_n (lv' := [(0, _), (1, _), (2, _)]) F dJ35_cardinality_3 4 rfl rfl (Nat.le_of_ble_eq_true rfl) rfl rfl rfl ?_
    refine k_iload_n F dJ35_cardinality_4 5 rfl rfl rfl ?_
    refine k_aload_n F dJ35_cardinality_5 6 rfl rfl rfl ?_
    refine k_get F kcJ35 1 (by decide) q1944 (fun _ e => e) dJ35_cardinality_6 9 rfl (kHs.of e3) rfl ?_
    refine k_icmpge F dJ35_cardinality_9 12 30 rfl (by decide) (fun _ => ?_) (fun c_ => (absurd (by decide) c_))
    refine k_iload_n F dJ35_cardinality_30 31 rfl rfl rfl ?_
    exact k_iret F dJ35_cardinality_31 (by first | exact Nat.le_of_ble_eq_true rfl | omega) (by first | exact Nat.le_of_ble_eq_true rfl | omega) ⟨by decide, rfl⟩
set_option maxHeartbeats 4000000 in
set_option maxRecDepth 100000 in
theorem zJ35_or {l : Launch} {g : kG} (S : kStart l g) {h : kH} {a b s w : Nat} {t t' t2 t3 : kT} {f : Nat → Int64} {M : Nat} (ht : t.1 ≠ 0) (ht' : t'.1 ≠ 0) (hne : t ≠ t') (ha : h a = some (t, eO 10 [.ref b, .int 0, .int 1])) (hb : h b = some (t', eL 1 f)) (hf : f 0 = Int64.ofNat 0) (hB : BsR h s w t2 t3 M) (has : a ≠ s) (hbw : b ≠ w) : kMet l g yJ35_or (Cond.code yJ35_or cJ35_or 4 (Option.none : Option Jvm.ClassFile.FieldType)) 4 0 0 [.ref a, .ref s] h (kN (fun h' => BsR h' a b t t' M ∧ ∀ x, x ≠ a → x ≠ b → h' x = h x)) := by
  refine kEnter S kd_J35_or (Nat.le_of_ble_eq_true rfl) (fun x F hxl hxg => ?_)
  subst hxl; subst hxg
  have hlv : lv_args 0 [.ref a, .ref s] = [(0, .ref a), (1, .ref s)] := rfl
  rw [hlv]
  obtain ⟨u, f2, e1, e2, e3, e4, e5⟩ := id hB
  have hab : a ≠ b := fun z => by subst z; rw [ha] at hb; cases hb
  have hbs : b ≠ s := fun z => by subst z; rw [hb] at e3; cases e3
  have haw : a ≠ w := fun z => by subst z; rw [ha] at e4; cases e4
  rcases e2 with rfl | ⟨rfl, rfl⟩
  · refine k_aload_n F dJ35_or_0 1 rfl rfl rfl ?_
    refine k_aload_n F dJ35_or_1 2 rfl rfl rfl ?_
    refine k_acmpne (a := some a) (b := some s) F dJ35_or_2 5 6 rfl (by decide) (fun _ => ?_) (fun c_ => absurd (Option.some.inj c_) has)
    refine k_aload_n F dJ35_or_6 7 rfl rfl rfl ?_
    refine k_get F kcJ35 1 (by decide) q1944 (fun _ e => e) dJ35_or_7 10 rfl (kHs.of ha) rfl ?_
    refine k_aload_n F dJ35_or_10 11 rfl rfl rfl ?_
    refine k_get F kcJ35 1 (by decide) q1944 (fun _ e => e) dJ35_or_11 14 rfl (kHs.of e3) rfl ?_
    refine k_callV F kd_J13_min q380 q164 (kInvS (Bs := [_, _]) F q2698 q379 q164 kd_J13_min q380 dJ35_or_14 rfl (by decide)) (zJ13_min F.st _ _) 17 rfl (Nat.le_of_ble_eq_true rfl) (by first | exact Nat.le_of_ble_eq_true rfl | omega) (by first | exact Nat.le_of_ble_eq_true rfl | omega) (by first | exact Nat.le_of_ble_eq_true rfl | omega) (by first | exact Nat.le_of_ble_eq_true rfl | omega) (fun r1 h1 hr1 => ?_)
    obtain ⟨rfl, rfl⟩ := hr1
    rw [show iMin 0 (nI 1) = nI 0 from by decide]
    refine k_istore_n (lv' := [(0, _), (1, _), (2, _)]) F dJ35_or_17 18 rfl rfl (Nat.le_of_ble_eq_true rfl) rfl rfl rfl ?_
    refine k_aload_n F dJ35_or_18 19 rfl rfl rfl ?_
    refine k_get F kcJ35 1 (by decide) q1944 (fun _ e => e) dJ35_or_19 22 rfl (kHs.of ha) rfl ?_
    refine k_aload_n F dJ35_or_22 23 rfl rfl rfl ?_
    refine k_get F kcJ35 1 (by decide) q1944 (fun _ e => e) dJ35_or_23 26 rfl (kHs.of e3) rfl ?_
    refine k_icmpge F dJ35_or_26 29 45 rfl (by decide) (fun c_ => (absurd c_ (by decide))) (fun _ => ?_)
    refine k_aload_n F dJ35_or_29 30 rfl rfl rfl ?_
    refine k_aload_n F dJ35_or_30 31 rfl rfl rfl ?_
    refine k_get F kcJ35 1 (by decide) q1944 (fun _ e => e) dJ35_or_31 34 rfl (kHs.of e3) rfl ?_
    refine k_callN F kd_J35_ensureCapacity q1993 q193 (kInvV (Bs := [_]) F kcJ35 q1990 q1992 qs23 kd_J35_ensureCapacity q1993 dJ35_or_34 (kHs.of ha) rfl (by decide)) (zJ35_ensureCapacity F.st ha hb) 37 rfl (Nat.le_of_ble_eq_true rfl) (by first | exact Nat.le_of_ble_eq_true rfl | omega) (by first | exact Nat.le_of_ble_eq_true rfl | omega) (by first | exact Nat.le_of_ble_eq_true rfl | omega) (by first | exact Nat.le_of_ble_eq_true rfl | omega) (fun h2 hr2 => ?_)
    obtain rfl := hr2
    refine k_aload_n F dJ35_or_37 38 rfl rfl rfl ?_
    refine k_aload_n F dJ35_or_38 39 rfl rfl rfl ?_
    refine k_get F kcJ35 1 (by decide) q1944 (fun _ e => e) dJ35_or_39 42 rfl (kHs.of e3) rfl ?_
    refine k_put (fs' := [_, _, _]) F kcJ35 1 (by decide) (knJ35 1) q1944 (fun _ e => e) rfl dJ35_or_42 45 rfl ha ht rfl rfl (by simp) rfl ?_
    refine kW.gen (fun h' => h' a = some (t, eO 10 [.ref b, .int (nI 1), .int 1]) ∧ h' b = some (t', eL 1 f) ∧ h' s = some (t2, eO 10 [.ref w, .int (nI 1), .int 1]) ∧ h' w = some (t3, eL 1 f2) ∧ ∀ x, x ≠ a → x ≠ b → h' x = h x) ⟨kUp_self, by rw [kUp_ne (Ne.symm hab)]; exact hb, by rw [kUp_ne (Ne.symm has)]; exact e3, by rw [kUp_ne (Ne.symm haw)]; exact e4, fun x hx _ => kUp_ne hx⟩ (fun h9 H9 => ?_)
    obtain ⟨ha, hb, e3, e4, hx⟩ := H9
    refine k_iconst (v := 0) F dJ35_or_45 46 rfl (by decide) ?_
    refine k_istore_n (lv' := [(0, _), (1, _), (2, _), (3, _)]) F dJ35_or_46 47 rfl rfl (Nat.le_of_ble_eq_true rfl) rfl rfl rfl ?_
    refine k_iload_n F dJ35_or_47 48 rfl rfl rfl ?_
    refine k_iload_n F dJ35_or_48 49 rfl rfl rfl ?_
    refine k_icmpge F dJ35_or_49 52 73 rfl (by decide) (fun _ => ?_) (fun c_ => (absurd (by decide) c_))
    refine k_iload_n F dJ35_or_73 74 rfl rfl rfl ?_
    refine k_aload_n F dJ35_or_74 75 rfl rfl rfl ?_
    refine k_get F kcJ35 1 (by decide) q1944 (fun _ e => e) dJ35_or_75 78 rfl (kHs.of e3) rfl ?_
    refine k_icmpge F dJ35_or_78 81 100 rfl (by decide) (fun c_ => (absurd c_ (by decide))) (fun _ => ?_)
    refine k_aload_n F dJ35_or_81 82 rfl rfl rfl ?_
    refine k_get F kcJ35 0 (by decide) q1943 (fun _ e => e) dJ35_or_82 85 rfl (kHs.of e3) rfl ?_
    refine k_iload_n F dJ35_or_85 86 rfl rfl rfl ?_
    refine k_aload_n F dJ35_or_86 87 rfl rfl rfl ?_
    refine k_get F kcJ35 0 (by decide) q1943 (fun _ e => e) dJ35_or_87 90 rfl (kHs.of ha) rfl ?_
    refine k_iload_n F dJ35_or_90 91 rfl rfl rfl ?_
    refine k_aload_n F dJ35_or_91 92 rfl rfl rfl ?_
    refine k_get F kcJ35 1 (by decide) q1944 (fun _ e => e) dJ35_or_92 95 rfl (kHs.of ha) rfl ?_
    refine k_iload_n F dJ35_or_95 96 rfl rfl rfl ?_
    refine k_isub F dJ35_or_96 97 rfl ?_
    refine k_topi (b := nI 1) (by decide) ?_
    refine k_copyL F q2699 q383 q382 q166 (kHs.of e4) hb ht' (sp := 0) (dp := 0) (m := 1) (by omega) (by omega) (by omega) (by omega) dJ35_or_97 100 rfl (by omega) (Nat.le_of_ble_eq_true rfl) rfl rfl rfl ?_
    refine k_aload_n F dJ35_or_100 101 rfl rfl rfl ?_
    refine k_callN F kd_J35_checkInvariants q2006 q193 (kInvV (Bs := []) F kcJ35 q2003 q2005 qs24 kd_J35_checkInvariants q2006 dJ35_or_101 (kHs.of ((kUp_tag hb ha (Ne.symm hne)))) rfl (by decide)) (zJ35_checkInvariants F.st a) 104 rfl (Nat.le_of_ble_eq_true rfl) (by first | exact Nat.le_of_ble_eq_true rfl | omega) (by first | exact Nat.le_of_ble_eq_true rfl | omega) (by first | exact Nat.le_of_ble_eq_true rfl | omega) (by first | exact Nat.le_of_ble_eq_true rfl | omega) (fun h3 hr3 => ?_)
    obtain rfl := hr3
    exact k_vret F dJ35_or_104 (by first | exact Nat.le_of_ble_eq_true rfl | omega) (by first | exact Nat.le_of_ble_eq_true rfl | omega) ⟨⟨1, _, e1, Or.inl rfl, kUp_tag hb ha (Ne.symm hne), kUp_self, by simp [va_cpy]; exact e5⟩, fun x hx9 hy => by rw [kUp_ne hy]; exact hx x hx9 hy⟩
  · refine k_aload_n F dJ35_or_0 1 rfl rfl rfl ?_
    refine k_aload_n F dJ35_or_1 2 rfl rfl rfl ?_
    refine k_acmpne (a := some a) (b := some s) F dJ35_or_2 5 6 rfl (by decide) (fun _ => ?_) (fun c_ => absurd (Option.some.inj c_) has)
    refine k_aload_n F dJ35_or_6 7 rfl rfl rfl ?_
    refine k_get F kcJ35 1 (by decide) q1944 (fun _ e => e) dJ35_or_7 10 rfl (kHs.of ha) rfl ?_
    refine k_aload_n F dJ35_or_10 11 rfl rfl rfl ?_
    refine k_get F kcJ35 1 (by decide) q1944 (fun _ e => e) dJ35_or_11 14 rfl (kHs.of e3) rfl ?_
    refine k_callV F kd_J13_min q380 q164 (kInvS (Bs := [_, _]) F q2698 q379 q164 kd_J13_min q380 dJ35_or_14 rfl (by decide)) (zJ13_min F.st _ _) 17 rfl (Nat.le_of_ble_eq_true rfl) (by first | exact Nat.le_of_ble_eq_true rfl | omega) (by first | exact Nat.le_of_ble_eq_true rfl | omega) (by first | exact Nat.le_of_ble_eq_true rfl | omega) (by first | exact Nat.le_of_ble_eq_true rfl | omega) (fun r4 h4 hr4 => ?_)
    obtain ⟨rfl, rfl⟩ := hr4
    rw [show iMin 0 (nI 0) = nI 0 from by decide]
    refine k_istore_n (lv' := [(0, _), (1, _), (2, _)]) F dJ35_or_17 18 rfl rfl (Nat.le_of_ble_eq_true rfl) rfl rfl rfl ?_
    refine k_aload_n F dJ35_or_18 19 rfl rfl rfl ?_
    refine k_get F kcJ35 1 (by decide) q1944 (fun _ e => e) dJ35_or_19 22 rfl (kHs.of ha) rfl ?_
    refine k_aload_n F dJ35_or_22 23 rfl rfl rfl ?_
    refine k_get F kcJ35 1 (by decide) q1944 (fun _ e => e) dJ35_or_23 26 rfl (kHs.of e3) rfl ?_
    refine k_icmpge F dJ35_or_26 29 45 rfl (by decide) (fun _ => ?_) (fun c_ => (absurd (by decide) c_))
    refine k_iconst (v := 0) F dJ35_or_45 46 rfl (by decide) ?_
    refine k_istore_n (lv' := [(0, _), (1, _), (2, _), (3, _)]) F dJ35_or_46 47 rfl rfl (Nat.le_of_ble_eq_true rfl) rfl rfl rfl ?_
    refine k_iload_n F dJ35_or_47 48 rfl rfl rfl ?_
    refine k_iload_n F dJ35_or_48 49 rfl rfl rfl ?_
    refine k_icmpge F dJ35_or_49 52 73 rfl (by decide) (fun _ => ?_) (fun c_ => (absurd (by decide) c_))
    refine k_iload_n F dJ35_or_73 74 rfl rfl rfl ?_
    refine k_aload_n F dJ35_or_74 75 rfl rfl rfl ?_
    refine k_get F kcJ35 1 (by decide) q1944 (fun _ e => e) dJ35_or_75 78 rfl (kHs.of e3) rfl ?_
    refine k_icmpge F dJ35_or_78 81 100 rfl (by decide) (fun _ => ?_) (fun c_ => (absurd (by decide) c_))
    refine k_aload_n F dJ35_or_100 101 rfl rfl rfl ?_
    refine k_callN F kd_J35_checkInvariants q2006 q193 (kInvV (Bs := []) F kcJ35 q2003 q2005 qs24 kd_J35_checkInvariants q2006 dJ35_or_101 (kHs.of ha) rfl (by decide)) (zJ35_checkInvariants F.st a) 104 rfl (Nat.le_of_ble_eq_true rfl) (by first | exact Nat.le_of_ble_eq_true rfl | omega) (by first | exact Nat.le_of_ble_eq_true rfl | omega) (by first | exact Nat.le_of_ble_eq_true rfl | omega) (by first | exact Nat.le_of_ble_eq_true rfl | omega) (fun h5 hr5 => ?_)
    obtain rfl := hr5
    exact k_vret F dJ35_or_104 (by first | exact Nat.le_of_ble_eq_true rfl | omega) (by first | exact Nat.le_of_ble_eq_true rfl | omega) ⟨⟨0, _, by omega, Or.inr ⟨rfl, rfl⟩, ha, hb, hf⟩, fun x _ _ => rfl⟩
theorem bsUp {h : kH} {p s w : Nat} {t t2 t3 : kT} {e : kE} {M : Nat} (hB : BsR h s w t2 t3 M) (n3 : p ≠ s) (n4 : p ≠ w) : BsR (kUp h p t e) s w t2 t3 M := by
  obtain ⟨u, f, e1, e2, e3, e4, e5⟩ := hB
  exact ⟨u, f, e1, e2, by rw [kUp_ne (Ne.symm n3)]; exact e3, by rw [kUp_ne (Ne.symm n4)]; exact e4, e5⟩
/-- a phase: its members as a mask, its numbers -/
def PhR (h : kH) (p s w : Nat) (t t2 t3 : kT) (M : Nat) (v : Nat → Int32) : Prop := h p = some (t, eO 20 [.ref s, .int (v 0), .int (v 1), .int (v 2), .int (v 3)]) ∧ BsR h s w t2 t3 M
theorem PhR.keep {S : kT → Prop} {h h' : kH} {p s w : Nat} {t t2 t3 : kT} {M : Nat} {v : Nat → Int32} (hP : PhR h p s w t t2 t3 M v) (hK : kKp S h h') (h1 : ¬ S t) (h2 : ¬ S t2) (h3 : ¬ S t3) : PhR h' p s w t t2 t3 M v := ⟨hK _ _ _ hP.1 h1, hP.2.keep hK h2 h3⟩
theorem PhR.same {h h' : kH} {p s w : Nat} {t t2 t3 : kT} {M : Nat} {v : Nat → Int32} (hP : PhR h p s w t t2 t3 M v) (hK : kSame h h') : PhR h' p s w t t2 t3 M v := hP.keep (S := fun _ => False) hK.kp id id id
set_option maxHeartbeats 4000000 in
set_option maxRecDepth 100000 in
theorem zX6_has {l : Launch} {g : kG} (S : kStart l g) {h : kH} {p s w : Nat} {t t2 t3 : kT} {M : Nat} {v : Nat → Int32} (hP : PhR h p s w t t2 t3 M v) (i : Nat) (hi : i < 8) : kMet l g yX6_has (Cond.code yX6_has cX6_has 2 (Option.some Jvm.ClassFile.FieldType.boolean)) 3 0 0 [.ref p, .int (nI i)] h (mRd h (.int (kB (M.testBit i)))) := by
  refine kEnter S kd_X6_has (Nat.le_of_ble_eq_true rfl) (fun x F hxl hxg => ?_)
  subst hxl; subst hxg
  have hlv : lv_args 0 [.ref p, .int (nI i)] = [(0, .ref p), (1, .int (nI i))] := rfl
  rw [hlv]
  obtain ⟨e1, hB⟩ := id hP
  obtain ⟨u, f, e2, e3, e4, e5, e6⟩ := id hB
  refine k_aload_n F dX6_has_0 1 rfl rfl rfl ?_
  refine k_get F kcX6 0 (by decide) q1954 (fun _ e => e) dX6_has_1 4 rfl (kHs.of e1) rfl ?_
  refine k_iload_n F dX6_has_4 5 rfl rfl rfl ?_
  refine k_callV F kd_J35_get q2316 q193 (kInvV (Bs := [_]) F kcJ35 q2313 q2314 q2315 kd_J35_get q2316 dX6_has_5 (kHs.of e4) rfl (by decide)) (zJ35_get F.st hB i hi) 8 rfl (Nat.le_of_ble_eq_true rfl) (by first | exact Nat.le_of_ble_eq_true rfl | omega) (by first | exact Nat.le_of_ble_eq_true rfl | omega) (by first | exact Nat.le_of_ble_eq_true rfl | omega) (by first | exact Nat.le_of_ble_eq_true rfl | omega) (fun r1 h1 hr1 => ?_)
  obtain ⟨rfl, rfl⟩ := hr1
  exact k_zret F dX6_has_8 (by first | rfl | exact kzb _ | exact pk_nc _ | decide) (by first | exact Nat.le_of_ble_eq_true rfl | omega) (by first | exact Nat.le_of_ble_eq_true rfl | omega) ⟨rfl, rfl⟩
set_option maxHeartbeats 4000000 in
set_option maxRecDepth 100000 in
theorem zX6_init {l : Launch} {g : kG} (S : kStart l g) {h : kH} {p : Nat} {t : kT} (ht : t.1 ≠ 0) (t2 t3 : kT) (u2 : t2.1 ≠ 0) (hp : h p = some (t, eO 20 [.null, .int 0, .int 0, .int 0, .int 0])) : kMet l g yX6_init (Cond.code yX6_init cX6_init 1 (Option.none : Option Jvm.ClassFile.FieldType)) 4 2 4 [.ref p] h (kN (fun h' => ∃ s w, h s = none ∧ h w = none ∧ h' p = some (t, eO 20 [.ref s, .int 0, .int 0, .int 0, .int 0]) ∧ h' s = some (t2, eO 10 [.ref w, .int 0, .int 1]) ∧ h' w = some (t3, eL 1 (fun _ => 0)) ∧ ∀ x v, x ≠ p → h x = some v → h' x = some v)) := by
  refine kEnter S kd_X6_init (Nat.le_of_ble_eq_true rfl) (fun x F hxl hxg => ?_)
  subst hxl; subst hxg
  have hlv : lv_args 0 [.ref p] = [(0, .ref p)] := rfl
  rw [hlv]
  refine k_aload_n F dX6_init_0 1 rfl rfl rfl ?_
  refine k_objInit F q1929 q219 q220 dX6_init_1 4 rfl (by omega) (Nat.le_of_ble_eq_true rfl) ?_
  refine k_aload_n F dX6_init_4 5 rfl rfl rfl ?_
  refine k_new (fs := [_, _, _]) F kcJ35 q1930 q1931 q193 dX6_init_5 8 rfl t2 rfl (by omega) (by omega) (fun s g1 => ?_)
  refine k_dup F dX6_init_8 9 rfl rfl ?_
  refine k_bipush (v := 8) F dX6_init_9 11 rfl (by decide) ?_
  refine k_callN F kd_J35_init q1934 q193 (kInvI (Bs := [_]) F q1932 q1933 q1934 rfl dX6_init_11 rfl (by decide)) (zJ35_init F.st t3 u2 kUp_self) 14 rfl (Nat.le_of_ble_eq_true rfl) (by first | exact Nat.le_of_ble_eq_true rfl | omega) (by first | exact Nat.le_of_ble_eq_true rfl | omega) (by first | exact Nat.le_of_ble_eq_true rfl | omega) (by first | exact Nat.le_of_ble_eq_true rfl | omega) (fun h1 hr1 => ?_)
  obtain ⟨w, g2, g3, g4, g5⟩ := hr1
  have hps : p ≠ s := fun z => by rw [← z, hp] at g1; cases g1
  have hw0 : h w = none := by
    cases hz : h w with
    | none => rfl
    | some v => rw [kUp_nw g1 hz] at g2; cases g2
  have hpw : p ≠ w := fun z => by rw [← z, hp] at hw0; cases hw0
  have hp2 := g5 p _ hps (kUp_nw g1 hp)
  refine k_putF (fs' := [_, _, _, _, _]) F kcX6 0 (by decide) (knX6 0) q1954 (fun _ e => e) rfl rfl rfl dX6_init_14 17 rfl hp2 ht rfl rfl (by simp) rfl ?_
  exact k_vret F dX6_init_17 (by first | exact Nat.le_of_ble_eq_true rfl | omega) (by first | exact Nat.le_of_ble_eq_true rfl | omega) ⟨s, w, g1, hw0, kUp_self, by rw [kUp_ne (Ne.symm hps)]; exact g3, by rw [kUp_ne (Ne.symm hpw)]; exact g4, fun x v hx hv => by rw [kUp_ne hx]; exact g5 x v (fun z => by rw [z, g1] at hv; cases hv) (kUp_nw g1 hv)⟩
set_option maxHeartbeats 4000000 in
set_option maxRecDepth 100000 in
theorem zX6_copy {l : Launch} {g : kG} (S : kStart l g) {h : kH} {p s w : Nat} {t t2 t3 : kT} {M : Nat} {v : Nat → Int32} (hP : PhR h p s w t t2 t3 M v) (hv3 : v 3 = 0 ∨ v 3 = 1) (tn tn2 tn3 : kT) (u1 : tn.1 ≠ 0) (u2 : tn2.1 ≠ 0) (u3 : tn3.1 ≠ 0) (un : tn2 ≠ tn3) : kMet l g yX6_copy (Cond.code yX6_copy cX6_copy 2 (Option.some (Jvm.ClassFile.FieldType.object "LoopSignals$Phase"))) 5 3 9 [.ref p] h (kV (fun z h' => ∃ p' s' w', z = .ref p' ∧ h p' = none ∧ h s' = none ∧ h w' = none ∧ PhR h' p' s' w' tn tn2 tn3 M v ∧ kSame h h')) := by
  refine kEnter S kd_X6_copy (Nat.le_of_ble_eq_true rfl) (fun x F hxl hxg => ?_)
  subst hxl; subst hxg
  have hlv : lv_args 0 [.ref p] = [(0, .ref p)] := rfl
  rw [hlv]
  obtain ⟨e1, hB⟩ := id hP
  obtain ⟨u, f, e2, e3, e4, e5, e6⟩ := id hB
  refine k_new (fs := [_, _, _, _, _]) F kcX6 q2692 q1925 q192 dX6_copy_0 3 rfl tn rfl (by omega) (by omega) (fun p1 g1 => ?_)
  refine k_dup F dX6_copy_3 4 rfl rfl ?_
  refine k_callN F kd_X6_init q1928 q192 (kInvI (Bs := []) F q2693 q1927 q1928 rfl dX6_copy_4 rfl (by decide)) (zX6_init F.st u1 tn2 tn3 u2 kUp_self) 7 rfl (Nat.le_of_ble_eq_true rfl) (by first | exact Nat.le_of_ble_eq_true rfl | omega) (by first | exact Nat.le_of_ble_eq_true rfl | omega) (by first | exact Nat.le_of_ble_eq_true rfl | omega) (by first | exact Nat.le_of_ble_eq_true rfl | omega) (fun h1 hr1 => ?_)
  obtain ⟨s1, w1, g2, g3, g4, g5, g6, g7⟩ := hr1
  have hS : kSame h h1 := fun x z hz => g7 x z (fun y => by rw [y, g1] at hz; cases hz) (kUp_nw g1 hz)
  have hs1 : h s1 = none := by
    cases hz : h s1 with
    | none => rfl
    | some z => rw [kUp_nw g1 hz] at g2; cases g2
  have hw1 : h w1 = none := by
    cases hz : h w1 with
    | none => rfl
    | some z => rw [kUp_nw g1 hz] at g3; cases g3
  have n1 : s1 ≠ s := fun z => by rw [z, e4] at hs1; cases hs1
  have n2 : w1 ≠ w := fun z => by rw [z, e5] at hw1; cases hw1
  have n3 : p1 ≠ s1 := fun z => by rw [← z, kUp_self] at g2; cases g2
  have n4 : p1 ≠ w1 := fun z => by rw [← z, kUp_self] at g3; cases g3
  refine k_astore_n (lv' := [(0, _), (1, _)]) F dX6_copy_7 8 rfl rfl (Nat.le_of_ble_eq_true rfl) rfl rfl rfl ?_
  refine k_aload_n F dX6_copy_8 9 rfl rfl rfl ?_
  refine k_get F kcX6 0 (by decide) q1954 (fun _ e => e) dX6_copy_9 12 rfl (kHs.of g4) rfl ?_
  refine k_aload_n F dX6_copy_12 13 rfl rfl rfl ?_
  refine k_get F kcX6 0 (by decide) q1954 (fun _ e => e) dX6_copy_13 16 rfl (kHs.of ((hS _ _ e1))) rfl ?_
  refine k_callN F kd_J35_or q2697 q193 (kInvV (Bs := [_]) F kcJ35 q2694 q2695 q2696 kd_J35_or q2697 dX6_copy_16 (kHs.of g5) rfl (by decide)) (zJ35_or F.st u2 u3 un g5 g6 rfl (hB.same hS) n1 n2) 19 rfl (Nat.le_of_ble_eq_true rfl) (by first | exact Nat.le_of_ble_eq_true rfl | omega) (by first | exact Nat.le_of_ble_eq_true rfl | omega) (by first | exact Nat.le_of_ble_eq_true rfl | omega) (by first | exact Nat.le_of_ble_eq_true rfl | omega) (fun h2 hr2 => ?_)
  obtain ⟨hB1, hx⟩ := hr2
  have hS1 : kSame h h2 := fun x z hz => (hx x (fun y => by rw [y, hs1] at hz; cases hz) (fun y => by rw [y, hw1] at hz; cases hz)).trans (hS x z hz)
  have g4' := (hx p1 n3 n4).trans g4
  refine kW.gen (fun h' => kSame h h' ∧ h' p1 = some (tn, eO 20 [.ref s1, .int 0, .int 0, .int 0, .int 0]) ∧ BsR h' s1 w1 tn2 tn3 M) ⟨hS1, g4', hB1⟩ (fun h9 H9 => ?_)
  obtain ⟨hS1, g4, hB1⟩ := H9
  refine k_aload_n F dX6_copy_19 20 rfl rfl rfl ?_
  refine k_aload_n F dX6_copy_20 21 rfl rfl rfl ?_
  refine k_get F kcX6 1 (by decide) q1957 (fun _ e => e) dX6_copy_21 24 rfl (kHs.of ((hS1 _ _ e1))) rfl ?_
  refine k_put (fs' := [_, _, _, _, _]) F kcX6 1 (by decide) (knX6 1) q1957 (fun _ e => e) rfl dX6_copy_24 27 rfl g4 u1 rfl rfl (by simp) rfl ?_
  refine kW.gen (fun h' => kSame h h' ∧ h' p1 = some (tn, eO 20 [.ref s1, .int (v 0), .int 0, .int 0, .int 0]) ∧ BsR h' s1 w1 tn2 tn3 M) ⟨hS1.upN g1 g4, kUp_self, bsUp hB1 n3 n4⟩ (fun h9 H9 => ?_)
  obtain ⟨hS1, g4, hB1⟩ := H9
  refine k_aload_n F dX6_copy_27 28 rfl rfl rfl ?_
  refine k_aload_n F dX6_copy_28 29 rfl rfl rfl ?_
  refine k_get F kcX6 2 (by decide) q1961 (fun _ e => e) dX6_copy_29 32 rfl (kHs.of ((hS1 _ _ e1))) rfl ?_
  refine k_put (fs' := [_, _, _, _, _]) F kcX6 2 (by decide) (knX6 2) q1961 (fun _ e => e) rfl dX6_copy_32 35 rfl g4 u1 rfl rfl (by simp) rfl ?_
  refine kW.gen (fun h' => kSame h h' ∧ h' p1 = some (tn, eO 20 [.ref s1, .int (v 0), .int (v 1), .int 0, .int 0]) ∧ BsR h' s1 w1 tn2 tn3 M) ⟨hS1.upN g1 g4, kUp_self, bsUp hB1 n3 n4⟩ (fun h9 H9 => ?_)
  obtain ⟨hS1, g4, hB1⟩ := H9
  refine k_aload_n F dX6_copy_35 36 rfl rfl rfl ?_
  refine k_aload_n F dX6_copy_36 37 rfl rfl rfl ?_
  refine k_get F kcX6 3 (by decide) q1965 (fun _ e => e) dX6_copy_37 40 rfl (kHs.of ((hS1 _ _ e1))) rfl ?_
  refine k_put (fs' := [_, _, _, _, _]) F kcX6 3 (by decide) (knX6 3) q1965 (fun _ e => e) rfl dX6_copy_40 43 rfl g4 u1 rfl rfl (by simp) rfl ?_
  refine kW.gen (fun h' => kSame h h' ∧ h' p1 = some (tn, eO 20 [.ref s1, .int (v 0), .int (v 1), .int (v 2), .int 0]) ∧ BsR h' s1 w1 tn2 tn3 M) ⟨hS1.upN g1 g4, kUp_self, bsUp hB1 n3 n4⟩ (fun h9 H9 => ?_)
  obtain ⟨hS1, g4, hB1⟩ := H9
  refine k_aload_n F dX6_copy_43 44 rfl rfl rfl ?_
  refine k_aload_n F dX6_copy_44 45 rfl rfl rfl ?_
  refine k_get F kcX6 4 (by decide) q1968 (fun _ e => e) dX6_copy_45 48 rfl (kHs.of ((hS1 _ _ e1))) rfl ?_
  refine k_put (fs' := [_, _, _, _, _]) F kcX6 4 (by decide) (knX6 4) q1968 (fun _ e => e) rfl dX6_copy_48 51 rfl g4 u1 (by rcases hv3 with w | w <;> rw [w] <;> rfl) (by rcases hv3 with w | w <;> rw [w] <;> rfl) (by simp) rfl ?_
  refine kW.gen (fun h' => kSame h h' ∧ h' p1 = some (tn, eO 20 [.ref s1, .int (v 0), .int (v 1), .int (v 2), .int (v 3)]) ∧ BsR h' s1 w1 tn2 tn3 M) ⟨hS1.upN g1 g4, kUp_self, bsUp hB1 n3 n4⟩ (fun h9 H9 => ?_)
  obtain ⟨hS1, g4, hB1⟩ := H9
  refine k_aload_n F dX6_copy_51 52 rfl rfl rfl ?_
  exact k_aret F dX6_copy_52 (Or.inl ⟨_, rfl⟩) (by first | exact Or.inr ⟨_, rfl⟩ | exact Or.inl rfl | exact va_rf_ok _) (by first | exact Nat.le_of_ble_eq_true rfl | omega) (by first | exact Nat.le_of_ble_eq_true rfl | omega) ⟨p1, s1, w1, rfl, g1, hs1, hw1, ⟨g4, hB1⟩, hS1⟩

