/-! the component: building texts -/
theorem kd_J8_init : kCd (Cond.code yJ8_init cJ8_init 2 (Option.none : Option Jvm.ClassFile.FieldType)) yJ8_init cJ8_init 2 (Option.none : Option Jvm.ClassFile.FieldType) [] := kCd_code (by decide +kernel)
theorem kd_J9_init : kCd (Cond.code yJ9_init cJ9_init 1 (Option.none : Option Jvm.ClassFile.FieldType)) yJ9_init cJ9_init 1 (Option.none : Option Jvm.ClassFile.FieldType) [] := kCd_code (by decide +kernel)
theorem kd_J8_isLatin1 : kCd (Cond.code yJ8_isLatin1 cJ8_isLatin1 1 (Option.some Jvm.ClassFile.FieldType.boolean)) yJ8_isLatin1 cJ8_isLatin1 1 (Option.some Jvm.ClassFile.FieldType.boolean) [] := kCd_code (by decide +kernel)
theorem kd_J16_canEncode : kCd (Cond.code yJ16_canEncode cJ16_canEncode 1 (Option.some Jvm.ClassFile.FieldType.boolean)) yJ16_canEncode cJ16_canEncode 1 (Option.some Jvm.ClassFile.FieldType.boolean) [] := kCd_code (by decide +kernel)
theorem kd_J14_copyOf : kCd (Cond.code yJ14_copyOf cJ14_copyOf 3 (Option.some (Jvm.ClassFile.FieldType.array Jvm.ClassFile.FieldType.byte))) yJ14_copyOf cJ14_copyOf 3 (Option.some (Jvm.ClassFile.FieldType.array Jvm.ClassFile.FieldType.byte)) [] := kCd_code (by decide +kernel)
theorem kd_J8_newCapacity : kCd (Cond.code yJ8_newCapacity cJ8_newCapacity 6 (Option.some Jvm.ClassFile.FieldType.int)) yJ8_newCapacity cJ8_newCapacity 6 (Option.some Jvm.ClassFile.FieldType.int) [] := kCd_code (by decide +kernel)
theorem kd_J8_ensureCapacityInternal : kCd (Cond.code yJ8_ensureCapacityInternal cJ8_ensureCapacityInternal 3 (Option.none : Option Jvm.ClassFile.FieldType)) yJ8_ensureCapacityInternal cJ8_ensureCapacityInternal 3 (Option.none : Option Jvm.ClassFile.FieldType) [] := kCd_code (by decide +kernel)
theorem kd_J8_append_5 : kCd (Cond.code yJ8_append_5 cJ8_append_5 2 (Option.some (Jvm.ClassFile.FieldType.object "java/lang/AbstractStringBuilder"))) yJ8_append_5 cJ8_append_5 2 (Option.some (Jvm.ClassFile.FieldType.object "java/lang/AbstractStringBuilder")) [] := kCd_code (by decide +kernel)
theorem kd_J9_append_6 : kCd (Cond.code yJ9_append_6 cJ9_append_6 2 (Option.some (Jvm.ClassFile.FieldType.object "java/lang/StringBuilder"))) yJ9_append_6 cJ9_append_6 2 (Option.some (Jvm.ClassFile.FieldType.object "java/lang/StringBuilder")) [] := kCd_code (by decide +kernel)
theorem kd_J8_length : kCd (Cond.code yJ8_length cJ8_length 1 (Option.some Jvm.ClassFile.FieldType.int)) yJ8_length cJ8_length 1 (Option.some Jvm.ClassFile.FieldType.int) [] := kCd_code (by decide +kernel)
theorem kd_J8_getValue : kCd (Cond.code yJ8_getValue cJ8_getValue 1 (Option.some (Jvm.ClassFile.FieldType.array Jvm.ClassFile.FieldType.byte))) yJ8_getValue cJ8_getValue 1 (Option.some (Jvm.ClassFile.FieldType.array Jvm.ClassFile.FieldType.byte)) [] := kCd_code (by decide +kernel)
/-- a builder that holds the text L -/
def SbR (h : kH) (b v : Nat) (t t' : kT) (cap : Nat) (L : List Int32) : Prop := ∃ (ml : Int32) (f : Nat → Int32), L.length ≤ cap ∧ cap ≤ 1200 ∧ h b = some (t, eO 4 [.ref v, .int 0, .int ml, .int (nI L.length)]) ∧ h v = some (t', eB cap f) ∧ (∀ i, i < cap → fits (kAT 1) (.int (f i)) = true) ∧ ∀ i, i < L.length → f i = byL L i
theorem fit_b (v : Int32) : fits (kAT 1) (.int v.toInt8.toInt32) = true := by
  show (decide (-128 ≤ v.toInt8.toInt32) && decide (v.toInt8.toInt32 ≤ 127)) = true
  have h1 := Int8.le_toInt v.toInt8
  have h2 := Int8.toInt_lt v.toInt8
  rw [Bool.and_eq_true, decide_eq_true_eq, decide_eq_true_eq, Int32.le_iff_toInt_le, Int32.le_iff_toInt_le, Int8.toInt_toInt32]
  exact ⟨h1, Int.lt_add_one_iff.mp h2⟩
set_option maxHeartbeats 4000000 in
set_option maxRecDepth 100000 in
theorem zJ8_init {l : Launch} {g : kG} (S : kStart l g) {h : kH} {b : Nat} {t : kT} (t' : kT) (ht : t.1 ≠ 0) (hb : h b = some (t, eO 4 [.null, .int 0, .int 0, .int 0])) : kMet l g yJ8_init (Cond.code yJ8_init cJ8_init 2 (Option.none : Option Jvm.ClassFile.FieldType)) 3 1 16 [.ref b, .int 16] h (kN (fun h' => ∃ v, h v = none ∧ SbR h' b v t t' 16 [] ∧ ∀ x z, x ≠ b → h x = some z → h' x = some z)) := by
  refine kEnter S kd_J8_init (Nat.le_of_ble_eq_true rfl) (fun x F hxl hxg => ?_)
  subst hxl; subst hxg
  have hlv : lv_args 0 [.ref b, .int 16] = [(0, .ref b), (1, .int 16)] := rfl
  rw [hlv]
  refine k_aload_n F dJ8_init_0 1 rfl rfl rfl ?_
  refine k_objInit F q312 q219 q220 dJ8_init_1 4 rfl (by omega) (Nat.le_of_ble_eq_true rfl) ?_
  refine k_gets F q314 q161 (st_J10_COMPACT_STRINGS F.st) q313 (fun _ e => e) dJ8_init_4 7 rfl ?_
  refine k_ifeq F dJ8_init_7 10 25 rfl (by decide) (fun c_ => (by first | exact absurd rfl c_ | exact absurd c_ (by decide) | exact absurd (by assumption) c_ | exact absurd c_ (by assumption))) (fun _ => ?_)
  refine k_aload_n F dJ8_init_10 11 rfl rfl rfl ?_
  refine k_iload_n F dJ8_init_11 12 rfl rfl rfl ?_
  refine k_newa F dJ8_init_12 14 rfl 1 (by decide) rfl q336 (c := .inl (fun _ => 0)) (fun _ => rfl) t' (m := 16) rfl (by first | decide | omega) (by omega) (by omega) (fun v g1 => ?_)
  have hvb : v ≠ b := fun z => by rw [z, hb] at g1; cases g1
  refine k_put (fs' := [_, _, _, _]) F kcJ9 0 (by decide) (knJ9 0) q322 (fun _ e => e) rfl dJ8_init_14 17 rfl (kUp_nw g1 hb) ht rfl rfl (by simp) rfl ?_
  refine kW.gen (fun h' => h' b = some (t, eO 4 [.ref v, .int 0, .int 0, .int 0]) ∧ h' v = some (t', eB 16 (fun _ => 0)) ∧ ∀ x z, x ≠ b → h x = some z → h' x = some z) ⟨kUp_self, by rw [kUp_ne hvb]; exact kUp_self, fun x z hx hz => by rw [kUp_ne hx]; exact kUp_nw g1 hz⟩ (fun h9 H9 => ?_)
  obtain ⟨f1, f2, f3⟩ := H9
  refine k_aload_n F dJ8_init_17 18 rfl rfl rfl ?_
  refine k_iconst (v := 0) F dJ8_init_18 19 rfl (by decide) ?_
  refine k_put (fs' := [_, _, _, _]) F kcJ9 1 (by decide) (knJ9 1) q323 (fun _ e => e) rfl dJ8_init_19 22 rfl f1 ht rfl rfl (by simp) rfl ?_
  refine k_goto F dJ8_init_22 38 (by decide) ?_
  exact k_vret F dJ8_init_38 (by first | exact Nat.le_of_ble_eq_true rfl | omega) (by first | exact Nat.le_of_ble_eq_true rfl | omega) ⟨v, g1, ⟨0, _, by show 0 ≤ 16; omega, by omega, kUp_self, by rw [kUp_ne hvb]; exact f2, fun i hi => rfl, fun i hi => absurd hi (by show ¬ i < 0; omega)⟩, fun x z hx hz => by rw [kUp_ne hx]; exact f3 x z hx hz⟩
set_option maxHeartbeats 4000000 in
set_option maxRecDepth 100000 in
theorem zJ9_init {l : Launch} {g : kG} (S : kStart l g) {h : kH} {b : Nat} {t : kT} (t' : kT) (ht : t.1 ≠ 0) (hb : h b = some (t, eO 4 [.null, .int 0, .int 0, .int 0])) : kMet l g yJ9_init (Cond.code yJ9_init cJ9_init 1 (Option.none : Option Jvm.ClassFile.FieldType)) 4 1 16 [.ref b] h (kN (fun h' => ∃ v, h v = none ∧ SbR h' b v t t' 16 [] ∧ ∀ x z, x ≠ b → h x = some z → h' x = some z)) := by
  refine kEnter S kd_J9_init (Nat.le_of_ble_eq_true rfl) (fun x F hxl hxg => ?_)
  subst hxl; subst hxg
  have hlv : lv_args 0 [.ref b] = [(0, .ref b)] := rfl
  rw [hlv]
  refine k_aload_n F dJ9_init_0 1 rfl rfl rfl ?_
  refine k_bipush (v := 16) F dJ9_init_1 3 rfl (by decide) ?_
  refine k_callN F kd_J8_init q311 q159 (kInvI (Bs := [_]) F q309 q310 q311 rfl dJ9_init_3 rfl (by decide)) (zJ8_init F.st t' ht hb) 6 rfl (Nat.le_of_ble_eq_true rfl) (by first | exact Nat.le_of_ble_eq_true rfl | omega) (by first | exact Nat.le_of_ble_eq_true rfl | omega) (by first | exact Nat.le_of_ble_eq_true rfl | omega) (by first | exact Nat.le_of_ble_eq_true rfl | omega) (fun h1 hr1 => ?_)
  obtain ⟨v, g1, g2, g3⟩ := hr1
  exact k_vret F dJ9_init_6 (by first | exact Nat.le_of_ble_eq_true rfl | omega) (by first | exact Nat.le_of_ble_eq_true rfl | omega) ⟨v, g1, g2, g3⟩
set_option maxHeartbeats 4000000 in
set_option maxRecDepth 100000 in
theorem zJ8_isLatin1 {l : Launch} {g : kG} (S : kStart l g) {h : kH} {b v : Nat} {t t' : kT} {cap : Nat} {L : List Int32} (hB : SbR h b v t t' cap L) : kMet l g yJ8_isLatin1 (Cond.code yJ8_isLatin1 cJ8_isLatin1 1 (Option.some Jvm.ClassFile.FieldType.boolean)) 1 0 0 [.ref b] h (mRd h (.int (kB true))) := by
  refine kEnter S kd_J8_isLatin1 (Nat.le_of_ble_eq_true rfl) (fun x F hxl hxg => ?_)
  subst hxl; subst hxg
  have hlv : lv_args 0 [.ref b] = [(0, .ref b)] := rfl
  rw [hlv]
  obtain ⟨ml, f, e1, e2, e3, e4, e6, e5⟩ := id hB
  refine k_gets F q314 q161 (st_J10_COMPACT_STRINGS F.st) q313 (fun _ e => e) dJ8_isLatin1_0 3 rfl ?_
  refine k_ifeq F dJ8_isLatin1_3 6 17 rfl (by decide) (fun c_ => (by first | exact absurd rfl c_ | exact absurd c_ (by decide) | exact absurd (by assumption) c_ | exact absurd c_ (by assumption))) (fun _ => ?_)
  refine k_aload_n F dJ8_isLatin1_6 7 rfl rfl rfl ?_
  refine k_get F kcJ9 1 (by decide) q323 (fun _ e => e) dJ8_isLatin1_7 10 rfl (kHs.of e3) rfl ?_
  refine k_ifne F dJ8_isLatin1_10 13 17 rfl (by decide) (fun c_ => (absurd rfl c_)) (fun _ => ?_)
  refine k_iconst (v := 1) F dJ8_isLatin1_13 14 rfl (by decide) ?_
  refine k_goto F dJ8_isLatin1_14 18 (by decide) ?_
  exact k_zret F dJ8_isLatin1_18 (by first | rfl | exact kzb _ | exact pk_nc _ | decide) (by first | exact Nat.le_of_ble_eq_true rfl | omega) (by first | exact Nat.le_of_ble_eq_true rfl | omega) ⟨rfl, rfl⟩
set_option maxHeartbeats 4000000 in
set_option maxRecDepth 100000 in
theorem zJ8_length {l : Launch} {g : kG} (S : kStart l g) {h : kH} {b v : Nat} {t t' : kT} {cap : Nat} {L : List Int32} (hB : SbR h b v t t' cap L) : kMet l g yJ8_length (Cond.code yJ8_length cJ8_length 1 (Option.some Jvm.ClassFile.FieldType.int)) 1 0 0 [.ref b] h (mRd h (.int (nI L.length))) := by
  refine kEnter S kd_J8_length (Nat.le_of_ble_eq_true rfl) (fun x F hxl hxg => ?_)
  subst hxl; subst hxg
  have hlv : lv_args 0 [.ref b] = [(0, .ref b)] := rfl
  rw [hlv]
  obtain ⟨ml, f, e1, e2, e3, e4, e6, e5⟩ := id hB
  refine k_aload_n F dJ8_length_0 1 rfl rfl rfl ?_
  refine k_get F kcJ9 3 (by decide) q326 (fun _ e => e) dJ8_length_1 4 rfl (kHs.of e3) rfl ?_
  exact k_iret F dJ8_length_4 (by first | exact Nat.le_of_ble_eq_true rfl | omega) (by first | exact Nat.le_of_ble_eq_true rfl | omega) ⟨rfl, rfl⟩
set_option maxHeartbeats 4000000 in
set_option maxRecDepth 100000 in
theorem zJ8_getValue {l : Launch} {g : kG} (S : kStart l g) {h : kH} {b v : Nat} {t t' : kT} {cap : Nat} {L : List Int32} (hB : SbR h b v t t' cap L) : kMet l g yJ8_getValue (Cond.code yJ8_getValue cJ8_getValue 1 (Option.some (Jvm.ClassFile.FieldType.array Jvm.ClassFile.FieldType.byte))) 1 0 0 [.ref b] h (mRd h (.ref v)) := by
  refine kEnter S kd_J8_getValue (Nat.le_of_ble_eq_true rfl) (fun x F hxl hxg => ?_)
  subst hxl; subst hxg
  have hlv : lv_args 0 [.ref b] = [(0, .ref b)] := rfl
  rw [hlv]
  obtain ⟨ml, f, e1, e2, e3, e4, e6, e5⟩ := id hB
  refine k_aload_n F dJ8_getValue_0 1 rfl rfl rfl ?_
  refine k_get F kcJ9 0 (by decide) q322 (fun _ e => e) dJ8_getValue_1 4 rfl (kHs.of e3) rfl ?_
  exact k_aret F dJ8_getValue_4 (Or.inr ⟨_, rfl⟩) (by first | exact Or.inr ⟨_, rfl⟩ | exact Or.inl rfl | exact va_rf_ok _) (by first | exact Nat.le_of_ble_eq_true rfl | omega) (by first | exact Nat.le_of_ble_eq_true rfl | omega) ⟨rfl, rfl⟩
set_option maxHeartbeats 4000000 in
set_option maxRecDepth 100000 in
theorem zJ16_canEncode {l : Launch} {g : kG} (S : kStart l g) {h : kH} (c : Nat) (hc : c < 256) : kMet l g yJ16_canEncode (Cond.code yJ16_canEncode cJ16_canEncode 1 (Option.some Jvm.ClassFile.FieldType.boolean)) 1 0 0 [.int (nI c)] h (mRd h (.int (kB true))) := by
  refine kEnter S kd_J16_canEncode (Nat.le_of_ble_eq_true rfl) (fun x F hxl hxg => ?_)
  subst hxl; subst hxg
  have hlv : lv_args 0 [.int (nI c)] = [(0, .int (nI c))] := rfl
  rw [hlv]
  refine k_iload_n F dJ16_canEncode_0 1 rfl rfl rfl ?_
  refine k_sipush (v := 255) F dJ16_canEncode_1 4 rfl (by decide) ?_
  refine k_icmpgt F dJ16_canEncode_4 7 11 rfl (by decide) (fun c_ => (absurd c_ (by rw [show (255 : Int32) = nI 255 from rfl, nI_ltE (by omega) (by omega)]; omega))) (fun _ => ?_)
  refine k_iconst (v := 1) F dJ16_canEncode_7 8 rfl (by decide) ?_
  refine k_goto F dJ16_canEncode_8 12 (by decide) ?_
  exact k_zret F dJ16_canEncode_12 (by first | rfl | exact kzb _ | exact pk_nc _ | decide) (by first | exact Nat.le_of_ble_eq_true rfl | omega) (by first | exact Nat.le_of_ble_eq_true rfl | omega) ⟨rfl, rfl⟩
set_option maxHeartbeats 4000000 in
set_option maxRecDepth 100000 in
theorem zJ14_copyOf {l : Launch} {g : kG} (S : kStart l g) {h : kH} {e : Nat} {t' : kT} {cap : Nat} {f : Nat → Int32} (he : h e = some (t', eB cap f)) (hfb : ∀ i, i < cap → fits (kAT 1) (.int (f i)) = true) (tn : kT) (hn : tn.1 ≠ 0) (m : Nat) (hm : cap < m) (hm2 : m ≤ 1200) : kMet l g yJ14_copyOf (Cond.code yJ14_copyOf cJ14_copyOf 3 (Option.some (Jvm.ClassFile.FieldType.array Jvm.ClassFile.FieldType.byte))) 3 1 m [.ref e, .int (nI m)] h (kV (fun v h' => ∃ (e2 : Nat) (f2 : Nat → Int32), v = .ref e2 ∧ h e2 = none ∧ h' e2 = some (tn, eB m f2) ∧ (∀ i, i < cap → f2 i = f i) ∧ kSame h h')) := by
  refine kEnter S kd_J14_copyOf (Nat.le_of_ble_eq_true rfl) (fun x F hxl hxg => ?_)
  subst hxl; subst hxg
  have hlv : lv_args 0 [.ref e, .int (nI m)] = [(0, .ref e), (1, .int (nI m))] := rfl
  rw [hlv]
  refine k_iload_n F dJ14_copyOf_0 1 rfl rfl rfl ?_
  refine k_aload_n F dJ14_copyOf_1 2 rfl rfl rfl ?_
  refine k_alen F dJ14_copyOf_2 3 rfl (kHs.of he) (by decide) (fun cA => vp_arr' cA _ _) ?_
  refine k_icmpne F dJ14_copyOf_3 6 14 rfl (by decide) (fun _ => ?_) (fun c_ => (absurd c_ (by rw [nI_inj (by omega) (by omega)]; omega)))
  refine k_iload_n F dJ14_copyOf_14 15 rfl rfl rfl ?_
  refine k_newa F dJ14_copyOf_15 17 rfl 1 (by decide) rfl q336 (c := .inl (fun _ => 0)) (fun _ => rfl) tn (m := m) rfl (by first | decide | omega) (by omega) (by omega) (fun e2 g2 => ?_)
  have hne : e2 ≠ e := fun z => by rw [z, he] at g2; cases g2
  refine k_astore_n (lv' := [(0, _), (1, _), (2, _)]) F dJ14_copyOf_17 18 rfl rfl (Nat.le_of_ble_eq_true rfl) rfl rfl rfl ?_
  refine k_aload_n F dJ14_copyOf_18 19 rfl rfl rfl ?_
  refine k_iconst (v := 0) F dJ14_copyOf_19 20 rfl (by decide) ?_
  refine k_aload_n F dJ14_copyOf_20 21 rfl rfl rfl ?_
  refine k_iconst (v := 0) F dJ14_copyOf_21 22 rfl (by decide) ?_
  refine k_aload_n F dJ14_copyOf_22 23 rfl rfl rfl ?_
  refine k_alen F dJ14_copyOf_23 24 rfl (kHs.of (kUp_nw g2 he)) (by decide) (fun cA => vp_arr' cA _ _) ?_
  refine k_iload_n F dJ14_copyOf_24 25 rfl rfl rfl ?_
  refine k_callV F kd_J13_min q380 q164 (kInvS (Bs := [_, _]) F q378 q379 q164 kd_J13_min q380 dJ14_copyOf_25 rfl (by decide)) (zJ13_min F.st _ _) 28 rfl (Nat.le_of_ble_eq_true rfl) (by first | exact Nat.le_of_ble_eq_true rfl | omega) (by first | exact Nat.le_of_ble_eq_true rfl | omega) (by first | exact Nat.le_of_ble_eq_true rfl | omega) (by first | exact Nat.le_of_ble_eq_true rfl | omega) (fun r1 h1 hr1 => ?_)
  obtain ⟨rfl, rfl⟩ := hr1
  rw [iMin_nI (by omega) (by omega), Nat.min_eq_left (Nat.le_of_lt hm)]
  refine k_copyI F 1 (by decide) q381 q383 q382 q166 (kHs.of ((kUp_nw g2 he))) kUp_self hn (sp := 0) (dp := 0) (m := cap) (by omega) (by omega) (by omega) (by omega) (fun i hi => by rw [Nat.zero_add]; exact hfb i hi) dJ14_copyOf_28 31 rfl (by omega) (Nat.le_of_ble_eq_true rfl) rfl rfl rfl ?_
  refine k_aload_n F dJ14_copyOf_31 32 rfl rfl rfl ?_
  exact k_aret F dJ14_copyOf_32 (Or.inr ⟨_, rfl⟩) (by first | exact Or.inr ⟨_, rfl⟩ | exact Or.inl rfl | exact va_rf_ok _) (by first | exact Nat.le_of_ble_eq_true rfl | omega) (by first | exact Nat.le_of_ble_eq_true rfl | omega) ⟨e2, _, rfl, g2, kUp_self, fun i hi => by simp [va_cpy, hi], fun x z hz => by rw [kUp_ne (fun q => by rw [q, g2] at hz; cases hz)]; exact kUp_nw g2 hz⟩
theorem i8_n : ∀ c, c < 128 → (nI c).toInt8.toInt32 = nI c := by decide +kernel
theorem byL_end {L : List Int32} {c : Int32} : byL (L ++ [c]) L.length = c := by
  unfold byL
  simp [List.getD_eq_getElem?_getD]
theorem byL_app {L : List Int32} {c : Int32} {i : Nat} (hi : i < L.length) : byL (L ++ [c]) i = byL L i := by
  unfold byL
  simp [List.getD_eq_getElem?_getD, List.getElem?_append_left hi]
theorem sh_0 {v : Int32} : v >>> ((0 : Int32) &&& 31) = v := by
  rw [show (0 : Int32) &&& 31 = 0 from by decide]
  exact Int32.shiftRight_zero
theorem nI_subLe {m c : Nat} (h : m ≤ c) (hc : c < 1000000) : nI m - nI c ≤ 0 := by
  rw [Int32.le_iff_toInt_le, Int32.toInt_sub, nI_toInt (by omega), nI_toInt (by omega)]
  simp only [Int.bmod, Int32.toInt_zero]
  omega

