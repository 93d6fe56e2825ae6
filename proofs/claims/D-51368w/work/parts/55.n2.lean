/-! the component: bit sets, phases -/
theorem kd_J35_wordIndex : kCd (Cond.code yJ35_wordIndex cJ35_wordIndex 1 (Option.some Jvm.ClassFile.FieldType.int)) yJ35_wordIndex cJ35_wordIndex 1 (Option.some Jvm.ClassFile.FieldType.int) [] := kCd_code (by decide +kernel)
theorem kd_J35_initWords : kCd (Cond.code yJ35_initWords cJ35_initWords 2 (Option.none : Option Jvm.ClassFile.FieldType)) yJ35_initWords cJ35_initWords 2 (Option.none : Option Jvm.ClassFile.FieldType) [] := kCd_code (by decide +kernel)
theorem kd_J35_init : kCd (Cond.code yJ35_init cJ35_init 2 (Option.none : Option Jvm.ClassFile.FieldType)) yJ35_init cJ35_init 2 (Option.none : Option Jvm.ClassFile.FieldType) [] := kCd_code (by decide +kernel)
theorem kd_J35_checkInvariants : kCd (Cond.code yJ35_checkInvariants cJ35_checkInvariants 1 (Option.none : Option Jvm.ClassFile.FieldType)) yJ35_checkInvariants cJ35_checkInvariants 1 (Option.none : Option Jvm.ClassFile.FieldType) [] := kCd_code (by decide +kernel)
theorem kd_J35_ensureCapacity : kCd (Cond.code yJ35_ensureCapacity cJ35_ensureCapacity 3 (Option.none : Option Jvm.ClassFile.FieldType)) yJ35_ensureCapacity cJ35_ensureCapacity 3 (Option.none : Option Jvm.ClassFile.FieldType) [] := kCd_code (by decide +kernel)
theorem kd_J35_expandTo : kCd (Cond.code yJ35_expandTo cJ35_expandTo 3 (Option.none : Option Jvm.ClassFile.FieldType)) yJ35_expandTo cJ35_expandTo 3 (Option.none : Option Jvm.ClassFile.FieldType) [] := kCd_code (by decide +kernel)
theorem kd_J35_set : kCd (Cond.code yJ35_set cJ35_set 3 (Option.none : Option Jvm.ClassFile.FieldType)) yJ35_set cJ35_set 3 (Option.none : Option Jvm.ClassFile.FieldType) [] := kCd_code (by decide +kernel)
theorem kd_J35_get : kCd (Cond.code yJ35_get cJ35_get 3 (Option.some Jvm.ClassFile.FieldType.boolean)) yJ35_get cJ35_get 3 (Option.some Jvm.ClassFile.FieldType.boolean) [] := kCd_code (by decide +kernel)
theorem kd_J35_or : kCd (Cond.code yJ35_or cJ35_or 4 (Option.none : Option Jvm.ClassFile.FieldType)) yJ35_or cJ35_or 4 (Option.none : Option Jvm.ClassFile.FieldType) [] := kCd_code (by decide +kernel)
theorem kd_J33_bitCount : kCd (Cond.code yJ33_bitCount cJ33_bitCount 2 (Option.some Jvm.ClassFile.FieldType.int)) yJ33_bitCount cJ33_bitCount 2 (Option.some Jvm.ClassFile.FieldType.int) [] := kCd_code (by decide +kernel)
theorem kd_J35_cardinality : kCd (Cond.code yJ35_cardinality cJ35_cardinality 3 (Option.some Jvm.ClassFile.FieldType.int)) yJ35_cardinality cJ35_cardinality 3 (Option.some Jvm.ClassFile.FieldType.int) [] := kCd_code (by decide +kernel)
theorem kd_X6_init : kCd (Cond.code yX6_init cX6_init 1 (Option.none : Option Jvm.ClassFile.FieldType)) yX6_init cX6_init 1 (Option.none : Option Jvm.ClassFile.FieldType) [] := kCd_code (by decide +kernel)
theorem kd_X6_has : kCd (Cond.code yX6_has cX6_has 2 (Option.some Jvm.ClassFile.FieldType.boolean)) yX6_has cX6_has 2 (Option.some Jvm.ClassFile.FieldType.boolean) [] := kCd_code (by decide +kernel)
theorem kd_X6_copy : kCd (Cond.code yX6_copy cX6_copy 2 (Option.some (Jvm.ClassFile.FieldType.object "LoopSignals$Phase"))) yX6_copy cX6_copy 2 (Option.some (Jvm.ClassFile.FieldType.object "LoopSignals$Phase")) [] := kCd_code (by decide +kernel)
/-- a bit set of at most eight bits -/
def BsR (h : kH) (a b : Nat) (t t' : kT) (M : Nat) : Prop := ∃ (u : Nat) (f : Nat → Int64), M < 256 ∧ (u = 1 ∨ u = 0 ∧ M = 0) ∧ h a = some (t, eO 10 [.ref b, .int (nI u), .int 1]) ∧ h b = some (t', eL 1 f) ∧ f 0 = Int64.ofNat M
theorem BsR.keep {S : kT → Prop} {h h' : kH} {a b : Nat} {t t' : kT} {M : Nat} (hL : BsR h a b t t' M) (hK : kKp S h h') (h1 : ¬ S t) (h2 : ¬ S t') : BsR h' a b t t' M := by
  obtain ⟨u, f, e1, e2, e3, e4, e5⟩ := hL
  exact ⟨u, f, e1, e2, hK _ _ _ e3 h1, hK _ _ _ e4 h2, e5⟩
theorem BsR.same {h h' : kH} {a b : Nat} {t t' : kT} {M : Nat} (hL : BsR h a b t t' M) (hK : kSame h h') : BsR h' a b t t' M := hL.keep (S := fun _ => False) hK.kp id id
theorem bs_ix : ∀ i, i < 8 → (nI i) >>> ((6 : Int32) &&& 31) = nI 0 := by decide +kernel
theorem bs_get : ∀ M, M < 256 → ∀ i, i < 8 → decide (Int64.ofNat M &&& ((1 : Int64) <<< ((nI i).toInt64 &&& 63)) = 0) = !M.testBit i := by decide +kernel
theorem bs_set : ∀ M, M < 256 → ∀ i, i < 8 → Int64.ofNat M ||| ((1 : Int64) <<< ((nI i).toInt64 &&& 63)) = Int64.ofNat (M ||| 2 ^ i) ∧ M ||| 2 ^ i < 256 := by decide +kernel
set_option maxHeartbeats 4000000 in
set_option maxRecDepth 100000 in
theorem zJ35_wordIndex {l : Launch} {g : kG} (S : kStart l g) {h : kH} (i : Nat) (hi : i < 8) : kMet l g yJ35_wordIndex (Cond.code yJ35_wordIndex cJ35_wordIndex 1 (Option.some Jvm.ClassFile.FieldType.int)) 1 0 0 [.int (nI i)] h (mRd h (.int (nI 0))) := by
  refine kEnter S kd_J35_wordIndex (Nat.le_of_ble_eq_true rfl) (fun x F hxl hxg => ?_)
  subst hxl; subst hxg
  have hlv : lv_args 0 [.int (nI i)] = [(0, .int (nI i))] := rfl
  rw [hlv]
  refine k_iload_n F dJ35_wordIndex_0 1 rfl rfl rfl ?_
  refine k_bipush (v := 6) F dJ35_wordIndex_1 3 rfl (by decide) ?_
  refine k_ishr F dJ35_wordIndex_3 4 rfl ?_
  rw [bs_ix i hi]
  exact k_iret F dJ35_wordIndex_4 (by first | exact Nat.le_of_ble_eq_true rfl | omega) (by first | exact Nat.le_of_ble_eq_true rfl | omega) ⟨rfl, rfl⟩
set_option maxHeartbeats 4000000 in
set_option maxRecDepth 100000 in
theorem zJ35_checkInvariants {l : Launch} {g : kG} (S : kStart l g) {h : kH} (a : Nat) : kMet l g yJ35_checkInvariants (Cond.code yJ35_checkInvariants cJ35_checkInvariants 1 (Option.none : Option Jvm.ClassFile.FieldType)) 1 0 0 [.ref a] h (kN (fun h' => h = h')) := by
  refine kEnter S kd_J35_checkInvariants (Nat.le_of_ble_eq_true rfl) (fun x F hxl hxg => ?_)
  subst hxl; subst hxg
  have hlv : lv_args 0 [.ref a] = [(0, .ref a)] := rfl
  rw [hlv]
  refine k_gets F q2008 q193 (st_J35_SassertionsDisabled F.st) q2007 (fun _ e => e) dJ35_checkInvariants_0 3 rfl ?_
  refine k_ifne F dJ35_checkInvariants_3 6 37 rfl (by decide) (fun _ => ?_) (fun c_ => (by first | exact absurd rfl c_ | exact absurd c_ (by decide) | exact absurd (by assumption) c_ | exact absurd c_ (by assumption)))
  refine k_gets F q2008 q193 (st_J35_SassertionsDisabled F.st) q2007 (fun _ e => e) dJ35_checkInvariants_37 40 rfl ?_
  refine k_ifne F dJ35_checkInvariants_40 43 70 rfl (by decide) (fun _ => ?_) (fun c_ => (by first | exact absurd rfl c_ | exact absurd c_ (by decide) | exact absurd (by assumption) c_ | exact absurd c_ (by assumption)))
  refine k_gets F q2008 q193 (st_J35_SassertionsDisabled F.st) q2007 (fun _ e => e) dJ35_checkInvariants_70 73 rfl ?_
  refine k_ifne F dJ35_checkInvariants_73 76 110 rfl (by decide) (fun _ => ?_) (fun c_ => (by first | exact absurd rfl c_ | exact absurd c_ (by decide) | exact absurd (by assumption) c_ | exact absurd c_ (by assumption)))
  exact k_vret F dJ35_checkInvariants_110 (by first | exact Nat.le_of_ble_eq_true rfl | omega) (by first | exact Nat.le_of_ble_eq_true rfl | omega) rfl
set_option maxHeartbeats 4000000 in
set_option maxRecDepth 100000 in
theorem zJ35_initWords {l : Launch} {g : kG} (S : kStart l g) {h : kH} {a : Nat} {t : kT} (t' : kT) (ht : t.1 ≠ 0) (ha : h a = some (t, eO 10 [.null, .int 0, .int 0])) : kMet l g yJ35_initWords (Cond.code yJ35_initWords cJ35_initWords 2 (Option.none : Option Jvm.ClassFile.FieldType)) 2 1 1 [.ref a, .int (nI 8)] h (kN (fun h' => ∃ b, h b = none ∧ h' a = some (t, eO 10 [.ref b, .int 0, .int 0]) ∧ h' b = some (t', eL 1 (fun _ => 0)) ∧ ∀ x v, x ≠ a → h x = some v → h' x = some v)) := by
  refine kEnter S kd_J35_initWords (Nat.le_of_ble_eq_true rfl) (fun x F hxl hxg => ?_)
  subst hxl; subst hxg
  have hlv : lv_args 0 [.ref a, .int (nI 8)] = [(0, .ref a), (1, .int (nI 8))] := rfl
  rw [hlv]
  refine k_aload_n F dJ35_initWords_0 1 rfl rfl rfl ?_
  refine k_iload_n F dJ35_initWords_1 2 rfl rfl rfl ?_
  refine k_iconst (v := 1) F dJ35_initWords_2 3 rfl (by decide) ?_
  refine k_isub F dJ35_initWords_3 4 rfl ?_
  refine k_topi (b := nI 7) (by decide) ?_
  refine k_callV F kd_J35_wordIndex q1942 q193 (kInvS (Bs := [_]) F q1940 q1941 q193 kd_J35_wordIndex q1942 dJ35_initWords_4 rfl (by decide)) (zJ35_wordIndex F.st 7 (by omega)) 7 rfl (Nat.le_of_ble_eq_true rfl) (by first | exact Nat.le_of_ble_eq_true rfl | omega) (by first | exact Nat.le_of_ble_eq_true rfl | omega) (by first | exact Nat.le_of_ble_eq_true rfl | omega) (by first | exact Nat.le_of_ble_eq_true rfl | omega) (fun r1 h1 hr1 => ?_)
  obtain ⟨rfl, rfl⟩ := hr1
  refine k_iconst (v := 1) F dJ35_initWords_7 8 rfl (by decide) ?_
  refine k_iadd F dJ35_initWords_8 9 rfl ?_
  refine k_newa F dJ35_initWords_9 11 rfl 2 (by decide) rfl q1953 (c := .inr (.inl (fun _ => 0))) (fun _ => rfl) t' (m := 1) rfl (by first | decide | omega) (by omega) (by omega) (fun b hb => ?_)
  have hab : b ≠ a := fun z => by rw [z, ha] at hb; cases hb
  refine k_put (fs' := [_, _, _]) F kcJ35 0 (by decide) (knJ35 0) q1943 (fun _ e => e) rfl dJ35_initWords_11 14 rfl (kUp_nw hb ha) ht rfl rfl (by simp) rfl ?_
  exact k_vret F dJ35_initWords_14 (by first | exact Nat.le_of_ble_eq_true rfl | omega) (by first | exact Nat.le_of_ble_eq_true rfl | omega) ⟨b, hb, kUp_self, by rw [kUp_ne hab]; exact kUp_self, fun x v hx hv => by rw [kUp_ne hx]; exact kUp_nw hb hv⟩
set_option maxHeartbeats 4000000 in
set_option maxRecDepth 100000 in
theorem zJ35_init {l : Launch} {g : kG} (S : kStart l g) {h : kH} {a : Nat} {t : kT} (t' : kT) (ht : t.1 ≠ 0) (ha : h a = some (t, eO 10 [.null, .int 0, .int 0])) : kMet l g yJ35_init (Cond.code yJ35_init cJ35_init 2 (Option.none : Option Jvm.ClassFile.FieldType)) 3 1 1 [.ref a, .int (nI 8)] h (kN (fun h' => ∃ b, h b = none ∧ h' a = some (t, eO 10 [.ref b, .int 0, .int 1]) ∧ h' b = some (t', eL 1 (fun _ => 0)) ∧ ∀ x v, x ≠ a → h x = some v → h' x = some v)) := by
  refine kEnter S kd_J35_init (Nat.le_of_ble_eq_true rfl) (fun x F hxl hxg => ?_)
  subst hxl; subst hxg
  have hlv : lv_args 0 [.ref a, .int (nI 8)] = [(0, .ref a), (1, .int (nI 8))] := rfl
  rw [hlv]
  refine k_aload_n F dJ35_init_0 1 rfl rfl rfl ?_
  refine k_objInit F q1935 q219 q220 dJ35_init_1 4 rfl (by omega) (Nat.le_of_ble_eq_true rfl) ?_
  refine k_aload_n F dJ35_init_4 5 rfl rfl rfl ?_
  refine k_iconst (v := 0) F dJ35_init_5 6 rfl (by decide) ?_
  refine k_put (fs' := [_, _, _]) F kcJ35 1 (by decide) (knJ35 1) q1944 (fun _ e => e) rfl dJ35_init_6 9 rfl ha ht rfl rfl (by simp) rfl ?_
  refine kW.gen (fun h' => h' a = some (t, eO 10 [.null, .int 0, .int 0]) ∧ ∀ x v, x ≠ a → h x = some v → h' x = some v) ⟨kUp_self, fun x v hx hv => by rw [kUp_ne hx]; exact hv⟩ (fun h9 H9 => ?_)
  obtain ⟨ha, hx⟩ := H9
  refine k_aload_n F dJ35_init_9 10 rfl rfl rfl ?_
  refine k_iconst (v := 0) F dJ35_init_10 11 rfl (by decide) ?_
  refine k_put (fs' := [_, _, _]) F kcJ35 2 (by decide) (knJ35 2) q1945 (fun _ e => e) rfl dJ35_init_11 14 rfl ha ht rfl rfl (by simp) rfl ?_
  refine kW.gen (fun h' => h' a = some (t, eO 10 [.null, .int 0, .int 0]) ∧ ∀ x v, x ≠ a → h x = some v → h' x = some v) ⟨kUp_self, fun x v hy hv => by rw [kUp_ne hy]; exact hx x v hy hv⟩ (fun h9 H9 => ?_)
  obtain ⟨ha, hx⟩ := H9
  refine k_iload_n F dJ35_init_14 15 rfl rfl rfl ?_
  refine k_ifge F dJ35_init_15 18 45 rfl (by decide) (fun _ => ?_) (fun c_ => (absurd (by decide) c_))
  refine k_aload_n F dJ35_init_45 46 rfl rfl rfl ?_
  refine k_iload_n F dJ35_init_46 47 rfl rfl rfl ?_
  refine k_callN F kd_J35_initWords q1939 q193 (kInvV (Bs := [_]) F kcJ35 q1936 q1938 qs21 kd_J35_initWords q1939 dJ35_init_47 (kHs.of ha) rfl (by decide)) (zJ35_initWords F.st t' ht ha) 50 rfl (Nat.le_of_ble_eq_true rfl) (by first | exact Nat.le_of_ble_eq_true rfl | omega) (by first | exact Nat.le_of_ble_eq_true rfl | omega) (by first | exact Nat.le_of_ble_eq_true rfl | omega) (by first | exact Nat.le_of_ble_eq_true rfl | omega) (fun h1 hr1 => ?_)
  obtain ⟨b, g1, g2, g3, g4⟩ := hr1
  have hb : h b = none := by
    cases hz : h b with
    | none => rfl
    | some w =>
      by_cases e : b = a
      · rw [e, ha] at g1; cases g1
      · rw [hx _ _ e hz] at g1; cases g1
  have hab : b ≠ a := fun z => by rw [z, ha] at g1; cases g1
  refine k_aload_n F dJ35_init_50 51 rfl rfl rfl ?_
  refine k_iconst (v := 1) F dJ35_init_51 52 rfl (by decide) ?_
  refine k_put (fs' := [_, _, _]) F kcJ35 2 (by decide) (knJ35 2) q1945 (fun _ e => e) rfl dJ35_init_52 55 rfl g2 ht rfl rfl (by simp) rfl ?_
  exact k_vret F dJ35_init_55 (by first | exact Nat.le_of_ble_eq_true rfl | omega) (by first | exact Nat.le_of_ble_eq_true rfl | omega) ⟨b, hb, kUp_self, by rw [kUp_ne hab]; exact g3, fun x v hy hv => by rw [kUp_ne hy]; exact g4 x v hy (hx x v hy hv)⟩
set_option maxHeartbeats 4000000 in
set_option maxRecDepth 100000 in
theorem zJ35_ensureCapacity {l : Launch} {g : kG} (S : kStart l g) {h : kH} {a b : Nat} {t t' : kT} {u : Int32} {f : Nat → Int64} (ha : h a = some (t, eO 10 [.ref b, .int u, .int 1])) (hb : h b = some (t', eL 1 f)) : kMet l g yJ35_ensureCapacity (Cond.code yJ35_ensureCapacity cJ35_ensureCapacity 3 (Option.none : Option Jvm.ClassFile.FieldType)) 3 0 0 [.ref a, .int (nI 1)] h (kN (fun h' => h = h')) := by
  refine kEnter S kd_J35_ensureCapacity (Nat.le_of_ble_eq_true rfl) (fun x F hxl hxg => ?_)
  subst hxl; subst hxg
  have hlv : lv_args 0 [.ref a, .int (nI 1)] = [(0, .ref a), (1, .int (nI 1))] := rfl
  rw [hlv]
  refine k_aload_n F dJ35_ensureCapacity_0 1 rfl rfl rfl ?_
  refine k_get F kcJ35 0 (by decide) q1943 (fun _ e => e) dJ35_ensureCapacity_1 4 rfl (kHs.of ha) rfl ?_
  refine k_alen F dJ35_ensureCapacity_4 5 rfl (kHs.of hb) (by decide) (fun cA => vp_arr' cA _ _) ?_
  refine k_iload_n F dJ35_ensureCapacity_5 6 rfl rfl rfl ?_
  refine k_icmpge F dJ35_ensureCapacity_6 9 38 rfl (by decide) (fun _ => ?_) (fun c_ => (absurd (by decide) c_))
  exact k_vret F dJ35_ensureCapacity_38 (by first | exact Nat.le_of_ble_eq_true rfl | omega) (by first | exact Nat.le_of_ble_eq_true rfl | omega) rfl
set_option maxHeartbeats 4000000 in
set_option maxRecDepth 100000 in
theorem zJ35_expandTo {l : Launch} {g : kG} (S : kStart l g) {h : kH} {a b : Nat} {t t' : kT} {u : Nat} {f : Nat → Int64} (ht : t.1 ≠ 0) (hu : u = 0 ∨ u = 1) (ha : h a = some (t, eO 10 [.ref b, .int (nI u), .int 1])) (hb : h b = some (t', eL 1 f)) : kMet l g yJ35_expandTo (Cond.code yJ35_expandTo cJ35_expandTo 3 (Option.none : Option Jvm.ClassFile.FieldType)) 4 0 0 [.ref a, .int (nI 0)] h (kN (fun h' => h' a = some (t, eO 10 [.ref b, .int (nI 1), .int 1]) ∧ ∀ x v, x ≠ a → h x = some v → h' x = some v)) := by
  refine kEnter S kd_J35_expandTo (Nat.le_of_ble_eq_true rfl) (fun x F hxl hxg => ?_)
  subst hxl; subst hxg
  have hlv : lv_args 0 [.ref a, .int (nI 0)] = [(0, .ref a), (1, .int (nI 0))] := rfl
  rw [hlv]
  rcases hu with rfl | rfl
  · refine k_iload_n F dJ35_expandTo_0 1 rfl rfl rfl ?_
    refine k_iconst (v := 1) F dJ35_expandTo_1 2 rfl (by decide) ?_
    refine k_iadd F dJ35_expandTo_2 3 rfl ?_
    refine k_istore_n (lv' := [(0, _), (1, _), (2, _)]) F dJ35_expandTo_3 4 rfl rfl (Nat.le_of_ble_eq_true rfl) rfl rfl rfl ?_
    refine k_aload_n F dJ35_expandTo_4 5 rfl rfl rfl ?_
    refine k_get F kcJ35 1 (by decide) q1944 (fun _ e => e) dJ35_expandTo_5 8 rfl (kHs.of ha) rfl ?_
    refine k_iload_n F dJ35_expandTo_8 9 rfl rfl rfl ?_
    refine k_icmpge F dJ35_expandTo_9 12 22 rfl (by decide) (fun c_ => (absurd c_ (by decide))) (fun _ => ?_)
    refine k_aload_n F dJ35_expandTo_12 13 rfl rfl rfl ?_
    refine k_iload_n F dJ35_expandTo_13 14 rfl rfl rfl ?_
    refine k_callN F kd_J35_ensureCapacity q1993 q193 (kInvV (Bs := [_]) F kcJ35 q1990 q1992 qs23 kd_J35_ensureCapacity q1993 dJ35_expandTo_14 (kHs.of ha) rfl (by decide)) (zJ35_ensureCapacity F.st ha hb) 17 rfl (Nat.le_of_ble_eq_true rfl) (by first | exact Nat.le_of_ble_eq_true rfl | omega) (by first | exact Nat.le_of_ble_eq_true rfl | omega) (by first | exact Nat.le_of_ble_eq_true rfl | omega) (by first | exact Nat.le_of_ble_eq_true rfl | omega) (fun h1 hr1 => ?_)
    obtain rfl := hr1
    refine k_aload_n F dJ35_expandTo_17 18 rfl rfl rfl ?_
    refine k_iload_n F dJ35_expandTo_18 19 rfl rfl rfl ?_
    refine k_put (fs' := [_, _, _]) F kcJ35 1 (by decide) (knJ35 1) q1944 (fun _ e => e) rfl dJ35_expandTo_19 22 rfl ha ht rfl rfl (by simp) rfl ?_
    exact k_vret F dJ35_expandTo_22 (by first | exact Nat.le_of_ble_eq_true rfl | omega) (by first | exact Nat.le_of_ble_eq_true rfl | omega) ⟨kUp_self, fun x v hx hv => by rw [kUp_ne hx]; exact hv⟩
  · refine k_iload_n F dJ35_expandTo_0 1 rfl rfl rfl ?_
    refine k_iconst (v := 1) F dJ35_expandTo_1 2 rfl (by decide) ?_
    refine k_iadd F dJ35_expandTo_2 3 rfl ?_
    refine k_istore_n (lv' := [(0, _), (1, _), (2, _)]) F dJ35_expandTo_3 4 rfl rfl (Nat.le_of_ble_eq_true rfl) rfl rfl rfl ?_
    refine k_aload_n F dJ35_expandTo_4 5 rfl rfl rfl ?_
    refine k_get F kcJ35 1 (by decide) q1944 (fun _ e => e) dJ35_expandTo_5 8 rfl (kHs.of ha) rfl ?_
    refine k_iload_n F dJ35_expandTo_8 9 rfl rfl rfl ?_
    refine k_icmpge F dJ35_expandTo_9 12 22 rfl (by decide) (fun _ => ?_) (fun c_ => (absurd (by decide) c_))
    exact k_vret F dJ35_expandTo_22 (by first | exact Nat.le_of_ble_eq_true rfl | omega) (by first | exact Nat.le_of_ble_eq_true rfl | omega) ⟨ha, fun x v hx hv => hv⟩
set_option maxHeartbeats 4000000 in
set_option maxRecDepth 100000 in
theorem zJ35_set {l : Launch} {g : kG} (S : kStart l g) {h : kH} {a b : Nat} {t t' : kT} {M : Nat} (hB : BsR h a b t t' M) (ht : t.1 ≠ 0) (ht' : t'.1 ≠ 0) (hne : t ≠ t') (i : Nat) (hi : i < 8) : kMet l g yJ35_set (Cond.code yJ35_set cJ35_set 3 (Option.none : Option Jvm.ClassFile.FieldType)) 5 0 0 [.ref a, .int (nI i)] h (kN (fun h' => BsR h' a b t t' (M ||| 2 ^ i) ∧ kKp (fun s => s = t ∨ s = t') h h')) := by
  refine kEnter S kd_J35_set (Nat.le_of_ble_eq_true rfl) (fun x F hxl hxg => ?_)
  subst hxl; subst hxg
  have hlv : lv_args 0 [.ref a, .int (nI i)] = [(0, .ref a), (1, .int (nI i))] := rfl
  rw [hlv]
  obtain ⟨u, f, e1, e2, e3, e4, e5⟩ := id hB
  have hab : a ≠ b := fun z => by subst z; rw [e3] at e4; cases e4
  refine k_iload_n F dJ35_set_0 1 rfl rfl rfl ?_
  refine k_ifge F dJ35_set_1 4 31 rfl (by decide) (fun _ => ?_) (fun c_ => (absurd (nI_pos' (by omega)) c_))
  refine k_iload_n F dJ35_set_31 32 rfl rfl rfl ?_
  refine k_callV F kd_J35_wordIndex q1942 q193 (kInvS (Bs := [_]) F q1940 q1941 q193 kd_J35_wordIndex q1942 dJ35_set_32 rfl (by decide)) (zJ35_wordIndex F.st i hi) 35 rfl (Nat.le_of_ble_eq_true rfl) (by first | exact Nat.le_of_ble_eq_true rfl | omega) (by first | exact Nat.le_of_ble_eq_true rfl | omega) (by first | exact Nat.le_of_ble_eq_true rfl | omega) (by first | exact Nat.le_of_ble_eq_true rfl | omega) (fun r1 h1 hr1 => ?_)
  obtain ⟨rfl, rfl⟩ := hr1
  refine k_istore_n (lv' := [(0, _), (1, _), (2, _)]) F dJ35_set_35 36 rfl rfl (Nat.le_of_ble_eq_true rfl) rfl rfl rfl ?_
  refine k_aload_n F dJ35_set_36 37 rfl rfl rfl ?_
  refine k_iload_n F dJ35_set_37 38 rfl rfl rfl ?_
  refine k_callN F kd_J35_expandTo q1989 q193 (kInvV (Bs := [_]) F kcJ35 q1986 q1988 qs22 kd_J35_expandTo q1989 dJ35_set_38 (kHs.of e3) rfl (by decide)) (zJ35_expandTo F.st ht (by omega) e3 e4) 41 rfl (Nat.le_of_ble_eq_true rfl) (by first | exact Nat.le_of_ble_eq_true rfl | omega) (by first | exact Nat.le_of_ble_eq_true rfl | omega) (by first | exact Nat.le_of_ble_eq_true rfl | omega) (by first | exact Nat.le_of_ble_eq_true rfl | omega) (fun h2 hr2 => ?_)
  obtain ⟨k1, k2⟩ := hr2
  have e4' := k2 _ _ (Ne.symm hab) e4
  refine k_aload_n F dJ35_set_41 42 rfl rfl rfl ?_
  refine k_get F kcJ35 0 (by decide) q1943 (fun _ e => e) dJ35_set_42 45 rfl (kHs.of k1) rfl ?_
  refine k_iload_n F dJ35_set_45 46 rfl rfl rfl ?_
  refine k_dup2_11 F dJ35_set_46 47 rfl rfl rfl ?_
  refine k_lald F dJ35_set_47 48 rfl (kHs.of e4') (j := 0) rfl (by omega) (by omega) ?_
  refine k_lconst (v := 1) F dJ35_set_48 49 rfl rfl ?_
  refine k_iload_n F dJ35_set_49 50 rfl rfl rfl ?_
  refine k_lshl F dJ35_set_50 51 rfl rfl ?_
  refine k_lor F dJ35_set_51 52 rfl ?_
  refine k_last F dJ35_set_52 53 rfl e4' ht' (j := 0) rfl (by omega) (by omega) ?_
  obtain ⟨q1, q2⟩ := bs_set M e1 i hi
  have hK : kKp (fun s => s = t ∨ s = t') h (kUp h2 b t' (.inr (.inl (2, 1, .inr (.inl (vp_updL f 0 (f 0 ||| (1 : Int64) <<< ((nI i).toInt64 &&& 63)))))))) := fun x s e hx hs => by
    have n1 : x ≠ a := fun z => by rw [z, e3] at hx; cases hx; exact hs (Or.inl rfl)
    have n2 : x ≠ b := fun z => by rw [z, e4] at hx; cases hx; exact hs (Or.inr rfl)
    rw [kUp_ne n2]
    exact k2 _ _ n1 hx
  refine k_aload_n F dJ35_set_53 54 rfl rfl rfl ?_
  refine k_callN F kd_J35_checkInvariants q2006 q193 (kInvV (Bs := []) F kcJ35 q2003 q2005 qs24 kd_J35_checkInvariants q2006 dJ35_set_54 (kHs.of ((kUp_tag e4' k1 (Ne.symm hne)))) rfl (by decide)) (zJ35_checkInvariants F.st a) 57 rfl (Nat.le_of_ble_eq_true rfl) (by first | exact Nat.le_of_ble_eq_true rfl | omega) (by first | exact Nat.le_of_ble_eq_true rfl | omega) (by first | exact Nat.le_of_ble_eq_true rfl | omega) (by first | exact Nat.le_of_ble_eq_true rfl | omega) (fun h3 hr3 => ?_)
  obtain rfl := hr3
  exact k_vret F dJ35_set_57 (by first | exact Nat.le_of_ble_eq_true rfl | omega) (by first | exact Nat.le_of_ble_eq_true rfl | omega) ⟨⟨1, _, q2, Or.inl rfl, kUp_tag e4' k1 (Ne.symm hne), kUp_self, by rw [← q1, ← e5]; simp [vp_updL]⟩, hK⟩
set_option maxHeartbeats 4000000 in
set_option maxRecDepth 100000 in
theorem zJ35_get {l : Launch} {g : kG} (S : kStart l g) {h : kH} {a b : Nat} {t t' : kT} {M : Nat} (hB : BsR h a b t t' M) (i : Nat) (hi : i < 8) : kMet l g yJ35_get (Cond.code yJ35_get cJ35_get 3 (Option.some Jvm.ClassFile.FieldType.boolean)) 2 0 0 [.ref a, .int (nI i)] h (mRd h (.int (kB (M.testBit i)))) := by
  refine kEnter S kd_J35_get (Nat.le_of_ble_eq_true rfl) (fun x F hxl hxg => ?_)
  subst hxl; subst hxg
  have hlv : lv_args 0 [.ref a, .int (nI i)] = [(0, .ref a), (1, .int (nI i))] := rfl
  rw [hlv]
  obtain ⟨u, f, e1, e2, e3, e4, e5⟩ := id hB
  have q := bs_get M e1 i hi
  refine k_iload_n F dJ35_get_0 1 rfl rfl rfl ?_
  refine k_ifge F dJ35_get_1 4 31 rfl (by decide) (fun _ => ?_) (fun c_ => (absurd (nI_pos' (by omega)) c_))
  refine k_aload_n F dJ35_get_31 32 rfl rfl rfl ?_
  refine k_callN F kd_J35_checkInvariants q2006 q193 (kInvV (Bs := []) F kcJ35 q2003 q2005 qs24 kd_J35_checkInvariants q2006 dJ35_get_32 (kHs.of e3) rfl (by decide)) (zJ35_checkInvariants F.st a) 35 rfl (Nat.le_of_ble_eq_true rfl) (by first | exact Nat.le_of_ble_eq_true rfl | omega) (by first | exact Nat.le_of_ble_eq_true rfl | omega) (by first | exact Nat.le_of_ble_eq_true rfl | omega) (by first | exact Nat.le_of_ble_eq_true rfl | omega) (fun h1 hr1 => ?_)
  obtain rfl := hr1
  refine k_iload_n F dJ35_get_35 36 rfl rfl rfl ?_
  refine k_callV F kd_J35_wordIndex q1942 q193 (kInvS (Bs := [_]) F q1940 q1941 q193 kd_J35_wordIndex q1942 dJ35_get_36 rfl (by decide)) (zJ35_wordIndex F.st i hi) 39 rfl (Nat.le_of_ble_eq_true rfl) (by first | exact Nat.le_of_ble_eq_true rfl | omega) (by first | exact Nat.le_of_ble_eq_true rfl | omega) (by first | exact Nat.le_of_ble_eq_true rfl | omega) (by first | exact Nat.le_of_ble_eq_true rfl | omega) (fun r2 h2 hr2 => ?_)
  obtain ⟨rfl, rfl⟩ := hr2
  refine k_istore_n (lv' := [(0, _), (1, _), (2, _)]) F dJ35_get_39 40 rfl rfl (Nat.le_of_ble_eq_true rfl) rfl rfl rfl ?_
  refine k_iload_n F dJ35_get_40 41 rfl rfl rfl ?_
  refine k_aload_n F dJ35_get_41 42 rfl rfl rfl ?_
  refine k_get F kcJ35 1 (by decide) q1944 (fun _ e => e) dJ35_get_42 45 rfl (kHs.of e3) rfl ?_
  refine k_icmpge F dJ35_get_45 48 67 rfl (by decide) (fun c_z => ?_) (fun c_z => ?_)
  · rw [nI_leE (by omega) (by omega)] at c_z
    have hM : M = 0 := by omega
    rw [show M.testBit i = false from by rw [hM]; exact Nat.zero_testBit i] at F
    refine k_iconst (v := 0) F dJ35_get_67 68 rfl (by decide) ?_
    exact k_zret F dJ35_get_68 (by first | rfl | exact kzb _ | exact pk_nc _ | decide) (by first | exact Nat.le_of_ble_eq_true rfl | omega) (by first | exact Nat.le_of_ble_eq_true rfl | omega) ⟨rfl, rfl⟩
  · refine k_aload_n F dJ35_get_48 49 rfl rfl rfl ?_
    refine k_get F kcJ35 0 (by decide) q1943 (fun _ e => e) dJ35_get_49 52 rfl (kHs.of e3) rfl ?_
    refine k_iload_n F dJ35_get_52 53 rfl rfl rfl ?_
    refine k_lald F dJ35_get_53 54 rfl (kHs.of e4) (j := 0) rfl (by omega) (by omega) ?_
    rw [e5]
    refine k_lconst (v := 1) F dJ35_get_54 55 rfl rfl ?_
    refine k_iload_n F dJ35_get_55 56 rfl rfl rfl ?_
    refine k_lshl F dJ35_get_56 57 rfl rfl ?_
    refine k_land F dJ35_get_57 58 rfl ?_
    refine k_lconst (v := 0) F dJ35_get_58 59 rfl rfl ?_
    refine k_lcmp F dJ35_get_59 60 rfl ?_
    refine k_ifeq F dJ35_get_60 63 67 rfl (by decide) (fun c_d => ?_) (fun c_d => ?_)
    · rw [lg_cmp_eq] at c_d
      rw [decide_eq_true c_d] at q
      rw [show M.testBit i = false from by simpa using q.symm] at F
      refine k_iconst (v := 0) F dJ35_get_67 68 rfl (by decide) ?_
      exact k_zret F dJ35_get_68 (by first | rfl | exact kzb _ | exact pk_nc _ | decide) (by first | exact Nat.le_of_ble_eq_true rfl | omega) (by first | exact Nat.le_of_ble_eq_true rfl | omega) ⟨rfl, rfl⟩
    · rw [lg_cmp_eq] at c_d
      rw [decide_eq_false c_d] at q
      rw [show M.testBit i = true from by simpa using q.symm] at F
      refine k_iconst (v := 1) F dJ35_get_63 64 rfl (by decide) ?_
      refine k_goto F dJ35_get_64 68 (by decide) ?_
      exact k_zret F dJ35_get_68 (by first | rfl | exact kzb _ | exact pk_nc _ | decide) (by first | exact Nat.le_of_ble_eq_true rfl | omega) (by first | exact Nat.le_of_ble_eq_true rfl | omega) ⟨rfl, rfl⟩

