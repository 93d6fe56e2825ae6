/-! the component: lists -/
theorem kd_J2_init : kCd (Cond.code yJ2_init cJ2_init 1 (Option.none : Option Jvm.ClassFile.FieldType)) yJ2_init cJ2_init 1 (Option.none : Option Jvm.ClassFile.FieldType) [] := kCd_code (by decide +kernel)
theorem kd_J3_init : kCd (Cond.code yJ3_init cJ3_init 2 (Option.none : Option Jvm.ClassFile.FieldType)) yJ3_init cJ3_init 2 (Option.none : Option Jvm.ClassFile.FieldType) [] := kCd_code (by decide +kernel)
theorem kd_J3_init_2 : kCd (Cond.code yJ3_init_2 cJ3_init_2 1 (Option.none : Option Jvm.ClassFile.FieldType)) yJ3_init_2 cJ3_init_2 1 (Option.none : Option Jvm.ClassFile.FieldType) [] := kCd_code (by decide +kernel)
theorem kd_J3_size : kCd (Cond.code yJ3_size cJ3_size 1 (Option.some Jvm.ClassFile.FieldType.int)) yJ3_size cJ3_size 1 (Option.some Jvm.ClassFile.FieldType.int) [] := kCd_code (by decide +kernel)
theorem kd_J3_isEmpty : kCd (Cond.code yJ3_isEmpty cJ3_isEmpty 1 (Option.some Jvm.ClassFile.FieldType.boolean)) yJ3_isEmpty cJ3_isEmpty 1 (Option.some Jvm.ClassFile.FieldType.boolean) [] := kCd_code (by decide +kernel)
theorem kd_J3_get : kCd (Cond.code yJ3_get cJ3_get 2 (Option.some (Jvm.ClassFile.FieldType.object "java/lang/Object"))) yJ3_get cJ3_get 2 (Option.some (Jvm.ClassFile.FieldType.object "java/lang/Object")) [] := kCd_code (by decide +kernel)
theorem kd_J3_elementData : kCd (Cond.code yJ3_elementData cJ3_elementData 2 (Option.some (Jvm.ClassFile.FieldType.object "java/lang/Object"))) yJ3_elementData cJ3_elementData 2 (Option.some (Jvm.ClassFile.FieldType.object "java/lang/Object")) [] := kCd_code (by decide +kernel)
theorem kd_J3_add : kCd (Cond.code yJ3_add cJ3_add 2 (Option.some Jvm.ClassFile.FieldType.boolean)) yJ3_add cJ3_add 2 (Option.some Jvm.ClassFile.FieldType.boolean) [] := kCd_code (by decide +kernel)
theorem kd_J3_add_2 : kCd (Cond.code yJ3_add_2 cJ3_add_2 4 (Option.none : Option Jvm.ClassFile.FieldType)) yJ3_add_2 cJ3_add_2 4 (Option.none : Option Jvm.ClassFile.FieldType) [] := kCd_code (by decide +kernel)
theorem kd_J3_grow : kCd (Cond.code yJ3_grow cJ3_grow 1 (Option.some (Jvm.ClassFile.FieldType.array (Jvm.ClassFile.FieldType.object "java/lang/Object")))) yJ3_grow cJ3_grow 1 (Option.some (Jvm.ClassFile.FieldType.array (Jvm.ClassFile.FieldType.object "java/lang/Object"))) [] := kCd_code (by decide +kernel)
theorem kd_J3_grow_2 : kCd (Cond.code yJ3_grow_2 cJ3_grow_2 4 (Option.some (Jvm.ClassFile.FieldType.array (Jvm.ClassFile.FieldType.object "java/lang/Object")))) yJ3_grow_2 cJ3_grow_2 4 (Option.some (Jvm.ClassFile.FieldType.array (Jvm.ClassFile.FieldType.object "java/lang/Object"))) [] := kCd_code (by decide +kernel)
theorem kd_J37_checkIndex : kCd (Cond.code yJ37_checkIndex cJ37_checkIndex 2 (Option.some Jvm.ClassFile.FieldType.int)) yJ37_checkIndex cJ37_checkIndex 2 (Option.some Jvm.ClassFile.FieldType.int) [] := kCd_code (by decide +kernel)
theorem kd_J12_newLength : kCd (Cond.code yJ12_newLength cJ12_newLength 4 (Option.some Jvm.ClassFile.FieldType.int)) yJ12_newLength cJ12_newLength 4 (Option.some Jvm.ClassFile.FieldType.int) [] := kCd_code (by decide +kernel)
theorem kd_J14_copyOf_2 : kCd (Cond.code yJ14_copyOf_2 cJ14_copyOf_2 2 (Option.some (Jvm.ClassFile.FieldType.array (Jvm.ClassFile.FieldType.object "java/lang/Object")))) yJ14_copyOf_2 cJ14_copyOf_2 2 (Option.some (Jvm.ClassFile.FieldType.array (Jvm.ClassFile.FieldType.object "java/lang/Object"))) [] := kCd_code (by decide +kernel)
theorem kd_J14_copyOf_3 : kCd (Cond.code yJ14_copyOf_3 cJ14_copyOf_3 4 (Option.some (Jvm.ClassFile.FieldType.array (Jvm.ClassFile.FieldType.object "java/lang/Object")))) yJ14_copyOf_3 cJ14_copyOf_3 4 (Option.some (Jvm.ClassFile.FieldType.array (Jvm.ClassFile.FieldType.object "java/lang/Object"))) [] := kCd_code (by decide +kernel)
/-- an object of ours that may lie in a list -/
def isOb (h : kH) (b : Nat) : Prop := ∃ (ci : Nat) (C : String) (T : u_T) (N : Nat) (ty : Nat → FieldType) (tb : kT) (fs : List Value), kCl ci C T N ty ∧ Cond.castable C "java/lang/Object" ∈ lw_tbl ∧ h b = some (tb, .inl (ci, fs))
theorem isOb.any {x : kX} {y : MethodName} {cc : ByteArray} {nL lev mc ms : Nat} {ret : Option FieldType} {hh : List (Nat × Nat × Nat × Nat)} {Po : kR → kH → Prop} (F : kF x y cc nL ret hh lev mc ms Po) {h : kH} {b : Nat} (hb : isOb h b) : kAny x h "java/lang/Object" b := by
  obtain ⟨ci, C, T, N, ty, tb, fs, h1, h2, h3⟩ := hb
  exact kAny.of F h1 h2 (kHs.of h3)
/-- objects stay objects -/
theorem isOb.up {h : kH} {b a : Nat} {t t0 : kT} {ci : Nat} {fs fs0 : List Value} (hb : isOb h b) (ha : h a = some (t0, .inl (ci, fs0))) : isOb (kUp h a t (.inl (ci, fs))) b := by
  obtain ⟨ci', C, T, N, ty, tb, fs', h1, h2, h3⟩ := hb
  by_cases z : b = a
  · subst z
    rw [ha] at h3
    cases h3
    exact ⟨ci, C, T, N, ty, t, fs, h1, h2, kUp_self⟩
  · exact ⟨ci', C, T, N, ty, tb, fs', h1, h2, by rw [kUp_ne z]; exact h3⟩
theorem isOb.arr {h : kH} {b a : Nat} {t t0 : kT} {e : kE} {r : Nat × vp_A} (hb : isOb h b) (ha : h a = none ∨ h a = some (t0, .inr (.inl r))) : isOb (kUp h a t e) b := by
  obtain ⟨ci', C, T, N, ty, tb, fs', h1, h2, h3⟩ := hb
  have z : b ≠ a := by
    intro z
    subst z
    rcases ha with ha | ha
    · rw [ha] at h3; cases h3
    · rw [ha] at h3; cases h3
  exact ⟨ci', C, T, N, ty, tb, fs', h1, h2, by rw [kUp_ne z]; exact h3⟩
/-- a list of n references, in an array of cap places -/
def AlR (h : kH) (a e : Nat) (t t' : kT) (n cap : Nat) (q : Nat → Nat) : Prop := ∃ (mc : Int32) (f : Nat → Option Nat), n ≤ cap ∧ cap ≤ 60 ∧ h a = some (t, eO 1 [.int mc, .ref e, .int (nI n)]) ∧ h e = some (t', eQ 4 cap f) ∧ ∀ i, i < n → f i = some (q i)
theorem AlR.keep {S : kT → Prop} {h h' : kH} {a e : Nat} {t t' : kT} {n cap : Nat} {q : Nat → Nat} (hL : AlR h a e t t' n cap q) (hK : kKp S h h') (h1 : ¬ S t) (h2 : ¬ S t') : AlR h' a e t t' n cap q := by
  obtain ⟨mc, f, e1, e2, e3, e4, e5⟩ := hL
  exact ⟨mc, f, e1, e2, hK _ _ _ e3 h1, hK _ _ _ e4 h2, e5⟩
theorem AlR.same {h h' : kH} {a e : Nat} {t t' : kT} {n cap : Nat} {q : Nat → Nat} (hL : AlR h a e t t' n cap q) (hK : kSame h h') : AlR h' a e t t' n cap q := hL.keep (S := fun _ => False) hK.kp id id
set_option maxHeartbeats 4000000 in
set_option maxRecDepth 100000 in
theorem zJ2_init {l : Launch} {g : kG} (S : kStart l g) {h : kH} {a : Nat} {t : kT} (ht : t.1 ≠ 0) (ha : h a = some (t, eO 1 [.int 0, .null, .int 0])) : kMet l g yJ2_init (Cond.code yJ2_init cJ2_init 1 (Option.none : Option Jvm.ClassFile.FieldType)) 3 0 0 [.ref a] h (kN (fun h' => h' a = some (t, eO 1 [.int 0, .null, .int 0]) ∧ ∀ b, b ≠ a → h' b = h b)) := by
  refine kEnter S kd_J2_init (Nat.le_of_ble_eq_true rfl) (fun x F hxl hxg => ?_)
  subst hxl; subst hxg
  have hlv : lv_args 0 [.ref a] = [(0, .ref a)] := rfl
  rw [hlv]
  refine k_aload_n F dJ2_init_0 1 rfl rfl rfl ?_
  refine k_callN F kd_J0_init q228 q150 (kInvI (Bs := []) F q258 q227 q228 rfl dJ2_init_1 rfl (by decide)) (zJ0_init F.st a) 4 rfl (Nat.le_of_ble_eq_true rfl) (by first | exact Nat.le_of_ble_eq_true rfl | omega) (by first | exact Nat.le_of_ble_eq_true rfl | omega) (by first | exact Nat.le_of_ble_eq_true rfl | omega) (by first | exact Nat.le_of_ble_eq_true rfl | omega) (fun h1 hr1 => ?_)
  obtain rfl := hr1
  refine k_aload_n F dJ2_init_4 5 rfl rfl rfl ?_
  refine k_iconst (v := 0) F dJ2_init_5 6 rfl (by decide) ?_
  refine k_put (fs' := [_, _, _]) F kcJ3 0 (by decide) (knJ3 0) q580 (fun _ e => e) rfl dJ2_init_6 9 rfl ha ht rfl rfl (by simp) rfl ?_
  exact k_vret F dJ2_init_9 (by first | exact Nat.le_of_ble_eq_true rfl | omega) (by first | exact Nat.le_of_ble_eq_true rfl | omega) ⟨kUp_self, fun b hb => kUp_ne hb⟩
set_option maxHeartbeats 4000000 in
set_option maxRecDepth 100000 in
theorem zJ3_init {l : Launch} {g : kG} (S : kStart l g) {h : kH} {a : Nat} {t : kT} (t' : kT) (ht : t.1 ≠ 0) (ha : h a = some (t, eO 1 [.int 0, .null, .int 0])) (c : Nat) (hc : 0 < c) (hc2 : c ≤ 60) : kMet l g yJ3_init (Cond.code yJ3_init cJ3_init 2 (Option.none : Option Jvm.ClassFile.FieldType)) 6 1 60 [.ref a, .int (nI c)] h (kN (fun h' => ∃ e, h e = none ∧ (∀ q, AlR h' a e t t' 0 c q) ∧ ∀ x v, x ≠ a → h x = some v → h' x = some v)) := by
  refine kEnter S kd_J3_init (Nat.le_of_ble_eq_true rfl) (fun x F hxl hxg => ?_)
  subst hxl; subst hxg
  have hlv : lv_args 0 [.ref a, .int (nI c)] = [(0, .ref a), (1, .int (nI c))] := rfl
  rw [hlv]
  refine k_aload_n F dJ3_init_0 1 rfl rfl rfl ?_
  refine k_callN F kd_J2_init q257 q153 (kInvI (Bs := []) F q255 q256 q257 rfl dJ3_init_1 rfl (by decide)) (zJ2_init F.st ht ha) 4 rfl (Nat.le_of_ble_eq_true rfl) (by first | exact Nat.le_of_ble_eq_true rfl | omega) (by first | exact Nat.le_of_ble_eq_true rfl | omega) (by first | exact Nat.le_of_ble_eq_true rfl | omega) (by first | exact Nat.le_of_ble_eq_true rfl | omega) (fun h1 hr1 => ?_)
  obtain ⟨ha, hx⟩ := hr1
  refine k_iload_n F dJ3_init_4 5 rfl rfl rfl ?_
  refine k_ifle F dJ3_init_5 8 19 rfl (by decide) (fun c_ => (absurd c_ (by rw [show (0 : Int32) = nI 0 from rfl, nI_leE (by omega) (by omega)]; omega))) (fun _ => ?_)
  refine k_aload_n F dJ3_init_8 9 rfl rfl rfl ?_
  refine k_iload_n F dJ3_init_9 10 rfl rfl rfl ?_
  refine k_newq F dJ3_init_10 13 rfl 4 (by decide) (C := "java/lang/Object") rfl q259 q231 t' (m := c) rfl (by first | decide | omega) (by omega) (by omega) (fun e he => ?_)
  have hea : e ≠ a := fun z => by rw [z, ha] at he; cases he
  refine k_put (fs' := [_, _, _]) F kcJ3 1 (by decide) (knJ3 1) q578 (fun _ e => e) rfl dJ3_init_13 16 rfl (kUp_nw he ha) ht rfl rfl (by simp) rfl ?_
  refine k_goto F dJ3_init_16 60 (by decide) ?_
  exact k_vret F dJ3_init_60 (by first | exact Nat.le_of_ble_eq_true rfl | omega) (by first | exact Nat.le_of_ble_eq_true rfl | omega) ⟨e, by rw [← hx e hea]; exact he, fun q => ⟨0, _, by omega, hc2, kUp_self, by rw [kUp_ne hea]; exact kUp_self, fun i hi => by omega⟩, fun x v hx9 hv => by rw [kUp_ne hx9]; exact kUp_nw he ((hx x hx9).trans hv)⟩
set_option maxHeartbeats 4000000 in
set_option maxRecDepth 100000 in
theorem zJ3_size {l : Launch} {g : kG} (S : kStart l g) {h : kH} {a e : Nat} {t t' : kT} {n cap : Nat} {q : Nat → Nat} (hL : AlR h a e t t' n cap q) : kMet l g yJ3_size (Cond.code yJ3_size cJ3_size 1 (Option.some Jvm.ClassFile.FieldType.int)) 1 0 0 [.ref a] h (mRd h (.int (nI n))) := by
  refine kEnter S kd_J3_size (Nat.le_of_ble_eq_true rfl) (fun x F hxl hxg => ?_)
  subst hxl; subst hxg
  have hlv : lv_args 0 [.ref a] = [(0, .ref a)] := rfl
  rw [hlv]
  obtain ⟨mc, f, e1, e2, e3, e4, e5⟩ := id hL
  refine k_aload_n F dJ3_size_0 1 rfl rfl rfl ?_
  refine k_get F kcJ3 2 (by decide) q579 (fun _ e => e) dJ3_size_1 4 rfl (kHs.of e3) rfl ?_
  exact k_iret F dJ3_size_4 (by first | exact Nat.le_of_ble_eq_true rfl | omega) (by first | exact Nat.le_of_ble_eq_true rfl | omega) ⟨rfl, rfl⟩
set_option maxHeartbeats 4000000 in
set_option maxRecDepth 100000 in
theorem zJ3_isEmpty {l : Launch} {g : kG} (S : kStart l g) {h : kH} {a e : Nat} {t t' : kT} {n cap : Nat} {q : Nat → Nat} (hL : AlR h a e t t' n cap q) : kMet l g yJ3_isEmpty (Cond.code yJ3_isEmpty cJ3_isEmpty 1 (Option.some Jvm.ClassFile.FieldType.boolean)) 1 0 0 [.ref a] h (mRd h (.int (kB (decide (n = 0))))) := by
  refine kEnter S kd_J3_isEmpty (Nat.le_of_ble_eq_true rfl) (fun x F hxl hxg => ?_)
  subst hxl; subst hxg
  have hlv : lv_args 0 [.ref a] = [(0, .ref a)] := rfl
  rw [hlv]
  obtain ⟨mc, f, e1, e2, e3, e4, e5⟩ := id hL
  refine k_aload_n F dJ3_isEmpty_0 1 rfl rfl rfl ?_
  refine k_get F kcJ3 2 (by decide) q579 (fun _ e => e) dJ3_isEmpty_1 4 rfl (kHs.of e3) rfl ?_
  refine k_ifne F dJ3_isEmpty_4 7 11 rfl (by decide) (fun c_z => ?_) (fun c_z => ?_)
  · rw [nI_0E (by omega)] at c_z
    refine k_iconst (v := 0) F dJ3_isEmpty_11 12 rfl (by decide) ?_
    exact k_zret F dJ3_isEmpty_12 (by first | rfl | exact kzb _ | exact pk_nc _ | decide) (by first | exact Nat.le_of_ble_eq_true rfl | omega) (by first | exact Nat.le_of_ble_eq_true rfl | omega) ⟨by rw [decide_eq_false c_z]; rfl, rfl⟩
  · rw [nI_0E (by omega)] at c_z
    refine k_iconst (v := 1) F dJ3_isEmpty_7 8 rfl (by decide) ?_
    refine k_goto F dJ3_isEmpty_8 12 (by decide) ?_
    exact k_zret F dJ3_isEmpty_12 (by first | rfl | exact kzb _ | exact pk_nc _ | decide) (by first | exact Nat.le_of_ble_eq_true rfl | omega) (by first | exact Nat.le_of_ble_eq_true rfl | omega) ⟨by rw [decide_eq_true c_z]; rfl, rfl⟩
set_option maxHeartbeats 4000000 in
set_option maxRecDepth 100000 in
theorem zJ37_checkIndex {l : Launch} {g : kG} (S : kStart l g) {h : kH} (i n : Nat) (hi : i < n) (hn : n < 1000) : kMet l g yJ37_checkIndex (Cond.code yJ37_checkIndex cJ37_checkIndex 2 (Option.some Jvm.ClassFile.FieldType.int)) 2 0 0 [.int (nI i), .int (nI n)] h (mRd h (.int (nI i))) := by
  refine kEnter S kd_J37_checkIndex (Nat.le_of_ble_eq_true rfl) (fun x F hxl hxg => ?_)
  subst hxl; subst hxg
  have hlv : lv_args 0 [.int (nI i), .int (nI n)] = [(0, .int (nI i)), (1, .int (nI n))] := rfl
  rw [hlv]
  refine k_iload_n F dJ37_checkIndex_0 1 rfl rfl rfl ?_
  refine k_iload_n F dJ37_checkIndex_1 2 rfl rfl rfl ?_
  refine k_null F dJ37_checkIndex_2 3 rfl ?_
  refine k_callV F kd_J15_checkIndex q858 q167 (kInvS (Bs := [_, _, _]) F q2517 q857 q167 kd_J15_checkIndex q858 dJ37_checkIndex_3 rfl (by decide)) (zJ15_checkIndexN F.st i n hi (by omega)) 6 rfl (Nat.le_of_ble_eq_true rfl) (by first | exact Nat.le_of_ble_eq_true rfl | omega) (by first | exact Nat.le_of_ble_eq_true rfl | omega) (by first | exact Nat.le_of_ble_eq_true rfl | omega) (by first | exact Nat.le_of_ble_eq_true rfl | omega) (fun r1 h1 hr1 => ?_)
  obtain ⟨rfl, rfl⟩ := hr1
  exact k_iret F dJ37_checkIndex_6 (by first | exact Nat.le_of_ble_eq_true rfl | omega) (by first | exact Nat.le_of_ble_eq_true rfl | omega) ⟨rfl, rfl⟩
set_option maxHeartbeats 4000000 in
set_option maxRecDepth 100000 in
theorem zJ3_elementData {l : Launch} {g : kG} (S : kStart l g) {h : kH} {a e : Nat} {t t' : kT} {n cap : Nat} {q : Nat → Nat} (hL : AlR h a e t t' n cap q) (i : Nat) (hi : i < n) : kMet l g yJ3_elementData (Cond.code yJ3_elementData cJ3_elementData 2 (Option.some (Jvm.ClassFile.FieldType.object "java/lang/Object"))) 1 0 0 [.ref a, .int (nI i)] h (mRd h (.ref (q i))) := by
  refine kEnter S kd_J3_elementData (Nat.le_of_ble_eq_true rfl) (fun x F hxl hxg => ?_)
  subst hxl; subst hxg
  have hlv : lv_args 0 [.ref a, .int (nI i)] = [(0, .ref a), (1, .int (nI i))] := rfl
  rw [hlv]
  obtain ⟨mc, f, e1, e2, e3, e4, e5⟩ := id hL
  refine k_aload_n F dJ3_elementData_0 1 rfl rfl rfl ?_
  refine k_get F kcJ3 1 (by decide) q578 (fun _ e => e) dJ3_elementData_1 4 rfl (kHs.of e3) rfl ?_
  refine k_iload_n F dJ3_elementData_4 5 rfl rfl rfl ?_
  refine k_aald F dJ3_elementData_5 6 rfl (kHs.of e4) (kd := 4) (by decide) (j := i) rfl (by omega) (by omega) ?_
  rw [e5 i hi]
  exact k_aret F dJ3_elementData_6 (Or.inl ⟨_, rfl⟩) (by first | exact Or.inr ⟨_, rfl⟩ | exact Or.inl rfl | exact va_rf_ok _) (by first | exact Nat.le_of_ble_eq_true rfl | omega) (by first | exact Nat.le_of_ble_eq_true rfl | omega) ⟨rfl, rfl⟩
set_option maxHeartbeats 4000000 in
set_option maxRecDepth 100000 in
theorem zJ3_get {l : Launch} {g : kG} (S : kStart l g) {h : kH} {a e : Nat} {t t' : kT} {n cap : Nat} {q : Nat → Nat} (hL : AlR h a e t t' n cap q) (i : Nat) (hi : i < n) : kMet l g yJ3_get (Cond.code yJ3_get cJ3_get 2 (Option.some (Jvm.ClassFile.FieldType.object "java/lang/Object"))) 3 0 0 [.ref a, .int (nI i)] h (mRd h (.ref (q i))) := by
  refine kEnter S kd_J3_get (Nat.le_of_ble_eq_true rfl) (fun x F hxl hxg => ?_)
  subst hxl; subst hxg
  have hlv : lv_args 0 [.ref a, .int (nI i)] = [(0, .ref a), (1, .int (nI i))] := rfl
  rw [hlv]
  obtain ⟨mc, f, e1, e2, e3, e4, e5⟩ := id hL
  refine k_iload_n F dJ3_get_0 1 rfl rfl rfl ?_
  refine k_aload_n F dJ3_get_1 2 rfl rfl rfl ?_
  refine k_get F kcJ3 2 (by decide) q579 (fun _ e => e) dJ3_get_2 5 rfl (kHs.of e3) rfl ?_
  refine k_callV F kd_J37_checkIndex q2516 q205 (kInvS (Bs := [_, _]) F q2514 q2515 q205 kd_J37_checkIndex q2516 dJ3_get_5 rfl (by decide)) (zJ37_checkIndex F.st i n hi (by omega)) 8 rfl (Nat.le_of_ble_eq_true rfl) (by first | exact Nat.le_of_ble_eq_true rfl | omega) (by first | exact Nat.le_of_ble_eq_true rfl | omega) (by first | exact Nat.le_of_ble_eq_true rfl | omega) (by first | exact Nat.le_of_ble_eq_true rfl | omega) (fun r1 h1 hr1 => ?_)
  obtain ⟨rfl, rfl⟩ := hr1
  refine k_pop F dJ3_get_8 9 rfl rfl ?_
  refine k_aload_n F dJ3_get_9 10 rfl rfl rfl ?_
  refine k_iload_n F dJ3_get_10 11 rfl rfl rfl ?_
  refine k_callV F kd_J3_elementData q2521 q154 (kInvV (Bs := [_]) F kcJ3 q2518 q2519 q2520 kd_J3_elementData q2521 dJ3_get_11 (kHs.of e3) rfl (by decide)) (zJ3_elementData F.st hL i hi) 14 rfl (Nat.le_of_ble_eq_true rfl) (by first | exact Nat.le_of_ble_eq_true rfl | omega) (by first | exact Nat.le_of_ble_eq_true rfl | omega) (by first | exact Nat.le_of_ble_eq_true rfl | omega) (by first | exact Nat.le_of_ble_eq_true rfl | omega) (fun r2 h2 hr2 => ?_)
  obtain ⟨rfl, rfl⟩ := hr2
  exact k_aret F dJ3_get_14 (Or.inl ⟨_, rfl⟩) (by first | exact Or.inr ⟨_, rfl⟩ | exact Or.inl rfl | exact va_rf_ok _) (by first | exact Nat.le_of_ble_eq_true rfl | omega) (by first | exact Nat.le_of_ble_eq_true rfl | omega) ⟨rfl, rfl⟩
theorem iMax_nI {a b : Nat} (ha : a < 2 ^ 31) (hb : b < 2 ^ 31) : iMax (nI a) (nI b) = nI (max a b) := by
  unfold iMax
  by_cases z : b ≤ a
  · rw [if_pos (by rw [nI_leE hb ha]; exact z), Nat.max_eq_left z]
  · rw [if_neg (by rw [nI_leE hb ha]; exact z), Nat.max_eq_right (by omega)]
set_option maxHeartbeats 4000000 in
set_option maxRecDepth 100000 in
theorem zJ12_newLength {l : Launch} {g : kG} (S : kStart l g) {h : kH} (o mi pr : Nat) (h1 : o < 1000) (h2 : 0 < mi) (h3 : mi < 1000) (h4 : pr < 1000) : kMet l g yJ12_newLength (Cond.code yJ12_newLength cJ12_newLength 4 (Option.some Jvm.ClassFile.FieldType.int)) 3 0 0 [.int (nI o), .int (nI mi), .int (nI pr)] h (mRd h (.int (nI (o + max mi pr)))) := by
  refine kEnter S kd_J12_newLength (Nat.le_of_ble_eq_true rfl) (fun x F hxl hxg => ?_)
  subst hxl; subst hxg
  have hlv : lv_args 0 [.int (nI o), .int (nI mi), .int (nI pr)] = [(0, .int (nI o)), (1, .int (nI mi)), (2, .int (nI pr))] := rfl
  rw [hlv]
  refine k_iload_n F dJ12_newLength_0 1 rfl rfl rfl ?_
  refine k_iload_n F dJ12_newLength_1 2 rfl rfl rfl ?_
  refine k_iload_n F dJ12_newLength_2 3 rfl rfl rfl ?_
  refine k_callV F kd_J13_max q362 q164 (kInvS (Bs := [_, _]) F q360 q361 q164 kd_J13_max q362 dJ12_newLength_3 rfl (by decide)) (zJ13_max F.st _ _) 6 rfl (Nat.le_of_ble_eq_true rfl) (by first | exact Nat.le_of_ble_eq_true rfl | omega) (by first | exact Nat.le_of_ble_eq_true rfl | omega) (by first | exact Nat.le_of_ble_eq_true rfl | omega) (by first | exact Nat.le_of_ble_eq_true rfl | omega) (fun r1 h1 hr1 => ?_)
  obtain ⟨rfl, rfl⟩ := hr1
  rw [iMax_nI (by omega) (by omega)]
  refine k_iadd F dJ12_newLength_6 7 rfl ?_
  refine k_topi (b := nI (o + max mi pr)) (nI_add ..) ?_
  refine k_istore_n (lv' := [(0, _), (1, _), (2, _), (3, _)]) F dJ12_newLength_7 8 rfl rfl (Nat.le_of_ble_eq_true rfl) rfl rfl rfl ?_
  refine k_iconst (v := 0) F dJ12_newLength_8 9 rfl (by decide) ?_
  refine k_iload_n F dJ12_newLength_9 10 rfl rfl rfl ?_
  refine k_icmpge F dJ12_newLength_10 13 21 rfl (by decide) (fun c_ => (absurd c_ (by rw [show (0 : Int32) = nI 0 from rfl, nI_leE (by omega) (by omega)]; omega))) (fun _ => ?_)
  refine k_iload_n F dJ12_newLength_13 14 rfl rfl rfl ?_
  refine k_ldc F dJ12_newLength_14 16 rfl q363 ?_
  refine k_icmpgt F dJ12_newLength_16 19 21 rfl (by decide) (fun c_ => (absurd c_ (by rw [show (2147483639 : Int32) = nI 2147483639 from rfl, nI_ltE (by omega) (by omega)]; omega))) (fun _ => ?_)
  refine k_iload_n F dJ12_newLength_19 20 rfl rfl rfl ?_
  exact k_iret F dJ12_newLength_20 (by first | exact Nat.le_of_ble_eq_true rfl | omega) (by first | exact Nat.le_of_ble_eq_true rfl | omega) ⟨rfl, rfl⟩
set_option maxHeartbeats 4000000 in
set_option maxRecDepth 100000 in
theorem zJ14_copyOf_3 {l : Launch} {g : kG} (S : kStart l g) {h : kH} {e : Nat} {t' : kT} {cap : Nat} {f : Nat → Option Nat} (he : h e = some (t', eQ 4 cap f)) (tn : kT) (hn : tn.1 ≠ 0) (m : Nat) (hm : cap ≤ m) (hm2 : m ≤ 60) (hel : ∀ i, i < cap → ∀ b, f i = some b → isOb h b) {mi : Nat} (hmi : va_Mi "[Ljava/lang/Object;" mi g.U) : kMet l g yJ14_copyOf_3 (Cond.code yJ14_copyOf_3 cJ14_copyOf_3 4 (Option.some (Jvm.ClassFile.FieldType.array (Jvm.ClassFile.FieldType.object "java/lang/Object")))) 4 1 60 [.ref e, .int (nI m), .ref mi] h (kV (fun v h' => ∃ (e2 : Nat) (f2 : Nat → Option Nat), v = .ref e2 ∧ h e2 = none ∧ h' e2 = some (tn, eQ 4 m f2) ∧ (∀ i, i < cap → f2 i = f i) ∧ kSame h h')) := by
  refine kEnter S kd_J14_copyOf_3 (Nat.le_of_ble_eq_true rfl) (fun x F hxl hxg => ?_)
  subst hxl; subst hxg
  have hlv : lv_args 0 [.ref e, .int (nI m), .ref mi] = [(0, .ref e), (1, .int (nI m)), (2, .ref mi)] := rfl
  rw [hlv]
  refine k_aload_n F dJ14_copyOf_3_0 1 rfl rfl rfl ?_
  refine k_ldcM F q1883 hmi dJ14_copyOf_3_1 3 rfl ?_
  refine k_acmpne (a := some mi) (b := some mi) F dJ14_copyOf_3_3 6 13 rfl (by decide) (fun c_ => absurd rfl c_) (fun _ => ?_)
  refine k_iload_n F dJ14_copyOf_3_6 7 rfl rfl rfl ?_
  refine k_newq F dJ14_copyOf_3_7 10 rfl 4 (by decide) (C := "java/lang/Object") rfl q1884 q231 tn (m := m) rfl (by first | decide | omega) (by omega) (by omega) (fun e2 g2 => ?_)
  have hne : e2 ≠ e := fun z => by rw [z, he] at g2; cases g2
  refine k_goto F dJ14_copyOf_3_10 24 (by decide) ?_
  refine k_astore_n (lv' := [(0, _), (1, _), (2, _), (3, _)]) F dJ14_copyOf_3_24 25 rfl rfl (Nat.le_of_ble_eq_true rfl) rfl rfl rfl ?_
  refine k_aload_n F dJ14_copyOf_3_25 26 rfl rfl rfl ?_
  refine k_iconst (v := 0) F dJ14_copyOf_3_26 27 rfl (by decide) ?_
  refine k_aload_n F dJ14_copyOf_3_27 28 rfl rfl rfl ?_
  refine k_iconst (v := 0) F dJ14_copyOf_3_28 29 rfl (by decide) ?_
  refine k_aload_n F dJ14_copyOf_3_29 30 rfl rfl rfl ?_
  refine k_alen F dJ14_copyOf_3_30 31 rfl (kHs.of (kUp_nw g2 he)) (by decide) (fun cA => vp_arr' cA _ _) ?_
  refine kW.keep (lv' := [(0, _), (1, _), (2, _), (3, _)]) [0, 1, 2, 3] rfl ?_
  refine kW.gen (fun h' => kSame h h' ∧ h' e2 = some (tn, eQ 4 m (fun _ => none)) ∧ ∀ i, i < cap → ∀ b, f i = some b → isOb h' b) ⟨kSame.new g2, kUp_self, fun i hi b hb => (hel i hi b hb).arr (t0 := tn) (r := (4, m, .inr (.inr (.inr (.inr (fun _ => none)))))) (Or.inl g2)⟩ (fun h9 H9 => ?_)
  obtain ⟨hS, f1, hel9⟩ := H9
  refine k_iload_n F dJ14_copyOf_3_31 32 rfl rfl rfl ?_
  refine k_callV F kd_J13_min q380 q164 (kInvS (Bs := [_, _]) F q378 q379 q164 kd_J13_min q380 dJ14_copyOf_3_32 rfl (by decide)) (zJ13_min F.st _ _) 35 rfl (Nat.le_of_ble_eq_true rfl) (by first | exact Nat.le_of_ble_eq_true rfl | omega) (by first | exact Nat.le_of_ble_eq_true rfl | omega) (by first | exact Nat.le_of_ble_eq_true rfl | omega) (by first | exact Nat.le_of_ble_eq_true rfl | omega) (fun r1 h1 hr1 => ?_)
  obtain ⟨rfl, rfl⟩ := hr1
  rw [iMin_nI (by omega) (by omega), Nat.min_eq_left hm]
  refine k_copyQ F q381 q383 q382 q166 (kHs.of (hS _ _ he)) f1 hn (sp := 0) (dp := 0) (m := cap) (by omega) (by omega) (by omega) (by omega) (fun i hi b hb => (hel9 i hi b (by rw [← hb, Nat.zero_add])).any F) dJ14_copyOf_3_35 38 rfl (by omega) (Nat.le_of_ble_eq_true rfl) rfl rfl rfl ?_
  refine k_aload_n F dJ14_copyOf_3_38 39 rfl rfl rfl ?_
  exact k_aret F dJ14_copyOf_3_39 (Or.inr ⟨_, rfl⟩) (by first | exact Or.inr ⟨_, rfl⟩ | exact Or.inl rfl | exact va_rf_ok _) (by first | exact Nat.le_of_ble_eq_true rfl | omega) (by first | exact Nat.le_of_ble_eq_true rfl | omega) ⟨e2, _, rfl, g2, kUp_self, fun i hi => by simp [va_cpy, hi], hS.upN g2 f1⟩
set_option maxHeartbeats 4000000 in
set_option maxRecDepth 100000 in
theorem zJ14_copyOf_2 {l : Launch} {g : kG} (S : kStart l g) {h : kH} {e : Nat} {t' : kT} {cap : Nat} {f : Nat → Option Nat} (he : h e = some (t', eQ 4 cap f)) (tn : kT) (hn : tn.1 ≠ 0) (m : Nat) (hm : cap ≤ m) (hm2 : m ≤ 60) (hel : ∀ i, i < cap → ∀ b, f i = some b → isOb h b) : kMet l g yJ14_copyOf_2 (Cond.code yJ14_copyOf_2 cJ14_copyOf_2 2 (Option.some (Jvm.ClassFile.FieldType.array (Jvm.ClassFile.FieldType.object "java/lang/Object")))) 5 1 60 [.ref e, .int (nI m)] h (kV (fun v h' => ∃ (e2 : Nat) (f2 : Nat → Option Nat), v = .ref e2 ∧ h e2 = none ∧ h' e2 = some (tn, eQ 4 m f2) ∧ (∀ i, i < cap → f2 i = f i) ∧ kSame h h')) := by
  refine kEnter S kd_J14_copyOf_2 (Nat.le_of_ble_eq_true rfl) (fun x F hxl hxg => ?_)
  subst hxl; subst hxg
  have hlv : lv_args 0 [.ref e, .int (nI m)] = [(0, .ref e), (1, .int (nI m))] := rfl
  rw [hlv]
  obtain ⟨mi, hmi⟩ := sm_objs F.st
  refine k_aload_n F dJ14_copyOf_2_0 1 rfl rfl rfl ?_
  refine k_iload_n F dJ14_copyOf_2_1 2 rfl rfl rfl ?_
  refine k_aload_n F dJ14_copyOf_2_2 3 rfl rfl rfl ?_
  refine k_getC F q1879 q4128 q4127 q1025 q1061 hmi dJ14_copyOf_2_3 6 rfl he (by omega) (Nat.le_of_ble_eq_true rfl) ?_
  refine k_callV F kd_J14_copyOf_3 q1882 q165 (kInvS (Bs := [_, _, _]) F q1880 q1881 q165 kd_J14_copyOf_3 q1882 dJ14_copyOf_2_6 rfl (by decide)) (zJ14_copyOf_3 F.st he tn hn m hm hm2 hel hmi) 9 rfl (Nat.le_of_ble_eq_true rfl) (by first | exact Nat.le_of_ble_eq_true rfl | omega) (by first | exact Nat.le_of_ble_eq_true rfl | omega) (by first | exact Nat.le_of_ble_eq_true rfl | omega) (by first | exact Nat.le_of_ble_eq_true rfl | omega) (fun r1 h1 hr1 => ?_)
  obtain ⟨e2, f2, rfl, g1, g2, g3, g4⟩ := hr1
  exact k_aret F dJ14_copyOf_2_9 (Or.inr ⟨_, rfl⟩) (by first | exact Or.inr ⟨_, rfl⟩ | exact Or.inl rfl | exact va_rf_ok _) (by first | exact Nat.le_of_ble_eq_true rfl | omega) (by first | exact Nat.le_of_ble_eq_true rfl | omega) ⟨e2, f2, rfl, g1, g2, g3, g4⟩
theorem al_sh : ∀ c, c < 61 → (nI c) >>> ((1 : Int32) &&& 31) = nI (c / 2) := by decide +kernel
set_option maxHeartbeats 4000000 in
set_option maxRecDepth 100000 in
theorem zJ3_grow_2 {l : Launch} {g : kG} (S : kStart l g) {h : kH} {a e : Nat} {t t' : kT} {n : Nat} {q : Nat → Nat} (hL : AlR h a e t t' n n q) (ht : t.1 ≠ 0) (tn : kT) (hn : tn.1 ≠ 0) (h0 : 0 < n) (h40 : n ≤ 40) (hob : ∀ i, i < n → isOb h (q i)) : kMet l g yJ3_grow_2 (Cond.code yJ3_grow_2 cJ3_grow_2 4 (Option.some (Jvm.ClassFile.FieldType.array (Jvm.ClassFile.FieldType.object "java/lang/Object")))) 6 1 60 [.ref a, .int (nI (n + 1))] h (kV (fun v h' => ∃ e2, v = .ref e2 ∧ h e2 = none ∧ AlR h' a e2 t tn n (n + max 1 (n / 2)) q ∧ ∀ x v, x ≠ a → h x = some v → h' x = some v)) := by
  refine kEnter S kd_J3_grow_2 (Nat.le_of_ble_eq_true rfl) (fun x F hxl hxg => ?_)
  subst hxl; subst hxg
  have hlv : lv_args 0 [.ref a, .int (nI (n + 1))] = [(0, .ref a), (1, .int (nI (n + 1)))] := rfl
  rw [hlv]
  obtain ⟨mc, f, e1, e2, e3, e4, e5⟩ := id hL
  refine k_aload_n F dJ3_grow_2_0 1 rfl rfl rfl ?_
  refine k_get F kcJ3 1 (by decide) q578 (fun _ e => e) dJ3_grow_2_1 4 rfl (kHs.of e3) rfl ?_
  refine k_alen F dJ3_grow_2_4 5 rfl (kHs.of e4) (by decide) (fun cA => vp_arr' cA _ _) ?_
  refine k_istore_n (lv' := [(0, _), (1, _), (2, _)]) F dJ3_grow_2_5 6 rfl rfl (Nat.le_of_ble_eq_true rfl) rfl rfl rfl ?_
  refine k_iload_n F dJ3_grow_2_6 7 rfl rfl rfl ?_
  refine k_ifgt F dJ3_grow_2_7 10 20 rfl (by decide) (fun _ => ?_) (fun c_ => (absurd (by rw [show (0 : Int32) = nI 0 from rfl, nI_ltE (by omega) (by omega)]; exact h0) c_))
  refine k_iload_n F dJ3_grow_2_20 21 rfl rfl rfl ?_
  refine k_iload_n F dJ3_grow_2_21 22 rfl rfl rfl ?_
  refine k_iload_n F dJ3_grow_2_22 23 rfl rfl rfl ?_
  refine k_isub F dJ3_grow_2_23 24 rfl ?_
  refine k_topi (b := nI 1) (by rw [pk_sub (by omega)]; congr 1; omega) ?_
  refine k_iload_n F dJ3_grow_2_24 25 rfl rfl rfl ?_
  refine k_iconst (v := 1) F dJ3_grow_2_25 26 rfl (by decide) ?_
  refine k_ishr F dJ3_grow_2_26 27 rfl ?_
  refine k_topi (b := nI (n / 2)) (al_sh n (by omega)) ?_
  refine k_callV F kd_J12_newLength q359 q163 (kInvS (Bs := [_, _, _]) F q1875 q358 q163 kd_J12_newLength q359 dJ3_grow_2_27 rfl (by decide)) (zJ12_newLength F.st n 1 (n / 2) (by omega) (by omega) (by omega) (by omega)) 30 rfl (Nat.le_of_ble_eq_true rfl) (by first | exact Nat.le_of_ble_eq_true rfl | omega) (by first | exact Nat.le_of_ble_eq_true rfl | omega) (by first | exact Nat.le_of_ble_eq_true rfl | omega) (by first | exact Nat.le_of_ble_eq_true rfl | omega) (fun r1 h1 hr1 => ?_)
  obtain ⟨rfl, rfl⟩ := hr1
  refine k_istore_n (lv' := [(0, _), (1, _), (2, _), (3, _)]) F dJ3_grow_2_30 31 rfl rfl (Nat.le_of_ble_eq_true rfl) rfl rfl rfl ?_
  refine k_aload_n F dJ3_grow_2_31 32 rfl rfl rfl ?_
  refine k_aload_n F dJ3_grow_2_32 33 rfl rfl rfl ?_
  refine k_get F kcJ3 1 (by decide) q578 (fun _ e => e) dJ3_grow_2_33 36 rfl (kHs.of e3) rfl ?_
  refine k_iload_n F dJ3_grow_2_36 37 rfl rfl rfl ?_
  refine k_callV F kd_J14_copyOf_2 q1878 q165 (kInvS (Bs := [_, _]) F q1876 q1877 q165 kd_J14_copyOf_2 q1878 dJ3_grow_2_37 rfl (by decide)) (zJ14_copyOf_2 F.st e4 tn hn (n + max 1 (n / 2)) (by omega) (by omega) (fun i hi b hb => by rw [e5 i hi] at hb; cases hb; exact hob i hi)) 40 rfl (Nat.le_of_ble_eq_true rfl) (by first | exact Nat.le_of_ble_eq_true rfl | omega) (by first | exact Nat.le_of_ble_eq_true rfl | omega) (by first | exact Nat.le_of_ble_eq_true rfl | omega) (by first | exact Nat.le_of_ble_eq_true rfl | omega) (fun r2 h2 hr2 => ?_)
  obtain ⟨x2, f2, rfl, g1, g2, g3, g4⟩ := hr2
  refine k_dup_x1 F dJ3_grow_2_40 41 rfl rfl rfl ?_
  have hxa : x2 ≠ a := fun z => by rw [z, e3] at g1; cases g1
  refine k_put (fs' := [_, _, _]) F kcJ3 1 (by decide) (knJ3 1) q578 (fun _ e => e) rfl dJ3_grow_2_41 44 rfl (g4 _ _ e3) ht rfl rfl (by simp) rfl ?_
  exact k_aret F dJ3_grow_2_44 (Or.inr ⟨_, rfl⟩) (by first | exact Or.inr ⟨_, rfl⟩ | exact Or.inl rfl | exact va_rf_ok _) (by first | exact Nat.le_of_ble_eq_true rfl | omega) (by first | exact Nat.le_of_ble_eq_true rfl | omega) ⟨x2, rfl, g1, ⟨mc, f2, by omega, by omega, kUp_self, by rw [kUp_ne hxa]; exact g2, fun i hi => (g3 i hi).trans (e5 i hi)⟩, fun x v hx hv => by rw [kUp_ne hx]; exact g4 _ _ hv⟩
set_option maxHeartbeats 4000000 in
set_option maxRecDepth 100000 in
theorem zJ3_grow {l : Launch} {g : kG} (S : kStart l g) {h : kH} {a e : Nat} {t t' : kT} {n : Nat} {q : Nat → Nat} (hL : AlR h a e t t' n n q) (ht : t.1 ≠ 0) (tn : kT) (hn : tn.1 ≠ 0) (h0 : 0 < n) (h40 : n ≤ 40) (hob : ∀ i, i < n → isOb h (q i)) : kMet l g yJ3_grow (Cond.code yJ3_grow cJ3_grow 1 (Option.some (Jvm.ClassFile.FieldType.array (Jvm.ClassFile.FieldType.object "java/lang/Object")))) 7 1 60 [.ref a] h (kV (fun v h' => ∃ e2, v = .ref e2 ∧ h e2 = none ∧ AlR h' a e2 t tn n (n + max 1 (n / 2)) q ∧ ∀ x v, x ≠ a → h x = some v → h' x = some v)) := by
  refine kEnter S kd_J3_grow (Nat.le_of_ble_eq_true rfl) (fun x F hxl hxg => ?_)
  subst hxl; subst hxg
  have hlv : lv_args 0 [.ref a] = [(0, .ref a)] := rfl
  rw [hlv]
  obtain ⟨mc, f, e1, e2, e3, e4, e5⟩ := id hL
  refine k_aload_n F dJ3_grow_0 1 rfl rfl rfl ?_
  refine k_aload_n F dJ3_grow_1 2 rfl rfl rfl ?_
  refine k_get F kcJ3 2 (by decide) q579 (fun _ e => e) dJ3_grow_2 5 rfl (kHs.of e3) rfl ?_
  refine k_iconst (v := 1) F dJ3_grow_5 6 rfl (by decide) ?_
  refine k_iadd F dJ3_grow_6 7 rfl ?_
  refine k_topi (b := nI (n + 1)) nI_1' ?_
  refine k_callV F kd_J3_grow_2 q1872 q154 (kInvV (Bs := [_]) F kcJ3 q1869 q1871 qs18 kd_J3_grow_2 q1872 dJ3_grow_7 (kHs.of e3) rfl (by decide)) (zJ3_grow_2 F.st hL ht tn hn h0 h40 hob) 10 rfl (Nat.le_of_ble_eq_true rfl) (by first | exact Nat.le_of_ble_eq_true rfl | omega) (by first | exact Nat.le_of_ble_eq_true rfl | omega) (by first | exact Nat.le_of_ble_eq_true rfl | omega) (by first | exact Nat.le_of_ble_eq_true rfl | omega) (fun r1 h1 hr1 => ?_)
  obtain ⟨x2, rfl, g1, g2, g3⟩ := hr1
  exact k_aret F dJ3_grow_10 (Or.inr ⟨_, rfl⟩) (by first | exact Or.inr ⟨_, rfl⟩ | exact Or.inl rfl | exact va_rf_ok _) (by first | exact Nat.le_of_ble_eq_true rfl | omega) (by first | exact Nat.le_of_ble_eq_true rfl | omega) ⟨x2, rfl, g1, g2, g3⟩
theorem isOb.eq {h h' : kH} {b : Nat} (hb : isOb h b) (e : ∀ v, h b = some v → h' b = some v) : isOb h' b := by
  obtain ⟨ci', C, T, N, ty, tb, fs', h1, h2, h3⟩ := hb
  exact ⟨ci', C, T, N, ty, tb, fs', h1, h2, e _ h3⟩
set_option maxHeartbeats 4000000 in
set_option maxRecDepth 100000 in
theorem zJ3_add_2 {l : Launch} {g : kG} (S : kStart l g) {h : kH} {a e b : Nat} {t t' : kT} {n cap : Nat} {q : Nat → Nat} (hL : AlR h a e t t' n cap q) (ht : t.1 ≠ 0) (ht' : t'.1 ≠ 0) (hne : t ≠ t') (tn : kT) (hn : tn.1 ≠ 0) (hnt : t ≠ tn) (hcap : n < cap ∨ n = cap ∧ 0 < n ∧ n ≤ 40) (hob : ∀ i, i < n → isOb h (q i)) (hb : isOb h b) : kMet l g yJ3_add_2 (Cond.code yJ3_add_2 cJ3_add_2 4 (Option.none : Option Jvm.ClassFile.FieldType)) 8 1 60 [.ref a, .ref b, .ref e, .int (nI n)] h (kN (fun h' => ∃ e2 t2 cap2, (e2 = e ∧ t2 = t' ∧ cap2 = cap ∨ h e2 = none ∧ t2 = tn ∧ n = cap ∧ cap2 = n + max 1 (n / 2)) ∧ AlR h' a e2 t t2 (n + 1) cap2 (fun i => if i = n then b else q i) ∧ kKp (fun s => s = t ∨ s = t') h h')) := by
  refine kEnter S kd_J3_add_2 (Nat.le_of_ble_eq_true rfl) (fun x F hxl hxg => ?_)
  subst hxl; subst hxg
  have hlv : lv_args 0 [.ref a, .ref b, .ref e, .int (nI n)] = [(0, .ref a), (1, .ref b), (2, .ref e), (3, .int (nI n))] := rfl
  rw [hlv]
  obtain ⟨mc, f, e1, e2, e3, e4, e5⟩ := id hL
  have hae : a ≠ e := fun z => by subst z; rw [e3] at e4; cases e4
  refine k_iload_n F dJ3_add_2_0 1 rfl rfl rfl ?_
  refine k_aload_n F dJ3_add_2_1 2 rfl rfl rfl ?_
  refine k_alen F dJ3_add_2_2 3 rfl (kHs.of e4) (by decide) (fun cA => vp_arr' cA _ _) ?_
  rcases hcap with hc | ⟨rfl, h0, h40⟩
  · have hB : kAny x h "java/lang/Object" b := hb.any F
    refine k_icmpne F dJ3_add_2_3 6 11 rfl (by decide) (fun _ => ?_) (fun c_ => (absurd c_ (by rw [nI_inj (by omega) (by omega)]; omega)))
    refine k_aload_n F dJ3_add_2_11 12 rfl rfl rfl ?_
    refine k_iload_n F dJ3_add_2_12 13 rfl rfl rfl ?_
    refine k_aload_n F dJ3_add_2_13 14 rfl rfl rfl ?_
    refine k_aast F dJ3_add_2_14 15 rfl e4 (by decide) ht' (j := n) rfl hc (by omega) (hB.aast rfl) ?_
    refine kW.gen (fun h' => h' a = some (t, eO 1 [.int mc, .ref e, .int (nI n)]) ∧ h' e = some (t', eQ 4 cap (va_up f n (some b))) ∧ kKp (fun s => s = t ∨ s = t') h h') ⟨kUp_tag e4 e3 (Ne.symm hne), kUp_self, kKp.up e4 (Or.inr rfl)⟩ (fun h9 H9 => ?_)
    obtain ⟨e3, e4, hK⟩ := H9
    refine k_aload_n F dJ3_add_2_15 16 rfl rfl rfl ?_
    refine k_iload_n F dJ3_add_2_16 17 rfl rfl rfl ?_
    refine k_iconst (v := 1) F dJ3_add_2_17 18 rfl (by decide) ?_
    refine k_iadd F dJ3_add_2_18 19 rfl ?_
    refine k_topi (b := nI (n + 1)) nI_1' ?_
    refine k_put (fs' := [_, _, _]) F kcJ3 2 (by decide) (knJ3 2) q579 (fun _ e => e) rfl dJ3_add_2_19 22 rfl e3 ht rfl rfl (by simp) rfl ?_
    exact k_vret F dJ3_add_2_22 (by first | exact Nat.le_of_ble_eq_true rfl | omega) (by first | exact Nat.le_of_ble_eq_true rfl | omega) ⟨e, t', cap, Or.inl ⟨rfl, rfl, rfl⟩, ⟨mc, _, by omega, e2, kUp_self, kUp_tag e3 e4 hne, fun i hi => by
      by_cases z : i = n
      · rw [z, va_up_self]
        exact congrArg some (if_pos rfl).symm
      · rw [va_up_ne _ _ z]
        exact (e5 i (by omega)).trans (congrArg some (if_neg z).symm)⟩, hK.tr (kKp.up e3 (Or.inl rfl))⟩
  · refine k_icmpne F dJ3_add_2_3 6 11 rfl (by decide) (fun c_ => (absurd rfl c_)) (fun _ => ?_)
    refine k_aload_n F dJ3_add_2_6 7 rfl rfl rfl ?_
    refine k_callV F kd_J3_grow q1868 q154 (kInvV (Bs := []) F kcJ3 q1865 q1867 qs17 kd_J3_grow q1868 dJ3_add_2_7 (kHs.of e3) rfl (by decide)) (zJ3_grow F.st hL ht tn hn h0 h40 hob) 10 rfl (Nat.le_of_ble_eq_true rfl) (by first | exact Nat.le_of_ble_eq_true rfl | omega) (by first | exact Nat.le_of_ble_eq_true rfl | omega) (by first | exact Nat.le_of_ble_eq_true rfl | omega) (by first | exact Nat.le_of_ble_eq_true rfl | omega) (fun r1 h1 hr1 => ?_)
    obtain ⟨x2, rfl, g1, g2, g3⟩ := hr1
    obtain ⟨mc2, f2, d1, d2, d3, d4, d5⟩ := id g2
    have hba : b ≠ x2 := fun z => by
      obtain ⟨ci', C, T, N, ty, tb, fs', h1, h2, h3⟩ := hb
      rw [z, g1] at h3
      cases h3
    have hb2 : isOb h1 b := by
      by_cases z : b = a
      · exact ⟨1, _, _, _, _, t, _, kcJ3, q4093, by rw [z]; exact d3⟩
      · exact hb.eq (fun v hv => g3 b v z hv)
    have hB := hb2.any F
    refine k_astore_n (lv' := [(0, _), (1, _), (2, _), (3, _)]) F dJ3_add_2_10 11 rfl rfl (Nat.le_of_ble_eq_true rfl) rfl rfl rfl ?_
    refine k_aload_n F dJ3_add_2_11 12 rfl rfl rfl ?_
    refine k_iload_n F dJ3_add_2_12 13 rfl rfl rfl ?_
    refine k_aload_n F dJ3_add_2_13 14 rfl rfl rfl ?_
    refine k_aast F dJ3_add_2_14 15 rfl d4 (by decide) hn (j := n) rfl (by omega) (by omega) (hB.aast rfl) ?_
    refine kW.gen (fun h' => h' a = some (t, eO 1 [.int mc2, .ref x2, .int (nI n)]) ∧ h' x2 = some (tn, eQ 4 (n + max 1 (n / 2)) (va_up f2 n (some b))) ∧ ∀ x v, x ≠ a → h x = some v → h' x = some v) ⟨kUp_tag d4 d3 (Ne.symm hnt), kUp_self, fun x v hx hv => by rw [kUp_ne (fun z => by rw [z, g1] at hv; cases hv)]; exact g3 x v hx hv⟩ (fun h9 H9 => ?_)
    obtain ⟨d3, d4, g3⟩ := H9
    refine k_aload_n F dJ3_add_2_15 16 rfl rfl rfl ?_
    refine k_iload_n F dJ3_add_2_16 17 rfl rfl rfl ?_
    refine k_iconst (v := 1) F dJ3_add_2_17 18 rfl (by decide) ?_
    refine k_iadd F dJ3_add_2_18 19 rfl ?_
    refine k_topi (b := nI (n + 1)) nI_1' ?_
    refine k_put (fs' := [_, _, _]) F kcJ3 2 (by decide) (knJ3 2) q579 (fun _ e => e) rfl dJ3_add_2_19 22 rfl d3 ht rfl rfl (by simp) rfl ?_
    exact k_vret F dJ3_add_2_22 (by first | exact Nat.le_of_ble_eq_true rfl | omega) (by first | exact Nat.le_of_ble_eq_true rfl | omega) ⟨x2, tn, _, Or.inr ⟨g1, rfl, rfl, rfl⟩, ⟨mc2, _, by omega, d2, kUp_self, kUp_tag d3 d4 hnt, fun i hi => by
      by_cases z : i = n
      · rw [z, va_up_self]
        exact congrArg some (if_pos rfl).symm
      · rw [va_up_ne _ _ z]
        exact (d5 i (by omega)).trans (congrArg some (if_neg z).symm)⟩, fun x s v hv hs => by
      have hx : x ≠ a := fun z => by rw [z, e3] at hv; cases hv; exact hs (Or.inl rfl)
      rw [kUp_ne hx]
      exact g3 x _ hx hv⟩
set_option maxHeartbeats 4000000 in
set_option maxRecDepth 100000 in
theorem zJ3_add {l : Launch} {g : kG} (S : kStart l g) {h : kH} {a e b : Nat} {t t' : kT} {n cap : Nat} {q : Nat → Nat} (hL : AlR h a e t t' n cap q) (ht : t.1 ≠ 0) (ht' : t'.1 ≠ 0) (hne : t ≠ t') (tn : kT) (hn : tn.1 ≠ 0) (hnt : t ≠ tn) (hcap : n < cap ∨ n = cap ∧ 0 < n ∧ n ≤ 40) (hob : ∀ i, i < n → isOb h (q i)) (hb : isOb h b) : kMet l g yJ3_add (Cond.code yJ3_add cJ3_add 2 (Option.some Jvm.ClassFile.FieldType.boolean)) 9 1 60 [.ref a, .ref b] h (kV (fun v h' => v = .int 1 ∧ (∃ e2 t2 cap2, (e2 = e ∧ t2 = t' ∧ cap2 = cap ∨ h e2 = none ∧ t2 = tn ∧ n = cap ∧ cap2 = n + max 1 (n / 2)) ∧ AlR h' a e2 t t2 (n + 1) cap2 (fun i => if i = n then b else q i)) ∧ kKp (fun s => s = t ∨ s = t') h h')) := by
  refine kEnter S kd_J3_add (Nat.le_of_ble_eq_true rfl) (fun x F hxl hxg => ?_)
  subst hxl; subst hxg
  have hlv : lv_args 0 [.ref a, .ref b] = [(0, .ref a), (1, .ref b)] := rfl
  rw [hlv]
  obtain ⟨mc, f, e1, e2, e3, e4, e5⟩ := id hL
  refine k_aload_n F dJ3_add_0 1 rfl rfl rfl ?_
  refine k_dup F dJ3_add_1 2 rfl rfl ?_
  refine k_get F kcJ3 0 (by decide) q581 (fun _ e => u_same (F.w q582) _ e) dJ3_add_2 5 rfl (kHs.of e3) rfl ?_
  refine k_iconst (v := 1) F dJ3_add_5 6 rfl (by decide) ?_
  refine k_iadd F dJ3_add_6 7 rfl ?_
  refine k_put (fs' := [_, _, _]) F kcJ3 0 (by decide) (knJ3 0) q581 (fun _ e => u_same (F.w q582) _ e) rfl dJ3_add_7 10 rfl e3 ht rfl rfl (by simp) rfl ?_
  refine kW.gen (fun h' => h' a = some (t, eO 1 [.int (mc + 1), .ref e, .int (nI n)]) ∧ h' e = some (t', eQ 4 cap f) ∧ kKp (fun s => s = t ∨ s = t') h h' ∧ (∀ i, i < n → isOb h' (q i)) ∧ isOb h' b ∧ ∀ x, h' x = none → h x = none) ⟨kUp_self, kUp_tag e3 e4 hne, kKp.up e3 (Or.inl rfl), fun i hi => (hob i hi).up e3, hb.up e3, fun x hx => by
    by_cases z : x = a
    · rw [z, kUp_self] at hx; cases hx
    · rw [kUp_ne z] at hx; exact hx⟩ (fun h9 H9 => ?_)
  obtain ⟨e3, e4, hK, hob, hb, hz⟩ := H9
  have hL2 : AlR h9 a e t t' n cap q := ⟨mc + 1, f, e1, e2, e3, e4, e5⟩
  refine k_aload_n F dJ3_add_10 11 rfl rfl rfl ?_
  refine k_aload_n F dJ3_add_11 12 rfl rfl rfl ?_
  refine k_aload_n F dJ3_add_12 13 rfl rfl rfl ?_
  refine k_get F kcJ3 1 (by decide) q578 (fun _ e => e) dJ3_add_13 16 rfl (kHs.of e3) rfl ?_
  refine k_aload_n F dJ3_add_16 17 rfl rfl rfl ?_
  refine k_get F kcJ3 2 (by decide) q579 (fun _ e => e) dJ3_add_17 20 rfl (kHs.of e3) rfl ?_
  refine k_callN F kd_J3_add_2 q1864 q154 (kInvV (Bs := [_, _, _]) F kcJ3 q1861 q1863 qs16 kd_J3_add_2 q1864 dJ3_add_20 (kHs.of e3) rfl (by decide)) (zJ3_add_2 F.st hL2 ht ht' hne tn hn hnt hcap hob hb) 23 rfl (Nat.le_of_ble_eq_true rfl) (by first | exact Nat.le_of_ble_eq_true rfl | omega) (by first | exact Nat.le_of_ble_eq_true rfl | omega) (by first | exact Nat.le_of_ble_eq_true rfl | omega) (by first | exact Nat.le_of_ble_eq_true rfl | omega) (fun h1 hr1 => ?_)
  obtain ⟨x2, t2, cap2, hc2, hL3, hK3⟩ := hr1
  refine k_iconst (v := 1) F dJ3_add_23 24 rfl (by decide) ?_
  exact k_zret F dJ3_add_24 (by first | rfl | exact kzb _ | exact pk_nc _ | decide) (by first | exact Nat.le_of_ble_eq_true rfl | omega) (by first | exact Nat.le_of_ble_eq_true rfl | omega) ⟨rfl, ⟨x2, t2, cap2, hc2.imp id (fun z => ⟨hz _ z.1, z.2⟩), hL3⟩, hK.tr hK3⟩
/-- a list made without a capacity: its array is the shared empty one -/
def AlE (g : kG) (h : kH) (a : Nat) (t : kT) (D : Nat) : Prop := (Term.static "java/util/ArrayList" "DEFAULTCAPACITY_EMPTY_ELEMENTDATA" "[Ljava/lang/Object;").eval #[Value.ref g.b] g.U none [] g.U = some (.ref D) ∧ (∃ mc : Int32, h a = some (t, eO 1 [.int mc, .ref D, .int 0])) ∧ ∀ h : kH, kHs g h D (0, 0, 0) (eQ 4 0 (fun _ => none))
theorem AlE.keep {g : kG} {S : kT → Prop} {h h' : kH} {a D : Nat} {t : kT} (hL : AlE g h a t D) (hK : kKp S h h') (h1 : ¬ S t) : AlE g h' a t D := by
  obtain ⟨e1, ⟨mc, e2⟩, e3⟩ := hL
  exact ⟨e1, ⟨mc, hK _ _ _ e2 h1⟩, e3⟩
set_option maxHeartbeats 4000000 in
set_option maxRecDepth 100000 in
theorem zJ3_init_2 {l : Launch} {g : kG} (S : kStart l g) {h : kH} {a : Nat} {t : kT} (ht : t.1 ≠ 0) (ha : h a = some (t, eO 1 [.int 0, .null, .int 0])) : kMet l g yJ3_init_2 (Cond.code yJ3_init_2 cJ3_init_2 1 (Option.none : Option Jvm.ClassFile.FieldType)) 5 0 0 [.ref a] h (kN (fun h' => (∃ D, AlE g h' a t D) ∧ ∀ b, b ≠ a → h' b = h b)) := by
  refine kEnter S kd_J3_init_2 (Nat.le_of_ble_eq_true rfl) (fun x F hxl hxg => ?_)
  subst hxl; subst hxg
  have hlv : lv_args 0 [.ref a] = [(0, .ref a)] := rfl
  rw [hlv]
  obtain ⟨D, hD, hE⟩ := sd_empty F.st
  refine k_aload_n F dJ3_init_2_0 1 rfl rfl rfl ?_
  refine k_callN F kd_J2_init q257 q153 (kInvI (Bs := []) F q255 q256 q257 rfl dJ3_init_2_1 rfl (by decide)) (zJ2_init F.st ht ha) 4 rfl (Nat.le_of_ble_eq_true rfl) (by first | exact Nat.le_of_ble_eq_true rfl | omega) (by first | exact Nat.le_of_ble_eq_true rfl | omega) (by first | exact Nat.le_of_ble_eq_true rfl | omega) (by first | exact Nat.le_of_ble_eq_true rfl | omega) (fun h1 hr1 => ?_)
  obtain ⟨ha, hx⟩ := hr1
  refine k_aload_n F dJ3_init_2_4 5 rfl rfl rfl ?_
  refine k_gets F q1874 q154 hD q1873 (fun _ e => e) dJ3_init_2_5 8 rfl ?_
  refine k_put (fs' := [_, _, _]) F kcJ3 1 (by decide) (knJ3 1) q578 (fun _ e => e) rfl dJ3_init_2_8 11 rfl ha ht rfl rfl (by simp) rfl ?_
  exact k_vret F dJ3_init_2_11 (by first | exact Nat.le_of_ble_eq_true rfl | omega) (by first | exact Nat.le_of_ble_eq_true rfl | omega) ⟨⟨D, hD, ⟨0, kUp_self⟩, hE⟩, fun b hb => (kUp_ne hb).trans (hx b hb)⟩
set_option maxHeartbeats 4000000 in
set_option maxRecDepth 100000 in
theorem zJ3_grow_2E {l : Launch} {g : kG} (S : kStart l g) {h : kH} {a D : Nat} {t : kT} (hL : AlE g h a t D) (ht : t.1 ≠ 0) (tn : kT) : kMet l g yJ3_grow_2 (Cond.code yJ3_grow_2 cJ3_grow_2 4 (Option.some (Jvm.ClassFile.FieldType.array (Jvm.ClassFile.FieldType.object "java/lang/Object")))) 6 1 60 [.ref a, .int (nI 1)] h (kV (fun v h' => ∃ e2, v = .ref e2 ∧ h e2 = none ∧ (∀ q, AlR h' a e2 t tn 0 10 q) ∧ ∀ x v, x ≠ a → h x = some v → h' x = some v)) := by
  refine kEnter S kd_J3_grow_2 (Nat.le_of_ble_eq_true rfl) (fun x F hxl hxg => ?_)
  subst hxl; subst hxg
  have hlv : lv_args 0 [.ref a, .int (nI 1)] = [(0, .ref a), (1, .int (nI 1))] := rfl
  rw [hlv]
  obtain ⟨hD, ⟨mc, e3⟩, hE⟩ := id hL
  refine k_aload_n F dJ3_grow_2_0 1 rfl rfl rfl ?_
  refine k_get F kcJ3 1 (by decide) q578 (fun _ e => e) dJ3_grow_2_1 4 rfl (kHs.of e3) rfl ?_
  refine k_alen F dJ3_grow_2_4 5 rfl (hE _) (by decide) (fun cA => vp_arr' cA _ _) ?_
  refine k_istore_n (lv' := [(0, _), (1, _), (2, _)]) F dJ3_grow_2_5 6 rfl rfl (Nat.le_of_ble_eq_true rfl) rfl rfl rfl ?_
  refine k_iload_n F dJ3_grow_2_6 7 rfl rfl rfl ?_
  refine k_ifgt F dJ3_grow_2_7 10 20 rfl (by decide) (fun c_ => (absurd c_ (by decide))) (fun _ => ?_)
  refine k_aload_n F dJ3_grow_2_10 11 rfl rfl rfl ?_
  refine k_get F kcJ3 1 (by decide) q578 (fun _ e => e) dJ3_grow_2_11 14 rfl (kHs.of e3) rfl ?_
  refine k_gets F q1874 q154 hD q1873 (fun _ e => e) dJ3_grow_2_14 17 rfl ?_
  refine k_acmpeq (a := some D) (b := some D) F dJ3_grow_2_17 20 45 rfl (by decide) (fun _ => ?_) (fun c_ => absurd rfl c_)
  refine k_aload_n F dJ3_grow_2_45 46 rfl rfl rfl ?_
  refine k_bipush (v := 10) F dJ3_grow_2_46 48 rfl (by decide) ?_
  refine k_iload_n F dJ3_grow_2_48 49 rfl rfl rfl ?_
  refine k_callV F kd_J13_max q362 q164 (kInvS (Bs := [_, _]) F q1885 q361 q164 kd_J13_max q362 dJ3_grow_2_49 rfl (by decide)) (zJ13_max F.st _ _) 52 rfl (Nat.le_of_ble_eq_true rfl) (by first | exact Nat.le_of_ble_eq_true rfl | omega) (by first | exact Nat.le_of_ble_eq_true rfl | omega) (by first | exact Nat.le_of_ble_eq_true rfl | omega) (by first | exact Nat.le_of_ble_eq_true rfl | omega) (fun r1 h1 hr1 => ?_)
  obtain ⟨rfl, rfl⟩ := hr1
  rw [show iMax 10 (nI 1) = nI 10 from by decide]
  refine k_newq F dJ3_grow_2_52 55 rfl 4 (by decide) (C := "java/lang/Object") rfl q259 q231 tn (m := 10) rfl (by first | decide | omega) (by omega) (by omega) (fun x2 g1 => ?_)
  have hxa : x2 ≠ a := fun z => by rw [z, e3] at g1; cases g1
  refine k_dup_x1 F dJ3_grow_2_55 56 rfl rfl rfl ?_
  refine k_put (fs' := [_, _, _]) F kcJ3 1 (by decide) (knJ3 1) q578 (fun _ e => e) rfl dJ3_grow_2_56 59 rfl (kUp_nw g1 e3) ht rfl rfl (by simp) rfl ?_
  exact k_aret F dJ3_grow_2_59 (Or.inr ⟨_, rfl⟩) (by first | exact Or.inr ⟨_, rfl⟩ | exact Or.inl rfl | exact va_rf_ok _) (by first | exact Nat.le_of_ble_eq_true rfl | omega) (by first | exact Nat.le_of_ble_eq_true rfl | omega) ⟨x2, rfl, g1, fun q => ⟨mc, _, by omega, by omega, kUp_self, by rw [kUp_ne hxa]; exact kUp_self, fun i hi => by omega⟩, fun x v hx hv => by rw [kUp_ne hx]; exact kUp_nw g1 hv⟩
set_option maxHeartbeats 4000000 in
set_option maxRecDepth 100000 in
theorem zJ3_growE {l : Launch} {g : kG} (S : kStart l g) {h : kH} {a D : Nat} {t : kT} (hL : AlE g h a t D) (ht : t.1 ≠ 0) (tn : kT) : kMet l g yJ3_grow (Cond.code yJ3_grow cJ3_grow 1 (Option.some (Jvm.ClassFile.FieldType.array (Jvm.ClassFile.FieldType.object "java/lang/Object")))) 7 1 60 [.ref a] h (kV (fun v h' => ∃ e2, v = .ref e2 ∧ h e2 = none ∧ (∀ q, AlR h' a e2 t tn 0 10 q) ∧ ∀ x v, x ≠ a → h x = some v → h' x = some v)) := by
  refine kEnter S kd_J3_grow (Nat.le_of_ble_eq_true rfl) (fun x F hxl hxg => ?_)
  subst hxl; subst hxg
  have hlv : lv_args 0 [.ref a] = [(0, .ref a)] := rfl
  rw [hlv]
  obtain ⟨hD, ⟨mc, e3⟩, hE⟩ := id hL
  refine k_aload_n F dJ3_grow_0 1 rfl rfl rfl ?_
  refine k_aload_n F dJ3_grow_1 2 rfl rfl rfl ?_
  refine k_get F kcJ3 2 (by decide) q579 (fun _ e => e) dJ3_grow_2 5 rfl (kHs.of e3) rfl ?_
  refine k_iconst (v := 1) F dJ3_grow_5 6 rfl (by decide) ?_
  refine k_iadd F dJ3_grow_6 7 rfl ?_
  refine k_topi (b := nI 1) (by decide) ?_
  refine k_callV F kd_J3_grow_2 q1872 q154 (kInvV (Bs := [_]) F kcJ3 q1869 q1871 qs18 kd_J3_grow_2 q1872 dJ3_grow_7 (kHs.of e3) rfl (by decide)) (zJ3_grow_2E F.st hL ht tn) 10 rfl (Nat.le_of_ble_eq_true rfl) (by first | exact Nat.le_of_ble_eq_true rfl | omega) (by first | exact Nat.le_of_ble_eq_true rfl | omega) (by first | exact Nat.le_of_ble_eq_true rfl | omega) (by first | exact Nat.le_of_ble_eq_true rfl | omega) (fun r1 h1 hr1 => ?_)
  obtain ⟨x2, rfl, g1, g2, g3⟩ := hr1
  exact k_aret F dJ3_grow_10 (Or.inr ⟨_, rfl⟩) (by first | exact Or.inr ⟨_, rfl⟩ | exact Or.inl rfl | exact va_rf_ok _) (by first | exact Nat.le_of_ble_eq_true rfl | omega) (by first | exact Nat.le_of_ble_eq_true rfl | omega) ⟨x2, rfl, g1, g2, g3⟩
set_option maxHeartbeats 4000000 in
set_option maxRecDepth 100000 in
theorem zJ3_add_2E {l : Launch} {g : kG} (S : kStart l g) {h : kH} {a D b : Nat} {t : kT} (hL : AlE g h a t D) (ht : t.1 ≠ 0) (tn : kT) (hn : tn.1 ≠ 0) (hnt : t ≠ tn) (hb : isOb h b) : kMet l g yJ3_add_2 (Cond.code yJ3_add_2 cJ3_add_2 4 (Option.none : Option Jvm.ClassFile.FieldType)) 8 1 60 [.ref a, .ref b, .ref D, .int (nI 0)] h (kN (fun h' => (∃ e2, h e2 = none ∧ AlR h' a e2 t tn 1 10 (fun _ => b)) ∧ kKp (fun s => s = t) h h')) := by
  refine kEnter S kd_J3_add_2 (Nat.le_of_ble_eq_true rfl) (fun x F hxl hxg => ?_)
  subst hxl; subst hxg
  have hlv : lv_args 0 [.ref a, .ref b, .ref D, .int (nI 0)] = [(0, .ref a), (1, .ref b), (2, .ref D), (3, .int (nI 0))] := rfl
  rw [hlv]
  obtain ⟨hD, ⟨mc, e3⟩, hE⟩ := id hL
  refine k_iload_n F dJ3_add_2_0 1 rfl rfl rfl ?_
  refine k_aload_n F dJ3_add_2_1 2 rfl rfl rfl ?_
  refine k_alen F dJ3_add_2_2 3 rfl (hE _) (by decide) (fun cA => vp_arr' cA _ _) ?_
  refine k_icmpne F dJ3_add_2_3 6 11 rfl (by decide) (fun c_ => (absurd rfl c_)) (fun _ => ?_)
  refine k_aload_n F dJ3_add_2_6 7 rfl rfl rfl ?_
  refine k_callV F kd_J3_grow q1868 q154 (kInvV (Bs := []) F kcJ3 q1865 q1867 qs17 kd_J3_grow q1868 dJ3_add_2_7 (kHs.of e3) rfl (by decide)) (zJ3_growE F.st hL ht tn) 10 rfl (Nat.le_of_ble_eq_true rfl) (by first | exact Nat.le_of_ble_eq_true rfl | omega) (by first | exact Nat.le_of_ble_eq_true rfl | omega) (by first | exact Nat.le_of_ble_eq_true rfl | omega) (by first | exact Nat.le_of_ble_eq_true rfl | omega) (fun r1 h1 hr1 => ?_)
  obtain ⟨x2, rfl, g1, g2, g3⟩ := hr1
  obtain ⟨mc2, f2, d1, d2, d3, d4, d5⟩ := g2 (fun _ => 0)
  have hb2 : isOb h1 b := by
    by_cases z : b = a
    · exact ⟨1, _, _, _, _, t, _, kcJ3, q4093, by rw [z]; exact d3⟩
    · exact hb.eq (fun v hv => g3 b v z hv)
  have hB := hb2.any F
  refine k_astore_n (lv' := [(0, _), (1, _), (2, _), (3, _)]) F dJ3_add_2_10 11 rfl rfl (Nat.le_of_ble_eq_true rfl) rfl rfl rfl ?_
  refine k_aload_n F dJ3_add_2_11 12 rfl rfl rfl ?_
  refine k_iload_n F dJ3_add_2_12 13 rfl rfl rfl ?_
  refine k_aload_n F dJ3_add_2_13 14 rfl rfl rfl ?_
  refine k_aast F dJ3_add_2_14 15 rfl d4 (by decide) hn (j := 0) rfl (by omega) (by omega) (hB.aast rfl) ?_
  refine kW.gen (fun h' => h' a = some (t, eO 1 [.int mc2, .ref x2, .int (nI 0)]) ∧ h' x2 = some (tn, eQ 4 10 (va_up f2 0 (some b))) ∧ ∀ x v, x ≠ a → h x = some v → h' x = some v) ⟨kUp_tag d4 d3 (Ne.symm hnt), kUp_self, fun x v hx hv => by rw [kUp_ne (fun z => by rw [z, g1] at hv; cases hv)]; exact g3 x v hx hv⟩ (fun h9 H9 => ?_)
  obtain ⟨d3, d4, g3⟩ := H9
  refine k_aload_n F dJ3_add_2_15 16 rfl rfl rfl ?_
  refine k_iload_n F dJ3_add_2_16 17 rfl rfl rfl ?_
  refine k_iconst (v := 1) F dJ3_add_2_17 18 rfl (by decide) ?_
  refine k_iadd F dJ3_add_2_18 19 rfl ?_
  refine k_topi (b := nI 1) (by decide) ?_
  refine k_put (fs' := [_, _, _]) F kcJ3 2 (by decide) (knJ3 2) q579 (fun _ e => e) rfl dJ3_add_2_19 22 rfl d3 ht rfl rfl (by simp) rfl ?_
  exact k_vret F dJ3_add_2_22 (by first | exact Nat.le_of_ble_eq_true rfl | omega) (by first | exact Nat.le_of_ble_eq_true rfl | omega) ⟨⟨x2, g1, mc2, _, by omega, by omega, kUp_self, kUp_tag d3 d4 hnt, fun i hi => by rw [show i = 0 from by omega, va_up_self]⟩, fun x s v hv hs => by
    have hx : x ≠ a := fun z => by rw [z, e3] at hv; cases hv; exact hs rfl
    rw [kUp_ne hx]
    exact g3 x _ hx hv⟩
set_option maxHeartbeats 4000000 in
set_option maxRecDepth 100000 in
theorem zJ3_addE {l : Launch} {g : kG} (S : kStart l g) {h : kH} {a D b : Nat} {t : kT} (hL : AlE g h a t D) (ht : t.1 ≠ 0) (tn : kT) (hn : tn.1 ≠ 0) (hnt : t ≠ tn) (hb : isOb h b) : kMet l g yJ3_add (Cond.code yJ3_add cJ3_add 2 (Option.some Jvm.ClassFile.FieldType.boolean)) 9 1 60 [.ref a, .ref b] h (kV (fun v h' => v = .int 1 ∧ (∃ e2, h e2 = none ∧ AlR h' a e2 t tn 1 10 (fun _ => b)) ∧ kKp (fun s => s = t) h h')) := by
  refine kEnter S kd_J3_add (Nat.le_of_ble_eq_true rfl) (fun x F hxl hxg => ?_)
  subst hxl; subst hxg
  have hlv : lv_args 0 [.ref a, .ref b] = [(0, .ref a), (1, .ref b)] := rfl
  rw [hlv]
  obtain ⟨hD, ⟨mc, e3⟩, hE⟩ := id hL
  refine k_aload_n F dJ3_add_0 1 rfl rfl rfl ?_
  refine k_dup F dJ3_add_1 2 rfl rfl ?_
  refine k_get F kcJ3 0 (by decide) q581 (fun _ e => u_same (F.w q582) _ e) dJ3_add_2 5 rfl (kHs.of e3) rfl ?_
  refine k_iconst (v := 1) F dJ3_add_5 6 rfl (by decide) ?_
  refine k_iadd F dJ3_add_6 7 rfl ?_
  refine k_put (fs' := [_, _, _]) F kcJ3 0 (by decide) (knJ3 0) q581 (fun _ e => u_same (F.w q582) _ e) rfl dJ3_add_7 10 rfl e3 ht rfl rfl (by simp) rfl ?_
  refine kW.gen (fun h' => h' a = some (t, eO 1 [.int (mc + 1), .ref D, .int 0]) ∧ kKp (fun s => s = t) h h' ∧ isOb h' b ∧ ∀ x, h' x = none → h x = none) ⟨kUp_self, kKp.up e3 rfl, hb.up e3, fun x hx => by
    by_cases z : x = a
    · rw [z, kUp_self] at hx; cases hx
    · rw [kUp_ne z] at hx; exact hx⟩ (fun h9 H9 => ?_)
  obtain ⟨e3, hK, hb, hz⟩ := H9
  have hL2 : AlE x.g h9 a t D := ⟨hD, ⟨mc + 1, e3⟩, hE⟩
  refine k_aload_n F dJ3_add_10 11 rfl rfl rfl ?_
  refine k_aload_n F dJ3_add_11 12 rfl rfl rfl ?_
  refine k_aload_n F dJ3_add_12 13 rfl rfl rfl ?_
  refine k_get F kcJ3 1 (by decide) q578 (fun _ e => e) dJ3_add_13 16 rfl (kHs.of e3) rfl ?_
  refine k_aload_n F dJ3_add_16 17 rfl rfl rfl ?_
  refine k_get F kcJ3 2 (by decide) q579 (fun _ e => e) dJ3_add_17 20 rfl (kHs.of e3) rfl ?_
  refine k_callN F kd_J3_add_2 q1864 q154 (kInvV (Bs := [_, _, _]) F kcJ3 q1861 q1863 qs16 kd_J3_add_2 q1864 dJ3_add_20 (kHs.of e3) rfl (by decide)) (zJ3_add_2E F.st hL2 ht tn hn hnt hb) 23 rfl (Nat.le_of_ble_eq_true rfl) (by first | exact Nat.le_of_ble_eq_true rfl | omega) (by first | exact Nat.le_of_ble_eq_true rfl | omega) (by first | exact Nat.le_of_ble_eq_true rfl | omega) (by first | exact Nat.le_of_ble_eq_true rfl | omega) (fun h1 hr1 => ?_)
  obtain ⟨⟨x2, g1, hL3⟩, hK3⟩ := hr1
  refine k_iconst (v := 1) F dJ3_add_23 24 rfl (by decide) ?_
  exact k_zret F dJ3_add_24 (by first | rfl | exact kzb _ | exact pk_nc _ | decide) (by first | exact Nat.le_of_ble_eq_true rfl | omega) (by first | exact Nat.le_of_ble_eq_true rfl | omega) ⟨rfl, ⟨x2, hz _ g1, hL3⟩, hK.tr hK3⟩

