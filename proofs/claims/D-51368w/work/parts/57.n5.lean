/-! the component: the deque of what was -/
theorem kd_J0_init : kCd (Cond.code yJ0_init cJ0_init 1 (Option.none : Option Jvm.ClassFile.FieldType)) yJ0_init cJ0_init 1 (Option.none : Option Jvm.ClassFile.FieldType) [] := kCd_code (by decide +kernel)
theorem kd_J1_init : kCd (Cond.code yJ1_init cJ1_init 1 (Option.none : Option Jvm.ClassFile.FieldType)) yJ1_init cJ1_init 1 (Option.none : Option Jvm.ClassFile.FieldType) [] := kCd_code (by decide +kernel)
theorem kd_J1_inc : kCd (Cond.code yJ1_inc cJ1_inc 2 (Option.some Jvm.ClassFile.FieldType.int)) yJ1_inc cJ1_inc 2 (Option.some Jvm.ClassFile.FieldType.int) [] := kCd_code (by decide +kernel)
theorem kd_J1_dec : kCd (Cond.code yJ1_dec cJ1_dec 2 (Option.some Jvm.ClassFile.FieldType.int)) yJ1_dec cJ1_dec 2 (Option.some Jvm.ClassFile.FieldType.int) [] := kCd_code (by decide +kernel)
theorem kd_J1_sub : kCd (Cond.code yJ1_sub cJ1_sub 3 (Option.some Jvm.ClassFile.FieldType.int)) yJ1_sub cJ1_sub 3 (Option.some Jvm.ClassFile.FieldType.int) [] := kCd_code (by decide +kernel)
theorem kd_J1_size : kCd (Cond.code yJ1_size cJ1_size 1 (Option.some Jvm.ClassFile.FieldType.int)) yJ1_size cJ1_size 1 (Option.some Jvm.ClassFile.FieldType.int) [] := kCd_code (by decide +kernel)
theorem kd_J1_isEmpty : kCd (Cond.code yJ1_isEmpty cJ1_isEmpty 1 (Option.some Jvm.ClassFile.FieldType.boolean)) yJ1_isEmpty cJ1_isEmpty 1 (Option.some Jvm.ClassFile.FieldType.boolean) [] := kCd_code (by decide +kernel)
theorem kd_J1_elementAt : kCd (Cond.code yJ1_elementAt cJ1_elementAt 2 (Option.some (Jvm.ClassFile.FieldType.object "java/lang/Object"))) yJ1_elementAt cJ1_elementAt 2 (Option.some (Jvm.ClassFile.FieldType.object "java/lang/Object")) [] := kCd_code (by decide +kernel)
theorem kd_J1_addLast : kCd (Cond.code yJ1_addLast cJ1_addLast 3 (Option.none : Option Jvm.ClassFile.FieldType)) yJ1_addLast cJ1_addLast 3 (Option.none : Option Jvm.ClassFile.FieldType) [] := kCd_code (by decide +kernel)
theorem kd_J1_pollFirst : kCd (Cond.code yJ1_pollFirst cJ1_pollFirst 4 (Option.some (Jvm.ClassFile.FieldType.object "java/lang/Object"))) yJ1_pollFirst cJ1_pollFirst 4 (Option.some (Jvm.ClassFile.FieldType.object "java/lang/Object")) [] := kCd_code (by decide +kernel)
theorem kd_J1_removeFirst : kCd (Cond.code yJ1_removeFirst cJ1_removeFirst 2 (Option.some (Jvm.ClassFile.FieldType.object "java/lang/Object"))) yJ1_removeFirst cJ1_removeFirst 2 (Option.some (Jvm.ClassFile.FieldType.object "java/lang/Object")) [] := kCd_code (by decide +kernel)
theorem kd_J1_pollLast : kCd (Cond.code yJ1_pollLast cJ1_pollLast 4 (Option.some (Jvm.ClassFile.FieldType.object "java/lang/Object"))) yJ1_pollLast cJ1_pollLast 4 (Option.some (Jvm.ClassFile.FieldType.object "java/lang/Object")) [] := kCd_code (by decide +kernel)
theorem kd_J1_removeLast : kCd (Cond.code yJ1_removeLast cJ1_removeLast 2 (Option.some (Jvm.ClassFile.FieldType.object "java/lang/Object"))) yJ1_removeLast cJ1_removeLast 2 (Option.some (Jvm.ClassFile.FieldType.object "java/lang/Object")) [] := kCd_code (by decide +kernel)
theorem kd_J1_circularClear : kCd (Cond.code yJ1_circularClear cJ1_circularClear 4 (Option.none : Option Jvm.ClassFile.FieldType)) yJ1_circularClear cJ1_circularClear 4 (Option.none : Option Jvm.ClassFile.FieldType) [] := kCd_code (by decide +kernel)
theorem kd_J1_clear : kCd (Cond.code yJ1_clear cJ1_clear 1 (Option.none : Option Jvm.ClassFile.FieldType)) yJ1_clear cJ1_clear 1 (Option.none : Option Jvm.ClassFile.FieldType) [] := kCd_code (by decide +kernel)
/-- a deque of c references: those of q, from the head on -/
def DqR (h : kH) (d e : Nat) (t t' : kT) (c : Nat) (q : Nat → Nat) : Prop := ∃ (hd : Nat) (f : Nat → Option Nat), hd < 17 ∧ c ≤ 12 ∧ h d = some (t, eO 0 [.ref e, .int (nI hd), .int (nI ((hd + c) % 17))]) ∧ h e = some (t', eQ 4 17 f) ∧ ∀ i, i < c → f ((hd + i) % 17) = some (q i)
theorem DqR.keep {S : kT → Prop} {h h' : kH} {d e : Nat} {t t' : kT} {c : Nat} {q : Nat → Nat} (hL : DqR h d e t t' c q) (hK : kKp S h h') (h1 : ¬ S t) (h2 : ¬ S t') : DqR h' d e t t' c q := by
  obtain ⟨hd, f, e1, e2, e3, e4, e5⟩ := hL
  exact ⟨hd, f, e1, e2, hK _ _ _ e3 h1, hK _ _ _ e4 h2, e5⟩
theorem DqR.same {h h' : kH} {d e : Nat} {t t' : kT} {c : Nat} {q : Nat → Nat} (hL : DqR h d e t t' c q) (hK : kSame h h') : DqR h' d e t t' c q := hL.keep (S := fun _ => False) hK.kp id id
set_option maxHeartbeats 4000000 in
set_option maxRecDepth 100000 in
theorem zJ0_init {l : Launch} {g : kG} (S : kStart l g) {h : kH} (a : Nat) : kMet l g yJ0_init (Cond.code yJ0_init cJ0_init 1 (Option.none : Option Jvm.ClassFile.FieldType)) 2 0 0 [.ref a] h (kN (fun h' => h = h')) := by
  refine kEnter S kd_J0_init (Nat.le_of_ble_eq_true rfl) (fun x F hxl hxg => ?_)
  subst hxl; subst hxg
  have hlv : lv_args 0 [.ref a] = [(0, .ref a)] := rfl
  rw [hlv]
  refine k_aload_n F dJ0_init_0 1 rfl rfl rfl ?_
  refine k_objInit F q229 q219 q220 dJ0_init_1 4 rfl (by omega) (Nat.le_of_ble_eq_true rfl) ?_
  exact k_vret F dJ0_init_4 (by first | exact Nat.le_of_ble_eq_true rfl | omega) (by first | exact Nat.le_of_ble_eq_true rfl | omega) rfl
set_option maxHeartbeats 4000000 in
set_option maxRecDepth 100000 in
theorem zJ1_init {l : Launch} {g : kG} (S : kStart l g) {h : kH} {a : Nat} {t : kT} (t' : kT) (ht : t.1 ≠ 0) (ha : h a = some (t, eO 0 [.null, .int 0, .int 0])) : kMet l g yJ1_init (Cond.code yJ1_init cJ1_init 1 (Option.none : Option Jvm.ClassFile.FieldType)) 3 1 17 [.ref a] h (kN (fun h' => ∃ e, h e = none ∧ (∀ q, DqR h' a e t t' 0 q) ∧ ∀ x v, x ≠ a → h x = some v → h' x = some v)) := by
  refine kEnter S kd_J1_init (Nat.le_of_ble_eq_true rfl) (fun x F hxl hxg => ?_)
  subst hxl; subst hxg
  have hlv : lv_args 0 [.ref a] = [(0, .ref a)] := rfl
  rw [hlv]
  refine k_aload_n F dJ1_init_0 1 rfl rfl rfl ?_
  refine k_callN F kd_J0_init q228 q150 (kInvI (Bs := []) F q226 q227 q228 rfl dJ1_init_1 rfl (by decide)) (zJ0_init F.st a) 4 rfl (Nat.le_of_ble_eq_true rfl) (by first | exact Nat.le_of_ble_eq_true rfl | omega) (by first | exact Nat.le_of_ble_eq_true rfl | omega) (by first | exact Nat.le_of_ble_eq_true rfl | omega) (by first | exact Nat.le_of_ble_eq_true rfl | omega) (fun h1 hr1 => ?_)
  obtain rfl := hr1
  refine k_aload_n F dJ1_init_4 5 rfl rfl rfl ?_
  refine k_bipush (v := 17) F dJ1_init_5 7 rfl (by decide) ?_
  refine k_newq F dJ1_init_7 10 rfl 4 (by decide) (C := "java/lang/Object") rfl q230 q231 t' (m := 17) rfl (by first | decide | omega) (by omega) (by omega) (fun e he => ?_)
  have hea : e ≠ a := fun z => by rw [z, ha] at he; cases he
  refine k_put (fs' := [_, _, _]) F kcJ1 0 (by decide) (knJ1 0) q232 (fun _ e => e) rfl dJ1_init_10 13 rfl (kUp_nw he ha) ht rfl rfl (by simp) rfl ?_
  exact k_vret F dJ1_init_13 (by first | exact Nat.le_of_ble_eq_true rfl | omega) (by first | exact Nat.le_of_ble_eq_true rfl | omega) ⟨e, he, fun q => ⟨0, _, by omega, by omega, kUp_self, by rw [kUp_ne hea]; exact kUp_self, fun i hi => by omega⟩, fun x v hx hv => by rw [kUp_ne hx]; exact kUp_nw he hv⟩
set_option maxHeartbeats 4000000 in
set_option maxRecDepth 100000 in
theorem zJ1_inc {l : Launch} {g : kG} (S : kStart l g) {h : kH} (i m : Nat) (hi : i < m) (hm : m < 1000) : kMet l g yJ1_inc (Cond.code yJ1_inc cJ1_inc 2 (Option.some Jvm.ClassFile.FieldType.int)) 1 0 0 [.int (nI i), .int (nI m)] h (mRd h (.int (nI ((i + 1) % m)))) := by
  refine kEnter S kd_J1_inc (Nat.le_of_ble_eq_true rfl) (fun x F hxl hxg => ?_)
  subst hxl; subst hxg
  have hlv : lv_args 0 [.int (nI i), .int (nI m)] = [(0, .int (nI i)), (1, .int (nI m))] := rfl
  rw [hlv]
  refine k_iinc (e := 1) (lv' := [(0, _), (1, _)]) F dJ1_inc_0 3 rfl rfl (by decide) rfl (Nat.le_of_ble_eq_true rfl) rfl rfl rfl ?_
  rw [nI_1']
  refine k_iload_n F dJ1_inc_3 4 rfl rfl rfl ?_
  refine k_iload_n F dJ1_inc_4 5 rfl rfl rfl ?_
  refine k_icmplt F dJ1_inc_5 8 10 rfl (by decide) (fun c_a => ?_) (fun c_a => ?_)
  · rw [nI_ltE (by omega) (by omega)] at c_a
    refine k_iload_n F dJ1_inc_10 11 rfl rfl rfl ?_
    exact k_iret F dJ1_inc_11 (by first | exact Nat.le_of_ble_eq_true rfl | omega) (by first | exact Nat.le_of_ble_eq_true rfl | omega) ⟨by rw [Nat.mod_eq_of_lt c_a], rfl⟩
  · rw [nI_ltE (by omega) (by omega)] at c_a
    refine k_iconst (v := 0) F dJ1_inc_8 9 rfl (by decide) ?_
    refine k_istore_n (lv' := [(0, _), (1, _)]) F dJ1_inc_9 10 rfl rfl (Nat.le_of_ble_eq_true rfl) rfl rfl rfl ?_
    refine k_iload_n F dJ1_inc_10 11 rfl rfl rfl ?_
    have : i + 1 = m := by omega
    exact k_iret F dJ1_inc_11 (by first | exact Nat.le_of_ble_eq_true rfl | omega) (by first | exact Nat.le_of_ble_eq_true rfl | omega) ⟨by rw [this, Nat.mod_self]; rfl, rfl⟩
set_option maxHeartbeats 4000000 in
set_option maxRecDepth 100000 in
theorem zJ1_elementAt {l : Launch} {g : kG} (S : kStart l g) {h : kH} {e : Nat} {t' : kT} {f : Nat → Option Nat} (he : h e = some (t', eQ 4 17 f)) (i : Nat) (hi : i < 17) : kMet l g yJ1_elementAt (Cond.code yJ1_elementAt cJ1_elementAt 2 (Option.some (Jvm.ClassFile.FieldType.object "java/lang/Object"))) 1 0 0 [.ref e, .int (nI i)] h (mRd h (va_rf (f i))) := by
  refine kEnter S kd_J1_elementAt (Nat.le_of_ble_eq_true rfl) (fun x F hxl hxg => ?_)
  subst hxl; subst hxg
  have hlv : lv_args 0 [.ref e, .int (nI i)] = [(0, .ref e), (1, .int (nI i))] := rfl
  rw [hlv]
  refine k_aload_n F dJ1_elementAt_0 1 rfl rfl rfl ?_
  refine k_iload_n F dJ1_elementAt_1 2 rfl rfl rfl ?_
  refine k_aald F dJ1_elementAt_2 3 rfl (kHs.of he) (kd := 4) (by decide) (j := i) rfl (by omega) (by omega) ?_
  exact k_aret F dJ1_elementAt_3 (Or.inl ⟨_, rfl⟩) (by first | exact Or.inr ⟨_, rfl⟩ | exact Or.inl rfl | exact va_rf_ok _) (by first | exact Nat.le_of_ble_eq_true rfl | omega) (by first | exact Nat.le_of_ble_eq_true rfl | omega) ⟨rfl, rfl⟩
set_option maxHeartbeats 4000000 in
set_option maxRecDepth 100000 in
theorem zJ1_isEmpty {l : Launch} {g : kG} (S : kStart l g) {h : kH} {d e : Nat} {t t' : kT} {c : Nat} {q : Nat → Nat} (hD : DqR h d e t t' c q) : kMet l g yJ1_isEmpty (Cond.code yJ1_isEmpty cJ1_isEmpty 1 (Option.some Jvm.ClassFile.FieldType.boolean)) 1 0 0 [.ref d] h (mRd h (.int (kB (decide (c = 0))))) := by
  refine kEnter S kd_J1_isEmpty (Nat.le_of_ble_eq_true rfl) (fun x F hxl hxg => ?_)
  subst hxl; subst hxg
  have hlv : lv_args 0 [.ref d] = [(0, .ref d)] := rfl
  rw [hlv]
  obtain ⟨hd, f, e1, e2, e3, e4, e5⟩ := id hD
  refine k_aload_n F dJ1_isEmpty_0 1 rfl rfl rfl ?_
  refine k_get F kcJ1 1 (by decide) q233 (fun _ e => e) dJ1_isEmpty_1 4 rfl (kHs.of e3) rfl ?_
  refine k_aload_n F dJ1_isEmpty_4 5 rfl rfl rfl ?_
  refine k_get F kcJ1 2 (by decide) q234 (fun _ e => e) dJ1_isEmpty_5 8 rfl (kHs.of e3) rfl ?_
  refine k_icmpne F dJ1_isEmpty_8 11 15 rfl (by decide) (fun c_a => ?_) (fun c_a => ?_)
  · rw [nI_inj (by omega) (by omega)] at c_a
    refine k_iconst (v := 0) F dJ1_isEmpty_15 16 rfl (by decide) ?_
    exact k_zret F dJ1_isEmpty_16 (by first | rfl | exact kzb _ | exact pk_nc _ | decide) (by first | exact Nat.le_of_ble_eq_true rfl | omega) (by first | exact Nat.le_of_ble_eq_true rfl | omega) ⟨by rw [decide_eq_false (fun z => c_a (by subst z; rw [Nat.add_zero, Nat.mod_eq_of_lt e1]))]; rfl, rfl⟩
  · rw [nI_inj (by omega) (by omega)] at c_a
    refine k_iconst (v := 1) F dJ1_isEmpty_11 12 rfl (by decide) ?_
    refine k_goto F dJ1_isEmpty_12 16 (by decide) ?_
    exact k_zret F dJ1_isEmpty_16 (by first | rfl | exact kzb _ | exact pk_nc _ | decide) (by first | exact Nat.le_of_ble_eq_true rfl | omega) (by first | exact Nat.le_of_ble_eq_true rfl | omega) ⟨by rw [decide_eq_true (by omega)]; rfl, rfl⟩
theorem nI_neg {i j : Nat} (hi : i < 1000) (hj : j < 1000) (h : i < j) : ¬ (0 ≤ nI i - nI j) := by
  rw [Int32.le_iff_toInt_le, Int32.toInt_sub, nI_toInt (by omega), nI_toInt (by omega)]
  simp only [Int.bmod, Int32.toInt_zero]
  omega
theorem nI_wrap {i j m : Nat} (hi : i < 1000) (hj : j < 1000) (hm : m < 1000) (h : j ≤ i + m) : nI i - nI j + nI m = nI (i + m - j) := by
  apply Int32.toInt_inj.mp
  rw [Int32.toInt_add, Int32.toInt_sub, nI_toInt (by omega), nI_toInt (by omega), nI_toInt (by omega), nI_toInt (by omega)]
  simp only [Int.bmod]
  omega
set_option maxHeartbeats 4000000 in
set_option maxRecDepth 100000 in
theorem zJ1_sub {l : Launch} {g : kG} (S : kStart l g) {h : kH} (i j m : Nat) (hi : i < m) (hj : j < m) (hm : m < 1000) : kMet l g yJ1_sub (Cond.code yJ1_sub cJ1_sub 3 (Option.some Jvm.ClassFile.FieldType.int)) 1 0 0 [.int (nI i), .int (nI j), .int (nI m)] h (mRd h (.int (nI ((i + m - j) % m)))) := by
  refine kEnter S kd_J1_sub (Nat.le_of_ble_eq_true rfl) (fun x F hxl hxg => ?_)
  subst hxl; subst hxg
  have hlv : lv_args 0 [.int (nI i), .int (nI j), .int (nI m)] = [(0, .int (nI i)), (1, .int (nI j)), (2, .int (nI m))] := rfl
  rw [hlv]
  by_cases hij : j ≤ i
  · have e9 : (i + m - j) % m = i - j := by rw [show i + m - j = (i - j) + m from by omega, Nat.add_mod_right, Nat.mod_eq_of_lt (by omega)]
    refine k_iload_n F dJ1_sub_0 1 rfl rfl rfl ?_
    refine k_iload_n F dJ1_sub_1 2 rfl rfl rfl ?_
    refine k_isub F dJ1_sub_2 3 rfl ?_
    rw [show nI i - nI j = nI (i - j) from pk_sub hij]
    refine k_dup F dJ1_sub_3 4 rfl rfl ?_
    refine k_istore_n (lv' := [(0, _), (1, _), (2, _)]) F dJ1_sub_4 5 rfl rfl (Nat.le_of_ble_eq_true rfl) rfl rfl rfl ?_
    refine k_ifge F dJ1_sub_5 8 12 rfl (by decide) (fun _ => ?_) (fun c_ => (absurd (nI_pos' (by omega)) c_))
    refine k_iload_n F dJ1_sub_12 13 rfl rfl rfl ?_
    exact k_iret F dJ1_sub_13 (by first | exact Nat.le_of_ble_eq_true rfl | omega) (by first | exact Nat.le_of_ble_eq_true rfl | omega) ⟨by rw [e9], rfl⟩
  · have e9 : (i + m - j) % m = i + m - j := Nat.mod_eq_of_lt (by omega)
    refine k_iload_n F dJ1_sub_0 1 rfl rfl rfl ?_
    refine k_iload_n F dJ1_sub_1 2 rfl rfl rfl ?_
    refine k_isub F dJ1_sub_2 3 rfl ?_
    refine k_dup F dJ1_sub_3 4 rfl rfl ?_
    refine k_istore_n (lv' := [(0, _), (1, _), (2, _)]) F dJ1_sub_4 5 rfl rfl (Nat.le_of_ble_eq_true rfl) rfl rfl rfl ?_
    refine k_ifge F dJ1_sub_5 8 12 rfl (by decide) (fun c_ => (absurd c_ (nI_neg (by omega) (by omega) (by omega)))) (fun _ => ?_)
    refine k_iload_n F dJ1_sub_8 9 rfl rfl rfl ?_
    refine k_iload_n F dJ1_sub_9 10 rfl rfl rfl ?_
    refine k_iadd F dJ1_sub_10 11 rfl ?_
    rw [nI_wrap (by omega) (by omega) (by omega) (by omega)]
    refine k_istore_n (lv' := [(0, _), (1, _), (2, _)]) F dJ1_sub_11 12 rfl rfl (Nat.le_of_ble_eq_true rfl) rfl rfl rfl ?_
    refine k_iload_n F dJ1_sub_12 13 rfl rfl rfl ?_
    exact k_iret F dJ1_sub_13 (by first | exact Nat.le_of_ble_eq_true rfl | omega) (by first | exact Nat.le_of_ble_eq_true rfl | omega) ⟨by rw [e9], rfl⟩
set_option maxHeartbeats 4000000 in
set_option maxRecDepth 100000 in
theorem zJ1_size {l : Launch} {g : kG} (S : kStart l g) {h : kH} {d e : Nat} {t t' : kT} {c : Nat} {q : Nat → Nat} (hD : DqR h d e t t' c q) : kMet l g yJ1_size (Cond.code yJ1_size cJ1_size 1 (Option.some Jvm.ClassFile.FieldType.int)) 2 0 0 [.ref d] h (mRd h (.int (nI c))) := by
  refine kEnter S kd_J1_size (Nat.le_of_ble_eq_true rfl) (fun x F hxl hxg => ?_)
  subst hxl; subst hxg
  have hlv : lv_args 0 [.ref d] = [(0, .ref d)] := rfl
  rw [hlv]
  obtain ⟨hd, f, e1, e2, e3, e4, e5⟩ := id hD
  refine k_aload_n F dJ1_size_0 1 rfl rfl rfl ?_
  refine k_get F kcJ1 2 (by decide) q234 (fun _ e => e) dJ1_size_1 4 rfl (kHs.of e3) rfl ?_
  refine k_aload_n F dJ1_size_4 5 rfl rfl rfl ?_
  refine k_get F kcJ1 1 (by decide) q233 (fun _ e => e) dJ1_size_5 8 rfl (kHs.of e3) rfl ?_
  refine k_aload_n F dJ1_size_8 9 rfl rfl rfl ?_
  refine k_get F kcJ1 0 (by decide) q232 (fun _ e => e) dJ1_size_9 12 rfl (kHs.of e3) rfl ?_
  refine k_alen F dJ1_size_12 13 rfl (kHs.of e4) (by decide) (fun cA => vp_arr' cA _ _) ?_
  refine k_callV F kd_J1_sub q2905 q151 (kInvS (Bs := [_, _, _]) F q2903 q2904 q151 kd_J1_sub q2905 dJ1_size_13 rfl (by decide)) (zJ1_sub F.st ((hd + c) % 17) hd 17 (by omega) (by omega) (by omega)) 16 rfl (Nat.le_of_ble_eq_true rfl) (by first | exact Nat.le_of_ble_eq_true rfl | omega) (by first | exact Nat.le_of_ble_eq_true rfl | omega) (by first | exact Nat.le_of_ble_eq_true rfl | omega) (by first | exact Nat.le_of_ble_eq_true rfl | omega) (fun r1 h1 hr1 => ?_)
  obtain ⟨rfl, rfl⟩ := hr1
  exact k_iret F dJ1_size_16 (by first | exact Nat.le_of_ble_eq_true rfl | omega) (by first | exact Nat.le_of_ble_eq_true rfl | omega) ⟨by congr 2; omega, rfl⟩
set_option maxHeartbeats 4000000 in
set_option maxRecDepth 100000 in
theorem zJ1_addLast {l : Launch} {g : kG} (S : kStart l g) {h : kH} {d e b : Nat} {t t' tb : kT} {fs : List Value} {c : Nat} {q : Nat → Nat} (hD : DqR h d e t t' c q) (ht : t.1 ≠ 0) (ht' : t'.1 ≠ 0) (hne : t ≠ t') (hc : c < 12) (hb : h b = some (tb, eO 16 fs)) : kMet l g yJ1_addLast (Cond.code yJ1_addLast cJ1_addLast 3 (Option.none : Option Jvm.ClassFile.FieldType)) 5 0 0 [.ref d, .ref b] h (kN (fun h' => DqR h' d e t t' (c + 1) (fun i => if i = c then b else q i) ∧ kKp (fun s => s = t ∨ s = t') h h')) := by
  refine kEnter S kd_J1_addLast (Nat.le_of_ble_eq_true rfl) (fun x F hxl hxg => ?_)
  subst hxl; subst hxg
  have hlv : lv_args 0 [.ref d, .ref b] = [(0, .ref d), (1, .ref b)] := rfl
  rw [hlv]
  obtain ⟨hd, f, e1, e2, e3, e4, e5⟩ := id hD
  have hB : kAny x h "java/lang/Object" b := kAny.of F kcX2 q4087 (kHs.of hb)
  refine k_aload_n F dJ1_addLast_0 1 rfl rfl rfl ?_
  refine k_ifnonnull (r := some b) F dJ1_addLast_1 4 12 rfl (by decide) (fun _ _ => ?_) (fun z => by cases z)
  refine k_aload_n F dJ1_addLast_12 13 rfl rfl rfl ?_
  refine k_get F kcJ1 0 (by decide) q232 (fun _ e => e) dJ1_addLast_13 16 rfl (kHs.of e3) rfl ?_
  refine k_astore_n (lv' := [(0, _), (1, _), (2, _)]) F dJ1_addLast_16 17 rfl rfl (Nat.le_of_ble_eq_true rfl) rfl rfl rfl ?_
  refine k_aload_n F dJ1_addLast_17 18 rfl rfl rfl ?_
  refine k_aload_n F dJ1_addLast_18 19 rfl rfl rfl ?_
  refine k_get F kcJ1 2 (by decide) q234 (fun _ e => e) dJ1_addLast_19 22 rfl (kHs.of e3) rfl ?_
  refine k_aload_n F dJ1_addLast_22 23 rfl rfl rfl ?_
  refine k_aast F dJ1_addLast_23 24 rfl e4 (by decide) ht' (j := (hd + c) % 17) rfl (Nat.mod_lt _ (by omega)) (by omega) (hB.aast rfl) ?_
  refine kW.gen (fun h' => h' d = some (t, eO 0 [.ref e, .int (nI hd), .int (nI ((hd + c) % 17))]) ∧ h' e = some (t', eQ 4 17 (va_up f ((hd + c) % 17) (some b))) ∧ kKp (fun s => s = t ∨ s = t') h h') ⟨kUp_tag e4 e3 (Ne.symm hne), kUp_self, kKp.up e4 (Or.inr rfl)⟩ (fun h9 H9 => ?_)
  obtain ⟨e3, e4, hK⟩ := H9
  refine k_aload_n F dJ1_addLast_24 25 rfl rfl rfl ?_
  refine k_get F kcJ1 1 (by decide) q233 (fun _ e => e) dJ1_addLast_25 28 rfl (kHs.of e3) rfl ?_
  refine k_aload_n F dJ1_addLast_28 29 rfl rfl rfl ?_
  refine k_aload_n F dJ1_addLast_29 30 rfl rfl rfl ?_
  refine k_get F kcJ1 2 (by decide) q234 (fun _ e => e) dJ1_addLast_30 33 rfl (kHs.of e3) rfl ?_
  refine k_aload_n F dJ1_addLast_33 34 rfl rfl rfl ?_
  refine k_alen F dJ1_addLast_34 35 rfl (kHs.of e4) (by decide) (fun cA => vp_arr' cA _ _) ?_
  refine k_callV F kd_J1_inc q2886 q151 (kInvS (Bs := [_, _]) F q2884 q2885 q151 kd_J1_inc q2886 dJ1_addLast_35 rfl (by decide)) (zJ1_inc F.st ((hd + c) % 17) 17 (by omega) (by omega)) 38 rfl (Nat.le_of_ble_eq_true rfl) (by first | exact Nat.le_of_ble_eq_true rfl | omega) (by first | exact Nat.le_of_ble_eq_true rfl | omega) (by first | exact Nat.le_of_ble_eq_true rfl | omega) (by first | exact Nat.le_of_ble_eq_true rfl | omega) (fun r1 h1 hr1 => ?_)
  obtain ⟨rfl, rfl⟩ := hr1
  refine k_topi (b := nI ((hd + (c + 1)) % 17)) (by congr 1; omega) ?_
  refine k_dup_x1 F dJ1_addLast_38 39 rfl rfl rfl ?_
  refine k_put (fs' := [_, _, _]) F kcJ1 2 (by decide) (knJ1 2) q234 (fun _ e => e) rfl dJ1_addLast_39 42 rfl e3 ht rfl rfl (by simp) rfl ?_
  refine kW.gen (fun h' => h' d = some (t, eO 0 [.ref e, .int (nI hd), .int (nI ((hd + (c + 1)) % 17))]) ∧ h' e = some (t', eQ 4 17 (va_up f ((hd + c) % 17) (some b))) ∧ kKp (fun s => s = t ∨ s = t') h h') ⟨kUp_self, kUp_tag e3 e4 hne, hK.tr (kKp.up e3 (Or.inl rfl))⟩ (fun h9 H9 => ?_)
  obtain ⟨e3, e4, hK⟩ := H9
  refine k_icmpne F dJ1_addLast_42 45 50 rfl (by decide) (fun _ => ?_) (fun c_ => (absurd c_ (by rw [nI_inj (by omega) (by omega)]; omega)))
  exact k_vret F dJ1_addLast_50 (by first | exact Nat.le_of_ble_eq_true rfl | omega) (by first | exact Nat.le_of_ble_eq_true rfl | omega) ⟨⟨hd, _, e1, by omega, e3, e4, fun i hi => by
    unfold va_up
    by_cases z : i = c
    · subst z
      simp
    · rw [if_neg (by omega)]
      exact (e5 i (by omega)).trans (congrArg some (if_neg z).symm)⟩, hK⟩
set_option maxHeartbeats 4000000 in
set_option maxRecDepth 100000 in
theorem zJ1_pollFirst {l : Launch} {g : kG} (S : kStart l g) {h : kH} {d e : Nat} {t t' : kT} {c : Nat} {q : Nat → Nat} (hD : DqR h d e t t' c q) (ht : t.1 ≠ 0) (ht' : t'.1 ≠ 0) (hne : t ≠ t') (hc : 0 < c) : kMet l g yJ1_pollFirst (Cond.code yJ1_pollFirst cJ1_pollFirst 4 (Option.some (Jvm.ClassFile.FieldType.object "java/lang/Object"))) 2 0 0 [.ref d] h (kV (fun v h' => v = .ref (q 0) ∧ DqR h' d e t t' (c - 1) (fun i => q (i + 1)) ∧ kKp (fun s => s = t ∨ s = t') h h')) := by
  refine kEnter S kd_J1_pollFirst (Nat.le_of_ble_eq_true rfl) (fun x F hxl hxg => ?_)
  subst hxl; subst hxg
  have hlv : lv_args 0 [.ref d] = [(0, .ref d)] := rfl
  rw [hlv]
  obtain ⟨hd, f, e1, e2, e3, e4, e5⟩ := id hD
  have e0 : f hd = some (q 0) := by
    have := e5 0 hc
    rw [Nat.add_zero, Nat.mod_eq_of_lt e1] at this
    exact this
  refine k_aload_n F dJ1_pollFirst_0 1 rfl rfl rfl ?_
  refine k_get F kcJ1 0 (by decide) q232 (fun _ e => e) dJ1_pollFirst_1 4 rfl (kHs.of e3) rfl ?_
  refine k_dup F dJ1_pollFirst_4 5 rfl rfl ?_
  refine k_astore_n (lv' := [(0, _), (1, _)]) F dJ1_pollFirst_5 6 rfl rfl (Nat.le_of_ble_eq_true rfl) rfl rfl rfl ?_
  refine k_aload_n F dJ1_pollFirst_6 7 rfl rfl rfl ?_
  refine k_get F kcJ1 1 (by decide) q233 (fun _ e => e) dJ1_pollFirst_7 10 rfl (kHs.of e3) rfl ?_
  refine k_dup F dJ1_pollFirst_10 11 rfl rfl ?_
  refine k_istore_n (lv' := [(0, _), (1, _), (2, _)]) F dJ1_pollFirst_11 12 rfl rfl (Nat.le_of_ble_eq_true rfl) rfl rfl rfl ?_
  refine k_callV F kd_J1_elementAt q2916 q151 (kInvS (Bs := [_, _]) F q2914 q2915 q151 kd_J1_elementAt q2916 dJ1_pollFirst_12 rfl (by decide)) (zJ1_elementAt F.st e4 hd e1) 15 rfl (Nat.le_of_ble_eq_true rfl) (by first | exact Nat.le_of_ble_eq_true rfl | omega) (by first | exact Nat.le_of_ble_eq_true rfl | omega) (by first | exact Nat.le_of_ble_eq_true rfl | omega) (by first | exact Nat.le_of_ble_eq_true rfl | omega) (fun r1 h1 hr1 => ?_)
  obtain ⟨rfl, rfl⟩ := hr1
  rw [e0]
  refine k_astore_n (lv' := [(0, _), (1, _), (2, _), (3, _)]) F dJ1_pollFirst_15 16 rfl rfl (Nat.le_of_ble_eq_true rfl) rfl rfl rfl ?_
  refine k_aload_n F dJ1_pollFirst_16 17 rfl rfl rfl ?_
  refine k_ifnull (r := some ((q 0))) F dJ1_pollFirst_17 20 34 rfl (by decide) (fun z => by cases z) (fun _ _ => ?_)
  refine k_aload_n F dJ1_pollFirst_20 21 rfl rfl rfl ?_
  refine k_iload_n F dJ1_pollFirst_21 22 rfl rfl rfl ?_
  refine k_null F dJ1_pollFirst_22 23 rfl ?_
  refine k_aastN F dJ1_pollFirst_23 24 rfl e4 (by decide) ht' (j := hd) rfl e1 (by omega) ?_
  refine kW.gen (fun h' => h' d = some (t, eO 0 [.ref e, .int (nI hd), .int (nI ((hd + c) % 17))]) ∧ h' e = some (t', eQ 4 17 (va_up f hd none)) ∧ kKp (fun s => s = t ∨ s = t') h h') ⟨kUp_tag e4 e3 (Ne.symm hne), kUp_self, kKp.up e4 (Or.inr rfl)⟩ (fun h9 H9 => ?_)
  obtain ⟨e3, e4, hK⟩ := H9
  refine k_aload_n F dJ1_pollFirst_24 25 rfl rfl rfl ?_
  refine k_iload_n F dJ1_pollFirst_25 26 rfl rfl rfl ?_
  refine k_aload_n F dJ1_pollFirst_26 27 rfl rfl rfl ?_
  refine k_alen F dJ1_pollFirst_27 28 rfl (kHs.of e4) (by decide) (fun cA => vp_arr' cA _ _) ?_
  refine k_callV F kd_J1_inc q2886 q151 (kInvS (Bs := [_, _]) F q2884 q2885 q151 kd_J1_inc q2886 dJ1_pollFirst_28 rfl (by decide)) (zJ1_inc F.st hd 17 e1 (by omega)) 31 rfl (Nat.le_of_ble_eq_true rfl) (by first | exact Nat.le_of_ble_eq_true rfl | omega) (by first | exact Nat.le_of_ble_eq_true rfl | omega) (by first | exact Nat.le_of_ble_eq_true rfl | omega) (by first | exact Nat.le_of_ble_eq_true rfl | omega) (fun r2 h2 hr2 => ?_)
  obtain ⟨rfl, rfl⟩ := hr2
  refine k_put (fs' := [_, _, _]) F kcJ1 1 (by decide) (knJ1 1) q233 (fun _ e => e) rfl dJ1_pollFirst_31 34 rfl e3 ht rfl rfl (by simp) rfl ?_
  refine kW.gen (fun h' => h' d = some (t, eO 0 [.ref e, .int (nI ((hd + 1) % 17)), .int (nI ((hd + c) % 17))]) ∧ h' e = some (t', eQ 4 17 (va_up f hd none)) ∧ kKp (fun s => s = t ∨ s = t') h h') ⟨kUp_self, kUp_tag e3 e4 hne, hK.tr (kKp.up e3 (Or.inl rfl))⟩ (fun h9 H9 => ?_)
  obtain ⟨e3, e4, hK⟩ := H9
  refine k_aload_n F dJ1_pollFirst_34 35 rfl rfl rfl ?_
  have e6 : (hd + c) % 17 = ((hd + 1) % 17 + (c - 1)) % 17 := by omega
  exact k_aret F dJ1_pollFirst_35 (Or.inl ⟨_, rfl⟩) (by first | exact Or.inr ⟨_, rfl⟩ | exact Or.inl rfl | exact va_rf_ok _) (by first | exact Nat.le_of_ble_eq_true rfl | omega) (by first | exact Nat.le_of_ble_eq_true rfl | omega) ⟨rfl, ⟨(hd + 1) % 17, _, Nat.mod_lt _ (by omega), by omega, by rw [← e6]; exact e3, e4, fun i hi => by
    have z : ((hd + 1) % 17 + i) % 17 ≠ hd := by omega
    rw [va_up_ne _ _ z, ← e5 (i + 1) (by omega)]
    congr 1
    omega⟩, hK⟩
set_option maxHeartbeats 4000000 in
set_option maxRecDepth 100000 in
theorem zJ1_removeFirst {l : Launch} {g : kG} (S : kStart l g) {h : kH} {d e : Nat} {t t' : kT} {c : Nat} {q : Nat → Nat} (hD : DqR h d e t t' c q) (ht : t.1 ≠ 0) (ht' : t'.1 ≠ 0) (hne : t ≠ t') (hc : 0 < c) : kMet l g yJ1_removeFirst (Cond.code yJ1_removeFirst cJ1_removeFirst 2 (Option.some (Jvm.ClassFile.FieldType.object "java/lang/Object"))) 6 0 0 [.ref d] h (kV (fun v h' => v = .ref (q 0) ∧ DqR h' d e t t' (c - 1) (fun i => q (i + 1)) ∧ kKp (fun s => s = t ∨ s = t') h h')) := by
  refine kEnter S kd_J1_removeFirst (Nat.le_of_ble_eq_true rfl) (fun x F hxl hxg => ?_)
  subst hxl; subst hxg
  have hlv : lv_args 0 [.ref d] = [(0, .ref d)] := rfl
  rw [hlv]
  obtain ⟨hd, f, e1, e2, e3, e4, e5⟩ := id hD
  refine k_aload_n F dJ1_removeFirst_0 1 rfl rfl rfl ?_
  refine k_callV F kd_J1_pollFirst q2913 q151 (kInvV (Bs := []) F kcJ1 q2910 q2911 q2912 kd_J1_pollFirst q2913 dJ1_removeFirst_1 (kHs.of e3) rfl (by decide)) (zJ1_pollFirst F.st hD ht ht' hne hc) 4 rfl (Nat.le_of_ble_eq_true rfl) (by first | exact Nat.le_of_ble_eq_true rfl | omega) (by first | exact Nat.le_of_ble_eq_true rfl | omega) (by first | exact Nat.le_of_ble_eq_true rfl | omega) (by first | exact Nat.le_of_ble_eq_true rfl | omega) (fun r1 h1 hr1 => ?_)
  obtain ⟨rfl, hD2, hK⟩ := hr1
  refine k_astore_n (lv' := [(0, _), (1, _)]) F dJ1_removeFirst_4 5 rfl rfl (Nat.le_of_ble_eq_true rfl) rfl rfl rfl ?_
  refine k_aload_n F dJ1_removeFirst_5 6 rfl rfl rfl ?_
  refine k_ifnonnull (r := some ((q 0))) F dJ1_removeFirst_6 9 17 rfl (by decide) (fun _ _ => ?_) (fun z => by cases z)
  refine k_aload_n F dJ1_removeFirst_17 18 rfl rfl rfl ?_
  exact k_aret F dJ1_removeFirst_18 (Or.inl ⟨_, rfl⟩) (by first | exact Or.inr ⟨_, rfl⟩ | exact Or.inl rfl | exact va_rf_ok _) (by first | exact Nat.le_of_ble_eq_true rfl | omega) (by first | exact Nat.le_of_ble_eq_true rfl | omega) ⟨rfl, hD2, hK⟩
set_option maxHeartbeats 4000000 in
set_option maxRecDepth 100000 in
theorem zJ1_dec {l : Launch} {g : kG} (S : kStart l g) {h : kH} (i m : Nat) (hi : i < m) (hm : m < 1000) : kMet l g yJ1_dec (Cond.code yJ1_dec cJ1_dec 2 (Option.some Jvm.ClassFile.FieldType.int)) 1 0 0 [.int (nI i), .int (nI m)] h (mRd h (.int (nI ((i + m - 1) % m)))) := by
  refine kEnter S kd_J1_dec (Nat.le_of_ble_eq_true rfl) (fun x F hxl hxg => ?_)
  subst hxl; subst hxg
  have hlv : lv_args 0 [.int (nI i), .int (nI m)] = [(0, .int (nI i)), (1, .int (nI m))] := rfl
  rw [hlv]
  by_cases h0 : 0 < i
  · have e9 : (i + m - 1) % m = i - 1 := by rw [show i + m - 1 = (i - 1) + m from by omega, Nat.add_mod_right, Nat.mod_eq_of_lt (by omega)]
    refine k_iinc (e := (-1)) (lv' := [(0, _), (1, _)]) F dJ1_dec_0 3 rfl rfl (by decide) rfl (Nat.le_of_ble_eq_true rfl) rfl rfl rfl ?_
    rw [show nI i + (-1 : Int32) = nI (i - 1) from by rw [← nI_dec h0, Int32.sub_eq_add_neg]]
    refine k_iload_n F dJ1_dec_3 4 rfl rfl rfl ?_
    refine k_ifge F dJ1_dec_4 7 11 rfl (by decide) (fun _ => ?_) (fun c_ => (absurd (nI_pos' (by omega)) c_))
    refine k_iload_n F dJ1_dec_11 12 rfl rfl rfl ?_
    exact k_iret F dJ1_dec_12 (by first | exact Nat.le_of_ble_eq_true rfl | omega) (by first | exact Nat.le_of_ble_eq_true rfl | omega) ⟨by rw [e9], rfl⟩
  · have h1 : i = 0 := by omega
    subst h1
    have e9 : (0 + m - 1) % m = m - 1 := by rw [Nat.zero_add, Nat.mod_eq_of_lt (by omega)]
    refine k_iinc (e := (-1)) (lv' := [(0, _), (1, _)]) F dJ1_dec_0 3 rfl rfl (by decide) rfl (Nat.le_of_ble_eq_true rfl) rfl rfl rfl ?_
    refine k_iload_n F dJ1_dec_3 4 rfl rfl rfl ?_
    refine k_ifge F dJ1_dec_4 7 11 rfl (by decide) (fun c_ => (absurd c_ (by rw [show nI 0 + (-1 : Int32) = -1 from by decide]; decide))) (fun _ => ?_)
    refine k_iload_n F dJ1_dec_7 8 rfl rfl rfl ?_
    refine k_iconst (v := 1) F dJ1_dec_8 9 rfl (by decide) ?_
    refine k_isub F dJ1_dec_9 10 rfl ?_
    rw [nI_dec (c := m) (by omega)]
    refine k_istore_n (lv' := [(0, _), (1, _)]) F dJ1_dec_10 11 rfl rfl (Nat.le_of_ble_eq_true rfl) rfl rfl rfl ?_
    refine k_iload_n F dJ1_dec_11 12 rfl rfl rfl ?_
    exact k_iret F dJ1_dec_12 (by first | exact Nat.le_of_ble_eq_true rfl | omega) (by first | exact Nat.le_of_ble_eq_true rfl | omega) ⟨by rw [e9], rfl⟩
set_option maxHeartbeats 4000000 in
set_option maxRecDepth 100000 in
theorem zJ1_pollLast {l : Launch} {g : kG} (S : kStart l g) {h : kH} {d e : Nat} {t t' : kT} {c : Nat} {q : Nat → Nat} (hD : DqR h d e t t' c q) (ht : t.1 ≠ 0) (ht' : t'.1 ≠ 0) (hne : t ≠ t') (hc : 0 < c) : kMet l g yJ1_pollLast (Cond.code yJ1_pollLast cJ1_pollLast 4 (Option.some (Jvm.ClassFile.FieldType.object "java/lang/Object"))) 2 0 0 [.ref d] h (kV (fun v h' => v = .ref (q (c - 1)) ∧ DqR h' d e t t' (c - 1) q ∧ kKp (fun s => s = t ∨ s = t') h h')) := by
  refine kEnter S kd_J1_pollLast (Nat.le_of_ble_eq_true rfl) (fun x F hxl hxg => ?_)
  subst hxl; subst hxg
  have hlv : lv_args 0 [.ref d] = [(0, .ref d)] := rfl
  rw [hlv]
  obtain ⟨hd, f, e1, e2, e3, e4, e5⟩ := id hD
  have e0 : f ((hd + (c - 1)) % 17) = some (q (c - 1)) := e5 (c - 1) (by omega)
  refine k_aload_n F dJ1_pollLast_0 1 rfl rfl rfl ?_
  refine k_get F kcJ1 0 (by decide) q232 (fun _ e => e) dJ1_pollLast_1 4 rfl (kHs.of e3) rfl ?_
  refine k_dup F dJ1_pollLast_4 5 rfl rfl ?_
  refine k_astore_n (lv' := [(0, _), (1, _)]) F dJ1_pollLast_5 6 rfl rfl (Nat.le_of_ble_eq_true rfl) rfl rfl rfl ?_
  refine k_aload_n F dJ1_pollLast_6 7 rfl rfl rfl ?_
  refine k_get F kcJ1 2 (by decide) q234 (fun _ e => e) dJ1_pollLast_7 10 rfl (kHs.of e3) rfl ?_
  refine k_aload_n F dJ1_pollLast_10 11 rfl rfl rfl ?_
  refine k_alen F dJ1_pollLast_11 12 rfl (kHs.of e4) (by decide) (fun cA => vp_arr' cA _ _) ?_
  refine k_callV F kd_J1_dec q3045 q151 (kInvS (Bs := [_, _]) F q3043 q3044 q151 kd_J1_dec q3045 dJ1_pollLast_12 rfl (by decide)) (zJ1_dec F.st ((hd + c) % 17) 17 (by omega) (by omega)) 15 rfl (Nat.le_of_ble_eq_true rfl) (by first | exact Nat.le_of_ble_eq_true rfl | omega) (by first | exact Nat.le_of_ble_eq_true rfl | omega) (by first | exact Nat.le_of_ble_eq_true rfl | omega) (by first | exact Nat.le_of_ble_eq_true rfl | omega) (fun r1 h1 hr1 => ?_)
  obtain ⟨rfl, rfl⟩ := hr1
  refine k_topi (b := nI ((hd + (c - 1)) % 17)) (by congr 1; omega) ?_
  refine k_dup F dJ1_pollLast_15 16 rfl rfl ?_
  refine k_istore_n (lv' := [(0, _), (1, _), (2, _)]) F dJ1_pollLast_16 17 rfl rfl (Nat.le_of_ble_eq_true rfl) rfl rfl rfl ?_
  refine k_callV F kd_J1_elementAt q2916 q151 (kInvS (Bs := [_, _]) F q2914 q2915 q151 kd_J1_elementAt q2916 dJ1_pollLast_17 rfl (by decide)) (zJ1_elementAt F.st e4 ((hd + (c - 1)) % 17) (by omega)) 20 rfl (Nat.le_of_ble_eq_true rfl) (by first | exact Nat.le_of_ble_eq_true rfl | omega) (by first | exact Nat.le_of_ble_eq_true rfl | omega) (by first | exact Nat.le_of_ble_eq_true rfl | omega) (by first | exact Nat.le_of_ble_eq_true rfl | omega) (fun r2 h2 hr2 => ?_)
  obtain ⟨rfl, rfl⟩ := hr2
  rw [e0]
  refine k_astore_n (lv' := [(0, _), (1, _), (2, _), (3, _)]) F dJ1_pollLast_20 21 rfl rfl (Nat.le_of_ble_eq_true rfl) rfl rfl rfl ?_
  refine k_aload_n F dJ1_pollLast_21 22 rfl rfl rfl ?_
  refine k_ifnull (r := some ((q (c - 1)))) F dJ1_pollLast_22 25 34 rfl (by decide) (fun z => by cases z) (fun _ _ => ?_)
  refine k_aload_n F dJ1_pollLast_25 26 rfl rfl rfl ?_
  refine k_aload_n F dJ1_pollLast_26 27 rfl rfl rfl ?_
  refine k_iload_n F dJ1_pollLast_27 28 rfl rfl rfl ?_
  refine k_dup_x1 F dJ1_pollLast_28 29 rfl rfl rfl ?_
  refine k_put (fs' := [_, _, _]) F kcJ1 2 (by decide) (knJ1 2) q234 (fun _ e => e) rfl dJ1_pollLast_29 32 rfl e3 ht rfl rfl (by simp) rfl ?_
  refine kW.gen (fun h' => h' d = some (t, eO 0 [.ref e, .int (nI hd), .int (nI ((hd + (c - 1)) % 17))]) ∧ h' e = some (t', eQ 4 17 f) ∧ kKp (fun s => s = t ∨ s = t') h h') ⟨kUp_self, kUp_tag e3 e4 hne, kKp.up e3 (Or.inl rfl)⟩ (fun h9 H9 => ?_)
  obtain ⟨e3, e4, hK⟩ := H9
  refine k_null F dJ1_pollLast_32 33 rfl ?_
  refine k_aastN F dJ1_pollLast_33 34 rfl e4 (by decide) ht' (j := (hd + (c - 1)) % 17) rfl (by omega) (by omega) ?_
  refine kW.gen (fun h' => h' d = some (t, eO 0 [.ref e, .int (nI hd), .int (nI ((hd + (c - 1)) % 17))]) ∧ h' e = some (t', eQ 4 17 (va_up f ((hd + (c - 1)) % 17) none)) ∧ kKp (fun s => s = t ∨ s = t') h h') ⟨kUp_tag e4 e3 (Ne.symm hne), kUp_self, hK.tr (kKp.up e4 (Or.inr rfl))⟩ (fun h9 H9 => ?_)
  obtain ⟨e3, e4, hK⟩ := H9
  refine k_aload_n F dJ1_pollLast_34 35 rfl rfl rfl ?_
  exact k_aret F dJ1_pollLast_35 (Or.inl ⟨_, rfl⟩) (by first | exact Or.inr ⟨_, rfl⟩ | exact Or.inl rfl | exact va_rf_ok _) (by first | exact Nat.le_of_ble_eq_true rfl | omega) (by first | exact Nat.le_of_ble_eq_true rfl | omega) ⟨rfl, ⟨hd, _, e1, by omega, e3, e4, fun i hi => by
    have z : (hd + i) % 17 ≠ (hd + (c - 1)) % 17 := by omega
    rw [va_up_ne _ _ z]
    exact e5 i (by omega)⟩, hK⟩
set_option maxHeartbeats 4000000 in
set_option maxRecDepth 100000 in
theorem zJ1_removeLast {l : Launch} {g : kG} (S : kStart l g) {h : kH} {d e : Nat} {t t' : kT} {c : Nat} {q : Nat → Nat} (hD : DqR h d e t t' c q) (ht : t.1 ≠ 0) (ht' : t'.1 ≠ 0) (hne : t ≠ t') (hc : 0 < c) : kMet l g yJ1_removeLast (Cond.code yJ1_removeLast cJ1_removeLast 2 (Option.some (Jvm.ClassFile.FieldType.object "java/lang/Object"))) 6 0 0 [.ref d] h (kV (fun v h' => v = .ref (q (c - 1)) ∧ DqR h' d e t t' (c - 1) q ∧ kKp (fun s => s = t ∨ s = t') h h')) := by
  refine kEnter S kd_J1_removeLast (Nat.le_of_ble_eq_true rfl) (fun x F hxl hxg => ?_)
  subst hxl; subst hxg
  have hlv : lv_args 0 [.ref d] = [(0, .ref d)] := rfl
  rw [hlv]
  obtain ⟨hd, f, e1, e2, e3, e4, e5⟩ := id hD
  refine k_aload_n F dJ1_removeLast_0 1 rfl rfl rfl ?_
  refine k_callV F kd_J1_pollLast q3042 q151 (kInvV (Bs := []) F kcJ1 q3039 q3040 q3041 kd_J1_pollLast q3042 dJ1_removeLast_1 (kHs.of e3) rfl (by decide)) (zJ1_pollLast F.st hD ht ht' hne hc) 4 rfl (Nat.le_of_ble_eq_true rfl) (by first | exact Nat.le_of_ble_eq_true rfl | omega) (by first | exact Nat.le_of_ble_eq_true rfl | omega) (by first | exact Nat.le_of_ble_eq_true rfl | omega) (by first | exact Nat.le_of_ble_eq_true rfl | omega) (fun r1 h1 hr1 => ?_)
  obtain ⟨rfl, hD2, hK⟩ := hr1
  refine k_astore_n (lv' := [(0, _), (1, _)]) F dJ1_removeLast_4 5 rfl rfl (Nat.le_of_ble_eq_true rfl) rfl rfl rfl ?_
  refine k_aload_n F dJ1_removeLast_5 6 rfl rfl rfl ?_
  refine k_ifnonnull (r := some ((q (c - 1)))) F dJ1_removeLast_6 9 17 rfl (by decide) (fun _ _ => ?_) (fun z => by cases z)
  refine k_aload_n F dJ1_removeLast_17 18 rfl rfl rfl ?_
  exact k_aret F dJ1_removeLast_18 (Or.inl ⟨_, rfl⟩) (by first | exact Or.inr ⟨_, rfl⟩ | exact Or.inl rfl | exact va_rf_ok _) (by first | exact Nat.le_of_ble_eq_true rfl | omega) (by first | exact Nat.le_of_ble_eq_true rfl | omega) ⟨rfl, hD2, hK⟩
set_option maxHeartbeats 4000000 in
set_option maxRecDepth 100000 in
theorem zJ1_circularClear {l : Launch} {g : kG} (S : kStart l g) {h : kH} {e : Nat} {t' : kT} {f : Nat → Option Nat} (ht' : t'.1 ≠ 0) (he : h e = some (t', eQ 4 17 f)) (i0 j : Nat) (hi : i0 < 17) (hj : j < 17) : kMet l g yJ1_circularClear (Cond.code yJ1_circularClear cJ1_circularClear 4 (Option.none : Option Jvm.ClassFile.FieldType)) 1 0 0 [.ref e, .int (nI i0), .int (nI j)] h (kN (fun h' => (∃ f', h' e = some (t', eQ 4 17 f')) ∧ ∀ b, b ≠ e → h' b = h b)) := by
  refine kEnter S kd_J1_circularClear (Nat.le_of_ble_eq_true rfl) (fun x F hxl hxg => ?_)
  subst hxl; subst hxg
  have hlv : lv_args 0 [.ref e, .int (nI i0), .int (nI j)] = [(0, .ref e), (1, .int (nI i0)), (2, .int (nI j))] := rfl
  rw [hlv]
  have A : ∀ (n i : Nat) (h1 : kH) (f' : Nat → Option Nat), j - i < n → i ≤ 17 → h1 e = some (t', eQ 4 17 f') → (∀ b, b ≠ e → h1 b = h b) → kW x 0 0 h1 12 [(0, .ref e), (1, .int (nI i)), (2, .int (nI j)), (3, .int (nI j))] [] := by
    intro n
    induction n with
    | zero => intro i h1 f' hn; omega
    | succ n ih =>
      intro i h1 f' hn hi he hx
      refine k_iload_n F dJ1_circularClear_12 13 rfl rfl rfl ?_
      refine k_iload_n F dJ1_circularClear_13 14 rfl rfl rfl ?_
      refine k_icmpge F dJ1_circularClear_14 17 27 rfl (by decide) (fun c_a => ?_) (fun c_a => ?_)
      · refine k_iload_n F dJ1_circularClear_27 28 rfl rfl rfl ?_
        refine k_iload_n F dJ1_circularClear_28 29 rfl rfl rfl ?_
        refine k_icmpne F dJ1_circularClear_29 32 35 rfl (by decide) (fun c_ => (absurd rfl c_)) (fun _ => ?_)
        refine k_goto F dJ1_circularClear_32 42 (by decide) ?_
        exact k_vret F dJ1_circularClear_42 (by first | exact Nat.le_of_ble_eq_true rfl | omega) (by first | exact Nat.le_of_ble_eq_true rfl | omega) ⟨⟨f', he⟩, hx⟩
      · rw [nI_leE (by omega) (by omega)] at c_a
        refine k_aload_n F dJ1_circularClear_17 18 rfl rfl rfl ?_
        refine k_iload_n F dJ1_circularClear_18 19 rfl rfl rfl ?_
        refine k_null F dJ1_circularClear_19 20 rfl ?_
        refine k_aastN F dJ1_circularClear_20 21 rfl he (by decide) ht' (j := i) rfl (by omega) (by omega) ?_
        refine k_iinc (e := 1) (lv' := [(0, _), (1, _), (2, _), (3, _)]) F dJ1_circularClear_21 24 rfl rfl (by decide) rfl (Nat.le_of_ble_eq_true rfl) rfl rfl rfl ?_
        rw [nI_1']
        refine k_goto F dJ1_circularClear_24 12 (by decide) ?_
        exact ih (i + 1) _ _ (by omega) (by omega) kUp_self (fun b hb => (kUp_ne hb).trans (hx b hb))
  by_cases hij : i0 ≤ j
  · refine k_iload_n F dJ1_circularClear_0 1 rfl rfl rfl ?_
    refine k_iload_n F dJ1_circularClear_1 2 rfl rfl rfl ?_
    refine k_icmpgt F dJ1_circularClear_2 5 9 rfl (by decide) (fun c_ => (absurd c_ (by rw [nI_ltE (by omega) (by omega)]; omega))) (fun _ => ?_)
    refine k_iload_n F dJ1_circularClear_5 6 rfl rfl rfl ?_
    refine k_goto F dJ1_circularClear_6 11 (by decide) ?_
    refine k_istore_n (lv' := [(0, _), (1, _), (2, _), (3, _)]) F dJ1_circularClear_11 12 rfl rfl (Nat.le_of_ble_eq_true rfl) rfl rfl rfl ?_
    exact A 20 i0 h f (by omega) (by omega) he (fun _ _ => rfl)
  · have B : ∀ (n i : Nat) (h1 : kH) (f' : Nat → Option Nat), 17 - i < n → i ≤ 17 → h1 e = some (t', eQ 4 17 f') → (∀ b, b ≠ e → h1 b = h b) → kW x 0 0 h1 12 [(0, .ref e), (1, .int (nI i)), (2, .int (nI j)), (3, .int (nI 17))] [] := by
      intro n
      induction n with
      | zero => intro i h1 f' hn; omega
      | succ n ih =>
        intro i h1 f' hn hi he hx
        refine k_iload_n F dJ1_circularClear_12 13 rfl rfl rfl ?_
        refine k_iload_n F dJ1_circularClear_13 14 rfl rfl rfl ?_
        refine k_icmpge F dJ1_circularClear_14 17 27 rfl (by decide) (fun c_a => ?_) (fun c_a => ?_)
        · refine k_iload_n F dJ1_circularClear_27 28 rfl rfl rfl ?_
          refine k_iload_n F dJ1_circularClear_28 29 rfl rfl rfl ?_
          refine k_icmpne F dJ1_circularClear_29 32 35 rfl (by decide) (fun _ => ?_) (fun c_ => (absurd c_ (by rw [nI_inj (by omega) (by omega)]; omega)))
          refine k_iconst (v := 0) F dJ1_circularClear_35 36 rfl (by decide) ?_
          refine k_istore_n (lv' := [(0, _), (1, _), (2, _), (3, _)]) F dJ1_circularClear_36 37 rfl rfl (Nat.le_of_ble_eq_true rfl) rfl rfl rfl ?_
          refine k_iload_n F dJ1_circularClear_37 38 rfl rfl rfl ?_
          refine k_istore_n (lv' := [(0, _), (1, _), (2, _), (3, _)]) F dJ1_circularClear_38 39 rfl rfl (Nat.le_of_ble_eq_true rfl) rfl rfl rfl ?_
          refine k_goto F dJ1_circularClear_39 12 (by decide) ?_
          exact A 20 0 h1 f' (by omega) (by omega) he hx
        · rw [nI_leE (by omega) (by omega)] at c_a
          refine k_aload_n F dJ1_circularClear_17 18 rfl rfl rfl ?_
          refine k_iload_n F dJ1_circularClear_18 19 rfl rfl rfl ?_
          refine k_null F dJ1_circularClear_19 20 rfl ?_
          refine k_aastN F dJ1_circularClear_20 21 rfl he (by decide) ht' (j := i) rfl (by omega) (by omega) ?_
          refine k_iinc (e := 1) (lv' := [(0, _), (1, _), (2, _), (3, _)]) F dJ1_circularClear_21 24 rfl rfl (by decide) rfl (Nat.le_of_ble_eq_true rfl) rfl rfl rfl ?_
          rw [nI_1']
          refine k_goto F dJ1_circularClear_24 12 (by decide) ?_
          exact ih (i + 1) _ _ (by omega) (by omega) kUp_self (fun b hb => (kUp_ne hb).trans (hx b hb))
    refine k_iload_n F dJ1_circularClear_0 1 rfl rfl rfl ?_
    refine k_iload_n F dJ1_circularClear_1 2 rfl rfl rfl ?_
    refine k_icmpgt F dJ1_circularClear_2 5 9 rfl (by decide) (fun _ => ?_) (fun c_ => (absurd (by rw [nI_ltE (by omega) (by omega)]; omega) c_))
    refine k_aload_n F dJ1_circularClear_9 10 rfl rfl rfl ?_
    refine k_alen F dJ1_circularClear_10 11 rfl (kHs.of he) (by decide) (fun cA => vp_arr' cA _ _) ?_
    refine k_istore_n (lv' := [(0, _), (1, _), (2, _), (3, _)]) F dJ1_circularClear_11 12 rfl rfl (Nat.le_of_ble_eq_true rfl) rfl rfl rfl ?_
    exact B 20 i0 h f (by omega) (by omega) he (fun _ _ => rfl)
set_option maxHeartbeats 4000000 in
set_option maxRecDepth 100000 in
theorem zJ1_clear {l : Launch} {g : kG} (S : kStart l g) {h : kH} {d e : Nat} {t t' : kT} {c : Nat} {q : Nat → Nat} (hD : DqR h d e t t' c q) (ht : t.1 ≠ 0) (ht' : t'.1 ≠ 0) (hne : t ≠ t') : kMet l g yJ1_clear (Cond.code yJ1_clear cJ1_clear 1 (Option.none : Option Jvm.ClassFile.FieldType)) 2 0 0 [.ref d] h (kN (fun h' => (∀ q, DqR h' d e t t' 0 q) ∧ kKp (fun s => s = t ∨ s = t') h h')) := by
  refine kEnter S kd_J1_clear (Nat.le_of_ble_eq_true rfl) (fun x F hxl hxg => ?_)
  subst hxl; subst hxg
  have hlv : lv_args 0 [.ref d] = [(0, .ref d)] := rfl
  rw [hlv]
  obtain ⟨hd, f, e1, e2, e3, e4, e5⟩ := id hD
  have hde : d ≠ e := fun z => by subst z; rw [e3] at e4; cases e4
  refine k_aload_n F dJ1_clear_0 1 rfl rfl rfl ?_
  refine k_get F kcJ1 0 (by decide) q232 (fun _ e => e) dJ1_clear_1 4 rfl (kHs.of e3) rfl ?_
  refine k_aload_n F dJ1_clear_4 5 rfl rfl rfl ?_
  refine k_get F kcJ1 1 (by decide) q233 (fun _ e => e) dJ1_clear_5 8 rfl (kHs.of e3) rfl ?_
  refine k_aload_n F dJ1_clear_8 9 rfl rfl rfl ?_
  refine k_get F kcJ1 2 (by decide) q234 (fun _ e => e) dJ1_clear_9 12 rfl (kHs.of e3) rfl ?_
  refine k_callN F kd_J1_circularClear q2368 q151 (kInvS (Bs := [_, _, _]) F q2366 q2367 q151 kd_J1_circularClear q2368 dJ1_clear_12 rfl (by decide)) (zJ1_circularClear F.st ht' e4 hd ((hd + c) % 17) e1 (by omega)) 15 rfl (Nat.le_of_ble_eq_true rfl) (by first | exact Nat.le_of_ble_eq_true rfl | omega) (by first | exact Nat.le_of_ble_eq_true rfl | omega) (by first | exact Nat.le_of_ble_eq_true rfl | omega) (by first | exact Nat.le_of_ble_eq_true rfl | omega) (fun h1 hr1 => ?_)
  obtain ⟨⟨f2, f3⟩, hx⟩ := hr1
  have e3' := (hx d hde).trans e3
  have hK : kKp (fun s => s = t ∨ s = t') h h1 := fun x s v hv hs => by
    by_cases z : x = e
    · subst z
      rw [e4] at hv
      cases hv
      exact absurd (Or.inr rfl) hs
    · exact (hx x z).trans hv
  refine k_aload_n F dJ1_clear_15 16 rfl rfl rfl ?_
  refine k_aload_n F dJ1_clear_16 17 rfl rfl rfl ?_
  refine k_iconst (v := 0) F dJ1_clear_17 18 rfl (by decide) ?_
  refine k_dup_x1 F dJ1_clear_18 19 rfl rfl rfl ?_
  refine k_put (fs' := [_, _, _]) F kcJ1 2 (by decide) (knJ1 2) q234 (fun _ e => e) rfl dJ1_clear_19 22 rfl e3' ht rfl rfl (by simp) rfl ?_
  refine kW.gen (fun h' => h' d = some (t, eO 0 [.ref e, .int (nI hd), .int 0]) ∧ h' e = some (t', eQ 4 17 f2) ∧ kKp (fun s => s = t ∨ s = t') h h') ⟨kUp_self, kUp_tag e3' f3 hne, hK.tr (kKp.up e3' (Or.inl rfl))⟩ (fun h9 H9 => ?_)
  obtain ⟨e3, e4, hK⟩ := H9
  refine k_put (fs' := [_, _, _]) F kcJ1 1 (by decide) (knJ1 1) q233 (fun _ e => e) rfl dJ1_clear_22 25 rfl e3 ht rfl rfl (by simp) rfl ?_
  exact k_vret F dJ1_clear_25 (by first | exact Nat.le_of_ble_eq_true rfl | omega) (by first | exact Nat.le_of_ble_eq_true rfl | omega) ⟨fun q => ⟨0, f2, by omega, by omega, kUp_self, kUp_tag e3 e4 hne, fun i hi => by omega⟩, hK.tr (kKp.up e3 (Or.inl rfl))⟩

