/-! the component: small things: lines, arms, couples -/
theorem kd_X1_in : kCd (Cond.code yX1_in cX1_in 6 (Option.some Jvm.ClassFile.FieldType.boolean)) yX1_in cX1_in 6 (Option.some Jvm.ClassFile.FieldType.boolean) [] := kCd_code (by decide +kernel)
theorem kd_X1_one : kCd (Cond.code yX1_one cX1_one 1 (Option.some Jvm.ClassFile.FieldType.int)) yX1_one cX1_one 1 (Option.some Jvm.ClassFile.FieldType.int) [] := kCd_code (by decide +kernel)
theorem kd_X4_init : kCd (Cond.code yX4_init cX4_init 1 (Option.none : Option Jvm.ClassFile.FieldType)) yX4_init cX4_init 1 (Option.none : Option Jvm.ClassFile.FieldType) [] := kCd_code (by decide +kernel)
theorem kd_X4_copy : kCd (Cond.code yX4_copy cX4_copy 2 (Option.some (Jvm.ClassFile.FieldType.object "LoopSignals$Line"))) yX4_copy cX4_copy 2 (Option.some (Jvm.ClassFile.FieldType.object "LoopSignals$Line")) [] := kCd_code (by decide +kernel)
theorem kd_X4_comes : kCd (Cond.code yX4_comes cX4_comes 2 (Option.none : Option Jvm.ClassFile.FieldType)) yX4_comes cX4_comes 2 (Option.none : Option Jvm.ClassFile.FieldType) [] := kCd_code (by decide +kernel)
theorem kd_X4_at : kCd (Cond.code yX4_at cX4_at 2 (Option.some Jvm.ClassFile.FieldType.int)) yX4_at cX4_at 2 (Option.some Jvm.ClassFile.FieldType.int) [] := kCd_code (by decide +kernel)
theorem kd_X4_goes : kCd (Cond.code yX4_goes cX4_goes 2 (Option.some Jvm.ClassFile.FieldType.int)) yX4_goes cX4_goes 2 (Option.some Jvm.ClassFile.FieldType.int) [] := kCd_code (by decide +kernel)
theorem kd_X3_init : kCd (Cond.code yX3_init cX3_init 3 (Option.none : Option Jvm.ClassFile.FieldType)) yX3_init cX3_init 3 (Option.none : Option Jvm.ClassFile.FieldType) [] := kCd_code (by decide +kernel)
theorem kd_X3_copy : kCd (Cond.code yX3_copy cX3_copy 2 (Option.some (Jvm.ClassFile.FieldType.object "LoopSignals$Arm"))) yX3_copy cX3_copy 2 (Option.some (Jvm.ClassFile.FieldType.object "LoopSignals$Arm")) [] := kCd_code (by decide +kernel)
theorem kd_X3_asks : kCd (Cond.code yX3_asks cX3_asks 1 (Option.some Jvm.ClassFile.FieldType.boolean)) yX3_asks cX3_asks 1 (Option.some Jvm.ClassFile.FieldType.boolean) [] := kCd_code (by decide +kernel)
theorem kd_X5_init : kCd (Cond.code yX5_init cX5_init 3 (Option.none : Option Jvm.ClassFile.FieldType)) yX5_init cX5_init 3 (Option.none : Option Jvm.ClassFile.FieldType) [] := kCd_code (by decide +kernel)
theorem kd_X5_equals : kCd (Cond.code yX5_equals cX5_equals 3 (Option.some Jvm.ClassFile.FieldType.boolean)) yX5_equals cX5_equals 3 (Option.some Jvm.ClassFile.FieldType.boolean) [] := kCd_code (by decide +kernel)
theorem kd_X5_hashCode : kCd (Cond.code yX5_hashCode cX5_hashCode 1 (Option.some Jvm.ClassFile.FieldType.int)) yX5_hashCode cX5_hashCode 1 (Option.some Jvm.ClassFile.FieldType.int) [] := kCd_code (by decide +kernel)
theorem kd_J13_max : kCd (Cond.code yJ13_max cJ13_max 2 (Option.some Jvm.ClassFile.FieldType.int)) yJ13_max cJ13_max 2 (Option.some Jvm.ClassFile.FieldType.int) [] := kCd_code (by decide +kernel)
theorem i64_le {a b : Int32} : (a.toInt64 ≤ b.toInt64) ↔ a ≤ b := by
  rw [Int64.le_iff_toInt_le, Int32.le_iff_toInt_le, Int32.toInt_toInt64, Int32.toInt_toInt64]
def inL (v lo hi : Int64) : Bool := decide (lo ≤ v) && decide (v ≤ hi)
theorem inL_i {v lo hi : Int32} : inL v.toInt64 lo.toInt64 hi.toInt64 = inF v lo hi := by
  unfold inL inF
  rw [decide_eq_decide.mpr i64_le, decide_eq_decide.mpr i64_le]
def iMax (a b : Int32) : Int32 := if b ≤ a then a else b
set_option maxHeartbeats 4000000 in
set_option maxRecDepth 100000 in
theorem zX1_in {l : Launch} {g : kG} (S : kStart l g) {h : kH} (v lo hi : Int64) : kMet l g yX1_in (Cond.code yX1_in cX1_in 6 (Option.some Jvm.ClassFile.FieldType.boolean)) 1 0 0 [.long v, .long lo, .long hi] h (mRd h (.int (kB (inL v lo hi)))) := by
  refine kEnter S kd_X1_in (Nat.le_of_ble_eq_true rfl) (fun x F hxl hxg => ?_)
  subst hxl; subst hxg
  have hlv : lv_args 0 [.long v, .long lo, .long hi] = [(0, .long v), (2, .long lo), (4, .long hi)] := rfl
  rw [hlv]
  refine k_lload_n F dX1_in_0 1 rfl rfl rfl ?_
  refine k_lload_n F dX1_in_1 2 rfl rfl rfl ?_
  refine k_lcmp F dX1_in_2 3 rfl ?_
  have go : ∀ b1 : Bool, b1 = inL v lo hi → kW x 0 0 h 18 [(0, .long v), (2, .long lo), (4, .long hi)] [.int (kB b1)] := by
    intro b1 hb1
    rw [← hb1] at F
    exact k_zret F dX1_in_18 (by first | rfl | exact kzb _ | exact pk_nc _ | decide) (by first | exact Nat.le_of_ble_eq_true rfl | omega) (by first | exact Nat.le_of_ble_eq_true rfl | omega) ⟨rfl, rfl⟩
  refine k_iflt F dX1_in_3 6 17 rfl (by decide) (fun c_a => ?_) (fun c_a => ?_)
  · rw [lg_cmp_lt] at c_a
    refine k_iconst (v := 0) F dX1_in_17 18 rfl (by decide) ?_
    exact go false (by unfold inL; rw [decide_eq_false (Int64.not_le.mpr c_a)]; rfl)
  · rw [lg_cmp_lt, Int64.not_lt] at c_a
    refine k_lload_n F dX1_in_6 7 rfl rfl rfl ?_
    refine k_lload F dX1_in_7 9 rfl rfl ?_
    refine k_lcmp F dX1_in_9 10 rfl ?_
    refine k_ifgt F dX1_in_10 13 17 rfl (by decide) (fun c_d => ?_) (fun c_d => ?_)
    · rw [lg_cmp_gt] at c_d
      refine k_iconst (v := 0) F dX1_in_17 18 rfl (by decide) ?_
      exact go false (by unfold inL; rw [decide_eq_false (Int64.not_le.mpr c_d), Bool.and_false])
    · rw [lg_cmp_gt, Int64.not_lt] at c_d
      refine k_iconst (v := 1) F dX1_in_13 14 rfl (by decide) ?_
      refine k_goto F dX1_in_14 18 (by decide) ?_
      exact go true (by unfold inL; rw [decide_eq_true c_a, decide_eq_true c_d]; rfl)
set_option maxHeartbeats 4000000 in
set_option maxRecDepth 100000 in
theorem zX1_one {l : Launch} {g : kG} (S : kStart l g) {h : kH} (b : Bool) : kMet l g yX1_one (Cond.code yX1_one cX1_one 1 (Option.some Jvm.ClassFile.FieldType.int)) 1 0 0 [.int (kB b)] h (mRd h (.int (kB b))) := by
  refine kEnter S kd_X1_one (Nat.le_of_ble_eq_true rfl) (fun x F hxl hxg => ?_)
  subst hxl; subst hxg
  have hlv : lv_args 0 [.int (kB b)] = [(0, .int (kB b))] := rfl
  rw [hlv]
  refine k_iload_n F dX1_one_0 1 rfl rfl rfl ?_
  refine k_ifeq F dX1_one_1 4 8 rfl (by decide) (fun c_a => ?_) (fun c_a => ?_)
  · rw [kB_0] at c_a
    subst c_a
    refine k_iconst (v := 0) F dX1_one_8 9 rfl (by decide) ?_
    exact k_iret F dX1_one_9 (by first | exact Nat.le_of_ble_eq_true rfl | omega) (by first | exact Nat.le_of_ble_eq_true rfl | omega) ⟨rfl, rfl⟩
  · rw [kB_0, Bool.not_eq_false] at c_a
    subst c_a
    refine k_iconst (v := 1) F dX1_one_4 5 rfl (by decide) ?_
    refine k_goto F dX1_one_5 9 (by decide) ?_
    exact k_iret F dX1_one_9 (by first | exact Nat.le_of_ble_eq_true rfl | omega) (by first | exact Nat.le_of_ble_eq_true rfl | omega) ⟨rfl, rfl⟩
set_option maxHeartbeats 4000000 in
set_option maxRecDepth 100000 in
theorem zJ13_max {l : Launch} {g : kG} (S : kStart l g) {h : kH} (a b : Int32) : kMet l g yJ13_max (Cond.code yJ13_max cJ13_max 2 (Option.some Jvm.ClassFile.FieldType.int)) 1 0 0 [.int a, .int b] h (mRd h (.int (iMax a b))) := by
  refine kEnter S kd_J13_max (Nat.le_of_ble_eq_true rfl) (fun x F hxl hxg => ?_)
  subst hxl; subst hxg
  have hlv : lv_args 0 [.int a, .int b] = [(0, .int a), (1, .int b)] := rfl
  rw [hlv]
  refine k_iload_n F dJ13_max_0 1 rfl rfl rfl ?_
  refine k_iload_n F dJ13_max_1 2 rfl rfl rfl ?_
  refine k_icmplt F dJ13_max_2 5 9 rfl (by decide) (fun c_z => ?_) (fun c_z => ?_)
  · refine k_iload_n F dJ13_max_9 10 rfl rfl rfl ?_
    exact k_iret F dJ13_max_10 (by first | exact Nat.le_of_ble_eq_true rfl | omega) (by first | exact Nat.le_of_ble_eq_true rfl | omega) ⟨by unfold iMax; first | rw [if_pos c_z] | rw [if_neg (Int32.not_le.mpr c_z)], rfl⟩
  · refine k_iload_n F dJ13_max_5 6 rfl rfl rfl ?_
    refine k_goto F dJ13_max_6 10 (by decide) ?_
    exact k_iret F dJ13_max_10 (by first | exact Nat.le_of_ble_eq_true rfl | omega) (by first | exact Nat.le_of_ble_eq_true rfl | omega) ⟨by unfold iMax; first | rw [if_neg c_z] | rw [if_pos (Int32.not_lt.mp c_z)], rfl⟩
/-- no cell is changed -/
def kSame (h h' : kH) : Prop := ∀ (a : Nat) (v : kT × kE), h a = some v → h' a = some v
theorem kSame.rf {h : kH} : kSame h h := fun _ _ q => q
theorem kSame.tr {h h1 h2 : kH} (a : kSame h h1) (b : kSame h1 h2) : kSame h h2 := fun q v z => b q v (a q v z)
theorem kSame.new {h : kH} {a : Nat} {t : kT} {e : kE} (ha : h a = none) : kSame h (kUp h a t e) := fun _ _ q => kUp_nw ha q
theorem kSame.kp {S : kT → Prop} {h h' : kH} (a : kSame h h') : kKp S h h' := fun q t e z _ => a q _ z
theorem kHs.same {g : kG} {h h' : kH} {a : Nat} {t : kT} {e : kE} (ha : kHs g h a t e) (s : kSame h h') : kHs g h' a t e := by
  rcases ha with q | q
  · exact Or.inl (s _ _ q)
  · exact Or.inr q
/-- a new cell may be written: nothing that stood is changed -/
theorem kSame.upN {h h1 : kH} {a : Nat} {t : kT} {e e0 : kE} (s : kSame h h1) (hn : h a = none) (h1a : h1 a = some (t, e0)) : kSame h (kUp h1 a t e) := fun b v q => by
  rw [kUp_ne]
  · exact s b v q
  · intro z
    subst z
    rw [hn] at q
    cases q
/-- a line of c cars: their ticks from the head on -/
def LnR (h : kH) (a b : Nat) (t t' : kT) (c : Nat) (q : Nat → Int32) : Prop := ∃ (hd : Nat) (f : Nat → Int32), hd < 99 ∧ c ≤ 99 ∧ h a = some (t, eO 18 [.ref b, .int (nI hd), .int (nI c)]) ∧ h b = some (t', eI 99 f) ∧ ∀ i, i < c → f ((hd + i) % 99) = q i
theorem LnR.keep {S : kT → Prop} {h h' : kH} {a b : Nat} {t t' : kT} {c : Nat} {q : Nat → Int32} (hL : LnR h a b t t' c q) (hK : kKp S h h') (h1 : ¬ S t) (h2 : ¬ S t') : LnR h' a b t t' c q := by
  obtain ⟨hd, f, e1, e2, e3, e4, e5⟩ := hL
  exact ⟨hd, f, e1, e2, hK _ _ _ e3 h1, hK _ _ _ e4 h2, e5⟩
theorem LnR.same {h h' : kH} {a b : Nat} {t t' : kT} {c : Nat} {q : Nat → Int32} (hL : LnR h a b t t' c q) (hK : kSame h h') : LnR h' a b t t' c q := hL.keep (S := fun _ => False) hK.kp id id
set_option maxHeartbeats 4000000 in
set_option maxRecDepth 100000 in
theorem zX4_init {l : Launch} {g : kG} (S : kStart l g) {h : kH} {a : Nat} {t : kT} (t' : kT) (ht : t.1 ≠ 0) (ha : h a = some (t, eO 18 [.null, .int 0, .int 0])) : kMet l g yX4_init (Cond.code yX4_init cX4_init 1 (Option.none : Option Jvm.ClassFile.FieldType)) 2 1 99 [.ref a] h (kN (fun h' => ∃ b, h b = none ∧ h' a = some (t, eO 18 [.ref b, .int 0, .int 0]) ∧ h' b = some (t', eI 99 (fun _ => 0)) ∧ ∀ x v, x ≠ a → h x = some v → h' x = some v)) := by
  refine kEnter S kd_X4_init (Nat.le_of_ble_eq_true rfl) (fun x F hxl hxg => ?_)
  subst hxl; subst hxg
  have hlv : lv_args 0 [.ref a] = [(0, .ref a)] := rfl
  rw [hlv]
  refine k_aload_n F dX4_init_0 1 rfl rfl rfl ?_
  refine k_objInit F q1209 q219 q220 dX4_init_1 4 rfl (by omega) (Nat.le_of_ble_eq_true rfl) ?_
  refine k_aload_n F dX4_init_4 5 rfl rfl rfl ?_
  refine k_bipush (v := 99) F dX4_init_5 7 rfl (by decide) ?_
  refine k_newa F dX4_init_7 9 rfl 0 (by decide) rfl q1194 (c := .inl (fun _ => 0)) (fun _ => rfl) t' (m := 99) rfl (by first | decide | omega) (by omega) (by omega) (fun b hb => ?_)
  have hab : b ≠ a := fun z => by rw [z, ha] at hb; cases hb
  refine k_putF (fs' := [_, _, _]) F kcX4 0 (by decide) (knX4 0) q1210 (fun _ e => e) rfl rfl rfl dX4_init_9 12 rfl (kUp_nw hb ha) ht rfl rfl (by simp) rfl ?_
  exact k_vret F dX4_init_12 (by first | exact Nat.le_of_ble_eq_true rfl | omega) (by first | exact Nat.le_of_ble_eq_true rfl | omega) ⟨b, hb, kUp_self, by rw [kUp_ne hab]; exact kUp_self, fun x v hx hv => by rw [kUp_ne hx]; exact kUp_nw hb hv⟩
set_option maxHeartbeats 4000000 in
set_option maxRecDepth 100000 in
theorem zX4_copy {l : Launch} {g : kG} (S : kStart l g) {h : kH} {a b : Nat} {t t' : kT} {c : Nat} {q : Nat → Int32} (hL : LnR h a b t t' c q) (tn tn' : kT) (hn : tn.1 ≠ 0) (hn' : tn'.1 ≠ 0) : kMet l g yX4_copy (Cond.code yX4_copy cX4_copy 2 (Option.some (Jvm.ClassFile.FieldType.object "LoopSignals$Line"))) 3 2 102 [.ref a] h (kV (fun v h' => ∃ a' b', v = .ref a' ∧ h a' = none ∧ h b' = none ∧ LnR h' a' b' tn tn' c q ∧ kSame h h')) := by
  refine kEnter S kd_X4_copy (Nat.le_of_ble_eq_true rfl) (fun x F hxl hxg => ?_)
  subst hxl; subst hxg
  have hlv : lv_args 0 [.ref a] = [(0, .ref a)] := rfl
  rw [hlv]
  obtain ⟨hd, f, e1, e2, e3, e4, e5⟩ := id hL
  refine k_new (fs := [_, _, _]) F kcX4 q2683 q1205 q183 dX4_copy_0 3 rfl tn rfl (by omega) (by omega) (fun a1 g1 => ?_)
  refine k_dup F dX4_copy_3 4 rfl rfl ?_
  refine k_callN F kd_X4_init q1208 q183 (kInvI (Bs := []) F q2684 q1207 q1208 rfl dX4_copy_4 rfl (by decide)) (zX4_init F.st tn' hn kUp_self) 7 rfl (Nat.le_of_ble_eq_true rfl) (by first | exact Nat.le_of_ble_eq_true rfl | omega) (by first | exact Nat.le_of_ble_eq_true rfl | omega) (by first | exact Nat.le_of_ble_eq_true rfl | omega) (by first | exact Nat.le_of_ble_eq_true rfl | omega) (fun h1 hr1 => ?_)
  obtain ⟨b1, g2, f1, f2, f3⟩ := hr1
  have hS : kSame h h1 := fun x v hv => f3 x v (fun z => by rw [z, g1] at hv; cases hv) (kUp_nw g1 hv)
  have hb1 : h b1 = none := by
    cases hz : h b1 with
    | none => rfl
    | some v => rw [kUp_nw g1 hz] at g2; cases g2
  refine k_astore_n (lv' := [(0, _), (1, _)]) F dX4_copy_7 8 rfl rfl (Nat.le_of_ble_eq_true rfl) rfl rfl rfl ?_
  refine k_aload_n F dX4_copy_8 9 rfl rfl rfl ?_
  refine k_get F kcX4 0 (by decide) q1210 (fun _ e => e) dX4_copy_9 12 rfl (kHs.of ((hS _ _ e3))) rfl ?_
  refine k_iconst (v := 0) F dX4_copy_12 13 rfl (by decide) ?_
  refine k_aload_n F dX4_copy_13 14 rfl rfl rfl ?_
  refine k_get F kcX4 0 (by decide) q1210 (fun _ e => e) dX4_copy_14 17 rfl (kHs.of f1) rfl ?_
  refine k_iconst (v := 0) F dX4_copy_17 18 rfl (by decide) ?_
  refine k_bipush (v := 99) F dX4_copy_18 20 rfl (by decide) ?_
  have hab : b1 ≠ a1 := fun z => by rw [z, kUp_self] at g2; cases g2
  refine k_copyI F 0 (by decide) q2685 q383 q382 q166 (kHs.of ((hS _ _ e4))) f2 hn' (sp := 0) (dp := 0) (m := 99) (by omega) (by omega) (by omega) (by omega) (fun _ _ => rfl) dX4_copy_20 23 rfl (by omega) (Nat.le_of_ble_eq_true rfl) rfl rfl rfl ?_
  refine kW.gen (fun h' => kSame h h' ∧ h' a1 = some (tn, eO 18 [.ref b1, .int 0, .int 0]) ∧ ∃ f', h' b1 = some (tn', eI 99 f') ∧ ∀ i, i < 99 → f' i = f i) ⟨hS.upN hb1 f2, by rw [kUp_ne (Ne.symm hab)]; exact f1, _, kUp_self, fun i hi => by simp [va_cpy, hi]⟩ (fun h9 H9 => ?_)
  obtain ⟨hS, f1, f', f2, f3⟩ := H9
  refine k_aload_n F dX4_copy_23 24 rfl rfl rfl ?_
  refine k_aload_n F dX4_copy_24 25 rfl rfl rfl ?_
  refine k_get F kcX4 1 (by decide) q1211 (fun _ e => e) dX4_copy_25 28 rfl (kHs.of ((hS _ _ e3))) rfl ?_
  refine k_put (fs' := [_, _, _]) F kcX4 1 (by decide) (knX4 1) q1211 (fun _ e => e) rfl dX4_copy_28 31 rfl f1 hn rfl rfl (by simp) rfl ?_
  refine kW.gen (fun h' => kSame h h' ∧ h' a1 = some (tn, eO 18 [.ref b1, .int (nI hd), .int 0]) ∧ h' b1 = some (tn', eI 99 f')) ⟨hS.upN g1 f1, kUp_self, by rw [kUp_ne hab]; exact f2⟩ (fun h9 H9 => ?_)
  obtain ⟨hS, f1, f2⟩ := H9
  refine k_aload_n F dX4_copy_31 32 rfl rfl rfl ?_
  refine k_aload_n F dX4_copy_32 33 rfl rfl rfl ?_
  refine k_get F kcX4 2 (by decide) q1212 (fun _ e => e) dX4_copy_33 36 rfl (kHs.of ((hS _ _ e3))) rfl ?_
  refine k_put (fs' := [_, _, _]) F kcX4 2 (by decide) (knX4 2) q1212 (fun _ e => e) rfl dX4_copy_36 39 rfl f1 hn rfl rfl (by simp) rfl ?_
  refine kW.gen (fun h' => kSame h h' ∧ h' a1 = some (tn, eO 18 [.ref b1, .int (nI hd), .int (nI c)]) ∧ h' b1 = some (tn', eI 99 f')) ⟨hS.upN g1 f1, kUp_self, by rw [kUp_ne hab]; exact f2⟩ (fun h9 H9 => ?_)
  obtain ⟨hS, f1, f2⟩ := H9
  refine k_aload_n F dX4_copy_39 40 rfl rfl rfl ?_
  exact k_aret F dX4_copy_40 (Or.inl ⟨_, rfl⟩) (by first | exact Or.inr ⟨_, rfl⟩ | exact Or.inl rfl | exact va_rf_ok _) (by first | exact Nat.le_of_ble_eq_true rfl | omega) (by first | exact Nat.le_of_ble_eq_true rfl | omega) ⟨a1, b1, rfl, g1, hb1, ⟨hd, f', e1, e2, f1, f2, fun i hi => by rw [f3 _ (Nat.mod_lt _ (by omega))]; exact e5 i hi⟩, hS⟩
set_option maxHeartbeats 4000000 in
set_option maxRecDepth 100000 in
theorem zX4_at {l : Launch} {g : kG} (S : kStart l g) {h : kH} {a b : Nat} {t t' : kT} {c : Nat} {q : Nat → Int32} (hL : LnR h a b t t' c q) (v : Int32) : kMet l g yX4_at (Cond.code yX4_at cX4_at 2 (Option.some Jvm.ClassFile.FieldType.int)) 2 0 0 [.ref a, .int v] h (mRd h (.int ((ixO v c).elim (-1) q))) := by
  refine kEnter S kd_X4_at (Nat.le_of_ble_eq_true rfl) (fun x F hxl hxg => ?_)
  subst hxl; subst hxg
  have hlv : lv_args 0 [.ref a, .int v] = [(0, .ref a), (1, .int v)] := rfl
  rw [hlv]
  obtain ⟨hd, f, e1, e2, e3, e4, e5⟩ := id hL
  refine k_iload_n F dX4_at_0 1 rfl rfl rfl ?_
  refine k_i2l F dX4_at_1 2 rfl ?_
  refine k_lconst (v := 0) F dX4_at_2 3 rfl rfl ?_
  refine k_aload_n F dX4_at_3 4 rfl rfl rfl ?_
  refine k_get F kcX4 2 (by decide) q1212 (fun _ e => e) dX4_at_4 7 rfl (kHs.of e3) rfl ?_
  refine k_iconst (v := 1) F dX4_at_7 8 rfl (by decide) ?_
  refine k_isub F dX4_at_8 9 rfl ?_
  refine k_i2l F dX4_at_9 10 rfl ?_
  rw [show (0 : Int64) = (0 : Int32).toInt64 from rfl]
  refine k_callV F kd_X1_in q2091 q149 (kInvSN (Bs := [_, _, _]) F q2570 q2090 q149 kd_X1_in q2091 dX4_at_10 rfl (by decide)) (zX1_in F.st _ _ _) 13 rfl (Nat.le_of_ble_eq_true rfl) (by first | exact Nat.le_of_ble_eq_true rfl | omega) (by first | exact Nat.le_of_ble_eq_true rfl | omega) (by first | exact Nat.le_of_ble_eq_true rfl | omega) (by first | exact Nat.le_of_ble_eq_true rfl | omega) (fun r1 h1 hr1 => ?_)
  obtain ⟨rfl, rfl⟩ := hr1
  rw [inL_i]
  cases hx : ixO v c with
  | none =>
    rw [ixO_n hx]
    rw [hx] at F
    refine k_ifeq F dX4_at_13 16 33 rfl (by decide) (fun _ => ?_) (fun c_ => (by first | exact absurd rfl c_ | exact absurd c_ (by decide) | exact absurd (by assumption) c_ | exact absurd c_ (by assumption)))
    refine k_iconst (v := (-1)) F dX4_at_33 34 rfl (by decide) ?_
    exact k_iret F dX4_at_34 (by first | exact Nat.le_of_ble_eq_true rfl | omega) (by first | exact Nat.le_of_ble_eq_true rfl | omega) ⟨rfl, rfl⟩
  | some k =>
    obtain ⟨hk, rfl⟩ := ixO_lt (by omega) hx
    rw [ixO_s hx]
    rw [hx] at F
    refine k_ifeq F dX4_at_13 16 33 rfl (by decide) (fun c_ => (by first | exact absurd rfl c_ | exact absurd c_ (by decide) | exact absurd (by assumption) c_ | exact absurd c_ (by assumption))) (fun _ => ?_)
    refine k_aload_n F dX4_at_16 17 rfl rfl rfl ?_
    refine k_get F kcX4 0 (by decide) q1210 (fun _ e => e) dX4_at_17 20 rfl (kHs.of e3) rfl ?_
    refine k_aload_n F dX4_at_20 21 rfl rfl rfl ?_
    refine k_get F kcX4 1 (by decide) q1211 (fun _ e => e) dX4_at_21 24 rfl (kHs.of e3) rfl ?_
    refine k_iload_n F dX4_at_24 25 rfl rfl rfl ?_
    refine k_iadd F dX4_at_25 26 rfl ?_
    refine k_bipush (v := 99) F dX4_at_26 28 rfl (by decide) ?_
    refine k_irem F dX4_at_28 29 rfl (by decide) ?_
    refine k_topi (b := nI ((hd + k) % 99)) (by first | (simp only [nI_add, nI_1']; exact (pk_rem (a := (hd + k)) (d := 99) (by omega) (by omega) (by omega))) | exact (pk_rem (a := (hd + k)) (d := 99) (by omega) (by omega) (by omega))) ?_
    refine k_iald F dX4_at_29 30 rfl (kHs.of e4) (j := (hd + k) % 99) rfl (Nat.mod_lt _ (by omega)) (by omega) ?_
    rw [e5 k hk]
    refine k_goto F dX4_at_30 34 (by decide) ?_
    exact k_iret F dX4_at_34 (by first | exact Nat.le_of_ble_eq_true rfl | omega) (by first | exact Nat.le_of_ble_eq_true rfl | omega) ⟨rfl, rfl⟩
set_option maxHeartbeats 4000000 in
set_option maxRecDepth 100000 in
theorem zX4_comes {l : Launch} {g : kG} (S : kStart l g) {h : kH} {a b : Nat} {t t' : kT} {c : Nat} {q : Nat → Int32} (hL : LnR h a b t t' c q) (ht : t.1 ≠ 0) (ht' : t'.1 ≠ 0) (hne : t ≠ t') (hc : c < 99) (v : Int32) : kMet l g yX4_comes (Cond.code yX4_comes cX4_comes 2 (Option.none : Option Jvm.ClassFile.FieldType)) 1 0 0 [.ref a, .int v] h (kN (fun h' => LnR h' a b t t' (c + 1) (upd q c v) ∧ kKp (fun s => s = t ∨ s = t') h h')) := by
  refine kEnter S kd_X4_comes (Nat.le_of_ble_eq_true rfl) (fun x F hxl hxg => ?_)
  subst hxl; subst hxg
  have hlv : lv_args 0 [.ref a, .int v] = [(0, .ref a), (1, .int v)] := rfl
  rw [hlv]
  obtain ⟨hd, f, e1, e2, e3, e4, e5⟩ := id hL
  refine k_aload_n F dX4_comes_0 1 rfl rfl rfl ?_
  refine k_get F kcX4 0 (by decide) q1210 (fun _ e => e) dX4_comes_1 4 rfl (kHs.of e3) rfl ?_
  refine k_aload_n F dX4_comes_4 5 rfl rfl rfl ?_
  refine k_get F kcX4 1 (by decide) q1211 (fun _ e => e) dX4_comes_5 8 rfl (kHs.of e3) rfl ?_
  refine k_aload_n F dX4_comes_8 9 rfl rfl rfl ?_
  refine k_get F kcX4 2 (by decide) q1212 (fun _ e => e) dX4_comes_9 12 rfl (kHs.of e3) rfl ?_
  refine k_iadd F dX4_comes_12 13 rfl ?_
  refine k_bipush (v := 99) F dX4_comes_13 15 rfl (by decide) ?_
  refine k_irem F dX4_comes_15 16 rfl (by decide) ?_
  refine k_topi (b := nI ((hd + c) % 99)) (by first | (simp only [nI_add, nI_1']; exact (pk_rem (a := (hd + c)) (d := 99) (by omega) (by omega) (by omega))) | exact (pk_rem (a := (hd + c)) (d := 99) (by omega) (by omega) (by omega))) ?_
  refine k_iload_n F dX4_comes_16 17 rfl rfl rfl ?_
  refine k_iast F dX4_comes_17 18 rfl e4 ht' (j := (hd + c) % 99) rfl (Nat.mod_lt _ (by omega)) (by omega) ?_
  refine kW.gen (fun h' => h' a = some (t, eO 18 [.ref b, .int (nI hd), .int (nI c)]) ∧ h' b = some (t', eI 99 (upd f ((hd + c) % 99) v)) ∧ kKp (fun s => s = t ∨ s = t') h h') ⟨kUp_tag e4 e3 (Ne.symm hne), kUp_self, kKp.up e4 (Or.inr rfl)⟩ (fun h9 H9 => ?_)
  obtain ⟨e3, e4, hK⟩ := H9
  refine k_aload_n F dX4_comes_18 19 rfl rfl rfl ?_
  refine k_dup F dX4_comes_19 20 rfl rfl ?_
  refine k_get F kcX4 2 (by decide) q1212 (fun _ e => e) dX4_comes_20 23 rfl (kHs.of e3) rfl ?_
  refine k_iconst (v := 1) F dX4_comes_23 24 rfl (by decide) ?_
  refine k_iadd F dX4_comes_24 25 rfl ?_
  rw [nI_1']
  refine k_put (fs' := [_, _, _]) F kcX4 2 (by decide) (knX4 2) q1212 (fun _ e => e) rfl dX4_comes_25 28 rfl e3 ht rfl rfl (by simp) rfl ?_
  refine kW.gen (fun h' => h' a = some (t, eO 18 [.ref b, .int (nI hd), .int (nI (c + 1))]) ∧ h' b = some (t', eI 99 (upd f ((hd + c) % 99) v)) ∧ kKp (fun s => s = t ∨ s = t') h h') ⟨kUp_self, kUp_tag e3 e4 hne, hK.tr (kKp.up e3 (Or.inl rfl))⟩ (fun h9 H9 => ?_)
  obtain ⟨e3, e4, hK⟩ := H9
  have e6 : ∀ i, i < c + 1 → upd f ((hd + c) % 99) v ((hd + i) % 99) = upd q c v i := by
    intro i hi
    by_cases z : i = c
    · subst z
      rw [upd_eq, upd_eq]
    · rw [upd_ne z, upd_ne (fun w => z (by omega))]
      exact e5 i (by omega)
  exact k_vret F dX4_comes_28 (by first | exact Nat.le_of_ble_eq_true rfl | omega) (by first | exact Nat.le_of_ble_eq_true rfl | omega) ⟨⟨hd, _, e1, by omega, e3, e4, e6⟩, hK⟩
set_option maxHeartbeats 4000000 in
set_option maxRecDepth 100000 in
theorem zX4_goes {l : Launch} {g : kG} (S : kStart l g) {h : kH} {a b : Nat} {t t' : kT} {c : Nat} {q : Nat → Int32} (hL : LnR h a b t t' c q) (ht : t.1 ≠ 0) (hne : t ≠ t') (hc : 0 < c) : kMet l g yX4_goes (Cond.code yX4_goes cX4_goes 2 (Option.some Jvm.ClassFile.FieldType.int)) 1 0 0 [.ref a] h (kV (fun v h' => v = .int (q 0) ∧ LnR h' a b t t' (c - 1) (fun i => q (i + 1)) ∧ kKp (fun s => s = t) h h')) := by
  refine kEnter S kd_X4_goes (Nat.le_of_ble_eq_true rfl) (fun x F hxl hxg => ?_)
  subst hxl; subst hxg
  have hlv : lv_args 0 [.ref a] = [(0, .ref a)] := rfl
  rw [hlv]
  obtain ⟨hd, f, e1, e2, e3, e4, e5⟩ := id hL
  have e0 : f hd = q 0 := by
    have := e5 0 hc
    rw [Nat.add_zero, Nat.mod_eq_of_lt e1] at this
    exact this
  refine k_aload_n F dX4_goes_0 1 rfl rfl rfl ?_
  refine k_get F kcX4 0 (by decide) q1210 (fun _ e => e) dX4_goes_1 4 rfl (kHs.of e3) rfl ?_
  refine k_aload_n F dX4_goes_4 5 rfl rfl rfl ?_
  refine k_get F kcX4 1 (by decide) q1211 (fun _ e => e) dX4_goes_5 8 rfl (kHs.of e3) rfl ?_
  refine k_iald F dX4_goes_8 9 rfl (kHs.of e4) (j := hd) rfl (by omega) (by omega) ?_
  rw [e0]
  refine k_istore_n (lv' := [(0, _), (1, _)]) F dX4_goes_9 10 rfl rfl (Nat.le_of_ble_eq_true rfl) rfl rfl rfl ?_
  refine k_aload_n F dX4_goes_10 11 rfl rfl rfl ?_
  refine k_aload_n F dX4_goes_11 12 rfl rfl rfl ?_
  refine k_get F kcX4 1 (by decide) q1211 (fun _ e => e) dX4_goes_12 15 rfl (kHs.of e3) rfl ?_
  refine k_iconst (v := 1) F dX4_goes_15 16 rfl (by decide) ?_
  refine k_iadd F dX4_goes_16 17 rfl ?_
  refine k_bipush (v := 99) F dX4_goes_17 19 rfl (by decide) ?_
  refine k_irem F dX4_goes_19 20 rfl (by decide) ?_
  refine k_topi (b := nI ((hd + 1) % 99)) (by first | (simp only [nI_add, nI_1']; exact (pk_rem (a := (hd + 1)) (d := 99) (by omega) (by omega) (by omega))) | exact (pk_rem (a := (hd + 1)) (d := 99) (by omega) (by omega) (by omega))) ?_
  refine k_put (fs' := [_, _, _]) F kcX4 1 (by decide) (knX4 1) q1211 (fun _ e => e) rfl dX4_goes_20 23 rfl e3 ht rfl rfl (by simp) rfl ?_
  refine kW.gen (fun h' => h' a = some (t, eO 18 [.ref b, .int (nI ((hd + 1) % 99)), .int (nI c)]) ∧ h' b = some (t', eI 99 f) ∧ kKp (fun s => s = t) h h') ⟨kUp_self, kUp_tag e3 e4 hne, kKp.up e3 rfl⟩ (fun h9 H9 => ?_)
  obtain ⟨e3, e4, hK⟩ := H9
  refine k_aload_n F dX4_goes_23 24 rfl rfl rfl ?_
  refine k_dup F dX4_goes_24 25 rfl rfl ?_
  refine k_get F kcX4 2 (by decide) q1212 (fun _ e => e) dX4_goes_25 28 rfl (kHs.of e3) rfl ?_
  refine k_iconst (v := 1) F dX4_goes_28 29 rfl (by decide) ?_
  refine k_isub F dX4_goes_29 30 rfl ?_
  rw [nI_dec hc]
  refine k_put (fs' := [_, _, _]) F kcX4 2 (by decide) (knX4 2) q1212 (fun _ e => e) rfl dX4_goes_30 33 rfl e3 ht rfl rfl (by simp) rfl ?_
  refine kW.gen (fun h' => h' a = some (t, eO 18 [.ref b, .int (nI ((hd + 1) % 99)), .int (nI (c - 1))]) ∧ h' b = some (t', eI 99 f) ∧ kKp (fun s => s = t) h h') ⟨kUp_self, kUp_tag e3 e4 hne, hK.tr (kKp.up e3 rfl)⟩ (fun h9 H9 => ?_)
  obtain ⟨e3, e4, hK⟩ := H9
  refine k_iload_n F dX4_goes_33 34 rfl rfl rfl ?_
  have e6 : ∀ i, i < c - 1 → f (((hd + 1) % 99 + i) % 99) = q (i + 1) := by
    intro i hi
    rw [← e5 (i + 1) (by omega)]
    congr 1
    omega
  exact k_iret F dX4_goes_34 (by first | exact Nat.le_of_ble_eq_true rfl | omega) (by first | exact Nat.le_of_ble_eq_true rfl | omega) ⟨rfl, ⟨_, f, Nat.mod_lt _ (by omega), by omega, e3, e4, e6⟩, hK⟩
/-- an arm: its name, its line, its numbers; v: seen, went, greens, broken -/
def ArR (h : kH) (a : Nat) (t : kT) (nm ln : Nat) (v : Nat → Int32) : Prop := h a = some (t, eO 17 [.ref nm, .ref ln, .int (v 1), .int (v 4), .int (v 5), .int (v 2)])
set_option maxHeartbeats 4000000 in
set_option maxRecDepth 100000 in
theorem zX3_asks {l : Launch} {g : kG} (S : kStart l g) {h : kH} {a nm ln b : Nat} {t tl tb : kT} {v : Nat → Int32} {c : Nat} {q : Nat → Int32} (hA : ArR h a t nm ln v) (hL : LnR h ln b tl tb c q) (hb : v 2 = 0 ∨ v 2 = 1) : kMet l g yX3_asks (Cond.code yX3_asks cX3_asks 1 (Option.some Jvm.ClassFile.FieldType.boolean)) 1 0 0 [.ref a] h (mRd h (.int (kB (v 2 == 1 || decide (0 < c))))) := by
  refine kEnter S kd_X3_asks (Nat.le_of_ble_eq_true rfl) (fun x F hxl hxg => ?_)
  subst hxl; subst hxg
  have hlv : lv_args 0 [.ref a] = [(0, .ref a)] := rfl
  rw [hlv]
  obtain ⟨hd, f, e1, e2, e3, e4, e5⟩ := id hL
  have hA1 : h a = _ := hA
  refine k_aload_n F dX3_asks_0 1 rfl rfl rfl ?_
  refine k_get F kcX3 5 (by decide) q1242 (fun _ e => e) dX3_asks_1 4 rfl (kHs.of hA1) rfl ?_
  have go : ∀ b1 : Bool, b1 = (v 2 == 1 || decide (0 < c)) → kW x 0 0 h 22 [(0, .ref a)] [.int (kB b1)] := by
    intro b1 hb1
    rw [← hb1] at F
    exact k_zret F dX3_asks_22 (by first | rfl | exact kzb _ | exact pk_nc _ | decide) (by first | exact Nat.le_of_ble_eq_true rfl | omega) (by first | exact Nat.le_of_ble_eq_true rfl | omega) ⟨rfl, rfl⟩
  refine k_ifne F dX3_asks_4 7 17 rfl (by decide) (fun c_z => ?_) (fun c_z => ?_)
  · have z1 : v 2 = 1 := by
      rcases hb with w | w
      · exact absurd w c_z
      · exact w
    refine k_iconst (v := 1) F dX3_asks_17 18 rfl (by decide) ?_
    refine k_goto F dX3_asks_18 22 (by decide) ?_
    exact go true (by rw [z1]; rfl)
  · have z1 : (v 2 == 1) = false := by rw [c_z]; rfl
    refine k_aload_n F dX3_asks_7 8 rfl rfl rfl ?_
    refine k_get F kcX3 1 (by decide) q1230 (fun _ e => e) dX3_asks_8 11 rfl (kHs.of hA1) rfl ?_
    refine k_getN F kcX4 2 (by decide) q1213 (fun _ e => e) dX3_asks_11 14 rfl (kHs.of e3) rfl ?_
    refine k_ifle F dX3_asks_14 17 21 rfl (by decide) (fun c_d => ?_) (fun c_d => ?_)
    · rw [show (0 : Int32) = nI 0 from rfl, nI_leE (by omega) (by omega)] at c_d
      refine k_iconst (v := 0) F dX3_asks_21 22 rfl (by decide) ?_
      exact go false (by rw [z1, decide_eq_false (by omega)]; rfl)
    · rw [show (0 : Int32) = nI 0 from rfl, nI_leE (by omega) (by omega)] at c_d
      refine k_iconst (v := 1) F dX3_asks_17 18 rfl (by decide) ?_
      refine k_goto F dX3_asks_18 22 (by decide) ?_
      exact go true (by rw [z1, decide_eq_true (by omega)]; rfl)
set_option maxHeartbeats 4000000 in
set_option maxRecDepth 100000 in
theorem zX3_init {l : Launch} {g : kG} (S : kStart l g) {h : kH} {a nm ln : Nat} {t : kT} (ht : t.1 ≠ 0) (ha : h a = some (t, eO 17 [.null, .null, .int 0, .int 0, .int 0, .int 0])) : kMet l g yX3_init (Cond.code yX3_init cX3_init 3 (Option.none : Option Jvm.ClassFile.FieldType)) 2 0 0 [.ref a, .ref nm, .ref ln] h (kN (fun h' => h' a = some (t, eO 17 [.ref nm, .ref ln, .int (-99), .int 0, .int 0, .int 0]) ∧ ∀ x v, x ≠ a → h x = some v → h' x = some v)) := by
  refine kEnter S kd_X3_init (Nat.le_of_ble_eq_true rfl) (fun x F hxl hxg => ?_)
  subst hxl; subst hxg
  have hlv : lv_args 0 [.ref a, .ref nm, .ref ln] = [(0, .ref a), (1, .ref nm), (2, .ref ln)] := rfl
  rw [hlv]
  refine k_aload_n F dX3_init_0 1 rfl rfl rfl ?_
  refine k_objInit F q1226 q219 q220 dX3_init_1 4 rfl (by omega) (Nat.le_of_ble_eq_true rfl) ?_
  refine k_aload_n F dX3_init_4 5 rfl rfl rfl ?_
  refine k_bipush (v := (-99)) F dX3_init_5 7 rfl (by decide) ?_
  refine k_put (fs' := [_, _, _, _, _, _]) F kcX3 2 (by decide) (knX3 2) q1233 (fun _ e => e) rfl dX3_init_7 10 rfl ha ht rfl rfl (by simp) rfl ?_
  refine kW.gen (fun h' => h' a = some (t, eO 17 [.null, .null, .int (-99), .int 0, .int 0, .int 0]) ∧ ∀ x v, x ≠ a → h x = some v → h' x = some v) ⟨kUp_self, fun x v hx hv => by rw [kUp_ne hx]; exact hv⟩ (fun h9 H9 => ?_)
  obtain ⟨ha, hx⟩ := H9
  refine k_aload_n F dX3_init_10 11 rfl rfl rfl ?_
  refine k_aload_n F dX3_init_11 12 rfl rfl rfl ?_
  refine k_putF (fs' := [_, _, _, _, _, _]) F kcX3 0 (by decide) (knX3 0) q1227 (fun _ e => e) rfl rfl rfl dX3_init_12 15 rfl ha ht rfl rfl (by simp) rfl ?_
  refine kW.gen (fun h' => h' a = some (t, eO 17 [.ref nm, .null, .int (-99), .int 0, .int 0, .int 0]) ∧ ∀ x v, x ≠ a → h x = some v → h' x = some v) ⟨kUp_self, fun x v hy hv => by rw [kUp_ne hy]; exact hx x v hy hv⟩ (fun h9 H9 => ?_)
  obtain ⟨ha, hx⟩ := H9
  refine k_aload_n F dX3_init_15 16 rfl rfl rfl ?_
  refine k_aload_n F dX3_init_16 17 rfl rfl rfl ?_
  refine k_putF (fs' := [_, _, _, _, _, _]) F kcX3 1 (by decide) (knX3 1) q1230 (fun _ e => e) rfl rfl rfl dX3_init_17 20 rfl ha ht rfl rfl (by simp) rfl ?_
  exact k_vret F dX3_init_20 (by first | exact Nat.le_of_ble_eq_true rfl | omega) (by first | exact Nat.le_of_ble_eq_true rfl | omega) ⟨kUp_self, fun x v hy hv => by rw [kUp_ne hy]; exact hx x v hy hv⟩
set_option maxHeartbeats 4000000 in
set_option maxRecDepth 100000 in
theorem zX3_copy {l : Launch} {g : kG} (S : kStart l g) {h : kH} {a nm ln b : Nat} {t tl tb : kT} {v : Nat → Int32} {c : Nat} {q : Nat → Int32} (hA : ArR h a t nm ln v) (hL : LnR h ln b tl tb c q) (hb : v 2 = 0 ∨ v 2 = 1) (t1 t2 t3 : kT) (u1 : t1.1 ≠ 0) (u2 : t2.1 ≠ 0) (u3 : t3.1 ≠ 0) : kMet l g yX3_copy (Cond.code yX3_copy cX3_copy 2 (Option.some (Jvm.ClassFile.FieldType.object "LoopSignals$Arm"))) 4 3 108 [.ref a] h (kV (fun w h' => ∃ a' ln' b', w = .ref a' ∧ h a' = none ∧ h ln' = none ∧ h b' = none ∧ ArR h' a' t1 nm ln' v ∧ LnR h' ln' b' t2 t3 c q ∧ kSame h h')) := by
  refine kEnter S kd_X3_copy (Nat.le_of_ble_eq_true rfl) (fun x F hxl hxg => ?_)
  subst hxl; subst hxg
  have hlv : lv_args 0 [.ref a] = [(0, .ref a)] := rfl
  rw [hlv]
  have hA1 : h a = _ := hA
  obtain ⟨hd, f, e1, e2, e3, e4, e5⟩ := id hL
  refine k_new (fs := [_, _, _, _, _, _]) F kcX3 q2678 q1203 q182 dX3_copy_0 3 rfl t1 rfl (by omega) (by omega) (fun a1 g1 => ?_)
  have hS := kSame.new (t := t1) (e := eO 17 [.null, .null, .int 0, .int 0, .int 0, .int 0]) g1
  refine k_dup F dX3_copy_3 4 rfl rfl ?_
  refine k_aload_n F dX3_copy_4 5 rfl rfl rfl ?_
  refine k_get F kcX3 0 (by decide) q1227 (fun _ e => e) dX3_copy_5 8 rfl (kHs.of ((hS _ _ hA1))) rfl ?_
  refine k_aload_n F dX3_copy_8 9 rfl rfl rfl ?_
  refine k_get F kcX3 1 (by decide) q1230 (fun _ e => e) dX3_copy_9 12 rfl (kHs.of ((hS _ _ hA1))) rfl ?_
  refine k_callV F kd_X4_copy q2682 q183 (kInvV (Bs := []) F kcX4 q2679 q2680 q2681 kd_X4_copy q2682 dX3_copy_12 (kHs.of ((hS _ _ e3))) rfl (by decide)) (zX4_copy F.st (hL.same hS) t2 t3 u2 u3) 15 rfl (Nat.le_of_ble_eq_true rfl) (by first | exact Nat.le_of_ble_eq_true rfl | omega) (by first | exact Nat.le_of_ble_eq_true rfl | omega) (by first | exact Nat.le_of_ble_eq_true rfl | omega) (by first | exact Nat.le_of_ble_eq_true rfl | omega) (fun r1 h1 hr1 => ?_)
  obtain ⟨l1, b1, rfl, f1, f2, hL1, hS1⟩ := hr1
  have hS2 := hS.tr hS1
  have hl1 : h l1 = none := by
    cases hz : h l1 with
    | none => rfl
    | some w => rw [hS _ _ hz] at f1; cases f1
  have hb1 : h b1 = none := by
    cases hz : h b1 with
    | none => rfl
    | some w => rw [hS _ _ hz] at f2; cases f2
  have n1 : l1 ≠ a1 := fun z => by rw [z, kUp_self] at f1; cases f1
  have n2 : b1 ≠ a1 := fun z => by rw [z, kUp_self] at f2; cases f2
  refine k_callN F kd_X3_init q1225 q182 (kInvI (Bs := [_, _]) F q2686 q1224 q1225 rfl dX3_copy_15 rfl (by decide)) (zX3_init F.st u1 (hS1 _ _ kUp_self)) 18 rfl (Nat.le_of_ble_eq_true rfl) (by first | exact Nat.le_of_ble_eq_true rfl | omega) (by first | exact Nat.le_of_ble_eq_true rfl | omega) (by first | exact Nat.le_of_ble_eq_true rfl | omega) (by first | exact Nat.le_of_ble_eq_true rfl | omega) (fun h2 hr2 => ?_)
  obtain ⟨k1, k2⟩ := hr2
  have hS3 : kSame h h2 := fun x w hw => k2 x w (fun z => by rw [z, g1] at hw; cases hw) (hS2 x w hw)
  have hL2 : LnR h2 l1 b1 t2 t3 c q := by
    obtain ⟨p1, p2, p3, p4, p5, p6, p7⟩ := hL1
    exact ⟨p1, p2, p3, p4, k2 _ _ n1 p5, k2 _ _ n2 p6, p7⟩
  refine k_astore_n (lv' := [(0, _), (1, _)]) F dX3_copy_18 19 rfl rfl (Nat.le_of_ble_eq_true rfl) rfl rfl rfl ?_
  refine k_aload_n F dX3_copy_19 20 rfl rfl rfl ?_
  refine k_aload_n F dX3_copy_20 21 rfl rfl rfl ?_
  refine k_get F kcX3 2 (by decide) q1233 (fun _ e => e) dX3_copy_21 24 rfl (kHs.of ((hS3 _ _ hA1))) rfl ?_
  refine k_put (fs' := [_, _, _, _, _, _]) F kcX3 2 (by decide) (knX3 2) q1233 (fun _ e => e) rfl dX3_copy_24 27 rfl k1 u1 rfl rfl (by simp) rfl ?_
  refine kW.gen (fun h' => kSame h h' ∧ h' a1 = some (t1, eO 17 [.ref nm, .ref l1, .int (v 1), .int 0, .int 0, .int 0]) ∧ LnR h' l1 b1 t2 t3 c q) ⟨hS3.upN g1 k1, kUp_self, by
    obtain ⟨p1, p2, p3, p4, p5, p6, p7⟩ := hL2
    exact ⟨p1, p2, p3, p4, by rw [kUp_ne n1]; exact p5, by rw [kUp_ne n2]; exact p6, p7⟩⟩ (fun h9 H9 => ?_)
  obtain ⟨hS3, k1, hL2⟩ := H9
  refine k_aload_n F dX3_copy_27 28 rfl rfl rfl ?_
  refine k_aload_n F dX3_copy_28 29 rfl rfl rfl ?_
  refine k_get F kcX3 3 (by decide) q1236 (fun _ e => e) dX3_copy_29 32 rfl (kHs.of ((hS3 _ _ hA1))) rfl ?_
  refine k_put (fs' := [_, _, _, _, _, _]) F kcX3 3 (by decide) (knX3 3) q1236 (fun _ e => e) rfl dX3_copy_32 35 rfl k1 u1 rfl rfl (by simp) rfl ?_
  refine kW.gen (fun h' => kSame h h' ∧ h' a1 = some (t1, eO 17 [.ref nm, .ref l1, .int (v 1), .int (v 4), .int 0, .int 0]) ∧ LnR h' l1 b1 t2 t3 c q) ⟨hS3.upN g1 k1, kUp_self, by
    obtain ⟨p1, p2, p3, p4, p5, p6, p7⟩ := hL2
    exact ⟨p1, p2, p3, p4, by rw [kUp_ne n1]; exact p5, by rw [kUp_ne n2]; exact p6, p7⟩⟩ (fun h9 H9 => ?_)
  obtain ⟨hS3, k1, hL2⟩ := H9
  refine k_aload_n F dX3_copy_35 36 rfl rfl rfl ?_
  refine k_aload_n F dX3_copy_36 37 rfl rfl rfl ?_
  refine k_get F kcX3 4 (by decide) q1239 (fun _ e => e) dX3_copy_37 40 rfl (kHs.of ((hS3 _ _ hA1))) rfl ?_
  refine k_put (fs' := [_, _, _, _, _, _]) F kcX3 4 (by decide) (knX3 4) q1239 (fun _ e => e) rfl dX3_copy_40 43 rfl k1 u1 rfl rfl (by simp) rfl ?_
  refine kW.gen (fun h' => kSame h h' ∧ h' a1 = some (t1, eO 17 [.ref nm, .ref l1, .int (v 1), .int (v 4), .int (v 5), .int 0]) ∧ LnR h' l1 b1 t2 t3 c q) ⟨hS3.upN g1 k1, kUp_self, by
    obtain ⟨p1, p2, p3, p4, p5, p6, p7⟩ := hL2
    exact ⟨p1, p2, p3, p4, by rw [kUp_ne n1]; exact p5, by rw [kUp_ne n2]; exact p6, p7⟩⟩ (fun h9 H9 => ?_)
  obtain ⟨hS3, k1, hL2⟩ := H9
  refine k_aload_n F dX3_copy_43 44 rfl rfl rfl ?_
  refine k_aload_n F dX3_copy_44 45 rfl rfl rfl ?_
  refine k_get F kcX3 5 (by decide) q1242 (fun _ e => e) dX3_copy_45 48 rfl (kHs.of ((hS3 _ _ hA1))) rfl ?_
  refine k_put (fs' := [_, _, _, _, _, _]) F kcX3 5 (by decide) (knX3 5) q1242 (fun _ e => e) rfl dX3_copy_48 51 rfl k1 u1 (by rcases hb with w | w <;> rw [w] <;> rfl) (by rcases hb with w | w <;> rw [w] <;> rfl) (by simp) rfl ?_
  refine kW.gen (fun h' => kSame h h' ∧ h' a1 = some (t1, eO 17 [.ref nm, .ref l1, .int (v 1), .int (v 4), .int (v 5), .int (v 2)]) ∧ LnR h' l1 b1 t2 t3 c q) ⟨hS3.upN g1 k1, kUp_self, by
    obtain ⟨p1, p2, p3, p4, p5, p6, p7⟩ := hL2
    exact ⟨p1, p2, p3, p4, by rw [kUp_ne n1]; exact p5, by rw [kUp_ne n2]; exact p6, p7⟩⟩ (fun h9 H9 => ?_)
  obtain ⟨hS3, k1, hL2⟩ := H9
  refine k_aload_n F dX3_copy_51 52 rfl rfl rfl ?_
  exact k_aret F dX3_copy_52 (Or.inl ⟨_, rfl⟩) (by first | exact Or.inr ⟨_, rfl⟩ | exact Or.inl rfl | exact va_rf_ok _) (by first | exact Nat.le_of_ble_eq_true rfl | omega) (by first | exact Nat.le_of_ble_eq_true rfl | omega) ⟨a1, l1, b1, rfl, g1, hl1, hb1, k1, hL2, hS3⟩
/-- a couple of arms -/
def CpR (g : kG) (h : kH) (a : Nat) (t : kT) (p q : Int32) : Prop := kHs g h a t (eO 19 [.int p, .int q])
set_option maxHeartbeats 4000000 in
set_option maxRecDepth 100000 in
theorem zX5_init {l : Launch} {g : kG} (S : kStart l g) {h : kH} {a : Nat} {t : kT} (ht : t.1 ≠ 0) (p q : Int32) (ha : h a = some (t, eO 19 [.int 0, .int 0])) : kMet l g yX5_init (Cond.code yX5_init cX5_init 3 (Option.none : Option Jvm.ClassFile.FieldType)) 2 0 0 [.ref a, .int p, .int q] h (kN (fun h' => h' a = some (t, eO 19 [.int (iMin p q), .int (iMax p q)]) ∧ ∀ x v, x ≠ a → h x = some v → h' x = some v)) := by
  refine kEnter S kd_X5_init (Nat.le_of_ble_eq_true rfl) (fun x F hxl hxg => ?_)
  subst hxl; subst hxg
  have hlv : lv_args 0 [.ref a, .int p, .int q] = [(0, .ref a), (1, .int p), (2, .int q)] := rfl
  rw [hlv]
  refine k_aload_n F dX5_init_0 1 rfl rfl rfl ?_
  refine k_objInit F q1895 q219 q220 dX5_init_1 4 rfl (by omega) (Nat.le_of_ble_eq_true rfl) ?_
  refine k_aload_n F dX5_init_4 5 rfl rfl rfl ?_
  refine k_iload_n F dX5_init_5 6 rfl rfl rfl ?_
  refine k_iload_n F dX5_init_6 7 rfl rfl rfl ?_
  refine k_callV F kd_J13_min q380 q164 (kInvS (Bs := [_, _]) F q1896 q379 q164 kd_J13_min q380 dX5_init_7 rfl (by decide)) (zJ13_min F.st _ _) 10 rfl (Nat.le_of_ble_eq_true rfl) (by first | exact Nat.le_of_ble_eq_true rfl | omega) (by first | exact Nat.le_of_ble_eq_true rfl | omega) (by first | exact Nat.le_of_ble_eq_true rfl | omega) (by first | exact Nat.le_of_ble_eq_true rfl | omega) (fun r1 h1 hr1 => ?_)
  obtain ⟨rfl, rfl⟩ := hr1
  refine k_putF (fs' := [_, _]) F kcX5 0 (by decide) (knX5 0) q1898 (fun _ e => e) rfl rfl rfl dX5_init_10 13 rfl ha ht rfl rfl (by simp) rfl ?_
  refine kW.gen (fun h' => h' a = some (t, eO 19 [.int (iMin p q), .int 0]) ∧ ∀ x v, x ≠ a → h x = some v → h' x = some v) ⟨kUp_self, fun x v hx hv => by rw [kUp_ne hx]; exact hv⟩ (fun h9 H9 => ?_)
  obtain ⟨ha, hx⟩ := H9
  refine k_aload_n F dX5_init_13 14 rfl rfl rfl ?_
  refine k_iload_n F dX5_init_14 15 rfl rfl rfl ?_
  refine k_iload_n F dX5_init_15 16 rfl rfl rfl ?_
  refine k_callV F kd_J13_max q362 q164 (kInvS (Bs := [_, _]) F q1897 q361 q164 kd_J13_max q362 dX5_init_16 rfl (by decide)) (zJ13_max F.st _ _) 19 rfl (Nat.le_of_ble_eq_true rfl) (by first | exact Nat.le_of_ble_eq_true rfl | omega) (by first | exact Nat.le_of_ble_eq_true rfl | omega) (by first | exact Nat.le_of_ble_eq_true rfl | omega) (by first | exact Nat.le_of_ble_eq_true rfl | omega) (fun r2 h2 hr2 => ?_)
  obtain ⟨rfl, rfl⟩ := hr2
  refine k_putF (fs' := [_, _]) F kcX5 1 (by decide) (knX5 1) q1900 (fun _ e => e) rfl rfl rfl dX5_init_19 22 rfl ha ht rfl rfl (by simp) rfl ?_
  exact k_vret F dX5_init_22 (by first | exact Nat.le_of_ble_eq_true rfl | omega) (by first | exact Nat.le_of_ble_eq_true rfl | omega) ⟨kUp_self, fun x v hy hv => by rw [kUp_ne hy]; exact hx x v hy hv⟩
set_option maxHeartbeats 4000000 in
set_option maxRecDepth 100000 in
theorem zX5_hashCode {l : Launch} {g : kG} (S : kStart l g) {h : kH} {a : Nat} {t : kT} {p q : Int32} (ha : CpR g h a t p q) : kMet l g yX5_hashCode (Cond.code yX5_hashCode cX5_hashCode 1 (Option.some Jvm.ClassFile.FieldType.int)) 1 0 0 [.ref a] h (mRd h (.int (8 * p + q))) := by
  refine kEnter S kd_X5_hashCode (Nat.le_of_ble_eq_true rfl) (fun x F hxl hxg => ?_)
  subst hxl; subst hxg
  have hlv : lv_args 0 [.ref a] = [(0, .ref a)] := rfl
  rw [hlv]
  have ha1 : kHs x.g h a t (eO 19 [.int p, .int q]) := ha
  refine k_bipush (v := 8) F dX5_hashCode_0 2 rfl (by decide) ?_
  refine k_aload_n F dX5_hashCode_2 3 rfl rfl rfl ?_
  refine k_get F kcX5 0 (by decide) q1898 (fun _ e => e) dX5_hashCode_3 6 rfl ha1 rfl ?_
  refine k_imul F dX5_hashCode_6 7 rfl ?_
  refine k_aload_n F dX5_hashCode_7 8 rfl rfl rfl ?_
  refine k_get F kcX5 1 (by decide) q1900 (fun _ e => e) dX5_hashCode_8 11 rfl ha1 rfl ?_
  refine k_iadd F dX5_hashCode_11 12 rfl ?_
  exact k_iret F dX5_hashCode_12 (by first | exact Nat.le_of_ble_eq_true rfl | omega) (by first | exact Nat.le_of_ble_eq_true rfl | omega) ⟨rfl, rfl⟩
set_option maxHeartbeats 4000000 in
set_option maxRecDepth 100000 in
theorem zX5_equals {l : Launch} {g : kG} (S : kStart l g) {h : kH} {a b : Nat} {t t' : kT} {p q p' q' : Int32} (ha : CpR g h a t p q) (hb : CpR g h b t' p' q') : kMet l g yX5_equals (Cond.code yX5_equals cX5_equals 3 (Option.some Jvm.ClassFile.FieldType.boolean)) 1 0 0 [.ref a, .ref b] h (mRd h (.int (kB (decide (p' = p) && decide (q' = q))))) := by
  refine kEnter S kd_X5_equals (Nat.le_of_ble_eq_true rfl) (fun x F hxl hxg => ?_)
  subst hxl; subst hxg
  have hlv : lv_args 0 [.ref a, .ref b] = [(0, .ref a), (1, .ref b)] := rfl
  rw [hlv]
  have ha1 : kHs x.g h a t (eO 19 [.int p, .int q]) := ha
  have hb1 : kHs x.g h b t' (eO 19 [.int p', .int q']) := hb
  refine k_aload_n F dX5_equals_0 1 rfl rfl rfl ?_
  refine k_instE F kcX5 q1738 dX5_equals_1 4 rfl hb1 ?_
  refine k_ifeq F dX5_equals_4 7 38 rfl (by decide) (fun c_ => (by first | exact absurd rfl c_ | exact absurd c_ (by decide) | exact absurd (by assumption) c_ | exact absurd c_ (by assumption))) (fun _ => ?_)
  refine k_aload_n F dX5_equals_7 8 rfl rfl rfl ?_
  refine k_castE F kcX5 q1738 dX5_equals_8 11 rfl hb1 ?_
  refine k_astore_n (lv' := [(0, _), (1, _), (2, _)]) F dX5_equals_11 12 rfl rfl (Nat.le_of_ble_eq_true rfl) rfl rfl rfl ?_
  refine k_aload_n F dX5_equals_12 13 rfl rfl rfl ?_
  refine k_get F kcX5 0 (by decide) q1898 (fun _ e => e) dX5_equals_13 16 rfl hb1 rfl ?_
  refine k_aload_n F dX5_equals_16 17 rfl rfl rfl ?_
  refine k_get F kcX5 0 (by decide) q1898 (fun _ e => e) dX5_equals_17 20 rfl ha1 rfl ?_
  refine k_icmpne F dX5_equals_20 23 38 rfl (by decide) (fun c_z => ?_) (fun c_z => ?_)
  · refine k_iconst (v := 0) F dX5_equals_38 39 rfl (by decide) ?_
    exact k_zret F dX5_equals_39 (by first | rfl | exact kzb _ | exact pk_nc _ | decide) (by first | exact Nat.le_of_ble_eq_true rfl | omega) (by first | exact Nat.le_of_ble_eq_true rfl | omega) ⟨by rw [decide_eq_false c_z]; rfl, rfl⟩
  · refine k_aload_n F dX5_equals_23 24 rfl rfl rfl ?_
    refine k_get F kcX5 1 (by decide) q1900 (fun _ e => e) dX5_equals_24 27 rfl hb1 rfl ?_
    refine k_aload_n F dX5_equals_27 28 rfl rfl rfl ?_
    refine k_get F kcX5 1 (by decide) q1900 (fun _ e => e) dX5_equals_28 31 rfl ha1 rfl ?_
    refine k_icmpne F dX5_equals_31 34 38 rfl (by decide) (fun c_d => ?_) (fun c_d => ?_)
    · refine k_iconst (v := 0) F dX5_equals_38 39 rfl (by decide) ?_
      exact k_zret F dX5_equals_39 (by first | rfl | exact kzb _ | exact pk_nc _ | decide) (by first | exact Nat.le_of_ble_eq_true rfl | omega) (by first | exact Nat.le_of_ble_eq_true rfl | omega) ⟨by rw [decide_eq_false c_d, Bool.and_false]; rfl, rfl⟩
    · refine k_iconst (v := 1) F dX5_equals_34 35 rfl (by decide) ?_
      refine k_goto F dX5_equals_35 39 (by decide) ?_
      exact k_zret F dX5_equals_39 (by first | rfl | exact kzb _ | exact pk_nc _ | decide) (by first | exact Nat.le_of_ble_eq_true rfl | omega) (by first | exact Nat.le_of_ble_eq_true rfl | omega) ⟨by rw [decide_eq_true c_z, decide_eq_true c_d]; rfl, rfl⟩

