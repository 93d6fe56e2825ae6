/-! THE REFERENCE's WORLD: one object of LoopSignalsModel, its twelve arrays. sc: its numbers by field, ar: its arrays by field -/
def kKp (S : kT → Prop) (h h' : kH) : Prop := ∀ (a : Nat) (t : kT) (e : kE), h a = some (t, e) → ¬ S t → h' a = some (t, e)
theorem kKp.rf {S : kT → Prop} {h : kH} : kKp S h h := fun _ _ _ ha _ => ha
theorem kKp.tr {S : kT → Prop} {h h1 h2 : kH} (h01 : kKp S h h1) (h12 : kKp S h1 h2) : kKp S h h2 := fun a t e ha hs => h12 a t e (h01 a t e ha hs) hs
theorem kKp.wk {S S' : kT → Prop} {h h1 : kH} (h01 : kKp S h h1) (hS : ∀ t, S t → S' t) : kKp S' h h1 := fun a t e ha hs => h01 a t e ha (fun q => hs (hS t q))
theorem kHs.keep {g : kG} {S : kT → Prop} {h h' : kH} {a : Nat} {t : kT} {e : kE} (ha : kHs g h a t e) (hK : kKp S h h') (hS : ¬ S t) : kHs g h' a t e := by
  rcases ha with q | q
  · exact Or.inl (hK _ _ _ q hS)
  · exact Or.inr q
theorem kKp.up {S : kT → Prop} {h : kH} {a : Nat} {t : kT} {e e1 : kE} (ha : h a = some (t, e)) (hS : S t) : kKp S h (kUp h a t e1) := by
  intro b t2 e2 hb hs
  rw [kUp_ne, hb]
  intro q
  subst q
  rw [ha] at hb
  cases hb
  exact hs hS
theorem kKp.new {S : kT → Prop} {h : kH} {a : Nat} {t : kT} {e1 : kE} (ha : h a = none) : kKp S h (kUp h a t e1) := by
  intro b t2 e2 hb hs
  rw [kUp_ne, hb]
  intro q
  subst q
  rw [ha] at hb
  cases hb
/-- truth as the machine has it -/
def kB (b : Bool) : Int32 := if b then 1 else 0
theorem kB_t : kB true = 1 := rfl
theorem kB_f : kB false = 0 := rfl
theorem kB_0 (b : Bool) : (kB b = 0) = (b = false) := by cases b <;> simp [kB]
theorem kB_1 (b : Bool) : (kB b = 1) = (b = true) := by cases b <;> simp [kB]
theorem kzb (b : Bool) : narrow .boolean (.int (kB b)) = .int (kB b) := by cases b <;> rfl
theorem nI_lit (n : Nat) : (OfNat.ofNat n : Int32) = nI n := rfl
theorem nI_inj {a b : Nat} (ha : a < 2 ^ 31) (hb : b < 2 ^ 31) : (nI a = nI b) = (a = b) := propext ⟨fun e => by
  have := congrArg Int32.toInt e
  rw [nI_toInt ha, nI_toInt hb] at this
  omega, fun e => by rw [e]⟩
theorem nI_ltE {a b : Nat} (ha : a < 2 ^ 31) (hb : b < 2 ^ 31) : (nI a < nI b) = (a < b) := propext (by rw [Int32.lt_iff_toInt_lt, nI_toInt ha, nI_toInt hb]; omega)
theorem nI_leE {a b : Nat} (ha : a < 2 ^ 31) (hb : b < 2 ^ 31) : (nI a ≤ nI b) = (a ≤ b) := propext (by rw [Int32.le_iff_toInt_le, nI_toInt ha, nI_toInt hb]; omega)
/-- loops: from i up to n -/
theorem kUpTo {Q : Nat → Prop} (n : Nat) (he : Q n) (hs : ∀ j, j < n → Q (j + 1) → Q j) : ∀ j, j ≤ n → Q j := by
  have key : ∀ d j, j + d = n → Q j := by
    intro d
    induction d with
    | zero => intro j hj; rw [show j = n by omega]; exact he
    | succ d ih => intro j hj; exact hs j (by omega) (ih (j + 1) (by omega))
  intro j hj
  exact key (n - j) j (by omega)
section
variable {x : kX} {y : MethodName} {cc : ByteArray} {nL lev mc ms : Nat} {ret : Option FieldType} {hh : List (Nat × Nat × Nat × Nat)} {Po : kR → kH → Prop} {k n : Nat} {h : kH} {pc : Nat} {lv lv' : List (Nat × Value)} {st : List Value}
theorem k_topi {a b : Int32} (e : a = b) (kk : kW x k n h pc lv (.int b :: st)) : kW x k n h pc lv (.int a :: st) := e ▸ kk
end
def mFl (ad : Nat → Nat) (sc : Nat → Int32) : List Value := [.ref (ad 0), .ref (ad 1), .ref (ad 2), .ref (ad 3), .ref (ad 4), .ref (ad 5), .int (sc 6), .int (sc 7), .int (sc 8), .ref (ad 9), .int (sc 10), .int (sc 11), .int (sc 12), .int (sc 13), .int (sc 14), .int (sc 15), .int (sc 16), .ref (ad 17), .ref (ad 18), .ref (ad 19), .ref (ad 20), .int (sc 21), .int (sc 22), .int (sc 23), .ref (ad 24), .int (sc 25)]
def mSz : Nat → Nat
  | 0 => 993
  | 1 => 993
  | 2 => 993
  | 3 => 7944
  | 4 => 1986
  | 9 => 600
  | 17 => 30
  | 18 => 30
  | 19 => 30
  | 20 => 30
  | _ => 500
def mIx (k : Nat) : Bool := [1, 2, 3, 4, 9, 17, 18, 19, 20, 24].contains k
/-- an array cell, its contents told up to its length -/
def mAr (h : kH) (a : Nat) (t : kT) (kd n : Nat) (R : Nat → Int32) : Prop := ∃ f : Nat → Int32, h a = some (t, .inr (.inl (kd, n, .inl f))) ∧ ∀ i, i < n → f i = R i
def MW (h : kH) (m : Nat) (ad : Nat → Nat) (sc : Nat → Int32) (R : Nat → Int32) (ar : Nat → Nat → Int32) : Prop :=
  h m = some ((m + 1, 0, 0), eO 21 (mFl ad sc)) ∧ (∀ k, mIx k = true → mAr h (ad k) (m + 1, 1, k) 0 (mSz k) (ar k)) ∧ mAr h (ad 5) (m + 1, 1, 5) 3 2 (ar 5) ∧ mAr h (ad 0) (m + 1, 1, 0) 0 993 R
theorem mAr.keep {S : kT → Prop} {h h' : kH} {a : Nat} {t : kT} {kd n : Nat} {R : Nat → Int32} (hA : mAr h a t kd n R) (hK : kKp S h h') (hS : ¬ S t) : mAr h' a t kd n R := by
  obtain ⟨f, h1, h2⟩ := hA
  exact ⟨f, hK _ _ _ h1 hS, h2⟩
theorem mAr.up {h : kH} {a b : Nat} {t t' : kT} {e e0 : kE} {kd n : Nat} {R : Nat → Int32} (hA : mAr h b t' kd n R) (ha : h a = some (t, e0)) (ht : t ≠ t') : mAr (kUp h a t e) b t' kd n R := by
  obtain ⟨f, h1, h2⟩ := hA
  exact ⟨f, kUp_tag ha h1 ht, h2⟩
theorem mAr.congr {h : kH} {a : Nat} {t : kT} {kd n : Nat} {R R' : Nat → Int32} (hA : mAr h a t kd n R) (e : ∀ i, i < n → R i = R' i) : mAr h a t kd n R' := by
  obtain ⟨f, h1, h2⟩ := hA
  exact ⟨f, h1, fun i hi => (h2 i hi).trans (e i hi)⟩
def mOwn (m : Nat) : kT → Prop := fun t => t.1 = m + 1
/-- array k set at place i -/
def updA (ar : Nat → Nat → Int32) (k i : Nat) (v : Int32) : Nat → Nat → Int32 := fun j => if j = k then upd (ar k) i v else ar j
theorem updA_s {ar : Nat → Nat → Int32} {k i : Nat} {v : Int32} : updA ar k i v k = upd (ar k) i v := if_pos rfl
theorem updA_n {ar : Nat → Nat → Int32} {k i j : Nat} {v : Int32} (n : j ≠ k) : updA ar k i v j = ar j := if_neg n
theorem MW.keep {S : kT → Prop} {h h' : kH} {m : Nat} {ad : Nat → Nat} {sc : Nat → Int32} {R : Nat → Int32} {ar : Nat → Nat → Int32} (hM : MW h m ad sc R ar) (hK : kKp S h h') (hS : ∀ t : kT, S t → t.1 ≠ m + 1) : MW h' m ad sc R ar :=
  ⟨hK _ _ _ hM.1 (fun q => hS _ q rfl), fun k hk => (hM.2.1 k hk).keep hK (fun q => hS _ q rfl), hM.2.2.1.keep hK (fun q => hS _ q rfl), hM.2.2.2.keep hK (fun q => hS _ q rfl)⟩
theorem MW.congr {h : kH} {m : Nat} {ad : Nat → Nat} {sc : Nat → Int32} {R R' : Nat → Int32} {ar ar' : Nat → Nat → Int32} (hM : MW h m ad sc R ar) (e : ∀ i, i < 993 → R i = R' i) (ea : ∀ k, mIx k = true → ∀ i, i < mSz k → ar k i = ar' k i) (e5 : ∀ i, i < 2 → ar 5 i = ar' 5 i) : MW h m ad sc R' ar' :=
  ⟨hM.1, fun k hk => (hM.2.1 k hk).congr (ea k hk), hM.2.2.1.congr e5, hM.2.2.2.congr e⟩
theorem MW.row {h : kH} {m : Nat} {ad : Nat → Nat} {sc : Nat → Int32} {R R' : Nat → Int32} {ar : Nat → Nat → Int32} (hM : MW h m ad sc R ar) (e : ∀ i, i < 993 → R i = R' i) : MW h m ad sc R' ar := hM.congr e (fun _ _ _ _ => rfl) (fun _ _ => rfl)
theorem MW.put {h : kH} {m : Nat} {ad : Nat → Nat} {sc sc' : Nat → Int32} {R : Nat → Int32} {ar : Nat → Nat → Int32} (hM : MW h m ad sc R ar) : MW (kUp h m (m + 1, 0, 0) (eO 21 (mFl ad sc'))) m ad sc' R ar :=
  ⟨kUp_self, fun k hk => (hM.2.1 k hk).up hM.1 (by simp), hM.2.2.1.up hM.1 (by simp), hM.2.2.2.up hM.1 (by simp)⟩
theorem MW.set {h : kH} {m : Nat} {ad : Nat → Nat} {sc : Nat → Int32} {R : Nat → Int32} {ar : Nat → Nat → Int32} (hM : MW h m ad sc R ar) {k : Nat} (hk : mIx k = true) {f : Nat → Int32} (h1 : h (ad k) = some ((m + 1, 1, k), eI (mSz k) f)) (h2 : ∀ i, i < mSz k → f i = ar k i) {i : Nat} {v : Int32} : MW (kUp h (ad k) (m + 1, 1, k) (eI (mSz k) (upd f i v))) m ad sc R (updA ar k i v) := by
  have h0 : (0 : Nat) ≠ k := by
    intro q
    subst q
    cases hk
  refine ⟨kUp_tag h1 hM.1 (by simp), fun j hj => ?_, ?_, hM.2.2.2.up h1 (by simp; omega)⟩
  · by_cases c : j = k
    · subst c
      rw [updA_s]
      exact ⟨_, kUp_self, fun q hq => by simp only [upd]; split <;> first | rfl | exact h2 q hq⟩
    · rw [updA_n c]
      exact (hM.2.1 j hj).up h1 (by simp; omega)
  · have h5 : (5 : Nat) ≠ k := by
      intro q
      subst q
      cases hk
    rw [updA_n h5]
    exact hM.2.2.1.up h1 (by simp; omega)
theorem MW.setR {h : kH} {m : Nat} {ad : Nat → Nat} {sc : Nat → Int32} {R f R' : Nat → Int32} {ar : Nat → Nat → Int32} (hM : MW h m ad sc R ar) (h1 : h (ad 0) = some ((m + 1, 1, 0), eI 993 f)) {f' : Nat → Int32} (h2 : ∀ i, i < 993 → f' i = R' i) : MW (kUp h (ad 0) (m + 1, 1, 0) (eI 993 f')) m ad sc R' ar := by
  refine ⟨kUp_tag h1 hM.1 (by simp), fun j hj => ?_, hM.2.2.1.up h1 (by simp), _, kUp_self, h2⟩
  have h0 : (0 : Nat) ≠ j := by
    intro q
    subst q
    cases hj
  exact (hM.2.1 j hj).up h1 (by simp; omega)
theorem MW.setZ {h : kH} {m : Nat} {ad : Nat → Nat} {sc : Nat → Int32} {R f : Nat → Int32} {ar : Nat → Nat → Int32} (hM : MW h m ad sc R ar) (h1 : h (ad 5) = some ((m + 1, 1, 5), eZ 2 f)) (h2 : ∀ i, i < 2 → f i = ar 5 i) {i : Nat} {v : Int32} : MW (kUp h (ad 5) (m + 1, 1, 5) (eZ 2 (upd f i v))) m ad sc R (updA ar 5 i v) := by
  refine ⟨kUp_tag h1 hM.1 (by simp), fun j hj => ?_, by rw [updA_s]; exact ⟨_, kUp_self, fun q hq => by simp only [upd]; split <;> first | rfl | exact h2 q hq⟩, hM.2.2.2.up h1 (by simp)⟩
  have h5 : j ≠ 5 := by
    intro q
    subst q
    cases hj
  rw [updA_n h5]
  exact (hM.2.1 j hj).up h1 (by simp; omega)
theorem kcX7 : kCl 21 RX7 TX7 26 tyX7 := ⟨rfl, in_X7, tyX7_ok⟩
theorem knX7 (j : Nat) (hj : j < 26 := by decide) : kNm TX7 26 j := fun b hb hne => nmX7 b hb j hj hne
section
variable {x : kX} {y : MethodName} {cc : ByteArray} {nL lev mc ms : Nat} {ret : Option FieldType} {hh : List (Nat × Nat × Nat × Nat)} {Po : kR → kH → Prop} {k n : Nat} {hb h : kH} {pc : Nat} {lv lv' : List (Nat × Value)} {st : List Value} {m : Nat} {ad : Nat → Nat} {sc : Nat → Int32} {R : Nat → Int32} {ar : Nat → Nat → Int32}
/-- a number of the object -/
theorem m_get (F : kF x y cc nL ret hh lev mc ms Po) (j : Nat) (hj : j < 26) {index : Nat} (hq : Cond.fieldLink y.cls index "LoopSignalsModel" (TX7 j).2.1 (TX7 j).2.2.1 ∈ lw_all) (hn : (TX7 j).1 = "LoopSignalsModel") (hd : decode cc pc = .ok (.getfield index, 3)) (p' : Nat) (hp : pc + 3 = p') (hM : MW h m ad sc R ar) {v : Value} (hv : (mFl ad sc)[j]? = some v) (kk : kW x k n h p' lv (v :: st)) : kW x k n h pc lv (.ref m :: st) :=
  k_get F kcX7 j hj hq (fun _ e => by rw [hn] at e; exact e) hd p' hp (kHs.of hM.1) hv kk
theorem m_put (F : kF x y cc nL ret hh lev mc ms Po) (j : Nat) (hj : j < 26) (hnm : kNm TX7 26 j) {index : Nat} (hq : Cond.fieldLink y.cls index "LoopSignalsModel" (TX7 j).2.1 (TX7 j).2.2.1 ∈ lw_all) (hn : (TX7 j).1 = "LoopSignalsModel") (hfin : (TX7 j).2.2.2 = false) (hd : decode cc pc = .ok (.putfield index, 3)) (p' : Nat) (hp : pc + 3 = p') (hM : MW h m ad sc R ar) (hK : kKp (mOwn m) hb h) {v : Int32} (hna : narrow (tyX7 j) (.int v) = .int v) (hfit : fits (tyX7 j) (.int v) = true) (hs : (mFl ad sc).set j (.int v) = mFl ad (upd sc j v))
    (kk : ∀ h' : kH, MW h' m ad (upd sc j v) R ar → kKp (mOwn m) hb h' → kW x k n h' p' lv st) : kW x k n h pc lv (.int v :: .ref m :: st) := by
  refine k_put F kcX7 j hj hnm hq (fun _ e => by rw [hn] at e; exact e) hfin hd p' hp hM.1 (by simp) hna hfit (by simp [mFl]; omega) hs ?_
  exact kk _ hM.put (hK.tr (kKp.up hM.1 rfl))
theorem m_iald (F : kF x y cc nL ret hh lev mc ms Po) (j : Nat) (hj : mIx j = true) (hd : decode cc pc = .ok (.iaload, 1)) (p' : Nat) (hp : pc + 1 = p') (hM : MW h m ad sc R ar) (i : Nat) {v : Int32} (hv : v = nI i) (hi : i < mSz j) (kk : kW x k n h p' lv (.int (ar j i) :: st)) : kW x k n h pc lv (.int v :: .ref (ad j) :: st) := by
  have hz : mSz j ≤ 7944 := by
    unfold mSz
    split <;> omega
  obtain ⟨f, h1, h2⟩ := hM.2.1 j hj
  exact k_iald F hd p' hp (kHs.of h1) hv hi (by omega) (by rw [h2 i hi]; exact kk)
theorem m_iast (F : kF x y cc nL ret hh lev mc ms Po) (j : Nat) (hj : mIx j = true) (hd : decode cc pc = .ok (.iastore, 1)) (p' : Nat) (hp : pc + 1 = p') (hM : MW h m ad sc R ar) (hK : kKp (mOwn m) hb h) (i : Nat) {v w : Int32} (hv : v = nI i) (hi : i < mSz j) (kk : ∀ h' : kH, MW h' m ad sc R (updA ar j i w) → kKp (mOwn m) hb h' → kW x k n h' p' lv st) : kW x k n h pc lv (.int w :: .int v :: .ref (ad j) :: st) := by
  have hz : mSz j ≤ 7944 := by
    unfold mSz
    split <;> omega
  obtain ⟨f, h1, h2⟩ := hM.2.1 j hj
  refine k_iast F hd p' hp h1 (by simp) hv hi (by omega) ?_
  exact kk _ (hM.set hj h1 h2) (hK.tr (kKp.up h1 rfl))
theorem m_ld (F : kF x y cc nL ret hh lev mc ms Po) (hd : decode cc pc = .ok (.iaload, 1)) (p' : Nat) (hp : pc + 1 = p') (hM : MW h m ad sc R ar) (i : Nat) {v : Int32} (hv : v = nI i) (hi : i < 993) (kk : kW x k n h p' lv (.int (R i) :: st)) : kW x k n h pc lv (.int v :: .ref (ad 0) :: st) := by
  obtain ⟨f, h1, h2⟩ := hM.2.2.2
  exact k_iald F hd p' hp (kHs.of h1) hv hi (by omega) (by rw [h2 i hi]; exact kk)
theorem m_st (F : kF x y cc nL ret hh lev mc ms Po) (hd : decode cc pc = .ok (.iastore, 1)) (p' : Nat) (hp : pc + 1 = p') (hM : MW h m ad sc R ar) (hK : kKp (mOwn m) hb h) (i : Nat) {v w : Int32} (hv : v = nI i) (hi : i < 993) (kk : ∀ h' : kH, MW h' m ad sc (upd R i w) ar → kKp (mOwn m) hb h' → kW x k n h' p' lv st) : kW x k n h pc lv (.int w :: .int v :: .ref (ad 0) :: st) := by
  obtain ⟨f, h1, h2⟩ := hM.2.2.2
  refine k_iast F hd p' hp h1 (by simp) hv hi (by omega) ?_
  exact kk _ (hM.setR h1 (fun q hq => by simp only [upd]; split <;> first | rfl | exact h2 q hq)) (hK.tr (kKp.up h1 rfl))
theorem m_zald (F : kF x y cc nL ret hh lev mc ms Po) (hd : decode cc pc = .ok (.baload, 1)) (p' : Nat) (hp : pc + 1 = p') (hM : MW h m ad sc R ar) (i : Nat) {v : Int32} (hv : v = nI i) (hi : i < 2) (kk : kW x k n h p' lv (.int (ar 5 i) :: st)) : kW x k n h pc lv (.int v :: .ref (ad 5) :: st) := by
  obtain ⟨f, h1, h2⟩ := hM.2.2.1
  exact k_zald F hd p' hp (kHs.of h1) hv hi (by omega) (by rw [h2 i hi]; exact kk)
theorem m_zast (F : kF x y cc nL ret hh lev mc ms Po) (hd : decode cc pc = .ok (.bastore, 1)) (p' : Nat) (hp : pc + 1 = p') (hM : MW h m ad sc R ar) (hK : kKp (mOwn m) hb h) (i : Nat) {v w : Int32} (hv : v = nI i) (hi : i < 2) (hw : narrow .boolean (.int w) = .int w) (kk : ∀ h' : kH, MW h' m ad sc R (updA ar 5 i w) → kKp (mOwn m) hb h' → kW x k n h' p' lv st) : kW x k n h pc lv (.int w :: .int v :: .ref (ad 5) :: st) := by
  obtain ⟨f, h1, h2⟩ := hM.2.2.1
  refine k_zast F hd p' hp h1 (by simp) hv hi (by omega) hw ?_
  exact kk _ (hM.setZ h1 h2) (hK.tr (kKp.up h1 rfl))
end
/-- contracts of the reference: what is read, what is done -/
def mRd (h : kH) (v : Value) : kR → kH → Prop := kV (fun w h' => v = w ∧ h = h')
def mDo (h : kH) (m : Nat) (ad : Nat → Nat) (sc : Nat → Int32) (R : Nat → Int32) (ar : Nat → Nat → Int32) : kR → kH → Prop := kN (fun h' => MW h' m ad sc R ar ∧ kKp (mOwn m) h h')
def mDv (h : kH) (m : Nat) (ad : Nat → Nat) (sc : Nat → Int32) (R : Nat → Int32) (ar : Nat → Nat → Int32) (v : Value) : kR → kH → Prop := kV (fun w h' => v = w ∧ MW h' m ad sc R ar ∧ kKp (mOwn m) h h')
theorem vp_arr' (cA : ClassId) (n : Nat) (c : (Nat → Int32) ⊕ (Nat → Int64) ⊕ (Nat → UInt32) ⊕ (Nat → UInt64) ⊕ (Nat → Option Nat)) : ∃ f, vp_cell cA (n, c) = arrV cA n f := ⟨_, vp_arr cA n c⟩
theorem shr0 (v : Int32) : v >>> ((0 : Int32) &&& 31) = v := by
  rw [show ((0 : Int32) &&& 31) = 0 from by decide]
  exact Int32.shiftRight_zero
