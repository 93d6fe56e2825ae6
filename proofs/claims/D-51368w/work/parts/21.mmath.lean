/-! THE ROW of the reference as the state of a junction, and what is asked of it -/
def mOf (R : Nat → Int32) (a w : Nat) : Int32 := R (17 + 6 * a + w)
def mPh (R : Nat → Int32) (p w : Nat) : Int32 := R (129 + 12 * p + w)
def mHas (R : Nat → Int32) (p a : Nat) : Bool := mPh R p (4 + a) == 1
def mCl (R : Nat → Int32) (a b : Nat) : Bool := R (65 + 8 * a + b) == 1
def mCar (R : Nat → Int32) (a i : Nat) : Int32 := R (201 + 99 * a + i)
def rA (R : Nat → Int32) : Nat := (R 3).toNatClampNeg
def rP (R : Nat → Int32) : Nat := (R 4).toNatClampNeg
def rOn (R : Nat → Int32) : Nat := (R 6).toNatClampNeg
def rNx (R : Nat → Int32) : Option Nat := if R 7 = -1 then none else some (R 7).toNatClampNeg
def nO (o : Option Nat) : Int32 := match o with
  | none => -1
  | some q => nI q
/-- arms, phases, what is on, what is next lie in the row's bounds -/
def RV (R : Nat → Int32) : Prop := R 3 = nI (rA R) ∧ rA R ≤ 8 ∧ R 4 = nI (rP R) ∧ rP R ≤ 6 ∧ R 6 = nI (rOn R) ∧ rOn R < 6 ∧ R 7 = nO (rNx R) ∧ ∀ q, rNx R = some q → q < 6
def nxHas (R : Nat → Int32) (a : Nat) : Bool := match rNx R with
  | none => false
  | some q => mHas R q a
def lightF (R : Nat → Int32) (a : Nat) : Int32 := if mHas R (rOn R) a = false then 2 else if R 8 = 0 ∨ nxHas R a = true then 0 else if R 8 = 1 then 1 else 2
def asksF (R : Nat → Int32) (a : Nat) : Bool := mOf R a 2 == 1 || decide (0 < mOf R a 3)
def wantA (R : Nat → Int32) (p a : Nat) : Bool := mHas R p a && !mHas R (rOn R) a && asksF R a
def wantedF (R : Nat → Int32) (p : Nat) : Bool := if p = rOn R then false else if mPh R p 2 = 1 then true else (List.range (rA R)).any (wantA R p)
/-- sums and the like over 0 .. n-1 -/
def sumTo (f : Nat → Int32) : Nat → Int32
  | 0 => 0
  | n + 1 => sumTo f n + f n
def carsF (R : Nat → Int32) (p : Nat) : Int32 := sumTo (fun a => if mHas R p a = true then mOf R a 3 else 0) (rA R)
def iMin (a b : Int32) : Int32 := if a ≤ b then a else b
def firstTo (R : Nat → Int32) (p : Nat) : Nat → Int32
  | 0 => 1000000
  | n + 1 => if mHas R p n = true ∧ 0 < mOf R n 3 then iMin (firstTo R p n) (mCar R n 0) else firstTo R p n
def firstF (R : Nat → Int32) (p : Nat) : Int32 := firstTo R p (rA R)
def rankF (R : Nat → Int32) (p : Nat) : Int32 := if R 2 = 0 then (nI p - R 6 + R 4) - (nI p - R 6 + R 4) / R 4 * R 4 else if R 2 = 1 then -(carsF R p) else firstF R p
def bestTo (R : Nat → Int32) : Nat → Option Nat
  | 0 => none
  | n + 1 => match bestTo R n with
    | none => if wantedF R n = true then some n else none
    | some q => if wantedF R n = true ∧ rankF R n < rankF R q then some n else some q
def bestF (R : Nat → Int32) : Option Nat := bestTo R (rP R)
def keepsF (R : Nat → Int32) (a : Nat) : Bool := asksF R a || decide (R 5 - mOf R a 1 < R 1)
def findTo (f : Nat → Bool) (n : Nat) : Option Nat := (List.range n).find? f
def busyF (R : Nat → Int32) : Option Nat := findTo (fun a => mHas R (rOn R) a && keepsF R a) (rA R)
theorem findTo_none {f : Nat → Bool} {n : Nat} (h : ∀ i, i < n → f i = false) : findTo f n = none := by
  unfold findTo
  rw [List.find?_eq_none]
  intro i hi
  rw [h i (List.mem_range.mp hi)]
  decide
theorem findTo_some {f : Nat → Bool} {n j : Nat} (hj : j < n) (h : ∀ i, i < j → f i = false) (hf : f j = true) : findTo f n = some j := by
  unfold findTo
  have e : List.range n = List.range j ++ j :: (List.range (n - j - 1)).map (fun i => j + 1 + i) := by
    apply List.ext_getElem
    · simp; omega
    · intro i h1 h2
      simp only [List.getElem_range, List.getElem_append, List.length_range, List.getElem_cons, List.getElem_map]
      split
      · rfl
      · split
        · omega
        · omega
  rw [e, List.find?_append]
  have e0 : (List.range j).find? f = none := by
    rw [List.find?_eq_none]
    intro i hi
    rw [h i (List.mem_range.mp hi)]
    decide
  rw [e0]
  simp [hf]
theorem anyR_false {f : Nat → Bool} {n : Nat} (h : ∀ i, i < n → f i = false) : (List.range n).any f = false := by
  rw [List.any_eq_false]
  intro i hi
  rw [h i (List.mem_range.mp hi)]
  decide
theorem anyR_true {f : Nat → Bool} {n j : Nat} (hj : j < n) (hf : f j = true) : (List.range n).any f = true := by
  rw [List.any_eq_true]
  exact ⟨j, List.mem_range.mpr hj, hf⟩
theorem nO_none : nO none = -1 := rfl
theorem nO_some (q : Nat) : nO (some q) = nI q := rfl
theorem nO_m1 {o : Option Nat} (h : ∀ q, o = some q → q < 6) : (nO o = -1) = (o = none) := by
  cases o with
  | none => simp [nO]
  | some q =>
    have := h q rfl
    refine propext ⟨fun e => ?_, fun e => by cases e⟩
    have h1 := nI_toInt (n := q) (by omega)
    rw [nO_some] at e
    rw [e] at h1
    have h2 : (-1 : Int32).toInt = -1 := by decide
    rw [h2] at h1
    omega
theorem bestTo_succ (R : Nat → Int32) (n : Nat) : bestTo R (n + 1) = match bestTo R n with
    | none => if wantedF R n = true then some n else none
    | some q => if wantedF R n = true ∧ rankF R n < rankF R q then some n else some q := rfl
theorem bestTo_lt {R : Nat → Int32} {n q : Nat} (h : bestTo R n = some q) : q < n := by
  induction n with
  | zero => cases h
  | succ n ih =>
    unfold bestTo at h
    cases hb : bestTo R n with
    | none =>
      rw [hb] at h
      dsimp only at h
      split at h
      · cases h; omega
      · cases h
    | some b =>
      rw [hb] at h
      dsimp only at h
      split at h
      · cases h; omega
      · cases h
        have := ih hb
        omega
def inF (v lo hi : Int32) : Bool := decide (lo ≤ v) && decide (v ≤ hi)
