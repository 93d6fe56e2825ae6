/-! answers of the public questions -/
def ixO (v : Int32) (n : Nat) : Option Nat := if inF v 0 (nI n - 1) = true then some v.toNatClampNeg else none
theorem ixO_none {v : Int32} {n : Nat} (h : inF v 0 (nI n - 1) = false) : ixO v n = none := by
  unfold ixO
  rw [if_neg (by rw [h]; decide)]
theorem ixO_some {k n : Nat} (hk : k < n) (hn : n < 2 ^ 30) : ixO (nI k) n = some k := by
  unfold ixO
  rw [if_pos ((inIx hn).mpr ⟨k, hk, rfl⟩), nI_clamp (by omega)]
theorem ixO_lt {v : Int32} {k n : Nat} (hn : n < 2 ^ 30) (h : ixO v n = some k) : k < n ∧ v = nI k := by
  unfold ixO at h
  split at h
  · rename_i c
    obtain ⟨j, h1, rfl⟩ := (inIx hn).mp c
    rw [nI_clamp (by omega)] at h
    cases h
    exact ⟨h1, rfl⟩
  · cases h
def thrF (sc : Nat → Int32) (b : Bool) : Nat → Int32 := if b = true then upd sc 8 0 else upd (upd sc 8 0) 8 1
/-- an answer, or what is thrown -/
def mAn (h : kH) (m : Nat) (ad : Nat → Nat) (sc : Nat → Int32) (R : Nat → Int32) (ar : Nat → Nat → Int32) (o : Option Int32) : kR → kH → Prop := mDv h m ad (thrF sc o.isSome) R ar (.int (o.getD 0))
def sizeF (R : Nat → Int32) (u : Int32) : Nat → Int32
  | 0 => R 3
  | 1 => R 4
  | 2 => R 5
  | 3 => R 0
  | 4 => R 1
  | 5 => R 2
  | 6 => R 6
  | 7 => R 7
  | 8 => R 8
  | 9 => R 9
  | 10 => nO (bestF R)
  | 11 => if busyF R = none then 0 else 1
  | 12 => sumTo (fun a => mOf R a 3) (rA R)
  | _ => u
def armF (R : Nat → Int32) (a : Nat) : Nat → Int32
  | 0 => lightF R a
  | 1 => mOf R a 3
  | 2 => mOf R a 1
  | 3 => mOf R a 2
  | 4 => kB (asksF R a)
  | 5 => nI (cntB (fun p => mHas R p a) (rP R))
  | 6 => nI (cntB (fun b => mCl R a b) (rA R))
  | 7 => mOf R a 4
  | 8 => if mOf R a 3 = 0 then 0 else R 5 - mCar R a 0
  | _ => mOf R a 5
def phaseF (R : Nat → Int32) (p : Nat) : Nat → Int32
  | 0 => mPh R p 0
  | 1 => mPh R p 1
  | 2 => nI (cntB (fun b => mHas R p b) (rA R))
  | 3 => mPh R p 2
  | 4 => kB (wantedF R p)
  | 5 => carsF R p
  | _ => mPh R p 3
def o2 (o p : Option Nat) (f : Nat → Nat → Int32) : Option Int32 := match o, p with
  | some a, some b => some (f a b)
  | _, _ => none
def oSize (R : Nat → Int32) (u v : Int32) : Option Int32 := (ixO v 14).map (sizeF R u)
def oArm (R : Nat → Int32) (v w : Int32) : Option Int32 := o2 (ixO v (rA R)) (ixO w 10) (armF R)
def oPhase (R : Nat → Int32) (v w : Int32) : Option Int32 := o2 (ixO v (rP R)) (ixO w 7) (phaseF R)
def oHas (R : Nat → Int32) (v w : Int32) : Option Int32 := o2 (ixO v (rP R)) (ixO w (rA R)) (fun p a => kB (mHas R p a))
def oClash (R : Nat → Int32) (v w : Int32) : Option Int32 := o2 (ixO v (rA R)) (ixO w (rA R)) (fun p a => kB (mCl R p a))
def carF (R : Nat → Int32) (a : Nat) (i : Int32) : Int32 := match ixO i (rC R a) with
  | some j => mCar R a j
  | none => -1
def oCar (R : Nat → Int32) (v i : Int32) : Option Int32 := (ixO v (rA R)).map (fun a => carF R a i)
def causeF (R : Nat → Int32) (a : Nat) : Int32 :=
  let r := reasonF R a
  if r = 2 ∨ r = 3 then 100 + R 7 else if r = 5 then 200 + mPh R (rOn R) 0 - R 9 else if r = 6 then 300 + nO (busyF R) else if r = 7 ∨ r = 8 then 400 + nO (bestF R) else 0
def oWhy (R : Nat → Int32) (v d : Int32) : Option Int32 := o2 (ixO v (rA R)) (ixO d 2) (fun a k => if k = 0 then reasonF R a else causeF R a)
def oAcc (R : Nat → Int32) (rf v : Int32) : Option Int32 := (ixO v 8).map (fun k => if k = 7 then rf else R (10 + k))
def badF (R : Nat → Int32) (a b : Nat) : Bool := mCl R a b && (!(lightF R a == 2) && !(lightF R b == 2))
def badTo (R : Nat → Int32) (a b : Nat) (s : Int32) : Int32 := s + nI (cntB (badF R a) b)
def badAll (R : Nat → Int32) : Nat → Int32 → Int32
  | 0, s => s
  | a + 1, s => badTo R a a (badAll R a s)
def gapF (R : Nat → Int32) : Int32 :=
  let d := R 10 - R 11 - sumTo (fun a => mOf R a 3) (rA R)
  badAll R (rA R) (if 0 ≤ d then d else -d) + nI (cntB (mixedF R) (rP R))
def namedF (R : Nat → Int32) (w : Int32) : Option Nat := findTo (fun a => mOf R a 0 == w) (rA R)
def pkTo (b : Nat → Int32) (s : Nat) : Nat → Int32
  | 0 => 0
  | k + 1 => 27 * pkTo b s k + b (s + k) - 96
theorem reasonF_ix (R : Nat → Int32) (a : Nat) : reasonF R a = 0 ∨ reasonF R a = 1 ∨ reasonF R a = 2 ∨ reasonF R a = 3 ∨ reasonF R a = 4 ∨ reasonF R a = 5 ∨ reasonF R a = 6 ∨ reasonF R a = 7 ∨ reasonF R a = 8 := by
  unfold reasonF
  repeat' split
  all_goals simp
theorem ixO_n {v : Int32} {n : Nat} (h : ixO v n = none) : inF v 0 (nI n - 1) = false := by
  unfold ixO at h
  split at h
  · cases h
  · rename_i c
    exact (Bool.not_eq_true _).mp c
theorem ixO_s {v : Int32} {n k : Nat} (h : ixO v n = some k) : inF v 0 (nI n - 1) = true := by
  unfold ixO at h
  split at h
  · rename_i c
    exact c
  · cases h
