/-! forecasts, changes -/
theorem inBet {v : Int32} {a b : Nat} (ha : a < 2 ^ 30) (hb : b < 2 ^ 30) : inF v (nI a) (nI b) = true ↔ ∃ k, a ≤ k ∧ k ≤ b ∧ v = nI k := by
  unfold inF
  rw [Bool.and_eq_true, decide_eq_true_eq, decide_eq_true_eq]
  constructor
  · rintro ⟨h1, h2⟩
    rcases pk_ix v (n := b + 1) (by omega) with q | q | ⟨k, hk, rfl⟩
    · rw [Int32.le_iff_toInt_le, nI_toInt (by omega)] at h1
      rw [Int32.lt_iff_toInt_lt, show (0 : Int32).toInt = 0 from rfl] at q
      omega
    · rw [Int32.le_iff_toInt_le, nI_toInt (by omega)] at h2 q
      omega
    · rw [nI_leE (by omega) (by omega)] at h1
      exact ⟨k, h1, by omega, rfl⟩
  · rintro ⟨k, h1, h2, rfl⟩
    rw [nI_leE (by omega) (by omega), nI_leE (by omega) (by omega)]
    exact ⟨h1, h2⟩
/-- a number from a to b -/
def ixB (v : Int32) (a b : Nat) : Option Nat := if inF v (nI a) (nI b) = true then some v.toNatClampNeg else none
theorem ixB_n {v : Int32} {a b : Nat} (h : ixB v a b = none) : inF v (nI a) (nI b) = false := by
  unfold ixB at h
  split at h
  · cases h
  · rename_i c
    exact (Bool.not_eq_true _).mp c
theorem ixB_s {v : Int32} {a b k : Nat} (h : ixB v a b = some k) : inF v (nI a) (nI b) = true := by
  unfold ixB at h
  split at h
  · rename_i c
    exact c
  · cases h
theorem ixB_lt {v : Int32} {a b k : Nat} (ha : a < 2 ^ 30) (hb : b < 2 ^ 30) (h : ixB v a b = some k) : a ≤ k ∧ k ≤ b ∧ v = nI k := by
  obtain ⟨j, h1, h2, rfl⟩ := (inBet ha hb).mp (ixB_s h)
  unfold ixB at h
  rw [if_pos (ixB_s (a := a) (b := b) (k := k) (by unfold ixB; exact h)), nI_clamp (by omega)] at h
  cases h
  exact ⟨h1, h2, rfl⟩
def greenF (R : Nat → Int32) (a : Nat) : Option Nat := findTo (fun n => lightF (tickN n R) a == 0) 501
def allF (R : Nat → Int32) : Int32 := sumTo (fun a => mOf R a 3) (rA R)
def emptyF (R : Nat → Int32) : Option Nat := findTo (fun n => allF (tickN n R) == 0) 2001
def byF (R : Nat → Int32) (r t : Nat) : Nat → Int32 := tickN t (upd R 2 (nI r))
def grownF (R : Nat → Int32) (r t w : Nat) : Int32 := if w = 7 then 0 else byF R r t (10 + w) - R (10 + w)
def bestRF (R : Nat → Int32) (t : Nat) : Int32 :=
  let g := fun r => grownF R r t 2
  if g 1 < g 0 then (if g 2 < g 1 then 2 else 1) else (if g 2 < g 0 then 2 else 0)
/-- an answer, the row aside changed -/
def mAn1 (h : kH) (m : Nat) (ad : Nat → Nat) (sc : Nat → Int32) (R : Nat → Int32) (ar : Nat → Nat → Int32) (o : Option Int32) : kR → kH → Prop := kV (fun w h' => w = .int (o.getD 0) ∧ (∃ A, MW h' m ad (thrF sc o.isSome) R (setA ar 1 A)) ∧ kKp (mOwn m) h h')
theorem RT.set2 {R : Nat → Int32} {v : Int32} (h : RT R) : RT (upd R 2 v) := by
  refine ⟨h.1.of (upd_ne (by omega)) (upd_ne (by omega)) (upd_ne (by omega)) (upd_ne (by omega)), fun a ha => ?_, fun e => ?_⟩
  · obtain ⟨c, h1, h2⟩ := h.2.1 a ha
    exact ⟨c, h1, by unfold mOf; rw [upd_ne (by omega)]; exact h2⟩
  · rw [upd_ne (by omega)] at e
    rw [rNx_eq (upd_ne (by omega))]
    exact h.2.2 e
theorem upd_upd {f : Nat → Int32} {i : Nat} {v w : Int32} : upd (upd f i v) i w = upd f i w := by
  funext j
  unfold upd
  split <;> rfl
theorem upd_self {f : Nat → Int32} {i : Nat} : upd f i (f i) = f := by
  funext j
  unfold upd
  split
  · rename_i e; rw [e]
  · rfl
/-- the rows to be undone: where the next lies, the rows with it -/
def keepU (u : Nat) : Nat := if u = 8 then 7 else u
def stF (E : Nat → Int32) (u : Nat) : Nat → Int32 := if u = 8 then mixF (fun k => E (k + 993)) E 6951 else E
def inRow (E : Nat → Int32) (p : Nat) (R : Nat → Int32) (n : Nat) : Nat → Int32 := fun k => if 993 * p ≤ k ∧ k < 993 * p + n then R (k - 993 * p) else E k
theorem inRow_0 {E R : Nat → Int32} {p : Nat} : inRow E p R 0 = E := by
  funext k
  exact if_neg (by omega)
theorem inRow_succ {E R : Nat → Int32} {p n : Nat} : upd (inRow E p R n) (993 * p + n) (R n) = inRow E p R (n + 1) := by
  funext k
  unfold upd inRow
  by_cases c : k = 993 * p + n
  · rw [if_pos c, if_pos (by omega), c]
    congr 1
    omega
  · rw [if_neg c]
    by_cases d : 993 * p ≤ k ∧ k < 993 * p + n
    · rw [if_pos d, if_pos (by omega)]
    · rw [if_neg d, if_neg (by omega)]
def keepE (R E : Nat → Int32) (u : Nat) : Nat → Int32 := inRow (stF E u) (keepU u) R 993
def chS (sc : Nat → Int32) (u : Nat) : Nat → Int32 := if sc 23 = 0 then upd sc 6 (nI (keepU u + 1)) else sc
def chA (sc R : Nat → Int32) (ar : Nat → Nat → Int32) (u : Nat) : Nat → Nat → Int32 := if sc 23 = 0 then setA ar 3 (keepE R (ar 3) u) else ar
abbrev mA : Type := Int32 ⊕ ((Nat → Int32) × Int32)
def aV : mA → Int32
  | .inl c => c
  | .inr q => q.2
def aR (R : Nat → Int32) : mA → Nat → Int32
  | .inl _ => R
  | .inr q => q.1
def aS (sc : Nat → Int32) (u : Nat) : mA → Nat → Int32
  | .inl _ => upd sc 7 (sc 7 + 1)
  | .inr _ => chS sc u
def aA (sc R : Nat → Int32) (ar : Nat → Nat → Int32) (u : Nat) : mA → Nat → Nat → Int32
  | .inl _ => ar
  | .inr _ => chA sc R ar u
/-- an act: refused with a number, or done -/
def mAct (h : kH) (m : Nat) (ad : Nat → Nat) (sc R : Nat → Int32) (ar : Nat → Nat → Int32) (u : Nat) (o : mA) : kR → kH → Prop := mDv h m ad (aS sc u o) (aR R o) (aA sc R ar u o) (.int (aV o))
def pV : Option mA → Int32
  | none => 0
  | some o => aV o
def pR (R : Nat → Int32) : Option mA → Nat → Int32
  | none => R
  | some o => aR R o
def pS (sc : Nat → Int32) (u : Nat) : Option mA → Nat → Int32
  | none => upd (upd sc 8 0) 8 1
  | some o => aS (upd sc 8 0) u o
def pA (sc R : Nat → Int32) (ar : Nat → Nat → Int32) (u : Nat) : Option mA → Nat → Nat → Int32
  | none => ar
  | some o => aA (upd sc 8 0) R ar u o
/-- a public act: none: what was asked is not right -/
def mPub (h : kH) (m : Nat) (ad : Nat → Nat) (sc R : Nat → Int32) (ar : Nat → Nat → Int32) (u : Nat) (o : Option mA) : kR → kH → Prop := mDv h m ad (pS sc u o) (pR R o) (pA sc R ar u o) (.int (pV o))
def comeTo (R : Nat → Int32) (a c : Nat) : Nat → Nat → Int32
  | 0 => R
  | k + 1 => upd (comeTo R a c k) (201 + 99 * a + c + k) (R 5)
theorem comeTo_lo {R : Nat → Int32} {a c j : Nat} (hj : j < 201) : ∀ k, comeTo R a c k j = R j
  | 0 => rfl
  | k + 1 => by
    show upd (comeTo R a c k) _ _ j = R j
    rw [upd_ne (by omega), comeTo_lo hj k]
def comeF (R : Nat → Int32) (a n : Nat) : Nat → Int32 := cntF (upd (upd (comeTo R a (rC R a) n) (17 + 6 * a + 3) (mOf R a 3 + nI n)) (17 + 6 * a + 1) (R 5)) 0 (nI n)
def comingF (R : Nat → Int32) (a n : Nat) : mA := if 99 < mOf R a 3 + nI n then .inl (-2) else .inr (comeF R a n, mOf R a 3 + nI n)
def passF (R : Nat → Int32) (n : Nat) : mA := if 9999 < R 5 + nI n then .inl (-3) else .inr (tickN n R, tickN n R 6)
def callR (R : Nat → Int32) (p : Nat) : Nat → Int32 := cntF (upd R (129 + 12 * p + 2) 1) 5 1
def callF (R : Nat → Int32) (p : Nat) : mA := if nI p = R 6 ∨ mPh R p 2 = 1 then .inl (-4) else .inr (callR R p, sumTo (fun q => mPh (callR R p) q 2) (rP R))
def brkR (R : Nat → Int32) (a : Nat) (v : Int32) : Nat → Int32 := upd R (17 + 6 * a + 2) v
def brkF (R : Nat → Int32) (a : Nat) (v : Int32) : mA := if mOf R a 2 = v then .inl (-4) else .inr (brkR R a v, sumTo (fun b => mOf (brkR R a v) b 2) (rA R))
def clsR (R : Nat → Int32) (a b : Nat) (so : Bool) : Nat → Int32 := upd (upd R (65 + 8 * a + b) (kB so)) (65 + 8 * b + a) (kB so)
def clsN (R : Nat → Int32) : Int32 := sumTo (fun a => nI (cntB (fun b => mCl R a b) (rA R))) (rA R)
def clsF (R : Nat → Int32) (a b : Nat) (so : Bool) : mA := if so = true ∧ oneF R a b = true then .inl (-5) else .inr (clsR R a b so, clsN (clsR R a b so) / 2)
def ofpF (R : Nat → Int32) (p w : Nat) (v : Int32) : mA := if (w = 0 ∧ mPh R p 1 < v) ∨ (w ≠ 0 ∧ v < mPh R p 0) then .inl (-6) else .inr (upd R (129 + 12 * p + w) v, mPh R p w)
def setF (R : Nat → Int32) (w : Nat) (v : Int32) : mA := .inr (upd R w v, R w)
def oCome (R : Nat → Int32) (v w : Int32) : Option mA := match ixO v (rA R), ixB w 1 99 with
  | some a, some n => some (comingF R a n)
  | _, _ => none
def oPass (R : Nat → Int32) (v : Int32) : Option mA := (ixB v 1 60).map (passF R)
def oCall (R : Nat → Int32) (v : Int32) : Option mA := (ixO v (rP R)).map (callF R)
def oBrk (R : Nat → Int32) (v : Int32) (b : Bool) : Option mA := (ixO v (rA R)).map (fun a => brkF R a (kB b))
def oCls (R : Nat → Int32) (v w : Int32) (b : Bool) : Option mA := match ixO v (rA R), ixO w (rA R) with
  | some a, some c => if a = c then none else some (clsF R a c b)
  | _, _ => none
def oSetP (R : Nat → Int32) (v : Int32) (b : Bool) (w : Int32) : Option mA := match ixO v (rP R), ixB w 1 (if b = true then 60 else 99) with
  | some p, some k => some (ofpF R p (if b = true then 0 else 1) (nI k))
  | _, _ => none
def oSet (R : Nat → Int32) (v w : Int32) : Option mA := match ixB v 3 5 with
  | some k => match ixB w (if k = 3 then 1 else 0) (if k = 3 then 9 else if k = 4 then 20 else 2) with
    | some j => some (setF R (k - 3) (nI j))
    | none => none
  | none => none
/-! bytes, letters -/
def byB (w : Int32) (k : Nat) : Int32 := (w >>> nI k) &&& 255
def pushB (q : (Nat → Int32) × Nat) (b : Int32) : (Nat → Int32) × Nat := if b = 0 then q else (if q.2 < 600 then upd q.1 q.2 b else q.1, q.2 + 1)
def feedsF (q : (Nat → Int32) × Nat) (w : Int32) : (Nat → Int32) × Nat := pushB (pushB (pushB (pushB q (byB w 24)) (byB w 16)) (byB w 8)) (byB w 0)
def feedF (q : (Nat → Int32) × Nat) (a b c d e : Int32) : (Nat → Int32) × Nat := feedsF (feedsF (feedsF (feedsF (feedsF q a) b) c) d) e
theorem pushB_le (q : (Nat → Int32) × Nat) (b : Int32) : q.2 ≤ (pushB q b).2 ∧ (pushB q b).2 ≤ q.2 + 1 := by
  unfold pushB
  split
  · omega
  · dsimp only
    omega
theorem feedsF_le (q : (Nat → Int32) × Nat) (w : Int32) : q.2 ≤ (feedsF q w).2 ∧ (feedsF q w).2 ≤ q.2 + 4 := by
  unfold feedsF
  have h1 := pushB_le q (byB w 24)
  have h2 := pushB_le (pushB q (byB w 24)) (byB w 16)
  have h3 := pushB_le (pushB (pushB q (byB w 24)) (byB w 16)) (byB w 8)
  have h4 := pushB_le (pushB (pushB (pushB q (byB w 24)) (byB w 16)) (byB w 8)) (byB w 0)
  omega
/-- letters of a name that is a number -/
def manyTo : Nat → Nat → Nat
  | 0, _ => 0
  | f + 1, v => if v = 0 then 0 else 1 + manyTo f (v / 27)
def many (v : Nat) : Nat := manyTo 40 v
def divs (v : Nat) : Nat → Nat
  | 0 => v
  | k + 1 => divs (v / 27) k
def lettF (v : Nat) (i : Int32) : Int32 := match ixO i (many v) with
  | none => -1
  | some k => nI (96 + divs v (many v - 1 - k) % 27)
theorem manyTo_big : ∀ f v, v < 27 ^ f → manyTo (f + 1) v = manyTo f v
  | 0, v, h => by
    have : v = 0 := by simpa using h
    subst this
    rfl
  | f + 1, v, h => by
    show (if v = 0 then 0 else 1 + manyTo (f + 1) (v / 27)) = (if v = 0 then 0 else 1 + manyTo f (v / 27))
    split
    · rfl
    · rw [manyTo_big f (v / 27) (by rw [Nat.div_lt_iff_lt_mul (by omega)]; rw [Nat.pow_succ] at h; exact h)]
theorem many_0 : many 0 = 0 := rfl
theorem many_pos {v : Nat} (hv : v < 2 ^ 31) (h : v ≠ 0) : many v = 1 + many (v / 27) := by
  unfold many
  rw [show manyTo 40 v = (if v = 0 then 0 else 1 + manyTo 39 (v / 27)) from rfl, if_neg h]
  rw [manyTo_big 39 (v / 27) (by have := Nat.div_le_self v 27; have h2 : (2 : Nat) ^ 31 < 27 ^ 39 := (by decide); omega)]
theorem many_le : ∀ f v, manyTo f v ≤ f
  | 0, _ => Nat.le_refl _
  | f + 1, v => by
    show (if v = 0 then 0 else 1 + manyTo f (v / 27)) ≤ f + 1
    split
    · omega
    · have := many_le f (v / 27); omega
theorem divs_succ (v : Nat) : ∀ k, divs v (k + 1) = divs v k / 27
  | 0 => rfl
  | k + 1 => by
    show divs (v / 27) (k + 1) = divs (v / 27) k / 27
    exact divs_succ (v / 27) k
theorem divs_le : ∀ k v, divs v k ≤ v
  | 0, v => Nat.le_refl _
  | k + 1, v => by
    show divs (v / 27) k ≤ v
    have := divs_le k (v / 27)
    have := Nat.div_le_self v 27
    omega
def lowF (B : Nat → Int32) (n : Nat) : Bool := (List.range n).all (fun i => inF (B i) 97 122)
def findF (R B : Nat → Int32) (n : Nat) : Int32 := if 1 ≤ n ∧ n ≤ 6 ∧ lowF B n = true then nO (namedF R (pkTo B 0 n)) else -1
def oBool (o : Option Int32) : Bool := o.isSome
def oGreen (R : Nat → Int32) (v : Int32) : Option Int32 := (ixO v (rA R)).map (fun a => nO (greenF R a))
def oIfR (R : Nat → Int32) (v w z : Int32) : Option Int32 := match ixB v 0 2, ixB w 0 500, ixB z 0 7 with
  | some r, some t, some k => some (grownF R r t k)
  | _, _, _ => none
def oBestR (R : Nat → Int32) (v : Int32) : Option Int32 := (ixB v 0 500).map (bestRF R)
def oLightIn (R : Nat → Int32) (v w : Int32) : Option Int32 := match ixO v (rA R), ixB w 0 500 with
  | some a, some t => some (lightF (tickN t R) a)
  | _, _ => none
def oJoin (R : Nat → Int32) (v : Int32) : Option Int32 := (ixO v (rP R)).map (fun p => nI (cntB (joinF R p) (rA R)))
def saveA (ar : Nat → Nat → Int32) (R : Nat → Int32) : Option Nat → Nat → Nat → Int32
  | none => ar
  | some k => updA (setA ar 4 (inRow (ar 4) k R 993)) 5 k 1
def restS (sc : Nat → Int32) (ar : Nat → Nat → Int32) : Option Nat → Nat → Int32
  | none => upd (upd sc 8 0) 8 1
  | some k => if ar 5 k = 0 then upd (upd sc 8 0) 8 2 else upd (upd sc 8 0) 6 0
def restR (R : Nat → Int32) (ar : Nat → Nat → Int32) : Option Nat → Nat → Int32
  | none => R
  | some k => if ar 5 k = 0 then R else fun i => ar 4 (993 * k + i)
def restV (ar : Nat → Nat → Int32) : Option Nat → Int32
  | none => 0
  | some k => if ar 5 k = 0 then 0 else ar 4 (993 * k + 5)
theorem pEta (q : (Nat → Int32) × Nat) : (q.1, q.2) = q := rfl
