/-! counting; why an arm waits -/
def cntB (f : Nat → Bool) : Nat → Nat
  | 0 => 0
  | n + 1 => cntB f n + (if f n = true then 1 else 0)
theorem cntB_le (f : Nat → Bool) : ∀ n, cntB f n ≤ n
  | 0 => Nat.le_refl _
  | n + 1 => by
    have := cntB_le f n
    unfold cntB
    split <;> omega
theorem cntB_pos {f : Nat → Bool} {n j : Nat} (hj : j < n) (hf : f j = true) : cntB f n ≠ 0 := by
  induction n with
  | zero => omega
  | succ n ih =>
    unfold cntB
    by_cases c : j = n
    · subst c
      rw [if_pos hf]
      omega
    · have := ih (by omega)
      omega
theorem cntB_ex {f : Nat → Bool} {n : Nat} (h : cntB f n ≠ 0) : ∃ j, j < n ∧ f j = true := by
  induction n with
  | zero => exact absurd rfl h
  | succ n ih =>
    by_cases c : f n = true
    · exact ⟨n, by omega, c⟩
    · unfold cntB at h
      rw [if_neg c] at h
      obtain ⟨j, h1, h2⟩ := ih h
      exact ⟨j, by omega, h2⟩
theorem inIx {v : Int32} {n : Nat} (hn : n < 2 ^ 30) : inF v 0 (nI n - 1) = true ↔ ∃ k, k < n ∧ v = nI k := by
  have e : (nI n - 1).toInt = (n : Int) - 1 := pk_sub_toInt (a := n) (b := 1) hn (by omega)
  unfold inF
  rw [Bool.and_eq_true, decide_eq_true_eq, decide_eq_true_eq]
  constructor
  · rintro ⟨h1, h2⟩
    rcases pk_ix v (n := n) (by omega) with q | q | q
    · exact absurd h1 (Int32.not_le.mpr q)
    · rw [Int32.le_iff_toInt_le, e] at h2
      rw [Int32.le_iff_toInt_le, nI_toInt (by omega)] at q
      omega
    · exact q
  · rintro ⟨k, hk, rfl⟩
    refine ⟨nI_pos' (by omega), ?_⟩
    rw [Int32.le_iff_toInt_le, e, nI_toInt (by omega)]
    omega
theorem inLit {v : Int32} {n : Nat} (hn : n < 2 ^ 30) : inF v 0 (nI n) = true ↔ ∃ k, k < n + 1 ∧ v = nI k := by
  unfold inF
  rw [Bool.and_eq_true, decide_eq_true_eq, decide_eq_true_eq]
  constructor
  · rintro ⟨h1, h2⟩
    rcases pk_ix v (n := n + 1) (by omega) with q | q | q
    · exact absurd h1 (Int32.not_le.mpr q)
    · rw [Int32.le_iff_toInt_le, nI_toInt (by omega)] at h2 q
      omega
    · exact q
  · rintro ⟨k, hk, rfl⟩
    exact ⟨nI_pos' (by omega), by rw [nI_leE (by omega) (by omega)]; omega⟩
def calledF (R : Nat → Int32) (a : Nat) : Bool := (List.range (rP R)).any (fun p => mHas R p a && mPh R p 2 == 1)
def bestHas (R : Nat → Int32) (a : Nat) : Bool := match bestF R with
  | none => false
  | some q => mHas R q a
def phasesF (R : Nat → Int32) (a : Nat) : Nat := cntB (fun p => mHas R p a) (rP R)
def reasonF (R : Nat → Int32) (a : Nat) : Int32 :=
  if lightF R a = 0 then 0 else if phasesF R a = 0 then 1
  else if rNx R ≠ none then (if nxHas R a = true then 2 else 3)
  else if asksF R a = false ∧ calledF R a = false then 4
  else if R 9 < mPh R (rOn R) 0 then 5
  else if busyF R ≠ none ∧ R 9 < mPh R (rOn R) 1 then 6
  else if bestHas R a = true then 8 else 7
theorem bestTo_some {R : Nat → Int32} {n p : Nat} (hp : p < n) (hw : wantedF R p = true) : bestTo R n ≠ none := by
  induction n with
  | zero => omega
  | succ n ih =>
    rw [bestTo_succ]
    by_cases c : p = n
    · subst c
      cases bestTo R p with
      | none => simp [hw]
      | some q => dsimp only; split <;> simp
    · cases hb : bestTo R n with
      | none => exact absurd hb (ih (by omega))
      | some q => dsimp only; split <;> simp
/-- where it is asked whether the best phase has the arm there is a best one -/
theorem best_is {R : Nat → Int32} {a : Nat} (ha : a < rA R) (h8 : rNx R = none → R 8 = 0) (hl : lightF R a ≠ 0) (hp : phasesF R a ≠ 0) (hx : rNx R = none) (hc : asksF R a = true ∨ calledF R a = true) : bestF R ≠ none := by
  have hon : mHas R (rOn R) a = false := by
    cases hm : mHas R (rOn R) a with
    | false => rfl
    | true =>
      exfalso
      apply hl
      unfold lightF
      rw [hm, if_neg (by decide), if_pos (Or.inl (h8 hx))]
  rcases hc with hc | hc
  · obtain ⟨p, h1, h2⟩ := cntB_ex hp
    refine bestTo_some h1 ?_
    unfold wantedF
    rw [if_neg (fun e => by rw [e, hon] at h2; cases h2)]
    split
    · rfl
    · exact anyR_true ha (by simp [wantA, h2, hon, hc])
  · unfold calledF at hc
    rw [List.any_eq_true] at hc
    obtain ⟨p, h1, h2⟩ := hc
    rw [Bool.and_eq_true, beq_iff_eq] at h2
    refine bestTo_some (List.mem_range.mp h1) ?_
    unfold wantedF
    rw [if_neg (fun e => by rw [e, hon] at h2; cases h2.1), if_pos h2.2]
def mixedTo (R : Nat → Int32) (p a : Nat) : Bool := (List.range a).any (fun b => mHas R p a && mHas R p b && mCl R a b)
def mixedF (R : Nat → Int32) (p : Nat) : Bool := (List.range (rA R)).any (mixedTo R p)
def joinF (R : Nat → Int32) (p : Nat) (a : Nat) : Bool := !(List.range (rA R)).any (fun b => mHas R p b && (b == a || mCl R a b))
def oneF (R : Nat → Int32) (a b : Nat) : Bool := (List.range (rP R)).any (fun p => mHas R p a && mHas R p b)
