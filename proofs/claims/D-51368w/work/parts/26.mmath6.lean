/-! reports as lists of letters -/
def rN (R : Nat → Int32) (a : Nat) : Nat := (mOf R a 0).toNatClampNeg
/-- names are numbers of one to six letters -/
def RNm (R : Nat → Int32) : Prop := ∀ a, a < rA R → mOf R a 0 = nI (rN R a) ∧ 0 < rN R a ∧ many (rN R a) ≤ 6
def nameL (v : Nat) : List Int32 := (List.range (many v)).map (fun i => nI (96 + divs v (many v - 1 - i) % 27))
def armL (R : Nat → Int32) (a : Nat) : List Int32 :=
  (if 0 < a then [32] else []) ++ (nameL (rN R a) ++ ([if lightF R a = 0 then 71 else if lightF R a = 1 then 65 else 82] ++ ((if 9 < rC R a then [nI (48 + rC R a / 10)] else []) ++ ([nI (48 + rC R a % 10)] ++ (if mOf R a 2 = 1 then [33] else [])))))
def repTo (R : Nat → Int32) : Nat → List Int32
  | 0 => []
  | a + 1 => repTo R a ++ armL R a
def membTo (R : Nat → Int32) (p : Nat) : Nat → List Int32
  | 0 => []
  | a + 1 => if mHas R p a = true then membTo R p a ++ ((if cntB (mHas R p) a = 0 then [] else [44]) ++ nameL (rN R a)) else membTo R p a
def phL (R : Nat → Int32) (p : Nat) : List Int32 :=
  (if 0 < p then [32] else []) ++ ([nI (48 + p)] ++ ((if p = rOn R then [42] else []) ++ ((if mPh R p 2 = 1 then [43] else []) ++ ([58] ++ membTo R p (rA R)))))
def phsTo (R : Nat → Int32) : Nat → List Int32
  | 0 => []
  | p + 1 => phsTo R p ++ phL R p
theorem nameL_len (v : Nat) : (nameL v).length = many v := by unfold nameL; simp
theorem armL_len (R : Nat → Int32) (a : Nat) (h : many (rN R a) ≤ 6) : (armL R a).length ≤ 11 := by
  unfold armL
  simp only [List.length_append, nameL_len, List.length_cons, List.length_nil]
  have h1 : (if 0 < a then [(32 : Int32)] else []).length ≤ 1 := by split <;> simp
  have h2 : (if 9 < rC R a then [nI (48 + rC R a / 10)] else []).length ≤ 1 := by split <;> simp
  have h3 : (if mOf R a 2 = 1 then [(33 : Int32)] else []).length ≤ 1 := by split <;> simp
  omega
theorem repTo_len (R : Nat → Int32) (hN : RNm R) : ∀ n, n ≤ rA R → (repTo R n).length ≤ 11 * n
  | 0, _ => Nat.le_refl _
  | n + 1, h => by
    have h1 := repTo_len R hN n (by omega)
    have h2 := armL_len R n (hN n (by omega)).2.2
    show (repTo R n ++ armL R n).length ≤ _
    rw [List.length_append]
    omega
theorem membTo_len (R : Nat → Int32) (p : Nat) (hN : RNm R) : ∀ n, n ≤ rA R → (membTo R p n).length ≤ 7 * n
  | 0, _ => Nat.le_refl _
  | n + 1, h => by
    have h1 := membTo_len R p hN n (by omega)
    have h2 := (hN n (by omega)).2.2
    have h3 : (if cntB (mHas R p) n = 0 then [] else [(44 : Int32)]).length ≤ 1 := by split <;> simp
    unfold membTo
    split
    · simp only [List.length_append, nameL_len]
      omega
    · omega
theorem phL_len (R : Nat → Int32) (p : Nat) (hN : RNm R) (hA : rA R ≤ 8) : (phL R p).length ≤ 61 := by
  unfold phL
  simp only [List.length_append, List.length_cons, List.length_nil]
  have h0 := membTo_len R p hN (rA R) (Nat.le_refl _)
  have h1 : (if 0 < p then [(32 : Int32)] else []).length ≤ 1 := by split <;> simp
  have h2 : (if p = rOn R then [(42 : Int32)] else []).length ≤ 1 := by split <;> simp
  have h3 : (if mPh R p 2 = 1 then [(43 : Int32)] else []).length ≤ 1 := by split <;> simp
  omega
theorem phsTo_len (R : Nat → Int32) (hN : RNm R) (hA : rA R ≤ 8) : ∀ n, (phsTo R n).length ≤ 61 * n
  | 0 => Nat.le_refl _
  | n + 1 => by
    have h1 := phsTo_len R hN hA n
    have h2 := phL_len R n hN hA
    show (phsTo R n ++ phL R n).length ≤ _
    rw [List.length_append]
    omega
/-- f begins with L -/
def preL (f : Nat → Int32) (L : List Int32) : Prop := ∀ (i : Nat) (h : i < L.length), f i = L[i]
theorem preL_nil {f : Nat → Int32} : preL f [] := fun i h => absurd h (by simp)
theorem preL_snoc {f : Nat → Int32} {L : List Int32} {c : Int32} (h : preL f L) : preL (upd f L.length c) (L ++ [c]) := by
  intro i hi
  rw [List.length_append, List.length_singleton] at hi
  by_cases e : i = L.length
  · subst e
    rw [upd_eq]
    simp
  · rw [upd_ne e, List.getElem_append_left (by omega)]
    exact h i (by omega)
/-- what is written so far -/
def MT (h : kH) (m : Nat) (ad : Nat → Nat) (sc R : Nat → Int32) (ar : Nat → Nat → Int32) (L : List Int32) : Prop := ∃ f, MW h m ad (upd sc 25 (nI L.length)) R (setA ar 24 f) ∧ preL f L
def mDoT (h : kH) (m : Nat) (ad : Nat → Nat) (sc R : Nat → Int32) (ar : Nat → Nat → Int32) (L : List Int32) : kR → kH → Prop := kN (fun h' => MT h' m ad sc R ar L ∧ kKp (mOwn m) h h')
theorem ixO_ge {v : Int32} {n : Nat} (hn : n < 2 ^ 30) (k : Nat) (hv : v = nI k) (h : n ≤ k) (hk : k < 2 ^ 31) : ixO v n = none := by
  cases q : ixO v n with
  | none => rfl
  | some j =>
    obtain ⟨h1, h2⟩ := ixO_lt hn q
    rw [hv, nI_inj hk (by omega)] at h2
    omega
theorem lettF_lt {v k : Nat} (h : k < many v) : lettF v (nI k) = nI (96 + divs v (many v - 1 - k) % 27) := by
  have := many_le 40 v
  unfold lettF
  rw [ixO_some h (by unfold many; omega)]
theorem lettF_ge {v : Nat} : lettF v (nI (many v)) = -1 := by
  have := many_le 40 v
  unfold lettF
  rw [ixO_ge (by unfold many; omega) (many v) rfl (Nat.le_refl _) (by unfold many; omega)]
theorem nameL_take {v k : Nat} (h : k < many v) : (nameL v).take (k + 1) = (nameL v).take k ++ [nI (96 + divs v (many v - 1 - k) % 27)] := by
  rw [List.take_add_one]
  congr 1
  rw [List.getElem?_eq_getElem (by rw [nameL_len]; exact h)]
  simp [nameL]
def oLett (R : Nat → Int32) (v i : Int32) : Option Int32 := (ixO v (rA R)).map (fun a => lettF (rN R a) i)
theorem manyTo_lt : ∀ f v k, manyTo f v ≤ k → v < 27 ^ f → v < 27 ^ k
  | 0, v, k, _, h => by
    have : v = 0 := by simpa using h
    subst this
    exact Nat.pow_pos (by omega)
  | f + 1, v, k, hk, h => by
    by_cases c : v = 0
    · subst c
      exact Nat.pow_pos (by omega)
    · rw [show manyTo (f + 1) v = (if v = 0 then 0 else 1 + manyTo f (v / 27)) from rfl, if_neg c] at hk
      have h1 := manyTo_lt f (v / 27) (k - 1) (by omega) (by rw [Nat.div_lt_iff_lt_mul (by omega)]; rw [Nat.pow_succ] at h; exact h)
      rw [Nat.div_lt_iff_lt_mul (by omega), ← Nat.pow_succ] at h1
      rw [show k = (k - 1).succ from by omega]
      exact h1
theorem RNm_lt {R : Nat → Int32} (hN : RNm R) {a : Nat} (ha : a < rA R) : rN R a < 2 ^ 31 := by
  have h0 : rN R a < 2 ^ 31 := by
    unfold rN
    have := Int32.toInt_lt (mOf R a 0)
    unfold Int32.toNatClampNeg
    omega
  exact h0
theorem MT.fact {h : kH} {m : Nat} {ad : Nat → Nat} {sc R : Nat → Int32} {ar : Nat → Nat → Int32} {L : List Int32} (hT : MT h m ad sc R ar L) : h m = some ((m + 1, 0, 0), eO 21 (mFl ad (upd sc 25 (nI L.length)))) := by
  obtain ⟨f, hM, -⟩ := hT
  exact hM.1
theorem nI_m1 {c : Nat} (h : c < 2 ^ 31) : ¬ nI c = -1 := fun e => by
  have h1 := congrArg Int32.toInt e
  rw [nI_toInt h] at h1
  have h2 : (-1 : Int32).toInt = -1 := by decide
  omega
theorem cntB_has {f : Nat → Bool} {n : Nat} (h : f n = true) : cntB f (n + 1) ≠ 0 := by
  unfold cntB
  rw [if_pos h]
  omega
