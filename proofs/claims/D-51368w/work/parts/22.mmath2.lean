/-! what the reference does to the row -/
theorem upd_eq {f : Nat → Int32} {i : Nat} {v : Int32} : upd f i v i = v := if_pos rfl
theorem upd_ne {f : Nat → Int32} {i j : Nat} {v : Int32} (h : j ≠ i) : upd f i v j = f j := if_neg h
def cntF (R : Nat → Int32) (w : Nat) (v : Int32) : Nat → Int32 := upd R (10 + w) (R (10 + w) + v)
theorem cntF_ne {R : Nat → Int32} {w j : Nat} {v : Int32} (h : j ≠ 10 + w) : cntF R w v j = R j := upd_ne h
def shiftTo (R : Nat → Int32) (a : Nat) : Nat → Nat → Int32
  | 0 => R
  | i + 1 => upd (shiftTo R a i) (201 + 99 * a + i) (mCar (shiftTo R a i) a (i + 1))
theorem shiftTo_lo {R : Nat → Int32} {a j : Nat} (hj : j < 201 + 99 * a) : ∀ i, shiftTo R a i j = R j
  | 0 => rfl
  | i + 1 => by
    show upd (shiftTo R a i) _ _ j = R j
    rw [upd_ne (by omega), shiftTo_lo hj i]
def rC (R : Nat → Int32) (a : Nat) : Nat := (mOf R a 3).toNatClampNeg
def goes4 (R : Nat → Int32) (a : Nat) : Nat → Int32 :=
  let R1 := cntF R 1 1
  let R2 := cntF R1 2 (R1 5 - mCar R1 a 0)
  let R3 := upd R2 (17 + 6 * a + 4) (mOf R2 a 4 + 1)
  upd R3 (17 + 6 * a + 3) (mOf R3 a 3 - 1)
def goesF (R : Nat → Int32) (a : Nat) : Nat → Int32 := shiftTo (goes4 R a) a (rC R a - 1)
theorem goes4_ne {R : Nat → Int32} {a j : Nat} (h1 : j ≠ 11) (h2 : j ≠ 12) (h3 : j ≠ 17 + 6 * a + 4) (h4 : j ≠ 17 + 6 * a + 3) : goes4 R a j = R j := by
  unfold goes4
  rw [upd_ne h4, upd_ne h3, cntF_ne (by omega), cntF_ne (by omega)]
theorem goes4_c {R : Nat → Int32} {a : Nat} : goes4 R a (17 + 6 * a + 3) = mOf R a 3 - 1 := by
  unfold goes4
  rw [upd_eq]
  unfold mOf
  rw [upd_ne (by omega), cntF_ne (by omega), cntF_ne (by omega)]
theorem goesF_lo {R : Nat → Int32} {a j : Nat} (hj : j < 10) : goesF R a j = R j := by
  unfold goesF
  rw [shiftTo_lo (by omega), goes4_ne (by omega) (by omega) (by omega) (by omega)]
theorem goesF_c {R : Nat → Int32} {a b : Nat} (hb : b < 8) : mOf (goesF R a) b 3 = if b = a then mOf R a 3 - 1 else mOf R b 3 := by
  unfold mOf goesF
  rw [shiftTo_lo (by omega)]
  by_cases c : b = a
  · subst c
    rw [if_pos rfl, goes4_c]
    rfl
  · rw [if_neg c, goes4_ne (by omega) (by omega) (by omega) (by omega)]
def armStep (R : Nat → Int32) (a : Nat) : Nat → Int32 := if lightF R a = 0 then (if 0 < mOf R a 3 then goesF (upd R (17 + 6 * a + 5) (mOf R a 5 + 1)) a else upd R (17 + 6 * a + 5) (mOf R a 5 + 1)) else R
def armsTo (R : Nat → Int32) : Nat → Nat → Int32
  | 0 => R
  | a + 1 => armStep (armsTo R a) a
def endsF (R : Nat → Int32) : Nat → Int32 :=
  if R 9 < mPh R (rOn R) 0 ∨ bestF R = none ∨ (¬ mPh R (rOn R) 1 ≤ R 9 ∧ busyF R ≠ none) then R
  else upd (upd (upd (if mPh R (rOn R) 1 ≤ R 9 then cntF R 4 1 else R) 7 (nO (bestF R))) 8 1) 9 0
def comesF (R : Nat → Int32) (q : Nat) : Nat → Int32 :=
  let R1 := upd R 6 (nI q)
  let R2 := upd R1 (129 + 12 * q + 2) 0
  let R3 := upd R2 (129 + 12 * q + 3) (mPh R2 q 3 + 1)
  let R4 := cntF R3 3 1
  upd (upd (upd R4 7 (-1)) 8 0) 9 0
def tick1 (R : Nat → Int32) : Nat → Int32 := upd R 5 (R 5 + 1)
def tick2 (R : Nat → Int32) : Nat → Int32 := if R 8 = 0 then R else cntF R 6 1
def tick4 (R : Nat → Int32) : Nat → Int32 := upd R 9 (R 9 + 1)
def tick5 (R : Nat → Int32) : Nat → Int32 := if R 8 = 0 then endsF R else if R 8 = 2 then (match rNx R with
  | none => R
  | some q => comesF R q) else if R 0 ≤ R 9 then upd (upd R 8 2) 9 0 else R
/-- ahead of the last step -/
def tick3 (R : Nat → Int32) : Nat → Int32 := tick4 (armsTo (tick2 (tick1 R)) (rA R))
def tickF (R : Nat → Int32) : Nat → Int32 := tick5 (tick3 R)
def tickN : Nat → (Nat → Int32) → Nat → Int32
  | 0, R => R
  | n + 1, R => tickN n (tickF R)
/-- what a tick keeps: bounds, queues of at most 99, a phase to come when all is red -/
def RT (R : Nat → Int32) : Prop := RV R ∧ (∀ a, a < 8 → ∃ c, c ≤ 99 ∧ mOf R a 3 = nI c) ∧ (R 8 ≠ 0 → rNx R ≠ none)
theorem rA_eq {R R' : Nat → Int32} (h : R' 3 = R 3) : rA R' = rA R := by unfold rA; rw [h]
theorem rP_eq {R R' : Nat → Int32} (h : R' 4 = R 4) : rP R' = rP R := by unfold rP; rw [h]
theorem rOn_eq {R R' : Nat → Int32} (h : R' 6 = R 6) : rOn R' = rOn R := by unfold rOn; rw [h]
theorem rNx_eq {R R' : Nat → Int32} (h : R' 7 = R 7) : rNx R' = rNx R := by unfold rNx; rw [h]
theorem RV.of {R R' : Nat → Int32} (h : RV R) (h3 : R' 3 = R 3) (h4 : R' 4 = R 4) (h6 : R' 6 = R 6) (h7 : R' 7 = R 7) : RV R' := by
  obtain ⟨r1, r2, r3, r4, r5, r6, r7, r8⟩ := h
  refine ⟨by rw [rA_eq h3, h3]; exact r1, by rw [rA_eq h3]; exact r2, by rw [rP_eq h4, h4]; exact r3, by rw [rP_eq h4]; exact r4, by rw [rOn_eq h6, h6]; exact r5, by rw [rOn_eq h6]; exact r6, by rw [rNx_eq h7, h7]; exact r7, by rw [rNx_eq h7]; exact r8⟩
theorem rNx_set {R : Nat → Int32} {q : Nat} (hq : q < 6) (h : R 7 = nI q) : rNx R = some q := by
  unfold rNx
  rw [h, if_neg, nI_clamp (by omega)]
  intro e
  have := nO_m1 (o := some q) (fun z hz => by cases hz; exact hq)
  rw [nO_some] at this
  rw [this] at e
  cases e
theorem rNx_non {R : Nat → Int32} (h : R 7 = -1) : rNx R = none := by
  unfold rNx
  rw [if_pos h]
theorem nI_dec {c : Nat} (h : 0 < c) : nI c - 1 = nI (c - 1) := pk_sub (a := c) (b := 1) h
theorem nI_posE {c : Nat} (h : c < 2 ^ 31) : ((0 : Int32) < nI c) = (0 < c) := nI_ltE (a := 0) (by omega) h
/-- an arm's step keeps all this -/
theorem armStep_lo {R : Nat → Int32} {a j : Nat} (hj : j < 10) : armStep R a j = R j := by
  unfold armStep
  split
  · split
    · rw [goesF_lo hj, upd_ne (by omega)]
    · rw [upd_ne (by omega)]
  · rfl
theorem armStep_c {R : Nat → Int32} {a b : Nat} (hb : b < 8) (h : ∀ a, a < 8 → ∃ c, c ≤ 99 ∧ mOf R a 3 = nI c) : ∃ c, c ≤ 99 ∧ mOf (armStep R a) b 3 = nI c := by
  have h0 : ∀ v, mOf (upd R (17 + 6 * a + 5) v) b 3 = mOf R b 3 := fun v => by unfold mOf; rw [upd_ne (by omega)]
  obtain ⟨c, hc, e⟩ := h b hb
  unfold armStep
  split
  · split
    · rename_i hp
      rw [goesF_c hb]
      split
      · rename_i hba
        subst hba
        rw [h0, e]
        rw [e, nI_posE (by omega)] at hp
        exact ⟨c - 1, by omega, nI_dec hp⟩
      · rw [h0]
        exact ⟨c, hc, e⟩
    · rw [h0]
      exact ⟨c, hc, e⟩
  · exact ⟨c, hc, e⟩
theorem armsTo_lo {R : Nat → Int32} {j : Nat} (hj : j < 10) : ∀ a, armsTo R a j = R j
  | 0 => rfl
  | a + 1 => by
    show armStep (armsTo R a) a j = R j
    rw [armStep_lo hj, armsTo_lo hj a]
theorem armsTo_c {R : Nat → Int32} (h : ∀ a, a < 8 → ∃ c, c ≤ 99 ∧ mOf R a 3 = nI c) : ∀ n b, b < 8 → ∃ c, c ≤ 99 ∧ mOf (armsTo R n) b 3 = nI c
  | 0, b, hb => h b hb
  | n + 1, b, hb => armStep_c hb (armsTo_c h n)
theorem RV.arms {R : Nat → Int32} (h : RV R) (n : Nat) : RV (armsTo R n) := h.of (armsTo_lo (by omega) n) (armsTo_lo (by omega) n) (armsTo_lo (by omega) n) (armsTo_lo (by omega) n)
theorem tick2_ne {R : Nat → Int32} {j : Nat} (hj : j ≠ 16) : tick2 R j = R j := by
  unfold tick2
  split
  · rfl
  · exact cntF_ne (by omega)
theorem tick3_lo {R : Nat → Int32} {j : Nat} (hj : j < 9) (h5 : j ≠ 5) : tick3 R j = R j := by
  unfold tick3 tick4
  rw [upd_ne (by omega), armsTo_lo (by omega), tick2_ne (by omega)]
  exact upd_ne h5
theorem tick3_c {R : Nat → Int32} (h : ∀ a, a < 8 → ∃ c, c ≤ 99 ∧ mOf R a 3 = nI c) (b : Nat) (hb : b < 8) : ∃ c, c ≤ 99 ∧ mOf (tick3 R) b 3 = nI c := by
  have h1 : ∀ a, a < 8 → ∃ c, c ≤ 99 ∧ mOf (tick2 (tick1 R)) a 3 = nI c := fun a ha => by
    obtain ⟨c, hc, e⟩ := h a ha
    refine ⟨c, hc, ?_⟩
    unfold mOf
    rw [tick2_ne (by omega)]
    unfold tick1
    rw [upd_ne (by omega)]
    exact e
  obtain ⟨c, hc, e⟩ := armsTo_c h1 (rA R) b hb
  refine ⟨c, hc, ?_⟩
  unfold tick3 tick4 mOf
  rw [upd_ne (by omega)]
  exact e
theorem RT.at3 {R : Nat → Int32} (h : RT R) : RT (tick3 R) :=
  ⟨h.1.of (tick3_lo (by omega) (by omega)) (tick3_lo (by omega) (by omega)) (tick3_lo (by omega) (by omega)) (tick3_lo (by omega) (by omega)), tick3_c h.2.1, fun e => by
    rw [tick3_lo (by omega) (by omega)] at e
    rw [rNx_eq (tick3_lo (by omega) (by omega))]
    exact h.2.2 e⟩
theorem bestF_lt {R : Nat → Int32} {q : Nat} (h : bestF R = some q) : q < rP R := bestTo_lt h
theorem RT.at5 {R : Nat → Int32} (h : RT R) : RT (tick5 R) := by
  obtain ⟨hV, hc, hn⟩ := h
  obtain ⟨r1, r2, r3, r4, r5, r6, r7, r8⟩ := id hV
  unfold tick5
  split
  · unfold endsF
    split
    · exact ⟨hV, hc, hn⟩
    · rename_i hcond
      have hb : bestF R ≠ none := fun e => hcond (Or.inr (Or.inl e))
      obtain ⟨q, hq⟩ := Option.ne_none_iff_exists'.mp hb
      have hq6 : q < 6 := by have := bestF_lt hq; omega
      rw [hq, nO_some]
      generalize hR' : upd (upd (upd (if mPh R (rOn R) 1 ≤ R 9 then cntF R 4 1 else R) 7 (nI q)) 8 1) 9 0 = R'
      have lo : ∀ j, j ≠ 7 → j ≠ 8 → j ≠ 9 → j ≠ 14 → R' j = R j := fun j a b c d => by
        rw [← hR', upd_ne c, upd_ne b, upd_ne a]
        split
        · exact cntF_ne (by omega)
        · rfl
      have e7 : R' 7 = nI q := by rw [← hR', upd_ne (by omega), upd_ne (by omega), upd_eq]
      have e8 : R' 8 = 1 := by rw [← hR', upd_ne (by omega), upd_eq]
      refine ⟨?_, fun a ha => ?_, fun e => ?_⟩
      · have hnx := rNx_set hq6 e7
        refine ⟨?_, ?_, ?_, ?_, ?_, ?_, by rw [hnx, e7]; rfl, fun z hz => by rw [hnx] at hz; cases hz; exact hq6⟩
        · rw [rA_eq (lo 3 (by omega) (by omega) (by omega) (by omega)), lo 3 (by omega) (by omega) (by omega) (by omega)]; exact r1
        · rw [rA_eq (lo 3 (by omega) (by omega) (by omega) (by omega))]; exact r2
        · rw [rP_eq (lo 4 (by omega) (by omega) (by omega) (by omega)), lo 4 (by omega) (by omega) (by omega) (by omega)]; exact r3
        · rw [rP_eq (lo 4 (by omega) (by omega) (by omega) (by omega))]; exact r4
        · rw [rOn_eq (lo 6 (by omega) (by omega) (by omega) (by omega)), lo 6 (by omega) (by omega) (by omega) (by omega)]; exact r5
        · rw [rOn_eq (lo 6 (by omega) (by omega) (by omega) (by omega))]; exact r6
      · obtain ⟨c, h1, h2⟩ := hc a ha
        exact ⟨c, h1, by unfold mOf; rw [lo _ (by omega) (by omega) (by omega) (by omega)]; exact h2⟩
      · rw [rNx_set hq6 e7]
        exact Option.some_ne_none _
  · rename_i e0
    split
    · obtain ⟨q, hq⟩ := Option.ne_none_iff_exists'.mp (hn e0)
      have hq6 := r8 q hq
      rw [hq]
      dsimp only
      generalize hR' : comesF R q = R'
      have lo : ∀ j, j ≠ 6 → j ≠ 7 → j ≠ 8 → j ≠ 9 → j ≠ 13 → j < 129 → R' j = R j := fun j a b c d e f => by
        rw [← hR']
        unfold comesF
        rw [upd_ne d, upd_ne c, upd_ne b, cntF_ne (by omega), upd_ne (by omega), upd_ne (by omega), upd_ne a]
      have e6 : R' 6 = nI q := by
        rw [← hR']
        unfold comesF
        rw [upd_ne (by omega), upd_ne (by omega), upd_ne (by omega), cntF_ne (by omega), upd_ne (by omega), upd_ne (by omega), upd_eq]
      have e7 : R' 7 = -1 := by
        rw [← hR']
        unfold comesF
        rw [upd_ne (by omega), upd_ne (by omega), upd_eq]
      have e8 : R' 8 = 0 := by
        rw [← hR']
        unfold comesF
        rw [upd_ne (by omega), upd_eq]
      have hon : rOn R' = q := by unfold rOn; rw [e6, nI_clamp (by omega)]
      have hnx := rNx_non e7
      refine ⟨⟨?_, ?_, ?_, ?_, by rw [hon]; exact e6, by rw [hon]; exact hq6, by rw [hnx, e7]; rfl, fun z hz => by rw [hnx] at hz; cases hz⟩, fun a ha => ?_, fun e => ?_⟩
      · rw [rA_eq (lo 3 (by omega) (by omega) (by omega) (by omega) (by omega) (by omega)), lo 3 (by omega) (by omega) (by omega) (by omega) (by omega) (by omega)]; exact r1
      · rw [rA_eq (lo 3 (by omega) (by omega) (by omega) (by omega) (by omega) (by omega))]; exact r2
      · rw [rP_eq (lo 4 (by omega) (by omega) (by omega) (by omega) (by omega) (by omega)), lo 4 (by omega) (by omega) (by omega) (by omega) (by omega) (by omega)]; exact r3
      · rw [rP_eq (lo 4 (by omega) (by omega) (by omega) (by omega) (by omega) (by omega))]; exact r4
      · obtain ⟨c, h1, h2⟩ := hc a ha
        exact ⟨c, h1, by unfold mOf; rw [lo _ (by omega) (by omega) (by omega) (by omega) (by omega) (by omega)]; exact h2⟩
      · rw [e8] at e
        exact absurd rfl e
    · split
      · have lo : ∀ j, j ≠ 8 → j ≠ 9 → upd (upd R 8 2) 9 0 j = R j := fun j a b => by rw [upd_ne b, upd_ne a]
        refine ⟨hV.of (lo 3 (by omega) (by omega)) (lo 4 (by omega) (by omega)) (lo 6 (by omega) (by omega)) (lo 7 (by omega) (by omega)), fun a ha => ?_, fun e => ?_⟩
        · obtain ⟨c, h1, h2⟩ := hc a ha
          exact ⟨c, h1, by unfold mOf; rw [lo _ (by omega) (by omega)]; exact h2⟩
        · rw [rNx_eq (lo 7 (by omega) (by omega))]
          exact hn e0
      · exact ⟨hV, hc, hn⟩
theorem RT.at1 {R : Nat → Int32} (h : RT R) : RT (tickF R) := h.at3.at5
theorem RT.atN : ∀ (n : Nat) {R : Nat → Int32}, RT R → RT (tickN n R)
  | 0, _, h => h
  | n + 1, _, h => RT.atN n h.at1
theorem tickN_succ : ∀ (n : Nat) (R : Nat → Int32), tickN (n + 1) R = tickF (tickN n R)
  | 0, _ => rfl
  | n + 1, R => tickN_succ n (tickF R)
theorem nO_m1' {o : Option Nat} (h : ∀ q, o = some q → q < 100) : nO o = -1 ↔ o = none := by
  cases o with
  | none => simp [nO]
  | some q =>
    have := h q rfl
    refine ⟨fun e => ?_, fun e => by cases e⟩
    have h1 := nI_toInt (n := q) (by omega)
    rw [nO_some] at e
    rw [e] at h1
    have h2 : (-1 : Int32).toInt = -1 := by decide
    rw [h2] at h1
    omega
/-- array k is f -/
def setA (ar : Nat → Nat → Int32) (k : Nat) (f : Nat → Int32) : Nat → Nat → Int32 := fun j => if j = k then f else ar j
theorem setA_self {ar : Nat → Nat → Int32} {k : Nat} : setA ar k (ar k) = ar := by
  funext j
  unfold setA
  split
  · rename_i e; rw [e]
  · rfl
theorem setA_s {ar : Nat → Nat → Int32} {k : Nat} {f : Nat → Int32} : setA ar k f k = f := if_pos rfl
theorem setA_n {ar : Nat → Nat → Int32} {k j : Nat} {f : Nat → Int32} (h : j ≠ k) : setA ar k f j = ar j := if_neg h
theorem setA_upd {ar : Nat → Nat → Int32} {k i : Nat} {f : Nat → Int32} {v : Int32} : updA (setA ar k f) k i v = setA ar k (upd f i v) := by
  funext j
  unfold updA
  by_cases c : j = k
  · rw [if_pos c, c, setA_s, setA_s]
  · rw [if_neg c, setA_n c, setA_n c]
theorem setA_setA {ar : Nat → Nat → Int32} {k : Nat} {f g : Nat → Int32} : setA (setA ar k f) k g = setA ar k g := by
  funext j
  by_cases c : j = k
  · rw [c, setA_s, setA_s]
  · rw [setA_n c, setA_n c, setA_n c]
theorem updA_setA {ar : Nat → Nat → Int32} {k i : Nat} {v : Int32} : updA ar k i v = setA ar k (upd (ar k) i v) := rfl
/-- f below n, g from n on -/
def mixF (f g : Nat → Int32) (n : Nat) : Nat → Int32 := fun i => if i < n then f i else g i
theorem mixF_0 {f g : Nat → Int32} : mixF f g 0 = g := by
  funext i
  exact if_neg (by omega)
theorem mixF_lt {f g : Nat → Int32} {n i : Nat} (h : i < n) : mixF f g n i = f i := if_pos h
theorem mixF_succ {f g : Nat → Int32} {n : Nat} : upd (mixF f g n) n (f n) = mixF f g (n + 1) := by
  funext i
  unfold upd mixF
  by_cases c : i = n
  · rw [if_pos c, if_pos (by omega), c]
  · rw [if_neg c]
    by_cases d : i < n
    · rw [if_pos d, if_pos (by omega)]
    · rw [if_neg d, if_neg (by omega)]
