/-! setups: the whole text; what the steps keep -/
section
seal mustS passS lookS numS goF pkTo namedF joinF isKeyF memTo
theorem scT_upd {sc : Nat → Int32} {s : SS} {j : Nat} {v : Int32} (hj : j < 11 ∨ 16 < j) : upd (scT sc s) j v = scT (upd sc j v) s := by
  funext k
  unfold scT scR upd
  by_cases q : k = j
  · subst q
    rw [if_pos rfl, if_neg (by omega), if_neg (by omega), if_neg (by omega), if_neg (by omega), if_neg (by omega), if_neg (by omega), if_pos rfl]
  · simp only [if_neg q]
theorem scT_at {sc : Nat → Int32} {s : SS} {j : Nat} (hj : j < 11 ∨ 16 < j) : scT sc s j = sc j := by
  unfold scT scR
  rw [if_neg (by omega), if_neg (by omega), if_neg (by omega), if_neg (by omega), if_neg (by omega), if_neg (by omega)]
theorem lookS_le {s : SS} (h : (lookS s).2.1 = 0) : s.1.2.2.1 = 1 ∧ s.1.1 - s.1.2.1 ≤ 6 := by
  unfold lookS at h
  dsimp only at h
  split at h
  · rename_i q
    have h1 := ((mustS_0 (by decide)).mp h).2
    have h2 := ((mustS_0 (by decide)).mp q).2
    exact ⟨of_decide_eq_true h2, of_decide_eq_true h1⟩
  · rename_i q
    exact absurd h q
theorem lookV_0 {B : Nat → Int32} {s : SS} (h : (lookS s).2.1 = 0) : lookV B s = pkTo B s.1.2.1 (s.1.1 - s.1.2.1) := if_pos h
/-- what the row must be while it is read -/
def RVq (q : PS) : Prop := RV q.2
theorem armS_ok {B : Nat → Int32} {N : Nat} {L : List Int32} {q : PS} (h : SOK N q.1) : SOK N (armS B N L q).1 := by
  unfold armS
  dsimp only
  exact passS_ok (mustS_ok (lookS_ok (passS_ok (mustS_ok (mustS_ok h (by omega)) (by omega)))) (by omega))
theorem clashS_ok {B : Nat → Int32} {N : Nat} {q : PS} (h : SOK N q.1) : SOK N (clashS B N q).1 := by
  unfold clashS
  dsimp only
  exact passS_ok (mustS_ok (mustS_ok (lookS_ok (passS_ok (mustS_ok (lookS_ok (goS_ok h)) (by omega)))) (by omega)) (by omega))
theorem memS_ok {B : Nat → Int32} {N p : Nat} {q : PS} (h : SOK N q.1) : SOK N (memS B N p q).1 := by
  unfold memS
  dsimp only
  exact passS_ok (mustS_ok (mustS_ok (lookS_ok h) (by omega)) (by omega))
theorem memTo_ok {B : Nat → Int32} {N p : Nat} : ∀ (f : Nat) {q : PS}, SOK N q.1 → SOK N (memTo B N p f q).1
  | 0, _, h => by unfold memTo; exact h
  | f + 1, q, h => by
    unfold memTo
    split
    · exact memTo_ok f (memS_ok h)
    · exact h
theorem phS3_ok {B : Nat → Int32} {N : Nat} {L : List Int32} {q : PS} (h : SOK N q.1) : SOK N (phS3 B N L q) := numS_ok (numS_ok (passS_ok (mustS_ok (mustS_ok h (by omega)) (by omega))))
theorem phaseS_1 {B : Nat → Int32} {N : Nat} {L : List Int32} {q : PS} : (phaseS B N L q).1 = if (phS3 B N L q).2.1 = 0 then (memTo B N (rP q.2) (N + 2) (memS B N (rP q.2) (phS3 B N L q, phR B N L q))).1 else phS3 B N L q := by
  unfold phaseS
  split <;> rfl
theorem phaseS_2 {B : Nat → Int32} {N : Nat} {L : List Int32} {q : PS} : (phaseS B N L q).2 = if (phS3 B N L q).2.1 = 0 then upd (memTo B N (rP q.2) (N + 2) (memS B N (rP q.2) (phS3 B N L q, phR B N L q))).2 4 (nI (rP q.2 + 1)) else q.2 := by
  unfold phaseS
  split <;> rfl
theorem phaseS_ok {B : Nat → Int32} {N : Nat} {L : List Int32} {q : PS} (h : SOK N q.1) : SOK N (phaseS B N L q).1 := by
  rw [phaseS_1]
  have h3 : SOK N (phS3 B N L q) := phS3_ok h
  split
  · exact memTo_ok _ (memS_ok (q := (phS3 B N L q, phR B N L q)) h3)
  · exact h3
theorem memS_2 {B : Nat → Int32} {N p : Nat} {q : PS} : (memS B N p q).2 = if (memS B N p q).1.2.1 = 0 then (match namedF q.2 (lookV B q.1) with
    | none => q.2
    | some a => upd q.2 (129 + 12 * p + (4 + a)) 1) else q.2 := rfl
theorem memS_lo {B : Nat → Int32} {N p j : Nat} {q : PS} (hj : j < 129) : (memS B N p q).2 j = q.2 j := by
  rw [memS_2]
  generalize (memS B N p q).1.2.1 = c, namedF q.2 (lookV B q.1) = a
  split
  · cases a with
    | none => rfl
    | some a => exact upd_ne (by omega)
  · rfl
theorem memTo_lo {B : Nat → Int32} {N p j : Nat} (hj : j < 129) : ∀ (f : Nat) {q : PS}, (memTo B N p f q).2 j = q.2 j
  | 0, _ => by unfold memTo; rfl
  | f + 1, q => by
    unfold memTo
    split
    · rw [memTo_lo hj f, memS_lo hj]
    · rfl
theorem phR_lo {B : Nat → Int32} {N j : Nat} {L : List Int32} {q : PS} (hj : j < 129) : phR B N L q j = q.2 j := by
  unfold phR
  rw [upd_ne (by omega), upd_ne (by omega)]
theorem RV.same {R R' : Nat → Int32} (h : RV R) (e : ∀ j, j < 10 → R' j = R j) : RV R' := h.of (e 3 (by omega)) (e 4 (by omega)) (e 6 (by omega)) (e 7 (by omega))
/-- one more arm, one more phase -/
theorem RV.set3 {R : Nat → Int32} {n : Nat} (h : RV R) (hn : n ≤ 8) : RV (upd R 3 (nI n)) := by
  obtain ⟨r1, r2, r3, r4, r5, r6, r7, r8⟩ := h
  have e3 : upd R 3 (nI n) 3 = nI n := upd_eq
  have ea : rA (upd R 3 (nI n)) = n := by unfold rA; rw [e3, nI_clamp (by omega)]
  have ep : rP (upd R 3 (nI n)) = rP R := rP_eq (upd_ne (by omega))
  have eo : rOn (upd R 3 (nI n)) = rOn R := rOn_eq (upd_ne (by omega))
  have ex : rNx (upd R 3 (nI n)) = rNx R := rNx_eq (upd_ne (by omega))
  exact ⟨by rw [ea, e3], by rw [ea]; exact hn, by rw [ep, upd_ne (by omega)]; exact r3, by rw [ep]; exact r4, by rw [eo, upd_ne (by omega)]; exact r5, by rw [eo]; exact r6, by rw [ex, upd_ne (by omega)]; exact r7, by rw [ex]; exact r8⟩
theorem RV.set4 {R : Nat → Int32} {n : Nat} (h : RV R) (hn : n ≤ 6) : RV (upd R 4 (nI n)) := by
  obtain ⟨r1, r2, r3, r4, r5, r6, r7, r8⟩ := h
  have e3 : upd R 4 (nI n) 4 = nI n := upd_eq
  have ep : rP (upd R 4 (nI n)) = n := by unfold rP; rw [e3, nI_clamp (by omega)]
  have ea : rA (upd R 4 (nI n)) = rA R := rA_eq (upd_ne (by omega))
  have eo : rOn (upd R 4 (nI n)) = rOn R := rOn_eq (upd_ne (by omega))
  have ex : rNx (upd R 4 (nI n)) = rNx R := rNx_eq (upd_ne (by omega))
  exact ⟨by rw [ea, upd_ne (by omega)]; exact r1, by rw [ea]; exact r2, by rw [ep, e3], by rw [ep]; exact hn, by rw [eo, upd_ne (by omega)]; exact r5, by rw [eo]; exact r6, by rw [ex, upd_ne (by omega)]; exact r7, by rw [ex]; exact r8⟩
theorem RV.lo {R : Nat → Int32} {j : Nat} {v : Int32} (h : RV R) (hj : j < 3) : RV (upd R j v) := h.of (upd_ne (by omega)) (upd_ne (by omega)) (upd_ne (by omega)) (upd_ne (by omega))
theorem armS_2 {B : Nat → Int32} {N : Nat} {L : List Int32} {q : PS} : ∃ w, (armS B N L q).2 = if (armS B N L q).1.2.1 = 0 then upd (upd (upd q.2 (17 + 6 * rA q.2 + 0) w) (17 + 6 * rA q.2 + 1) (-99)) 3 (nI (rA q.2 + 1)) else q.2 := ⟨_, rfl⟩
theorem armS_rA {B : Nat → Int32} {N : Nat} {L : List Int32} {q : PS} (h : (armS B N L q).1.2.1 = 0) : rA q.2 < 8 := by
  unfold armS at h
  dsimp only at h
  rw [passS_c] at h
  have h2 := lookS_c ((mustS_0 (by decide)).mp h).1
  rw [passS_c] at h2
  exact of_decide_eq_true ((mustS_0 (by decide)).mp h2).2
theorem armS_RV {B : Nat → Int32} {N : Nat} {L : List Int32} {q : PS} (h : RV q.2) : RV (armS B N L q).2 := by
  have h8 := armS_rA (B := B) (N := N) (L := L) (q := q)
  obtain ⟨w, e⟩ := armS_2 (B := B) (N := N) (L := L) (q := q)
  rw [e]
  generalize (armS B N L q).1.2.1 = c at h8 ⊢
  split
  · rename_i e0
    have := h8 e0
    exact RV.set3 ((h.up (by omega)).up (by omega)) (by omega)
  · exact h
theorem clashS_2 {B : Nat → Int32} {N : Nat} {q : PS} : ∃ a b : Option Nat, (clashS B N q).2 = if (clashS B N q).1.2.1 = 0 then (match a, b with
    | some a, some b => upd (upd q.2 (65 + 8 * a + b) 1) (65 + 8 * b + a) 1
    | _, _ => q.2) else q.2 := ⟨_, _, rfl⟩
theorem clashS_lo {B : Nat → Int32} {N j : Nat} {q : PS} (hj : j < 65) : (clashS B N q).2 j = q.2 j := by
  obtain ⟨a, b, e⟩ := clashS_2 (B := B) (N := N) (q := q)
  rw [e]
  generalize (clashS B N q).1.2.1 = c
  split
  · cases a with
    | none => rfl
    | some a => cases b with
      | none => rfl
      | some b =>
        show upd (upd q.2 (65 + 8 * a + b) 1) (65 + 8 * b + a) 1 j = q.2 j
        rw [upd_ne (by omega), upd_ne (by omega)]
  · rfl
theorem phS3_rP {B : Nat → Int32} {N : Nat} {L : List Int32} {q : PS} (h : (phS3 B N L q).2.1 = 0) : rP q.2 < 6 := by
  have key : ∀ {lo hi : Int32} {s : SS}, (numS B N lo hi s).2.1 = 0 → s.2.1 = 0 := by
    intro lo hi s h
    unfold numS at h
    dsimp only at h
    rw [passS_c] at h
    split at h
    · rename_i q
      exact ((mustS_0 (by decide)).mp q).1
    · rename_i q
      exact absurd h q
  have h1 := key (key h)
  unfold phS1 at h1
  rw [passS_c] at h1
  exact of_decide_eq_true ((mustS_0 (by decide)).mp h1).2
theorem phaseS_RV {B : Nat → Int32} {N : Nat} {L : List Int32} {q : PS} (h : RV q.2) : RV (phaseS B N L q).2 := by
  rw [phaseS_2]
  split
  · rename_i c
    have h6 := phS3_rP c
    refine RV.set4 (RV.same h (fun j hj => ?_)) (by omega)
    rw [memTo_lo (by omega), memS_lo (by omega)]
    exact phR_lo (by omega)
  · exact h
/-- a member that is read takes the reader on -/
theorem passS_adv {B : Nat → Int32} {N : Nat} {s : SS} (h : SOK N s) (h0 : (passS B N s).2.1 = 0) (hk : s.1.2.2.1 ≠ 0) : s.1.2.1 < (passS B N s).1.2.1 := by
  have h1 : s.2.1 = 0 := by rw [passS_c] at h0; exact h0
  unfold passS
  rw [if_pos h1]
  have := (goF_ok (B := B) h.1.1 h.1.2.2.2.1).2
  have := h.1.2.2.2.2 hk
  dsimp only
  omega
theorem memS_1 {B : Nat → Int32} {N p : Nat} {q : PS} : ∃ X : SS, (memS B N p q).1 = passS B N X ∧ X.1 = q.1.1 ∧ (SOK N q.1 → SOK N X) ∧ (X.2.1 = 0 → (lookS q.1).2.1 = 0) :=
  ⟨_, rfl, by rw [mustS_1, mustS_1, lookS_1], fun h => mustS_ok (mustS_ok (lookS_ok h) (by omega)) (by omega), fun h => ((mustS_0 (by decide)).mp ((mustS_0 (by decide)).mp h).1).1⟩
theorem memS_adv {B : Nat → Int32} {N p : Nat} {q : PS} (h : SOK N q.1) (h0 : (memS B N p q).1.2.1 = 0) : q.1.1.2.1 < (memS B N p q).1.1.2.1 := by
  obtain ⟨X, e, e1, ok, z⟩ := memS_1 (B := B) (N := N) (p := p) (q := q)
  rw [e] at h0 ⊢
  have h1 := h0
  rw [passS_c] at h1
  have h3 := (lookS_le (z h1)).1
  have h4 := passS_adv (B := B) (ok h) h0 (by rw [e1, h3]; decide)
  rw [e1] at h4
  exact h4
/-- the parts of a setup: 0 arms, 1 clashes, 2 phases -/
def partF (B : Nat → Int32) (LA LC : List Int32) (s : SS) (part : Nat) : Nat :=
  let p1 := if part = 0 ∧ isKeyF B s LA = false then 1 else part
  if p1 = 1 ∧ isKeyF B s LC = false then 2 else p1
def partS (B : Nat → Int32) (N : Nat) (LA LC LP : List Int32) (part : Nat) (q : PS) : PS := if part = 0 then armS B N LA q else if part = 1 then clashS B N q else phaseS B N LP q
def partsTo (B : Nat → Int32) (N : Nat) (LA LC LP : List Int32) : Nat → Nat → PS → Nat × PS
  | 0, part, q => (part, q)
  | f + 1, part, q => if isSignF B N q.1 59 = true then partsTo B N LA LC LP f (partF B LA LC (goS B N q.1) part) (partS B N LA LC LP (partF B LA LC (goS B N q.1) part) (goS B N q.1, q.2)) else (part, q)
def set1 (B : Nat → Int32) (N : Nat) (LJ : List Int32) (s : SS) : SS := passS B N (mustS (isKeyF B s LJ) 1 s)
def setH (B : Nat → Int32) (N : Nat) (LJ LA : List Int32) (q : PS) : PS :=
  let s1 := set1 B N LJ q.1
  let s2 := numS B N 1 9 s1
  let s3 := numS B N 0 20 s2
  let s4 := numS B N 0 2 s3
  armS B N LA (signS B N 59 s4, upd (upd (upd q.2 0 (nI s1.1.2.2.2)) 1 (nI s2.1.2.2.2)) 2 (nI s3.1.2.2.2))
def setupS (B : Nat → Int32) (N : Nat) (LJ LA LC LP : List Int32) (q : PS) : PS :=
  let r := partsTo B N LA LC LP (N + 2) 0 (setH B N LJ LA q)
  (mustS (decide (r.2.1.1.2.2.1 = 0) && decide (r.1 = 2)) 1 r.2.1, r.2.2)
theorem setH_ok {B : Nat → Int32} {N : Nat} {LJ LA : List Int32} {q : PS} (h : SOK N q.1) : SOK N (setH B N LJ LA q).1 := by
  have h1 : SOK N (set1 B N LJ q.1) := passS_ok (mustS_ok h (by omega))
  have h2 := signS_ok (B := B) (c := 59) (numS_ok (B := B) (lo := 0) (hi := 2) (numS_ok (B := B) (lo := 0) (hi := 20) (numS_ok (B := B) (lo := 1) (hi := 9) h1)))
  unfold setH
  dsimp only
  exact armS_ok h2
theorem setH_RV {B : Nat → Int32} {N : Nat} {LJ LA : List Int32} {q : PS} (h : RV q.2) : RV (setH B N LJ LA q).2 := by
  unfold setH
  dsimp only
  exact armS_RV (((h.lo (by omega)).lo (by omega)).lo (by omega))
theorem partS_ok {B : Nat → Int32} {N part : Nat} {LA LC LP : List Int32} {q : PS} (h : SOK N q.1) : SOK N (partS B N LA LC LP part q).1 := by
  unfold partS
  split
  · exact armS_ok h
  · split
    · exact clashS_ok h
    · exact phaseS_ok h
theorem partS_RV {B : Nat → Int32} {N part : Nat} {LA LC LP : List Int32} {q : PS} (h : RV q.2) : RV (partS B N LA LC LP part q).2 := by
  unfold partS
  split
  · exact armS_RV h
  · split
    · exact h.same (fun j hj => clashS_lo (by omega))
    · exact phaseS_RV h
theorem partsTo_ok {B : Nat → Int32} {N : Nat} {LA LC LP : List Int32} : ∀ (f part : Nat) {q : PS}, SOK N q.1 → SOK N (partsTo B N LA LC LP f part q).2.1
  | 0, _, _, h => h
  | f + 1, part, q, h => by
    unfold partsTo
    split
    · exact partsTo_ok f _ (partS_ok (goS_ok h))
    · exact h
theorem partsTo_RV {B : Nat → Int32} {N : Nat} {LA LC LP : List Int32} : ∀ (f part : Nat) {q : PS}, RV q.2 → RV (partsTo B N LA LC LP f part q).2.2
  | 0, _, _, h => h
  | f + 1, part, q, h => by
    unfold partsTo
    split
    · exact partsTo_RV f _ (partS_RV h)
    · exact h
theorem setupS_ok {B : Nat → Int32} {N : Nat} {LJ LA LC LP : List Int32} {q : PS} (h : SOK N q.1) : SOK N (setupS B N LJ LA LC LP q).1 := mustS_ok (partsTo_ok _ _ (setH_ok h)) (by omega)
theorem setupS_RV {B : Nat → Int32} {N : Nat} {LJ LA LC LP : List Int32} {q : PS} (h : RV q.2) : RV (setupS B N LJ LA LC LP q).2 := partsTo_RV _ _ (setH_RV h)
/-- a reader that is on its way: at or behind the place t, if nothing was wrong so far -/
def adv (b : Nat) (s : SS) : Prop := s.2.1 = 0 → b ≤ s.1.2.1
theorem adv.must {b n : Nat} {t : Bool} {s : SS} (hn : n ≠ 0) (h : adv b s) : adv b (mustS t n s) := fun e => by
  rw [mustS_1]
  exact h ((mustS_0 hn).mp e).1
theorem adv.pass {B : Nat → Int32} {N b : Nat} {s : SS} (hs : SOK N s) (h : adv b s) : adv b (passS B N s) := fun e => by
  rw [passS_c] at e
  have h1 := h e
  unfold passS
  rw [if_pos e]
  have := (goF_ok (B := B) hs.1.1 hs.1.2.2.2.1).2
  have := hs.1.2.1
  dsimp only
  omega
theorem adv.num {B : Nat → Int32} {N b : Nat} {lo hi : Int32} {s : SS} (hs : SOK N s) (h : adv b s) : adv b (numS B N lo hi s) := by
  unfold numS
  dsimp only
  split
  · exact (h.must (by omega)).must (by omega) |>.pass (mustS_ok (mustS_ok hs (by omega)) (by omega))
  · exact (h.must (by omega)).pass (mustS_ok hs (by omega))
theorem adv.look {b : Nat} {s : SS} (h : adv b s) : adv b (lookS s) := by
  unfold lookS
  dsimp only
  split
  · exact (h.must (by omega)).must (by omega)
  · exact h.must (by omega)
theorem adv.go {B : Nat → Int32} {N b : Nat} {s : SS} (hs : SOK N s) (h : adv b s) : adv b (goS B N s) := fun e => by
  have h1 := h e
  have := (goF_ok (B := B) hs.1.1 hs.1.2.2.2.1).2
  have := hs.1.2.1
  show b ≤ (goF B N s.1).2.1
  omega
/-- over a token that is none of the end's -/
theorem adv.goN {B : Nat → Int32} {N : Nat} {s : SS} (hs : SOK N s) (hk : s.1.2.2.1 ≠ 0) : adv (s.1.2.1 + 1) (goS B N s) := fun _ => by
  have := (goF_ok (B := B) hs.1.1 hs.1.2.2.2.1).2
  have := hs.1.2.2.2.2 hk
  show s.1.2.1 + 1 ≤ (goF B N s.1).2.1
  omega
theorem adv.arm {B : Nat → Int32} {N b : Nat} {L : List Int32} {q : PS} (hs : SOK N q.1) (h : adv b q.1) : adv b (armS B N L q).1 := by
  unfold armS
  dsimp only
  have h1 := mustS_ok (b := decide (rA q.2 < 8)) (mustS_ok (b := isKeyF B q.1 L) hs (show 1 ≤ 5 by omega)) (show 5 ≤ 5 by omega)
  exact ((((h.must (by omega)).must (by omega)).pass h1).look.must (by omega)).pass (mustS_ok (lookS_ok (passS_ok h1)) (by omega))
theorem adv.clash {B : Nat → Int32} {N b : Nat} {q : PS} (hs : SOK N q.1) (h : adv b q.1) : adv b (clashS B N q).1 := by
  unfold clashS
  dsimp only
  have h1 := lookS_ok (goS_ok (B := B) hs)
  exact ((((((h.go hs).look.must (by omega)).pass (mustS_ok h1 (by omega))).look.must (by omega)).must (by omega)).pass (mustS_ok (mustS_ok (lookS_ok (passS_ok (mustS_ok h1 (by omega)))) (by omega)) (by omega)))
theorem adv.mem {B : Nat → Int32} {N p b : Nat} {q : PS} (hs : SOK N q.1) (h : adv b q.1) : adv b (memS B N p q).1 := by
  unfold memS
  dsimp only
  exact ((h.look.must (by omega)).must (by omega)).pass (mustS_ok (mustS_ok (lookS_ok hs) (by omega)) (by omega))
theorem adv_memTo {B : Nat → Int32} {N p b : Nat} : ∀ (f : Nat) {q : PS}, SOK N q.1 → adv b q.1 → adv b (memTo B N p f q).1
  | 0, _, _, h => by unfold memTo; exact h
  | f + 1, q, hs, h => by
    unfold memTo
    split
    · exact adv_memTo f (memS_ok hs) (h.mem hs)
    · exact h
theorem adv.phase {B : Nat → Int32} {N b : Nat} {L : List Int32} {q : PS} (hs : SOK N q.1) (h : adv b q.1) : adv b (phaseS B N L q).1 := by
  have h1 := mustS_ok (b := decide (rP q.2 < 6)) (mustS_ok (b := isKeyF B q.1 L) hs (show 1 ≤ 5 by omega)) (show 5 ≤ 5 by omega)
  have o1 : SOK N (phS1 B N L q) := passS_ok h1
  have o2 : SOK N (phS2 B N L q) := numS_ok o1
  have o3 : SOK N (phS3 B N L q) := numS_ok o2
  have a1 : adv b (phS1 B N L q) := ((h.must (by omega)).must (by omega)).pass h1
  have a2 : adv b (phS2 B N L q) := adv.num o1 a1
  have a3 : adv b (phS3 B N L q) := adv.num o2 a2
  rw [phaseS_1]
  split
  · exact adv_memTo _ (memS_ok (q := (phS3 B N L q, phR B N L q)) o3) (adv.mem (q := (phS3 B N L q, phR B N L q)) o3 a3)
  · exact a3
theorem adv.part {B : Nat → Int32} {N b part : Nat} {LA LC LP : List Int32} {q : PS} (hs : SOK N q.1) (h : adv b q.1) : adv b (partS B N LA LC LP part q).1 := by
  unfold partS
  split
  · exact h.arm hs
  · split
    · exact h.clash hs
    · exact h.phase hs
/-- a sign that stands here is a token -/
theorem isSignF_k {B : Nat → Int32} {N : Nat} {s : SS} {c : Int32} (h : isSignF B N s c = true) : s.2.1 = 0 ∧ s.1.2.2.1 = 3 := by
  unfold isSignF at h
  rw [Bool.and_eq_true, Bool.and_eq_true, decide_eq_true_eq, decide_eq_true_eq] at h
  exact ⟨h.1, h.2.1⟩
/-! load -/
def zeroR : Nat → Int32 := upd (fun _ => 0) 7 (-1)
theorem zeroR_RV : RV zeroR := by
  have e : ∀ j, j ≠ 7 → zeroR j = 0 := fun j hj => upd_ne hj
  have e7 : zeroR 7 = -1 := upd_eq
  have a : rA zeroR = 0 := by unfold rA; rw [e 3 (by omega)]; rfl
  have p : rP zeroR = 0 := by unfold rP; rw [e 4 (by omega)]; rfl
  have o : rOn zeroR = 0 := by unfold rOn; rw [e 6 (by omega)]; rfl
  have x : rNx zeroR = none := rNx_non e7
  exact ⟨by rw [a, e 3 (by omega)]; rfl, by omega, by rw [p, e 4 (by omega)]; rfl, by omega, by rw [o, e 6 (by omega)]; rfl, by omega, by rw [x, e7]; rfl, fun q hq => by rw [x] at hq; cases hq⟩
def loadQ (B : Nat → Int32) (N v : Nat) : PS := setupS B N SX7_222 SX7_196 SX7_230 SX7_214 (startS B N v, zeroR)
def loadV (B : Nat → Int32) (N v : Nat) : Int32 := if (loadQ B N v).1.2.1 = 0 then (loadQ B N v).2 4 else -20 - nI (loadQ B N v).1.2.1
def loadC (sc : Nat → Int32) (B : Nat → Int32) (N v : Nat) : Nat → Int32 := if (loadQ B N v).1.2.1 = 0 then upd (upd (upd (upd sc 8 0) 10 0) 6 0) 7 0 else upd (upd sc 8 0) 10 0
def loadR (R B : Nat → Int32) (N v : Nat) : Nat → Int32 := if (loadQ B N v).1.2.1 = 0 then (loadQ B N v).2 else R
def loadA (ar : Nat → Nat → Int32) (A B : Nat → Int32) (N v : Nat) : Nat → Nat → Int32 := if (loadQ B N v).1.2.1 = 0 then updA (updA (setA ar 2 A) 5 0 0) 5 1 0 else setA ar 2 A
end
