/-! setups: what the reading makes of state and row -/
abbrev PS : Type := SS × (Nat → Int32)
theorem mustS_0 {n : Nat} {b : Bool} {s : SS} (hn : n ≠ 0) : (mustS b n s).2.1 = 0 ↔ s.2.1 = 0 ∧ b = true := by
  unfold mustS
  split
  · rename_i q
    constructor
    · intro e; exact absurd e hn
    · intro e; rw [q.2] at e; cases e.2
  · rename_i q
    constructor
    · intro e
      refine ⟨e, ?_⟩
      cases b with
      | true => rfl
      | false => exact absurd ⟨e, rfl⟩ q
    · intro e; exact e.1
theorem mustS_n {n : Nat} {b : Bool} {s : SS} (h : s.2.1 ≠ 0) : mustS b n s = s := if_neg (fun q => h q.1)
theorem mustS_t {n : Nat} {s : SS} : mustS true n s = s := if_neg (fun q => by cases q.2)
theorem passS_c {B : Nat → Int32} {N : Nat} {s : SS} : (passS B N s).2.1 = s.2.1 := by
  unfold passS
  split <;> rfl
theorem lookS_c {s : SS} (h : (lookS s).2.1 = 0) : s.2.1 = 0 := by
  unfold lookS at h
  dsimp only at h
  split at h
  · rename_i q
    exact ((mustS_0 (by decide)).mp q).1
  · rename_i q
    exact absurd h q
def bz (s : SS) (b : Bool) : Bool := !decide (s.2.1 = 0) || b
def armS (B : Nat → Int32) (N : Nat) (L : List Int32) (q : PS) : PS :=
  let s2 := mustS (decide (rA q.2 < 8)) 5 (mustS (isKeyF B q.1 L) 1 q.1)
  let s3 := passS B N s2
  let w := lookV B s3
  let s4 := lookS s3
  let s6 := passS B N (mustS (bz s4 (namedF q.2 w).isNone) 3 s4)
  (s6, if s6.2.1 = 0 then upd (upd (upd q.2 (17 + 6 * rA q.2 + 0) w) (17 + 6 * rA q.2 + 1) (-99)) 3 (nI (rA q.2 + 1)) else q.2)
def clashS (B : Nat → Int32) (N : Nat) (q : PS) : PS :=
  let s1 := goS B N q.1
  let a := namedF q.2 (lookV B s1)
  let s4 := passS B N (mustS (bz (lookS s1) a.isSome) 4 (lookS s1))
  let b := namedF q.2 (lookV B s4)
  let s5 := lookS s4
  let s6 := mustS (bz s5 (!decide (b = a))) 3 s5
  let s8 := passS B N (mustS (bz s6 b.isSome) 4 s6)
  (s8, if s8.2.1 = 0 then (match a, b with
    | some a, some b => upd (upd q.2 (65 + 8 * a + b) 1) (65 + 8 * b + a) 1
    | _, _ => q.2) else q.2)
def memS (B : Nat → Int32) (N p : Nat) (q : PS) : PS :=
  let s1 := lookS q.1
  let a := namedF q.2 (lookV B q.1)
  let s2 := mustS (bz s1 (match a with
    | none => true
    | some a => joinF q.2 p a)) 3 s1
  let s4 := passS B N (mustS (bz s2 a.isSome) 4 s2)
  (s4, if s4.2.1 = 0 then (match a with
    | none => q.2
    | some a => upd q.2 (129 + 12 * p + (4 + a)) 1) else q.2)
def memTo (B : Nat → Int32) (N p : Nat) : Nat → PS → PS
  | 0, q => q
  | f + 1, q => if q.1.2.1 = 0 ∧ q.1.1.2.2.1 = 1 then memTo B N p f (memS B N p q) else q
def phS1 (B : Nat → Int32) (N : Nat) (L : List Int32) (q : PS) : SS := passS B N (mustS (decide (rP q.2 < 6)) 5 (mustS (isKeyF B q.1 L) 1 q.1))
def phS2 (B : Nat → Int32) (N : Nat) (L : List Int32) (q : PS) : SS := numS B N 1 60 (phS1 B N L q)
def phS3 (B : Nat → Int32) (N : Nat) (L : List Int32) (q : PS) : SS := numS B N (nI (phS1 B N L q).1.2.2.2) 99 (phS2 B N L q)
def phR (B : Nat → Int32) (N : Nat) (L : List Int32) (q : PS) : Nat → Int32 := upd (upd q.2 (129 + 12 * rP q.2 + 0) (nI (phS1 B N L q).1.2.2.2)) (129 + 12 * rP q.2 + 1) (nI (phS2 B N L q).1.2.2.2)
def phaseS (B : Nat → Int32) (N : Nat) (L : List Int32) (q : PS) : PS :=
  if (phS3 B N L q).2.1 = 0 then
    let r := memTo B N (rP q.2) (N + 2) (memS B N (rP q.2) (phS3 B N L q, phR B N L q))
    (r.1, upd r.2 4 (nI (rP q.2 + 1)))
  else (phS3 B N L q, q.2)
theorem RV.up {R : Nat → Int32} (h : RV R) {i : Nat} {v : Int32} (hi : 10 ≤ i) : RV (upd R i v) := h.of (upd_ne (by omega)) (upd_ne (by omega)) (upd_ne (by omega)) (upd_ne (by omega))
theorem rA_up {R : Nat → Int32} {i : Nat} {v : Int32} (hi : 10 ≤ i) : rA (upd R i v) = rA R := rA_eq (upd_ne (by omega))
theorem rP_up {R : Nat → Int32} {i : Nat} {v : Int32} (hi : 10 ≤ i) : rP (upd R i v) = rP R := rP_eq (upd_ne (by omega))
theorem namedF_lt {R : Nat → Int32} {w : Int32} {a : Nat} (h : namedF R w = some a) : a < rA R := by
  unfold namedF findTo at h
  exact List.mem_range.mp (List.mem_of_find?_eq_some h)
theorem nO_inj {a b : Option Nat} (ha : ∀ q, a = some q → q < 100) (hb : ∀ q, b = some q → q < 100) : nO a = nO b ↔ a = b := by
  constructor
  · intro e
    cases a with
    | none => exact ((nO_m1' hb).mp e.symm).symm
    | some x =>
      cases b with
      | none => exact (nO_m1' ha).mp e
      | some y =>
        have h1 := ha x rfl
        have h2 := hb y rfl
        rw [nO_some, nO_some, nI_inj (by omega) (by omega)] at e
        rw [e]
  · intro e; rw [e]
