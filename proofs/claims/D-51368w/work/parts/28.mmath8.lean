/-! the reader's state: token, code, place of the error; what the reading steps make of it -/
abbrev SS : Type := Tk × Nat × Int32
def scT (sc : Nat → Int32) (s : SS) : Nat → Int32 := scR sc s.1 (nI s.2.1) s.2.2
def SOK (N : Nat) (s : SS) : Prop := TkOK N s.1 ∧ s.2.1 ≤ 5
def mustS (b : Bool) (n : Nat) (s : SS) : SS := if s.2.1 = 0 ∧ b = false then (s.1, n, nI s.1.2.1) else s
def passS (B : Nat → Int32) (N : Nat) (s : SS) : SS := if s.2.1 = 0 then (goF B N s.1, s.2.1, s.2.2) else s
def goS (B : Nat → Int32) (N : Nat) (s : SS) : SS := (goF B N s.1, s.2.1, s.2.2)
def startS (B : Nat → Int32) (N v : Nat) : SS := (goF B N (0, 0, 0, v), 0, -1)
def isSignF (B : Nat → Int32) (N : Nat) (s : SS) (c : Int32) : Bool := decide (s.2.1 = 0) && (decide (s.1.2.2.1 = 3) && (atF B N s.1.2.1 == c))
def numS (B : Nat → Int32) (N : Nat) (lo hi : Int32) (s : SS) : SS :=
  let s1 := mustS (decide (s.1.2.2.1 = 2)) 1 s
  let s2 := if s1.2.1 = 0 then mustS (inF (nI s.1.2.2.2) lo hi) 2 s1 else s1
  passS B N s2
def signS (B : Nat → Int32) (N : Nat) (c : Int32) (s : SS) : SS := passS B N (mustS (isSignF B N s c) 1 s)
def lookS (s : SS) : SS :=
  let s1 := mustS (decide (s.1.2.2.1 = 1)) 1 s
  if s1.2.1 = 0 then mustS (decide (s.1.1 - s.1.2.1 ≤ 6)) 2 s1 else s1
def lookV (B : Nat → Int32) (s : SS) : Int32 := if (lookS s).2.1 = 0 then pkTo B s.1.2.1 (s.1.1 - s.1.2.1) else 0
theorem mustS_ok {N n : Nat} {b : Bool} {s : SS} (h : SOK N s) (hn : n ≤ 5) : SOK N (mustS b n s) := by
  unfold mustS
  split
  · exact ⟨h.1, hn⟩
  · exact h
theorem goS_ok {B : Nat → Int32} {N : Nat} {s : SS} (h : SOK N s) : SOK N (goS B N s) := ⟨(goF_ok h.1.1 h.1.2.2.2.1).1, h.2⟩
theorem passS_ok {B : Nat → Int32} {N : Nat} {s : SS} (h : SOK N s) : SOK N (passS B N s) := by
  unfold passS
  split
  · exact goS_ok h
  · exact h
theorem numS_ok {B : Nat → Int32} {N : Nat} {lo hi : Int32} {s : SS} (h : SOK N s) : SOK N (numS B N lo hi s) := by
  unfold numS
  dsimp only
  refine passS_ok ?_
  split
  · exact mustS_ok (mustS_ok h (by omega)) (by omega)
  · exact mustS_ok h (by omega)
theorem signS_ok {B : Nat → Int32} {N : Nat} {c : Int32} {s : SS} (h : SOK N s) : SOK N (signS B N c s) := passS_ok (mustS_ok h (by omega))
theorem lookS_ok {N : Nat} {s : SS} (h : SOK N s) : SOK N (lookS s) := by
  unfold lookS
  dsimp only
  split
  · exact mustS_ok (mustS_ok h (by omega)) (by omega)
  · exact mustS_ok h (by omega)
theorem mustS_1 {n : Nat} {b : Bool} {s : SS} : (mustS b n s).1 = s.1 := by
  unfold mustS
  split <;> rfl
theorem lookS_1 {s : SS} : (lookS s).1 = s.1 := by
  unfold lookS
  dsimp only
  split
  · rw [mustS_1, mustS_1]
  · rw [mustS_1]
theorem startS_ok {B : Nat → Int32} {N v : Nat} (hv : v ≤ 1000) : SOK N (startS B N v) := ⟨(goF_ok (t := (0, 0, 0, v)) (Nat.zero_le _) hv).1, Nat.zero_le _⟩
theorem nI_0E {c : Nat} (h : c < 2 ^ 31) : (nI c = 0) = (c = 0) := nI_inj (b := 0) h (by omega)
/-- a word that stands here -/
def ascL (L : List Int32) : Prop := L.length < 1000 ∧ ∀ j, j < L.length → ∃ c, c < 128 ∧ byL L j = nI c
def ascB (L : List Int32) : Bool := decide (L.length < 1000) && L.all (fun v => decide (0 ≤ v) && decide (v < 128))
theorem ascB_s {L : List Int32} (h : ascB L = true) : ascL L := by
  unfold ascB at h
  rw [Bool.and_eq_true, decide_eq_true_eq, List.all_eq_true] at h
  refine ⟨h.1, fun j hj => ?_⟩
  have h1 := h.2 (L[j]) (List.getElem_mem hj)
  rw [Bool.and_eq_true, decide_eq_true_eq, decide_eq_true_eq] at h1
  have e : byL L j = L[j] := by
    unfold byL
    rw [List.getD_eq_getElem?_getD, List.getElem?_eq_getElem hj]
    rfl
  rcases pk_ix L[j] (n := 128) (by omega) with q | q | ⟨k, hk, q⟩
  · exact absurd h1.1 (Int32.not_le.mpr q)
  · exact absurd h1.2 (Int32.not_lt.mpr q)
  · exact ⟨k, hk, by rw [e, q]⟩
theorem chr_asc {c : Nat} (h : c < 128) : ((nI c &&& 255).toUInt32 % 65536).toInt32 = nI c := by
  rw [pk_andN (k := 8) (by omega) (by rfl), pk_char, pk_tn (by omega)]
  congr 1
  omega
def isKeyF (B : Nat → Int32) (s : SS) (L : List Int32) : Bool := decide (s.2.1 = 0) && (decide (s.1.2.2.1 = 1) && (decide (s.1.1 - s.1.2.1 = L.length) && (List.range L.length).all (fun j => B (s.1.2.1 + j) == byL L j)))
