/-! texts: tokens -/
abbrev Tk : Type := Nat × Nat × Nat × Nat
def scR (sc : Nat → Int32) (t : Tk) (c e : Int32) : Nat → Int32 := fun k => if k = 11 then e else if k = 12 then nI t.1 else if k = 13 then nI t.2.1 else if k = 14 then nI t.2.2.1 else if k = 15 then nI t.2.2.2 else if k = 16 then c else sc k
theorem scR_11 {sc : Nat → Int32} {t : Tk} {c e v : Int32} : upd (scR sc t c e) 11 v = scR sc t c v := by
  funext j; unfold upd scR; by_cases q : j = 11 <;> simp [q]
theorem scR_12 {sc : Nat → Int32} {a b k v x : Nat} {c e : Int32} : upd (scR sc (a, b, k, v) c e) 12 (nI x) = scR sc (x, b, k, v) c e := by
  funext j; unfold upd scR; by_cases q : j = 12 <;> simp [q]
theorem scR_13 {sc : Nat → Int32} {a b k v x : Nat} {c e : Int32} : upd (scR sc (a, b, k, v) c e) 13 (nI x) = scR sc (a, x, k, v) c e := by
  funext j; unfold upd scR; by_cases q : j = 13 <;> simp [q]
theorem scR_14 {sc : Nat → Int32} {a b k v x : Nat} {c e : Int32} : upd (scR sc (a, b, k, v) c e) 14 (nI x) = scR sc (a, b, x, v) c e := by
  funext j; unfold upd scR; by_cases q : j = 14 <;> simp [q]
theorem scR_15 {sc : Nat → Int32} {a b k v x : Nat} {c e : Int32} : upd (scR sc (a, b, k, v) c e) 15 (nI x) = scR sc (a, b, k, x) c e := by
  funext j; unfold upd scR; by_cases q : j = 15 <;> simp [q]
theorem scR_16 {sc : Nat → Int32} {t : Tk} {c e v : Int32} : upd (scR sc t c e) 16 v = scR sc t v e := by
  funext j; unfold upd scR; by_cases q : j = 16 <;> simp [q]
def blkF (c : Int32) : Bool := c == 32 || c == 10
def letF (c : Int32) : Bool := inF c 97 122
def digF (c : Int32) : Bool := inF c 48 57
def sgnF (c : Int32) : Bool := c == 59 || (c == 40 || c == 41)
def atF (B : Nat → Int32) (N k : Nat) : Int32 := if k < N then B k else -1
def scanTo (P : Int32 → Bool) (B : Nat → Int32) : Nat → Nat → Nat
  | 0, k => k
  | f + 1, k => if P (B k) = true then scanTo P B f (k + 1) else k
/-- from k on, past all that P holds of -/
def scanF (P : Int32 → Bool) (B : Nat → Int32) (N k : Nat) : Nat := scanTo P B (N - k) k
theorem scanF_end {P : Int32 → Bool} {B : Nat → Int32} {N k : Nat} (h : N ≤ k) : scanF P B N k = k := by
  unfold scanF
  rw [Nat.sub_eq_zero_of_le h]
  rfl
theorem scanF_go {P : Int32 → Bool} {B : Nat → Int32} {N k : Nat} (h : k < N) (hp : P (B k) = true) : scanF P B N k = scanF P B N (k + 1) := by
  unfold scanF
  rw [show N - k = (N - (k + 1)) + 1 from by omega]
  exact if_pos hp
theorem scanF_stop {P : Int32 → Bool} {B : Nat → Int32} {N k : Nat} (h : k < N) (hp : P (B k) = false) : scanF P B N k = k := by
  unfold scanF
  rw [show N - k = (N - (k + 1)) + 1 from by omega]
  exact if_neg (by rw [hp]; decide)
theorem scanTo_le {P : Int32 → Bool} {B : Nat → Int32} : ∀ f k, k ≤ scanTo P B f k ∧ scanTo P B f k ≤ k + f
  | 0, k => ⟨Nat.le_refl _, Nat.le_refl _⟩
  | f + 1, k => by
    have h := scanTo_le (P := P) (B := B) f (k + 1)
    unfold scanTo
    split <;> omega
theorem scanF_ge {P : Int32 → Bool} {B : Nat → Int32} {N k : Nat} : k ≤ scanF P B N k := (scanTo_le _ _).1
theorem scanF_le {P : Int32 → Bool} {B : Nat → Int32} {N k : Nat} (h : k ≤ N) : scanF P B N k ≤ N := by
  have := (scanTo_le (P := P) (B := B) (N - k) k).2
  unfold scanF
  omega
theorem scanTo_all {P : Int32 → Bool} {B : Nat → Int32} : ∀ f k i, k ≤ i → i < scanTo P B f k → P (B i) = true
  | 0, k, i, h1, h2 => absurd h2 (by unfold scanTo; omega)
  | f + 1, k, i, h1, h2 => by
    unfold scanTo at h2
    split at h2
    · rename_i hp
      by_cases e : i = k
      · rw [e]; exact hp
      · exact scanTo_all f (k + 1) i (by omega) h2
    · omega
theorem scanF_all {P : Int32 → Bool} {B : Nat → Int32} {N k i : Nat} (h1 : k ≤ i) (h2 : i < scanF P B N k) : P (B i) = true := scanTo_all _ _ _ h1 h2
theorem scanTo_nx {P : Int32 → Bool} {B : Nat → Int32} : ∀ f k, scanTo P B f k < k + f → P (B (scanTo P B f k)) = false
  | 0, k, h => absurd h (by unfold scanTo; omega)
  | f + 1, k, h => by
    unfold scanTo at h ⊢
    split
    · rename_i hp
      rw [if_pos hp] at h
      exact scanTo_nx f (k + 1) (by omega)
    · rename_i hp
      exact (Bool.not_eq_true _).mp hp
theorem scanF_nx {P : Int32 → Bool} {B : Nat → Int32} {N k : Nat} (h : scanF P B N k < N) : P (B (scanF P B N k)) = false := by
  by_cases q : N ≤ k
  · rw [scanF_end q] at h
    omega
  · exact scanTo_nx (N - k) k (by unfold scanF at h; omega)
def vTo (B : Nat → Int32) (k : Nat) : Nat → Nat
  | 0 => 0
  | n + 1 => min 1000 (10 * vTo B k n + (B (k + n)).toNatClampNeg - 48)
theorem vTo_le (B : Nat → Int32) (k : Nat) : ∀ n, vTo B k n ≤ 1000
  | 0 => Nat.zero_le _
  | n + 1 => Nat.min_le_left _ _
/-- the token from place t.1 on: where it ends, where it begins, its kind, its value -/
def goF (B : Nat → Int32) (N : Nat) (t : Tk) : Tk :=
  let b := scanF blkF B N t.1
  if N ≤ b then (b, b, 0, t.2.2.2)
  else if letF (B b) = true then (scanF letF B N b, b, 1, t.2.2.2)
  else if digF (B b) = true then (scanF digF B N b, b, 2, vTo B b (scanF digF B N b - b))
  else (b + 1, b, if sgnF (B b) = true then 3 else 4, t.2.2.2)
/-- the text holds bytes -/
def BufOK (B : Nat → Int32) (N : Nat) : Prop := N ≤ 600 ∧ ∀ i, i < N → ∃ b, 1 ≤ b ∧ b ≤ 255 ∧ B i = nI b
def TkOK (N : Nat) (t : Tk) : Prop := t.1 ≤ N ∧ t.2.1 ≤ t.1 ∧ t.2.2.1 ≤ 4 ∧ t.2.2.2 ≤ 1000 ∧ (t.2.2.1 ≠ 0 → t.2.1 < t.1)
theorem goF_ok {B : Nat → Int32} {N : Nat} {t : Tk} (h1 : t.1 ≤ N) (h2 : t.2.2.2 ≤ 1000) : TkOK N (goF B N t) ∧ t.1 ≤ (goF B N t).2.1 := by
  have hb := scanF_le (P := blkF) (B := B) h1
  have hg := scanF_ge (P := blkF) (B := B) (N := N) (k := t.1)
  unfold goF TkOK
  dsimp only
  split
  · exact ⟨⟨hb, Nat.le_refl _, by dsimp only; omega, h2, fun e => absurd rfl e⟩, hg⟩
  · rename_i hn
    split
    · rename_i hl
      have hl2 := scanF_go (P := letF) (B := B) (N := N) (k := scanF blkF B N t.1) (by omega) hl
      have h3 := scanF_ge (P := letF) (B := B) (N := N) (k := scanF blkF B N t.1 + 1)
      have h4 := scanF_le (P := letF) (B := B) (N := N) (k := scanF blkF B N t.1) hb
      exact ⟨⟨h4, by dsimp only; omega, by dsimp only; omega, h2, fun _ => by dsimp only; omega⟩, hg⟩
    · split
      · rename_i hl
        have hl2 := scanF_go (P := digF) (B := B) (N := N) (k := scanF blkF B N t.1) (by omega) hl
        have h3 := scanF_ge (P := digF) (B := B) (N := N) (k := scanF blkF B N t.1 + 1)
        have h4 := scanF_le (P := digF) (B := B) (N := N) (k := scanF blkF B N t.1) hb
        exact ⟨⟨h4, by dsimp only; omega, by dsimp only; omega, vTo_le _ _ _, fun _ => by dsimp only; omega⟩, hg⟩
      · refine ⟨⟨by dsimp only; omega, by dsimp only; omega, ?_, h2, fun _ => by dsimp only; omega⟩, hg⟩
        dsimp only
        split <;> decide
theorem iMin_nI {a b : Nat} (ha : a < 2 ^ 31) (hb : b < 2 ^ 31) : iMin (nI a) (nI b) = nI (min a b) := by
  unfold iMin
  by_cases q : a ≤ b
  · rw [if_pos (by rw [nI_leE ha hb]; exact q), Nat.min_eq_left q]
  · rw [if_neg (by rw [nI_leE ha hb]; exact q), Nat.min_eq_right (by omega)]
