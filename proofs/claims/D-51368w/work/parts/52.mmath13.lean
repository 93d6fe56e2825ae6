/-! means, the making of the reference -/
def meanF (R : Nat → Int32) : UInt64 := if R 11 = 0 then FP.dconst0 else FP.ddiv (FP.i2d (R 12)) (FP.i2d (R 11))
def bitsF (g t : Int32) : Int32 := if t = 0 then 0 else (FP.fdiv (FP.i2f g) (FP.i2f t)).toInt32
def oBits (R : Nat → Int32) (v : Int32) : Option Int32 := (ixO v (rA R)).map (fun a => bitsF (mOf R a 5) (R 5))
theorem fc_asm {f : FP.Core.Fmt} {s : Bool} {E T : Nat} (hT : T < f.tails) (hE : E < f.exps) : FP.Core.fieldE f (FP.Core.assemble f s E T) = E ∧ FP.Core.fieldT f (FP.Core.assemble f s E T) = T := by
  unfold FP.Core.fieldE FP.Core.fieldT FP.Core.assemble
  have h0 : 0 < f.tails := by omega
  constructor
  · rw [Nat.add_comm, Nat.add_mul_div_right _ _ h0, Nat.div_eq_of_lt hT, Nat.zero_add, Nat.add_comm, Nat.add_mul_mod_self_right, Nat.mod_eq_of_lt hE]
  · rw [Nat.add_comm, Nat.add_mul_mod_self_right, Nat.mod_eq_of_lt hT]
/-- what a format must be -/
def fcOK (f : FP.Core.Fmt) : Prop := 2 ^ f.p = 2 * f.tails ∧ 0 < f.tails ∧ f.qmin ≤ f.qmax ∧ (f.qmax - f.qmin).toNat + 2 < f.exps
theorem fc_64 : fcOK FP.Core.b64 := by unfold fcOK; decide
theorem fc_32 : fcOK FP.Core.b32 := by unfold fcOK; decide
/-- a rounded number: none but infinite or small enough -/
def fcR (f : FP.Core.Fmt) (d : FP.Core.Datum) : Prop := match d with
  | .nan => False
  | .inf _ => True
  | .fin _ c q => c < 2 ^ f.p ∧ q ≤ f.qmax
theorem fc_settle {f : FP.Core.Fmt} (hf : fcOK f) (s : Bool) (c : Nat) (q : Int) : fcR f (FP.Core.settle f s c q) := by
  obtain ⟨f1, f2, f3, f4⟩ := hf
  unfold FP.Core.settle FP.Core.bound
  split
  · rename_i h
    split
    · rename_i h2; exact ⟨h, h2⟩
    · exact trivial
  · split
    · rename_i h2; exact ⟨by omega, h2⟩
    · exact trivial
theorem fc_rr {f : FP.Core.Fmt} (hf : fcOK f) (s : Bool) (num den : Nat) (e : Int) : fcR f (FP.Core.roundRatio f s num den e) := by
  unfold FP.Core.roundRatio
  split
  · exact ⟨by have := hf.1; have := hf.2.1; omega, hf.2.2.1⟩
  · exact fc_settle hf _ _ _
theorem fc_enc {f : FP.Core.Fmt} (hf : fcOK f) {d : FP.Core.Datum} (h : fcR f d) : FP.Core.decode f (FP.Core.encode f d) ≠ .nan := by
  obtain ⟨f1, f2, f3, f4⟩ := hf
  cases d with
  | nan => exact absurd h id
  | inf s =>
    obtain ⟨a1, a2⟩ := fc_asm (f := f) (s := s) (E := f.exps - 1) (T := 0) f2 (by omega)
    show FP.Core.decode f (FP.Core.assemble f s (f.exps - 1) 0) ≠ .nan
    unfold FP.Core.decode
    rw [a1, a2, if_pos rfl, if_pos rfl]
    exact fun h => FP.Core.Datum.noConfusion h
  | fin s c q =>
    obtain ⟨h1, h2⟩ := h
    show FP.Core.decode f (if c < f.tails then FP.Core.assemble f s 0 c else FP.Core.assemble f s ((q - f.qmin).toNat + 1) (c - f.tails)) ≠ .nan
    split
    · rename_i h3
      obtain ⟨a1, a2⟩ := fc_asm (f := f) (s := s) (E := 0) h3 (by omega)
      unfold FP.Core.decode
      rw [a1, a2, if_neg (by omega), if_pos rfl]
      exact fun h => FP.Core.Datum.noConfusion h
    · rename_i h3
      obtain ⟨a1, a2⟩ := fc_asm (f := f) (s := s) (E := (q - f.qmin).toNat + 1) (T := c - f.tails) (by omega) (by omega)
      unfold FP.Core.decode
      rw [a1, a2, if_neg (by omega), if_neg (by omega)]
      exact fun h => FP.Core.Datum.noConfusion h
/-- a whole number that has a digit to spare is kept -/
theorem fc_int {f : FP.Core.Fmt} (hf : fcOK f) (hp : 0 < f.p) {i : Int} (h0 : i ≠ 0) (hi : i.natAbs < 2 ^ f.p) (hq : f.qmin ≤ 1 - (f.p : Int)) (hm : 0 ≤ f.qmax) :
    ∃ s c q, FP.Core.decode f (FP.Core.fromInt f i) = .fin s c q ∧ c ≠ 0 := by
  have hn : i.natAbs ≠ 0 := by omega
  have hl : FP.Core.leading i.natAbs 1 = (i.natAbs.log2 : Int) := by
    unfold FP.Core.leading
    have e1 : Nat.log2 1 = 0 := by decide
    rw [e1]
    dsimp only
    rw [if_pos]
    · omega
    · have := Nat.log2_self_le hn
      have e2 : ((i.natAbs.log2 : Int) - ((0 : Nat) : Int)).toNat = i.natAbs.log2 := by omega
      have e3 : (-((i.natAbs.log2 : Int) - ((0 : Nat) : Int))).toNat = 0 := by omega
      rw [e2, e3]
      omega
  have hk : i.natAbs.log2 < f.p := (Nat.log2_lt hn).mpr hi
  have hlow : 2 ^ i.natAbs.log2 ≤ i.natAbs := Nat.log2_self_le hn
  have hhi : i.natAbs < 2 ^ (i.natAbs.log2 + 1) := Nat.lt_log2_self
  have hqu : FP.Core.quantum f i.natAbs 1 0 = (i.natAbs.log2 : Int) - ((f.p : Int) - 1) := by
    unfold FP.Core.quantum
    rw [hl]
    omega
  have hu : FP.Core.unitsNum i.natAbs 0 (FP.Core.quantum f i.natAbs 1 0) = i.natAbs * 2 ^ (f.p - 1 - i.natAbs.log2) := by
    rw [hqu]
    unfold FP.Core.unitsNum
    congr 2
    omega
  have hd : FP.Core.unitsDen 1 0 (FP.Core.quantum f i.natAbs 1 0) = 1 := by
    rw [hqu]
    unfold FP.Core.unitsDen
    have : ((i.natAbs.log2 : Int) - ((f.p : Int) - 1) - 0).toNat = 0 := by omega
    rw [this]
  have hr : FP.Core.nearest (i.natAbs * 2 ^ (f.p - 1 - i.natAbs.log2)) 1 = i.natAbs * 2 ^ (f.p - 1 - i.natAbs.log2) := by
    unfold FP.Core.nearest
    rw [Nat.mod_one, if_pos (by omega), Nat.div_one]
  have hc1 : i.natAbs * 2 ^ (f.p - 1 - i.natAbs.log2) < 2 ^ f.p := by
    have : 2 ^ f.p = 2 ^ (i.natAbs.log2 + 1) * 2 ^ (f.p - 1 - i.natAbs.log2) := by
      rw [← Nat.pow_add]; congr 1; omega
    rw [this]
    exact Nat.mul_lt_mul_of_pos_right hhi (Nat.two_pow_pos _)
  have hc0 : f.tails ≤ i.natAbs * 2 ^ (f.p - 1 - i.natAbs.log2) := by
    have : f.tails = 2 ^ i.natAbs.log2 * 2 ^ (f.p - 1 - i.natAbs.log2) := by
      unfold FP.Core.Fmt.tails
      rw [← Nat.pow_add]; congr 1; omega
    rw [this]
    exact Nat.mul_le_mul_right _ hlow
  obtain ⟨f1, f2, f3, f4⟩ := hf
  generalize hcc : i.natAbs * 2 ^ (f.p - 1 - i.natAbs.log2) = c at hu hr hc1 hc0
  have hrr : FP.Core.round f (FP.Core.ofInt i) = .fin (decide (i < 0)) c ((i.natAbs.log2 : Int) - ((f.p : Int) - 1)) := by
    show FP.Core.roundRatio f (decide (i < 0)) i.natAbs 1 0 = _
    unfold FP.Core.roundRatio FP.Core.roundAt
    rw [if_neg hn, hu, hd, hr, hqu]
    unfold FP.Core.settle FP.Core.bound
    rw [if_pos hc1, if_pos (by omega)]
  unfold FP.Core.fromInt
  rw [hrr]
  show ∃ s' c' q', FP.Core.decode f (if c < f.tails then FP.Core.assemble f (decide (i < 0)) 0 c else FP.Core.assemble f (decide (i < 0)) (((i.natAbs.log2 : Int) - ((f.p : Int) - 1) - f.qmin).toNat + 1) (c - f.tails)) = .fin s' c' q' ∧ c' ≠ 0
  rw [if_neg (by omega)]
  obtain ⟨a1, a2⟩ := fc_asm (f := f) (s := decide (i < 0)) (E := ((i.natAbs.log2 : Int) - ((f.p : Int) - 1) - f.qmin).toNat + 1) (T := c - f.tails) (by omega) (by omega)
  unfold FP.Core.decode
  rw [a1, a2, if_neg (by omega), if_neg (by omega)]
  exact ⟨_, _, _, rfl, by omega⟩
theorem fc_quo {f : FP.Core.Fmt} (hf : fcOK f) {a : FP.Core.Datum} {s : Bool} {c : Nat} {q : Int} (ha : a ≠ .nan) (hc : c ≠ 0) : fcR f (FP.Core.quotient f a (.fin s c q)) := by
  cases a with
  | nan => exact absurd rfl ha
  | inf t => exact trivial
  | fin t d r =>
    show fcR f (if c = 0 then _ else _)
    rw [if_neg hc]
    exact fc_rr hf _ _ _ _
theorem fc_from {f : FP.Core.Fmt} (hf : fcOK f) (i : Int) : FP.Core.decode f (FP.Core.fromInt f i) ≠ .nan := fc_enc hf (fc_rr hf _ _ _ _)
theorem fc_lt {f : FP.Core.Fmt} (hf : fcOK f) {d : FP.Core.Datum} (h : fcR f d) : FP.Core.encode f d < 2 * f.exps * f.tails := by
  obtain ⟨f1, f2, f3, f4⟩ := hf
  have key : ∀ (s : Bool) (E T : Nat), E < f.exps → T < f.tails → FP.Core.assemble f s E T < 2 * f.exps * f.tails := by
    intro s E T hE hT
    unfold FP.Core.assemble
    have h1 : (s.toNat * f.exps + E) + 1 ≤ 2 * f.exps := by cases s <;> simp <;> omega
    have h2 := Nat.mul_le_mul_right f.tails h1
    rw [Nat.add_mul] at h2
    omega
  cases d with
  | nan => exact absurd h id
  | inf s => exact key _ _ _ (by omega) (by omega)
  | fin s c q =>
    obtain ⟨h1, h2⟩ := h
    show (if c < f.tails then FP.Core.assemble f s 0 c else FP.Core.assemble f s ((q - f.qmin).toNat + 1) (c - f.tails)) < _
    split
    · exact key _ _ _ (by omega) (by omega)
    · exact key _ _ _ (by omega) (by omega)
theorem fc_i64 (a : Int32) : (FP.i2d a).toNat = FP.Core.fromInt FP.Core.b64 a.toInt := by
  show (UInt64.ofNat (FP.Core.fromInt FP.Core.b64 a.toInt)).toNat = _
  have : FP.Core.fromInt FP.Core.b64 a.toInt < 2 * FP.Core.b64.exps * FP.Core.b64.tails := fc_lt fc_64 (fc_rr fc_64 _ _ _ _)
  rw [UInt64.toNat_ofNat_of_lt']
  exact this
theorem fc_i32 (a : Int32) : (FP.i2f a).toNat = FP.Core.fromInt FP.Core.b32 a.toInt := by
  show (UInt32.ofNat (FP.Core.fromInt FP.Core.b32 a.toInt)).toNat = _
  have : FP.Core.fromInt FP.Core.b32 a.toInt < 2 * FP.Core.b32.exps * FP.Core.b32.tails := fc_lt fc_32 (fc_rr fc_32 _ _ _ _)
  rw [UInt32.toNat_ofNat_of_lt']
  exact this
theorem fc_ddiv {a b : Int32} (h : b ≠ 0) : FP.dIsNaN (FP.ddiv (FP.i2d a) (FP.i2d b)) = false := by
  have hb : b.toInt ≠ 0 := fun e => h (Int32.toInt_inj.mp e)
  have h1 := b.toInt_lt
  have h2 := b.le_toInt
  obtain ⟨s, c, q, e, hc⟩ := fc_int (f := FP.Core.b64) fc_64 (by decide) hb (by show b.toInt.natAbs < 9007199254740992; omega) (by decide) (by decide)
  have h3 : fcR FP.Core.b64 (FP.Core.quotient FP.Core.b64 (FP.Core.decode FP.Core.b64 (FP.i2d a).toNat) (FP.Core.decode FP.Core.b64 (FP.i2d b).toNat)) := by
    rw [fc_i64, fc_i64, e]
    exact fc_quo fc_64 (fc_from fc_64 _) hc
  show decide (FP.Core.decode FP.Core.b64 (UInt64.ofNat (FP.Core.encode FP.Core.b64 (FP.Core.quotient FP.Core.b64 (FP.Core.decode FP.Core.b64 (FP.i2d a).toNat) (FP.Core.decode FP.Core.b64 (FP.i2d b).toNat)))).toNat = .nan) = false
  rw [UInt64.toNat_ofNat_of_lt' (fc_lt fc_64 h3)]
  exact decide_eq_false (fc_enc fc_64 h3)
theorem fc_fdiv {a b : Int32} (h : b ≠ 0) (hb2 : b.toInt.natAbs < 16777216) : FP.fIsNaN (FP.fdiv (FP.i2f a) (FP.i2f b)) = false := by
  have hb : b.toInt ≠ 0 := fun e => h (Int32.toInt_inj.mp e)
  obtain ⟨s, c, q, e, hc⟩ := fc_int (f := FP.Core.b32) fc_32 (by decide) hb hb2 (by decide) (by decide)
  have h3 : fcR FP.Core.b32 (FP.Core.quotient FP.Core.b32 (FP.Core.decode FP.Core.b32 (FP.i2f a).toNat) (FP.Core.decode FP.Core.b32 (FP.i2f b).toNat)) := by
    rw [fc_i32, fc_i32, e]
    exact fc_quo fc_32 (fc_from fc_32 _) hc
  show decide (FP.Core.decode FP.Core.b32 (UInt32.ofNat (FP.Core.encode FP.Core.b32 (FP.Core.quotient FP.Core.b32 (FP.Core.decode FP.Core.b32 (FP.i2f a).toNat) (FP.Core.decode FP.Core.b32 (FP.i2f b).toNat)))).toNat = .nan) = false
  rw [UInt32.toNat_ofNat_of_lt' (fc_lt fc_32 h3)]
  exact decide_eq_false (fc_enc fc_32 h3)
theorem fc_cmp {b : UInt32} (h : FP.fIsNaN b = false) : FP.fcmp b b = some .eq := by
  have h1 : FP.Core.decode FP.Core.b32 b.toNat ≠ .nan := of_decide_eq_false h
  show FP.Core.order (FP.Core.decode FP.Core.b32 b.toNat) (FP.Core.decode FP.Core.b32 b.toNat) = _
  have key : ∀ i : Int, compare i i = .eq := fun i => by simp [compare, compareOfLessAndEq]
  cases e : FP.Core.decode FP.Core.b32 b.toNat with
  | nan => exact absurd e h1
  | inf s => exact congrArg some (key _)
  | fin s c q => exact congrArg some (key _)
theorem mean_n {a b : Int32} (h : b ≠ 0) : vf_n64 (FP.ddiv (FP.i2d a) (FP.i2d b)) := fp_n64 (fc_ddiv h)
theorem bits_n {a : Int32} {t : Nat} (ht : t ≤ 12000) (h : nI t ≠ 0) : FP.fIsNaN (FP.fdiv (FP.i2f a) (FP.i2f (nI t))) = false := fc_fdiv h (by rw [nI_toInt (by omega)]; omega)
theorem fcmp_me {b : UInt32} (h : FP.fIsNaN b = false) (op : CmpOp) : Op.cmpValue (FP.fcmp b b) op = 0 := by
  have h1 : FP.fcmp b b = some .eq := fc_cmp h
  rw [h1]
  rfl
theorem kUp_nw {h : kH} {a b : Nat} {t : kT} {e : kE} {v : kT × kE} (ha : h a = none) (hb : h b = some v) : kUp h a t e b = some v := by
  rw [kUp_ne, hb]
  intro q
  subst q
  rw [ha] at hb
  cases hb
theorem kW.gen {x : kX} {k n : Nat} {h : kH} {pc : Nat} {lv : List (Nat × Value)} {st : List Value} (P : kH → Prop) (hP : P h) (kk : ∀ h', P h' → kW x k n h' pc lv st) : kW x k n h pc lv st := kk h hP
def layQ (L : List Int32) (B : Nat → Int32) (v : Nat) (R : Nat → Int32) : PS := setupS B L.length SX7_222 SX7_196 SX7_230 SX7_214 (startS B L.length v, upd R 7 (-1))
def scI : Nat → Int32 := upd (fun _ => 0) 11 (-1)
theorem scI_T : scI = scT (fun _ => 0) ((0, 0, 0, 0), 0, -1) := by
  funext k
  unfold scI scT scR upd
  by_cases c : k = 11
  · rw [if_pos c, if_pos c]
  · rw [if_neg c, if_neg c]
    split
    · rfl
    · split
      · rfl
      · split
        · rfl
        · split
          · rfl
          · split <;> rfl
