/-! scripts: reading them -/
abbrev QS : Type := SS × Nat × (Nat → Nat → Int32)
def scQ (sc : Nat → Int32) (q : QS) : Nat → Int32 := scT (upd sc 21 (nI q.2.1)) q.1
theorem scQ_21 {sc : Nat → Int32} {s : SS} {o o' : Nat} {ar : Nat → Nat → Int32} : upd (scQ sc (s, o, ar)) 21 (nI o') = scQ sc (s, o', ar) := by
  unfold scQ
  rw [scT_upd (by omega), upd_upd]
theorem scQ_o {sc : Nat → Int32} {q : QS} : scQ sc q 21 = nI q.2.1 := by
  unfold scQ
  rw [scT_at (by omega), upd_eq]
def orderF (B : Nat → Int32) (Ls : Nat → List Int32) (s : SS) : Option Nat := findTo (fun k => isKeyF B s (Ls k)) 10
theorem orderF_lt {B : Nat → Int32} {Ls : Nat → List Int32} {s : SS} {k : Nat} (h : orderF B Ls s = some k) : k < 10 := by
  unfold orderF findTo at h
  exact List.mem_range.mp (List.mem_of_find?_eq_some h)
theorem orderF_is {B : Nat → Int32} {Ls : Nat → List Int32} {s : SS} {k : Nat} (h : orderF B Ls s = some k) : isKeyF B s (Ls k) = true := by
  have := List.find?_some h
  exact this
def LsX7 : Nat → List Int32
  | 0 => SX7_244
  | 1 => SX7_246
  | 2 => SX7_247
  | 3 => SX7_249
  | 4 => SX7_251
  | 5 => SX7_253
  | 6 => SX7_255
  | 7 => SX7_257
  | 8 => SX7_259
  | _ => SX7_261
abbrev QA : Type := SS × (Nat → Nat → Int32)
/-- a number is read into array k at place i -/
def rdN (B : Nat → Int32) (N k i : Nat) (lo hi : Int32) (q : QA) : QA := (numS B N lo hi q.1, updA q.2 k i (nI q.1.1.2.2.2))
def rdW (B : Nat → Int32) (N i : Nat) (q : QA) : QA := (passS B N (lookS q.1), updA q.2 18 i (lookV B q.1))
def singleS (B : Nat → Int32) (N i kd : Nat) (q : QA) : QA :=
  if kd = 0 then rdN B N 19 i 1 99 (rdW B N i q) else if kd = 1 then rdN B N 19 i 1 60 q else if kd = 2 then rdN B N 19 i 0 5 q
  else if kd = 5 then rdN B N 19 i 0 2 q else if kd = 6 then rdN B N 19 i 0 20 q
  else if kd = 7 then rdN B N 20 i 1 60 (rdN B N 19 i 0 5 q) else if kd = 8 then rdN B N 20 i 1 99 (rdN B N 19 i 0 5 q)
  else rdW B N i q
def againH (B : Nat → Int32) (N w i : Nat) (q : QS) : QS :=
  let s1 := numS B N 0 20 q.1
  let s2 := mustS (isSignF B N s1 40) 1 s1
  let s3 := if s2.2.1 = 0 then mustS (decide (w < 2)) 5 s2 else s2
  (passS B N s3, q.2.1, updA q.2.2 19 i (nI q.1.1.2.2.2))
def againS (B : Nat → Int32) (N : Nat) (rec : Nat → QS → QS) (w i : Nat) (q : QS) : QS :=
  let r := rec (w + 1) (againH B N w i q)
  (signS B N 41 r.1, r.2.1, updA r.2.2 20 i (nI r.2.1))
def ord1 (B : Nat → Int32) (Ls : Nat → List Int32) (q : QS) : SS :=
  let s1 := mustS (orderF B Ls q.1).isSome 1 q.1
  if s1.2.1 = 0 then mustS (decide (q.2.1 < 30)) 5 s1 else s1
def ord2 (B : Nat → Int32) (N : Nat) (Ls : Nat → List Int32) (rec : Nat → QS → QS) (w : Nat) (q : QS) : QS :=
  if orderF B Ls q.1 = some 9 then againS B N rec w q.2.1 (goS B N (ord1 B Ls q), q.2.1 + 1, updA q.2.2 17 q.2.1 (nI 9))
  else (match orderF B Ls q.1 with
    | none => q
    | some kd => ((singleS B N q.2.1 kd (goS B N (ord1 B Ls q), updA q.2.2 17 q.2.1 (nI kd))).1, q.2.1 + 1, (singleS B N q.2.1 kd (goS B N (ord1 B Ls q), updA q.2.2 17 q.2.1 (nI kd))).2))
def orderS (B : Nat → Int32) (N : Nat) (Ls : Nat → List Int32) (rec : Nat → QS → QS) (w : Nat) (q : QS) : QS :=
  if (ord1 B Ls q).2.1 = 0 then (signS B N 59 (ord2 B N Ls rec w q).1, (ord2 B N Ls rec w q).2) else (ord1 B Ls q, q.2)
def moreF (B : Nat → Int32) (N : Nat) (s : SS) : Bool := decide (s.2.1 = 0) && (decide (s.1.2.2.1 ≠ 0) && !isSignF B N s 41)
def ordersS (B : Nat → Int32) (N : Nat) (Ls : Nat → List Int32) : Nat → Nat → QS → QS
  | 0, _, q => q
  | f + 1, w, q => if moreF B N q.1 = true then ordersS B N Ls f w (orderS B N Ls (ordersS B N Ls f) w q) else q
/-- the reader is sound, the orders fit, the text is where it was -/
def QOK (B : Nat → Int32) (N : Nat) (q : QS) : Prop := SOK N q.1 ∧ q.2.1 ≤ 30 ∧ q.2.2 9 = B
theorem updA_9 {ar : Nat → Nat → Int32} {B : Nat → Int32} {k i : Nat} {v : Int32} (h : ar 9 = B) (hk : k ≠ 9) : updA ar k i v 9 = B := (updA_n (Ne.symm hk)).trans h
theorem rdN_ok {B : Nat → Int32} {N k i : Nat} {lo hi : Int32} {q : QA} (h : SOK N q.1 ∧ q.2 9 = B) (hk : k ≠ 9) : SOK N (rdN B N k i lo hi q).1 ∧ (rdN B N k i lo hi q).2 9 = B := ⟨numS_ok h.1, updA_9 h.2 hk⟩
theorem rdW_ok {B : Nat → Int32} {N i : Nat} {q : QA} (h : SOK N q.1 ∧ q.2 9 = B) : SOK N (rdW B N i q).1 ∧ (rdW B N i q).2 9 = B := ⟨passS_ok (lookS_ok h.1), (updA_9 h.2 (by decide) : updA q.2 18 i (lookV B q.1) 9 = B)⟩
theorem singleS_ok {B : Nat → Int32} {N i kd : Nat} {q : QA} (h : SOK N q.1 ∧ q.2 9 = B) : SOK N (singleS B N i kd q).1 ∧ (singleS B N i kd q).2 9 = B := by
  unfold singleS
  repeat' split
  · exact rdN_ok (rdW_ok h) (by decide)
  · exact rdN_ok h (by decide)
  · exact rdN_ok h (by decide)
  · exact rdN_ok h (by decide)
  · exact rdN_ok h (by decide)
  · exact rdN_ok (rdN_ok h (by decide)) (by decide)
  · exact rdN_ok (rdN_ok h (by decide)) (by decide)
  · exact rdW_ok h
theorem againH_ok {B : Nat → Int32} {N w i : Nat} {q : QS} (h : QOK B N q) : QOK B N (againH B N w i q) := by
  obtain ⟨h1, h2, h3⟩ := h
  unfold againH
  dsimp only
  refine ⟨passS_ok ?_, h2, (updA_9 h3 (by decide) : updA q.2.2 19 i (nI q.1.1.2.2.2) 9 = B)⟩
  split
  · exact mustS_ok (mustS_ok (numS_ok h1) (by omega)) (by omega)
  · exact mustS_ok (numS_ok h1) (by omega)
theorem ord1_ok {B : Nat → Int32} {N : Nat} {Ls : Nat → List Int32} {q : QS} (h : SOK N q.1) : SOK N (ord1 B Ls q) := by
  unfold ord1
  dsimp only
  split
  · exact mustS_ok (mustS_ok h (by omega)) (by omega)
  · exact mustS_ok h (by omega)
theorem ord1_1 {B : Nat → Int32} {Ls : Nat → List Int32} {q : QS} : (ord1 B Ls q).1 = q.1.1 := by
  unfold ord1
  dsimp only
  split
  · rw [mustS_1, mustS_1]
  · rw [mustS_1]
theorem ord1_0 {B : Nat → Int32} {Ls : Nat → List Int32} {q : QS} (h : (ord1 B Ls q).2.1 = 0) : q.1.2.1 = 0 ∧ (orderF B Ls q.1).isSome = true ∧ q.2.1 < 30 := by
  unfold ord1 at h
  dsimp only at h
  split at h
  · rename_i c
    have h1 := (mustS_0 (by decide)).mp c
    have h2 := (mustS_0 (by decide)).mp h
    exact ⟨h1.1, h1.2, of_decide_eq_true h2.2⟩
  · rename_i c
    exact absurd h c
/-- what is kept by a reading of orders -/
def recOK (B : Nat → Int32) (N : Nat) (rec : Nat → QS → QS) : Prop := ∀ w q, QOK B N q → QOK B N (rec w q)
theorem againS_ok {B : Nat → Int32} {N w i : Nat} {rec : Nat → QS → QS} {q : QS} (hr : recOK B N rec) (h : QOK B N q) : QOK B N (againS B N rec w i q) := by
  obtain ⟨h1, h2, h3⟩ := hr (w + 1) _ (againH_ok (w := w) (i := i) h)
  exact ⟨signS_ok h1, h2, (updA_9 h3 (by decide) : updA (rec (w + 1) (againH B N w i q)).2.2 20 i (nI (rec (w + 1) (againH B N w i q)).2.1) 9 = B)⟩
theorem ord2_ok {B : Nat → Int32} {N w : Nat} {Ls : Nat → List Int32} {rec : Nat → QS → QS} {q : QS} (hr : recOK B N rec) (h : QOK B N q) (h0 : (ord1 B Ls q).2.1 = 0) : QOK B N (ord2 B N Ls rec w q) := by
  have h30 := (ord1_0 h0).2.2
  have hs := goS_ok (B := B) (ord1_ok (B := B) (Ls := Ls) h.1)
  unfold ord2
  split
  · exact againS_ok hr ⟨hs, by dsimp only; omega, (updA_9 h.2.2 (by decide) : updA q.2.2 17 q.2.1 (nI 9) 9 = B)⟩
  · split
    · exact h
    · rename_i kd e
      have := singleS_ok (i := q.2.1) (kd := kd) (q := (goS B N (ord1 B Ls q), updA q.2.2 17 q.2.1 (nI kd))) ⟨hs, (updA_9 h.2.2 (by decide) : updA q.2.2 17 q.2.1 (nI kd) 9 = B)⟩
      exact ⟨this.1, by dsimp only; omega, this.2⟩
theorem orderS_ok {B : Nat → Int32} {N w : Nat} {Ls : Nat → List Int32} {rec : Nat → QS → QS} {q : QS} (hr : recOK B N rec) (h : QOK B N q) : QOK B N (orderS B N Ls rec w q) := by
  unfold orderS
  split
  · rename_i c
    have := ord2_ok (w := w) hr h c
    exact ⟨signS_ok this.1, this.2.1, this.2.2⟩
  · exact ⟨ord1_ok h.1, h.2.1, h.2.2⟩
theorem ordersS_ok {B : Nat → Int32} {N : Nat} {Ls : Nat → List Int32} : ∀ f, recOK B N (ordersS B N Ls f)
  | 0, _, _, h => h
  | f + 1, w, q, h => by
    unfold ordersS
    split
    · exact ordersS_ok f w _ (orderS_ok (ordersS_ok f) h)
    · exact h
/-- how far the reader has come -/
def recAdv (B : Nat → Int32) (N : Nat) (rec : Nat → QS → QS) : Prop := ∀ w q b, QOK B N q → adv b q.1 → adv b (rec w q).1
theorem adv.sign {B : Nat → Int32} {N b : Nat} {c : Int32} {s : SS} (hs : SOK N s) (h : adv b s) : adv b (signS B N c s) := (h.must (by omega)).pass (mustS_ok hs (by omega))
theorem adv.single {B : Nat → Int32} {N b i kd : Nat} {q : QA} (hs : SOK N q.1) (h : adv b q.1) : adv b (singleS B N i kd q).1 := by
  unfold singleS
  repeat' split
  · exact (h.look.pass (lookS_ok hs)).num (passS_ok (lookS_ok hs))
  · exact h.num hs
  · exact h.num hs
  · exact h.num hs
  · exact h.num hs
  · exact (h.num hs).num (numS_ok hs)
  · exact (h.num hs).num (numS_ok hs)
  · exact h.look.pass (lookS_ok hs)
theorem adv_againH {B : Nat → Int32} {N b w i : Nat} {q : QS} (hs : SOK N q.1) (h : adv b q.1) : adv b (againH B N w i q).1 := by
  unfold againH
  dsimp only
  split
  · exact (((h.num hs).must (by omega)).must (by omega)).pass (mustS_ok (mustS_ok (numS_ok hs) (by omega)) (by omega))
  · exact ((h.num hs).must (by omega)).pass (mustS_ok (numS_ok hs) (by omega))
theorem moreF_s {B : Nat → Int32} {N : Nat} {s : SS} (h : moreF B N s = true) : s.2.1 = 0 ∧ s.1.2.2.1 ≠ 0 ∧ isSignF B N s 41 = false := by
  unfold moreF at h
  rw [Bool.and_eq_true, Bool.and_eq_true, decide_eq_true_eq, decide_eq_true_eq, Bool.not_eq_true'] at h
  exact h
theorem orderS_adv {B : Nat → Int32} {N w : Nat} {Ls : Nat → List Int32} {rec : Nat → QS → QS} {q : QS} (hr : recOK B N rec) (ha : recAdv B N rec) (h : QOK B N q) (hk : q.1.1.2.2.1 ≠ 0) : adv (q.1.1.2.1 + 1) (orderS B N Ls rec w q).1 := by
  unfold orderS
  split
  · rename_i c
    have h30 := (ord1_0 c).2.2
    have ho := ord1_ok (B := B) (Ls := Ls) h.1
    have hs := goS_ok (B := B) ho
    have hg : adv (q.1.1.2.1 + 1) (goS B N (ord1 B Ls q)) := by
      have := adv.goN (B := B) ho (by rw [ord1_1]; exact hk)
      rw [ord1_1] at this
      exact this
    have key : adv (q.1.1.2.1 + 1) (ord2 B N Ls rec w q).1 := by
      unfold ord2
      split
      · have hq : QOK B N (goS B N (ord1 B Ls q), q.2.1 + 1, updA q.2.2 17 q.2.1 (nI 9)) := ⟨hs, by dsimp only; omega, (updA_9 h.2.2 (by decide) : updA q.2.2 17 q.2.1 (nI 9) 9 = B)⟩
        exact (ha (w + 1) _ _ (againH_ok (w := w) (i := q.2.1) hq) (adv_againH hs hg)).sign (hr (w + 1) _ (againH_ok (w := w) (i := q.2.1) hq)).1
      · split
        · rename_i e
          have := (ord1_0 c).2.1
          rw [e] at this
          cases this
        · exact adv.single hs hg
    exact key.sign (ord2_ok (w := w) hr h c).1
  · rename_i c
    intro e
    exact absurd e c
theorem ordersS_adv {B : Nat → Int32} {N : Nat} {Ls : Nat → List Int32} : ∀ f, recAdv B N (ordersS B N Ls f)
  | 0, _, _, _, _, h => h
  | f + 1, w, q, b, hq, h => by
    unfold ordersS
    split
    · rename_i c
      obtain ⟨c1, c2, c3⟩ := moreF_s c
      refine ordersS_adv f w _ b (orderS_ok (ordersS_ok f) hq) (fun e => ?_)
      have h1 := orderS_adv (Ls := Ls) (w := w) (ordersS_ok f) (ordersS_adv f) hq c2 e
      have h2 := h c1
      omega
    · exact h
/-- fuel enough -/
def enough (N f : Nat) (s : SS) : Prop := s.2.1 = 0 → s.1.2.2.1 ≠ 0 → N + 1 - s.1.2.1 ≤ f
theorem moreF_0 {B : Nat → Int32} {N : Nat} {s : SS} (hs : SOK N s) (h : enough N 0 s) : moreF B N s = false := by
  cases hm : moreF B N s with
  | false => rfl
  | true =>
    obtain ⟨c1, c2, c3⟩ := moreF_s hm
    have h1 := h c1 c2
    have h2 := hs.1.2.1
    have h3 := hs.1.1
    omega
/-! scripts: doing them -/
def doK (R : Nat → Int32) (a : Option Nat) (n : Nat) (v1 v2 : Int32) : Nat → Option mA
  | 0 => a.map (fun a => comingF R a n)
  | 1 => some (passF R n)
  | 2 => if n < rP R then some (callF R n) else none
  | 3 => a.map (fun a => brkF R a 1)
  | 4 => a.map (fun a => brkF R a 0)
  | 5 => some (setF R 2 v1)
  | 6 => some (setF R 1 v1)
  | 7 => if n < rP R then some (ofpF R n 0 v2) else none
  | _ => if n < rP R then some (ofpF R n 1 v2) else none
def doF (R : Nat → Int32) (ar : Nat → Nat → Int32) (k : Nat) : Option mA := doK R (namedF R (ar 18 k)) (ar 19 k).toNatClampNeg (ar 19 k) (ar 20 k) (ar 17 k).toNatClampNeg
theorem doF_k {R : Nat → Int32} {ar : Nat → Nat → Int32} {k kd n : Nat} (h1 : ar 17 k = nI kd) (h2 : kd ≤ 9) (h3 : ar 19 k = nI n) (h4 : n ≤ 99) : doF R ar k = doK R (namedF R (ar 18 k)) n (nI n) (ar 20 k) kd := by
  unfold doF
  rw [h1, h3, nI_clamp (by omega), nI_clamp (by omega)]
theorem doF_b {R : Nat → Int32} {ar : Nat → Nat → Int32} {k kd : Nat} (h1 : ar 17 k = nI kd) (h2 : kd = 3 ∨ kd = 4) : doF R ar k = (namedF R (ar 18 k)).map (fun a => brkF R a (if kd = 3 then 1 else 0)) := by
  unfold doF
  rw [h1, nI_clamp (by omega)]
  rcases h2 with rfl | rfl <;> rfl
def dS (sc : Nat → Int32) : Option mA → Nat → Int32
  | some (.inl _) => upd sc 7 (sc 7 + 1)
  | _ => sc
def dR (R : Nat → Int32) : Option mA → Nat → Int32
  | none => R
  | some o => aR R o
def dB : Option mA → Bool
  | none => false
  | some o => decide (0 ≤ aV o)
theorem aS_23 {sc : Nat → Int32} {u : Nat} {o : mA} (h : sc 23 = 1) : aS sc u o = dS sc (some o) := by
  cases o with
  | inl c => rfl
  | inr q => exact if_neg (by rw [h]; decide)
theorem aA_23 {sc R : Nat → Int32} {ar : Nat → Nat → Int32} {u : Nat} {o : mA} (h : sc 23 = 1) : aA sc R ar u o = ar := by
  cases o with
  | inl c => rfl
  | inr q => exact if_neg (by rw [h]; decide)
abbrev ST : Type := (Nat → Int32) × Int32 × Nat
def aF (rf : Int32) : mA → Int32
  | .inl _ => rf + 1
  | .inr _ => rf
def stepD (ar : Nat → Nat → Int32) (k : Nat) (t : ST) : Bool × ST := if t.2.2 = 40 then (false, t) else match doF t.1 ar k with
  | none => (false, t)
  | some o => if 0 ≤ aV o then (true, aR t.1 o, aF t.2.1 o, t.2.2 + 1) else (false, aR t.1 o, aF t.2.1 o, t.2.2)
def iterD (f : ST → Bool × ST) : Nat → ST → Bool × ST
  | 0, t => (true, t)
  | n + 1, t => if (f t).1 = true then iterD f n (f t).2 else (false, (f t).2)
def onN (ar : Nat → Nat → Int32) (k : Nat) : Nat := (ar 19 k).toNatClampNeg
def twN (ar : Nat → Nat → Int32) (k : Nat) : Nat := (ar 20 k).toNatClampNeg
def doesW (rec : Nat → Nat → ST → Bool × ST) (ar : Nat → Nat → Int32) : Nat → Nat → Nat → ST → Bool × ST
  | 0, _, _, t => (true, t)
  | n + 1, k, e, t => if k < e then (if ar 17 k = 9 then (if (iterD (rec (k + 1) (twN ar k)) (onN ar k) t).1 = true then doesW rec ar n (twN ar k) e (iterD (rec (k + 1) (twN ar k)) (onN ar k) t).2 else (false, (iterD (rec (k + 1) (twN ar k)) (onN ar k) t).2))
      else (if (stepD ar k t).1 = true then doesW rec ar n (k + 1) e (stepD ar k t).2 else (false, (stepD ar k t).2))) else (true, t)
def doesD (ar : Nat → Nat → Int32) : Nat → Nat → Nat → ST → Bool × ST
  | 0, k, e, t => doesW (fun _ _ t => (true, t)) ar 31 k e t
  | d + 1, k, e, t => doesW (doesD ar d) ar 31 k e t
/-- the orders from k to e nest at most d deep, and their numbers are such as were read -/
def nestO (ar : Nat → Nat → Int32) : Nat → Nat → Nat → Prop
  | 0, k, e => ∀ i, k ≤ i → i < e → ar 17 i ≠ 9
  | d + 1, k, e => ∀ i, k ≤ i → i < e → ar 17 i = 9 → ∃ t, ar 20 i = nI t ∧ i < t ∧ t ≤ e ∧ nestO ar d (i + 1) t
theorem nestO_sub {ar : Nat → Nat → Int32} : ∀ {d k k' e : Nat}, nestO ar d k e → k ≤ k' → nestO ar d k' e
  | 0, _, _, _, h, hk => fun i h1 h2 => h i (by omega) h2
  | _ + 1, _, _, _, h, hk => fun i h1 h2 => h i (by omega) h2
/-- an order that can be done -/
def ordI (ar : Nat → Nat → Int32) (i : Nat) : Prop := ∃ kd, ar 17 i = nI kd ∧ kd ≤ 9 ∧ (kd ≠ 3 → kd ≠ 4 → ∃ j, ar 19 i = nI j ∧ j ≤ 99)
def ordOK (ar : Nat → Nat → Int32) (n : Nat) : Prop := ∀ i, i < n → ordI ar i
/-! what acts keep -/
theorem RT.up {R : Nat → Int32} {i : Nat} {v : Int32} (h : RT R) (hi : i = 1 ∨ i = 2 ∨ 9 ≤ i) (hc : ∀ a, a < 8 → i ≠ 17 + 6 * a + 3) : RT (upd R i v) := by
  refine ⟨h.1.of (upd_ne (by omega)) (upd_ne (by omega)) (upd_ne (by omega)) (upd_ne (by omega)), fun a ha => ?_, fun e => ?_⟩
  · obtain ⟨c, h1, h2⟩ := h.2.1 a ha
    exact ⟨c, h1, by unfold mOf; rw [upd_ne (Ne.symm (hc a ha))]; exact h2⟩
  · rw [upd_ne (by omega)] at e
    rw [rNx_eq (upd_ne (by omega))]
    exact h.2.2 e
theorem RT.cars {R : Nat → Int32} {a n : Nat} (h : RT R) (ha : a < 8) (hn : n ≤ 99) : RT (upd R (17 + 6 * a + 3) (nI n)) := by
  refine ⟨h.1.of (upd_ne (by omega)) (upd_ne (by omega)) (upd_ne (by omega)) (upd_ne (by omega)), fun b hb => ?_, fun e => ?_⟩
  · by_cases c : b = a
    · subst c
      exact ⟨n, hn, by unfold mOf; exact upd_eq⟩
    · obtain ⟨d, h1, h2⟩ := h.2.1 b hb
      exact ⟨d, h1, by unfold mOf; rw [upd_ne (by omega)]; exact h2⟩
  · rw [upd_ne (by omega)] at e
    rw [rNx_eq (upd_ne (by omega))]
    exact h.2.2 e
theorem RT_comeTo {R : Nat → Int32} {a c : Nat} (h : RT R) : ∀ k, RT (comeTo R a c k)
  | 0 => h
  | k + 1 => (RT_comeTo h k).up (by omega) (fun b hb => by omega)
theorem RT.come {R : Nat → Int32} {a n : Nat} (h : RT R) (ha : a < 8) (hn : n ≤ 99) : RT (aR R (comingF R a n)) := by
  unfold comingF
  split
  · exact h
  · rename_i c
    obtain ⟨d, h1, h2⟩ := h.2.1 a ha
    rw [h2, nI_add, show (99 : Int32) = nI 99 from rfl, nI_ltE (by omega) (by omega)] at c
    show RT (comeF R a n)
    unfold comeF cntF
    rw [h2, nI_add]
    exact (((RT_comeTo h n).cars ha (by omega)).up (by omega) (fun b hb => by omega)).up (by omega) (fun b hb => by omega)
theorem RT.call {R : Nat → Int32} {p : Nat} (h : RT R) : RT (aR R (callF R p)) := by
  unfold callF
  split
  · exact h
  · show RT (cntF (upd R (129 + 12 * p + 2) 1) 5 1)
    exact (h.up (by omega) (fun b hb => by omega)).up (by omega) (fun b hb => by omega)
theorem RT.brk {R : Nat → Int32} {a : Nat} {v : Int32} (h : RT R) (ha : a < 8) : RT (aR R (brkF R a v)) := by
  unfold brkF
  split
  · exact h
  · exact h.up (by omega) (fun b hb => by omega)
theorem RT.cls {R : Nat → Int32} {a b : Nat} {so : Bool} (h : RT R) : RT (aR R (clsF R a b so)) := by
  unfold clsF
  split
  · exact h
  · exact (h.up (by omega) (fun b hb => by omega)).up (by omega) (fun b hb => by omega)
theorem RT.ofp {R : Nat → Int32} {p w : Nat} {v : Int32} (h : RT R) : RT (aR R (ofpF R p w v)) := by
  unfold ofpF
  split
  · exact h
  · exact h.up (by omega) (fun b hb => by omega)
theorem RT.pass {R : Nat → Int32} {n : Nat} (h : RT R) : RT (aR R (passF R n)) := by
  unfold passF
  split
  · exact h
  · exact h.atN n
theorem RT_doK {R : Nat → Int32} {a : Option Nat} {n kd : Nat} {v1 v2 : Int32} (h : RT R) (ha : ∀ q, a = some q → q < 8) (hn : n ≤ 99) : RT (dR R (doK R a n v1 v2 kd)) := by
  unfold doK
  split
  · cases a with
    | none => exact h
    | some q => exact h.come (ha q rfl) hn
  · exact h.pass
  · split
    · exact h.call
    · exact h
  · cases a with
    | none => exact h
    | some q => exact h.brk (ha q rfl)
  · cases a with
    | none => exact h
    | some q => exact h.brk (ha q rfl)
  · exact h.up (by omega) (fun b hb => by omega)
  · exact h.up (by omega) (fun b hb => by omega)
  · split
    · exact h.ofp
    · exact h
  · split
    · exact h.ofp
    · exact h
theorem RT_doF {R : Nat → Int32} {ar : Nat → Nat → Int32} {k : Nat} (h : RT R) (ho : ordI ar k) : RT (dR R (doF R ar k)) := by
  have ha : ∀ q, namedF R (ar 18 k) = some q → q < 8 := fun q hq => by have := namedF_lt hq; have := h.1.2.1; omega
  obtain ⟨kd, h1, h2, h3⟩ := ho
  by_cases c : kd = 3 ∨ kd = 4
  · rw [doF_b h1 c]
    cases hx : namedF R (ar 18 k) with
    | none => exact h
    | some q => exact h.brk (ha q hx)
  · obtain ⟨n, h4, h5⟩ := h3 (fun z => c (Or.inl z)) (fun z => c (Or.inr z))
    rw [doF_k h1 h2 h4 h5]
    exact RT_doK h ha h5
def STok (t : ST) : Prop := RT t.1 ∧ t.2.2 ≤ 40
def dRf (rf : Int32) : Option mA → Int32
  | some (.inl _) => rf + 1
  | _ => rf
theorem stepD_eq {ar : Nat → Nat → Int32} {k : Nat} {t : ST} (h : t.2.2 ≠ 40) : stepD ar k t = (dB (doF t.1 ar k), dR t.1 (doF t.1 ar k), dRf t.2.1 (doF t.1 ar k), if dB (doF t.1 ar k) = true then t.2.2 + 1 else t.2.2) := by
  unfold stepD
  rw [if_neg h]
  cases doF t.1 ar k with
  | none => rfl
  | some o =>
    dsimp only
    by_cases c : 0 ≤ aV o
    · have e : dB (some o) = true := decide_eq_true c
      rw [if_pos c, e, if_pos rfl]
      cases o <;> rfl
    · have e : dB (some o) = false := decide_eq_false c
      rw [if_neg c, e, if_neg (by decide)]
      cases o <;> rfl
theorem stepD_ok {ar : Nat → Nat → Int32} {k : Nat} {t : ST} (h : STok t) (ho : ordI ar k) : STok (stepD ar k t).2 := by
  by_cases c : t.2.2 = 40
  · unfold stepD
    rw [if_pos c]
    exact h
  · rw [stepD_eq c]
    refine ⟨RT_doF h.1 ho, ?_⟩
    dsimp only
    have := h.2
    split <;> omega
theorem iterD_ok {f : ST → Bool × ST} (hf : ∀ t, STok t → STok (f t).2) : ∀ (n : Nat) {t : ST}, STok t → STok (iterD f n t).2
  | 0, _, h => h
  | n + 1, t, h => by
    unfold iterD
    split
    · exact iterD_ok hf n (hf t h)
    · exact hf t h
theorem doesW_ok {rec : Nat → Nat → ST → Bool × ST} {ar : Nat → Nat → Int32} {Q : Nat → Nat → Prop} (hr : ∀ k e t, Q k e → STok t → STok (rec k e t).2) {E : Nat} (hE : E ≤ 30) (ho : ordOK ar E) : ∀ (n k e : Nat) {t : ST}, e ≤ E → (∀ i, k ≤ i → i < e → ar 17 i = 9 → ∃ t, ar 20 i = nI t ∧ i < t ∧ t ≤ e ∧ Q (i + 1) t) → STok t → STok (doesW rec ar n k e t).2
  | 0, _, _, _, _, _, h => h
  | n + 1, k, e, t, he, hN, h => by
    unfold doesW
    split
    · rename_i hk
      split
      · rename_i h9
        obtain ⟨z, z1, z2, z3, z4⟩ := hN k (Nat.le_refl _) hk h9
        have ez : twN ar k = z := by unfold twN; rw [z1, nI_clamp (by omega)]
        rw [ez]
        have h1 := iterD_ok (f := rec (k + 1) z) (fun t ht => hr _ _ t z4 ht) (onN ar k) h
        split
        · exact doesW_ok hr hE ho n z e he (fun i a b c => hN i (by omega) b c) h1
        · exact h1
      · have h1 := stepD_ok h (ho k (by omega))
        split
        · exact doesW_ok hr hE ho n (k + 1) e he (fun i a b c => hN i (by omega) b c) h1
        · exact h1
    · exact h
theorem doesD_ok {ar : Nat → Nat → Int32} {E : Nat} (hE : E ≤ 30) (ho : ordOK ar E) : ∀ (d k e : Nat) {t : ST}, e ≤ E → nestO ar d k e → STok t → STok (doesD ar d k e t).2
  | 0, k, e, t, he, hN, ht => doesW_ok (Q := fun _ _ => False) (fun _ _ _ z => absurd z id) hE ho 31 k e he (fun i a b c => absurd c (hN i a b)) ht
  | d + 1, k, e, t, he, hN, ht => by
    refine doesW_ok (rec := doesD ar d) (Q := fun k1 e1 => e1 ≤ E ∧ nestO ar d k1 e1) (fun k1 e1 t1 z ht1 => doesD_ok hE ho d k1 e1 z.1 z.2 ht1) hE ho 31 k e he (fun i a b c => ?_) ht
    obtain ⟨z, z1, z2, z3, z4⟩ := hN i a b c
    exact ⟨z, z1, z2, z3, by omega, z4⟩
def scD (sc : Nat → Int32) (t : ST) : Nat → Int32 := upd (upd sc 7 t.2.1) 22 (nI t.2.2)
theorem scD_22 {sc : Nat → Int32} {t : ST} : scD sc t 22 = nI t.2.2 := upd_eq
theorem scD_7 {sc : Nat → Int32} {t : ST} : scD sc t 7 = t.2.1 := by unfold scD; rw [upd_ne (by omega), upd_eq]
theorem upd_comm {f : Nat → Int32} {i j : Nat} {v w : Int32} (h : i ≠ j) : upd (upd f i v) j w = upd (upd f j w) i v := by
  funext k
  unfold upd
  by_cases c : k = j
  · rw [if_pos c, if_neg (by omega), if_pos c]
  · rw [if_neg c]
    by_cases d : k = i
    · rw [if_pos d, if_pos d]
    · rw [if_neg d, if_neg d, if_neg c]
theorem scD_dS {sc R' : Nat → Int32} {t : ST} {o : Option mA} : dS (scD sc t) o = scD sc (R', dRf t.2.1 o, t.2.2) := by
  cases o with
  | none => rfl
  | some o =>
    cases o with
    | inr q => rfl
    | inl c =>
      show upd (scD sc t) 7 (scD sc t 7 + 1) = _
      rw [scD_7]
      unfold scD
      rw [upd_comm (by omega), upd_upd]
      rfl
theorem scD_s {sc R' : Nat → Int32} {rf : Int32} {d : Nat} : upd (scD sc (R', rf, d)) 22 (nI (d + 1)) = scD sc (R', rf, d + 1) := upd_upd
