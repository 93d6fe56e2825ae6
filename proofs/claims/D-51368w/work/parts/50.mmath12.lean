/-! scripts: what was read can be done -/
theorem nestO_mono {ar : Nat → Nat → Int32} : ∀ {d k e : Nat}, nestO ar d k e → nestO ar (d + 1) k e
  | 0, _, _, h => fun i a b c => absurd c (h i a b)
  | _ + 1, _, _, h => fun i a b c => by
    obtain ⟨t, t1, t2, t3, t4⟩ := h i a b c
    exact ⟨t, t1, t2, t3, nestO_mono t4⟩
theorem nestO_congr {ar ar' : Nat → Nat → Int32} : ∀ {d k e : Nat}, (∀ i, i < e → ar' 17 i = ar 17 i) → (∀ i, i < e → ar' 20 i = ar 20 i) → nestO ar d k e → nestO ar' d k e
  | 0, _, _, h1, _, h => fun i a b => by rw [h1 i b]; exact h i a b
  | _ + 1, _, _, h1, h2, h => fun i a b c => by
    rw [h1 i b] at c
    obtain ⟨t, t1, t2, t3, t4⟩ := h i a b c
    exact ⟨t, by rw [h2 i b]; exact t1, t2, t3, nestO_congr (fun j hj => h1 j (by omega)) (fun j hj => h2 j (by omega)) t4⟩
theorem nestO_join {ar : Nat → Nat → Int32} {a b c : Nat} (hb : b ≤ c) : ∀ {d : Nat}, nestO ar d a b → nestO ar d b c → nestO ar d a c
  | 0, h1, h2 => fun i x y => if z : i < b then h1 i x z else h2 i (by omega) y
  | _ + 1, h1, h2 => fun i x y w => by
    by_cases z : i < b
    · obtain ⟨t, t1, t2, t3, t4⟩ := h1 i x z w
      exact ⟨t, t1, t2, by omega, t4⟩
    · exact h2 i (by omega) y w
theorem doesW_congr {ar ar' : Nat → Nat → Int32} {rec rec' : Nat → Nat → ST → Bool × ST} (h7 : ∀ i, ar' 17 i = ar 17 i) (h8 : ∀ i, ar' 18 i = ar 18 i) (h9 : ∀ i, ar' 19 i = ar 19 i) (h0 : ∀ i, ar' 20 i = ar 20 i) (hr : ∀ k e t, rec' k e t = rec k e t) : ∀ (n k e : Nat) (t : ST), doesW rec' ar' n k e t = doesW rec ar n k e t
  | 0, _, _, _ => rfl
  | n + 1, k, e, t => by
    have e1 : stepD ar' k t = stepD ar k t := by unfold stepD doF; rw [h7, h8, h9, h0]
    have e2 : twN ar' k = twN ar k := by unfold twN; rw [h0]
    have e3 : onN ar' k = onN ar k := by unfold onN; rw [h9]
    have e4 : rec' (k + 1) (twN ar k) = rec (k + 1) (twN ar k) := funext (fun t => hr _ _ t)
    unfold doesW
    rw [e1, e2, e3, h7, e4, doesW_congr h7 h8 h9 h0 hr n, doesW_congr h7 h8 h9 h0 hr n]
theorem doesD_congr {ar ar' : Nat → Nat → Int32} (h7 : ∀ i, ar' 17 i = ar 17 i) (h8 : ∀ i, ar' 18 i = ar 18 i) (h9 : ∀ i, ar' 19 i = ar 19 i) (h0 : ∀ i, ar' 20 i = ar 20 i) : ∀ (d k e : Nat) (t : ST), doesD ar' d k e t = doesD ar d k e t
  | 0, k, e, t => doesW_congr h7 h8 h9 h0 (fun _ _ _ => rfl) 31 k e t
  | d + 1, k, e, t => doesW_congr h7 h8 h9 h0 (fun k e t => doesD_congr h7 h8 h9 h0 d k e t) 31 k e t
theorem numS_0 {B : Nat → Int32} {N : Nat} {lo hi : Int32} {s : SS} (h : (numS B N lo hi s).2.1 = 0) : s.2.1 = 0 ∧ s.1.2.2.1 = 2 ∧ inF (nI s.1.2.2.2) lo hi = true := by
  unfold numS at h
  dsimp only at h
  rw [passS_c] at h
  split at h
  · rename_i q
    have h1 := (mustS_0 (by decide)).mp q
    have h2 := (mustS_0 (by decide)).mp h
    exact ⟨h1.1, of_decide_eq_true h1.2, h2.2⟩
  · rename_i q
    exact absurd h q
theorem signS_0 {B : Nat → Int32} {N : Nat} {c : Int32} {s : SS} (h : (signS B N c s).2.1 = 0) : s.2.1 = 0 := by
  unfold signS at h
  rw [passS_c] at h
  exact ((mustS_0 (by decide)).mp h).1
/-- what a reading of orders adds -/
def ordP (w : Nat) (q q' : QS) : Prop := q'.1.2.1 = 0 → q.1.2.1 = 0 ∧ q.2.1 ≤ q'.2.1 ∧ (∀ k i, i < q.2.1 → q'.2.2 k i = q.2.2 k i) ∧ (∀ i, q.2.1 ≤ i → i < q'.2.1 → ordI q'.2.2 i) ∧ nestO q'.2.2 (3 - w) q.2.1 q'.2.1
theorem ordI_congr {ar ar' : Nat → Nat → Int32} {i : Nat} (h : ∀ k, ar' k i = ar k i) (ho : ordI ar i) : ordI ar' i := by
  obtain ⟨kd, h1, h2, h3⟩ := ho
  exact ⟨kd, by rw [h]; exact h1, h2, fun a b => by
    obtain ⟨j, j1, j2⟩ := h3 a b
    exact ⟨j, by rw [h]; exact j1, j2⟩⟩
theorem ordP.rf {w : Nat} {q : QS} : ordP w q q := fun h => by
  refine ⟨h, Nat.le_refl _, fun _ _ _ => rfl, fun i a b => absurd b (by omega), ?_⟩
  cases 3 - w with
  | zero => exact fun i a b => absurd b (by omega)
  | succ d => exact fun i a b => absurd b (by omega)
theorem ordP.tr {w : Nat} {q q1 q2 : QS} (h1 : ordP w q q1) (h2 : ordP w q1 q2) : ordP w q q2 := fun h => by
  obtain ⟨b1, b2, b3, b4, b5⟩ := h2 h
  obtain ⟨a1, a2, a3, a4, a5⟩ := h1 b1
  refine ⟨a1, by omega, fun k i hi => (b3 k i (by omega)).trans (a3 k i hi), fun i x y => ?_, nestO_join b2 (nestO_congr (fun i hi => b3 17 i hi) (fun i hi => b3 20 i hi) a5) b5⟩
  by_cases c : i < q1.2.1
  · exact ordI_congr (fun k => b3 k i c) (a4 i x c)
  · exact b4 i (by omega) y
theorem updA_o {ar : Nat → Nat → Int32} {k j i k' : Nat} {v : Int32} (h : i ≠ j) : updA ar k j v k' i = ar k' i := by
  unfold updA
  split
  · rename_i e
    rw [e]
    exact upd_ne h
  · rfl
theorem updA_e {ar : Nat → Nat → Int32} {k j : Nat} {v : Int32} : updA ar k j v k j = v := by rw [updA_s]; exact upd_eq
theorem inF_99 {v : Nat} {lo hi : Int32} (h : inF (nI v) lo hi = true) (hh : hi ≤ 99) (hv : v ≤ 1000) : v ≤ 99 := by
  unfold inF at h
  rw [Bool.and_eq_true, decide_eq_true_eq, decide_eq_true_eq] at h
  have h1 := h.2
  rw [Int32.le_iff_toInt_le] at h1 hh
  rw [nI_toInt (by omega)] at h1
  have : (99 : Int32).toInt = 99 := by decide
  omega
theorem singleS_P {B : Nat → Int32} {N i kd : Nat} {q : QA} (hs : SOK N q.1) (hk : kd ≤ 8) (h0 : (singleS B N i kd q).1.2.1 = 0) : q.1.2.1 = 0 ∧ (∀ k j, j ≠ i → (singleS B N i kd q).2 k j = q.2 k j) ∧ (singleS B N i kd q).2 17 i = q.2 17 i ∧ (kd ≠ 3 → kd ≠ 4 → ∃ j, (singleS B N i kd q).2 19 i = nI j ∧ j ≤ 99) := by
  have key : ∀ {lo hi : Int32} {q : QA}, SOK N q.1 → hi ≤ 99 → (rdN B N 19 i lo hi q).1.2.1 = 0 → q.1.2.1 = 0 ∧ (∀ k j, j ≠ i → (rdN B N 19 i lo hi q).2 k j = q.2 k j) ∧ (rdN B N 19 i lo hi q).2 17 i = q.2 17 i ∧ ∃ j, (rdN B N 19 i lo hi q).2 19 i = nI j ∧ j ≤ 99 := by
    intro lo hi q hs hh h
    obtain ⟨h1, h2, h3⟩ := numS_0 h
    exact ⟨h1, fun k j hj => updA_o hj, rfl, q.1.1.2.2.2, (updA_e : updA q.2 19 i (nI q.1.1.2.2.2) 19 i = nI q.1.1.2.2.2), inF_99 h3 hh hs.1.2.2.2.1⟩
  have keyW : ∀ {q : QA}, (rdW B N i q).1.2.1 = 0 → q.1.2.1 = 0 ∧ (∀ k j, j ≠ i → (rdW B N i q).2 k j = q.2 k j) ∧ (rdW B N i q).2 17 i = q.2 17 i := by
    intro q h
    unfold rdW at h
    rw [passS_c] at h
    exact ⟨lookS_c h, fun k j hj => updA_o hj, rfl⟩
  have key2 : ∀ {lo hi lo2 hi2 : Int32} {q : QA}, SOK N q.1 → hi ≤ 99 → (rdN B N 20 i lo2 hi2 (rdN B N 19 i lo hi q)).1.2.1 = 0 → q.1.2.1 = 0 ∧ (∀ k j, j ≠ i → (rdN B N 20 i lo2 hi2 (rdN B N 19 i lo hi q)).2 k j = q.2 k j) ∧ (rdN B N 20 i lo2 hi2 (rdN B N 19 i lo hi q)).2 17 i = q.2 17 i ∧ ∃ j, (rdN B N 20 i lo2 hi2 (rdN B N 19 i lo hi q)).2 19 i = nI j ∧ j ≤ 99 := by
    intro lo hi lo2 hi2 q hs hh h
    obtain ⟨a1, a2, a3, a4⟩ := key hs hh (numS_0 h).1
    exact ⟨a1, fun k j hj => (updA_o hj).trans (a2 k j hj), a3, a4⟩
  unfold singleS at h0 ⊢
  rcases (show kd = 0 ∨ kd = 1 ∨ kd = 2 ∨ kd = 3 ∨ kd = 4 ∨ kd = 5 ∨ kd = 6 ∨ kd = 7 ∨ kd = 8 by omega) with rfl | rfl | rfl | rfl | rfl | rfl | rfl | rfl | rfl
  · obtain ⟨a1, a2, a3, a4⟩ := key (q := rdW B N i q) (passS_ok (lookS_ok hs)) (by decide) h0
    obtain ⟨b1, b2, b3⟩ := keyW a1
    exact ⟨b1, fun k j hj => (a2 k j hj).trans (b2 k j hj), a3.trans b3, fun _ _ => a4⟩
  · obtain ⟨a1, a2, a3, a4⟩ := key hs (by decide) h0
    exact ⟨a1, a2, a3, fun _ _ => a4⟩
  · obtain ⟨a1, a2, a3, a4⟩ := key hs (by decide) h0
    exact ⟨a1, a2, a3, fun _ _ => a4⟩
  · obtain ⟨b1, b2, b3⟩ := keyW h0
    exact ⟨b1, b2, b3, fun a _ => absurd rfl a⟩
  · obtain ⟨b1, b2, b3⟩ := keyW h0
    exact ⟨b1, b2, b3, fun _ a => absurd rfl a⟩
  · obtain ⟨a1, a2, a3, a4⟩ := key hs (by decide) h0
    exact ⟨a1, a2, a3, fun _ _ => a4⟩
  · obtain ⟨a1, a2, a3, a4⟩ := key hs (by decide) h0
    exact ⟨a1, a2, a3, fun _ _ => a4⟩
  · obtain ⟨a1, a2, a3, a4⟩ := key2 hs (by decide) h0
    exact ⟨a1, a2, a3, fun _ _ => a4⟩
  · obtain ⟨a1, a2, a3, a4⟩ := key2 hs (by decide) h0
    exact ⟨a1, a2, a3, fun _ _ => a4⟩
theorem againH_0 {B : Nat → Int32} {N w i : Nat} {q : QS} (h : (againH B N w i q).1.2.1 = 0) : q.1.2.1 = 0 ∧ w < 2 ∧ inF (nI q.1.1.2.2.2) 0 20 = true := by
  unfold againH at h
  dsimp only at h
  rw [passS_c] at h
  split at h
  · rename_i c
    have h1 := (mustS_0 (by decide)).mp c
    have h2 := (mustS_0 (by decide)).mp h
    have h3 := numS_0 h1.1
    exact ⟨h3.1, of_decide_eq_true h2.2, h3.2.2⟩
  · rename_i c
    exact absurd h c
theorem nestO_off {ar : Nat → Nat → Int32} {j : Nat} {v : Int32} : ∀ {d k e : Nat}, nestO ar d k e → j < k → nestO (updA ar 20 j v) d k e
  | 0, _, _, h, _ => fun i a b => h i a b
  | _ + 1, _, _, h, hj => fun i a b c => by
    obtain ⟨t, t1, t2, t3, t4⟩ := h i a b c
    exact ⟨t, by rw [updA_o (by omega)]; exact t1, t2, t3, nestO_off t4 (by omega)⟩
theorem orderS_P {B : Nat → Int32} {N w : Nat} {Ls : Nat → List Int32} {rec : Nat → QS → QS} {q : QS} (hr : recOK B N rec) (hp : ∀ w q, QOK B N q → ordP w q (rec w q)) (h : QOK B N q) : ordP w q (orderS B N Ls rec w q) := by
  intro hz
  unfold orderS at hz ⊢
  by_cases c : (ord1 B Ls q).2.1 = 0
  · rw [if_pos c] at hz ⊢
    have hc := ord1_0 c
    have hz2 := signS_0 hz
    obtain ⟨kd, hkd⟩ := Option.isSome_iff_exists.mp hc.2.1
    have hkl := orderF_lt hkd
    have hs := goS_ok (B := B) (ord1_ok (B := B) (Ls := Ls) h.1)
    dsimp only at hz2 ⊢
    unfold ord2 at hz2 ⊢
    by_cases c9 : orderF B Ls q.1 = some 9
    · rw [if_pos c9] at hz2 ⊢
      have hz3 := signS_0 hz2
      have hq3 : QOK B N (goS B N (ord1 B Ls q), q.2.1 + 1, updA q.2.2 17 q.2.1 (nI 9)) := ⟨hs, by dsimp only; omega, (updA_9 h.2.2 (by decide) : updA q.2.2 17 q.2.1 (nI 9) 9 = B)⟩
      have hH := againH_ok (w := w) (i := q.2.1) hq3
      obtain ⟨a1, a2, a3, a4, a5⟩ := hp (w + 1) _ hH hz3
      obtain ⟨b1, b2, b3⟩ := againH_0 a1
      unfold againS
      dsimp only
      generalize hre : rec (w + 1) (againH B N w q.2.1 (goS B N (ord1 B Ls q), q.2.1 + 1, updA q.2.2 17 q.2.1 (nI 9))) = r at a1 a2 a3 a4 a5 hz3
      have ho1 : (againH B N w q.2.1 (goS B N (ord1 B Ls q), q.2.1 + 1, updA q.2.2 17 q.2.1 (nI 9))).2.1 = q.2.1 + 1 := rfl
      have ha1 : (againH B N w q.2.1 (goS B N (ord1 B Ls q), q.2.1 + 1, updA q.2.2 17 q.2.1 (nI 9))).2.2 = updA (updA q.2.2 17 q.2.1 (nI 9)) 19 q.2.1 (nI (goS B N (ord1 B Ls q)).1.2.2.2) := rfl
      rw [ho1] at a2 a3 a4 a5
      rw [ha1] at a3
      have e17 : r.2.2 17 q.2.1 = nI 9 := by
        rw [a3 17 q.2.1 (by omega)]
        show updA q.2.2 17 q.2.1 (nI 9) 17 q.2.1 = nI 9
        exact updA_e
      have e19 : r.2.2 19 q.2.1 = nI (goS B N (ord1 B Ls q)).1.2.2.2 := by
        rw [a3 19 q.2.1 (by omega)]
        exact updA_e
      have f17 : ∀ i, updA r.2.2 20 q.2.1 (nI r.2.1) 17 i = r.2.2 17 i := fun i => rfl
      have f19 : ∀ i, updA r.2.2 20 q.2.1 (nI r.2.1) 19 i = r.2.2 19 i := fun i => rfl
      have f20 : ∀ i, i ≠ q.2.1 → updA r.2.2 20 q.2.1 (nI r.2.1) 20 i = r.2.2 20 i := fun i hi => updA_o hi
      refine ⟨hc.1, by omega, fun k i hi => ?_, fun i x y => ?_, ?_⟩
      · rw [updA_o (by omega), a3 k i (by omega), updA_o (by omega), updA_o (by omega)]
      · by_cases ei : i = q.2.1
        · subst ei
          exact ⟨9, e17, by omega, fun _ _ => ⟨_, e19, inF_99 b3 (by decide) hs.1.2.2.2.1⟩⟩
        · obtain ⟨k1, k2, k3, k4⟩ := a4 i (by omega) y
          exact ⟨k1, k2, k3, k4⟩
      · obtain ⟨d, hd⟩ : ∃ d, 3 - w = d + 1 := ⟨2 - w, by omega⟩
        rw [show 3 - (w + 1) = d by omega] at a5
        rw [hd]
        intro i x y z
        by_cases ei : i = q.2.1
        · subst ei
          refine ⟨r.2.1, updA_e, by omega, Nat.le_refl _, ?_⟩
          cases d with
          | zero => exact fun i x y => a5 i x y
          | succ d =>
            intro i x y z
            obtain ⟨t, t1, t2, t3, t4⟩ := a5 i x y z
            exact ⟨t, by rw [f20 i (by omega)]; exact t1, t2, t3, nestO_off t4 (by omega)⟩
        · have z' : r.2.2 17 i = 9 := z
          cases d with
          | zero => exact absurd z' (a5 i (by omega) y)
          | succ d =>
            obtain ⟨t, t1, t2, t3, t4⟩ := a5 i (by omega) y z'
            exact ⟨t, by rw [f20 i ei]; exact t1, t2, t3, nestO_off (nestO_mono t4) (by omega)⟩
    · rw [if_neg c9, hkd] at hz2 ⊢
      dsimp only at hz2 ⊢
      have hk8 : kd ≤ 8 := by
        have : kd ≠ 9 := fun z => c9 (by rw [hkd, z])
        omega
      obtain ⟨a1, a2, a3, a4⟩ := singleS_P (i := q.2.1) hs hk8 hz2
      have e17 : (singleS B N q.2.1 kd (goS B N (ord1 B Ls q), updA q.2.2 17 q.2.1 (nI kd))).2 17 q.2.1 = nI kd := by
        rw [a3]
        exact (updA_e : updA q.2.2 17 q.2.1 (nI kd) 17 q.2.1 = nI kd)
      refine ⟨hc.1, by omega, fun k i hi => ?_, fun i x y => ?_, ?_⟩
      · rw [a2 k i (by omega)]
        exact updA_o (by omega)
      · have ei : i = q.2.1 := by omega
        subst ei
        exact ⟨kd, e17, by omega, a4⟩
      · have hn : ∀ i, q.2.1 ≤ i → i < q.2.1 + 1 → (singleS B N q.2.1 kd (goS B N (ord1 B Ls q), updA q.2.2 17 q.2.1 (nI kd))).2 17 i ≠ 9 := by
          intro i x y z
          have ei : i = q.2.1 := by omega
          subst ei
          rw [e17, show (9 : Int32) = nI 9 from rfl, nI_inj (by omega) (by omega)] at z
          omega
        cases 3 - w with
        | zero => exact hn
        | succ d => exact fun i x y z => absurd z (hn i x y)
  · rw [if_neg c] at hz
    exact absurd hz c
theorem ordersS_P {B : Nat → Int32} {N : Nat} {Ls : Nat → List Int32} : ∀ (f w : Nat) (q : QS), QOK B N q → ordP w q (ordersS B N Ls f w q)
  | 0, _, _, _ => ordP.rf
  | f + 1, w, q, hq => by
    unfold ordersS
    split
    · exact (orderS_P (ordersS_ok f) (fun w q h => ordersS_P f w q h) hq).tr (ordersS_P f w _ (orderS_ok (ordersS_ok f) hq))
    · exact ordP.rf
/-! play -/
def playQ0 (B : Nat → Int32) (N : Nat) (ar : Nat → Nat → Int32) (v : Nat) : QS := ordersS B N LsX7 (N + 2) 0 (startS B N v, 0, ar)
def playS (q : QS) : SS := mustS (decide (q.1.1.2.2.1 = 0)) 1 q.1
theorem playQ_nest {B : Nat → Int32} {N v : Nat} {ar : Nat → Nat → Int32} (hv : v ≤ 1000) (hB : ar 9 = B) (h : (playS (playQ0 B N ar v)).2.1 = 0) : ordOK (playQ0 B N ar v).2.2 (playQ0 B N ar v).2.1 ∧ nestO (playQ0 B N ar v).2.2 3 0 (playQ0 B N ar v).2.1 := by
  have h1 := ((mustS_0 (by decide)).mp h).1
  obtain ⟨a1, a2, a3, a4, a5⟩ := ordersS_P (Ls := LsX7) (N + 2) 0 (startS B N v, 0, ar) ⟨startS_ok hv, by dsimp only; omega, hB⟩ h1
  exact ⟨fun i hi => a4 i (Nat.zero_le _) hi, a5⟩
def playT (R : Nat → Int32) (rf : Int32) (q : QS) : ST := (doesD q.2.2 3 0 q.2.1 (R, rf, 0)).2
def playC0 (sc : Nat → Int32) (o : Nat) (s : SS) (u : Nat) (b : Int32) : Nat → Int32 := upd (upd (scT (upd (upd (upd sc 8 0) 21 (nI o)) 10 0) s) 6 (nI (keepU u + 1))) 23 b
def playV (R : Nat → Int32) (rf : Int32) (q : QS) : Int32 := if (playS q).2.1 = 0 then nI (playT R rf q).2.2 else -20 - nI (playS q).2.1
def playR (R : Nat → Int32) (rf : Int32) (q : QS) : Nat → Int32 := if (playS q).2.1 = 0 then (playT R rf q).1 else R
def playC (sc R : Nat → Int32) (q : QS) (u : Nat) : Nat → Int32 := if (playS q).2.1 = 0 then scD (playC0 sc q.2.1 (playS q) u 0) (playT R (sc 7) q) else scT (upd (upd (upd sc 8 0) 21 (nI q.2.1)) 10 0) (playS q)
def playA (R : Nat → Int32) (q : QS) (u : Nat) : Nat → Nat → Int32 := if (playS q).2.1 = 0 then setA q.2.2 3 (keepE R (q.2.2 3) u) else q.2.2
theorem playC0_7 {sc : Nat → Int32} {o u : Nat} {s : SS} {b : Int32} : playC0 sc o s u b 7 = sc 7 := by
  unfold playC0
  rw [upd_ne (by omega), upd_ne (by omega), scT_at (by omega), upd_ne (by omega), upd_ne (by omega), upd_ne (by omega)]
theorem playC0_D {sc R : Nat → Int32} {o u : Nat} {s : SS} {b : Int32} : scD (playC0 sc o s u b) (R, sc 7, 0) = upd (playC0 sc o s u b) 22 0 := by
  unfold scD
  dsimp only
  rw [← playC0_7 (sc := sc) (o := o) (u := u) (s := s) (b := b), upd_self]
  rfl
theorem playC0_21 {sc : Nat → Int32} {o u : Nat} {s : SS} {b : Int32} {t : ST} : scD (playC0 sc o s u b) t 21 = nI o := by
  unfold scD playC0
  rw [upd_ne (by omega), upd_ne (by omega), upd_ne (by omega), upd_ne (by omega), scT_at (by omega), upd_ne (by omega), upd_eq]
theorem playC0_6 {sc : Nat → Int32} {o u : Nat} {s : SS} {b : Int32} : playC0 sc o s u b 6 = nI (keepU u + 1) := by
  unfold playC0
  rw [upd_ne (by omega), upd_eq]
theorem playC0_23 {sc : Nat → Int32} {o u : Nat} {s : SS} {b : Int32} : playC0 sc o s u b 23 = b := upd_eq
theorem playC0_end {sc : Nat → Int32} {o u : Nat} {s : SS} {b c : Int32} {t : ST} : upd (scD (playC0 sc o s u b) t) 23 c = scD (playC0 sc o s u c) t := by
  unfold scD
  rw [upd_comm (by omega), upd_comm (i := 7) (j := 23) (by omega)]
  unfold playC0
  rw [upd_upd]
