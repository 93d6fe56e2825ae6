/-! LAYER 4: arrays, returns -/
abbrev eI (n : Nat) (f : Nat → Int32) : kE := .inr (.inl (0, n, .inl f))
abbrev eB (n : Nat) (f : Nat → Int32) : kE := .inr (.inl (1, n, .inl f))
abbrev eL (n : Nat) (f : Nat → Int64) : kE := .inr (.inl (2, n, .inr (.inl f)))
abbrev eZ (n : Nat) (f : Nat → Int32) : kE := .inr (.inl (3, n, .inl f))
abbrev eQ (kd n : Nat) (f : Nat → Option Nat) : kE := .inr (.inl (kd, n, .inr (.inr (.inr (.inr f)))))
abbrev eO (ci : Nat) (fs : List Value) : kE := .inl (ci, fs)
abbrev eM (site : Nat) (vs : List Value) : kE := .inr (.inr (site, vs))
section
variable {x : kX} {y : MethodName} {cc : ByteArray} {nL lev mc ms : Nat} {ret : Option FieldType} {hh : List (Nat × Nat × Nat × Nat)} {Po : kR → kH → Prop} {k n : Nat} {h : kH} {pc : Nat} {lv lv' : List (Nat × Value)} {st : List Value}
theorem kF.arr (F : kF x y cc nL ret hh lev mc ms Po) (kd : Nat) (hk : kd < 10) : ArrOfT x.s (x.g.A kd) (kAT kd) ∧ va_RA x.s (x.g.A kd) (kAT kd) := F.K.2 kd (x.g.A kd, kAT kd) (by simp [kAts, hk])
theorem kArrAt {g : kG} {h : kH} {H : Heap} (hs : kSim g h H) {a : Nat} {t : kT} {kd : Nat} {c : vp_A} (ha : h a = some (t, .inr (.inl (kd, c)))) : H[a]? = some (vp_cell (g.A kd) c) := (hs.2 a t _ ha).1
theorem kF.isA (F : kF x y cc nL ret hh lev mc ms Po) {kd : Nat} (hk : kd < 10) {H : Heap} (hs : kSim x.g h H) {a : Nat} {t : kT} {c : vp_A} (ha : kHs x.g h a t (.inr (.inl (kd, c)))) : ∃ cell : Cell, H[a]? = some cell ∧ x.s.isArrayOf cell (kAT kd) ∧ cell.vm ≠ .unknown ∧ c.1 ≤ cell.slots.size ∧ cell.slots.size.toInt32 = nI c.1 ∧ ∀ j, j < c.1 → cell.slots[j]? = some (kVr c.2 j) := by
  have hA : ArrOfT x.g.U (x.g.A kd) (kAT kd) := (F.st.2.2.1.2 kd (x.g.A kd, kAT kd) (by simp [kAts, hk])).1
  obtain ⟨cell, q1, q2, q3⟩ := hs.atA hA ha
  exact ⟨cell, q1, State.isArrayOf_alike F.hW.alike q2, q3⟩
theorem kInA {j m : Nat} {cell : Cell} (h4 : m ≤ cell.slots.size) (hj : j < m) (hm : m < 2 ^ 31) : ¬ (nI j < 0 ∨ cell.slots.size ≤ (nI j).toNatClampNeg) := by
  intro q
  rcases q with q | q
  · exact absurd q (Int32.not_lt.mpr (nI_pos' (by omega)))
  · rw [nI_clamp (by omega)] at q
    omega
theorem vp_size (cA : ClassId) (n : Nat) (c : (Nat → Int32) ⊕ (Nat → Int64) ⊕ (Nat → UInt32) ⊕ (Nat → UInt64) ⊕ (Nat → Option Nat)) : (vp_cell cA (n, c)).slots.size = n := by
  rcases c with f | f | f | f | f
  · rw [vp_cell_i, arrV_size]
  · rw [vp_cell_l, arrV_size]
  · rw [vp_cell_f, arrV_size]
  · rw [vp_cell_d, arrV_size]
  · rw [vp_cell_q, arrV_size]
theorem k_alen (F : kF x y cc nL ret hh lev mc ms Po) (hd : decode cc pc = .ok (.arraylength, 1)) (p' : Nat) (hp : pc + 1 = p') {a : Nat} {t : kT} {kd m : Nat} {c : (Nat → Int32) ⊕ (Nat → Int64) ⊕ (Nat → UInt32) ⊕ (Nat → UInt64) ⊕ (Nat → Option Nat)} (ha : kHs x.g h a t (.inr (.inl (kd, m, c)))) (hk : kd < 10) (hc : ∀ cA, ∃ f, vp_cell cA (m, c) = arrV cA m f) (kk : kW x k n h p' lv (.int (nI m) :: st)) : kW x k n h pc lv (.ref a :: st) := by
  subst hp
  intro H locs ls hs hS hl
  obtain ⟨cell, h1, h2, h3, h4, h5, h6⟩ := F.isA hk hs ha
  exact W.alen F.hx F.hb h1 h2 h5 rfl rfl hd (kk H locs ls hs hS hl)
theorem k_iald (F : kF x y cc nL ret hh lev mc ms Po) (hd : decode cc pc = .ok (.iaload, 1)) (p' : Nat) (hp : pc + 1 = p') {a m j : Nat} {t : kT} {f : Nat → Int32} {i : Int32} (ha : kHs x.g h a t (.inr (.inl (0, m, .inl f)))) (hi : i = nI j) (hj : j < m) (hm : m < 2 ^ 31) (kk : kW x k n h p' lv (.int (f j) :: st)) : kW x k n h pc lv (.int i :: .ref a :: st) := by
  subst hp
  subst hi
  intro H locs ls hs hS hl
  obtain ⟨cell, h1, h2, h3, h4, h5, h6⟩ := F.isA (show 0 < 10 by decide) hs ha
  have hc : (nI j).toNatClampNeg = j := nI_clamp (by omega)
  exact W.iald F.hx F.hb h1 h2 h3 (kInA h4 hj hm) (by rw [hc, h6 j hj]; rfl) rfl rfl hd (kk H locs ls hs hS hl)
theorem k_bald (F : kF x y cc nL ret hh lev mc ms Po) (hd : decode cc pc = .ok (.baload, 1)) (p' : Nat) (hp : pc + 1 = p') {a m j : Nat} {t : kT} {f : Nat → Int32} {i : Int32} (ha : kHs x.g h a t (.inr (.inl (1, m, .inl f)))) (hi : i = nI j) (hj : j < m) (hm : m < 2 ^ 31) (kk : kW x k n h p' lv (.int (f j) :: st)) : kW x k n h pc lv (.int i :: .ref a :: st) := by
  subst hp
  subst hi
  intro H locs ls hs hS hl
  obtain ⟨cell, h1, h2, h3, h4, h5, h6⟩ := F.isA (show 1 < 10 by decide) hs ha
  have hc : (nI j).toNatClampNeg = j := nI_clamp (by omega)
  exact W.bald F.hx F.hb h1 h2 h3 (kInA h4 hj hm) (by rw [hc, h6 j hj]; rfl) rfl rfl hd (kk H locs ls hs hS hl)
theorem k_zald (F : kF x y cc nL ret hh lev mc ms Po) (hd : decode cc pc = .ok (.baload, 1)) (p' : Nat) (hp : pc + 1 = p') {a m j : Nat} {t : kT} {f : Nat → Int32} {i : Int32} (ha : kHs x.g h a t (.inr (.inl (3, m, .inl f)))) (hi : i = nI j) (hj : j < m) (hm : m < 2 ^ 31) (kk : kW x k n h p' lv (.int (f j) :: st)) : kW x k n h pc lv (.int i :: .ref a :: st) := by
  subst hp
  subst hi
  intro H locs ls hs hS hl
  obtain ⟨cell, h1, h2, h3, h4, h5, h6⟩ := F.isA (show 3 < 10 by decide) hs ha
  have hc : (nI j).toNatClampNeg = j := nI_clamp (by omega)
  exact W.zald F.hx F.hb h1 h2 h3 (kInA h4 hj hm) (by rw [hc, h6 j hj]; rfl) rfl rfl hd (kk H locs ls hs hS hl)
theorem k_lald (F : kF x y cc nL ret hh lev mc ms Po) (hd : decode cc pc = .ok (.laload, 1)) (p' : Nat) (hp : pc + 1 = p') {a m j : Nat} {t : kT} {f : Nat → Int64} {i : Int32} (ha : kHs x.g h a t (.inr (.inl (2, m, .inr (.inl f))))) (hi : i = nI j) (hj : j < m) (hm : m < 2 ^ 31) (kk : kW x k n h p' lv (.long (f j) :: st)) : kW x k n h pc lv (.int i :: .ref a :: st) := by
  subst hp
  subst hi
  intro H locs ls hs hS hl
  obtain ⟨cell, h1, h2, h3, h4, h5, h6⟩ := F.isA (show 2 < 10 by decide) hs ha
  have hc : (nI j).toNatClampNeg = j := nI_clamp (by omega)
  exact W.lald F.hx F.hb h1 h2 h3 (kInA h4 hj hm) (by rw [hc, h6 j hj]; rfl) rfl rfl hd (kk H locs ls hs hS hl)
theorem k_aald (F : kF x y cc nL ret hh lev mc ms Po) (hd : decode cc pc = .ok (.aaload, 1)) (p' : Nat) (hp : pc + 1 = p') {a m j kd : Nat} {t : kT} {f : Nat → Option Nat} {i : Int32} (ha : kHs x.g h a t (eQ kd m f)) (hk : 4 ≤ kd ∧ kd < 9) (hi : i = nI j) (hj : j < m) (hm : m < 2 ^ 31) (kk : kW x k n h p' lv (va_rf (f j) :: st)) : kW x k n h pc lv (.int i :: .ref a :: st) := by
  subst hp
  subst hi
  intro H locs ls hs hS hl
  obtain ⟨cell, h1, h2, h3, h4, h5, h6⟩ := F.isA (show kd < 10 by omega) hs ha
  have hc : (nI j).toNatClampNeg = j := nI_clamp (by omega)
  have hr : (kAT kd).isReference = true := by
    obtain ⟨k1, k2⟩ := hk
    rcases (show kd = 4 ∨ kd = 5 ∨ kd = 6 ∨ kd = 7 ∨ kd = 8 by omega) with e | e | e | e | e <;> subst e <;> rfl
  exact W.aald F.hx F.hb h1 h2 hr h3 (kInA h4 hj hm) (by rw [hc, h6 j hj]; rfl) rfl rfl hd (kk H locs ls hs hS hl)
theorem k_iast (F : kF x y cc nL ret hh lev mc ms Po) (hd : decode cc pc = .ok (.iastore, 1)) (p' : Nat) (hp : pc + 1 = p') {a m j : Nat} {t : kT} {f : Nat → Int32} {i : Int32} {v : Int32} (ha : h a = some (t, .inr (.inl (0, m, .inl f)))) (ht : t.1 ≠ 0) (hi : i = nI j) (hj : j < m) (hm : m < 2 ^ 31) (kk : kW x k n (kUp h a t (.inr (.inl (0, m, .inl (upd f j v))))) p' lv st) : kW x k n h pc lv (.int v :: .int i :: .ref a :: st) := by
  subst hp
  subst hi
  intro H locs ls hs hS hl
  have h1 := kArrAt hs ha
  rw [vp_cell_i] at h1
  have hc : (nI j).toNatClampNeg = j := nI_clamp (by omega)
  have hB := hs.big ha ht
  refine W.iast F.hx F.hb h1 ((F.arr 0 (by decide)).1 m _) (fun q => by cases q) (by rw [arrV_size]; exact nI_in hj hm) rfl rfl hd fun H1 e1 e2 e3 => ?_
  rw [hc] at e1
  skip
  refine kk H1 _ ls (hs.put ha ht ?_ e2 e3) (hS.put hB e2) hl
  show H1[a]? = some (vp_cell _ _)
  rw [e1, vp_cell_i, arrV_store]
  congr 2
  funext q
  by_cases hq : q = j
  · subst hq
    simp [updV, upd]
  · simp [updV, upd, hq]
theorem k_bast (F : kF x y cc nL ret hh lev mc ms Po) (hd : decode cc pc = .ok (.bastore, 1)) (p' : Nat) (hp : pc + 1 = p') {a m j : Nat} {t : kT} {f : Nat → Int32} {i : Int32} {v : Int32} (ha : h a = some (t, .inr (.inl (1, m, .inl f)))) (ht : t.1 ≠ 0) (hi : i = nI j) (hj : j < m) (hm : m < 2 ^ 31) (kk : kW x k n (kUp h a t (.inr (.inl (1, m, .inl (upd f j v.toInt8.toInt32))))) p' lv st) : kW x k n h pc lv (.int v :: .int i :: .ref a :: st) := by
  subst hp
  subst hi
  intro H locs ls hs hS hl
  have h1 := kArrAt hs ha
  rw [vp_cell_i] at h1
  have hc : (nI j).toNatClampNeg = j := nI_clamp (by omega)
  have hB := hs.big ha ht
  refine W.bast F.hx F.hb h1 ((F.arr 1 (by decide)).1 m _) (fun q => by cases q) (by rw [arrV_size]; exact nI_in hj hm) rfl rfl hd fun H1 e1 e2 e3 => ?_
  rw [hc] at e1
  have hn : narrow .byte (.int v) = .int v.toInt8.toInt32 := rfl
  rw [hn] at e1
  refine kk H1 _ ls (hs.put ha ht ?_ e2 e3) (hS.put hB e2) hl
  show H1[a]? = some (vp_cell _ _)
  rw [e1, vp_cell_i, arrV_store]
  congr 2
  funext q
  by_cases hq : q = j
  · subst hq
    simp [updV, upd]
  · simp [updV, upd, hq]
theorem k_last (F : kF x y cc nL ret hh lev mc ms Po) (hd : decode cc pc = .ok (.lastore, 1)) (p' : Nat) (hp : pc + 1 = p') {a m j : Nat} {t : kT} {f : Nat → Int64} {i : Int32} {v : Int64} (ha : h a = some (t, .inr (.inl (2, m, .inr (.inl f))))) (ht : t.1 ≠ 0) (hi : i = nI j) (hj : j < m) (hm : m < 2 ^ 31) (kk : kW x k n (kUp h a t (.inr (.inl (2, m, .inr (.inl (vp_updL f j v)))))) p' lv st) : kW x k n h pc lv (.long v :: .int i :: .ref a :: st) := by
  subst hp
  subst hi
  intro H locs ls hs hS hl
  have h1 := kArrAt hs ha
  rw [vp_cell_l] at h1
  have hc : (nI j).toNatClampNeg = j := nI_clamp (by omega)
  have hB := hs.big ha ht
  refine W.last F.hx F.hb h1 ((F.arr 2 (by decide)).1 m _) (fun q => by cases q) (by rw [arrV_size]; exact nI_in hj hm) rfl rfl hd fun H1 e1 e2 e3 => ?_
  rw [hc] at e1
  skip
  refine kk H1 _ ls (hs.put ha ht ?_ e2 e3) (hS.put hB e2) hl
  show H1[a]? = some (vp_cell _ _)
  rw [e1, vp_cell_l, arrV_store]
  congr 2
  funext q
  by_cases hq : q = j
  · subst hq
    simp [updV, vp_updL]
  · simp [updV, vp_updL, hq]
theorem k_zast (F : kF x y cc nL ret hh lev mc ms Po) (hd : decode cc pc = .ok (.bastore, 1)) (p' : Nat) (hp : pc + 1 = p') {a m j : Nat} {t : kT} {f : Nat → Int32} {i v : Int32} (ha : h a = some (t, .inr (.inl (3, m, .inl f)))) (ht : t.1 ≠ 0) (hi : i = nI j) (hj : j < m) (hm : m < 2 ^ 31) (hv : narrow .boolean (.int v) = .int v) (kk : kW x k n (kUp h a t (.inr (.inl (3, m, .inl (upd f j v))))) p' lv st) : kW x k n h pc lv (.int v :: .int i :: .ref a :: st) := by
  subst hp
  subst hi
  intro H locs ls hs hS hl
  have h1 := kArrAt hs ha
  rw [vp_cell_i] at h1
  have hc : (nI j).toNatClampNeg = j := nI_clamp (by omega)
  have hB := hs.big ha ht
  refine W.zast F.hx F.hb h1 ((F.arr 3 (by decide)).1 m _) (fun q => by cases q) (by rw [arrV_size]; exact nI_in hj hm) rfl rfl hd fun H1 e1 e2 e3 => ?_
  rw [hc, hv] at e1
  refine kk H1 _ ls (hs.put ha ht ?_ e2 e3) (hS.put hB e2) hl
  show H1[a]? = some (vp_cell _ _)
  rw [e1, vp_cell_i, arrV_store]
  congr 2
  funext q
  by_cases hq : q = j
  · subst hq
    simp [updV, upd]
  · simp [updV, upd, hq]
/-- a new array of numbers: kd its kind -/
theorem k_newa (F : kF x y cc nL ret hh lev mc ms Po) {at9 : ArrayType} (hd : decode cc pc = .ok (.newarray at9, 2)) (p' : Nat) (hp : pc + 2 = p') (kd : Nat) (hkd : kd < 4) (hty : newarray.typeOf at9 = kAT kd) (hq : Cond.arrayClass (kAT kd) ∈ lw_all) {m : Nat} {c : (Nat → Int32) ⊕ (Nat → Int64) ⊕ (Nat → UInt32) ⊕ (Nat → UInt64) ⊕ (Nat → Option Nat)} (hc : ∀ cA : ClassId, vp_cell cA (m, c) = arrV cA m (fun _ => defaultValue (kAT kd))) (t : kT) {i : Int32} (hi : i = nI m) (hm : m ≤ 60000000) (hk : k + 1 ≤ mc) (hn : n + m ≤ ms)
    (kk : ∀ a : Nat, h a = none → kW x (k + 1) (n + m) (kUp h a t (.inr (.inl (kd, m, c)))) p' lv (.ref a :: st)) : kW x k n h pc lv (.int i :: st) := by
  subst hp
  subst hi
  intro H locs ls hs hS hl
  obtain ⟨hR, -⟩ := F.R
  have hcl : (nI m).toNatClampNeg = m := nI_clamp (by omega)
  have hcb : componentBytes (newarray.typeOf at9) ≤ 8 := by cases at9 <;> decide
  refine va_newaK F.hx F.hb (by rw [hty]; exact F.w hq) rfl hd rfl (nI_pos (by omega)) hcl (by
    have : m * componentBytes (newarray.typeOf at9) ≤ m * 8 := Nat.mul_le_mul_left _ hcb
    omega) (by rw [hR]; exact hk) (by rw [hR]; exact hn) rfl fun H1 cA e1 z1 o1 hAr hNm => ?_
  have hA : cA = x.g.A kd := by
    have h2 := (F.arr kd (by omega)).2
    have h3 : x.s.vm.findClass ("[" ++ (kAT kd).toString) = some (x.g.A kd) := by
      rcases (show kd = 0 ∨ kd = 1 ∨ kd = 2 ∨ kd = 3 by omega) with e | e | e | e <;> subst e <;> exact h2
    rw [hty] at hNm
    exact Option.some.inj (hNm.symm.trans h3)
  have hat : kAt x.g H.size (.inr (.inl (kd, m, c))) H1 := by
    show H1[H.size]? = some (vp_cell _ _)
    rw [hc, ← hA, ← hty]
    exact e1
  obtain ⟨h0, h1⟩ := hs.push (t := t) rfl hat z1 o1
  exact kk H.size h0 H1 locs ls h1 (hS.push (by omega)) hl
/-- a new array of references -/
theorem k_newq (F : kF x y cc nL ret hh lev mc ms Po) {index : Nat} (hd : decode cc pc = .ok (.anewarray index, 3)) (p' : Nat) (hp : pc + 3 = p') (kd : Nat) (hkd : 4 ≤ kd ∧ kd < 9) {C : String} (hty : kAT kd = .object C) (hcl : Cond.classLink y.cls index C ∈ lw_all) (hq : Cond.arrayOver (.object C) ∈ lw_tbl) {m : Nat} (t : kT) {i : Int32} (hi : i = nI m) (hm : m ≤ 60000000) (hk : k + 1 ≤ mc) (hn : n + m ≤ ms)
    (kk : ∀ a : Nat, h a = none → kW x (k + 1) (n + m) (kUp h a t (eQ kd m (fun _ => none))) p' lv (.ref a :: st)) : kW x k n h pc lv (.int i :: st) := by
  subst hp
  subst hi
  intro H locs ls hs hS hl
  obtain ⟨hR, -⟩ := F.R
  have hcl2 : (nI m).toNatClampNeg = m := nI_clamp (by omega)
  have hov : va_AO C x.s := va_AO.moved F.hW.alike (va_AO.of (F.st.2.1 _ hq))
  refine W.anew F.hx F.hb F.hown (F.w hcl) (va_AO.use hov) rfl hd rfl (nI_pos (by omega)) (by rw [hcl2]; omega) (by rw [hR]; exact hk) (by rw [hcl2, hR]; exact hn) fun cA kA comp f1 f2 f3 f4 => ?_
  rw [hcl2]
  generalize hH1 : H.push ({ cls := cA, slots := Array.replicate m .null, vm := .none } : Cell) = H1
  have z1 : H1.size = H.size + 1 := by rw [← hH1, Array.size_push]
  have e1 : H1[H.size]? = some (arrV cA m (fun _ => .null)) := by rw [← hH1, Array.getElem?_push_size, ← arrV_new]
  have o1 : ∀ q : Nat, q < H.size → H1[q]? = H[q]? := fun q hq => by rw [← hH1, Array.getElem?_push, if_neg (Nat.ne_of_lt hq)]
  have hA : cA = x.g.A kd := by
    have h2 := (F.arr kd (by omega)).2
    rw [hty] at h2
    obtain ⟨_, _, _, _, _, h3⟩ := h2
    exact Option.some.inj (f1.symm.trans h3)
  have hat : kAt x.g H.size (eQ kd m (fun _ => none)) H1 := by
    show H1[H.size]? = some (vp_cell _ _)
    rw [vp_cell_q, ← hA]
    exact e1
  obtain ⟨h0, h1⟩ := hs.push (t := t) rfl hat z1 o1
  exact kk H.size h0 H1 locs ls h1 (hS.push (by omega)) hl
/-- storing null -/
theorem k_aastN (F : kF x y cc nL ret hh lev mc ms Po) (hd : decode cc pc = .ok (.aastore, 1)) (p' : Nat) (hp : pc + 1 = p') {a m j kd : Nat} {t : kT} {f : Nat → Option Nat} {i : Int32} (ha : h a = some (t, eQ kd m f)) (hkd : 4 ≤ kd ∧ kd < 9) (ht : t.1 ≠ 0) (hi : i = nI j) (hj : j < m) (hm : m < 2 ^ 31) (kk : kW x k n (kUp h a t (eQ kd m (va_up f j none))) p' lv st) : kW x k n h pc lv (.null :: .int i :: .ref a :: st) := by
  subst hp
  subst hi
  intro H locs ls hs hS hl
  have h1 := kArrAt hs ha
  rw [vp_cell_q] at h1
  have hc : (nI j).toNatClampNeg = j := nI_clamp (by omega)
  have hB := hs.big ha ht
  obtain ⟨C, hC⟩ : ∃ C, kAT kd = .object C := by
    rcases (show kd = 4 ∨ kd = 5 ∨ kd = 6 ∨ kd = 7 ∨ kd = 8 by omega) with e | e | e | e | e <;> subst e <;> exact ⟨_, rfl⟩
  have h2 := (F.arr kd (by omega)).1
  rw [hC] at h2
  refine va_WaastN (C := C) F.hx F.hb h1 (h2 m _) (fun hh => by cases hh) (by rw [arrV_size]; exact nI_in hj hm) rfl rfl hd fun H1 e1 e2 e3 => ?_
  rw [hc] at e1
  refine kk H1 _ ls (hs.put ha ht ?_ e2 e3) (hS.put hB e2) hl
  show H1[a]? = some (vp_cell _ _)
  rw [e1, vp_cell_q, arrV_store]
  congr 2
  funext q
  by_cases hq : q = j
  · subst hq
    simp [updV, va_up, va_rf]
  · simp [updV, va_up, hq]
/-- storing a reference: its class can be cast to the array's -/
theorem k_aast (F : kF x y cc nL ret hh lev mc ms Po) (hd : decode cc pc = .ok (.aastore, 1)) (p' : Nat) (hp : pc + 1 = p') {a m j kd b : Nat} {t : kT} {f : Nat → Option Nat} {i : Int32} (ha : h a = some (t, eQ kd m f)) (hkd : 4 ≤ kd ∧ kd < 9) (ht : t.1 ≠ 0) (hi : i = nI j) (hj : j < m) (hm : m < 2 ^ 31)
    (hb : ∀ H : Heap, kSim x.g h H → ∃ cv : Cell, H[b]? = some cv ∧ cv.vm.isStatics = false ∧ (∃ kv, x.s.vm.classes[cv.cls]? = some kv) ∧ ∀ (C : String) (comp : ClassId), kAT kd = .object C → x.s.vm.findClass C = some comp → x.s.vm.assignable cv.cls comp = true) (kk : kW x k n (kUp h a t (eQ kd m (va_up f j (some b)))) p' lv st) : kW x k n h pc lv (.ref b :: .int i :: .ref a :: st) := by
  subst hp
  subst hi
  intro H locs ls hs hS hl
  have h1 := kArrAt hs ha
  rw [vp_cell_q] at h1
  have hc : (nI j).toNatClampNeg = j := nI_clamp (by omega)
  have hB := hs.big ha ht
  obtain ⟨C, hC⟩ : ∃ C, kAT kd = .object C := by
    rcases (show kd = 4 ∨ kd = 5 ∨ kd = 6 ∨ kd = 7 ∨ kd = 8 by omega) with e | e | e | e | e <;> subst e <;> exact ⟨_, rfl⟩
  have h2 := (F.arr kd (by omega)).2
  rw [hC] at h2
  obtain ⟨kA, comp, k1, k2, k3, -⟩ := h2
  obtain ⟨kcomp, hkc, -⟩ := Vm.findClass_spec k3
  obtain ⟨cv, v1, v2, ⟨kv, v3⟩, v4⟩ := hb H hs
  refine W.aast F.hx F.hb h1 (fun q hh => by cases hh) (fun hh => by cases hh) k1 k2 rfl hkc ⟨nI_pos (by omega), by rw [hc]; show _ < (arrV _ _ _).slots.size; rw [arrV_size]; exact hj⟩ v1 (fun q hh => by rw [hh] at v2; cases v2) v3 (v4 C comp hC k3) rfl rfl hd fun H1 e1 e2 e3 => ?_
  rw [hc] at e1
  refine kk H1 _ ls (hs.put ha ht ?_ e2 e3) (hS.put hB e2) hl
  show H1[a]? = some (vp_cell _ _)
  rw [e1, vp_cell_q, arrV_store]
  congr 2
  funext q
  by_cases hq : q = j
  · subst hq
    simp [updV, va_up, va_rf]
  · simp [updV, va_up, hq]
/-- an object of class ci may be stored in arrays of kind kd, by a word -/
theorem k_asg (F : kF x y cc nL ret hh lev mc ms Po) {ci : Nat} {C E : String} {T : u_T} {N : Nat} {ty : Nat → FieldType} (hc : kCl ci C T N ty) {kd b : Nat} {t : kT} {fs : List Value} (hE : kAT kd = .object E) (hq : Cond.castable C E ∈ lw_tbl) (hb : kHs x.g h b t (.inl (ci, fs))) : ∀ H : Heap, kSim x.g h H → ∃ cv : Cell, H[b]? = some cv ∧ cv.vm.isStatics = false ∧ (∃ kv, x.s.vm.classes[cv.cls]? = some kv) ∧ ∀ (C : String) (comp : ClassId), kAT kd = .object C → x.s.vm.findClass C = some comp → x.s.vm.assignable cv.cls comp = true := by
  intro H hs
  obtain ⟨r, h1, cell, q1, q2, q3, -, q4⟩ := hs.atO hb
  obtain ⟨-, hfc, kC, hkC, hkind⟩ := F.K.1 ci _ (F.cl hc)
  refine ⟨cell, q1, q3, ⟨kC, by rw [q2]; exact hkC⟩, fun C9 comp e1 e2 => ?_⟩
  rw [hE] at e1
  cases e1
  obtain ⟨c0, t0, f1, f2, f3⟩ := Cond.castable_spec (va_Nw.use (A := x.args) rfl (va_Nw.warmC F.hW (va_Nw.of rfl (F.st.2.1 _ hq))))
  cases e2.symm.trans f2
  rw [q2]
  cases hfc.symm.trans f1
  exact f3
/-- the same class -/
theorem k_asgS (F : kF x y cc nL ret hh lev mc ms Po) {ci : Nat} {C : String} {T : u_T} {N : Nat} {ty : Nat → FieldType} (hc : kCl ci C T N ty) {kd b : Nat} {t : kT} {fs : List Value} (hE : kAT kd = .object C) (hb : kHs x.g h b t (.inl (ci, fs))) : ∀ H : Heap, kSim x.g h H → ∃ cv : Cell, H[b]? = some cv ∧ cv.vm.isStatics = false ∧ (∃ kv, x.s.vm.classes[cv.cls]? = some kv) ∧ ∀ (C : String) (comp : ClassId), kAT kd = .object C → x.s.vm.findClass C = some comp → x.s.vm.assignable cv.cls comp = true := by
  intro H hs
  obtain ⟨r, h1, cell, q1, q2, q3, -, q4⟩ := hs.atO hb
  have hca := (F.K.1 ci _ (F.cl hc)).2
  obtain ⟨hfc, kC, hkC, hkind⟩ := id hca
  refine ⟨cell, q1, q3, ⟨kC, by rw [q2]; exact hkC⟩, fun C9 comp e1 e2 => ?_⟩
  rw [hE] at e1
  cases e1
  cases e2.symm.trans hfc
  rw [q2]
  exact va_assign hca
theorem k_done {H : Heap} {locs : List Loc} {g : JFrame} {Qc : Array Value → State → Outcome → State → Prop} (hq : ∀ o t, Qc x.args x.s o t → ∃ h1 : kH, kSim x.g h1 t.heap ∧ ∃ v, o = .returned v ∧ x.Po (.inl v) h1) (w : W x.p x.l x.e x.R x.s x.m x.args x.below x.meth x.c H locs k n (MQ x.below Qc x.args x.s k n (fun q => x.g.U.heap.size ≤ q)) g) (hk : k ≤ x.mc) (hn : n ≤ x.ms) : W x.p x.l x.e x.R x.s x.m x.args x.below x.meth x.c H locs k n (kQ x) g := by
  intro T hT X
  obtain ⟨t, a1, o, b1, b2, b3, L, ⟨-, hW, hsm⟩, hL⟩ := w T hT X
  obtain ⟨h1, c1, v, c2, c3⟩ := hq o t b3
  exact ⟨t, a1, o, b1, b2, h1, L, c1, hW, hsm.mono hk hn, hL, Or.inl ⟨v, c2, c3⟩⟩
theorem k_iret (F : kF x y cc nL (some .int) hh lev mc ms Po) (hd : decode cc pc = .ok (.ireturn, 1)) {v : Int32} (hk : k ≤ mc) (hn : n ≤ ms) (hp : Po (.inl (some (.int v))) h) : kW x k n h pc lv [.int v] := by
  intro H locs ls hs hS hl
  obtain ⟨-, e1, e2, e3⟩ := F.R
  refine k_done ?_ (W.iret (Qc := fun _ _ o t => o = .returned (some (.int v)) ∧ t.heap = H) (free := fun q => x.g.U.heap.size ≤ q) F.hx F.hb F.hret (fun t ht _ => ⟨rfl, ht⟩) hS.2 hd F.hlk) (by rw [e1]; exact hk) (by rw [e2]; exact hn)
  intro o t ⟨hO, hH⟩
  exact ⟨h, by rw [hH]; exact hs, _, hO, by rw [e3]; exact hp⟩
theorem k_lret (F : kF x y cc nL (some .long) hh lev mc ms Po) (hd : decode cc pc = .ok (.lreturn, 1)) {v : Int64} (hk : k ≤ mc) (hn : n ≤ ms) (hp : Po (.inl (some (.long v))) h) : kW x k n h pc lv [.long v] := by
  intro H locs ls hs hS hl
  obtain ⟨-, e1, e2, e3⟩ := F.R
  refine k_done ?_ (W.lret (Qc := fun _ _ o t => o = .returned (some (.long v)) ∧ t.heap = H) (free := fun q => x.g.U.heap.size ≤ q) F.hx F.hb F.hret (fun t ht _ => ⟨rfl, ht⟩) hS.2 hd F.hlk) (by rw [e1]; exact hk) (by rw [e2]; exact hn)
  intro o t ⟨hO, hH⟩
  exact ⟨h, by rw [hH]; exact hs, _, hO, by rw [e3]; exact hp⟩
theorem k_fret (F : kF x y cc nL (some .float) hh lev mc ms Po) (hd : decode cc pc = .ok (.freturn, 1)) {v : UInt32} (hk : k ≤ mc) (hn : n ≤ ms) (hp : Po (.inl (some (.float v))) h) : kW x k n h pc lv [.float v] := by
  intro H locs ls hs hS hl
  obtain ⟨-, e1, e2, e3⟩ := F.R
  refine k_done ?_ (W.fret (Qc := fun _ _ o t => o = .returned (some (.float v)) ∧ t.heap = H) (free := fun q => x.g.U.heap.size ≤ q) F.hx F.hb F.hret (fun t ht _ => ⟨rfl, ht⟩) hS.2 hd F.hlk) (by rw [e1]; exact hk) (by rw [e2]; exact hn)
  intro o t ⟨hO, hH⟩
  exact ⟨h, by rw [hH]; exact hs, _, hO, by rw [e3]; exact hp⟩
theorem k_dret (F : kF x y cc nL (some .double) hh lev mc ms Po) (hd : decode cc pc = .ok (.dreturn, 1)) {v : UInt64} (hk : k ≤ mc) (hn : n ≤ ms) (hp : Po (.inl (some (.double v))) h) : kW x k n h pc lv [.double v] := by
  intro H locs ls hs hS hl
  obtain ⟨-, e1, e2, e3⟩ := F.R
  refine k_done ?_ (W.dret (Qc := fun _ _ o t => o = .returned (some (.double v)) ∧ t.heap = H) (free := fun q => x.g.U.heap.size ≤ q) F.hx F.hb F.hret (fun t ht _ => ⟨rfl, ht⟩) hS.2 hd F.hlk) (by rw [e1]; exact hk) (by rw [e2]; exact hn)
  intro o t ⟨hO, hH⟩
  exact ⟨h, by rw [hH]; exact hs, _, hO, by rw [e3]; exact hp⟩
theorem k_zret {rt : FieldType} (F : kF x y cc nL (some rt) hh lev mc ms Po) (hd : decode cc pc = .ok (.ireturn, 1)) {v : Int32} (hnv : narrow rt (.int v) = .int v) (hk : k ≤ mc) (hn : n ≤ ms) (hp : Po (.inl (some (.int v))) h) : kW x k n h pc lv [.int v] := by
  intro H locs ls hs hS hl
  obtain ⟨-, e1, e2, e3⟩ := F.R
  refine k_done ?_ (W.zret (Qc := fun _ _ o t => o = .returned (some (.int v)) ∧ t.heap = H) (free := fun q => x.g.U.heap.size ≤ q) F.hx F.hb F.hret hnv (fun t ht _ => ⟨rfl, ht⟩) hS.2 hd F.hlk) (by rw [e1]; exact hk) (by rw [e2]; exact hn)
  intro o t ⟨hO, hH⟩
  exact ⟨h, by rw [hH]; exact hs, _, hO, by rw [e3]; exact hp⟩
theorem k_vret (F : kF x y cc nL none hh lev mc ms Po) (hd : decode cc pc = .ok (.return_, 1)) (hk : k ≤ mc) (hn : n ≤ ms) (hp : Po (.inl none) h) : kW x k n h pc lv [] := by
  intro H locs ls hs hS hl
  obtain ⟨-, e1, e2, e3⟩ := F.R
  refine k_done ?_ (W.vret (Qc := fun _ _ o t => o = .returned none ∧ t.heap = H) (free := fun q => x.g.U.heap.size ≤ q) F.hx F.hb F.hret (fun t ht _ => ⟨rfl, ht⟩) hS.2 hd F.hlk) (by rw [e1]; exact hk) (by rw [e2]; exact hn)
  intro o t ⟨hO, hH⟩
  exact ⟨h, by rw [hH]; exact hs, _, hO, by rw [e3]; exact hp⟩
theorem k_aret {rt : FieldType} (F : kF x y cc nL (some rt) hh lev mc ms Po) (hd : decode cc pc = .ok (.areturn, 1)) (hrt : (∃ n, rt = .object n) ∨ ∃ t, rt = .array t) {v : Value} (hv : v = .null ∨ ∃ a, v = .ref a) (hk : k ≤ mc) (hn : n ≤ ms) (hp : Po (.inl (some v)) h) : kW x k n h pc lv [v] := by
  intro H locs ls hs hS hl
  obtain ⟨-, e1, e2, e3⟩ := F.R
  refine k_done ?_ (W.aret (Qc := fun _ _ o t => o = .returned (some v) ∧ t.heap = H) (free := fun q => x.g.U.heap.size ≤ q) F.hx F.hb F.hret hrt hv (fun t ht _ => ⟨rfl, ht⟩) hS.2 hd F.hlk) (by rw [e1]; exact hk) (by rw [e2]; exact hn)
  intro o t ⟨hO, hH⟩
  exact ⟨h, by rw [hH]; exact hs, _, hO, by rw [e3]; exact hp⟩
theorem va_rf_ok (r : Option Nat) : va_rf r = .null ∨ ∃ a, va_rf r = .ref a := by
  cases r with
  | none => exact Or.inl rfl
  | some a => exact Or.inr ⟨a, rfl⟩
end
