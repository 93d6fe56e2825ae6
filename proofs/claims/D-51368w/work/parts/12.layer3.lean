/-! LAYER 3: heap, returns, calls -/
/-- class number ci: its name, fields, how many, their types -/
def kCl (ci : Nat) (C : String) (T : u_T) (N : Nat) (ty : Nat → FieldType) : Prop := kCL[ci]? = some (C, T, N) ∧ (∀ w ∈ u_ws C T N, w ∈ lw_all) ∧ (∀ k, k < N → parseFieldDescriptor (T k).2.2.1 = some (ty k))
section
variable {x : kX} {y : MethodName} {cc : ByteArray} {nL lev mc ms : Nat} {ret : Option FieldType} {hh : List (Nat × Nat × Nat × Nat)} {Po : kR → kH → Prop} {k n : Nat} {h : kH} {pc : Nat} {lv lv' : List (Nat × Value)} {st : List Value}
theorem kF.cl (F : kF x y cc nL ret hh lev mc ms Po) {ci : Nat} {C : String} {T : u_T} {N : Nat} {ty : Nat → FieldType} (hc : kCl ci C T N ty) : x.g.cl[ci]? = some (C, T, N) := by rw [F.st.2.2.2.1]; exact hc.1
theorem kS.put {x : kX} {H H1 : Heap} {locs : List Loc} {a i : Nat} (hS : kS x H locs) (ha : x.g.U.heap.size ≤ a) (hz : H1.size = H.size) : kS x H1 (locs ++ [⟨a, i⟩]) :=
  ⟨by rw [hz]; exact hS.1, fun z hz => by
    rcases List.mem_append.mp hz with q | q
    · exact hS.2 z q
    · rw [List.mem_singleton.mp q]; exact ha⟩
theorem kS.push {x : kX} {H H1 : Heap} {locs : List Loc} (hS : kS x H locs) (hz : H.size ≤ H1.size) : kS x H1 locs := ⟨Nat.le_trans hS.1 hz, hS.2⟩
theorem kSim.big {g : kG} {h : kH} {H : Heap} {a : Nat} {t : kT} {e : kE} (hs : kSim g h H) (ha : h a = some (t, e)) (ht : t.1 ≠ 0) : g.U.heap.size ≤ a := by
  rcases (hs.2 a t e ha).2 with q | q
  · exact absurd q ht
  · exact q
/-- fields that stand apart from field j -/
def kNm (T : u_T) (N j : Nat) : Prop := ∀ b, b < N → b ≠ j → (T b).2.1 ≠ (T j).2.1
theorem k_get (F : kF x y cc nL ret hh lev mc ms Po) {ci : Nat} {C : String} {T : u_T} {N : Nat} {ty : Nat → FieldType} (hc : kCl ci C T N ty) (j : Nat) (hj : j < N) {index : Nat} {ref : String} (hq : Cond.fieldLink y.cls index ref (T j).2.1 (T j).2.2.1 ∈ lw_all) (hsm : ∀ z, x.s.fieldFound? (T j).1 (T j).2.1 (T j).2.2.1 = some z → x.s.fieldFound? ref (T j).2.1 (T j).2.2.1 = some z)
    (hd : decode cc pc = .ok (.getfield index, 3)) (p' : Nat) (hp : pc + 3 = p') {a : Nat} {t : kT} {fs : List Value} {v : Value} (ha : kHs x.g h a t (.inl (ci, fs))) (hv : fs[j]? = some v) (kk : kW x k n h p' lv (v :: st)) : kW x k n h pc lv (.ref a :: st) := by
  subst hp
  intro H locs ls hs hS hl
  obtain ⟨r, h1, cell, q1, q2, q3, q3', q4⟩ := hs.atO ha
  have hr : r = (C, T, N) := Option.some.inj (h1.symm.trans (F.cl hc))
  subst hr
  obtain ⟨hSl, hfc, kC, hkC, hkind⟩ := F.K.1 ci _ (F.cl hc)
  obtain ⟨cf, kf, fi, f, hi, hsl⟩ := hSl j hj
  refine W.getf F.hx F.hb F.hown (F.w hq) (hsm _ hi) (u_facts hfc hkC (u_lays (ws := lw_all) (fun w hw => F.w hw) hc.2.1 hj) hi).1 q1 q3' (v := v) ?_ rfl rfl hd (kk H locs ls hs hS hl)
  rw [hsl, q4 j hj]
  simp [vp_V, hv]
theorem k_put0 (F : kF x y cc nL ret hh lev mc ms Po) {ci : Nat} {C : String} {T : u_T} {N : Nat} {ty : Nat → FieldType} (hc : kCl ci C T N ty) (j : Nat) (hj : j < N) (hnm : kNm T N j) {a : Nat} {t : kT} {fs : List Value} {v : Value} {H H1 : Heap} {cell : Cell} {cf : Nat} {kf : Class} {fi : Nat} {f : Field}
    (hs : kSim x.g h H) (ha : h a = some (t, .inl (ci, fs))) (ht : t.1 ≠ 0) (hl : j < fs.length) (hcell : H[a]? = some cell) (q2 : cell.cls = x.g.D.1 ci) (q3 : cell.vm = .none) (q4 : ∀ i, i < N → cell.slots[x.g.D.2 ci i]? = some (vp_V fs i))
    (hi : x.s.fieldFound? (T j).1 (T j).2.1 (T j).2.2.1 = some (cf, kf, fi, f)) (hsl : f.slot = x.g.D.2 ci j)
    (e1 : H1[a]? = some (cell.setSlot (x.g.D.2 ci j) v)) (e2 : H1.size = H.size) (e3 : ∀ q : Nat, q ≠ a → H1[q]? = H[q]?) : kSim x.g (kUp h a t (.inl (ci, fs.set j v))) H1 := by
  refine hs.put ha ht ?_ e2 e3
  refine ⟨(C, T, N), F.cl hc, cell.setSlot (x.g.D.2 ci j) v, e1, q2, q3, ?_⟩
  intro i hiN
  obtain ⟨hS, -⟩ := F.K.1 ci _ (F.cl hc)
  by_cases c : i = j
  · subst c
    rw [Cell.slots_setSlot_self _ (k2_hasslot (q4 i hj))]
    simp [vp_V, hl]
  · have hap : x.g.D.2 ci i ≠ x.g.D.2 ci j := by
      obtain ⟨_, _, _, fa, hia, ea⟩ := hS i hiN
      rw [← ea, ← hsl]
      refine u_apart (u_lays (ws := lw_all) (fun w hw => F.w hw) hc.2.1 hiN) (u_lays (ws := lw_all) (fun w hw => F.w hw) hc.2.1 hj) hia hi ?_
      rw [(State.fieldFound?_type hia (hc.2.2 i hiN)).1, (State.fieldFound?_type hi (hc.2.2 j hj)).1]
      exact hnm i hiN c
    rw [slot_ne _ _ (Ne.symm hap), q4 i hiN]
    simp [vp_V, List.getElem?_set, Ne.symm c]
theorem k_put (F : kF x y cc nL ret hh lev mc ms Po) {ci : Nat} {C : String} {T : u_T} {N : Nat} {ty : Nat → FieldType} (hc : kCl ci C T N ty) (j : Nat) (hj : j < N) (hnm : kNm T N j) {index : Nat} {ref : String} (hq : Cond.fieldLink y.cls index ref (T j).2.1 (T j).2.2.1 ∈ lw_all) (hsm : ∀ z, x.s.fieldFound? (T j).1 (T j).2.1 (T j).2.2.1 = some z → x.s.fieldFound? ref (T j).2.1 (T j).2.2.1 = some z) (hfin : (T j).2.2.2 = false)
    (hd : decode cc pc = .ok (.putfield index, 3)) (p' : Nat) (hp : pc + 3 = p') {a : Nat} {t : kT} {fs fs' : List Value} {v : Value} (ha : h a = some (t, .inl (ci, fs))) (ht : t.1 ≠ 0) (hn : narrow (ty j) v = v) (hfit : fits (ty j) v = true) (hl : j < fs.length) (hfs : fs.set j v = fs') (kk : kW x k n (kUp h a t (.inl (ci, fs'))) p' lv st) : kW x k n h pc lv (v :: .ref a :: st) := by
  subst hp
  subst hfs
  intro H locs ls hs hS hl2
  obtain ⟨⟨r, h1, cell, q1, q2, q3, q4⟩, -⟩ := hs.2 a t _ ha
  have hr : r = (C, T, N) := Option.some.inj (h1.symm.trans (F.cl hc))
  subst hr
  obtain ⟨hSl, hfc, kC, hkC, hkind⟩ := F.K.1 ci _ (F.cl hc)
  obtain ⟨cf, kf, fi, f, hi, hsl⟩ := hSl j hj
  have hlay := F.w (hc.2.1 _ (u_in_lay hj))
  unfold u_lay at hlay
  have hst := (u_facts hfc hkC (u_lays (ws := lw_all) (fun w hw => F.w hw) hc.2.1 hj) hi).1
  have hB := hs.big ha ht
  rw [if_neg (by rw [hfin]; decide)] at hlay
  have h6 := u_store hfc hkC hkind hlay hi (hc.2.2 j hj) hn hfit
  refine W.putK F.hx F.hb (f := f) ⟨F.hown, F.w hq, ⟨_, _, _, hsm _ hi⟩, hst⟩ (by rw [q2]; exact h6) q1 q3 (by rw [hsl]; exact k2_hasslot (q4 j hj)) rfl rfl hd fun H' e1 e2 e3 => ?_
  rw [hsl] at e1 ⊢
  exact kk H' _ ls (k_put0 F hc j hj hnm hs ha ht hl q1 q2 q3 q4 hi hsl e1 e2 e3) (hS.put hB e2) hl2
theorem k_putN (F : kF x y cc nL ret hh lev mc ms Po) {ci : Nat} {C : String} {T : u_T} {N : Nat} {ty : Nat → FieldType} (hc : kCl ci C T N ty) (j : Nat) (hj : j < N) (hnm : kNm T N j) {index : Nat} {ref host : String} (hq : Cond.fieldLinkNest y.cls index ref (T j).2.1 (T j).2.2.1 host ∈ lw_tbl) (hsm : ∀ z, x.s.fieldFound? (T j).1 (T j).2.1 (T j).2.2.1 = some z → x.s.fieldFound? ref (T j).2.1 (T j).2.2.1 = some z) (hfin : (T j).2.2.2 = false)
    (hd : decode cc pc = .ok (.putfield index, 3)) (p' : Nat) (hp : pc + 3 = p') {a : Nat} {t : kT} {fs fs' : List Value} {v : Value} (ha : h a = some (t, .inl (ci, fs))) (ht : t.1 ≠ 0) (hn : narrow (ty j) v = v) (hfit : fits (ty j) v = true) (hl : j < fs.length) (hfs : fs.set j v = fs') (kk : kW x k n (kUp h a t (.inl (ci, fs'))) p' lv st) : kW x k n h pc lv (v :: .ref a :: st) := by
  subst hp
  subst hfs
  intro H locs ls hs hS hl2
  obtain ⟨⟨r, h1, cell, q1, q2, q3, q4⟩, -⟩ := hs.2 a t _ ha
  have hr : r = (C, T, N) := Option.some.inj (h1.symm.trans (F.cl hc))
  subst hr
  obtain ⟨hSl, hfc, kC, hkC, hkind⟩ := F.K.1 ci _ (F.cl hc)
  obtain ⟨cf, kf, fi, f, hi, hsl⟩ := hSl j hj
  have hlay := F.w (hc.2.1 _ (u_in_lay hj))
  unfold u_lay at hlay
  have hst := (u_facts hfc hkC (u_lays (ws := lw_all) (fun w hw => F.w hw) hc.2.1 hj) hi).1
  have hB := hs.big ha ht
  rw [if_neg (by rw [hfin]; decide)] at hlay
  have h6 := u_store hfc hkC hkind hlay hi (hc.2.2 j hj) hn hfit
  have hq2 : (Cond.fieldLinkNest y.cls index ref (T j).2.1 (T j).2.2.1 host).before x.args x.s = true := va_Nw.use rfl (va_Nw.warmF F.hW (va_Nw.of rfl (F.st.2.1 _ hq)))
  refine va_WputK F.hx F.hb (f := f) F.hown hq2 (hsm _ hi) hst (by rw [q2]; exact h6) q1 q3 (by rw [hsl]; exact k2_hasslot (q4 j hj)) rfl rfl hd fun H' e1 e2 e3 => ?_
  rw [hsl] at e1 ⊢
  exact kk H' _ ls (k_put0 F hc j hj hnm hs ha ht hl q1 q2 q3 q4 hi hsl e1 e2 e3) (hS.put hB e2) hl2
theorem k_putF (F : kF x y cc nL ret hh lev mc ms Po) {ci : Nat} {C : String} {T : u_T} {N : Nat} {ty : Nat → FieldType} (hc : kCl ci C T N ty) (j : Nat) (hj : j < N) (hnm : kNm T N j) {index : Nat} {ref : String} (hq : Cond.fieldLink y.cls index ref (T j).2.1 (T j).2.2.1 ∈ lw_all) (hsm : ∀ z, x.s.fieldFound? (T j).1 (T j).2.1 (T j).2.2.1 = some z → x.s.fieldFound? ref (T j).2.1 (T j).2.2.1 = some z) (hfin : (T j).2.2.2 = true) (hin2 : y.name = "<init>") (hdecl : (T j).1 = y.cls)
    (hd : decode cc pc = .ok (.putfield index, 3)) (p' : Nat) (hp : pc + 3 = p') {a : Nat} {t : kT} {fs fs' : List Value} {v : Value} (ha : h a = some (t, .inl (ci, fs))) (ht : t.1 ≠ 0) (hn : narrow (ty j) v = v) (hfit : fits (ty j) v = true) (hl : j < fs.length) (hfs : fs.set j v = fs') (kk : kW x k n (kUp h a t (.inl (ci, fs'))) p' lv st) : kW x k n h pc lv (v :: .ref a :: st) := by
  subst hp
  subst hfs
  intro H locs ls hs hS hl2
  obtain ⟨⟨r, h1, cell, q1, q2, q3, q4⟩, -⟩ := hs.2 a t _ ha
  have hr : r = (C, T, N) := Option.some.inj (h1.symm.trans (F.cl hc))
  subst hr
  obtain ⟨hSl, hfc, kC, hkC, hkind⟩ := F.K.1 ci _ (F.cl hc)
  obtain ⟨cf, kf, fi, f, hi, hsl⟩ := hSl j hj
  have hlay := F.w (hc.2.1 _ (u_in_lay hj))
  unfold u_lay at hlay
  have hst := (u_facts hfc hkC (u_lays (ws := lw_all) (fun w hw => F.w hw) hc.2.1 hj) hi).1
  have hB := hs.big ha ht
  rw [if_pos hfin] at hlay
  have hcf : x.m.cls = cf := by
    obtain ⟨_, _, c', _, _, _, -, -, hf', -, -, -, hown2, -⟩ := Cond.laysFinal_spec hlay
    have e1 : c' = cf := by have := hi.symm.trans hf'; simp at this; exact this.1.symm
    rw [hdecl] at hown2
    rw [← e1]; exact Option.some.inj (F.hown.symm.trans hown2)
  have h6 := u_fits hfc hkC hkind (Or.inr hlay) hi (hc.2.2 j hj) hn hfit
  intro T9 hT9 X9
  have hmn : x.meth.name = "<init>" := by rw [(name_of_methodNamed F.nm X9.method).1]; exact hin2
  have w : W x.p x.l x.e x.R x.s x.m x.args x.below x.meth x.c H locs k n (kQ x) (F0 x.m pc ls (v :: .ref a :: st)) := by
    refine W.putFinK F.hx F.hb F.hown (F.w hq) (hsm _ hi) hst hcf hmn (by rw [q2]; exact h6) q1 q3 (by rw [hsl]; exact k2_hasslot (q4 j hj)) rfl rfl hd fun H' e1 e2 e3 => ?_
    rw [hsl] at e1 ⊢
    exact kk H' _ ls (k_put0 F hc j hj hnm hs ha ht hl q1 q2 q3 q4 hi hsl e1 e2 e3) (hS.put hB e2) hl2
  exact w T9 hT9 X9
theorem k_getN (F : kF x y cc nL ret hh lev mc ms Po) {ci : Nat} {C : String} {T : u_T} {N : Nat} {ty : Nat → FieldType} (hc : kCl ci C T N ty) (j : Nat) (hj : j < N) {index : Nat} {ref host : String} (hq : Cond.fieldLinkNest y.cls index ref (T j).2.1 (T j).2.2.1 host ∈ lw_tbl) (hsm : ∀ z, x.s.fieldFound? (T j).1 (T j).2.1 (T j).2.2.1 = some z → x.s.fieldFound? ref (T j).2.1 (T j).2.2.1 = some z)
    (hd : decode cc pc = .ok (.getfield index, 3)) (p' : Nat) (hp : pc + 3 = p') {a : Nat} {t : kT} {fs : List Value} {v : Value} (ha : kHs x.g h a t (.inl (ci, fs))) (hv : fs[j]? = some v) (kk : kW x k n h p' lv (v :: st)) : kW x k n h pc lv (.ref a :: st) := by
  subst hp
  intro H locs ls hs hS hl
  obtain ⟨r, h1, cell, q1, q2, q3, q3', q4⟩ := hs.atO ha
  have hr : r = (C, T, N) := Option.some.inj (h1.symm.trans (F.cl hc))
  subst hr
  obtain ⟨hSl, hfc, kC, hkC, hkind⟩ := F.K.1 ci _ (F.cl hc)
  obtain ⟨cf, kf, fi, f, hi, hsl⟩ := hSl j hj
  have hq2 : (Cond.fieldLinkNest y.cls index ref (T j).2.1 (T j).2.2.1 host).before x.args x.s = true := va_Nw.use rfl (va_Nw.warmF F.hW (va_Nw.of rfl (F.st.2.1 _ hq)))
  refine va_Wgetf F.hx F.hb F.hown hq2 (hsm _ hi) (u_facts hfc hkC (u_lays (ws := lw_all) (fun w hw => F.w hw) hc.2.1 hj) hi).1 q1 q3' (v := v) ?_ rfl rfl hd (kk H locs ls hs hS hl)
  rw [hsl, q4 j hj]
  simp [vp_V, hv]
theorem k_new (F : kF x y cc nL ret hh lev mc ms Po) {ci : Nat} {C : String} {T : u_T} {N N2 : Nat} {ty : Nat → FieldType} (hc : kCl ci C T N ty) {index : Nat} (hq : Cond.classLink y.cls index C ∈ lw_all) (hin : Cond.instantiable C N2 ∈ lw_all) (hini : Cond.initialized C ∈ lw_all) (hd : decode cc pc = .ok (.new index, 3)) (p' : Nat) (hp : pc + 3 = p') (t : kT) {fs : List Value} (hfs : (List.range N).map (fun j => defaultValue (ty j)) = fs) (hk : k + 1 ≤ mc) (hn : n + N2 ≤ ms)
    (kk : ∀ a : Nat, h a = none → kW x (k + 1) (n + N2) (kUp h a t (.inl (ci, fs))) p' lv (.ref a :: st)) : kW x k n h pc lv st := by
  subst hp
  intro H locs ls hs hS hl
  have hKn := F.K.1 ci _ (F.cl hc)
  obtain ⟨hR, -⟩ := F.R
  refine W.newcK F.hx F.hb F.hown (F.w hq) (F.w hin) (F.w hini) rfl hd (by rw [hR]; exact hk) (by rw [hR]; exact hn) hKn.2.1 rfl fun H1 kC hkC e1 z1 o1 => ?_
  have hat : kAt x.g H.size (.inl (ci, fs)) H1 := by
    refine ⟨(C, T, N), F.cl hc, ?_⟩
    refine (u_born ty (ws := lw_all) (fun w hw => F.w hw) hc.2.1 hKn hkC e1 hc.2.2).to (fun j hj => ?_)
    subst hfs
    simp [vp_V, hj]
  obtain ⟨h0, h1⟩ := hs.push (t := t) rfl hat z1 o1
  exact kk H.size h0 H1 locs ls h1 (hS.push (by omega)) hl
/-- any method of a class that is nobody's: Object.<init> -/
theorem k_objInit (F : kF x y cc nL ret hh lev mc ms Po) {index : Nat} (hq : Cond.methodLink y.cls index objectInit ∈ lw_all) (hin : Cond.instanceMethod objectInit ∈ lw_all) (hcd : Cond.code objectInit ⟨#[0xb1]⟩ 1 none ∈ lw_all) (hd : decode cc pc = .ok (.invokespecial index, 3)) (p' : Nat) (hp : pc + 3 = p') {a : Nat} (hlev : 1 ≤ lev) (hst : (st.map fun v => v.category).sum ≤ 8) (kk : kW x k n h p' lv st) : kW x k n h pc lv (.ref a :: st) := by
  subst hp
  intro H locs ls hs hS hl
  obtain ⟨hR, -⟩ := F.R
  have hsz : ls.size = x.c.maxLocals := hl.1
  refine W.objInit F.hx F.hb F.hown (F.w hq) (F.w hin) (F.w hcd) rfl hsz rfl hd (by rw [hR]; exact hlev) (by rw [hR]; simp only [kRm]; omega) ?_
  exact kk H locs ls hs hS hl
end
