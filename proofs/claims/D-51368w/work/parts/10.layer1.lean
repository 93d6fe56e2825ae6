/-! LAYER 1: one abstract heap for a whole run. kH: address to (tag, cell). kW: the machine at a pc, with locals and stack as lists of values, over an abstract heap. kMet: a method's contract, at given arguments and heap, with any outcome. -/
abbrev kE : Type := (Nat × List Value) ⊕ ((Nat × vp_A) ⊕ (Nat × List Value))
abbrev kT : Type := Nat × Nat × Nat
abbrev kH : Type := Nat → Option (kT × kE)
abbrev kG : Type := State × Nat × va_G × (Nat → ClassId) × (Nat → ClassId) × List vw_C
abbrev kR : Type := Option Value ⊕ (Nat × String)
abbrev kX : Type := (Program × Launch × Env × Room × State × MethodId) × (Array Value × List Frame × Method × Code) × kG × (Nat × Nat) × (kR → kH → Prop)
def kG.U (g : kG) : State := g.1
def kG.b (g : kG) : Nat := g.2.1
def kG.D (g : kG) : va_G := g.2.2.1
def kG.A (g : kG) : Nat → ClassId := g.2.2.2.1
def kG.L (g : kG) : Nat → ClassId := g.2.2.2.2.1
def kG.cl (g : kG) : List vw_C := g.2.2.2.2.2
def kX.p (x : kX) : Program := x.1.1
def kX.l (x : kX) : Launch := x.1.2.1
def kX.e (x : kX) : Env := x.1.2.2.1
def kX.R (x : kX) : Room := x.1.2.2.2.1
def kX.s (x : kX) : State := x.1.2.2.2.2.1
def kX.m (x : kX) : MethodId := x.1.2.2.2.2.2
def kX.args (x : kX) : Array Value := x.2.1.1
def kX.below (x : kX) : List Frame := x.2.1.2.1
def kX.meth (x : kX) : Method := x.2.1.2.2.1
def kX.c (x : kX) : Code := x.2.1.2.2.2
def kX.g (x : kX) : kG := x.2.2.1
def kX.mc (x : kX) : Nat := x.2.2.2.1.1
def kX.ms (x : kX) : Nat := x.2.2.2.1.2
def kX.Po (x : kX) : kR → kH → Prop := x.2.2.2.2
/-- the kinds of arrays -/
def kAT : Nat → FieldType
  | 0 => .int
  | 1 => .byte
  | 2 => .long
  | 3 => .boolean
  | 4 => .object "java/lang/Object"
  | 5 => .object "java/util/HashMap$Node"
  | 6 => .object "LoopSignals$Junction"
  | 7 => .object "java/lang/String"
  | 8 => .object "LoopSignals$Told"
  | _ => .char
def kAts (g : kG) : List (ClassId × FieldType) := (List.range 10).map (fun k => (g.A k, kAT k))
def kAt (g : kG) (a : Nat) (e : kE) (H : Heap) : Prop := match e with
  | .inl o => va_at g.D g.cl (a, .inr o) H
  | .inr (.inl r) => va_at g.D g.cl (a, .inl (g.A r.1, r.2)) H
  | .inr (.inr q) => H[a]? = some ({ cls := g.L q.1, slots := q.2.toArray, vm := .none } : Cell)
def kOld (g : kG) (H : Heap) : Prop := g.U.heap.size ≤ H.size ∧ ∀ q : Nat, q < g.U.heap.size → H[q]? = g.U.heap[q]?
def kSim (g : kG) (h : kH) (H : Heap) : Prop := kOld g H ∧ ∀ (a : Nat) (t : kT) (e : kE), h a = some (t, e) → kAt g a e H ∧ (t.1 = 0 ∨ g.U.heap.size ≤ a)
theorem kAt.kept {g : kG} {a : Nat} {e : kE} {H H1 : Heap} (h : kAt g a e H) (hq : H1[a]? = H[a]?) : kAt g a e H1 := by
  rcases e with o | r | q
  · exact va_at.kept (q := (a, .inr o)) h hq
  · exact va_at.kept (D := g.D) (cl := g.cl) (q := (a, .inl (g.A r.1, r.2))) h hq
  · exact hq.trans h
theorem kAt.lt {g : kG} {a : Nat} {e : kE} {H : Heap} (h : kAt g a e H) : a < H.size := by
  rcases e with o | r | q
  · exact va_at.lt (q := (a, .inr o)) h
  · exact va_at.lt (D := g.D) (cl := g.cl) (q := (a, .inl (g.A r.1, r.2))) h
  · exact (Array.getElem?_eq_some_iff.mp h).1
/-- one cell changed -/
def kUp (h : kH) (a : Nat) (t : kT) (e : kE) : kH := fun b => if b = a then some (t, e) else h b
theorem kUp_self {h : kH} {a : Nat} {t : kT} {e : kE} : kUp h a t e a = some (t, e) := if_pos rfl
theorem kUp_ne {h : kH} {a b : Nat} {t : kT} {e : kE} (n : b ≠ a) : kUp h a t e b = h b := if_neg n
/-- cells of other tags are other cells -/
theorem kUp_tag {h : kH} {a b : Nat} {t t' : kT} {e e0 e' : kE} (ha : h a = some (t, e0)) (hb : h b = some (t', e')) (n : t ≠ t') : kUp h a t e b = some (t', e') := by
  rw [kUp_ne, hb]
  intro q
  subst q
  rw [ha] at hb
  cases hb
  exact n rfl
theorem kSim.put {g : kG} {h : kH} {a : Nat} {t : kT} {e e1 : kE} {H H1 : Heap} (hs : kSim g h H) (ha : h a = some (t, e)) (ht : t.1 ≠ 0) (h1 : kAt g a e1 H1) (hz : H1.size = H.size) (ho : ∀ q : Nat, q ≠ a → H1[q]? = H[q]?) : kSim g (kUp h a t e1) H1 := by
  have hB : g.U.heap.size ≤ a := by
    rcases (hs.2 a t e ha).2 with q | q
    · exact absurd q ht
    · exact q
  refine ⟨⟨by rw [hz]; exact hs.1.1, fun q hq => ?_⟩, fun b t2 e2 hb => ?_⟩
  · rw [ho q (by omega)]
    exact hs.1.2 q hq
  · unfold kUp at hb
    by_cases c : b = a
    · rw [if_pos c] at hb
      cases hb
      subst c
      exact ⟨h1, Or.inr hB⟩
    · rw [if_neg c] at hb
      obtain ⟨k1, k2⟩ := hs.2 b t2 e2 hb
      exact ⟨k1.kept (ho b c), k2⟩
theorem kSim.push {g : kG} {h : kH} {a : Nat} {t : kT} {e1 : kE} {H H1 : Heap} (hs : kSim g h H) (ha : a = H.size) (h1 : kAt g a e1 H1) (hz : H1.size = a + 1) (ho : ∀ q : Nat, q < a → H1[q]? = H[q]?) : h a = none ∧ kSim g (kUp h a t e1) H1 := by
  have hB : g.U.heap.size ≤ a := by rw [ha]; exact hs.1.1
  have hn : h a = none := by
    cases hq : h a with
    | none => rfl
    | some q =>
      obtain ⟨t2, e2⟩ := q
      have := (hs.2 a t2 e2 hq).1.lt
      omega
  refine ⟨hn, ⟨by omega, fun q hq => ?_⟩, fun b t2 e2 hb => ?_⟩
  · rw [ho q (by omega)]
    exact hs.1.2 q hq
  · unfold kUp at hb
    by_cases c : b = a
    · rw [if_pos c] at hb
      cases hb
      subst c
      exact ⟨h1, Or.inr hB⟩
    · rw [if_neg c] at hb
      obtain ⟨k1, k2⟩ := hs.2 b t2 e2 hb
      have := k1.lt
      exact ⟨k1.kept (ho b (by omega)), k2⟩
/-- tags may be changed, cells forgotten -/
theorem kSim.sub {g : kG} {h h' : kH} {H : Heap} (hs : kSim g h H) (hh : ∀ a t e, h' a = some (t, e) → ∃ t0, h a = some (t0, e) ∧ (t.1 = 0 ∨ t0.1 ≠ 0)) : kSim g h' H := by
  refine ⟨hs.1, fun a t e ha => ?_⟩
  obtain ⟨t0, h0, h1⟩ := hh a t e ha
  obtain ⟨k1, k2⟩ := hs.2 a t0 e h0
  refine ⟨k1, ?_⟩
  rcases h1 with q | q
  · exact Or.inl q
  · rcases k2 with k | k
    · exact absurd k q
    · exact Or.inr k
/-- what an array holds at place j -/
def kVr (c : (Nat → Int32) ⊕ (Nat → Int64) ⊕ (Nat → UInt32) ⊕ (Nat → UInt64) ⊕ (Nat → Option Nat)) (j : Nat) : Value := match c with
  | .inl f => .int (f j)
  | .inr (.inl f) => .long (f j)
  | .inr (.inr (.inl f)) => .float (f j)
  | .inr (.inr (.inr (.inl f))) => .double (f j)
  | .inr (.inr (.inr (.inr f))) => va_rf (f j)
/-- a cell as far as it can be read: the start's own cells are known so far alone -/
def kAtR (g : kG) (a : Nat) (e : kE) (H : Heap) : Prop := match e with
  | .inl o => ∃ r : vw_C, g.cl[o.1]? = some r ∧ ∃ cell : Cell, H[a]? = some cell ∧ cell.cls = g.D.1 o.1 ∧ cell.vm.isStatics = false ∧ cell.vm ≠ .unknown ∧ ∀ i, i < r.2.2 → cell.slots[g.D.2 o.1 i]? = some (vp_V o.2 i)
  | .inr (.inl r) => ∃ cell : Cell, H[a]? = some cell ∧ g.U.isArrayOf cell (kAT r.1) ∧ cell.vm ≠ .unknown ∧ r.2.1 ≤ cell.slots.size ∧ cell.slots.size.toInt32 = nI r.2.1 ∧ ∀ j, j < r.2.1 → cell.slots[j]? = some (kVr r.2.2 j)
  | .inr (.inr q) => H[a]? = some ({ cls := g.L q.1, slots := q.2.toArray, vm := .none } : Cell)
theorem kAtR.kept {g : kG} {a : Nat} {e : kE} {H H1 : Heap} (h : kAtR g a e H) (hq : H1[a]? = H[a]?) : kAtR g a e H1 := by
  rcases e with o | r | q
  · obtain ⟨r, h1, cell, h2, h3⟩ := h
    exact ⟨r, h1, cell, hq.trans h2, h3⟩
  · obtain ⟨cell, h2, h3⟩ := h
    exact ⟨cell, hq.trans h2, h3⟩
  · exact hq.trans h
theorem kAtR.lt {g : kG} {a : Nat} {e : kE} {H : Heap} (h : kAtR g a e H) : a < H.size := by
  rcases e with o | r | q
  · obtain ⟨r, h1, cell, h2, h3⟩ := h
    exact (Array.getElem?_eq_some_iff.mp h2).1
  · obtain ⟨cell, h2, h3⟩ := h
    exact (Array.getElem?_eq_some_iff.mp h2).1
  · exact (Array.getElem?_eq_some_iff.mp h).1
theorem vp_arr (cA : ClassId) (n : Nat) (c : (Nat → Int32) ⊕ (Nat → Int64) ⊕ (Nat → UInt32) ⊕ (Nat → UInt64) ⊕ (Nat → Option Nat)) : vp_cell cA (n, c) = arrV cA n (kVr c) := by
  rcases c with f | f | f | f | f <;> rfl
/-- a cell that can be read: one of the heap at hand, or one of the start that is never written -/
def kHs (g : kG) (h : kH) (a : Nat) (t : kT) (e : kE) : Prop := h a = some (t, e) ∨ (t.1 = 0 ∧ kAtR g a e g.U.heap)
theorem kHs.of {g : kG} {h : kH} {a : Nat} {t : kT} {e : kE} (q : h a = some (t, e)) : kHs g h a t e := Or.inl q
theorem kSim.atO {g : kG} {h : kH} {H : Heap} {a : Nat} {t : kT} {o : Nat × List Value} (hs : kSim g h H) (ha : kHs g h a t (.inl o)) : kAtR g a (.inl o) H := by
  rcases ha with q | q
  · obtain ⟨r, h1, cell, q1, q2, q3, q4⟩ := (hs.2 a t _ q).1
    exact ⟨r, h1, cell, q1, q2, by rw [q3]; rfl, by rw [q3]; exact (fun z => by cases z), q4⟩
  · exact q.2.kept (hs.1.2 a q.2.lt)
theorem kSim.atA {g : kG} {h : kH} {H : Heap} {a : Nat} {t : kT} {r : Nat × vp_A} (hs : kSim g h H) (hA : ArrOfT g.U (g.A r.1) (kAT r.1)) (ha : kHs g h a t (.inr (.inl r))) : kAtR g a (.inr (.inl r)) H := by
  rcases ha with q | q
  · have h1 : H[a]? = some (vp_cell (g.A r.1) r.2) := (hs.2 a t _ q).1
    obtain ⟨kd, n, c⟩ := r
    rw [vp_arr] at h1
    refine ⟨_, h1, hA n (kVr c), (fun z => by cases z), by rw [arrV_size]; exact Nat.le_refl _, by rw [arrV_size]; rfl, fun j hj => arrV_read _ _ hj⟩
  · exact q.2.kept (hs.1.2 a q.2.lt)
/-- how a method ends -/
def kOut (g : kG) (st : State) (mc ms : Nat) (Po : kR → kH → Prop) (o : Outcome) (t : State) : Prop :=
  ∃ (h : kH) (L : List Loc), kSim g h t.heap ∧ st.WarmedH t.vm ∧ st.sameButNew ({ t with vm := st.vm } : State) L mc ms ∧ (∀ z ∈ L, g.U.heap.size ≤ z.base) ∧
    ((∃ v, o = .returned v ∧ Po (.inl v) h) ∨ ∃ (q : Nat) (E : String) (ce : Cell), o = .threw q ∧ Po (.inr (q, E)) h ∧ t.heap[q]? = some ce ∧ ce.vm = .none ∧ st.vm.findClass E = some ce.cls)
def kRm (lev mc ms : Nat) : Room := { frames := lev, cells := mc, slots := ms, locals := 64 * lev + 3200 }
/-- a method's contract at its arguments and the heap: its code word, its level, its cells and slots -/
def kMet (l : Launch) (g : kG) (y : MethodName) (cw : Cond) (lev mc ms : Nat) (As : List Value) (h : kH) (Po : kR → kH → Prop) : Prop :=
  MetFree l y (headSpec [cw] (kRm lev mc ms)) (fun a U => a = As.toArray ∧ g.U.WarmedH U.vm ∧ kSim g h U.heap) (fun _ _ _ _ _ => True) (fun _ st o t => kOut g st mc ms Po o t)
theorem kOut.mono {g : kG} {st : State} {mc ms : Nat} {Po Po' : kR → kH → Prop} {o : Outcome} {t : State} (hp : ∀ r h, Po r h → Po' r h) (h : kOut g st mc ms Po o t) : kOut g st mc ms Po' o t := by
  obtain ⟨hh, L, a, b, c, d, e⟩ := h
  refine ⟨hh, L, a, b, c, d, ?_⟩
  rcases e with ⟨v, e1, e2⟩ | ⟨q, E, ce, e1, e2, e3⟩
  · exact Or.inl ⟨v, e1, hp _ _ e2⟩
  · exact Or.inr ⟨q, E, ce, e1, hp _ _ e2, e3⟩
theorem kMet.mono {l : Launch} {g : kG} {y : MethodName} {cw : Cond} {lev mc ms : Nat} {As : List Value} {h : kH} {Po Po' : kR → kH → Prop} (hM : kMet l g y cw lev mc ms As h Po) (hp : ∀ r h, Po r h → Po' r h) : kMet l g y cw lev mc ms As h Po' := by
  intro p e h1 h2 h3 s m args below h4 h5 h6 h7
  obtain ⟨n, o, k1, k2, k3, k4⟩ := hM p e h1 h2 h3 s m args below h4 h5 h6 h7
  exact ⟨n, o, k1, k2, k3, k4.mono hp⟩
/-- what a code word says of a method -/
def kCd (cw : Cond) (y : MethodName) (cc : ByteArray) (maxL : Nat) (ret : Option FieldType) (hh : List (Nat × Nat × Nat × Nat)) : Prop :=
  goodWord cw = true ∧ plainFor y = true ∧ ∀ (args : Array Value) (s : State), cw.before args s = true → ∃ (m : MethodId) (meth : Method) (c : Code), s.methodNamed? y = some m ∧ s.vm.method? m = some meth ∧ meth.code = some c ∧ c.code = cc ∧ c.maxLocals = maxL ∧ meth.sig.returnType = ret ∧ meth.locks = false ∧
    parseMethodDescriptor y.desc = some meth.sig ∧ c.exceptionTable.toList.map (fun h => (h.startPc, h.endPc, h.handlerPc, h.catchType)) = hh
theorem kCd_code {y : MethodName} {cc : ByteArray} {maxL : Nat} {ret : Option FieldType} (hy : plainFor y = true) : kCd (Cond.code y cc maxL ret) y cc maxL ret [] := by
  refine ⟨rfl, hy, fun args s h => ?_⟩
  obtain ⟨m, hn⟩ := Cond.code_named h
  obtain ⟨meth, c, h1, h2, h3, h4, h5, h6, h7, h8⟩ := Cond.code_spec hn h
  exact ⟨m, meth, c, hn, h1, h2, h3, h4, h5, h6, h8, by rw [Array.isEmpty_iff.mp h7]; rfl⟩
theorem kCd_with {y : MethodName} {cc : ByteArray} {maxL : Nat} {ret : Option FieldType} {hh : List (Nat × Nat × Nat × Nat)} (hy : plainFor y = true) : kCd (Cond.codeWith y cc maxL ret hh) y cc maxL ret hh := by
  refine ⟨rfl, hy, fun args s h => ?_⟩
  obtain ⟨m, meth, c, hn, h1, h2, h3, h4, h5, h6, h7, h8⟩ := Cond.codeWith_spec h
  exact ⟨m, meth, c, hn, h1, h2, h3, h4, h6, h7, h8, h5⟩
/-- the sites of lambdas: their classes -/
def kLam (g : kG) : Prop := ∀ (q : Nat) (z : MethodName × Nat × Nat × Jvm.Lambda.Shape), kSites[q]? = some z → g.U.lambdaAt? z.1 z.2.1 z.2.2.1 z.2.2.2 = some (g.L q, none)
/-- what holds at the run's start -/
def kStart (l : Launch) (g : kG) : Prop := l.flags = flags0 ∧ (∀ w ∈ lw_tbl, w.before #[Value.ref g.b] g.U = true) ∧ va_K g.D g.cl (kAts g) g.U ∧ g.cl = kCL ∧ (Cond.and given_1 narrow_1).before #[Value.ref g.b] g.U = true ∧ kLam g
/-- a method's body is being walked: own: its class -/
def kF (x : kX) (y : MethodName) (cc : ByteArray) (nL : Nat) (ret : Option FieldType) (hh : List (Nat × Nat × Nat × Nat)) (lev mc ms : Nat) (Po : kR → kH → Prop) : Prop :=
  x.p.tables.exec = Jvm.exec ∧ x.c.code = cc ∧ x.c.maxLocals = nL ∧ x.s.vm.findClass y.cls = some x.m.cls ∧ x.meth.sig.returnType = ret ∧ x.meth.locks = false ∧ x.g.U.WarmedH x.s.vm ∧ kStart x.l x.g ∧ (x.R = kRm lev mc ms ∧ x.mc = mc ∧ x.ms = ms ∧ x.Po = Po) ∧ kOld x.g x.s.heap ∧
  x.c.exceptionTable.toList.map (fun h => (h.startPc, h.endPc, h.handlerPc, h.catchType)) = hh ∧ x.s.methodNamed? y = some x.m
def kQ (x : kX) : State → Prop := fun t => ∃ o, t.status = .running ∧ Ended t x.below o ∧ kOut x.g x.s x.mc x.ms x.Po o t
def kS (x : kX) (H : Heap) (locs : List Loc) : Prop := x.s.heap.size ≤ H.size ∧ ∀ z ∈ locs, x.g.U.heap.size ≤ z.base
def kW (x : kX) (k n : Nat) (h : kH) (pc : Nat) (lv : List (Nat × Value)) (st : List Value) : Prop :=
  ∀ (H : Heap) (locs : List Loc) (ls : Array Slot), kSim x.g h H → kS x H locs → lv_has ls x.c.maxLocals lv → W x.p x.l x.e x.R x.s x.m x.args x.below x.meth x.c H locs k n (kQ x) (F0 x.m pc ls st)
/-- the same, with q thrown in the frame -/
def kTh (x : kX) (k n : Nat) (h : kH) (pc : Nat) (lv : List (Nat × Value)) (st : List Value) (q : Nat) : Prop :=
  ∀ (H : Heap) (locs : List Loc) (ls : Array Slot), kSim x.g h H → kS x H locs → lv_has ls x.c.maxLocals lv → vx_W x.p x.l x.e x.R x.s x.m x.args x.below x.meth x.c H locs k n (kQ x) (F0 x.m pc ls st) q
section
variable {x : kX} {y : MethodName} {cc : ByteArray} {nL lev mc ms : Nat} {ret : Option FieldType} {hh : List (Nat × Nat × Nat × Nat)} {Po : kR → kH → Prop}
theorem kF.hx (F : kF x y cc nL ret hh lev mc ms Po) : x.p.tables.exec = Jvm.exec := F.1
theorem kF.hb (F : kF x y cc nL ret hh lev mc ms Po) : x.c.code = cc := F.2.1
theorem kF.hml (F : kF x y cc nL ret hh lev mc ms Po) : x.c.maxLocals = nL := F.2.2.1
theorem kF.hown (F : kF x y cc nL ret hh lev mc ms Po) : x.s.vm.findClass y.cls = some x.m.cls := F.2.2.2.1
theorem kF.hret (F : kF x y cc nL ret hh lev mc ms Po) : x.meth.sig.returnType = ret := F.2.2.2.2.1
theorem kF.hlk (F : kF x y cc nL ret hh lev mc ms Po) : x.meth.locks = false := F.2.2.2.2.2.1
theorem kF.hW (F : kF x y cc nL ret hh lev mc ms Po) : x.g.U.WarmedH x.s.vm := F.2.2.2.2.2.2.1
theorem kF.st (F : kF x y cc nL ret hh lev mc ms Po) : kStart x.l x.g := F.2.2.2.2.2.2.2.1
theorem kF.R (F : kF x y cc nL ret hh lev mc ms Po) : x.R = kRm lev mc ms ∧ x.mc = mc ∧ x.ms = ms ∧ x.Po = Po := F.2.2.2.2.2.2.2.2.1
theorem kF.old (F : kF x y cc nL ret hh lev mc ms Po) : kOld x.g x.s.heap := F.2.2.2.2.2.2.2.2.2.1
theorem kF.tb (F : kF x y cc nL ret hh lev mc ms Po) : x.c.exceptionTable.toList.map (fun h => (h.startPc, h.endPc, h.handlerPc, h.catchType)) = hh := F.2.2.2.2.2.2.2.2.2.2.1
theorem kF.nm (F : kF x y cc nL ret hh lev mc ms Po) : x.s.methodNamed? y = some x.m := F.2.2.2.2.2.2.2.2.2.2.2
/-- any word that rides, at the method's entry -/
theorem kF.w (F : kF x y cc nL ret hh lev mc ms Po) {w : Cond} (h : w ∈ lw_all) : w.before x.args x.s = true := by
  obtain ⟨h1, h2⟩ := List.mem_filter.mp h
  exact word_at F.hW (good_of_word h2) (F.st.2.1 w h1)
theorem kF.K (F : kF x y cc nL ret hh lev mc ms Po) : va_K x.g.D x.g.cl (kAts x.g) x.s := va_K.moved F.hW.alike F.st.2.2.1
/-- the method's walk gives its contract -/
theorem kEnter {l : Launch} {g : kG} {cw : Cond} {As : List Value} {h : kH} (S : kStart l g) (hc : kCd cw y cc nL ret hh) (hn : (lg_sl As).length ≤ nL)
    (body : ∀ x : kX, kF x y cc nL ret hh lev mc ms Po → x.l = l → x.g = g → kW x 0 0 h 0 (lv_args 0 As) []) : kMet l g y cw lev mc ms As h Po := by
  refine MetFree.of_bodySF (code := cc) (maxLocals := nL) (ret := ret) hc.2.1 ?_ ?_
  · intro args s m hp hnm
    obtain ⟨m', meth, c, h0, h1, h2, h3, h4, h5, h6, -, -⟩ := hc.2.2 args s (atoms_spec (ws := [cw]) hp _ List.mem_cons_self)
    cases hnm.symm.trans h0
    exact ⟨meth, c, h1, h2, h3, h4, h5, h6⟩
  · intro p e s m args below meth c s₁ B hml hP _
    obtain ⟨rfl, hW, hS⟩ := hP
    have hh0 : s₁.heap = s.heap := by rw [B.state]; rfl
    obtain ⟨m', meth', c', h0, h1, h2, h3, h4, h5, h6, -, h8⟩ := hc.2.2 As.toArray s (atoms_spec (ws := [cw]) B.pre _ List.mem_cons_self)
    cases h0.symm.trans B.named
    cases Option.some.inj (h1.symm.trans B.method)
    cases Option.some.inj (h2.symm.trans (Stand.of_body B).code)
    have hl := lv_entry As hn
    have k := body (((p, l, e, kRm lev mc ms, s, m), (As.toArray, below, meth, c), g, (mc, ms), Po) : kX)
      ⟨B.exec, B.bytes, hml, findClass_of_methodNamed B.named, B.returns, B.notSynchronized, hW, S, ⟨rfl, rfl, rfl, rfl⟩, hS.1, h8, B.named⟩ rfl rfl
      s.heap [] _ hS ⟨Nat.le_refl _, fun z hz => by cases hz⟩ (by rw [← hml] at hl; exact hl)
    obtain ⟨t, a1, o, b1, b2, b3⟩ := k s₁ hh0 (Stand.of_body B)
    refine ⟨t, o, ?_, b1, b2, b3⟩
    rw [lg_entry_eq]
    rw [← hml]
    exact a1
end
