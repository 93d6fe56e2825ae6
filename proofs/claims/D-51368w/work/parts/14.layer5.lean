/-! LAYER 5: calls -/
section
variable {l : Launch} {g : kG} {R : Room} {p : Program} {e : Env} {below : List Frame} {s : State} {sargs : Array Value} {m : MethodId} {meth : Method} {c : Code} {T : State} {locs : List Loc} {cells slots : Nat}
/-- behind the callee: it returned, or it threw -/
theorem k_back {y : MethodName} {cw : Cond} {cc : ByteArray} {maxL lev mc ms len : Nat} {ret : Option FieldType} {hh : List (Nat × Nat × Nat × Nat)} {As : List Value} {h : kH} {Po : kR → kH → Prop} {g0 : JFrame} {ig : Instr} {mk : MethodId}
    (hM : kMet l g y cw lev mc ms As h Po) (hcd : kCd cw y cc maxL ret hh) (X : Stand p l e R s m sargs below meth c T locs cells slots) (hg : g0.method = m) (hsize : g0.locals.size = c.maxLocals) (hdg : decode c.code g0.pc = .ok (ig, len)) (hW : 2 * g0.monitorRoom + (g0.stack.map fun v => v.category).sum ≤ 8) (hn : T.methodNamed? y = some mk)
    (hcw : cw.before As.toArray T = true) (hinit : (Cond.initialized y.cls).before As.toArray T = true) (hfr : lev + 1 ≤ R.frames) (hlo : 8 + (maxL + 11) + (64 * lev + 3200) ≤ R.locals) (hc4 : cells + mc ≤ R.cells) (hs5 : slots + ms ≤ R.slots) (hok : g.U.WarmedH T.vm) (hsim : kSim g h T.heap) :
    ∃ (T' : State) (L : List Loc) (h' : kH), Stand p l e R s m sargs below meth c T' (locs ++ L) (cells + mc) (slots + ms) ∧ kSim g h' T'.heap ∧ (∀ z ∈ L, g.U.heap.size ≤ z.base) ∧ T.heap.size ≤ T'.heap.size ∧
      ((∃ v, Po (.inl v) h' ∧ Steps p.tables e below (doInvoke e (T.setTop g0) [] mk As.toArray).1 (T'.setTop { g0 with pc := g0.pc + len, stack := v.toList ++ g0.stack })) ∨
       ∃ (q : Nat) (E : String) (ce : Cell), Po (.inr (q, E)) h' ∧ T'.heap[q]? = some ce ∧ ce.vm = .none ∧ T.vm.findClass E = some ce.cls ∧ Steps p.tables e below (doInvoke e (T.setTop g0) [] mk As.toArray).1 ((T'.setTop g0).pushFrame (.throwing q))) := by
  obtain ⟨mk', methY, cY, hn', hmY, hcY, -, hlY, -, -, -, -⟩ := hcd.2.2 _ _ hcw
  cases hn.symm.trans hn'
  obtain ⟨kY, hkY, -⟩ := className_of_methodNamed hn
  have hinitY : kY.init = .initialized := Cond.initialized_spec (findClass_of_methodNamed hn) hkY hinit
  have hh0 : At T g0.method c below := by rw [hg]; exact X.here
  have h9 : (headSpec [cw] (kRm lev mc ms)).room.locals = 64 * lev + 3200 := rfl
  have happ : (headSpec [cw] (kRm lev mc ms)).appliesLoose y e.platform (T.calling g0 mk As.toArray) = true :=
    Spec.appliesLoose_calling (g := g0) hh0 hdg hn hkY hinitY
      (X.room_calling (g := g0) (R' := (headSpec [cw] (kRm lev mc ms)).room) hsize hmY hcY hfr (by omega) hc4 hs5) (atoms_intro fun w hw => by rw [List.mem_singleton.mp hw]; exact hcw)
  obtain ⟨mid, hmid⟩ := hh0.above
  have hfr0 : (T.setTop g0).frames = (.java g0 :: mid) ++ below := by rw [State.frames_setTop' g0 hh0.top, hmid]; rfl
  have hPc : As.toArray = As.toArray ∧ g.U.WarmedH (T.calling g0 mk As.toArray).vm ∧ kSim g h (T.calling g0 mk As.toArray).heap := ⟨rfl, hok, hsim⟩
  obtain ⟨o, s₂, hsteps, -, hend, hq⟩ := Steps.callFree hM p X.admits X.cas X.clock (acts := []) hfr0 happ hPc trivial
  obtain ⟨h', L, hsim', hW₂, hsm, hL, hq'⟩ : kOut g (T.calling g0 mk As.toArray) mc ms Po o s₂ := hq
  rw [State.frames_setTop' g0 hh0.top] at hend
  obtain ⟨g₀, hg0⟩ := Option.isSome_iff_exists.mp hh0.top
  obtain ⟨r, hr⟩ := State.topJava?_eq_some.mp hg0
  have hr' : (({ T with heap := s₂.heap, slotsUsed := s₂.slotsUsed } : State).setVm s₂.vm).frames = .java g₀ :: r := hr
  obtain ⟨e2, q2, q3, q4, q5, q6⟩ := id hsm
  have e3 : s₂ = ({ (T.calling g0 mk As.toArray).setFrames s₂.frames with heap := s₂.heap, slotsUsed := s₂.slotsUsed } : State).setVm s₂.vm := by
    have : s₂ = ({ s₂ with vm := (T.calling g0 mk As.toArray).vm } : State).setVm s₂.vm := rfl
    rw [e2] at this
    exact this
  have hW' : T.WarmedH s₂.vm := hW₂
  have hsame : T.sameButNew ({ T with heap := s₂.heap, slotsUsed := s₂.slotsUsed } : State) L mc ms := by
    refine ⟨?_, q2, q3, q4, q5, q6⟩
    obtain ⟨t, ht, -⟩ := State.frames_cons hr
    show ({ T with heap := s₂.heap, slotsUsed := s₂.slotsUsed } : State) = { T.setFrames T.frames with heap := s₂.heap, slotsUsed := s₂.slotsUsed }
    rw [State.setFrames_self ht]
  subst hg
  refine ⟨({ T with heap := s₂.heap, slotsUsed := s₂.slotsUsed } : State).setVm s₂.vm, L, h',
    ⟨X.admits, X.cas, X.clock, X.frames, X.room, X.hears, X.method, X.code, (X.here.setHeapUsed s₂.heap s₂.slotsUsed).setVm hW'.alike, X.tail, State.WarmedH.trans X.warmed hW', X.limits, X.bytes, X.same.trans (hsame.setVm s.vm)⟩, hsim', hL, q2, ?_⟩
  rcases hq' with ⟨v, rfl, hp⟩ | ⟨q, E, ce, rfl, hp, hce, hcv, hcl⟩
  · refine Or.inl ⟨v, hp, ?_⟩
    obtain ⟨c₂, i₂, len₂, hc₂, hd₂, hf₂⟩ := hend
    have hcc : c₂ = c := by
      have h1 : s₂.code? g0.method = T.code? g0.method := by
        rw [State.code?_eq, State.code?_eq, hW'.alike.method?]
      exact Option.some.inj (hc₂.symm.trans (h1.trans hh0.code))
    subst hcc
    have hlen : len₂ = len := by rw [hdg] at hd₂; cases hd₂; rfl
    subst hlen
    have hs₂ : s₂ = (({ T with heap := s₂.heap, slotsUsed := s₂.slotsUsed } : State).setVm s₂.vm).setTop { g0 with pc := g0.pc + len₂, stack := v.toList ++ g0.stack } := by
      refine e3.trans ?_
      rw [hf₂, State.calling_eq hh0.top, State.setFrames_setFrames, State.setTop_of_frames _ hr', hr]
      rfl
    rw [← hs₂]
    exact hsteps
  · refine Or.inr ⟨q, E, ce, hp, hce, hcv, hcl, ?_⟩
    have hf₂ : s₂.frames = .throwing q :: .java g0 :: T.frames.tail := hend
    have hs₂ : s₂ = ((({ T with heap := s₂.heap, slotsUsed := s₂.slotsUsed } : State).setVm s₂.vm).setTop g0).pushFrame (.throwing q) := by
      refine e3.trans ?_
      rw [hf₂, State.calling_eq hh0.top, State.setFrames_setFrames, State.pushFrame, State.frames_setTop _ hr', State.setTop_of_frames _ hr', State.setFrames_setFrames, hr]
      rfl
    rw [← hs₂]
    exact hsteps
end
section
variable {x : kX} {y : MethodName} {cc : ByteArray} {nL lev mc ms : Nat} {ret : Option FieldType} {hh : List (Nat × Nat × Nat × Nat)} {Po : kR → kH → Prop} {k n : Nat} {h : kH} {pc : Nat} {lv lv' : List (Nat × Value)} {st : List Value}
/-- an invoke instruction takes the machine to the callee's entry -/
def kInv (x : kX) (k n : Nat) (h : kH) (pc len : Nat) (lv : List (Nat × Value)) (st rest : List Value) (z : MethodName) (As : List Value) : Prop :=
  ∀ (H : Heap) (locs : List Loc) (ls : Array Slot) (T : State), kSim x.g h H → kS x H locs → lv_has ls x.c.maxLocals lv → T.heap = H → Stand x.p x.l x.e x.R x.s x.m x.args x.below x.meth x.c T locs k n →
    ∃ (vm₁ : Vm) (mk : MethodId) (ig : Instr), x.s.WarmedH vm₁ ∧ Stand x.p x.l x.e x.R x.s x.m x.args x.below x.meth x.c (T.setVm vm₁) locs k n ∧ (T.setVm vm₁).methodNamed? z = some mk ∧ decode x.c.code pc = .ok (ig, len) ∧
      ∀ target, Steps x.p.tables x.e x.below (doInvoke x.e ((T.setVm vm₁).setTop (F0 x.m pc ls rest)) [] mk As.toArray).1 target → Steps x.p.tables x.e x.below (T.setTop (F0 x.m pc ls st)) target
theorem k_call (F : kF x y cc nL ret hh lev mc ms Po) {z : MethodName} {cw : Cond} {cz : ByteArray} {nz lz mz sz len : Nat} {rz : Option FieldType} {hz : List (Nat × Nat × Nat × Nat)} {As rest : List Value} {Pz : kR → kH → Prop} (hM : kMet x.l x.g z cw lz mz sz As h Pz) (hcd : kCd cw z cz nz rz hz) (hcw : cw ∈ lw_all) (hini : Cond.initialized z.cls ∈ lw_all) (inv : kInv x k n h pc len lv st rest z As) (hst : (rest.map fun v => v.category).sum ≤ 8)
    (hlev : lz < lev) (hnz : nz ≤ 45) (hk : k + mz ≤ mc) (hn : n + sz ≤ ms) (kr : ∀ v h', Pz (.inl v) h' → kW x (k + mz) (n + sz) h' (pc + len) lv (v.toList ++ rest)) (kt : ∀ q E h', Pz (.inr (q, E)) h' → (∀ H, kSim x.g h' H → ∀ ce : Cell, H[q]? = some ce → ce.vm = .none → x.s.vm.findClass E = some ce.cls → ∀ (locs : List Loc) (ls : Array Slot), kS x H locs → lv_has ls x.c.maxLocals lv → vx_W x.p x.l x.e x.R x.s x.m x.args x.below x.meth x.c H locs (k + mz) (n + sz) (kQ x) (F0 x.m pc ls rest) q)) : kW x k n h pc lv st := by
  intro H locs ls hs hS hl T hT X
  obtain ⟨hR, -⟩ := F.R
  obtain ⟨vm₁, mk, ig, hW₁, X₁, hnm, hdg, go⟩ := inv H locs ls T hs hS hl hT X
  have hW2 : x.g.U.WarmedH (T.setVm vm₁).vm := State.WarmedH.trans F.hW hW₁
  have hcwT : cw.before As.toArray (T.setVm vm₁) = true := by
    obtain ⟨k1, k2⟩ := List.mem_filter.mp hcw
    exact word_at hW2 (good_of_word k2) (F.st.2.1 _ k1)
  have hinT : (Cond.initialized z.cls).before As.toArray (T.setVm vm₁) = true := by
    obtain ⟨k1, k2⟩ := List.mem_filter.mp hini
    exact word_at hW2 (good_of_word k2) (F.st.2.1 _ k1)
  obtain ⟨T', L, h', X', hs', hL, hz', hcase⟩ := k_back hM hcd X₁ (g0 := F0 x.m pc ls rest) rfl hl.1 hdg (lv_room hst) hnm hcwT hinT (by rw [hR]; exact hlev) (by rw [hR]; simp only [kRm]; omega) (by rw [hR]; exact hk) (by rw [hR]; exact hn) hW2 (by show kSim x.g h T.heap; rw [hT]; exact hs)
  have hTz : T.heap.size ≤ T'.heap.size := hz'
  have hS' : kS x T'.heap (locs ++ L) := ⟨Nat.le_trans hS.1 (by rw [← hT]; exact hTz), fun q hq => by
    rcases List.mem_append.mp hq with a | a
    · exact hS.2 q a
    · exact hL q a⟩
  rcases hcase with ⟨v, hp, st1⟩ | ⟨q, E, ce, hp, hce, hcv, hcl, st1⟩
  · obtain ⟨t, a1, b1⟩ := kr v h' hp T'.heap (locs ++ L) ls hs' hS' hl T' rfl X'
    exact ⟨t, go t (st1.trans a1), b1⟩
  · have hcl' : x.s.vm.findClass E = some ce.cls := by
      have h1 : vm₁.findClass E = some ce.cls := hcl
      rw [hW₁.alike.findClass] at h1
      exact h1
    obtain ⟨t, a1, b1⟩ := kt q E h' hp T'.heap hs' ce hce hcv hcl' (locs ++ L) ls hS' hl T' rfl X'
    exact ⟨t, go t (st1.trans a1), b1⟩
/-- of a thrown object: its class by name -/
def kThr (x : kX) (k n : Nat) (h : kH) (pc : Nat) (lv : List (Nat × Value)) (st : List Value) (q : Nat) (E : String) : Prop :=
  ∀ H, kSim x.g h H → ∀ ce : Cell, H[q]? = some ce → ce.vm = .none → x.s.vm.findClass E = some ce.cls → ∀ (locs : List Loc) (ls : Array Slot), kS x H locs → lv_has ls x.c.maxLocals lv → vx_W x.p x.l x.e x.R x.s x.m x.args x.below x.meth x.c H locs k n (kQ x) (F0 x.m pc ls st) q
/-- the results of methods that don't throw -/
def kV (P : Value → kH → Prop) : kR → kH → Prop := fun r h => match r with
  | .inl (some v) => P v h
  | _ => False
def kN (P : kH → Prop) : kR → kH → Prop := fun r h => match r with
  | .inl none => P h
  | _ => False
/-- of methods that may throw -/
def kVT (P : Value → kH → Prop) (Q : Nat → String → kH → Prop) : kR → kH → Prop := fun r h => match r with
  | .inl (some v) => P v h
  | .inl none => False
  | .inr q => Q q.1 q.2 h
def kNT (P : kH → Prop) (Q : Nat → String → kH → Prop) : kR → kH → Prop := fun r h => match r with
  | .inl none => P h
  | .inl (some _) => False
  | .inr q => Q q.1 q.2 h
/-- the thrown object leaves this method too -/
theorem kThr.out (F : kF x y cc nL ret hh lev mc ms Po) {q : Nat} {E : String} (hout : ∀ z ∈ hh, ¬ (z.1 ≤ pc ∧ pc < z.2.1)) (hk : k ≤ mc) (hn : n ≤ ms) (hp : Po (.inr (q, E)) h) : kThr x k n h pc lv st q E := by
  intro H hs ce hce hcv hcl locs ls hS hl T hT X
  obtain ⟨-, e1, e2, e3⟩ := F.R
  have hco : ∀ z ∈ x.c.exceptionTable.toList, covers z pc = false := by
    intro z hz
    have h1 := hout (z.startPc, z.endPc, z.handlerPc, z.catchType) (by rw [← F.tb]; exact List.mem_map.mpr ⟨z, hz, rfl⟩)
    cases hc : covers z pc with
    | false => rfl
    | true =>
      exfalso
      apply h1
      simpa [covers] using hc
  obtain ⟨st1, hrun, hend, hW, hsm⟩ := X.leaveThrown q (g := F0 x.m pc ls st) rfl rfl rfl hco F.hlk
  refine ⟨_, st1, .threw q, hrun, hend, h, locs, by rw [← hT] at hs; exact hs, hW, hsm.mono (by rw [e1]; exact hk) (by rw [e2]; exact hn), hS.2, Or.inr ⟨q, E, ce, rfl, by rw [e3]; exact hp, by rw [← hT] at hce; exact hce, hcv, hcl⟩⟩
/-! the kinds of calls -/
theorem kRecv (F : kF x y cc nL ret hh lev mc ms Po) {ci : Nat} {C : String} {T : u_T} {N : Nat} {ty : Nat → FieldType} (hc : kCl ci C T N ty) {H : Heap} (hs : kSim x.g h H) {a : Nat} {t : kT} {fs : List Value} (ha : kHs x.g h a t (.inl (ci, fs))) : ∃ cell : Cell, H[a]? = some cell ∧ cell.vm.isStatics = false ∧ x.s.vm.findClass C = some cell.cls ∧ ∃ kC, x.s.vm.classes[cell.cls]? = some kC := by
  obtain ⟨r, h1, cell, q1, q2, q3, -, q4⟩ := hs.atO ha
  obtain ⟨-, hfc, kC, hkC, -⟩ := F.K.1 ci _ (F.cl hc)
  exact ⟨cell, q1, q3, by rw [q2]; exact hfc, kC, by rw [q2]; exact hkC⟩
theorem kInvV (F : kF x y cc nL ret hh lev mc ms Po) {ci : Nat} {C : String} {T : u_T} {N : Nat} {ty : Nat → FieldType} (hc : kCl ci C T N ty) {z : MethodName} {index : Nat} (hq : Cond.methodLink y.cls index z ∈ lw_all) (hi : Cond.instanceMethod z ∈ lw_all) (hsl : Cond.selects C z z ∈ lw_all) {cw : Cond} {cz : ByteArray} {nz : Nat} {rz : Option FieldType} {hz : List (Nat × Nat × Nat × Nat)} (hcd : kCd cw z cz nz rz hz) (hcw : cw ∈ lw_all)
    (hd : decode cc pc = .ok (.invokevirtual index, 3)) {a : Nat} {t : kT} {fs : List Value} (ha : kHs x.g h a t (.inl (ci, fs))) {Bs rest : List Value} (hlen : (parseMethodDescriptor z.desc).map (fun d => d.parameters.length) = some Bs.length) (hy : z.cls ≠ "java/lang/invoke/MethodHandle" ∧ z.cls ≠ "java/lang/invoke/VarHandle") : kInv x k n h pc 3 lv (Bs.reverse ++ .ref a :: rest) rest z (.ref a :: Bs) := by
  intro H locs ls T hs hS hl hT X
  obtain ⟨cellB, hcB, hvB, hclB, -⟩ := kRecv F hc hs ha
  obtain ⟨mk, methM, hnamed, hmethM, hstM, habM⟩ := Cond.instanceMethod_spec (F.w hi)
  obtain ⟨mk', methM', cM, hn', hmM', -, -, -, -, -, hsigM, -⟩ := hcd.2.2 x.args x.s (F.w hcw)
  cases hnamed.symm.trans hn'
  cases hmethM.symm.trans hmM'
  obtain ⟨c2, r2, m2, q1, q2, q3, q4, kP, hkP, hkPi⟩ := Cond.selects_spec (F.w hsl)
  cases hclB.symm.trans q1
  cases (State.methodFound?_of_named hnamed hy).symm.trans q2
  cases hnamed.symm.trans q3
  have hselP : selectMethod x.e.platform x.s.vm cellB.cls mk = .method mk := by rw [Launch.admits_selectMethod X.admits]; exact q4
  have hle : Bs.length = methM.sig.parameters.length := by
    rw [hsigM] at hlen
    exact (Option.some.inj hlen).symm
  have hdg : decode x.c.code pc = .ok (.invokevirtual index, 3) := by rw [F.hb]; exact hd
  obtain ⟨vm₁, X₁, hstep₁⟩ := X.invokevirtual F.hx F.hown (F.w hq) hnamed hmethM hstM hkP hkPi hy (a := a) (cell := cellB) (by rw [hT]; exact hcB)
    (fun z h => by rw [h] at hvB; cases hvB) hselP hmethM habM hkP hkPi (g := F0 x.m pc ls (Bs.reverse ++ .ref a :: rest)) rfl (argsL := Bs) (rest := rest) hle rfl hdg
  exact ⟨vm₁, mk, _, X₁.warmed, X₁, X₁.named hnamed, hdg, fun target h => hstep₁ _ fun acts => by rw [doInvoke_state]; exact h⟩
theorem kInvN (F : kF x y cc nL ret hh lev mc ms Po) {ci : Nat} {C host : String} {T : u_T} {N : Nat} {ty : Nat → FieldType} (hc : kCl ci C T N ty) {z : MethodName} {index : Nat} (hq : Cond.methodLinkNest y.cls index z host ∈ lw_tbl) (hi : Cond.instanceMethod z ∈ lw_all) (hsl : Cond.selects C z z ∈ lw_all) {cw : Cond} {cz : ByteArray} {nz : Nat} {rz : Option FieldType} {hz : List (Nat × Nat × Nat × Nat)} (hcd : kCd cw z cz nz rz hz) (hcw : cw ∈ lw_all)
    (hd : decode cc pc = .ok (.invokevirtual index, 3)) {a : Nat} {t : kT} {fs : List Value} (ha : kHs x.g h a t (.inl (ci, fs))) {Bs rest : List Value} (hlen : (parseMethodDescriptor z.desc).map (fun d => d.parameters.length) = some Bs.length) (hy : z.cls ≠ "java/lang/invoke/MethodHandle" ∧ z.cls ≠ "java/lang/invoke/VarHandle") : kInv x k n h pc 3 lv (Bs.reverse ++ .ref a :: rest) rest z (.ref a :: Bs) := by
  intro H locs ls T hs hS hl hT X
  obtain ⟨cellB, hcB, hvB, hclB, -⟩ := kRecv F hc hs ha
  obtain ⟨mk, methM, hnamed, hmethM, hstM, habM⟩ := Cond.instanceMethod_spec (F.w hi)
  obtain ⟨mk', methM', cM, hn', hmM', -, -, -, -, -, hsigM, -⟩ := hcd.2.2 x.args x.s (F.w hcw)
  cases hnamed.symm.trans hn'
  cases hmethM.symm.trans hmM'
  obtain ⟨c2, r2, m2, q1, q2, q3, q4, kP, hkP, hkPi⟩ := Cond.selects_spec (F.w hsl)
  cases hclB.symm.trans q1
  cases (State.methodFound?_of_named hnamed hy).symm.trans q2
  cases hnamed.symm.trans q3
  have hselP : selectMethod x.e.platform x.s.vm cellB.cls mk = .method mk := by rw [Launch.admits_selectMethod X.admits]; exact q4
  have hle : Bs.length = methM.sig.parameters.length := by
    rw [hsigM] at hlen
    exact (Option.some.inj hlen).symm
  have hdg : decode x.c.code pc = .ok (.invokevirtual index, 3) := by rw [F.hb]; exact hd
  have hq2 : (Cond.methodLinkNest y.cls index z host).before x.args x.s = true := va_Nw.use rfl (va_Nw.warmM F.hW (va_Nw.of rfl (F.st.2.1 _ hq)))
  obtain ⟨vm₁, X₁, hstep₁⟩ := X.invokevirtualNest F.hx F.hown hq2 hnamed hmethM hstM hkP hkPi hy (a := a) (cell := cellB) (by rw [hT]; exact hcB)
    (fun z h => by rw [h] at hvB; cases hvB) hselP hmethM habM hkP hkPi (g := F0 x.m pc ls (Bs.reverse ++ .ref a :: rest)) rfl (argsL := Bs) (rest := rest) hle rfl hdg
  exact ⟨vm₁, mk, _, X₁.warmed, X₁, X₁.named hnamed, hdg, fun target h => hstep₁ _ fun acts => by rw [doInvoke_state]; exact h⟩
/-- linked to z, declared in owner; the receiver's class C selects y' -/
theorem kInvU (F : kF x y cc nL ret hh lev mc ms Po) {ci : Nat} {C owner : String} {T : u_T} {N : Nat} {ty : Nat → FieldType} (hc : kCl ci C T N ty) {z zz : MethodName} {index : Nat} (hq : Cond.methodLink y.cls index z ∈ lw_all) (hsm : Cond.sameMethod z.cls owner z.name z.desc ∈ lw_all) (ho : Cond.instanceMethod ⟨owner, z.name, z.desc⟩ ∈ lw_all) (hi : Cond.instanceMethod zz ∈ lw_all) (hsl : Cond.selects C z zz ∈ lw_all)
    {cw0 : Cond} {cz0 : ByteArray} {nz0 : Nat} {rz0 : Option FieldType} {hz0 : List (Nat × Nat × Nat × Nat)} (hcd : kCd cw0 ⟨owner, z.name, z.desc⟩ cz0 nz0 rz0 hz0) (hcw : cw0 ∈ lw_all)
    (hd : decode cc pc = .ok (.invokevirtual index, 3)) {a : Nat} {t : kT} {fs : List Value} (ha : kHs x.g h a t (.inl (ci, fs))) {Bs rest : List Value} (hlen : (parseMethodDescriptor z.desc).map (fun d => d.parameters.length) = some Bs.length) (hy : owner ≠ "java/lang/invoke/MethodHandle" ∧ owner ≠ "java/lang/invoke/VarHandle") : kInv x k n h pc 3 lv (Bs.reverse ++ .ref a :: rest) rest zz (.ref a :: Bs) := by
  intro H locs ls T hs hS hl hT X
  obtain ⟨cellB, hcB, hvB, hclB, -⟩ := kRecv F hc hs ha
  obtain ⟨r0, r, hn, hrm, hstR, -⟩ := Cond.instanceMethod_spec (F.w ho)
  obtain ⟨r0', r', cM, hn', hmM', -, -, -, -, -, hsigM, -⟩ := hcd.2.2 x.args x.s (F.w hcw)
  cases hn.symm.trans hn'
  cases hrm.symm.trans hmM'
  obtain ⟨cn, ck, r1, hcn, hck, hni, hf, hn1⟩ := Cond.sameMethod_found (F.w hsm)
  cases hn.symm.trans hn1
  obtain ⟨mk, methM, hnamed, hmethM, -, habM⟩ := Cond.instanceMethod_spec (F.w hi)
  obtain ⟨c2, r2, m2, q1, q2, q3, q4, kP, hkP, hkPi⟩ := Cond.selects_spec (F.w hsl)
  cases hclB.symm.trans q1
  cases hf.symm.trans q2
  cases hnamed.symm.trans q3
  have hselP : selectMethod x.e.platform x.s.vm cellB.cls r0 = .method mk := by rw [Launch.admits_selectMethod X.admits]; exact q4
  have hle : Bs.length = r.sig.parameters.length := by
    have hsig2 : parseMethodDescriptor z.desc = some r.sig := hsigM
    rw [hsig2] at hlen
    exact (Option.some.inj hlen).symm
  have hdg : decode x.c.code pc = .ok (.invokevirtual index, 3) := by rw [F.hb]; exact hd
  obtain ⟨vm₁, X₁, hstep₁⟩ := X.invokevirtualUp F.hx F.hown (F.w hq) (F.w hsm) hy hn hrm hstR (a := a) (cell := cellB) (by rw [hT]; exact hcB)
    (fun z h => by rw [h] at hvB; cases hvB) hselP hmethM habM hkP hkPi (g := F0 x.m pc ls (Bs.reverse ++ .ref a :: rest)) rfl (argsL := Bs) (rest := rest) hle rfl hdg
  exact ⟨vm₁, mk, _, X₁.warmed, X₁, X₁.named hnamed, hdg, fun target h => hstep₁ _ fun acts => by rw [doInvoke_state]; exact h⟩
theorem kInvS (F : kF x y cc nL ret hh lev mc ms Po) {z : MethodName} {index : Nat} (hq : Cond.methodLink y.cls index z ∈ lw_all) (hi : Cond.static z ∈ lw_all) (hini : Cond.initialized z.cls ∈ lw_all) {cw : Cond} {cz : ByteArray} {nz : Nat} {rz : Option FieldType} {hz : List (Nat × Nat × Nat × Nat)} (hcd : kCd cw z cz nz rz hz) (hcw : cw ∈ lw_all)
    (hd : decode cc pc = .ok (.invokestatic index, 3)) {Bs rest : List Value} (hlen : (parseMethodDescriptor z.desc).map (fun d => d.parameters.length) = some Bs.length) (hy : z.cls ≠ "java/lang/invoke/MethodHandle" ∧ z.cls ≠ "java/lang/invoke/VarHandle") : kInv x k n h pc 3 lv (Bs.reverse ++ rest) rest z Bs := by
  intro H locs ls T hs hS hl hT X
  obtain ⟨mk, methM, cM, hnamed, hmethM, -, -, -, -, -, hsigM, -⟩ := hcd.2.2 x.args x.s (F.w hcw)
  have hstatic : methM.isStatic = true := Cond.static_spec hnamed hmethM (F.w hi)
  obtain ⟨kP, hkP, -⟩ := className_of_methodNamed hnamed
  have hinitP : kP.init = .initialized := Cond.initialized_spec (findClass_of_methodNamed hnamed) hkP (F.w hini)
  have hle : Bs.length = methM.sig.parameters.length := by
    rw [hsigM] at hlen
    exact (Option.some.inj hlen).symm
  have hdg : decode x.c.code pc = .ok (.invokestatic index, 3) := by rw [F.hb]; exact hd
  obtain ⟨vm₁, X₁, hstep₁⟩ := X.invokestatic F.hx F.hown (F.w hq) hnamed hmethM hstatic hkP hinitP hy (g := F0 x.m pc ls (Bs.reverse ++ rest)) rfl (argsL := Bs) (rest := rest) hle rfl hdg
  exact ⟨vm₁, mk, _, X₁.warmed, X₁, X₁.named hnamed, hdg, fun target h => hstep₁ _ fun acts => by rw [doInvoke_state]; exact h⟩
theorem kInvSN (F : kF x y cc nL ret hh lev mc ms Po) {z : MethodName} {index : Nat} {host : String} (hq : Cond.methodLinkNest y.cls index z host ∈ lw_tbl) (hi : Cond.static z ∈ lw_all) (hini : Cond.initialized z.cls ∈ lw_all) {cw : Cond} {cz : ByteArray} {nz : Nat} {rz : Option FieldType} {hz : List (Nat × Nat × Nat × Nat)} (hcd : kCd cw z cz nz rz hz) (hcw : cw ∈ lw_all)
    (hd : decode cc pc = .ok (.invokestatic index, 3)) {Bs rest : List Value} (hlen : (parseMethodDescriptor z.desc).map (fun d => d.parameters.length) = some Bs.length) (hy : z.cls ≠ "java/lang/invoke/MethodHandle" ∧ z.cls ≠ "java/lang/invoke/VarHandle") : kInv x k n h pc 3 lv (Bs.reverse ++ rest) rest z Bs := by
  intro H locs ls T hs hS hl hT X
  obtain ⟨mk, methM, cM, hnamed, hmethM, -, -, -, -, -, hsigM, -⟩ := hcd.2.2 x.args x.s (F.w hcw)
  have hstatic : methM.isStatic = true := Cond.static_spec hnamed hmethM (F.w hi)
  obtain ⟨kP, hkP, -⟩ := className_of_methodNamed hnamed
  have hinitP : kP.init = .initialized := Cond.initialized_spec (findClass_of_methodNamed hnamed) hkP (F.w hini)
  have hle : Bs.length = methM.sig.parameters.length := by
    rw [hsigM] at hlen
    exact (Option.some.inj hlen).symm
  have hdg : decode x.c.code pc = .ok (.invokestatic index, 3) := by rw [F.hb]; exact hd
  have hq2 : (Cond.methodLinkNest y.cls index z host).before x.args x.s = true := va_Nw.use rfl (va_Nw.warmM F.hW (va_Nw.of rfl (F.st.2.1 _ hq)))
  obtain ⟨vm₁, X₁, hstep₁⟩ := X.invokestaticNest F.hx F.hown hq2 hnamed hmethM hstatic hkP hinitP hy (g := F0 x.m pc ls (Bs.reverse ++ rest)) rfl (argsL := Bs) (rest := rest) hle rfl hdg
  exact ⟨vm₁, mk, _, X₁.warmed, X₁, X₁.named hnamed, hdg, fun target h => hstep₁ _ fun acts => by rw [doInvoke_state]; exact h⟩
theorem kInvI (F : kF x y cc nL ret hh lev mc ms Po) {z : MethodName} {index : Nat} {cz : ByteArray} {nz : Nat} (hq : Cond.methodLink y.cls index z ∈ lw_all) (hi : Cond.instanceMethod z ∈ lw_all) (hcw : Cond.code z cz nz none ∈ lw_all) (hzn : z.name = "<init>")
    (hd : decode cc pc = .ok (.invokespecial index, 3)) {a : Nat} {Bs rest : List Value} (hlen : (parseMethodDescriptor z.desc).map (fun d => d.parameters.length) = some Bs.length) (hy : z.cls ≠ "java/lang/invoke/MethodHandle" ∧ z.cls ≠ "java/lang/invoke/VarHandle") : kInv x k n h pc 3 lv (Bs.reverse ++ .ref a :: rest) rest z (.ref a :: Bs) := by
  intro H locs ls T hs hS hl hT X
  have hdg : decode x.c.code pc = .ok (.invokespecial index, 3) := by rw [F.hb]; exact hd
  have hpl : x.e.platform.magicAccessors = ({} : Platform).magicAccessors := by rw [X.admits.platform]
  have hlen2 : ∀ sig, parseMethodDescriptor z.desc = some sig → Bs.length = sig.parameters.length := fun sig hsig => by
    rw [hsig] at hlen
    exact (Option.some.inj hlen).symm
  obtain ⟨mk, methM, cM, kP, vm₁, hnamed, hmethM, hcodeM, -, hlocalsM, -, hkP, -, hW₁, hstep₁⟩ := Steps.initColdArgs (e := x.e) X.here F.hx X.warmed hpl F.hown hzn hy (F.w hq) (F.w hi) (F.w hcw) (f := F0 x.m pc ls (Bs.reverse ++ .ref a :: rest)) rfl hlen2 rfl hdg
  have X₁ := X.noted hW₁
  exact ⟨vm₁, mk, _, hW₁, X₁, X₁.named hnamed, hdg, fun target h => hstep₁ _ fun acts => by rw [doInvoke_state]; exact h⟩
theorem kInvIN (F : kF x y cc nL ret hh lev mc ms Po) {z : MethodName} {index : Nat} {host : String} {cz : ByteArray} {nz : Nat} (hq : Cond.methodLinkNest y.cls index z host ∈ lw_tbl) (hi : Cond.instanceMethod z ∈ lw_all) (hcw : Cond.code z cz nz none ∈ lw_all) (hzn : z.name = "<init>")
    (hd : decode cc pc = .ok (.invokespecial index, 3)) {a : Nat} {Bs rest : List Value} (hlen : (parseMethodDescriptor z.desc).map (fun d => d.parameters.length) = some Bs.length) (hy : z.cls ≠ "java/lang/invoke/MethodHandle" ∧ z.cls ≠ "java/lang/invoke/VarHandle") : kInv x k n h pc 3 lv (Bs.reverse ++ .ref a :: rest) rest z (.ref a :: Bs) := by
  intro H locs ls T hs hS hl hT X
  have hdg : decode x.c.code pc = .ok (.invokespecial index, 3) := by rw [F.hb]; exact hd
  have hpl : x.e.platform.magicAccessors = ({} : Platform).magicAccessors := by rw [X.admits.platform]
  have hlen2 : ∀ sig, parseMethodDescriptor z.desc = some sig → Bs.length = sig.parameters.length := fun sig hsig => by
    rw [hsig] at hlen
    exact (Option.some.inj hlen).symm
  have hq2 : (Cond.methodLinkNest y.cls index z host).before x.args x.s = true := va_Nw.use rfl (va_Nw.warmM F.hW (va_Nw.of rfl (F.st.2.1 _ hq)))
  obtain ⟨mk, methM, cM, kP, vm₁, hnamed, hmethM, hcodeM, -, hlocalsM, -, hkP, -, hW₁, hstep₁⟩ := Steps.initColdArgsNest (e := x.e) X.here F.hx X.warmed hpl F.hown hzn hy hq2 (F.w hi) (F.w hcw) (f := F0 x.m pc ls (Bs.reverse ++ .ref a :: rest)) rfl hlen2 rfl hdg
  have X₁ := X.noted hW₁
  exact ⟨vm₁, mk, _, hW₁, X₁, X₁.named hnamed, hdg, fun target h => hstep₁ _ fun acts => by rw [doInvoke_state]; exact h⟩
/-- super.m(..) -/
theorem kInvSU (F : kF x y cc nL ret hh lev mc ms Po) {ci : Nat} {C : String} {T : u_T} {N : Nat} {ty : Nat → FieldType} (hc : kCl ci C T N ty) {z : MethodName} {index : Nat} (hq : Cond.methodLink y.cls index z ∈ lw_all) (hsm : Cond.sameMethod z.cls z.cls z.name z.desc ∈ lw_all) (hsu : Cond.superclass y.cls z.cls ∈ lw_all) (hi : Cond.instanceMethod z ∈ lw_all) {cw : Cond} {cz : ByteArray} {nz : Nat} {rz : Option FieldType} {hz : List (Nat × Nat × Nat × Nat)} (hcd : kCd cw z cz nz rz hz) (hcw : cw ∈ lw_all) (hno : z.name ≠ "<init>")
    (hd : decode cc pc = .ok (.invokespecial index, 3)) {a : Nat} {t : kT} {fs : List Value} (ha : kHs x.g h a t (.inl (ci, fs))) {Bs rest : List Value} (hlen : (parseMethodDescriptor z.desc).map (fun d => d.parameters.length) = some Bs.length) : kInv x k n h pc 3 lv (Bs.reverse ++ .ref a :: rest) rest z (.ref a :: Bs) := by
  intro H locs ls T hs hS hl hT X
  obtain ⟨cellB, hcB, hvB, hclB, kB, hkB⟩ := kRecv F hc hs ha
  obtain ⟨mk, methM, hnamed, hmethM, hstM, habM⟩ := Cond.instanceMethod_spec (F.w hi)
  obtain ⟨mk', methM', cM, hn', hmM', -, -, -, -, -, hsigM, -⟩ := hcd.2.2 x.args x.s (F.w hcw)
  cases hnamed.symm.trans hn'
  cases hmethM.symm.trans hmM'
  obtain ⟨ps, dk, kp, hps, hdk, hkp, hsuper, -, -, hnid⟩ := Cond.superclass_spec F.hown (F.w hsu)
  have hn2 : x.s.methodNamed? ⟨z.cls, z.name, z.desc⟩ = some mk := hnamed
  have hpm : ps = mk.cls := Option.some.inj (hps.symm.trans (findClass_of_methodNamed hnamed))
  have hsub : x.s.vm.isSubclass ps mk.cls = true := by rw [hpm]; simp [Vm.isSubclass, Vm.isSubclassAux]
  have hle : Bs.length = methM.sig.parameters.length := by
    rw [hsigM] at hlen
    exact (Option.some.inj hlen).symm
  have hdg : decode x.c.code pc = .ok (.invokespecial index, 3) := by rw [F.hb]; exact hd
  obtain ⟨vm₁, X₁, hstep₁⟩ := X.invokespecialUp F.hx F.hown (F.w hq) (F.w hsm) hn2 hmethM hstM habM hno hdk hnid hps hsuper hsub (a := a) (cell := cellB) (by rw [hT]; exact hcB)
    (fun z h => by rw [h] at hvB; cases hvB) hkB (g := F0 x.m pc ls (Bs.reverse ++ .ref a :: rest)) rfl (argsL := Bs) (rest := rest) hle rfl hdg
  exact ⟨vm₁, mk, _, X₁.warmed, X₁, X₁.named hnamed, hdg, fun target h => hstep₁ _ h⟩
/-- an interface's method, of a receiver of a known class -/
theorem kInvF (F : kF x y cc nL ret hh lev mc ms Po) {ci : Nat} {C : String} {T : u_T} {N : Nat} {ty : Nat → FieldType} (hc : kCl ci C T N ty) {z zz : MethodName} {index count : Nat} (hq : Cond.methodLink y.cls index z ∈ lw_all) (hde : Cond.declares z ∈ lw_tbl) (hfa : Cond.interfaceMethod z.cls z.cls z.name z.desc ∈ lw_tbl) (hsl : Cond.selects C z zz ∈ lw_all) (hi : Cond.instanceMethod zz ∈ lw_all) (hpu : Cond.publicMethod zz ∈ lw_tbl) (hun : Cond.unhidden C z.name z.desc ∈ lw_tbl) (hca : Cond.castable C z.cls ∈ lw_tbl)
    (hd : decode cc pc = .ok (.invokeinterface index count, 5)) {a : Nat} {t : kT} {fs : List Value} (ha : kHs x.g h a t (.inl (ci, fs))) {Bs rest : List Value} (hlen : (parseMethodDescriptor z.desc).map (fun d => d.parameters.length) = some Bs.length) (hx : z.cls ≠ "java/lang/invoke/MethodHandle" ∧ z.cls ≠ "java/lang/invoke/VarHandle") : kInv x k n h pc 5 lv (Bs.reverse ++ .ref a :: rest) rest zz (.ref a :: Bs) := by
  intro H locs ls T hs hS hl hT X
  obtain ⟨cellB, hcB, hvB, hclB, kB, hkB⟩ := kRecv F hc hs ha
  have hFw : va_Fw C z zz x.s := va_Fw.moved hx F.hW.alike (va_Fw.of (F.st.2.1 _ hde) (F.st.2.1 _ hfa) (F.st.2.1 _ hpu) (F.st.2.1 _ hun) (F.st.2.1 _ hca))
  obtain ⟨f1, f2, f3, f4, f5⟩ := hFw
  obtain ⟨r0, r, hn, hrm, hstR, hsigR⟩ := Cond.declares_spec f1
  obtain ⟨cL, kL, r1, hcL, hkL, hiL, hfoundL, hn1⟩ := Cond.interfaceMethod_spec f2
  cases hn.symm.trans hn1
  have hr0cls : r0.cls = cL := Option.some.inj ((findClass_of_methodNamed hn).symm.trans hcL)
  obtain ⟨hnameR, hdescR⟩ := name_of_methodNamed hn hrm
  obtain ⟨mk, methM, hnamed, hmethM, -, habM⟩ := Cond.instanceMethod_spec (F.w hi)
  obtain ⟨c2, r2, m2, q1, q2, q3, q4, -⟩ := Cond.selects_spec (F.w hsl)
  cases hclB.symm.trans q1
  cases hfoundL.symm.trans q2
  cases hnamed.symm.trans q3
  have hselP : selectMethod x.e.platform x.s.vm cellB.cls r0 = .method mk := by rw [Launch.admits_selectMethod X.admits]; exact q4
  have hpubM : hasFlag methM.accessFlags Acc.public_ = true := Cond.publicMethod_spec hnamed hmethM f3
  have hway : ((cellB.cls :: x.s.vm.superclasses cellB.cls).any fun k => (declaredIn x.s.vm r.name r.desc k).any fun (_, z) => z.isPrivate || z.isStatic) = false := by
    rw [hnameR, hdescR]; exact Cond.unhidden_spec hclB f4
  obtain ⟨c3, t3, w1, w2, w3⟩ := Cond.castable_spec f5
  cases hclB.symm.trans w1
  cases hcL.symm.trans w2
  have hle : Bs.length = r.sig.parameters.length := by
    rw [hsigR] at hlen
    exact (Option.some.inj hlen).symm
  have hdg : decode x.c.code pc = .ok (.invokeinterface index count, 5) := by rw [F.hb]; exact hd
  obtain ⟨vm₁, X₁, hstep₁⟩ := X.invokeinterface F.hx F.hown (F.w hq) hn hrm hstR (by rw [hr0cls]; exact hkL) hiL hx (a := a) (cell := cellB) (kcell := kB) (by rw [hT]; exact hcB)
    (fun z h => by rw [h] at hvB; cases hvB) hkB (by rw [hr0cls]; exact w3) hselP hmethM hway hpubM habM (g := F0 x.m pc ls (Bs.reverse ++ .ref a :: rest)) rfl (argsL := Bs) (rest := rest) hle rfl hdg
  exact ⟨vm₁, mk, _, X₁.warmed, X₁, X₁.named hnamed, hdg, fun target h => hstep₁ _ fun acts => by rw [doInvoke_state]; exact h⟩
/-! calls by what comes back -/
theorem k_callV (F : kF x y cc nL ret hh lev mc ms Po) {z : MethodName} {cw : Cond} {cz : ByteArray} {nz lz mz sz len : Nat} {rz : Option FieldType} {hz : List (Nat × Nat × Nat × Nat)} {As rest : List Value} {P : Value → kH → Prop} (hcd : kCd cw z cz nz rz hz) (hcw : cw ∈ lw_all) (hini : Cond.initialized z.cls ∈ lw_all) (inv : kInv x k n h pc len lv st rest z As) (hM : kMet x.l x.g z cw lz mz sz As h (kV P)) (p' : Nat) (hp : pc + len = p') (hst : (rest.map fun v => v.category).sum ≤ 8)
    (hlev : lz < lev) (hnz : nz ≤ 45) (hk : k + mz ≤ mc) (hn : n + sz ≤ ms) (kr : ∀ v h', P v h' → kW x (k + mz) (n + sz) h' p' lv (v :: rest)) : kW x k n h pc lv st := by
  subst hp
  exact k_call F hM hcd hcw hini inv hst hlev hnz hk hn (fun v h' hp => by
    cases v with
    | none => exact absurd hp id
    | some v => exact kr v h' hp) (fun q E h' hp => absurd hp id)
theorem k_callN (F : kF x y cc nL ret hh lev mc ms Po) {z : MethodName} {cw : Cond} {cz : ByteArray} {nz lz mz sz len : Nat} {rz : Option FieldType} {hz : List (Nat × Nat × Nat × Nat)} {As rest : List Value} {P : kH → Prop} (hcd : kCd cw z cz nz rz hz) (hcw : cw ∈ lw_all) (hini : Cond.initialized z.cls ∈ lw_all) (inv : kInv x k n h pc len lv st rest z As) (hM : kMet x.l x.g z cw lz mz sz As h (kN P)) (p' : Nat) (hp : pc + len = p') (hst : (rest.map fun v => v.category).sum ≤ 8)
    (hlev : lz < lev) (hnz : nz ≤ 45) (hk : k + mz ≤ mc) (hn : n + sz ≤ ms) (kr : ∀ h', P h' → kW x (k + mz) (n + sz) h' p' lv rest) : kW x k n h pc lv st := by
  subst hp
  exact k_call F hM hcd hcw hini inv hst hlev hnz hk hn (fun v h' hp => by
    cases v with
    | none => exact kr h' hp
    | some v => exact absurd hp id) (fun q E h' hp => absurd hp id)
theorem k_callVT (F : kF x y cc nL ret hh lev mc ms Po) {z : MethodName} {cw : Cond} {cz : ByteArray} {nz lz mz sz len : Nat} {rz : Option FieldType} {hz : List (Nat × Nat × Nat × Nat)} {As rest : List Value} {P : Value → kH → Prop} {Q : Nat → String → kH → Prop} (hcd : kCd cw z cz nz rz hz) (hcw : cw ∈ lw_all) (hini : Cond.initialized z.cls ∈ lw_all) (inv : kInv x k n h pc len lv st rest z As) (hM : kMet x.l x.g z cw lz mz sz As h (kVT P Q)) (p' : Nat) (hp : pc + len = p') (hst : (rest.map fun v => v.category).sum ≤ 8)
    (hlev : lz < lev) (hnz : nz ≤ 45) (hk : k + mz ≤ mc) (hn : n + sz ≤ ms) (kr : ∀ v h', P v h' → kW x (k + mz) (n + sz) h' p' lv (v :: rest)) (kt : ∀ q E h', Q q E h' → kThr x (k + mz) (n + sz) h' pc lv rest q E) : kW x k n h pc lv st := by
  subst hp
  exact k_call F hM hcd hcw hini inv hst hlev hnz hk hn (fun v h' hp => by
    cases v with
    | none => exact absurd hp id
    | some v => exact kr v h' hp) (fun q E h' hp => kt q E h' hp)
theorem k_callNT (F : kF x y cc nL ret hh lev mc ms Po) {z : MethodName} {cw : Cond} {cz : ByteArray} {nz lz mz sz len : Nat} {rz : Option FieldType} {hz : List (Nat × Nat × Nat × Nat)} {As rest : List Value} {P : kH → Prop} {Q : Nat → String → kH → Prop} (hcd : kCd cw z cz nz rz hz) (hcw : cw ∈ lw_all) (hini : Cond.initialized z.cls ∈ lw_all) (inv : kInv x k n h pc len lv st rest z As) (hM : kMet x.l x.g z cw lz mz sz As h (kNT P Q)) (p' : Nat) (hp : pc + len = p') (hst : (rest.map fun v => v.category).sum ≤ 8)
    (hlev : lz < lev) (hnz : nz ≤ 45) (hk : k + mz ≤ mc) (hn : n + sz ≤ ms) (kr : ∀ h', P h' → kW x (k + mz) (n + sz) h' p' lv rest) (kt : ∀ q E h', Q q E h' → kThr x (k + mz) (n + sz) h' pc lv rest q E) : kW x k n h pc lv st := by
  subst hp
  exact k_call F hM hcd hcw hini inv hst hlev hnz hk hn (fun v h' hp => by
    cases v with
    | none => exact kr h' hp
    | some v => exact absurd hp id) (fun q E h' hp => kt q E h' hp)
end
