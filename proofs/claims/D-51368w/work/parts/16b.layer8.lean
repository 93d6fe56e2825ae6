/-! LAYER 8: lambdas: objects of the sites' classes, calls on them -/
def lamFs (laid : Array Field × Array FieldType × Array FieldType) (D : ClassFile) (q : Nat × Nat) : Bool := match D.constantPool[q.1]? with
  | some (.fieldref _ nt) => (match D.constantPool.nameAndType? nt with
    | some (nm, _) => decide (laid.1.findIdx? (·.name == nm) = some q.2) && decide ((laid.1[q.2]?).map (fun f => (f.isStatic, f.slot)) = some (false, q.2))
    | none => false)
  | _ => false
def lamMt (σ : Jvm.Lambda.Shape) (D : ClassFile) (mi : Nat) : Bool := match D.constantPool[mi]? with
  | some (.methodref ci nt) => decide (D.constantPool.className? ci = some σ.implClass) && (decide (D.constantPool.nameAndType? nt = some (σ.implName, σ.implDesc.toString)) && (match D.constantPool[ci]? with
    | some (.class_ cs) => decide (D.constantPool.string? cs = some σ.implClass) && decide (ci ≠ D.thisClass)
    | _ => false))
  | _ => false
def lamCd (f : Method) (code : ByteArray) (maxL : Nat) (rt : FieldType) : Bool := decide ((f.code.map fun c => (c.code.data, c.maxLocals)) = some (code.data, maxL)) && (decide (f.accessFlags = 0x0001) && decide (f.sig.returnType = some rt))
/-- what the class file that the rule writes for a site holds: its method's code, the entries of its fields and of the target -/
def lamChk (σ : Jvm.Lambda.Shape) (C : String) (code : ByteArray) (maxL : Nat) (rt : FieldType) (fi : List Nat) (mi : Nat) : Bool := match σ.file C with
  | none => false
  | some D => match layoutMethods D, layoutFields D 0 with
    | some ms, some laid => (match ms[1]? with
      | some f => lamCd f code maxL rt
      | none => false) && (lamMt σ D mi && (fi.zipIdx.all (lamFs laid D) && decide (laid.2.1.toList = σ.captured)))
    | _, _ => false
theorem lam_facts {e : Setting} {vm : Vm} {d c : ClassId} {σ : Jvm.Lambda.Shape} {C : String} {dk : Class} {code : ByteArray} {maxL : Nat} {rt : FieldType} {fi : List Nat} {mi : Nat} (hk : lamChk σ C code maxL rt fi mi = true) (hd : vm.classes[d]? = some dk) (hname : dk.name = C) (h : Jvm.Lambda.isMade e vm d σ c = true)
    (hO : ∀ o ok, vm.findClass "java/lang/Object" = some o → vm.classes[o]? = some ok → ok.instanceTypes.size = 0) :
    ∃ (k tk : Class) (methk : Method) (ck : Code) (toy : ClassId) (t : MethodId) (file : ClassFile) (ci nt : Nat) (iface : ClassId) (found : MethodId),
      vm.classes[c]? = some k ∧ k.name = C ++ "$$Lambda" ∧ k.cf = some file ∧ file.constantPool[mi]? = some (.methodref ci nt) ∧ file.constantPool.nameAndType? nt = some (σ.implName, σ.implDesc.toString) ∧
      vm.method? ⟨c, 1⟩ = some methk ∧ methk.code = some ck ∧ ck.code = code ∧ ck.maxLocals = maxL ∧ methk.locks = false ∧ methk.accessFlags = 0x0001 ∧ methk.sig.returnType = some rt ∧
      vm.findClass σ.implClass = some toy ∧ vm.classes[toy]? = some tk ∧ ((methodIn toy σ.implName σ.implDesc.toString tk.isInterface none).ask e vm).1 = .ok t ∧
      vm.methodReady c mi t ∧ vm.classReady c ci toy ∧ (∀ i x, fi[i]? = some x → ∃ f : Field, vm.fieldReady c x c f ∧ f.isStatic = false ∧ f.slot = i) ∧
      vm.findClass σ.iface = some iface ∧ ((methodIn iface σ.name σ.sam.toString true none).ask e vm).1 = .ok found ∧ selectMethod {} vm c found = .method ⟨c, 1⟩ ∧ k.instanceTypes.toList = σ.captured ∧ k.kind = .ordinary := by
  obtain ⟨dk', k, ok, tk, file, cf, object, iface, toy, lay, methods, target, found, hd', hkk, hfile, hcf, hobj, hif, hok, hlay, hms, ht, htk, hg, hfd, hrec, -, -, -, hitf, hpool, hmeth, hfields, hty, hres, hsel⟩ := Jvm.Lambda.isMade_spec h
  cases hd.symm.trans hd'
  rw [hname] at hcf
  unfold lamChk at hk
  rw [hcf] at hk
  dsimp only at hk
  have hoz := hO object ok hobj hok
  rw [hoz] at hlay
  rw [hms, hlay] at hk
  dsimp only at hk
  rw [Bool.and_eq_true, Bool.and_eq_true, Bool.and_eq_true] at hk
  obtain ⟨k1, k2, k3, k4⟩ := hk
  have hemp : ok.instanceTypes = #[] := Array.eq_empty_of_size_eq_zero hoz
  cases hm1 : methods[1]? with
  | none => rw [hm1] at k1; cases k1
  | some f =>
    rw [hm1] at k1
    dsimp only at k1
    unfold lamCd at k1
    rw [Bool.and_eq_true, Bool.and_eq_true, decide_eq_true_eq, decide_eq_true_eq, decide_eq_true_eq] at k1
    obtain ⟨c1, c2, c3⟩ := k1
    obtain ⟨b, hb, hsame⟩ := hmeth 1 f hm1
    obtain ⟨s1, s2, s3, s4, x, y, s5, s6, s7, s8, s9, s10⟩ := Jvm.Lambda.sameMethod_spec hsame
    rw [s5] at c1
    simp only [Option.map_some, Option.some.injEq, Prod.mk.injEq] at c1
    unfold lamMt at k2
    split at k2
    · rename_i ci nt e1
      rw [Bool.and_eq_true, Bool.and_eq_true, decide_eq_true_eq, decide_eq_true_eq] at k2
      obtain ⟨m1, m2, m3⟩ := k2
      split at m3
      · rename_i cs e2
        rw [Bool.and_eq_true, decide_eq_true_eq, decide_eq_true_eq] at m3
        have hfs : ∀ i x, fi[i]? = some x → ∃ f : Field, vm.fieldReady c x c f ∧ f.isStatic = false ∧ f.slot = i := by
          intro i x hx
          rw [List.all_eq_true] at k3
          have h3 := k3 (x, i) (by rw [List.mem_zipIdx_iff_getElem?]; simpa using hx)
          unfold lamFs at h3
          dsimp only at h3
          split at h3
          · rename_i fc fnt e3
            split at h3
            · rename_i nm ds e4
              rw [Bool.and_eq_true, decide_eq_true_eq, decide_eq_true_eq] at h3
              obtain ⟨g1, g2⟩ := h3
              obtain ⟨g0, hg0, hp0⟩ := Option.map_eq_some_iff.mp g2
              simp only [Prod.mk.injEq] at hp0
              exact ⟨g0, ⟨k, i, k, hkk, hres x _ (Jvm.Lambda.resolvedOf_field e3 e4 g1), hkk, hfields i _ hg0⟩, hp0.1, hp0.2⟩
            · cases h3
          · cases h3
        refine ⟨k, tk, b, y, toy, target, file, ci, nt, iface, found, hkk, by rw [hrec.1, hname], hfile, by rw [hpool.2.1]; exact e1, by rw [hpool.2.1]; exact m2, by simp [Vm.method?, hkk, hb], s6, ?_, by rw [s8]; exact c1.2, ?_, by rw [s4]; exact c2, by rw [s3]; exact c3, ht, htk, hg,
          ⟨k, hkk, hres mi _ (Jvm.Lambda.resolvedOf_method e1 m1 ht htk m2 hg)⟩, ⟨k, hkk, hres ci _ (Jvm.Lambda.resolvedOf_class e2 m3.2 m3.1 ht)⟩, hfs, hif, hfd, hsel, by rw [hty.1, hemp]; simpa using of_decide_eq_true k4, hrec.2.1⟩
        · rw [s9]
          exact ByteArray.ext c1.1
        · simp [Method.locks, Method.isSynchronized, s4, c2, hasFlag, Acc.synchronized]
      · cases m3
    · cases k2
section
variable {p : Program} {l : Launch} {e : Env} {R : Room} {s : State} {m : MethodId} {args : Array Value} {below : List Frame} {meth : Method} {c : Code} {U : State} {locs : List Loc} {cells slots : Nat}
/-- captured values are pushed, one by one -/
theorem lamPush (Y : Stand p l e R s m args below meth c U locs cells slots) (hexec : p.tables.exec = Jvm.exec) {code : ByteArray} (hb : c.code = code) {fi : List Nat} {vs : List Value} {a : Nat} {cell : Cell} {ls : Array Slot} (hl : ls[0]? = some (.val (.ref a)))
    (hcell : U.heap[a]? = some cell) (hknown : cell.vm ≠ .unknown) (hv : ∀ i, i < vs.length → cell.slots[i]? = some (vs.getD i .null))
    (hn : vs.length = fi.length) (hf : ∀ i x, fi[i]? = some x → ∃ f : Field, U.vm.fieldReady m.cls x m.cls f ∧ f.isStatic = false ∧ f.slot = i)
    (hc : ∀ i, i < fi.length → decode code (4 * i) = .ok (.aload_n 0, 1) ∧ decode code (4 * i + 1) = .ok (.getfield (fi.getD i 0), 3)) {target : State} :
    ∀ j, j ≤ vs.length → Steps p.tables e below (U.setTop (F0 m (4 * j) ls (vs.take j).reverse)) target → Steps p.tables e below (U.setTop (F0 m 0 ls [])) target := by
  intro j
  induction j with
  | zero => intro _ h; exact h
  | succ j ih =>
    intro hj h
    refine ih (by omega) ?_
    have hjf : j < fi.length := by omega
    obtain ⟨d0, d1⟩ := hc j hjf
    obtain ⟨fx, hfx⟩ : ∃ x, fi[j]? = some x := ⟨_, List.getElem?_eq_getElem hjf⟩
    rw [show fi.getD j 0 = fx from by rw [List.getD_eq_getElem?_getD, hfx]; rfl] at d1
    obtain ⟨f, f1, f2, f3⟩ := hf j fx hfx
    have hs : U.topJava?.isSome := Y.here.top
    have e1 : (vs.take (j + 1)).reverse = vs.getD j .null :: (vs.take j).reverse := by
      rw [List.take_succ, List.reverse_append]
      simp [List.getD_eq_getElem?_getD, List.getElem?_eq_getElem (show j < vs.length by omega)]
    rw [e1, show 4 * (j + 1) = 4 * j + 1 + 3 from by omega] at h
    jvm_step Y.here [Y.here.top, hexec, hb, d0, hl, Value.isRef]
    jvm_step Y.here [Y.here.top, hexec, hb, d1, getfield.wp_ready (e := e) (s := U) (c := m.cls) (field := f) (a := a) (rest := (vs.take j).reverse) (cell := cell) (v := vs.getD j .null) (f := F0 m (4 * j + 1) ls (.ref a :: (vs.take j).reverse)) hs f1 f2 rfl hcell hknown (by rw [f3]; exact hv j (by omega))]
    exact h
/-- the interface's parameter is pushed -/
theorem lamParam (Y : Stand p l e R s m args below meth c U locs cells slots) (hexec : p.tables.exec = Jvm.exec) {code : ByteArray} (hb : c.code = code) {ls : Array Slot} {Bs st : List Value} {pc pb : Nat} (hl : ∀ v, Bs = [v] → ls[1]? = some (.val v))
    (hcb : (Bs = [] ∧ pb = pc) ∨ (∃ v : Int32, Bs = [.int v] ∧ decode code pc = .ok (.iload_n 1, 1) ∧ pb = pc + 1) ∨ (∃ v : Nat, Bs = [.ref v] ∧ decode code pc = .ok (.aload_n 1, 1) ∧ pb = pc + 1)) {target : State}
    (h : Steps p.tables e below (U.setTop (F0 m pb ls (Bs.reverse ++ st))) target) : Steps p.tables e below (U.setTop (F0 m pc ls st)) target := by
  rcases hcb with ⟨rfl, rfl⟩ | ⟨v, rfl, d, rfl⟩ | ⟨v, rfl, d, rfl⟩
  · exact h
  · have hl1 := hl _ rfl
    jvm_step Y.here [Y.here.top, hexec, hb, d, hl1]
    exact h
  · have hl1 := hl _ rfl
    jvm_step Y.here [Y.here.top, hexec, hb, d, hl1, Value.isRef]
    exact h
end
/-- the class of a site, as the method at hand sees it -/
theorem kLamAt {x : kX} {y : MethodName} {cc : ByteArray} {nL lev mc ms : Nat} {ret : Option FieldType} {hh : List (Nat × Nat × Nat × Nat)} {Po : kR → kH → Prop} (F : kF x y cc nL ret hh lev mc ms Po) {q spc sidx : Nat} {sx : MethodName} {σ : Jvm.Lambda.Shape} (hsite : kSites[q]? = some (sx, spc, sidx, σ)) :
    ∃ (dm : ClassId) (dk : Class), x.s.vm.classes[dm]? = some dk ∧ dk.name = sx.cls ∧ Jvm.Lambda.isMade { classPath := fun _ => none } x.s.vm dm σ (x.g.L q) = true ∧ x.s.lambdaCallable σ (x.g.L q) = true := by
  have hat := F.st.2.2.2.2.2 q _ hsite
  obtain ⟨m0, k0, cf, i0, p0, lk, hm0, hk0, hcf0, hsh, hin, hfind, hmade, hcan, hlk⟩ := State.lambdaAt?_spec hat
  obtain ⟨k', hk', hname⟩ := className_of_methodNamed hm0
  cases hk0.symm.trans hk'
  obtain ⟨kx, hkx, he⟩ := F.hW.alike.2.2 _ _ hk0
  refine ⟨m0.cls, kx, hkx, by rw [he]; exact hname, Jvm.Lambda.isMade_warmer F.hW hmade, ?_⟩
  have hA := F.hW.alike
  simp only [State.lambdaCallable, hA.findClass, hA.assignable, hA.superclasses, hA.declaredIn] at hcan ⊢
  exact hcan
/-- the made method runs: its captured values, its parameter, the target, its return -/
theorem lamRun {x : kX} {T1 : State} {locs : List Loc} {k n : Nat} {h : kH} (X₁ : Stand x.p x.l x.e x.R x.s x.m x.args x.below x.meth x.c T1 locs k n) (hexec : x.p.tables.exec = Jvm.exec) {g0 : JFrame} (hg : g0.method = x.m) (hsize : g0.locals.size = x.c.maxLocals) {ig : Instr} {len : Nat} (hdg : decode x.c.code g0.pc = .ok (ig, len))
    {mk : MethodId} {methk : Method} {ck : Code} {code : ByteArray} {maxL : Nat} {rt : FieldType} (hmk : T1.vm.method? mk = some methk) (hck : methk.code = some ck) (hbytes : ck.code = code) (hml : ck.maxLocals = maxL) (hlk : methk.locks = false) (hpk : T1.plainMethod mk) (hretk : methk.sig.returnType = some rt)
    {a : Nat} {vs : List Value} {cell : Cell} {fi : List Nat} (hcell : T1.heap[a]? = some cell) (hknown : cell.vm ≠ .unknown) (hv : ∀ i, i < vs.length → cell.slots[i]? = some (vs.getD i .null)) (hn : vs.length = fi.length)
    (hf : ∀ i x, fi[i]? = some x → ∃ f : Field, T1.vm.fieldReady mk.cls x mk.cls f ∧ f.isStatic = false ∧ f.slot = i)
    (hc : ∀ i, i < fi.length → decode code (4 * i) = .ok (.aload_n 0, 1) ∧ decode code (4 * i + 1) = .ok (.getfield (fi.getD i 0), 3))
    {Bs : List Value} {pb : Nat} (hlB : (lg_sl (.ref a :: Bs)).length ≤ maxL)
    (hcb : (Bs = [] ∧ pb = 4 * fi.length) ∨ (∃ v : Int32, Bs = [.int v] ∧ decode code (4 * fi.length) = .ok (.iload_n 1, 1) ∧ pb = 4 * fi.length + 1) ∨ (∃ v : Nat, Bs = [.ref v] ∧ decode code (4 * fi.length) = .ok (.aload_n 1, 1) ∧ pb = 4 * fi.length + 1))
    {ij : Instr} (hdi : decode code pb = .ok (ij, 3)) (hcr : decode code (pb + 3) = .ok (.ireturn, 1))
    {z : MethodName} {cw : Cond} {cz : ByteArray} {nz lz mz sz : Nat} {rz : Option FieldType} {hz : List (Nat × Nat × Nat × Nat)} {P : Value → kH → Prop} (hM : kMet x.l x.g z cw lz mz sz (vs ++ Bs) h (kV P)) (hcd : kCd cw z cz nz rz hz) (hnz : nz ≤ 45) (hmx : maxL ≤ 45)
    (hcw : ∀ U : State, x.g.U.WarmedH U.vm → cw.before (vs ++ Bs).toArray U = true) (hini : ∀ U : State, x.g.U.WarmedH U.vm → (Cond.initialized z.cls).before (vs ++ Bs).toArray U = true) {mt : MethodId} (hnt : T1.methodNamed? z = some mt) (hW1 : x.g.U.WarmedH T1.vm) (hsim : kSim x.g h T1.heap)
    (hP : ∀ v h', P v h' → ∃ w : Int32, v = .int w ∧ narrow rt (.int w) = .int w)
    (hst : (g0.stack.map fun v => v.category).sum ≤ 8) (hmr : g0.monitorRoom = 0) {lev mc ms : Nat} (hR : x.R = kRm lev mc ms) (hlev : lz + 1 < lev) (hkm : k + mz ≤ mc) (hnm : n + sz ≤ ms)
    (hinv : ∀ (U : State) (ls : Array Slot) (target : State) (aA : Array Value), U.vm = T1.vm → U.heap = T1.heap → Stand x.p x.l x.e (kRm (lz + 1) mz sz) (T1.calling g0 mk aA) mk aA (.java g0 :: x.below) methk ck U [] 0 0 → Steps x.p.tables x.e (.java g0 :: x.below) (doInvoke x.e (U.setTop (F0 mk pb ls [])) [] mt (vs ++ Bs).toArray).1 target → Steps x.p.tables x.e (.java g0 :: x.below) (U.setTop (F0 mk pb ls (Bs.reverse ++ vs.reverse))) target) :
    ∃ (T' : State) (L : List Loc) (h' : kH) (w : Int32), Stand x.p x.l x.e x.R x.s x.m x.args x.below x.meth x.c T' (locs ++ L) (k + mz) (n + sz) ∧ kSim x.g h' T'.heap ∧ (∀ z ∈ L, x.g.U.heap.size ≤ z.base) ∧ T1.heap.size ≤ T'.heap.size ∧ P (.int w) h' ∧
      ∀ acts, Steps x.p.tables x.e x.below (doInvoke x.e (T1.setTop g0) acts mk (Value.ref a :: Bs).toArray).1 (T'.setTop { g0 with pc := g0.pc + len, stack := .int w :: g0.stack }) := by
  obtain ⟨Y₀, hin⟩ := X₁.into hg hsize hdg (Value.ref a :: Bs).toArray (R' := kRm (lz + 1) mz sz) hmk hck hlk hpk (by rw [hR]; exact hlev) (by rw [hR, hmr]; simp only [kRm]; omega) (by rw [hR]; exact hkm) (by rw [hR]; exact hnm)
  have hinv' := hinv ((T1.setTop g0).pushFrame (.java (entryFrame mk (Value.ref a :: Bs).toArray ck.maxLocals)))
  have hvm0 : ((T1.setTop g0).pushFrame (.java (entryFrame mk (Value.ref a :: Bs).toArray ck.maxLocals))).vm = T1.vm := rfl
  have hheap0 : ((T1.setTop g0).pushFrame (.java (entryFrame mk (Value.ref a :: Bs).toArray ck.maxLocals))).heap = T1.heap := rfl
  have hnt0 : ((T1.setTop g0).pushFrame (.java (entryFrame mk (Value.ref a :: Bs).toArray ck.maxLocals))).methodNamed? z = some mt := hnt
  generalize ((T1.setTop g0).pushFrame (.java (entryFrame mk (Value.ref a :: Bs).toArray ck.maxLocals))) = U at Y₀ hin hinv' hvm0 hheap0 hnt0
  rw [lg_entry_eq] at hin
  have hl := lv_entry (.ref a :: Bs) (n := ck.maxLocals) (by rw [hml]; exact hlB)
  generalize (lg_sl (.ref a :: Bs) ++ List.replicate (ck.maxLocals - (lg_sl (.ref a :: Bs)).length) Slot.unset).toArray = ls at hin hl
  have hl0 : ls[0]? = some (.val (.ref a)) := hl.2.2 (0, .ref a) (by simp [lv_args])
  have hl1 : ∀ v, Bs = [v] → ls[1]? = some (.val v) := by
    rintro v rfl
    exact hl.2.2 (1, v) (by simp [lv_args, Value.category])
  have hWU : x.g.U.WarmedH U.vm := by rw [hvm0]; exact hW1
  obtain ⟨T', L, h', Y', hs', hL, hz', hcase⟩ := k_back hM hcd Y₀ (g0 := F0 mk pb ls []) rfl hl.1 (by rw [hbytes]; exact hdi) (by show 2 * 0 + 0 ≤ 8; omega) hnt0 (hcw U hWU) (hini U hWU) (by show lz + 1 ≤ lz + 1; omega) (by simp only [kRm]; omega) (by show 0 + mz ≤ mz; omega) (by show 0 + sz ≤ sz; omega) hWU (by rw [hheap0]; exact hsim)
  rcases hcase with ⟨v, hp, st1⟩ | ⟨q, E, ce, hp, -⟩
  · cases v with
    | none => exact absurd hp id
    | some v =>
      obtain ⟨w, rfl, hnw⟩ := hP v h' hp
      have wr := W.zret (p := x.p) (l := x.l) (e := x.e) (R := kRm (lz + 1) mz sz) (s := T1.calling g0 mk (Value.ref a :: Bs).toArray) (m := mk) (args := (Value.ref a :: Bs).toArray) (below := .java g0 :: x.below) (meth := methk) (c := ck) (H := T'.heap) (locs := [] ++ L) (cells := 0 + mz) (slots := 0 + sz) (ls := ls) (pc := pb + 3) (v := w) (Qc := fun _ _ o t => o = .returned (some (.int w)) ∧ t.heap = T'.heap) (free := fun q => x.g.U.heap.size ≤ q) hexec hbytes hretk hnw (fun t ht _ => ⟨rfl, ht⟩) (fun q hq => hL q (by simpa using hq)) hcr hlk
      obtain ⟨t, a1, o, b1, b2, ⟨b3, b4⟩, L2, ⟨-, hW2, hsm⟩, hL2⟩ := wr T' rfl Y'
      subst b3
      obtain ⟨T'', X'', hW'', -, ht⟩ := X₁.outOf hg hdg b2 hW2 hsm
      rw [Nat.zero_add, Nat.zero_add] at X''
      have hh2 : T''.heap = T'.heap := by rw [← b4, ht]; rfl
      refine ⟨T'', L2, h', w, X'', by rw [hh2]; exact hs', hL2, by rw [hh2, ← hheap0]; exact hz', hp, fun acts => ?_⟩
      rw [hin acts]
      show Steps x.p.tables x.e x.below _ (T''.setTop { g0 with pc := g0.pc + len, stack := (some (Value.int w)).toList ++ g0.stack })
      rw [← ht]
      refine Steps.weaken (mid := [.java g0]) ?_
      refine lamPush Y₀ hexec hbytes hl0 (by rw [hheap0]; exact hcell) hknown hv hn (by rw [hvm0]; exact hf) hc vs.length (Nat.le_refl _) ?_
      rw [List.take_length, hn]
      refine lamParam Y₀ hexec hbytes hl1 hcb ?_
      exact hinv' ls _ _ hvm0 hheap0 Y₀ (st1.trans a1)
  · exact absurd hp id
section
variable {x : kX} {y : MethodName} {cc : ByteArray} {nL lev mc ms : Nat} {ret : Option FieldType} {hh : List (Nat × Nat × Nat × Nat)} {Po : kR → kH → Prop} {k n : Nat} {h : kH} {pc : Nat} {lv lv' : List (Nat × Value)} {st : List Value}
/-- a call on a lambda whose target is static -/
theorem k_callL (F : kF x y cc nL ret hh lev mc ms Po) {q spc sidx : Nat} {sx : MethodName} {σ : Jvm.Lambda.Shape} (hsite : kSites[q]? = some (sx, spc, sidx, σ)) {code : ByteArray} {maxL : Nat} {rt : FieldType} {fi : List Nat} {mi : Nat} (hchk : lamChk σ sx.cls code maxL rt fi mi = true)
    {ifm : MethodName} (hif : σ.iface = ifm.cls ∧ σ.name = ifm.name ∧ σ.sam.toString = ifm.desc) {index count : Nat} (hq : Cond.methodLink y.cls index ifm ∈ lw_all) (hde : Cond.declares ifm ∈ lw_tbl) (hfa : Cond.interfaceMethod ifm.cls ifm.cls ifm.name ifm.desc ∈ lw_tbl) (hobj : Cond.instantiable "java/lang/Object" 0 ∈ lw_all)
    (hd : decode cc pc = .ok (.invokeinterface index count, 5)) (hx : ifm.cls ≠ "java/lang/invoke/MethodHandle" ∧ ifm.cls ≠ "java/lang/invoke/VarHandle") {a : Nat} {t : kT} {vs : List Value} (ha : h a = some (t, eM q vs)) (hvs : vs.length = fi.length)
    {Bs rest : List Value} (hlen : (parseMethodDescriptor ifm.desc).map (fun d => d.parameters.length) = some Bs.length)
    (hc : ∀ i, i < fi.length → decode code (4 * i) = .ok (.aload_n 0, 1) ∧ decode code (4 * i + 1) = .ok (.getfield (fi.getD i 0), 3))
    {pb : Nat} (hlB : (lg_sl (.ref a :: Bs)).length ≤ maxL)
    (hcb : (Bs = [] ∧ pb = 4 * fi.length) ∨ (∃ v : Int32, Bs = [.int v] ∧ decode code (4 * fi.length) = .ok (.iload_n 1, 1) ∧ pb = 4 * fi.length + 1) ∨ (∃ v : Nat, Bs = [.ref v] ∧ decode code (4 * fi.length) = .ok (.aload_n 1, 1) ∧ pb = 4 * fi.length + 1))
    (hdi : decode code pb = .ok (.invokestatic mi, 3)) (hcr : decode code (pb + 3) = .ok (.ireturn, 1))
    {z : MethodName} {cw : Cond} {cz : ByteArray} {nz lz mz sz : Nat} {rz : Option FieldType} {hz : List (Nat × Nat × Nat × Nat)} {P : Value → kH → Prop} (hzz : z = ⟨σ.implClass, σ.implName, σ.implDesc.toString⟩) (hcd : kCd cw z cz nz rz hz) (hcw : cw ∈ lw_all) (hini : Cond.initialized z.cls ∈ lw_all) (hstz : Cond.static z ∈ lw_all) (hzx : z.cls ≠ "java/lang/invoke/MethodHandle" ∧ z.cls ≠ "java/lang/invoke/VarHandle")
    (hlz : (parseMethodDescriptor z.desc).map (fun d => d.parameters.length) = some (vs ++ Bs).length) (hpl : plainName (sx.cls ++ "$$Lambda") = true)
    (hM : kMet x.l x.g z cw lz mz sz (vs ++ Bs) h (kV P)) (hP : ∀ v h', P v h' → ∃ w : Int32, v = .int w ∧ narrow rt (.int w) = .int w) (p' : Nat) (hp : pc + 5 = p') (hst : (rest.map fun v => v.category).sum ≤ 8) (hlev : lz + 1 < lev) (hnz : nz ≤ 45) (hmx : maxL ≤ 45) (hk : k + mz ≤ mc) (hn : n + sz ≤ ms)
    (kr : ∀ v h', P v h' → kW x (k + mz) (n + sz) h' p' lv (v :: rest)) : kW x k n h pc lv (Bs.reverse ++ .ref a :: rest) := by
  subst hp
  intro H locs ls hs hS hl T hT X
  obtain ⟨hR, -⟩ := F.R
  obtain ⟨dm, dk, hdk, hdn, hmade, hcan⟩ := kLamAt F hsite
  have hcell : H[a]? = some ({ cls := x.g.L q, slots := vs.toArray, vm := .none } : Cell) := (hs.2 a t _ ha).1
  have hO : ∀ {vm : Vm}, x.s.vm.Alike vm → ∀ o ok, vm.findClass "java/lang/Object" = some o → vm.classes[o]? = some ok → ok.instanceTypes.size = 0 := by
    intro vm hA o ok h1 h2
    obtain ⟨cO, kO, e1, e2, -, -, -, e3⟩ := Cond.instantiable_spec (F.w hobj)
    rw [hA.findClass, e1] at h1
    cases h1
    obtain ⟨k2, hk2, he⟩ := hA.2.2 _ _ e2
    cases hk2.symm.trans h2
    rw [he]
    exact e3
  obtain ⟨kK, tk, methk, ck, toy, t0, file, ci, nt, iface, found, hkK, hkn, hfile, hp1, hp2, hmk, hckK, hbytes, hml, hlk, hfl, hretk, htoy, htk, hlook, hready, hclsR, hfs, hifc, hfnd, hsel, -, -⟩ := lam_facts hchk hdk hdn hmade (hO (Vm.Alike.refl _))
  obtain ⟨i2, hi2, hasg, hway⟩ := State.lambdaCallable_spec hcan
  cases hifc.symm.trans hi2
  -- the interface's method
  have tr : ∀ {c : Cond}, c.onTables = true → c.before #[] (x.g.U.setVm x.s.vm) = true → c.before #[] x.s = true := by
    intro c hc h
    have e := Cond.onTables_vm (A := #[]) (A' := #[]) (U := x.g.U) (U' := x.s) x.s.vm c hc
    have hU : x.s.setVm x.s.vm = x.s := rfl
    rw [hU] at e
    rw [← e]
    exact h
  have d1 : (Cond.declares ifm).before #[] x.g.U = true := va_any rfl (F.st.2.1 _ hde)
  have d2 : (Cond.interfaceMethod ifm.cls ifm.cls ifm.name ifm.desc).before #[] x.g.U = true := va_any rfl (F.st.2.1 _ hfa)
  obtain ⟨r00, -, hn00, -⟩ := Cond.declares_spec d1
  have f1 : (Cond.declares ifm).before #[] x.s = true := tr rfl (by rw [Cond.declares_setVm F.hW.alike]; exact d1)
  have f2 : (Cond.interfaceMethod ifm.cls ifm.cls ifm.name ifm.desc).before #[] x.s = true := tr rfl (by rw [Cond.interfaceMethod_setVm F.hW.alike (r := r00) hn00 hx]; exact d2)
  obtain ⟨r0, r, hn0, hrm, hstR, hsigR⟩ := Cond.declares_spec f1
  obtain ⟨cL, kL, r1, hcL, hkL, hiL, hfoundL, hn1⟩ := Cond.interfaceMethod_spec f2
  cases hn0.symm.trans hn1
  have hr0cls : r0.cls = cL := Option.some.inj ((findClass_of_methodNamed hn0).symm.trans hcL)
  obtain ⟨hnameR, hdescR⟩ := name_of_methodNamed hn0 hrm
  have hcLi : cL = iface := by
    have : x.s.vm.findClass ifm.cls = some iface := by rw [← hif.1]; exact hifc
    exact Option.some.inj (hcL.symm.trans this)
  subst hcLi
  have hfr : found = r0 := by
    have h1 := hfoundL
    simp only [State.methodFound?, hcL, hkL, hiL, Option.bind_eq_bind, Option.bind_some] at h1
    rw [hif.2.1, hif.2.2] at hfnd
    rw [hfnd] at h1
    exact Option.some.inj h1
  subst hfr
  have hle : Bs.length = r.sig.parameters.length := by
    rw [hsigR] at hlen
    exact (Option.some.inj hlen).symm
  have hdg : decode x.c.code pc = .ok (.invokeinterface index count, 5) := by rw [F.hb]; exact hd
  obtain ⟨vm₁, X₁, hstep₁⟩ := X.invokeinterface F.hx F.hown (F.w hq) hn0 hrm hstR (by rw [hr0cls]; exact hkL) hiL hx (a := a) (cell := { cls := x.g.L q, slots := vs.toArray, vm := .none }) (kcell := kK) (by rw [hT]; exact hcell)
    (fun z h => by cases h) hkK (by rw [hr0cls]; exact hasg) (m' := ⟨x.g.L q, 1⟩) (meth' := methk) (by rw [Launch.admits_selectMethod X.admits]; exact hsel) hmk (by rw [hnameR, hdescR, ← hif.2.1, ← hif.2.2]; exact hway) (by rw [hfl]; decide) (by simp [Method.isAbstract, hfl, hasFlag, Acc.abstract])
    (g := F0 x.m pc ls (Bs.reverse ++ .ref a :: rest)) rfl (argsL := Bs) (rest := rest) hle rfl hdg
  have hW₁ : x.s.WarmedH vm₁ := X₁.warmed
  obtain ⟨dk₁, hdk₁, hde₁⟩ := hW₁.alike.2.2 _ _ hdk
  obtain ⟨kK₁, tk₁, methk₁, ck₁, toy₁, t₁, file₁, ci₁, nt₁, iface₁, found₁, hkK₁, hkn₁, hfile₁, hp1₁, hp2₁, hmk₁, hck₁, hbytes₁, hml₁, hlk₁, hfl₁, hretk₁, htoy₁, htk₁, hlook₁, hready₁, hclsR₁, hfs₁, -, -, -, -, -⟩ := lam_facts hchk hdk₁ (by rw [hde₁]; exact hdn) (Jvm.Lambda.isMade_warmer hW₁ hmade) (hO hW₁.alike)
  -- the target
  obtain ⟨mT, methT, cT, hnT, hmT, -, -, -, -, -, hsigT, -⟩ := hcd.2.2 x.args x.s (F.w hcw)
  have hstaticT : methT.isStatic = true := Cond.static_spec hnT hmT (F.w hstz)
  obtain ⟨kT, hkT, hnameT⟩ := className_of_methodNamed hnT
  have hinitT : kT.init = .initialized := Cond.initialized_spec (findClass_of_methodNamed hnT) hkT (F.w hini)
  have hfT₁ : vm₁.findClass σ.implClass = some mT.cls := by
    have : x.s.vm.findClass z.cls = some mT.cls := findClass_of_methodNamed hnT
    rw [hzz] at this
    rw [hW₁.alike.findClass]
    exact this
  cases htoy₁.symm.trans hfT₁
  have ht₁ : t₁ = mT := by
    have h1 : (x.s.setVm vm₁).methodFound? z.cls z.name z.desc = some mT := by rw [State.methodFound?_setVm hW₁.alike]; exact State.methodFound?_of_named hnT hzx
    rw [hzz] at h1
    simp only [State.methodFound?, State.vm_setVm, hfT₁, htk₁, Option.bind_eq_bind, Option.bind_some] at h1
    rw [hlook₁] at h1
    exact Option.some.inj h1
  subst ht₁
  have hmT₁ : vm₁.method? t₁ = some methT := by rw [hW₁.alike.method?]; exact hmT
  obtain ⟨kT₁, hkT₁, heT₁⟩ := hW₁.alike.2.2 _ _ hkT
  cases htk₁.symm.trans hkT₁
  have hsp : ∀ y : Method, signaturePolymorphic tk₁ y = false := fun y => by
    have h1 : tk₁.name = z.cls := by rw [heT₁]; exact hnameT
    simp [signaturePolymorphic, h1, hzx.1, hzx.2]
  have hleT : (vs ++ Bs).length = methT.sig.parameters.length := by
    rw [hsigT] at hlz
    exact (Option.some.inj hlz).symm
  have hpk : (T.setVm vm₁).plainMethod ⟨x.g.L q, 1⟩ := State.plainMethod.of_name (fun k' hk' => by cases hkK₁.symm.trans hk'; rw [hkn₁]; exact hpl)
  have hWU : x.g.U.WarmedH vm₁ := State.WarmedH.trans F.hW hW₁
  have hword : ∀ {w : Cond}, w ∈ lw_all → ∀ (A : Array Value) (U : State), x.g.U.WarmedH U.vm → w.before A U = true := by
    intro w hw A U hU
    obtain ⟨k1, k2⟩ := List.mem_filter.mp hw
    exact word_at hU (good_of_word k2) (F.st.2.1 _ k1)
  obtain ⟨T', L, h', w, X', hs', hL, hz', hpw, hsteps⟩ := lamRun (h := h) X₁ F.hx (g0 := F0 x.m pc ls rest) rfl hl.1 hdg hmk₁ hck₁ hbytes₁ hml₁ hlk₁ hpk hretk₁ (a := a) (vs := vs) (fi := fi) (by show T.heap[a]? = _; rw [hT]; exact hcell) (fun q => by cases q)
    (fun i hi => by simp [List.getD_eq_getElem?_getD, List.getElem?_eq_getElem hi, hi]) hvs hfs₁ hc hlB hcb hdi hcr hM hcd hnz hmx (fun U hU => hword hcw _ U hU) (fun U hU => hword hini _ U hU) (mt := t₁) (show (x.s.setVm vm₁).methodNamed? z = some t₁ by rw [State.methodNamed?_setVm hW₁.alike]; exact hnT) hWU (by show kSim x.g h T.heap; rw [hT]; exact hs) hP hst rfl hR hlev hk hn
    (fun U ls2 target aA hvm hheap Y h9 => by
      obtain ⟨bb, hmem⟩ := memberRef_ask' (e := x.e) (vm := vm₁) (d := x.g.L q) (index := mi) hkK₁ hfile₁ (Or.inl hp1₁) hp2₁
      have hvm' : U.vm = vm₁ := hvm
      jvm_step Y.here [Y.here.top, F.hx, hbytes₁, hdi, invokestatic.wp_ready (e := x.e) (s := U) (m := t₁) (k := tk₁) (meth := methT) (args := vs ++ Bs) (rest := []) (f := F0 ⟨x.g.L q, 1⟩ pb ls2 (Bs.reverse ++ vs.reverse)) Y.here.top ⟨ci₁, _, _, bb, t₁.cls, tk₁, by rw [hvm']; exact hmem, by rw [hvm']; exact hclsR₁, by rw [hvm']; exact htk₁, by simp [hsp]⟩ (by rw [hvm']; exact hready₁) (by rw [hvm']; exact htk₁) (by rw [hvm']; exact hmT₁) (hsp _) hstaticT (by rw [heT₁]; exact hinitT) hleT (by simp)]
      intro acts
      rw [doInvoke_state]
      exact h9)
  have hTz : T.heap.size ≤ T'.heap.size := hz'
  have hS' : kS x T'.heap (locs ++ L) := ⟨Nat.le_trans hS.1 (by rw [← hT]; exact hTz), fun q hq => by
    rcases List.mem_append.mp hq with a | a
    · exact hS.2 q a
    · exact hL q a⟩
  obtain ⟨t9, a9, b9⟩ := kr (.int w) h' hpw T'.heap (locs ++ L) ls hs' hS' hl T' rfl X'
  exact ⟨t9, hstep₁ _ fun acts => (hsteps acts).trans a9, b9⟩
end
