/-! LAYER 10: lambdas: objects are made at their sites -/
/-- three arguments: nothing else is taken -/
theorem lamThree {β : Type} {ar : Array Nat} {f : Nat → Nat → Nat → Option β} {r : β} (h : Jvm.Lambda.shapeOf?.match_15 (fun _ => Option β) ar f (fun _ => none) = some r) : ∃ a0 a1 a2, f a0 a1 a2 = some r := by
  rcases ar with ⟨L⟩
  rcases L with _ | ⟨a0, _ | ⟨a1, _ | ⟨a2, _ | ⟨a3, L⟩⟩⟩⟩
  · cases h
  · cases h
  · cases h
  · exact ⟨a0, a1, a2, h⟩
  · cases h
theorem lamSite {cf : ClassFile} {index : Nat} {σ : Jvm.Lambda.Shape} (h : Jvm.Lambda.shapeOf? cf index = some σ) :
    ∃ (b nt : Nat) (name desc : String) (site : MethodDescriptor), cf.constantPool[index]? = some (.invokeDynamic b nt) ∧ cf.constantPool.nameAndType? nt = some (name, desc) ∧ parseMethodDescriptor desc = some site ∧ site.parameters = σ.captured := by
  unfold Jvm.Lambda.shapeOf? at h
  split at h
  · rename_i b nt hidx
    obtain ⟨entries, -, h⟩ := Option.bind_eq_some_iff.mp h
    obtain ⟨bm, -, h⟩ := Option.bind_eq_some_iff.mp h
    split at h
    · obtain ⟨u1, -, h⟩ := Option.bind_eq_some_iff.mp h
      obtain ⟨a0, a1, a2, h⟩ := lamThree h
      split at h
      · split at h
        · split at h
          · obtain ⟨nd, hnd, h⟩ := Option.bind_eq_some_iff.mp h
            obtain ⟨site, hs, h⟩ := Option.bind_eq_some_iff.mp h
            split at h
            · obtain ⟨w, -, h⟩ := Option.bind_eq_some_iff.mp h
              obtain ⟨s1, -, h⟩ := Option.bind_eq_some_iff.mp h
              obtain ⟨d1, -, h⟩ := Option.bind_eq_some_iff.mp h
              obtain ⟨s2, -, h⟩ := Option.bind_eq_some_iff.mp h
              obtain ⟨d2, -, h⟩ := Option.bind_eq_some_iff.mp h
              obtain ⟨d3, -, h⟩ := Option.bind_eq_some_iff.mp h
              cases h
              exact ⟨b, nt, nd.1, nd.2, site, hidx, hnd, hs, rfl⟩
            · cases h
          · cases h
        · cases h
      · cases h
    · cases h
  · cases h
/-- values that may be captured: they fit, and no bit of them is lost -/
def lamFits : List FieldType → List Value → Prop
  | t :: ts, v :: vs => fits t v = true ∧ narrow t v = v ∧ lamFits ts vs
  | [], [] => True
  | _, _ => False
theorem lamFits.spec : ∀ {ts : List FieldType} {vs : List Value}, lamFits ts vs → vs.length = ts.length ∧ (ts.zip vs).map (fun (t, v) => narrow t v) = vs ∧ ∀ (i : Nat) (t : FieldType) (v : Value), ts[i]? = some t → vs[i]? = some v → fits t v = true
  | [], [], _ => ⟨rfl, rfl, fun i t v h => by cases h⟩
  | [], _ :: _, h => absurd h id
  | _ :: _, [], h => absurd h id
  | t :: ts, v :: vs, h => by
    obtain ⟨a, b, c⟩ := lamFits.spec h.2.2
    refine ⟨by rw [List.length_cons, List.length_cons, a], ?_, fun i => ?_⟩
    · show narrow t v :: (ts.zip vs).map (fun (t, v) => narrow t v) = v :: vs
      rw [h.2.1, b]
    · cases i with
      | zero =>
        intro t1 v1 h1 h2
        cases h1
        cases h2
        exact h.1
      | succ i => exact fun t1 v1 h1 h2 => c i t1 v1 h1 h2
section
variable {x : kX} {y : MethodName} {cc : ByteArray} {nL lev mc ms : Nat} {ret : Option FieldType} {hh : List (Nat × Nat × Nat × Nat)} {Po : kR → kH → Prop} {k n : Nat} {h : kH} {pc : Nat} {lv lv' : List (Nat × Value)} {st : List Value}
theorem k_indy (F : kF x y cc nL ret hh lev mc ms Po) {q sidx : Nat} {σ : Jvm.Lambda.Shape} (hsite : kSites[q]? = some (y, pc, sidx, σ)) {code : ByteArray} {maxL : Nat} {rt : FieldType} {fi : List Nat} {mi : Nat} (hchk : lamChk σ y.cls code maxL rt fi mi = true) (hobj : Cond.instantiable "java/lang/Object" 0 ∈ lw_all)
    (hd : decode cc pc = .ok (.invokedynamic sidx, 5)) (p' : Nat) (hp : pc + 5 = p') (t : kT) {vs : List Value} (hfit : lamFits σ.captured vs) (hst : ((vs.reverse ++ st).map fun v => v.category).sum ≤ 100) (hk : k + 1 ≤ mc) (hn : n + vs.length ≤ ms)
    (kk : ∀ a : Nat, h a = none → kW x (k + 1) (n + vs.length) (kUp h a t (eM q vs)) p' lv (.ref a :: st)) : kW x k n h pc lv (vs.reverse ++ st) := by
  subst hp
  intro H locs ls hs hS hl T hT X
  obtain ⟨hR, -⟩ := F.R
  obtain ⟨f1, f2, f3⟩ := hfit.spec
  have hat := F.st.2.2.2.2.2 q _ hsite
  obtain ⟨m0, k0, cf, i0, p0, lk, hm0, hk0, hcf0, hsh, hin, hfind, hmade, hcan, hlk⟩ := State.lambdaAt?_spec hat
  have hlk' : lk = .makes (x.g.L q) := by
    rcases hlk with ⟨a, cell, h1, h2, -⟩ | ⟨h1, -⟩
    · cases h2
    · exact h1
  subst hlk'
  have hm1 : m0 = x.m := by
    have h1 := State.methodNamed?_setVm (s := x.g.U) F.hW.alike y
    rw [show x.g.U.methodNamed? y = some m0 from hm0] at h1
    have h2 : x.s.methodNamed? y = some m0 := h1
    exact Option.some.inj (h2.symm.trans F.nm)
  subst hm1
  obtain ⟨kx, hkx, he⟩ := F.hW.alike.2.2 _ _ hk0
  obtain ⟨kn, hkn, hkname⟩ := className_of_methodNamed F.nm
  cases hkx.symm.trans hkn
  have hmade' := Jvm.Lambda.isMade_warmer F.hW hmade
  have hO : ∀ o ok, x.s.vm.findClass "java/lang/Object" = some o → x.s.vm.classes[o]? = some ok → ok.instanceTypes.size = 0 := by
    intro o ok h1 h2
    obtain ⟨cO, kO, e1, e2, -, -, -, e3⟩ := Cond.instantiable_spec (F.w hobj)
    rw [e1] at h1
    cases h1
    cases e2.symm.trans h2
    exact e3
  obtain ⟨kK, tk, methk, ck, toy, t0, file, ci, nt, iface, found, hkK, hknm, -, -, -, -, -, -, -, -, -, -, -, -, -, -, -, -, -, -, -, hty, hkind⟩ := lam_facts hchk hkx hkname hmade' hO
  obtain ⟨b, nt9, name, desc, site, hidx, hnd, hsite9, hpar⟩ := lamSite hsh
  have hz : (kK.instanceTypes.toList.zip vs).map (fun (t, v) => narrow t v) = vs := by rw [hty]; exact f2
  obtain ⟨X', hgo⟩ := X.lambdaMakes F.hx (g := F0 x.m pc ls (vs.reverse ++ st)) rfl hl.1 (by rw [F.hb]; exact hd) hkx (by rw [he]; exact hfind) (by rw [he]; exact hcf0) hidx hnd (parseLong_of_parse hsite9) (vals := vs) (rest := st) (by rw [hpar]; exact f1) rfl hkK
    (by
      have hw : x.e.platform.lambdaLinkWords = 3072 := by rw [X.admits.2.2.2.2.1]
      have hm : (F0 x.m pc ls (vs.reverse ++ st)).monitorRoom = 0 := rfl
      rw [hm, hw, hR]
      simp only [kRm]
      have h9 : ((F0 x.m pc ls (vs.reverse ++ st)).stack.map fun v => v.category).sum ≤ 100 := hst
      omega)
    (by rw [hR]; exact Nat.le_trans (Nat.add_le_add_right (Nat.le_refl k) 1) hk) (by rw [hz, hR]; exact hn)
    (fun i v hv => by
      rw [hz] at hv
      have hv' : vs[i]? = some v := by simpa using hv
      have hi : i < σ.captured.length := by rw [← f1]; exact (List.getElem?_eq_some_iff.mp hv').1
      have ht : kK.instanceTypes[i]? = some (σ.captured[i]'hi) := by
        rw [← Array.getElem?_toList, hty, List.getElem?_eq_getElem hi]
      simp only [State.fitsSlot, State.slotType?, hkK, hkind, Option.bind_eq_bind, Option.bind_some, ht]
      exact f3 i _ v (List.getElem?_eq_getElem hi) hv')
  rw [hz] at X' hgo
  have hpush : ((T.pushCell { cls := x.g.L q, slots := vs.toArray, vm := .none }).heap) = H.push { cls := x.g.L q, slots := vs.toArray, vm := .none } := by
    show T.heap.push _ = _
    rw [hT]
  obtain ⟨h0, h1⟩ := hs.push (t := t) (e1 := eM q vs) (H1 := H.push { cls := x.g.L q, slots := vs.toArray, vm := .none }) rfl (by show (H.push _)[H.size]? = _; rw [Array.getElem?_push, if_pos rfl]) (Array.size_push _) (fun q hq => by rw [Array.getElem?_push, if_neg (Nat.ne_of_lt hq)])
  obtain ⟨tg, a1, b1⟩ := kk H.size h0 _ locs ls h1 (hS.push (by rw [Array.size_push]; omega)) hl _ hpush (by
    have h9 := X'
    rw [List.size_toArray] at h9
    exact h9)
  refine ⟨tg, hgo tg ?_, b1⟩
  rw [hT]
  exact a1
/-- a call on a lambda whose target is a method of the first captured object -/
theorem k_callK (F : kF x y cc nL ret hh lev mc ms Po) {q spc sidx : Nat} {sx : MethodName} {σ : Jvm.Lambda.Shape} (hsite : kSites[q]? = some (sx, spc, sidx, σ)) {code : ByteArray} {maxL : Nat} {rt : FieldType} {fi : List Nat} {mi : Nat} (hchk : lamChk σ sx.cls code maxL rt fi mi = true)
    {ifm : MethodName} (hif : σ.iface = ifm.cls ∧ σ.name = ifm.name ∧ σ.sam.toString = ifm.desc) {index count : Nat} (hq : Cond.methodLink y.cls index ifm ∈ lw_all) (hde : Cond.declares ifm ∈ lw_tbl) (hfa : Cond.interfaceMethod ifm.cls ifm.cls ifm.name ifm.desc ∈ lw_tbl) (hobj : Cond.instantiable "java/lang/Object" 0 ∈ lw_all)
    (hd : decode cc pc = .ok (.invokeinterface index count, 5)) (hx : ifm.cls ≠ "java/lang/invoke/MethodHandle" ∧ ifm.cls ≠ "java/lang/invoke/VarHandle") {a : Nat} {t : kT} {vs : List Value} (ha : h a = some (t, eM q vs)) (hvs : vs.length = fi.length)
    {Bs rest : List Value} (hlen : (parseMethodDescriptor ifm.desc).map (fun d => d.parameters.length) = some Bs.length)
    (hc : ∀ i, i < fi.length → decode code (4 * i) = .ok (.aload_n 0, 1) ∧ decode code (4 * i + 1) = .ok (.getfield (fi.getD i 0), 3))
    {pb : Nat} (hlB : (lg_sl (.ref a :: Bs)).length ≤ maxL)
    (hcb : (Bs = [] ∧ pb = 4 * fi.length) ∨ (∃ v : Int32, Bs = [.int v] ∧ decode code (4 * fi.length) = .ok (.iload_n 1, 1) ∧ pb = 4 * fi.length + 1) ∨ (∃ v : Nat, Bs = [.ref v] ∧ decode code (4 * fi.length) = .ok (.aload_n 1, 1) ∧ pb = 4 * fi.length + 1))
    (hdi : decode code pb = .ok (.invokevirtual mi, 3)) (hcr : decode code (pb + 3) = .ok (.ireturn, 1))
    {z : MethodName} {cw : Cond} {cz : ByteArray} {nz lz mz sz : Nat} {rz : Option FieldType} {hz : List (Nat × Nat × Nat × Nat)} {P : Value → kH → Prop} (hzz : z = ⟨σ.implClass, σ.implName, σ.implDesc.toString⟩) (hcd : kCd cw z cz nz rz hz) (hcw : cw ∈ lw_all) (hini : Cond.initialized z.cls ∈ lw_all) (hinz : Cond.instanceMethod z ∈ lw_all) {cx : Nat} {C : String} {T0 : u_T} {N0 : Nat} {ty0 : Nat → FieldType} (hC : kCl cx C T0 N0 ty0) (hsl : Cond.selects C z z ∈ lw_all) {a0 : Nat} {t0 : kT} {fs0 : List Value} (h0 : kHs x.g h a0 t0 (.inl (cx, fs0))) {ws : List Value} (hv0 : vs = .ref a0 :: ws) (hzx : z.cls ≠ "java/lang/invoke/MethodHandle" ∧ z.cls ≠ "java/lang/invoke/VarHandle")
    (hlz : (parseMethodDescriptor z.desc).map (fun d => d.parameters.length) = some (ws ++ Bs).length) (hpl : plainName (sx.cls ++ "$$Lambda") = true)
    (hM : kMet x.l x.g z cw lz mz sz (vs ++ Bs) h (kV P)) (hP : ∀ v h', P v h' → ∃ w : Int32, v = .int w ∧ narrow rt (.int w) = .int w) (p' : Nat) (hp : pc + 5 = p') (hst : (rest.map fun v => v.category).sum ≤ 8) (hlev : lz + 1 < lev) (hnz : nz ≤ 45) (hmx : maxL ≤ 45) (hk : k + mz ≤ mc) (hn : n + sz ≤ ms)
    (kr : ∀ v h', P v h' → kW x (k + mz) (n + sz) h' p' lv (v :: rest)) : kW x k n h pc lv (Bs.reverse ++ .ref a :: rest) := by
  subst hp
  intro H locs ls hs hS hl T hT X
  obtain ⟨hR, -⟩ := F.R
  obtain ⟨dm, dk, hdk, hdn, hmade, hcan⟩ := kLamAt F hsite
  have hcell : H[a]? = some ({ cls := x.g.L q, slots := vs.toArray, vm := .none } : Cell) := (hs.2 a t _ ha).1
  have hO : ∀ {vm : Vm}, x.s.vm.Alike vm → ∀ o ok, vm.findClass "java/lang/Object" = some o → vm.classes[o]? = some ok → ok.instanceTypes.size = 0 := by
    intro vm hA o ok h1 h2
    obtain ⟨cO, kO, e1, e2, -, -, -, e3⟩ := Cond.instantiable_spec (F.w hobj)
    rw [hA.findClass, e1] at h1
    cases h1
    obtain ⟨k2, hk2, he⟩ := hA.2.2 _ _ e2
    cases hk2.symm.trans h2
    rw [he]
    exact e3
  obtain ⟨kK, tk, methk, ck, toy, t0, file, ci, nt, iface, found, hkK, hkn, hfile, hp1, hp2, hmk, hckK, hbytes, hml, hlk, hfl, hretk, htoy, htk, hlook, hready, hclsR, hfs, hifc, hfnd, hsel, -, -⟩ := lam_facts hchk hdk hdn hmade (hO (Vm.Alike.refl _))
  obtain ⟨i2, hi2, hasg, hway⟩ := State.lambdaCallable_spec hcan
  cases hifc.symm.trans hi2
  -- the interface's method
  have tr : ∀ {c : Cond}, c.onTables = true → c.before #[] (x.g.U.setVm x.s.vm) = true → c.before #[] x.s = true := by
    intro c hc h
    have e := Cond.onTables_vm (A := #[]) (A' := #[]) (U := x.g.U) (U' := x.s) x.s.vm c hc
    have hU : x.s.setVm x.s.vm = x.s := rfl
    rw [hU] at e
    rw [← e]
    exact h
  have d1 : (Cond.declares ifm).before #[] x.g.U = true := va_any rfl (F.st.2.1 _ hde)
  have d2 : (Cond.interfaceMethod ifm.cls ifm.cls ifm.name ifm.desc).before #[] x.g.U = true := va_any rfl (F.st.2.1 _ hfa)
  obtain ⟨r00, -, hn00, -⟩ := Cond.declares_spec d1
  have f1 : (Cond.declares ifm).before #[] x.s = true := tr rfl (by rw [Cond.declares_setVm F.hW.alike]; exact d1)
  have f2 : (Cond.interfaceMethod ifm.cls ifm.cls ifm.name ifm.desc).before #[] x.s = true := tr rfl (by rw [Cond.interfaceMethod_setVm F.hW.alike (r := r00) hn00 hx]; exact d2)
  obtain ⟨r0, r, hn0, hrm, hstR, hsigR⟩ := Cond.declares_spec f1
  obtain ⟨cL, kL, r1, hcL, hkL, hiL, hfoundL, hn1⟩ := Cond.interfaceMethod_spec f2
  cases hn0.symm.trans hn1
  have hr0cls : r0.cls = cL := Option.some.inj ((findClass_of_methodNamed hn0).symm.trans hcL)
  obtain ⟨hnameR, hdescR⟩ := name_of_methodNamed hn0 hrm
  have hcLi : cL = iface := by
    have : x.s.vm.findClass ifm.cls = some iface := by rw [← hif.1]; exact hifc
    exact Option.some.inj (hcL.symm.trans this)
  subst hcLi
  have hfr : found = r0 := by
    have h1 := hfoundL
    simp only [State.methodFound?, hcL, hkL, hiL, Option.bind_eq_bind, Option.bind_some] at h1
    rw [hif.2.1, hif.2.2] at hfnd
    rw [hfnd] at h1
    exact Option.some.inj h1
  subst hfr
  have hle : Bs.length = r.sig.parameters.length := by
    rw [hsigR] at hlen
    exact (Option.some.inj hlen).symm
  have hdg : decode x.c.code pc = .ok (.invokeinterface index count, 5) := by rw [F.hb]; exact hd
  obtain ⟨vm₁, X₁, hstep₁⟩ := X.invokeinterface F.hx F.hown (F.w hq) hn0 hrm hstR (by rw [hr0cls]; exact hkL) hiL hx (a := a) (cell := { cls := x.g.L q, slots := vs.toArray, vm := .none }) (kcell := kK) (by rw [hT]; exact hcell)
    (fun z h => by cases h) hkK (by rw [hr0cls]; exact hasg) (m' := ⟨x.g.L q, 1⟩) (meth' := methk) (by rw [Launch.admits_selectMethod X.admits]; exact hsel) hmk (by rw [hnameR, hdescR, ← hif.2.1, ← hif.2.2]; exact hway) (by rw [hfl]; decide) (by simp [Method.isAbstract, hfl, hasFlag, Acc.abstract])
    (g := F0 x.m pc ls (Bs.reverse ++ .ref a :: rest)) rfl (argsL := Bs) (rest := rest) hle rfl hdg
  have hW₁ : x.s.WarmedH vm₁ := X₁.warmed
  obtain ⟨dk₁, hdk₁, hde₁⟩ := hW₁.alike.2.2 _ _ hdk
  obtain ⟨kK₁, tk₁, methk₁, ck₁, toy₁, t₁, file₁, ci₁, nt₁, iface₁, found₁, hkK₁, hkn₁, hfile₁, hp1₁, hp2₁, hmk₁, hck₁, hbytes₁, hml₁, hlk₁, hfl₁, hretk₁, htoy₁, htk₁, hlook₁, hready₁, hclsR₁, hfs₁, -, -, -, -, -⟩ := lam_facts hchk hdk₁ (by rw [hde₁]; exact hdn) (Jvm.Lambda.isMade_warmer hW₁ hmade) (hO hW₁.alike)
  -- the target
  obtain ⟨mT, methT, cT, hnT, hmT, -, -, -, -, -, hsigT, -⟩ := hcd.2.2 x.args x.s (F.w hcw)
  obtain ⟨mI, methI, hnI, hmI, hstI, habI⟩ := Cond.instanceMethod_spec (F.w hinz)
  cases hnT.symm.trans hnI
  cases hmT.symm.trans hmI
  obtain ⟨cell0, hcell0, hvm0, hcls0, -⟩ := kRecv F hC hs h0
  obtain ⟨kT, hkT, hnameT⟩ := className_of_methodNamed hnT
  have hinitT : kT.init = .initialized := Cond.initialized_spec (findClass_of_methodNamed hnT) hkT (F.w hini)
  have hfT₁ : vm₁.findClass σ.implClass = some mT.cls := by
    have : x.s.vm.findClass z.cls = some mT.cls := findClass_of_methodNamed hnT
    rw [hzz] at this
    rw [hW₁.alike.findClass]
    exact this
  cases htoy₁.symm.trans hfT₁
  have ht₁ : t₁ = mT := by
    have h1 : (x.s.setVm vm₁).methodFound? z.cls z.name z.desc = some mT := by rw [State.methodFound?_setVm hW₁.alike]; exact State.methodFound?_of_named hnT hzx
    rw [hzz] at h1
    simp only [State.methodFound?, State.vm_setVm, hfT₁, htk₁, Option.bind_eq_bind, Option.bind_some] at h1
    rw [hlook₁] at h1
    exact Option.some.inj h1
  subst ht₁
  have hmT₁ : vm₁.method? t₁ = some methT := by rw [hW₁.alike.method?]; exact hmT
  obtain ⟨kT₁, hkT₁, heT₁⟩ := hW₁.alike.2.2 _ _ hkT
  cases htk₁.symm.trans hkT₁
  have hsp : ∀ y : Method, signaturePolymorphic tk₁ y = false := fun y => by
    have h1 : tk₁.name = z.cls := by rw [heT₁]; exact hnameT
    simp [signaturePolymorphic, h1, hzx.1, hzx.2]
  have hleT : (ws ++ Bs).length = methT.sig.parameters.length := by
    rw [hsigT] at hlz
    exact (Option.some.inj hlz).symm
  have hpk : (T.setVm vm₁).plainMethod ⟨x.g.L q, 1⟩ := State.plainMethod.of_name (fun k' hk' => by cases hkK₁.symm.trans hk'; rw [hkn₁]; exact hpl)
  have hWU : x.g.U.WarmedH vm₁ := State.WarmedH.trans F.hW hW₁
  have hword : ∀ {w : Cond}, w ∈ lw_all → ∀ (A : Array Value) (U : State), x.g.U.WarmedH U.vm → w.before A U = true := by
    intro w hw A U hU
    obtain ⟨k1, k2⟩ := List.mem_filter.mp hw
    exact word_at hU (good_of_word k2) (F.st.2.1 _ k1)
  obtain ⟨T', L, h', w, X', hs', hL, hz', hpw, hsteps⟩ := lamRun (h := h) X₁ F.hx (g0 := F0 x.m pc ls rest) rfl hl.1 hdg hmk₁ hck₁ hbytes₁ hml₁ hlk₁ hpk hretk₁ (a := a) (vs := vs) (fi := fi) (by show T.heap[a]? = _; rw [hT]; exact hcell) (fun q => by cases q)
    (fun i hi => by simp [List.getD_eq_getElem?_getD, List.getElem?_eq_getElem hi, hi]) hvs hfs₁ hc hlB hcb hdi hcr hM hcd hnz hmx (fun U hU => hword hcw _ U hU) (fun U hU => hword hini _ U hU) (mt := t₁) (show (x.s.setVm vm₁).methodNamed? z = some t₁ by rw [State.methodNamed?_setVm hW₁.alike]; exact hnT) hWU (by show kSim x.g h T.heap; rw [hT]; exact hs) hP hst rfl hR hlev hk hn
    (fun U ls2 target aA hvm hheap Y h9 => by
      obtain ⟨bb, hmem⟩ := memberRef_ask' (e := x.e) (vm := vm₁) (d := x.g.L q) (index := mi) hkK₁ hfile₁ (Or.inl hp1₁) hp2₁
      have hvm' : U.vm = vm₁ := hvm
      have hheap' : U.heap = H := by rw [hheap]; exact hT
      obtain ⟨c2, r2, m2, s1, s2, s3, s4, kP, hkP, hkPi⟩ := Cond.selects_spec (hword hsl #[] (x.s.setVm vm₁) hWU)
      have hn₁ : (x.s.setVm vm₁).methodNamed? z = some t₁ := by rw [State.methodNamed?_setVm hW₁.alike]; exact hnT
      have hc2 : c2 = cell0.cls := by
        have h1 : (x.s.setVm vm₁).vm.findClass C = some cell0.cls := by
          show vm₁.findClass C = _
          rw [hW₁.alike.findClass]
          exact hcls0
        exact Option.some.inj (s1.symm.trans h1)
      cases (State.methodFound?_of_named hn₁ hzx).symm.trans s2
      cases hn₁.symm.trans s3
      have hselP : selectMethod x.e.platform U.vm cell0.cls t₁ = .method t₁ := by rw [hvm', Launch.admits_selectMethod X.admits, ← hc2]; exact s4
      have htki : tk₁.isInterface = false := by
        cases htk₁.symm.trans hkP
        exact hkPi
      subst hv0
      rw [List.reverse_cons]
      jvm_step Y.here [Y.here.top, F.hx, hbytes₁, hdi, invokevirtual.wp_ready (e := x.e) (s := U) (r := t₁) (m := t₁) (k := tk₁) (mk := kP) (rmeth := methT) (meth := methT) (args := ws ++ Bs) (rest := []) (a := a0) (cell := cell0) (f := F0 ⟨x.g.L q, 1⟩ pb ls2 (Bs.reverse ++ (ws.reverse ++ [Value.ref a0]))) Y.here.top ⟨kK₁, file₁, ci₁, nt₁, t₁.cls, tk₁, by rw [hvm']; exact hkK₁, hfile₁, hp1₁, by rw [hvm']; exact hclsR₁, by rw [hvm']; exact htk₁, htki⟩ (by rw [hvm']; exact hready₁) (by rw [hvm']; exact htk₁) (by rw [hvm']; exact hmT₁) (hsp _) hstI hleT (by simp) (by rw [hheap']; exact hcell0) (fun z h => by rw [h] at hvm0; cases hvm0) hselP (by rw [hvm']; exact hmT₁) habI (by rw [hvm']; exact hkP) hkPi]
      intro acts
      rw [doInvoke_state]
      exact h9)
  have hTz : T.heap.size ≤ T'.heap.size := hz'
  have hS' : kS x T'.heap (locs ++ L) := ⟨Nat.le_trans hS.1 (by rw [← hT]; exact hTz), fun q hq => by
    rcases List.mem_append.mp hq with a | a
    · exact hS.2 q a
    · exact hL q a⟩
  obtain ⟨t9, a9, b9⟩ := kr (.int w) h' hpw T'.heap (locs ++ L) ls hs' hS' hl T' rfl X'
  exact ⟨t9, hstep₁ _ fun acts => (hsteps acts).trans a9, b9⟩
end
