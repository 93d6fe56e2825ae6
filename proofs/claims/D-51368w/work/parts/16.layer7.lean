/-! LAYER 7: wide constants, floats, casts, copies -/
theorem X_ldcwS {p : Program} {l : Launch} {e : Env} {R : Room} {s : State} {m : MethodId} {args : Array Value} {below : List Frame} {meth : Method} {c : Code} {T : State} {locs : List Loc} {cells slots : Nat}
    (X : Stand p l e R s m args below meth c T locs cells slots) (hexec : p.tables.exec = Jvm.exec) {own text : String} {index : Nat} {a : Addr} (hown : s.vm.findClass own = some m.cls)
    (hconst : (Cond.stringRef own index text).before args s = true) (hev : (Term.string own index).eval args s none [] s = some (.ref a)) {g : JFrame} (hg : g.method = m) (hdg : decode c.code g.pc = .ok (.ldc_w index, 3)) :
    ∀ target, Steps p.tables e below (T.setTop { g with pc := g.pc + 3, stack := .ref a :: g.stack }) target → Steps p.tables e below (T.setTop g) target := by
  obtain ⟨k, cf, i, a', hk, hcf, hcp, -, hr, hev'⟩ := Cond.stringRef_spec hown hconst
  cases hev.symm.trans hev'
  obtain ⟨k', hk', he⟩ := X.warmed.alike.2.2 _ _ hk
  have hr' : k'.resolved[index]? = some (some (.string a)) := by
    rcases X.warmed.entry hk hk' index with h | ⟨h, -⟩
    · rw [h]; exact hr
    · rw [hr] at h; cases h
  intro target hrest
  subst hg
  jvm_step X.here [hexec, hdg, ldc_w.wp_string (e := e) (s := T) (f := g) X.here.top hk' (by rw [he]; exact hcf) hcp hr']
  exact hrest
section
variable {x : kX} {y : MethodName} {cc : ByteArray} {nL lev mc ms : Nat} {ret : Option FieldType} {hh : List (Nat × Nat × Nat × Nat)} {Po : kR → kH → Prop} {k n : Nat} {h : kH} {pc : Nat} {lv lv' : List (Nat × Value)} {st : List Value}
theorem k_ldcwS (F : kF x y cc nL ret hh lev mc ms Po) {tx : String} {index q : Nat} (hZ : vk_R y.cls index tx q x.g.U) (hd : decode cc pc = .ok (.ldc_w index, 3)) (p' : Nat) (hp : pc + 3 = p') (kk : kW x k n h p' lv (.ref q :: st)) : kW x k n h pc lv st := by
  subst hp
  intro H locs ls hs hS hl T hT X
  obtain ⟨t, a1, b1⟩ := kk H locs ls hs hS hl T hT X
  have hZ' := vk_R.warm F.hW hZ
  exact ⟨t, X_ldcwS X F.hx F.hown (text := tx) (a := q) hZ'.1 hZ'.2 (g := F0 x.m pc ls st) rfl (by rw [F.hb]; exact hd) t a1, b1⟩
theorem k_dconst0 (F : kF x y cc nL ret hh lev mc ms Po) (hd : decode cc pc = .ok (.dconst 0, 1)) (p' : Nat) (hp : pc + 1 = p') (kk : kW x k n h p' lv (.double FP.dconst0 :: st)) : kW x k n h pc lv st := by
  subst hp
  exact fun H locs ls hs hS hl => lv_dconst0 F.hx F.hb hd (kk H locs ls hs hS hl)
theorem k_i2d (F : kF x y cc nL ret hh lev mc ms Po) {a : Int32} (hd : decode cc pc = .ok (.i2d, 1)) (p' : Nat) (hp : pc + 1 = p') (kk : kW x k n h p' lv (.double (FP.i2d a) :: st)) : kW x k n h pc lv (.int a :: st) := by
  subst hp
  exact fun H locs ls hs hS hl => lv_i2d F.hx F.hb hd (kk H locs ls hs hS hl)
theorem k_i2f (F : kF x y cc nL ret hh lev mc ms Po) {a : Int32} (hd : decode cc pc = .ok (.i2f, 1)) (p' : Nat) (hp : pc + 1 = p') (kk : kW x k n h p' lv (.float (FP.i2f a) :: st)) : kW x k n h pc lv (.int a :: st) := by
  subst hp
  exact fun H locs ls hs hS hl => lv_i2f F.hx F.hb hd (kk H locs ls hs hS hl)
theorem k_ddiv (F : kF x y cc nL ret hh lev mc ms Po) {a b : UInt64} (hd : decode cc pc = .ok (.ddiv, 1)) (p' : Nat) (hp : pc + 1 = p') (hne : vf_n64 (FP.ddiv a b)) (kk : kW x k n h p' lv (.double (FP.ddiv a b) :: st)) : kW x k n h pc lv (.double b :: .double a :: st) := by
  subst hp
  exact fun H locs ls hs hS hl => lv_ddiv F.hx F.hb hd hne (kk H locs ls hs hS hl)
theorem k_fdiv (F : kF x y cc nL ret hh lev mc ms Po) {a b : UInt32} (hd : decode cc pc = .ok (.fdiv, 1)) (p' : Nat) (hp : pc + 1 = p') (hne : vf_n32 (FP.fdiv a b)) (kk : kW x k n h p' lv (.float (FP.fdiv a b) :: st)) : kW x k n h pc lv (.float b :: .float a :: st) := by
  subst hp
  exact fun H locs ls hs hS hl => lv_fdiv F.hx F.hb hd hne (kk H locs ls hs hS hl)
theorem k_fcmp (F : kF x y cc nL ret hh lev mc ms Po) {a b : UInt32} {op : CmpOp} (hd : decode cc pc = .ok (.fcmp op, 1)) (p' : Nat) (hp : pc + 1 = p') (kk : kW x k n h p' lv (.int (Op.cmpValue (FP.fcmp a b) op) :: st)) : kW x k n h pc lv (.float b :: .float a :: st) := by
  subst hp
  exact fun H locs ls hs hS hl => lv_fcmp F.hx F.hb hd (kk H locs ls hs hS hl)
theorem k_f2raw (F : kF x y cc nL ret hh lev mc ms Po) {index : Nat} {b : UInt32} (hq : Cond.methodLink y.cls index ⟨"java/lang/Float", "floatToRawIntBits", "(F)I"⟩ ∈ lw_all) (hnat : Cond.native ⟨"java/lang/Float", "floatToRawIntBits", "(F)I"⟩ ∈ lw_all) (hstat : Cond.static ⟨"java/lang/Float", "floatToRawIntBits", "(F)I"⟩ ∈ lw_all) (hini : Cond.initialized "java/lang/Float" ∈ lw_all)
    (hd : decode cc pc = .ok (.invokestatic index, 3)) (p' : Nat) (hp : pc + 3 = p') (hlev : 1 ≤ lev) (hst : (st.map fun v => v.category).sum ≤ 8) (kk : kW x k n h p' lv (.int b.toInt32 :: st)) : kW x k n h pc lv (.float b :: st) := by
  subst hp
  intro H locs ls hs hS hl
  obtain ⟨hR, -⟩ := F.R
  exact vn_f2i F.hx F.hb hl.1.symm F.hown (F.w hq) (F.w hnat) (F.w hstat) (F.w hini) (by rw [hR]; exact hlev) (by rw [hR]; simp only [kRm]; omega) hd (kk H locs ls hs hS hl)
theorem k_lcmp (F : kF x y cc nL ret hh lev mc ms Po) {a b : Int64} (hd : decode cc pc = .ok (.lcmp, 1)) (p' : Nat) (hp : pc + 1 = p') (kk : kW x k n h p' lv (.int (lg_cmp a b) :: st)) : kW x k n h pc lv (.long b :: .long a :: st) := by
  subst hp
  exact fun H locs ls hs hS hl => W.lcmp F.hx F.hb hd (kk H locs ls hs hS hl)
theorem k_fmul (F : kF x y cc nL ret hh lev mc ms Po) {a b : UInt32} (hd : decode cc pc = .ok (.fmul, 1)) (p' : Nat) (hp : pc + 1 = p') (hne : vf_n32 (FP.fmul a b)) (kk : kW x k n h p' lv (.float (FP.fmul a b) :: st)) : kW x k n h pc lv (.float b :: .float a :: st) := by
  subst hp
  exact fun H locs ls hs hS hl => lv_fmul F.hx F.hb hd hne (kk H locs ls hs hS hl)
theorem k_f2i (F : kF x y cc nL ret hh lev mc ms Po) {a : UInt32} (hd : decode cc pc = .ok (.f2i, 1)) (p' : Nat) (hp : pc + 1 = p') (kk : kW x k n h p' lv (.int (FP.f2i a) :: st)) : kW x k n h pc lv (.float a :: st) := by
  subst hp
  exact fun H locs ls hs hS hl => lv_f2i F.hx F.hb hd (kk H locs ls hs hS hl)
theorem k_fconst0 (F : kF x y cc nL ret hh lev mc ms Po) (hd : decode cc pc = .ok (.fconst 0, 1)) (p' : Nat) (hp : pc + 1 = p') (kk : kW x k n h p' lv (.float FP.fconst0 :: st)) : kW x k n h pc lv st := by
  subst hp
  exact fun H locs ls hs hS hl => lv_fconst0 F.hx F.hb hd (kk H locs ls hs hS hl)
/-- a cast that goes through: the class itself -/
theorem kObj (F : kF x y cc nL ret hh lev mc ms Po) {ci : Nat} {C : String} {T : u_T} {N : Nat} {ty : Nat → FieldType} (hc : kCl ci C T N ty) {H : Heap} (hs : kSim x.g h H) {a : Nat} {t : kT} {fs : List Value} (ha : kHs x.g h a t (.inl (ci, fs))) : ∃ cell : Cell, H[a]? = some cell ∧ cell.vm.isStatics = false ∧ x.s.vm.findClass C = some cell.cls := by
  obtain ⟨cell, h1, h2, h3, -⟩ := kRecv F hc hs ha
  exact ⟨cell, h1, h2, h3⟩
theorem k_castE (F : kF x y cc nL ret hh lev mc ms Po) {ci : Nat} {C : String} {T : u_T} {N : Nat} {ty : Nat → FieldType} (hc : kCl ci C T N ty) {index : Nat} (hq : Cond.classLink y.cls index C ∈ lw_all) (hd : decode cc pc = .ok (.checkcast index, 3)) (p' : Nat) (hp : pc + 3 = p') {a : Nat} {t : kT} {fs : List Value} (ha : kHs x.g h a t (.inl (ci, fs))) (kk : kW x k n h p' lv (.ref a :: st)) : kW x k n h pc lv (.ref a :: st) := by
  subst hp
  intro H locs ls hs hS hl
  exact va_castE F.hx F.hb F.hown (F.w hq) (kObj F hc hs ha) hd (kk H locs ls hs hS hl)
theorem k_instE (F : kF x y cc nL ret hh lev mc ms Po) {ci : Nat} {C : String} {T : u_T} {N : Nat} {ty : Nat → FieldType} (hc : kCl ci C T N ty) {index : Nat} (hq : Cond.classLink y.cls index C ∈ lw_all) (hd : decode cc pc = .ok (.instanceof index, 3)) (p' : Nat) (hp : pc + 3 = p') {a : Nat} {t : kT} {fs : List Value} (ha : kHs x.g h a t (.inl (ci, fs))) (kk : kW x k n h p' lv (.int 1 :: st)) : kW x k n h pc lv (.ref a :: st) := by
  subst hp
  intro H locs ls hs hS hl
  exact va_instE F.hx F.hb F.hown (F.w hq) (kObj F hc hs ha) hd (kk H locs ls hs hS hl)
end
/-! no NaN comes of these -/
theorem fp_nan64 (a : UInt64) : FP.dIsNaN a = true ↔ 9218868437227405312 < a.toNat % 2 ^ 63 := by
  have hl := a.toNat_lt
  unfold FP.dIsNaN FP.Core.dIsNaN FP.Core.isNaN FP.Core.decode
  rw [decide_eq_true_iff]
  have e1 : FP.Core.fieldE FP.Core.b64 a.toNat = a.toNat / 2 ^ 52 % 2048 := rfl
  have e2 : FP.Core.fieldT FP.Core.b64 a.toNat = a.toNat % 2 ^ 52 := rfl
  have e3 : FP.Core.b64.exps - 1 = 2047 := by decide
  rw [e1, e2, e3]
  split
  · split
    · simp; omega
    · simp; omega
  · split
    · simp; omega
    · simp; omega
theorem fp_nan32 (a : UInt32) : FP.fIsNaN a = true ↔ 2139095040 < a.toNat % 2 ^ 31 := by
  have hl := a.toNat_lt
  unfold FP.fIsNaN FP.Core.fIsNaN FP.Core.isNaN FP.Core.decode
  rw [decide_eq_true_iff]
  have e1 : FP.Core.fieldE FP.Core.b32 a.toNat = a.toNat / 2 ^ 23 % 256 := rfl
  have e2 : FP.Core.fieldT FP.Core.b32 a.toNat = a.toNat % 2 ^ 23 := rfl
  have e3 : FP.Core.b32.exps - 1 = 255 := by decide
  rw [e1, e2, e3]
  split
  · split
    · simp; omega
    · simp; omega
  · split
    · simp; omega
    · simp; omega
theorem fp_n64 {a : UInt64} (h : FP.dIsNaN a = false) : vf_n64 a := by
  have h1 : ¬ (FP.dIsNaN a = true) := by rw [h]; decide
  rw [fp_nan64] at h1
  unfold vf_n64
  rw [UInt64.le_iff_toNat_le, UInt64.toNat_and]
  have e : (0x7fffffffffffffff : UInt64).toNat = 2 ^ 63 - 1 := by decide
  have e2 : (0x7ff0000000000000 : UInt64).toNat = 9218868437227405312 := by decide
  rw [e, e2, Nat.and_two_pow_sub_one_eq_mod]
  omega
theorem fp_n32 {a : UInt32} (h : FP.fIsNaN a = false) : vf_n32 a := by
  have h1 : ¬ (FP.fIsNaN a = true) := by rw [h]; decide
  rw [fp_nan32] at h1
  unfold vf_n32
  rw [UInt32.le_iff_toNat_le, UInt32.toNat_and]
  have e : (0x7fffffff : UInt32).toNat = 2 ^ 31 - 1 := by decide
  have e2 : (0x7f800000 : UInt32).toNat = 2139095040 := by decide
  rw [e, e2, Nat.and_two_pow_sub_one_eq_mod]
  omega
