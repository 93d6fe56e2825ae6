/-! LAYER 11: throws and catches -/
section
variable {x : kX} {y : MethodName} {cc : ByteArray} {nL lev mc ms : Nat} {ret : Option FieldType} {hh : List (Nat × Nat × Nat × Nat)} {Po : kR → kH → Prop} {k n : Nat} {h : kH} {pc : Nat} {lv lv' : List (Nat × Value)} {st : List Value}
/-- an object of ours is thrown -/
theorem k_athrow (F : kF x y cc nL ret hh lev mc ms Po) {ci : Nat} {C : String} {T0 : u_T} {N0 : Nat} {ty0 : Nat → FieldType} (hC : kCl ci C T0 N0 ty0) (hd : decode cc pc = .ok (.athrow, 1)) {q : Nat} {t : kT} {fs : List Value} (hq : h q = some (t, .inl (ci, fs))) (kk : kThr x k n h pc lv st q C) : kW x k n h pc lv (.ref q :: st) := by
  intro H locs ls hs hS hl
  obtain ⟨r, h1, cell, q1, q2, q3, q4⟩ := (hs.2 q t _ hq).1
  have hr : r = (C, T0, N0) := Option.some.inj (h1.symm.trans (F.cl hC))
  subst hr
  obtain ⟨-, hfc, kC, hkC, hkind⟩ := F.K.1 ci _ (F.cl hC)
  exact vx_athrow F.hx F.hb hd (kk H hs cell q1 q3 (by rw [q2]; exact hfc) locs ls hS hl)
/-- a thrown object that we know by its class alone goes on -/
theorem kThr.again (F : kF x y cc nL ret hh lev mc ms Po) {q : Nat} {E : String} (hd : decode cc pc = .ok (.athrow, 1)) (kk : kThr x k n h pc lv st q E) : ∀ H, kSim x.g h H → ∀ ce : Cell, H[q]? = some ce → ce.vm = .none → x.s.vm.findClass E = some ce.cls → ∀ (locs : List Loc) (ls : Array Slot), kS x H locs → lv_has ls x.c.maxLocals lv → W x.p x.l x.e x.R x.s x.m x.args x.below x.meth x.c H locs k n (kQ x) (F0 x.m pc ls (.ref q :: st)) :=
  fun H hs ce h1 h2 h3 locs ls hS hl => vx_athrow F.hx F.hb hd (kk H hs ce h1 h2 h3 locs ls hS hl)
/-- a thrown object is caught by the row r of the table -/
theorem k_catch (F : kF x y cc nL ret hh lev mc ms Po) {q : Nat} {E name : String} (hpre hsuf : List (Nat × Nat × Nat × Nat)) {s0 e0 hp ct : Nat} (hsplit : hh = hpre ++ (s0, e0, hp, ct) :: hsuf) (hcov : s0 ≤ pc ∧ pc < e0) (h0 : ct ≠ 0)
    (hpass : ∀ z ∈ hpre, ¬ (z.1 ≤ pc ∧ pc < z.2.1) ∨ (z.2.2.2 ≠ 0 ∧ ∃ nm : String, Cond.classLink y.cls z.2.2.2 nm ∈ lw_all ∧ va_Nc E nm x.s)) (hlink : Cond.classLink y.cls ct name ∈ lw_all) (hcast : Cond.castable E name ∈ lw_tbl)
    (kk : kW x k n h hp lv [.ref q]) : kThr x k n h pc lv st q E := by
  intro H hs ce h1 h2 h3 locs ls hS hl
  have htb := F.tb
  rw [hsplit] at htb
  obtain ⟨pre, suf0, e1, e2, e3⟩ := List.map_eq_append_iff.mp htb
  obtain ⟨r, suf, e4, e5, e6⟩ := List.map_eq_cons_iff.mp e3
  subst e4
  simp only [Prod.mk.injEq] at e5
  obtain ⟨r1, r2, r3, r4⟩ := e5
  have hW := kk H locs ls hs hS hl
  rw [← r3] at hW
  refine vx_catch F.hown pre r suf e1 (fun z hz => ?_) (by unfold covers; simp [r1, r2, hcov.1, hcov.2]) (by rw [r4]; exact h0) (name := name) (by rw [r4]; exact F.w hlink) (va_Nw.use (A := x.args) rfl (va_Nw.warmC F.hW (va_Nw.of rfl (F.st.2.1 _ hcast)))) h1 h2 h3 hW
  have hz' : (z.startPc, z.endPc, z.handlerPc, z.catchType) ∈ hpre := by rw [← e2]; exact List.mem_map.mpr ⟨z, hz, rfl⟩
  rcases hpass _ hz' with a | ⟨a, nm, b, c⟩
  · refine Or.inl ?_
    cases hc : covers z pc with
    | false => rfl
    | true =>
      exfalso
      apply a
      simpa [covers] using hc
  · exact Or.inr ⟨a, nm, F.w b, c⟩
end
