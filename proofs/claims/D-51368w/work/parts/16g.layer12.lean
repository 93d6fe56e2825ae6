/-! LAYER 12: casts of arrays -/
section
variable {x : kX} {y : MethodName} {cc : ByteArray} {nL lev mc ms : Nat} {ret : Option FieldType} {hh : List (Nat × Nat × Nat × Nat)} {Po : kR → kH → Prop} {k n : Nat} {h : kH} {pc : Nat} {lv lv' : List (Nat × Value)} {st : List Value}
theorem k_castB (F : kF x y cc nL ret hh lev mc ms Po) {index : Nat} (hq : Cond.classLink y.cls index "[B" ∈ lw_all) (hd : decode cc pc = .ok (.checkcast index, 3)) (p' : Nat) (hp : pc + 3 = p') {a : Nat} {t : kT} {c : vp_A} (ha : h a = some (t, .inr (.inl (1, c)))) (kk : kW x k n h p' lv (.ref a :: st)) : kW x k n h pc lv (.ref a :: st) := by
  subst hp
  intro H locs ls hs hS hl
  have hcd : H[a]? = some (vp_cell (x.g.A 1) c) := kArrAt hs ha
  have hra : va_RA x.s (x.g.A 1) .byte := (F.arr 1 (by decide)).2
  have hv : (vp_cell (x.g.A 1) c).vm.isStatics = false ∧ (vp_cell (x.g.A 1) c).cls = x.g.A 1 := by
    obtain ⟨m, c⟩ := c
    rw [vp_arr]
    exact ⟨rfl, rfl⟩
  exact va_castE F.hx F.hb F.hown (F.w hq) ⟨_, hcd, hv.1, by rw [hv.2]; exact va_nm_byte hra⟩ hd (kk H locs ls hs hS hl)
end
