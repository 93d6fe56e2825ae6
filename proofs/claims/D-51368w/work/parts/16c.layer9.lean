/-! LAYER 9: copies of arrays -/
section
variable {x : kX} {y : MethodName} {cc : ByteArray} {nL lev mc ms : Nat} {ret : Option FieldType} {hh : List (Nat × Nat × Nat × Nat)} {Po : kR → kH → Prop} {k n : Nat} {h : kH} {pc : Nat} {lv lv' : List (Nat × Value)} {st : List Value}
theorem nn0 : ∀ z : Nat, z < 2 ^ 31 → (nI z).toInt = ((nI z).toNatClampNeg : Int) := fun z hz => by rw [nI_toInt hz, nI_clamp hz]
/-- the values of an array that can be read, as a list -/
theorem kStretch {cell : Cell} {n0 sp m : Nat} {v : Nat → Value} (hr : ∀ j, j < n0 → cell.slots[j]? = some (v j)) (h4 : sp + m ≤ n0) : cell.stretch sp m = (List.range m).map (fun i => v (sp + i)) := by
  unfold Cell.stretch
  apply List.map_congr_left
  intro i hi
  have hi' := List.mem_range.mp hi
  rw [Array.getD_eq_getD_getElem?, hr _ (by omega)]
  rfl
theorem kCopied {α : Type} (mk : α → Value) {cs : Cell} (c1 : ClassId) {n0 n1 sp dp m : Nat} (f g : Nat → α) (hr : ∀ j, j < n0 → cs.slots[j]? = some (mk (f j))) (h4 : sp + m ≤ n0) :
    (arrV c1 n1 (fun j => mk (g j))).storeRun dp (cs.stretch sp m) = arrV c1 n1 (fun j => mk (va_cpy f g sp dp m j)) := by
  rw [kStretch hr h4, Cell.storeRun, va_pairs]
  congr 1
  funext k
  simp only [va_cpy, List.length_map, List.length_range, Nat.add_zero]
  by_cases h : dp ≤ k ∧ k < dp + m
  · rw [if_pos h, if_pos h, List.getD_eq_getElem?_getD, List.getElem?_map, List.getElem?_range (by omega)]
    rfl
  · rw [if_neg h, if_neg h]
theorem k_copyI (F : kF x y cc nL ret hh lev mc ms Po) (kd : Nat) (hkd : kd < 2 ∨ kd = 3) {index : Nat} (hq : Cond.methodLink y.cls index arraycopyName ∈ lw_all) (hnat : Cond.native arraycopyName ∈ lw_all) (hstat : Cond.static arraycopyName ∈ lw_all) (hini : Cond.initialized "java/lang/System" ∈ lw_all)
    {src dst n0 n1 sp dp m : Nat} {t t' : kT} {f g : Nat → Int32} (hsrc : kHs x.g h src t (.inr (.inl (kd, n0, .inl f)))) (hdst : h dst = some (t', .inr (.inl (kd, n1, .inl g)))) (ht : t'.1 ≠ 0) (h4 : sp + m ≤ n0) (h5 : dp + m ≤ n1) (hz0 : n0 < 2 ^ 30) (hz1 : n1 < 2 ^ 30) (hfit : ∀ i, i < m → fits (kAT kd) (.int (f (sp + i))) = true)
    (hd : decode cc pc = .ok (.invokestatic index, 3)) (p' : Nat) (hp : pc + 3 = p') (hlev : 1 ≤ lev) (hst : (st.map fun v => v.category).sum ≤ 8) {i1 i2 i3 : Int32} (e1 : i1 = nI m) (e2 : i2 = nI dp) (e3 : i3 = nI sp)
    (kk : kW x k n (kUp h dst t' (.inr (.inl (kd, n1, .inl (va_cpy f g sp dp m))))) p' lv st) : kW x k n h pc lv (.int i1 :: .int i2 :: .ref dst :: .int i3 :: .ref src :: st) := by
  subst hp e1 e2 e3
  intro H locs ls hs hS hl T hT X
  obtain ⟨hR, -⟩ := F.R
  have hk10 : kd < 10 := by omega
  obtain ⟨cs, c1, c2, c3, c4, c5, c6⟩ := F.isA hk10 hs hsrc
  have hcd : H[dst]? = some (vp_cell (x.g.A kd) (n1, .inl g)) := kArrAt hs hdst
  obtain ⟨-, k1, hk1, cm1, hkk1⟩ := (F.arr kd hk10).1 n1 (fun j => .int (g j))
  obtain ⟨hnst, k0, hk0, cm0, hkk0⟩ := c2
  have hprim : refKind (kAT kd) = false := by
    rcases hkd with q | q
    · rcases (show kd = 0 ∨ kd = 1 by omega) with e | e <;> subst e <;> rfl
    · subst q; rfl
  have hB := hs.big hdst ht
  have hsp : (nI sp).toNatClampNeg = sp := nI_clamp (by omega)
  have hdp : (nI dp).toNatClampNeg = dp := nI_clamp (by omega)
  have hm : (nI m).toNatClampNeg = m := nI_clamp (by omega)
  obtain ⟨vm', X', step⟩ := X.arraycopy F.hx F.hown (F.w hq) (F.w hnat) (F.w hstat) (F.w hini) (src := src) (dst := dst) (cs := cs) (cd := vp_cell (x.g.A kd) (n1, .inl g)) (srcPos := nI sp) (destPos := nI dp) (n := nI m) (by rw [hT]; exact c1) (by rw [hT]; exact hcd)
    (fun q h => hnst q h) (fun _ h => by cases h) c3 (fun h => by cases h) hk0 hk1 hkk0 hkk1 (by simp [hprim]) (nI_pos (by omega)) (nI_pos (by omega)) (nI_pos (by omega))
    (by rw [nI_toInt (by omega), nI_toInt (by omega)]; dsimp only at c4; omega)
    (by rw [nI_toInt (by omega), nI_toInt (by omega)]; show ¬ _ > ((arrV (x.g.A kd) n1 (fun j => .int (g j))).slots.size : Int); rw [arrV_size]; omega)
    (fun vm₁ _ i hi => by
      rw [hm] at hi
      have e : cs.slots.getD ((nI sp).toNatClampNeg + i) .null = .int (f (sp + i)) := by
        rw [hsp, Array.getD_eq_getD_getElem?, c6 (sp + i) (by dsimp only; omega)]
        rfl
      refine ⟨?_, ?_⟩
      · rw [e]
        exact hfit i hi
      · rw [e]
        exact trivial)
    (g := F0 x.m pc ls (.int (nI m) :: .int (nI dp) :: .ref dst :: .int (nI sp) :: .ref src :: st)) rfl hl.1 (rest := st) rfl (by rw [F.hb]; exact hd) (by rw [hR]; exact hlev) (by rw [hR]; simp only [kRm]; show 2 * 0 + _ + _ ≤ _; have hw : nativeFrameWords "java/lang/System" "arraycopy" 5 ≤ 100 := (by decide); omega)
  have e1 : copied cs (vp_cell (x.g.A kd) (n1, .inl g)) (nI sp) (nI dp) (nI m) = vp_cell (x.g.A kd) (n1, .inl (va_cpy f g sp dp m)) := by
    show (vp_cell (x.g.A kd) (n1, .inl g)).storeRun (nI dp).toNatClampNeg (cs.stretch (nI sp).toNatClampNeg (nI m).toNatClampNeg) = _
    rw [hsp, hdp, hm]
    exact kCopied (fun z => .int z) (x.g.A kd) f g (fun j hj => c6 j hj) h4
  rw [e1] at X' step
  have hlt : dst < H.size := (Array.getElem?_eq_some_iff.mp hcd).1
  have hheap : ((T.setVm vm').setCell dst (vp_cell (x.g.A kd) (n1, .inl (va_cpy f g sp dp m)))).heap = H.setIfInBounds dst (vp_cell (x.g.A kd) (n1, .inl (va_cpy f g sp dp m))) := by rw [← hT]; rfl
  have hat : kAt x.g dst (.inr (.inl (kd, n1, .inl (va_cpy f g sp dp m)))) (H.setIfInBounds dst (vp_cell (x.g.A kd) (n1, .inl (va_cpy f g sp dp m)))) := by
    show (H.setIfInBounds dst _)[dst]? = some _
    simp [Array.getElem?_setIfInBounds, hlt]
  have hs1 := hs.put hdst ht hat (by simp) (fun q hq => by simp [Array.getElem?_setIfInBounds, Ne.symm hq])
  have hS1 : kS x (H.setIfInBounds dst (vp_cell (x.g.A kd) (n1, .inl (va_cpy f g sp dp m)))) (locs ++ (cs.stretch (nI sp).toNatClampNeg (nI m).toNatClampNeg).zipIdx.map fun q => ⟨dst, (nI dp).toNatClampNeg + q.2⟩) := ⟨by simp; exact hS.1, fun q hq => by
    rcases List.mem_append.mp hq with z | z
    · exact hS.2 q z
    · obtain ⟨w, -, hw⟩ := List.mem_map.mp z
      rw [← hw]
      exact hB⟩
  obtain ⟨t9, a9, b9⟩ := kk _ _ ls hs1 hS1 hl _ hheap X'
  exact ⟨t9, step t9 a9, b9⟩
end
section
variable {x : kX} {y : MethodName} {cc : ByteArray} {nL lev mc ms : Nat} {ret : Option FieldType} {hh : List (Nat × Nat × Nat × Nat)} {Po : kR → kH → Prop} {k n : Nat} {h : kH} {pc : Nat} {lv lv' : List (Nat × Value)} {st : List Value}
/-- copies of longs -/
theorem k_copyL (F : kF x y cc nL ret hh lev mc ms Po) {index : Nat} (hq : Cond.methodLink y.cls index arraycopyName ∈ lw_all) (hnat : Cond.native arraycopyName ∈ lw_all) (hstat : Cond.static arraycopyName ∈ lw_all) (hini : Cond.initialized "java/lang/System" ∈ lw_all)
    {src dst n0 n1 sp dp m : Nat} {t t' : kT} {f g : Nat → Int64} (hsrc : kHs x.g h src t (eL n0 f)) (hdst : h dst = some (t', eL n1 g)) (ht : t'.1 ≠ 0) (h4 : sp + m ≤ n0) (h5 : dp + m ≤ n1) (hz0 : n0 < 2 ^ 30) (hz1 : n1 < 2 ^ 30)
    (hd : decode cc pc = .ok (.invokestatic index, 3)) (p' : Nat) (hp : pc + 3 = p') (hlev : 1 ≤ lev) (hst : (st.map fun v => v.category).sum ≤ 8) {i1 i2 i3 : Int32} (e1 : i1 = nI m) (e2 : i2 = nI dp) (e3 : i3 = nI sp)
    (kk : kW x k n (kUp h dst t' (eL n1 (va_cpy f g sp dp m))) p' lv st) : kW x k n h pc lv (.int i1 :: .int i2 :: .ref dst :: .int i3 :: .ref src :: st) := by
  subst hp e1 e2 e3
  intro H locs ls hs hS hl T hT X
  obtain ⟨hR, -⟩ := F.R
  have hk10 : 2 < 10 := by omega
  obtain ⟨cs, c1, c2, c3, c4, c5, c6⟩ := F.isA hk10 hs hsrc
  have hcd : H[dst]? = some (vp_cell (x.g.A 2) (n1, .inr (.inl g))) := kArrAt hs hdst
  obtain ⟨-, k1, hk1, cm1, hkk1⟩ := (F.arr 2 hk10).1 n1 (fun j => .long (g j))
  obtain ⟨hnst, k0, hk0, cm0, hkk0⟩ := c2
  have hB := hs.big hdst ht
  have hsp : (nI sp).toNatClampNeg = sp := nI_clamp (by omega)
  have hdp : (nI dp).toNatClampNeg = dp := nI_clamp (by omega)
  have hm : (nI m).toNatClampNeg = m := nI_clamp (by omega)
  obtain ⟨vm', X', step⟩ := X.arraycopy F.hx F.hown (F.w hq) (F.w hnat) (F.w hstat) (F.w hini) (src := src) (dst := dst) (cs := cs) (cd := vp_cell (x.g.A 2) (n1, .inr (.inl g))) (srcPos := nI sp) (destPos := nI dp) (n := nI m) (by rw [hT]; exact c1) (by rw [hT]; exact hcd)
    (fun q h => hnst q h) (fun _ h => by cases h) c3 (fun h => by cases h) hk0 hk1 hkk0 hkk1 (by rfl) (nI_pos (by omega)) (nI_pos (by omega)) (nI_pos (by omega))
    (by rw [nI_toInt (by omega), nI_toInt (by omega)]; dsimp only at c4; omega)
    (by rw [nI_toInt (by omega), nI_toInt (by omega)]; show ¬ _ > ((arrV (x.g.A 2) n1 (fun j => .long (g j))).slots.size : Int); rw [arrV_size]; omega)
    (fun vm₁ _ i hi => by
      rw [hm] at hi
      have e : cs.slots.getD ((nI sp).toNatClampNeg + i) .null = .long (f (sp + i)) := by
        rw [hsp, Array.getD_eq_getD_getElem?, c6 (sp + i) (by dsimp only; omega)]
        rfl
      refine ⟨?_, ?_⟩
      · rw [e]
        rfl
      · rw [e]
        exact trivial)
    (g := F0 x.m pc ls (.int (nI m) :: .int (nI dp) :: .ref dst :: .int (nI sp) :: .ref src :: st)) rfl hl.1 (rest := st) rfl (by rw [F.hb]; exact hd) (by rw [hR]; exact hlev) (by rw [hR]; simp only [kRm]; show 2 * 0 + _ + _ ≤ _; have hw : nativeFrameWords "java/lang/System" "arraycopy" 5 ≤ 100 := (by decide); omega)
  have e1 : copied cs (vp_cell (x.g.A 2) (n1, .inr (.inl g))) (nI sp) (nI dp) (nI m) = vp_cell (x.g.A 2) (n1, .inr (.inl (va_cpy f g sp dp m))) := by
    show (vp_cell (x.g.A 2) (n1, .inr (.inl g))).storeRun (nI dp).toNatClampNeg (cs.stretch (nI sp).toNatClampNeg (nI m).toNatClampNeg) = _
    rw [hsp, hdp, hm]
    exact kCopied (fun z => .long z) (x.g.A 2) f g (fun j hj => c6 j hj) h4
  rw [e1] at X' step
  have hlt : dst < H.size := (Array.getElem?_eq_some_iff.mp hcd).1
  have hheap : ((T.setVm vm').setCell dst (vp_cell (x.g.A 2) (n1, .inr (.inl (va_cpy f g sp dp m))))).heap = H.setIfInBounds dst (vp_cell (x.g.A 2) (n1, .inr (.inl (va_cpy f g sp dp m)))) := by rw [← hT]; rfl
  have hat : kAt x.g dst (eL n1 (va_cpy f g sp dp m)) (H.setIfInBounds dst (vp_cell (x.g.A 2) (n1, .inr (.inl (va_cpy f g sp dp m))))) := by
    show (H.setIfInBounds dst _)[dst]? = some _
    simp [Array.getElem?_setIfInBounds, hlt]
  have hs1 := hs.put hdst ht hat (by simp) (fun q hq => by simp [Array.getElem?_setIfInBounds, Ne.symm hq])
  have hS1 : kS x (H.setIfInBounds dst (vp_cell (x.g.A 2) (n1, .inr (.inl (va_cpy f g sp dp m))))) (locs ++ (cs.stretch (nI sp).toNatClampNeg (nI m).toNatClampNeg).zipIdx.map fun q => ⟨dst, (nI dp).toNatClampNeg + q.2⟩) := ⟨by simp; exact hS.1, fun q hq => by
    rcases List.mem_append.mp hq with z | z
    · exact hS.2 q z
    · obtain ⟨w, -, hw⟩ := List.mem_map.mp z
      rw [← hw]
      exact hB⟩
  obtain ⟨t9, a9, b9⟩ := kk _ _ ls hs1 hS1 hl _ hheap X'
  exact ⟨t9, step t9 a9, b9⟩
end
section
variable {x : kX} {y : MethodName} {cc : ByteArray} {nL lev mc ms : Nat} {ret : Option FieldType} {hh : List (Nat × Nat × Nat × Nat)} {Po : kR → kH → Prop} {k n : Nat} {h : kH} {pc : Nat} {lv lv' : List (Nat × Value)} {st : List Value}
/-- an object that may stand where an E is asked -/
def kAny (x : kX) (h : kH) (E : String) (b : Nat) : Prop := ∀ H : Heap, kSim x.g h H → va_Any E x.s H b
theorem kAny.of (F : kF x y cc nL ret hh lev mc ms Po) {ci : Nat} {C E : String} {T : u_T} {N : Nat} {ty : Nat → FieldType} (hc : kCl ci C T N ty) {b : Nat} {t : kT} {fs : List Value} (hq : Cond.castable C E ∈ lw_tbl) (hb : kHs x.g h b t (.inl (ci, fs))) : kAny x h E b := by
  intro H hs
  obtain ⟨r, h1, cell, q1, q2, q3, -, q4⟩ := hs.atO hb
  obtain ⟨-, hfc, kC, hkC, hkind⟩ := F.K.1 ci _ (F.cl hc)
  refine ⟨cell, q1, q3, ⟨kC, by rw [q2]; exact hkC⟩, fun comp e2 => ?_⟩
  obtain ⟨c0, t0, f1, f2, f3⟩ := Cond.castable_spec (va_Nw.use (A := x.args) rfl (va_Nw.warmC F.hW (va_Nw.of rfl (F.st.2.1 _ hq))))
  cases e2.symm.trans f2
  rw [q2]
  cases hfc.symm.trans f1
  exact f3
theorem kAny.aast {kd b : Nat} {E : String} (ha : kAny x h E b) (hE : kAT kd = .object E) : ∀ H : Heap, kSim x.g h H → ∃ cv : Cell, H[b]? = some cv ∧ cv.vm.isStatics = false ∧ (∃ kv, x.s.vm.classes[cv.cls]? = some kv) ∧ ∀ (C : String) (comp : ClassId), kAT kd = .object C → x.s.vm.findClass C = some comp → x.s.vm.assignable cv.cls comp = true := by
  intro H hs
  obtain ⟨cv, a1, a2, a3, a4⟩ := ha H hs
  exact ⟨cv, a1, a2, a3, fun C comp e1 e2 => a4 comp (by rw [hE] at e1; cases e1; exact e2)⟩
/-- copies of references into a new array of Objects -/
theorem k_copyQ (F : kF x y cc nL ret hh lev mc ms Po) {index : Nat} (hq : Cond.methodLink y.cls index arraycopyName ∈ lw_all) (hnat : Cond.native arraycopyName ∈ lw_all) (hstat : Cond.static arraycopyName ∈ lw_all) (hini : Cond.initialized "java/lang/System" ∈ lw_all)
    {src dst n0 n1 sp dp m : Nat} {t t' : kT} {f g : Nat → Option Nat} (hsrc : kHs x.g h src t (eQ 4 n0 f)) (hdst : h dst = some (t', eQ 4 n1 g)) (ht : t'.1 ≠ 0) (h4 : sp + m ≤ n0) (h5 : dp + m ≤ n1) (hz0 : n0 < 2 ^ 30) (hz1 : n1 < 2 ^ 30) (hel : ∀ i, i < m → ∀ b, f (sp + i) = some b → kAny x h "java/lang/Object" b)
    (hd : decode cc pc = .ok (.invokestatic index, 3)) (p' : Nat) (hp : pc + 3 = p') (hlev : 1 ≤ lev) (hst : (st.map fun v => v.category).sum ≤ 8) {i1 i2 i3 : Int32} (e1 : i1 = nI m) (e2 : i2 = nI dp) (e3 : i3 = nI sp)
    (kk : kW x k n (kUp h dst t' (eQ 4 n1 (va_cpy f g sp dp m))) p' lv st) : kW x k n h pc lv (.int i1 :: .int i2 :: .ref dst :: .int i3 :: .ref src :: st) := by
  subst hp e1 e2 e3
  intro H locs ls hs hS hl T hT X
  obtain ⟨hR, -⟩ := F.R
  have hk10 : 4 < 10 := by omega
  obtain ⟨cs, c1, c2, c3, c4, c5, c6⟩ := F.isA hk10 hs hsrc
  have hcd : H[dst]? = some (vp_cell (x.g.A 4) (n1, .inr (.inr (.inr (.inr g))))) := kArrAt hs hdst
  have hra : va_RA x.s (x.g.A 4) (.object "java/lang/Object") := (F.arr 4 hk10).2
  obtain ⟨-, k1, hk1, cm1, hkk1⟩ := (F.arr 4 hk10).1 n1 (fun j => va_rf (g j))
  obtain ⟨hnst, k0, hk0, cm0, hkk0⟩ := c2
  have hB := hs.big hdst ht
  have hsp : (nI sp).toNatClampNeg = sp := nI_clamp (by omega)
  have hdp : (nI dp).toNatClampNeg = dp := nI_clamp (by omega)
  have hm : (nI m).toNatClampNeg = m := nI_clamp (by omega)
  obtain ⟨vm', X', step⟩ := X.arraycopy F.hx F.hown (F.w hq) (F.w hnat) (F.w hstat) (F.w hini) (src := src) (dst := dst) (cs := cs) (cd := vp_cell (x.g.A 4) (n1, .inr (.inr (.inr (.inr g))))) (srcPos := nI sp) (destPos := nI dp) (n := nI m) (by rw [hT]; exact c1) (by rw [hT]; exact hcd)
    (fun q h => hnst q h) (fun _ h => by cases h) c3 (fun h => by cases h) hk0 hk1 hkk0 hkk1 rfl (nI_pos (by omega)) (nI_pos (by omega)) (nI_pos (by omega))
    (by rw [nI_toInt (by omega), nI_toInt (by omega)]; dsimp only at c4; omega)
    (by rw [nI_toInt (by omega), nI_toInt (by omega)]; show ¬ _ > ((arrV (x.g.A 4) n1 (fun j => va_rf (g j))).slots.size : Int); rw [arrV_size]; omega)
    (fun vm₁ hal i hi => by
      rw [hm] at hi
      have e : cs.slots.getD ((nI sp).toNatClampNeg + i) .null = va_rf (f (sp + i)) := by
        rw [hsp, Array.getD_eq_getD_getElem?, c6 (sp + i) (by dsimp only; omega)]
        rfl
      rw [e]
      cases hy : f (sp + i) with
      | none => exact ⟨rfl, trivial⟩
      | some b =>
        obtain ⟨cellV, g1, g2, ⟨kC, hkC⟩, hasg⟩ := hel i hi b hy H hs
        obtain ⟨kA, comp, r1, r2, r3, -⟩ := hra
        cases hk1.symm.trans r1
        cases hkk1.symm.trans r2
        obtain ⟨kE, hkE, -⟩ := Vm.findClass_spec r3
        obtain ⟨kC', hkC', -⟩ := hal.2.2 _ _ hkC
        obtain ⟨kE', hkE', -⟩ := hal.2.2 _ _ hkE
        refine ⟨rfl, cellV, (show T.heap[b]? = some cellV by rw [hT]; exact g1), (fun q h => by rw [h] at g2; cases g2), ⟨kC', hkC'⟩, ?_, ?_⟩
        · exact ⟨kE', hkE'⟩
        · show vm₁.assignable _ _ = true
          rw [hal.assignable]
          exact hasg _ r3)
    (g := F0 x.m pc ls (.int (nI m) :: .int (nI dp) :: .ref dst :: .int (nI sp) :: .ref src :: st)) rfl hl.1 (rest := st) rfl (by rw [F.hb]; exact hd) (by rw [hR]; exact hlev) (by rw [hR]; simp only [kRm]; show 2 * 0 + _ + _ ≤ _; have hw : nativeFrameWords "java/lang/System" "arraycopy" 5 ≤ 100 := (by decide); omega)
  have e1 : copied cs (vp_cell (x.g.A 4) (n1, .inr (.inr (.inr (.inr g))))) (nI sp) (nI dp) (nI m) = vp_cell (x.g.A 4) (n1, .inr (.inr (.inr (.inr (va_cpy f g sp dp m))))) := by
    show (vp_cell (x.g.A 4) (n1, .inr (.inr (.inr (.inr g))))).storeRun (nI dp).toNatClampNeg (cs.stretch (nI sp).toNatClampNeg (nI m).toNatClampNeg) = _
    rw [hsp, hdp, hm, vp_cell_q, vp_cell_q]
    exact kCopied (fun z => va_rf z) (x.g.A 4) f g (fun j hj => c6 j hj) h4
  rw [e1] at X' step
  have hlt : dst < H.size := (Array.getElem?_eq_some_iff.mp hcd).1
  have hheap : ((T.setVm vm').setCell dst (vp_cell (x.g.A 4) (n1, .inr (.inr (.inr (.inr (va_cpy f g sp dp m))))))).heap = H.setIfInBounds dst (vp_cell (x.g.A 4) (n1, .inr (.inr (.inr (.inr (va_cpy f g sp dp m)))))) := by rw [← hT]; rfl
  have hat : kAt x.g dst (eQ 4 n1 (va_cpy f g sp dp m)) (H.setIfInBounds dst (vp_cell (x.g.A 4) (n1, .inr (.inr (.inr (.inr (va_cpy f g sp dp m))))))) := by
    show (H.setIfInBounds dst _)[dst]? = some _
    simp [Array.getElem?_setIfInBounds, hlt]
  have hs1 := hs.put hdst ht hat (by simp) (fun q hq => by simp [Array.getElem?_setIfInBounds, Ne.symm hq])
  have hS1 : kS x (H.setIfInBounds dst (vp_cell (x.g.A 4) (n1, .inr (.inr (.inr (.inr (va_cpy f g sp dp m))))))) (locs ++ (cs.stretch (nI sp).toNatClampNeg (nI m).toNatClampNeg).zipIdx.map fun q => ⟨dst, (nI dp).toNatClampNeg + q.2⟩) := ⟨by simp; exact hS.1, fun q hq => by
    rcases List.mem_append.mp hq with z | z
    · exact hS.2 q z
    · obtain ⟨w, -, hw⟩ := List.mem_map.mp z
      rw [← hw]
      exact hB⟩
  obtain ⟨t9, a9, b9⟩ := kk _ _ ls hs1 hS1 hl _ hheap X'
  exact ⟨t9, step t9 a9, b9⟩
/-- getClass() of an array of Objects -/
theorem k_getC (F : kF x y cc nL ret hh lev mc ms Po) {index mi : Nat} (hq : Cond.methodLink y.cls index ⟨"java/lang/Object", "getClass", "()Ljava/lang/Class;"⟩ ∈ lw_all) (hde : Cond.declares ⟨"java/lang/Object", "getClass", "()Ljava/lang/Class;"⟩ ∈ lw_tbl) (hsel : Cond.selects "[Ljava/lang/Object;" ⟨"java/lang/Object", "getClass", "()Ljava/lang/Class;"⟩ ⟨"java/lang/Object", "getClass", "()Ljava/lang/Class;"⟩ ∈ lw_all) (hinst : Cond.instanceMethod ⟨"java/lang/Object", "getClass", "()Ljava/lang/Class;"⟩ ∈ lw_all) (hnat : Cond.native ⟨"java/lang/Object", "getClass", "()Ljava/lang/Class;"⟩ ∈ lw_all) (hM : va_Mi "[Ljava/lang/Object;" mi x.g.U)
    (hd : decode cc pc = .ok (.invokevirtual index, 3)) (p' : Nat) (hp : pc + 3 = p') {a m : Nat} {t : kT} {f : Nat → Option Nat} (ha : h a = some (t, eQ 4 m f)) (hlev : 1 ≤ lev) (hst : (st.map fun v => v.category).sum ≤ 8) (kk : kW x k n h p' lv (.ref mi :: st)) : kW x k n h pc lv (.ref a :: st) := by
  subst hp
  intro H locs ls hs hS hl
  obtain ⟨hR, -⟩ := F.R
  have hcd : H[a]? = some (vp_cell (x.g.A 4) (m, .inr (.inr (.inr (.inr f))))) := kArrAt hs ha
  have hra : va_RA x.s (x.g.A 4) (.object "java/lang/Object") := (F.arr 4 (by omega)).2
  exact va_getC F.hx F.hb hl.1.symm F.hown (F.w hq) (va_Dc.use (va_Dc.moved F.hW.alike (va_Dc.of (F.st.2.1 _ hde)))) (F.w hsel) (F.w hinst) (F.w hnat) (va_Mi.moved F.hW.alike hM) ⟨_, hcd, rfl, va_nmO hra rfl⟩ (by rw [hR]; exact hlev) (by rw [hR]; simp only [kRm]; omega) hd (kk H locs ls hs hS hl)
/-- a class constant -/
theorem k_ldcM (F : kF x y cc nL ret hh lev mc ms Po) {C : String} {index mi : Nat} (hq : Cond.classLink y.cls index C ∈ lw_all) (hM : va_Mi C mi x.g.U) (hd : decode cc pc = .ok (.ldc index, 2)) (p' : Nat) (hp : pc + 2 = p') (kk : kW x k n h p' lv (.ref mi :: st)) : kW x k n h pc lv st := by
  subst hp
  intro H locs ls hs hS hl
  exact va_ldcM F.hx F.hb F.hown (F.w hq) (va_Mi.moved F.hW.alike hM) hd (kk H locs ls hs hS hl)
end
