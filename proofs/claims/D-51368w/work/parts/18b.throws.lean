/-! throws of JDK exceptions without a text -/
theorem si_J4_UNASSIGNED_STACK {l : Launch} {g : kG} (S : kStart l g) : (Cond.isRef (.static Bundle.tN "UNASSIGNED_STACK" Bundle.steD)).before #[Value.ref g.b] g.U = true := (kAnd (kAnd (kAnd (kAnd (kAnd (kAnd (kAnd (kAnd (kAnd (kAnd (kAnd (kAnd (kAnd (kAnd S.nar).1).1).1).1).1).1).1).1).1).1).1).2).1).1
theorem si_J4_SUPPRESSED_SENTINEL {l : Launch} {g : kG} (S : kStart l g) : (Cond.isRef (.static Bundle.tN "SUPPRESSED_SENTINEL" Bundle.listD)).before #[Value.ref g.b] g.U = true := (kAnd (kAnd (kAnd (kAnd (kAnd (kAnd (kAnd (kAnd (kAnd (kAnd (kAnd (kAnd (kAnd (kAnd (kAnd S.nar).1).1).1).1).1).1).1).1).1).1).1).2).1).2).1
theorem kNoTrace {l : Launch} {g : kG} (S : kStart l g) : l.stackTraces = false := by
  unfold Launch.stackTraces
  rw [S.1]
  decide
def kOkW (w : Cond) : Bool := goodWord w || match w with
  | .declares _ => true
  | .castable _ _ => true
  | _ => false
/-- a word of the tables, at the method's entry -/
theorem kWordAt {x : kX} {y : MethodName} {cc : ByteArray} {nL lev mc ms : Nat} {ret : Option FieldType} {hh : List (Nat × Nat × Nat × Nat)} {Po : kR → kH → Prop} (F : kF x y cc nL ret hh lev mc ms Po) {w : Cond} (hw : w ∈ lw_tbl) (hk : kOkW w = true) : w.before x.args x.s = true := by
  unfold kOkW at hk
  rw [Bool.or_eq_true] at hk
  rcases hk with g | g
  · exact word_at F.hW (good_of_word g) (F.st.2.1 w hw)
  · split at g
    · exact va_Nw.use (A := x.args) rfl (va_Nw.warmD F.hW (va_Nw.of rfl (F.st.2.1 _ hw)))
    · exact va_Nw.use (A := x.args) rfl (va_Nw.warmC F.hW (va_Nw.of rfl (F.st.2.1 _ hw)))
    · cases g
theorem kZq {x : kX} {y : MethodName} {cc : ByteArray} {nL lev mc ms : Nat} {ret : Option FieldType} {hh : List (Nat × Nat × Nat × Nat)} {Po : kR → kH → Prop} (F : kF x y cc nL ret hh lev mc ms Po) {C n d : String} (hl : Cond.laysStatic C n d ∈ lw_tbl) (hi : Cond.initialized C ∈ lw_all) (h : (Cond.isRef (.static C n d)).before #[Value.ref x.g.b] x.g.U = true) : vx_Zq C n d (fun a => x.g.U.heap.size ≤ a) x.s x.s.heap := by
  have h0 : vx_Zq C n d (fun a => x.g.U.heap.size ≤ a) x.g.U x.g.U.heap := vx_Zqof (F.st.2.1 _ hl) (F.st.2.1 _ (List.mem_filter.mp hi).1) h (fun a ha => by omega)
  exact vx_Zq.kept (vx_Zq.moved F.hW.alike h0) (fun a ha _ => F.old.2 a ha)
/-- new X(), thrown and not caught here -/
theorem k_throw0 {x : kX} {y : MethodName} {cc : ByteArray} {nL lev mc ms : Nat} {ret : Option FieldType} {hh : List (Nat × Nat × Nat × Nat)} {Po : kR → kH → Prop} {k n : Nat} {h : kH} {pc : Nat} {lv : List (Nat × Value)} {st : List Value} (F : kF x y cc nL ret hh lev mc ms Po) {cls : String} {names : List String} {ik ic : Nat} (hcls : (Bundle.fit cls && names.all Bundle.fit) = true)
    (hw : (Cond.classLink y.cls ik cls :: Cond.initialized cls :: vx_at0 y.cls ic cls names).all (fun w => decide (w ∈ lw_tbl) && (kOkW w && vx_ot w)) = true)
    (d0 : decode cc pc = .ok (.new ik, 3)) (d3 : decode cc (pc + 3) = .ok (.dup, 1)) (d4 : decode cc (pc + 4) = .ok (.invokespecial ic, 3)) (d7 : decode cc (pc + 7) = .ok (.athrow, 1))
    (hout : ∀ z ∈ hh, ¬ (z.1 ≤ pc + 7 ∧ pc + 7 < z.2.1)) (hlev : names.length + 3 < lev) (hnm : names.length ≤ 20) (hst : (st.map fun v => v.category).sum ≤ 8) (hk : k + 1 ≤ mc) (hn : n + 6 ≤ ms) (hPo : ∀ q, Po (.inr (q, cls)) h) : kW x k n h pc lv st := by
  intro H locs ls hs hS hl T hT X
  obtain ⟨hR, e1, e2, e3⟩ := F.R
  have hall : ∀ w ∈ (Cond.classLink y.cls ik cls :: Cond.initialized cls :: vx_at0 y.cls ic cls names), w.before x.args x.s = true ∧ vx_ot w = true := by
    intro w hw9
    have h1 := List.all_eq_true.mp hw w hw9
    rw [Bool.and_eq_true, Bool.and_eq_true, decide_eq_true_eq] at h1
    exact ⟨kWordAt F h1.1 h1.2.1, h1.2.2⟩
  rw [Bool.and_eq_true] at hcls
  have hco : ∀ z ∈ x.c.exceptionTable.toList, covers z (pc + 7) = false := by
    intro z hz
    have h1 := hout (z.startPc, z.endPc, z.handlerPc, z.catchType) (by rw [← F.tb]; exact List.mem_map.mpr ⟨z, hz, rfl⟩)
    cases hc : covers z (pc + 7) with
    | false => rfl
    | true =>
      exfalso
      apply h1
      simpa [covers] using hc
  have hva : va_S (fun a => x.g.U.heap.size ≤ a) x.s.heap H locs := ⟨hS.1, fun q hq hA => by
    have hq' : q < x.g.U.heap.size := by omega
    rw [hs.1.2 q hq', F.old.2 q hq'], hS.2⟩
  have hw9 := vx_throw0 (p := x.p) (l := x.l) (e := x.e) (R := x.R) (s := x.s) (m := x.m) (args := x.args) (below := x.below) (meth := x.meth) (c := x.c) (H := H) (locs := locs) (cells := k) (slots := n) (ls := ls) (rest := st) (Qc := fun _ _ _ _ => False) (XC := fun E _ t => E = cls ∧ kSim x.g h t.heap) (free := fun a => x.g.U.heap.size ≤ a) (mc := x.mc) (ms := x.ms) F.hx F.hb (kNoTrace F.st) F.hown hcls.1 (fun n hn => List.all_eq_true.mp hcls.2 n hn)
    (hall _ List.mem_cons_self).1 (hall _ (List.mem_cons_of_mem _ List.mem_cons_self)).1 (fun w hw => (hall w (List.mem_cons_of_mem _ (List.mem_cons_of_mem _ hw))).1) (fun w hw => (hall w hw).2)
    (kZq F q289 q155 (si_J4_UNASSIGNED_STACK F.st)) (kZq F q291 q155 (si_J4_SUPPRESSED_SENTINEL F.st)) hva hl.1 d0 d3 d4 d7 hco (by rw [hR]; exact hlev) (by rw [hR]; simp only [kRm]; omega) (by rw [hR]; exact hk) (by rw [hR]; exact hn) F.hlk
    (fun t _ hz hq => ⟨rfl, ⟨Nat.le_trans hs.1.1 hz, fun q hq9 => by rw [hq q (Nat.lt_of_lt_of_le hq9 hs.1.1)]; exact hs.1.2 q hq9⟩, fun a t9 e9 h9 => ⟨(hs.2 a t9 e9 h9).1.kept (hq a (hs.2 a t9 e9 h9).1.lt), (hs.2 a t9 e9 h9).2⟩⟩)
    hS.2 (by rw [e1]; exact hk) (by rw [e2]; exact hn)
  obtain ⟨t, a1, o, b1, b2, b3⟩ := hw9 T hT X
  rcases b3 with ⟨b4, -⟩ | ⟨q, rfl, E, ce, L, ⟨rfl, hk9⟩, hce, hv, hcl, hW, hsm, hL⟩
  · exact absurd b4 id
  · exact ⟨t, a1, .threw q, b1, b2, h, L, hk9, hW, hsm, hL, Or.inr ⟨q, E, ce, rfl, by rw [e3]; exact hPo q, hce, hv, hcl⟩⟩
