/-! LAYER 2 (printed by gen_rows.py): instructions that touch no heap -/
def kLk (i : Nat) : List (Nat × Value) → Option Value
  | [] => none
  | q :: r => bif Nat.beq q.1 i then some q.2 else kLk i r
def kSt (i : Nat) (v : Value) : List (Nat × Value) → List (Nat × Value)
  | [] => [(i, v)]
  | q :: r => bif Nat.beq q.1 i then (i, v) :: r else bif Nat.ble i q.1 then (i, v) :: q :: r else q :: kSt i v r
def kC2 (v : Value) : Bool := match v with
  | .long _ => true
  | .double _ => true
  | _ => false
def kOk1 (i : Nat) : List (Nat × Value) → Bool
  | [] => true
  | q :: r => (bif Nat.beq (q.1 + 1) i then !(kC2 q.2) else true) && kOk1 i r
def kOk2 (i : Nat) : List (Nat × Value) → Bool
  | [] => true
  | q :: r => (bif Nat.beq (q.1 + 1) i then !(kC2 q.2) else true) && (!(Nat.beq q.1 (i + 1)) && kOk2 i r)
theorem kC2_eq (v : Value) : kC2 v = (v.category == 2) := by cases v <;> rfl
theorem kLk_mem {i : Nat} {v : Value} : ∀ {lv : List (Nat × Value)}, kLk i lv = some v → (i, v) ∈ lv
  | [], h => by cases h
  | q :: r, h => by
    unfold kLk at h
    by_cases c : Nat.beq q.1 i = true
    · rw [c] at h
      cases h
      have := Nat.eq_of_beq_eq_true c
      subst this
      exact List.mem_cons_self
    · rw [Bool.not_eq_true] at c
      rw [c] at h
      exact List.mem_cons_of_mem _ (kLk_mem h)
theorem kLk_at {ls : Array Slot} {nL i : Nat} {v : Value} {lv : List (Nat × Value)} (h : lv_has ls nL lv) (hl : kLk i lv = some v) : ls[i]? = some (.val v) := h.2.2 (i, v) (kLk_mem hl)
theorem kSt_mem {i : Nat} {v : Value} {q : Nat × Value} : ∀ {lv : List (Nat × Value)}, q ∈ kSt i v lv → q = (i, v) ∨ (q ∈ lv)
  | [], h => by
    have : q = (i, v) := by simpa [kSt] using h
    exact Or.inl this
  | p :: r, h => by
    unfold kSt at h
    by_cases c : Nat.beq p.1 i = true
    · rw [c] at h
      rcases List.mem_cons.mp h with e | e
      · exact Or.inl e
      · exact Or.inr (List.mem_cons_of_mem _ e)
    · rw [Bool.not_eq_true] at c
      rw [c] at h
      by_cases d : Nat.ble i p.1 = true
      · rw [d] at h
        rcases List.mem_cons.mp h with e | e
        · exact Or.inl e
        · exact Or.inr e
      · rw [Bool.not_eq_true] at d
        rw [d] at h
        rcases List.mem_cons.mp h with e | e
        · exact Or.inr (List.mem_cons.mpr (Or.inl e))
        · rcases kSt_mem e with k | k
          · exact Or.inl k
          · exact Or.inr (List.mem_cons_of_mem _ k)
/-- the list is sorted, strictly -/
def kSo : List (Nat × Value) → Bool
  | [] => true
  | q :: r => r.all (fun p => Nat.blt q.1 p.1) && kSo r
theorem kSt_ne {i : Nat} {v : Value} {q : Nat × Value} : ∀ {lv : List (Nat × Value)}, kSo lv = true → q ∈ kSt i v lv → q = (i, v) ∨ (q ∈ lv ∧ q.1 ≠ i)
  | [], _, h => by
    have : q = (i, v) := by simpa [kSt] using h
    exact Or.inl this
  | p :: r, hs, h => by
    unfold kSo at hs
    rw [Bool.and_eq_true, List.all_eq_true] at hs
    obtain ⟨h1, h2⟩ := hs
    unfold kSt at h
    by_cases c : Nat.beq p.1 i = true
    · rw [c] at h
      have hp := Nat.eq_of_beq_eq_true c
      rcases List.mem_cons.mp h with e | e
      · exact Or.inl e
      · refine Or.inr ⟨List.mem_cons_of_mem _ e, ?_⟩
        have k := h1 q e
        have : p.1 < q.1 := by simpa [Nat.blt_eq] using k
        omega
    · rw [Bool.not_eq_true] at c
      have hp : p.1 ≠ i := fun z => by rw [z, Nat.beq_refl] at c; cases c
      rw [c] at h
      by_cases d : Nat.ble i p.1 = true
      · rw [d] at h
        have hip := Nat.le_of_ble_eq_true d
        rcases List.mem_cons.mp h with e | e
        · exact Or.inl e
        · refine Or.inr ⟨e, ?_⟩
          rcases List.mem_cons.mp e with z | z
          · rw [z]; exact hp
          · have k := h1 q z
            have : p.1 < q.1 := by simpa [Nat.blt_eq] using k
            omega
      · rw [Bool.not_eq_true] at d
        rw [d] at h
        rcases List.mem_cons.mp h with e | e
        · exact Or.inr ⟨List.mem_cons.mpr (Or.inl e), by rw [e]; exact hp⟩
        · rcases kSt_ne h2 e with k | k
          · exact Or.inl k
          · exact Or.inr ⟨List.mem_cons_of_mem _ k.1, k.2⟩
theorem kOk1_of {i : Nat} {q : Nat × Value} : ∀ {lv : List (Nat × Value)}, kOk1 i lv = true → q ∈ lv → ¬ (q.1 + 1 = i ∧ q.2.category = 2)
  | p :: r, h, hq => by
    unfold kOk1 at h
    rw [Bool.and_eq_true] at h
    rcases List.mem_cons.mp hq with e | e
    · subst e
      rintro ⟨a, b⟩
      have h1 := h.1
      rw [a, Nat.beq_refl, kC2_eq, b] at h1
      cases h1
    · exact kOk1_of h.2 e
theorem kOk2_of {i : Nat} {q : Nat × Value} : ∀ {lv : List (Nat × Value)}, kOk2 i lv = true → q ∈ lv → ¬ (q.1 + 1 = i ∧ q.2.category = 2) ∧ q.1 ≠ i + 1
  | p :: r, h, hq => by
    unfold kOk2 at h
    rw [Bool.and_eq_true, Bool.and_eq_true] at h
    rcases List.mem_cons.mp hq with e | e
    · subst e
      refine ⟨?_, ?_⟩
      · rintro ⟨a, b⟩
        have h1 := h.1
        rw [a, Nat.beq_refl, kC2_eq, b] at h1
        cases h1
      · intro a
        have h1 := h.2.1
        rw [a, Nat.beq_refl] at h1
        cases h1
    · exact kOk2_of h.2.2 e
theorem kSt_1 {i : Nat} {v : Value} {lv lv' : List (Nat × Value)} (hs : kSt i v lv = lv') (hso : kSo lv = true) (ho : kOk1 i lv = true) : ∀ q ∈ lv', q ∈ (i, v) :: lv.filter (fun q => !(q.1 == i) && !(q.1 + 1 == i && q.2.category == 2)) := by
  intro q hq
  rw [← hs] at hq
  rcases kSt_ne hso hq with e | ⟨e1, e2⟩
  · rw [e]; exact List.mem_cons_self
  · refine List.mem_cons_of_mem _ (List.mem_filter.mpr ⟨e1, ?_⟩)
    have := kOk1_of ho e1
    simp only [Bool.and_eq_true, Bool.not_eq_true', beq_eq_false_iff_ne, ne_eq, e2, not_false_eq_true, true_and]
    simp only [Bool.and_eq_false_iff, beq_eq_false_iff_ne, ne_eq]
    by_cases c : q.1 + 1 = i
    · exact Or.inr (fun z => this ⟨c, z⟩)
    · exact Or.inl c
theorem kSt_2 {i : Nat} {v : Value} {lv lv' : List (Nat × Value)} (hs : kSt i v lv = lv') (hso : kSo lv = true) (ho : kOk2 i lv = true) : ∀ q ∈ lv', q ∈ (i, v) :: lv.filter (fun q => !(q.1 == i) && (!(q.1 == i + 1) && !(q.1 + 1 == i && q.2.category == 2))) := by
  intro q hq
  rw [← hs] at hq
  rcases kSt_ne hso hq with e | ⟨e1, e2⟩
  · rw [e]; exact List.mem_cons_self
  · refine List.mem_cons_of_mem _ (List.mem_filter.mpr ⟨e1, ?_⟩)
    obtain ⟨t1, t2⟩ := kOk2_of ho e1
    simp only [Bool.and_eq_true, Bool.not_eq_true', beq_eq_false_iff_ne, ne_eq, e2, t2, not_false_eq_true, true_and]
    simp only [Bool.and_eq_false_iff, beq_eq_false_iff_ne, ne_eq]
    by_cases c : q.1 + 1 = i
    · exact Or.inr (fun z => t1 ⟨c, z⟩)
    · exact Or.inl c
theorem lv_mono {ls : Array Slot} {nL : Nat} {l l' : List (Nat × Value)} (h : lv_has ls nL l) (hm : ∀ q ∈ l', q ∈ l) : lv_has ls nL l' := ⟨h.1, h.2.1, fun q hq => h.2.2 q (hm q hq)⟩
section
variable {x : kX} {y : MethodName} {cc : ByteArray} {nL lev mc ms : Nat} {ret : Option FieldType} {hh : List (Nat × Nat × Nat × Nat)} {Po : kR → kH → Prop} {k n : Nat} {h : kH} {pc : Nat} {lv lv' : List (Nat × Value)} {st : List Value}
theorem kW.eq {st' : List Value} (e : st = st') (kk : kW x k n h pc lv st') : kW x k n h pc lv st := e ▸ kk
theorem kW.locals (e : ∀ q ∈ lv', q ∈ lv) (kk : kW x k n h pc lv' st) : kW x k n h pc lv st := fun H locs ls hs hS hl => kk H locs ls hs hS (lv_mono hl e)
theorem kW.keep (ks : List Nat) (e : lv.filter (fun q => ks.contains q.1) = lv') (kk : kW x k n h pc lv' st) : kW x k n h pc lv st := by
  subst e
  exact kW.locals (fun q hq => (List.mem_filter.mp hq).1) kk
theorem kW.heap {h' : kH} (e : h = h') (kk : kW x k n h' pc lv st) : kW x k n h pc lv st := e ▸ kk
theorem kW.sub {h' : kH} (e : ∀ a t e, h' a = some (t, e) → ∃ t0, h a = some (t0, e) ∧ (t.1 = 0 ∨ t0.1 ≠ 0)) (kk : kW x k n h' pc lv st) : kW x k n h pc lv st := fun H locs ls hs hS hl => kk H locs ls (hs.sub e) hS hl
theorem kW.wide {k' n' : Nat} (h1 : k ≤ k') (h2 : n ≤ n') (kk : kW x k' n' h pc lv st) : kW x k n h pc lv st := fun H locs ls hs hS hl => W.widen h1 h2 (kk H locs ls hs hS hl)
theorem kW.pcq {pc' : Nat} (e : pc = pc') (kk : kW x k n h pc' lv st) : kW x k n h pc lv st := e ▸ kk

theorem k_iconst (F : kF x y cc nL ret hh lev mc ms Po) {i : Int} {v : Int32} (hd : decode cc pc = .ok (.iconst i, 1)) (p' : Nat) (hp : pc + 1 = p') (hv : Int32.ofInt i = v) (kk : kW x k n h p' lv (.int v :: st)) : kW x k n h pc lv (st) := by
  subst hp
  exact fun H locs ls hs hS hl => lv_iconst F.hx F.hb hd hv (kk H locs ls hs hS hl)
theorem k_bipush (F : kF x y cc nL ret hh lev mc ms Po) {i : Int} {v : Int32} (hd : decode cc pc = .ok (.bipush i, 2)) (p' : Nat) (hp : pc + 2 = p') (hv : (Int8.ofInt i).toInt32 = v) (kk : kW x k n h p' lv (.int v :: st)) : kW x k n h pc lv (st) := by
  subst hp
  exact fun H locs ls hs hS hl => lv_bipush F.hx F.hb hd hv (kk H locs ls hs hS hl)
theorem k_sipush (F : kF x y cc nL ret hh lev mc ms Po) {i : Int} {v : Int32} (hd : decode cc pc = .ok (.sipush i, 3)) (p' : Nat) (hp : pc + 3 = p') (hv : (Int16.ofInt i).toInt32 = v) (kk : kW x k n h p' lv (.int v :: st)) : kW x k n h pc lv (st) := by
  subst hp
  exact fun H locs ls hs hS hl => lv_sipush F.hx F.hb hd hv (kk H locs ls hs hS hl)
theorem k_lconst (F : kF x y cc nL ret hh lev mc ms Po) {i : Fin 2} {v : Int64} (hd : decode cc pc = .ok (.lconst i, 1)) (p' : Nat) (hp : pc + 1 = p') (hv : Int64.ofNat (i : Nat) = v) (kk : kW x k n h p' lv (.long v :: st)) : kW x k n h pc lv (st) := by
  subst hp
  exact fun H locs ls hs hS hl => lv_lconst F.hx F.hb hd hv (kk H locs ls hs hS hl)
theorem k_null (F : kF x y cc nL ret hh lev mc ms Po) (hd : decode cc pc = .ok (.aconst_null, 1)) (p' : Nat) (hp : pc + 1 = p') (kk : kW x k n h p' lv (.null :: st)) : kW x k n h pc lv (st) := by
  subst hp
  exact fun H locs ls hs hS hl => lv_null F.hx F.hb hd (kk H locs ls hs hS hl)
theorem k_iload_n (F : kF x y cc nL ret hh lev mc ms Po) {c : Fin 4} {i : Nat} {v : Int32} (hd : decode cc pc = .ok (.iload_n c, 1)) (p' : Nat) (hp : pc + 1 = p') (hi : (c : Nat) = i) (hv : kLk i lv = some (.int v)) (kk : kW x k n h p' lv (.int v :: st)) : kW x k n h pc lv (st) := by
  subst hp
  exact fun H locs ls hs hS hl => lv_iload_n F.hx F.hb hd hi (kLk_at hl hv) (kk H locs ls hs hS hl)
theorem k_iload (F : kF x y cc nL ret hh lev mc ms Po) {i : Nat} {v : Int32} (hd : decode cc pc = .ok (.iload i, 2)) (p' : Nat) (hp : pc + 2 = p') (hv : kLk i lv = some (.int v)) (kk : kW x k n h p' lv (.int v :: st)) : kW x k n h pc lv (st) := by
  subst hp
  exact fun H locs ls hs hS hl => lv_iload F.hx F.hb hd (kLk_at hl hv) (kk H locs ls hs hS hl)
theorem k_lload_n (F : kF x y cc nL ret hh lev mc ms Po) {c : Fin 4} {i : Nat} {v : Int64} (hd : decode cc pc = .ok (.lload_n c, 1)) (p' : Nat) (hp : pc + 1 = p') (hi : (c : Nat) = i) (hv : kLk i lv = some (.long v)) (kk : kW x k n h p' lv (.long v :: st)) : kW x k n h pc lv (st) := by
  subst hp
  exact fun H locs ls hs hS hl => lv_lload_n F.hx F.hb hd hi (kLk_at hl hv) (kk H locs ls hs hS hl)
theorem k_lload (F : kF x y cc nL ret hh lev mc ms Po) {i : Nat} {v : Int64} (hd : decode cc pc = .ok (.lload i, 2)) (p' : Nat) (hp : pc + 2 = p') (hv : kLk i lv = some (.long v)) (kk : kW x k n h p' lv (.long v :: st)) : kW x k n h pc lv (st) := by
  subst hp
  exact fun H locs ls hs hS hl => lv_lload F.hx F.hb hd (kLk_at hl hv) (kk H locs ls hs hS hl)
theorem k_aload_n (F : kF x y cc nL ret hh lev mc ms Po) {c : Fin 4} {i : Nat} {v : Nat} (hd : decode cc pc = .ok (.aload_n c, 1)) (p' : Nat) (hp : pc + 1 = p') (hi : (c : Nat) = i) (hv : kLk i lv = some (.ref v)) (kk : kW x k n h p' lv (.ref v :: st)) : kW x k n h pc lv (st) := by
  subst hp
  exact fun H locs ls hs hS hl => lv_aload_n F.hx F.hb hd hi (kLk_at hl hv) (kk H locs ls hs hS hl)
theorem k_aload (F : kF x y cc nL ret hh lev mc ms Po) {i : Nat} {v : Nat} (hd : decode cc pc = .ok (.aload i, 2)) (p' : Nat) (hp : pc + 2 = p') (hv : kLk i lv = some (.ref v)) (kk : kW x k n h p' lv (.ref v :: st)) : kW x k n h pc lv (st) := by
  subst hp
  exact fun H locs ls hs hS hl => lv_aload F.hx F.hb hd (kLk_at hl hv) (kk H locs ls hs hS hl)
theorem k_fload_n (F : kF x y cc nL ret hh lev mc ms Po) {c : Fin 4} {i : Nat} {v : UInt32} (hd : decode cc pc = .ok (.fload_n c, 1)) (p' : Nat) (hp : pc + 1 = p') (hi : (c : Nat) = i) (hv : kLk i lv = some (.float v)) (kk : kW x k n h p' lv (.float v :: st)) : kW x k n h pc lv (st) := by
  subst hp
  exact fun H locs ls hs hS hl => lv_fload_n F.hx F.hb hd hi (kLk_at hl hv) (kk H locs ls hs hS hl)
theorem k_fload (F : kF x y cc nL ret hh lev mc ms Po) {i : Nat} {v : UInt32} (hd : decode cc pc = .ok (.fload i, 2)) (p' : Nat) (hp : pc + 2 = p') (hv : kLk i lv = some (.float v)) (kk : kW x k n h p' lv (.float v :: st)) : kW x k n h pc lv (st) := by
  subst hp
  exact fun H locs ls hs hS hl => lv_fload F.hx F.hb hd (kLk_at hl hv) (kk H locs ls hs hS hl)
theorem k_dload_n (F : kF x y cc nL ret hh lev mc ms Po) {c : Fin 4} {i : Nat} {v : UInt64} (hd : decode cc pc = .ok (.dload_n c, 1)) (p' : Nat) (hp : pc + 1 = p') (hi : (c : Nat) = i) (hv : kLk i lv = some (.double v)) (kk : kW x k n h p' lv (.double v :: st)) : kW x k n h pc lv (st) := by
  subst hp
  exact fun H locs ls hs hS hl => lv_dload_n F.hx F.hb hd hi (kLk_at hl hv) (kk H locs ls hs hS hl)
theorem k_dload (F : kF x y cc nL ret hh lev mc ms Po) {i : Nat} {v : UInt64} (hd : decode cc pc = .ok (.dload i, 2)) (p' : Nat) (hp : pc + 2 = p') (hv : kLk i lv = some (.double v)) (kk : kW x k n h p' lv (.double v :: st)) : kW x k n h pc lv (st) := by
  subst hp
  exact fun H locs ls hs hS hl => lv_dload F.hx F.hb hd (kLk_at hl hv) (kk H locs ls hs hS hl)
theorem k_aload_nN (F : kF x y cc nL ret hh lev mc ms Po) {c : Fin 4} {i : Nat} (hd : decode cc pc = .ok (.aload_n c, 1)) (p' : Nat) (hp : pc + 1 = p') (hi : (c : Nat) = i) (hv : kLk i lv = some .null) (kk : kW x k n h p' lv (.null :: st)) : kW x k n h pc lv (st) := by
  subst hp
  exact fun H locs ls hs hS hl => lv_aload_nN F.hx F.hb hd hi (kLk_at hl hv) (kk H locs ls hs hS hl)
theorem k_aloadN (F : kF x y cc nL ret hh lev mc ms Po) {i : Nat} (hd : decode cc pc = .ok (.aload i, 2)) (p' : Nat) (hp : pc + 2 = p') (hv : kLk i lv = some .null) (kk : kW x k n h p' lv (.null :: st)) : kW x k n h pc lv (st) := by
  subst hp
  exact fun H locs ls hs hS hl => lv_aloadN F.hx F.hb hd (kLk_at hl hv) (kk H locs ls hs hS hl)
theorem k_aload_nQ (F : kF x y cc nL ret hh lev mc ms Po) {c : Fin 4} {i : Nat} {r : Option Nat} (hd : decode cc pc = .ok (.aload_n c, 1)) (p' : Nat) (hp : pc + 1 = p') (hi : (c : Nat) = i) (hv : kLk i lv = some (va_rf r)) (kk : kW x k n h p' lv (va_rf r :: st)) : kW x k n h pc lv st := by
  cases r with
  | none => exact k_aload_nN F hd p' hp hi hv kk
  | some a => exact k_aload_n F hd p' hp hi hv kk
theorem k_aloadQ (F : kF x y cc nL ret hh lev mc ms Po) {i : Nat} {r : Option Nat} (hd : decode cc pc = .ok (.aload i, 2)) (p' : Nat) (hp : pc + 2 = p') (hv : kLk i lv = some (va_rf r)) (kk : kW x k n h p' lv (va_rf r :: st)) : kW x k n h pc lv st := by
  cases r with
  | none => exact k_aloadN F hd p' hp hv kk
  | some a => exact k_aload F hd p' hp hv kk
theorem k_istore_n (F : kF x y cc nL ret hh lev mc ms Po) {c : Fin 4} {i : Nat} {v : Int32} (hd : decode cc pc = .ok (.istore_n c, 1)) (p' : Nat) (hp : pc + 1 = p') (hi : (c : Nat) = i) (hn : i < nL) (hso : kSo lv = true) (ho : kOk1 i lv = true) (hs : kSt i (.int v) lv = lv') (kk : kW x k n h p' lv' st) : kW x k n h pc lv (.int v :: st) := by
  subst hp
  exact fun H locs ls hs' hS hl => lv_istore_n F.hx F.hb hd hi hl (by rw [F.hml]; exact hn) rfl (fun ls' hl' => kk H locs ls' hs' hS (lv_mono hl' (kSt_1 hs hso ho)))
theorem k_istore (F : kF x y cc nL ret hh lev mc ms Po) {i : Nat} {v : Int32} (hd : decode cc pc = .ok (.istore i, 2)) (p' : Nat) (hp : pc + 2 = p') (hn : i < nL) (hso : kSo lv = true) (ho : kOk1 i lv = true) (hs : kSt i (.int v) lv = lv') (kk : kW x k n h p' lv' st) : kW x k n h pc lv (.int v :: st) := by
  subst hp
  exact fun H locs ls hs' hS hl => lv_istore F.hx F.hb hd hl (by rw [F.hml]; exact hn) rfl (fun ls' hl' => kk H locs ls' hs' hS (lv_mono hl' (kSt_1 hs hso ho)))
theorem k_lstore_n (F : kF x y cc nL ret hh lev mc ms Po) {c : Fin 4} {i : Nat} {v : Int64} (hd : decode cc pc = .ok (.lstore_n c, 1)) (p' : Nat) (hp : pc + 1 = p') (hi : (c : Nat) = i) (hn : i + 1 < nL) (hso : kSo lv = true) (ho : kOk2 i lv = true) (hs : kSt i (.long v) lv = lv') (kk : kW x k n h p' lv' st) : kW x k n h pc lv (.long v :: st) := by
  subst hp
  exact fun H locs ls hs' hS hl => lv_lstore_n F.hx F.hb hd hi hl (by rw [F.hml]; exact hn) rfl (fun ls' hl' => kk H locs ls' hs' hS (lv_mono hl' (kSt_2 hs hso ho)))
theorem k_lstore (F : kF x y cc nL ret hh lev mc ms Po) {i : Nat} {v : Int64} (hd : decode cc pc = .ok (.lstore i, 2)) (p' : Nat) (hp : pc + 2 = p') (hn : i + 1 < nL) (hso : kSo lv = true) (ho : kOk2 i lv = true) (hs : kSt i (.long v) lv = lv') (kk : kW x k n h p' lv' st) : kW x k n h pc lv (.long v :: st) := by
  subst hp
  exact fun H locs ls hs' hS hl => lv_lstore F.hx F.hb hd hl (by rw [F.hml]; exact hn) rfl (fun ls' hl' => kk H locs ls' hs' hS (lv_mono hl' (kSt_2 hs hso ho)))
theorem k_astore_n (F : kF x y cc nL ret hh lev mc ms Po) {c : Fin 4} {i : Nat} {v : Nat} (hd : decode cc pc = .ok (.astore_n c, 1)) (p' : Nat) (hp : pc + 1 = p') (hi : (c : Nat) = i) (hn : i < nL) (hso : kSo lv = true) (ho : kOk1 i lv = true) (hs : kSt i (.ref v) lv = lv') (kk : kW x k n h p' lv' st) : kW x k n h pc lv (.ref v :: st) := by
  subst hp
  exact fun H locs ls hs' hS hl => lv_astore_n F.hx F.hb hd hi hl (by rw [F.hml]; exact hn) rfl (fun ls' hl' => kk H locs ls' hs' hS (lv_mono hl' (kSt_1 hs hso ho)))
theorem k_astore (F : kF x y cc nL ret hh lev mc ms Po) {i : Nat} {v : Nat} (hd : decode cc pc = .ok (.astore i, 2)) (p' : Nat) (hp : pc + 2 = p') (hn : i < nL) (hso : kSo lv = true) (ho : kOk1 i lv = true) (hs : kSt i (.ref v) lv = lv') (kk : kW x k n h p' lv' st) : kW x k n h pc lv (.ref v :: st) := by
  subst hp
  exact fun H locs ls hs' hS hl => lv_astore F.hx F.hb hd hl (by rw [F.hml]; exact hn) rfl (fun ls' hl' => kk H locs ls' hs' hS (lv_mono hl' (kSt_1 hs hso ho)))
theorem k_fstore_n (F : kF x y cc nL ret hh lev mc ms Po) {c : Fin 4} {i : Nat} {v : UInt32} (hd : decode cc pc = .ok (.fstore_n c, 1)) (p' : Nat) (hp : pc + 1 = p') (hi : (c : Nat) = i) (hn : i < nL) (hso : kSo lv = true) (ho : kOk1 i lv = true) (hs : kSt i (.float v) lv = lv') (kk : kW x k n h p' lv' st) : kW x k n h pc lv (.float v :: st) := by
  subst hp
  exact fun H locs ls hs' hS hl => lv_fstore_n F.hx F.hb hd hi hl (by rw [F.hml]; exact hn) rfl (fun ls' hl' => kk H locs ls' hs' hS (lv_mono hl' (kSt_1 hs hso ho)))
theorem k_fstore (F : kF x y cc nL ret hh lev mc ms Po) {i : Nat} {v : UInt32} (hd : decode cc pc = .ok (.fstore i, 2)) (p' : Nat) (hp : pc + 2 = p') (hn : i < nL) (hso : kSo lv = true) (ho : kOk1 i lv = true) (hs : kSt i (.float v) lv = lv') (kk : kW x k n h p' lv' st) : kW x k n h pc lv (.float v :: st) := by
  subst hp
  exact fun H locs ls hs' hS hl => lv_fstore F.hx F.hb hd hl (by rw [F.hml]; exact hn) rfl (fun ls' hl' => kk H locs ls' hs' hS (lv_mono hl' (kSt_1 hs hso ho)))
theorem k_dstore_n (F : kF x y cc nL ret hh lev mc ms Po) {c : Fin 4} {i : Nat} {v : UInt64} (hd : decode cc pc = .ok (.dstore_n c, 1)) (p' : Nat) (hp : pc + 1 = p') (hi : (c : Nat) = i) (hn : i + 1 < nL) (hso : kSo lv = true) (ho : kOk2 i lv = true) (hs : kSt i (.double v) lv = lv') (kk : kW x k n h p' lv' st) : kW x k n h pc lv (.double v :: st) := by
  subst hp
  exact fun H locs ls hs' hS hl => lv_dstore_n F.hx F.hb hd hi hl (by rw [F.hml]; exact hn) rfl (fun ls' hl' => kk H locs ls' hs' hS (lv_mono hl' (kSt_2 hs hso ho)))
theorem k_dstore (F : kF x y cc nL ret hh lev mc ms Po) {i : Nat} {v : UInt64} (hd : decode cc pc = .ok (.dstore i, 2)) (p' : Nat) (hp : pc + 2 = p') (hn : i + 1 < nL) (hso : kSo lv = true) (ho : kOk2 i lv = true) (hs : kSt i (.double v) lv = lv') (kk : kW x k n h p' lv' st) : kW x k n h pc lv (.double v :: st) := by
  subst hp
  exact fun H locs ls hs' hS hl => lv_dstore F.hx F.hb hd hl (by rw [F.hml]; exact hn) rfl (fun ls' hl' => kk H locs ls' hs' hS (lv_mono hl' (kSt_2 hs hso ho)))
theorem k_astore_nN (F : kF x y cc nL ret hh lev mc ms Po) {c : Fin 4} {i : Nat} (hd : decode cc pc = .ok (.astore_n c, 1)) (p' : Nat) (hp : pc + 1 = p') (hi : (c : Nat) = i) (hn : i < nL) (hso : kSo lv = true) (ho : kOk1 i lv = true) (hs : kSt i .null lv = lv') (kk : kW x k n h p' lv' st) : kW x k n h pc lv (.null :: st) := by
  subst hp
  exact fun H locs ls hs' hS hl => lv_astore_nN F.hx F.hb hd hi hl (by rw [F.hml]; exact hn) rfl (fun ls' hl' => kk H locs ls' hs' hS (lv_mono hl' (kSt_1 hs hso ho)))
theorem k_astore_nQ (F : kF x y cc nL ret hh lev mc ms Po) {c : Fin 4} {i : Nat} {r : Option Nat} (hd : decode cc pc = .ok (.astore_n c, 1)) (p' : Nat) (hp : pc + 1 = p') (hi : (c : Nat) = i) (hn : i < nL) (hso : kSo lv = true) (ho : kOk1 i lv = true) (hs : kSt i (va_rf r) lv = lv') (kk : kW x k n h p' lv' st) : kW x k n h pc lv (va_rf r :: st) := by
  cases r with
  | none => exact k_astore_nN F hd p' hp hi hn hso ho hs kk
  | some a => exact k_astore_n F hd p' hp hi hn hso ho hs kk
theorem k_astoreN (F : kF x y cc nL ret hh lev mc ms Po) {i : Nat} (hd : decode cc pc = .ok (.astore i, 2)) (p' : Nat) (hp : pc + 2 = p') (hn : i < nL) (hso : kSo lv = true) (ho : kOk1 i lv = true) (hs : kSt i .null lv = lv') (kk : kW x k n h p' lv' st) : kW x k n h pc lv (.null :: st) := by
  subst hp
  exact fun H locs ls hs' hS hl => lv_astoreN F.hx F.hb hd hl (by rw [F.hml]; exact hn) rfl (fun ls' hl' => kk H locs ls' hs' hS (lv_mono hl' (kSt_1 hs hso ho)))
theorem k_astoreQ (F : kF x y cc nL ret hh lev mc ms Po) {i : Nat} {r : Option Nat} (hd : decode cc pc = .ok (.astore i, 2)) (p' : Nat) (hp : pc + 2 = p') (hn : i < nL) (hso : kSo lv = true) (ho : kOk1 i lv = true) (hs : kSt i (va_rf r) lv = lv') (kk : kW x k n h p' lv' st) : kW x k n h pc lv (va_rf r :: st) := by
  cases r with
  | none => exact k_astoreN F hd p' hp hn hso ho hs kk
  | some a => exact k_astore F hd p' hp hn hso ho hs kk
theorem k_iinc (F : kF x y cc nL ret hh lev mc ms Po) {i : Nat} {d : Int} {v w e : Int32} (hd : decode cc pc = .ok (.iinc i d, 3)) (p' : Nat) (hp : pc + 3 = p') (hv : kLk i lv = some (.int v)) (he : Int32.ofInt d = e) (hw : v + e = w) (hn : i < nL) (hso : kSo lv = true) (ho : kOk1 i lv = true) (hs : kSt i (.int w) lv = lv') (kk : kW x k n h p' lv' st) : kW x k n h pc lv st := by
  subst hp
  subst hw
  subst he
  obtain ⟨j, hj⟩ := List.getElem?_of_mem (kLk_mem hv)
  exact fun H locs ls hs' hS hl => lv_iinc F.hx F.hb hd hl hj rfl (by rw [F.hml]; exact hn) rfl (fun ls' hl' => kk H locs ls' hs' hS (lv_mono hl' (kSt_1 hs hso ho)))
theorem k_iadd (F : kF x y cc nL ret hh lev mc ms Po) {a b : Int32} (hd : decode cc pc = .ok (.iadd, 1)) (p' : Nat) (hp : pc + 1 = p') (kk : kW x k n h p' lv (.int (a + b) :: st)) : kW x k n h pc lv (.int b :: .int a :: st) := by
  subst hp
  exact fun H locs ls hs hS hl => lv_iadd F.hx F.hb hd (kk H locs ls hs hS hl)
theorem k_isub (F : kF x y cc nL ret hh lev mc ms Po) {a b : Int32} (hd : decode cc pc = .ok (.isub, 1)) (p' : Nat) (hp : pc + 1 = p') (kk : kW x k n h p' lv (.int (a - b) :: st)) : kW x k n h pc lv (.int b :: .int a :: st) := by
  subst hp
  exact fun H locs ls hs hS hl => lv_isub F.hx F.hb hd (kk H locs ls hs hS hl)
theorem k_imul (F : kF x y cc nL ret hh lev mc ms Po) {a b : Int32} (hd : decode cc pc = .ok (.imul, 1)) (p' : Nat) (hp : pc + 1 = p') (kk : kW x k n h p' lv (.int (a * b) :: st)) : kW x k n h pc lv (.int b :: .int a :: st) := by
  subst hp
  exact fun H locs ls hs hS hl => lv_imul F.hx F.hb hd (kk H locs ls hs hS hl)
theorem k_iand (F : kF x y cc nL ret hh lev mc ms Po) {a b : Int32} (hd : decode cc pc = .ok (.iand, 1)) (p' : Nat) (hp : pc + 1 = p') (kk : kW x k n h p' lv (.int (a &&& b) :: st)) : kW x k n h pc lv (.int b :: .int a :: st) := by
  subst hp
  exact fun H locs ls hs hS hl => lv_iand F.hx F.hb hd (kk H locs ls hs hS hl)
theorem k_ior (F : kF x y cc nL ret hh lev mc ms Po) {a b : Int32} (hd : decode cc pc = .ok (.ior, 1)) (p' : Nat) (hp : pc + 1 = p') (kk : kW x k n h p' lv (.int (a ||| b) :: st)) : kW x k n h pc lv (.int b :: .int a :: st) := by
  subst hp
  exact fun H locs ls hs hS hl => lv_ior F.hx F.hb hd (kk H locs ls hs hS hl)
theorem k_ixor (F : kF x y cc nL ret hh lev mc ms Po) {a b : Int32} (hd : decode cc pc = .ok (.ixor, 1)) (p' : Nat) (hp : pc + 1 = p') (kk : kW x k n h p' lv (.int (a ^^^ b) :: st)) : kW x k n h pc lv (.int b :: .int a :: st) := by
  subst hp
  exact fun H locs ls hs hS hl => lv_ixor F.hx F.hb hd (kk H locs ls hs hS hl)
theorem k_ladd (F : kF x y cc nL ret hh lev mc ms Po) {a b : Int64} (hd : decode cc pc = .ok (.ladd, 1)) (p' : Nat) (hp : pc + 1 = p') (kk : kW x k n h p' lv (.long (a + b) :: st)) : kW x k n h pc lv (.long b :: .long a :: st) := by
  subst hp
  exact fun H locs ls hs hS hl => lv_ladd F.hx F.hb hd (kk H locs ls hs hS hl)
theorem k_lsub (F : kF x y cc nL ret hh lev mc ms Po) {a b : Int64} (hd : decode cc pc = .ok (.lsub, 1)) (p' : Nat) (hp : pc + 1 = p') (kk : kW x k n h p' lv (.long (a - b) :: st)) : kW x k n h pc lv (.long b :: .long a :: st) := by
  subst hp
  exact fun H locs ls hs hS hl => lv_lsub F.hx F.hb hd (kk H locs ls hs hS hl)
theorem k_lmul (F : kF x y cc nL ret hh lev mc ms Po) {a b : Int64} (hd : decode cc pc = .ok (.lmul, 1)) (p' : Nat) (hp : pc + 1 = p') (kk : kW x k n h p' lv (.long (a * b) :: st)) : kW x k n h pc lv (.long b :: .long a :: st) := by
  subst hp
  exact fun H locs ls hs hS hl => lv_lmul F.hx F.hb hd (kk H locs ls hs hS hl)
theorem k_land (F : kF x y cc nL ret hh lev mc ms Po) {a b : Int64} (hd : decode cc pc = .ok (.land, 1)) (p' : Nat) (hp : pc + 1 = p') (kk : kW x k n h p' lv (.long (a &&& b) :: st)) : kW x k n h pc lv (.long b :: .long a :: st) := by
  subst hp
  exact fun H locs ls hs hS hl => lv_land F.hx F.hb hd (kk H locs ls hs hS hl)
theorem k_lor (F : kF x y cc nL ret hh lev mc ms Po) {a b : Int64} (hd : decode cc pc = .ok (.lor, 1)) (p' : Nat) (hp : pc + 1 = p') (kk : kW x k n h p' lv (.long (a ||| b) :: st)) : kW x k n h pc lv (.long b :: .long a :: st) := by
  subst hp
  exact fun H locs ls hs hS hl => lv_lor F.hx F.hb hd (kk H locs ls hs hS hl)
theorem k_lxor (F : kF x y cc nL ret hh lev mc ms Po) {a b : Int64} (hd : decode cc pc = .ok (.lxor, 1)) (p' : Nat) (hp : pc + 1 = p') (kk : kW x k n h p' lv (.long (a ^^^ b) :: st)) : kW x k n h pc lv (.long b :: .long a :: st) := by
  subst hp
  exact fun H locs ls hs hS hl => lv_lxor F.hx F.hb hd (kk H locs ls hs hS hl)
theorem k_ineg (F : kF x y cc nL ret hh lev mc ms Po) {a : Int32} (hd : decode cc pc = .ok (.ineg, 1)) (p' : Nat) (hp : pc + 1 = p') (kk : kW x k n h p' lv (.int (-a) :: st)) : kW x k n h pc lv (.int a :: st) := by
  subst hp
  exact fun H locs ls hs hS hl => lv_ineg F.hx F.hb hd (kk H locs ls hs hS hl)
theorem k_ishl (F : kF x y cc nL ret hh lev mc ms Po) {a b : Int32} (hd : decode cc pc = .ok (.ishl, 1)) (p' : Nat) (hp : pc + 1 = p') (kk : kW x k n h p' lv (.int (a <<< (b &&& 31)) :: st)) : kW x k n h pc lv (.int b :: .int a :: st) := by
  subst hp
  exact fun H locs ls hs hS hl => lv_ishl F.hx F.hb hd (kk H locs ls hs hS hl)
theorem k_ishr (F : kF x y cc nL ret hh lev mc ms Po) {a b : Int32} (hd : decode cc pc = .ok (.ishr, 1)) (p' : Nat) (hp : pc + 1 = p') (kk : kW x k n h p' lv (.int (a >>> (b &&& 31)) :: st)) : kW x k n h pc lv (.int b :: .int a :: st) := by
  subst hp
  exact fun H locs ls hs hS hl => lv_ishr F.hx F.hb hd (kk H locs ls hs hS hl)
theorem k_idiv (F : kF x y cc nL ret hh lev mc ms Po) {a b : Int32} (hd : decode cc pc = .ok (.idiv, 1)) (p' : Nat) (hp : pc + 1 = p') (hb : ¬ b = 0) (kk : kW x k n h p' lv (.int (a / b) :: st)) : kW x k n h pc lv (.int b :: .int a :: st) := by
  subst hp
  exact fun H locs ls hs hS hl => lv_idiv F.hx F.hb hd hb (kk H locs ls hs hS hl)
theorem k_irem (F : kF x y cc nL ret hh lev mc ms Po) {a b : Int32} (hd : decode cc pc = .ok (.irem, 1)) (p' : Nat) (hp : pc + 1 = p') (hb : ¬ b = 0) (kk : kW x k n h p' lv (.int (a - a / b * b) :: st)) : kW x k n h pc lv (.int b :: .int a :: st) := by
  subst hp
  exact fun H locs ls hs hS hl => lv_irem F.hx F.hb hd hb (kk H locs ls hs hS hl)
theorem k_iushr (F : kF x y cc nL ret hh lev mc ms Po) {a b v : Int32} (hd : decode cc pc = .ok (.iushr, 1)) (p' : Nat) (hp : pc + 1 = p') (hv : (a.toUInt32 >>> (b.toUInt32 &&& Int32.toUInt32 31)).toInt32 = v) (kk : kW x k n h p' lv (.int v :: st)) : kW x k n h pc lv (.int b :: .int a :: st) := by
  subst hp
  exact fun H locs ls hs hS hl => lv_iushr F.hx F.hb hd hv (kk H locs ls hs hS hl)
theorem k_lushr (F : kF x y cc nL ret hh lev mc ms Po) {a v : Int64} {b : Int32} (hd : decode cc pc = .ok (.lushr, 1)) (p' : Nat) (hp : pc + 1 = p') (hv : (a.toUInt64 >>> (b.toInt64.toUInt64 &&& Int64.toUInt64 63)).toInt64 = v) (kk : kW x k n h p' lv (.long v :: st)) : kW x k n h pc lv (.int b :: .long a :: st) := by
  subst hp
  exact fun H locs ls hs hS hl => lv_lushr F.hx F.hb hd hv (kk H locs ls hs hS hl)
theorem k_lshl (F : kF x y cc nL ret hh lev mc ms Po) {a v : Int64} {b : Int32} (hd : decode cc pc = .ok (.lshl, 1)) (p' : Nat) (hp : pc + 1 = p') (hv : a <<< (b.toInt64 &&& 63) = v) (kk : kW x k n h p' lv (.long v :: st)) : kW x k n h pc lv (.int b :: .long a :: st) := by
  subst hp
  exact fun H locs ls hs hS hl => lv_lshl F.hx F.hb hd hv (kk H locs ls hs hS hl)
theorem k_lshr (F : kF x y cc nL ret hh lev mc ms Po) {a v : Int64} {b : Int32} (hd : decode cc pc = .ok (.lshr, 1)) (p' : Nat) (hp : pc + 1 = p') (hv : a >>> (b.toInt64 &&& 63) = v) (kk : kW x k n h p' lv (.long v :: st)) : kW x k n h pc lv (.int b :: .long a :: st) := by
  subst hp
  exact fun H locs ls hs hS hl => lv_lshr F.hx F.hb hd hv (kk H locs ls hs hS hl)
theorem k_i2l (F : kF x y cc nL ret hh lev mc ms Po) {a : Int32} (hd : decode cc pc = .ok (.i2l, 1)) (p' : Nat) (hp : pc + 1 = p') (kk : kW x k n h p' lv (.long a.toInt64 :: st)) : kW x k n h pc lv (.int a :: st) := by
  subst hp
  exact fun H locs ls hs hS hl => lv_i2l F.hx F.hb hd rfl (kk H locs ls hs hS hl)
theorem k_l2i (F : kF x y cc nL ret hh lev mc ms Po) {a : Int64} (hd : decode cc pc = .ok (.l2i, 1)) (p' : Nat) (hp : pc + 1 = p') (kk : kW x k n h p' lv (.int a.toInt32 :: st)) : kW x k n h pc lv (.long a :: st) := by
  subst hp
  exact fun H locs ls hs hS hl => lv_l2i F.hx F.hb hd rfl (kk H locs ls hs hS hl)
theorem k_i2b (F : kF x y cc nL ret hh lev mc ms Po) {a : Int32} (hd : decode cc pc = .ok (.i2b, 1)) (p' : Nat) (hp : pc + 1 = p') (kk : kW x k n h p' lv (.int a.toInt8.toInt32 :: st)) : kW x k n h pc lv (.int a :: st) := by
  subst hp
  exact fun H locs ls hs hS hl => lv_i2b F.hx F.hb hd rfl (kk H locs ls hs hS hl)
theorem k_i2c (F : kF x y cc nL ret hh lev mc ms Po) {a : Int32} (hd : decode cc pc = .ok (.i2c, 1)) (p' : Nat) (hp : pc + 1 = p') (kk : kW x k n h p' lv (.int (a.toUInt32 % 65536).toInt32 :: st)) : kW x k n h pc lv (.int a :: st) := by
  subst hp
  exact fun H locs ls hs hS hl => lv_i2c F.hx F.hb hd rfl (kk H locs ls hs hS hl)
theorem k_dup (F : kF x y cc nL ret hh lev mc ms Po) {v : Value} (hd : decode cc pc = .ok (.dup, 1)) (p' : Nat) (hp : pc + 1 = p') (hv : v.category = 1) (kk : kW x k n h p' lv (v :: v :: st)) : kW x k n h pc lv (v :: st) := by
  subst hp
  exact fun H locs ls hs hS hl => lv_dup F.hx F.hb hd hv (kk H locs ls hs hS hl)
theorem k_pop (F : kF x y cc nL ret hh lev mc ms Po) {v : Value} (hd : decode cc pc = .ok (.pop, 1)) (p' : Nat) (hp : pc + 1 = p') (hv : v.category = 1) (kk : kW x k n h p' lv (st)) : kW x k n h pc lv (v :: st) := by
  subst hp
  exact fun H locs ls hs hS hl => lv_pop F.hx F.hb hd hv (kk H locs ls hs hS hl)
theorem k_dup_x1 (F : kF x y cc nL ret hh lev mc ms Po) {v w : Value} (hd : decode cc pc = .ok (.dup_x1, 1)) (p' : Nat) (hp : pc + 1 = p') (hv : v.category = 1) (hw : w.category = 1) (kk : kW x k n h p' lv (v :: w :: v :: st)) : kW x k n h pc lv (v :: w :: st) := by
  subst hp
  exact fun H locs ls hs hS hl => lv_dup_x1 F.hx F.hb hd hv hw (kk H locs ls hs hS hl)
theorem k_dup_x2 (F : kF x y cc nL ret hh lev mc ms Po) {v w u : Value} (hd : decode cc pc = .ok (.dup_x2, 1)) (p' : Nat) (hp : pc + 1 = p') (hv : v.category = 1) (hw : w.category = 1) (hu : u.category = 1) (kk : kW x k n h p' lv (v :: w :: u :: v :: st)) : kW x k n h pc lv (v :: w :: u :: st) := by
  subst hp
  exact fun H locs ls hs hS hl => lv_dup_x2 F.hx F.hb hd hv hw hu (kk H locs ls hs hS hl)
theorem k_dup2_11 (F : kF x y cc nL ret hh lev mc ms Po) {v w : Value} (hd : decode cc pc = .ok (.dup2, 1)) (p' : Nat) (hp : pc + 1 = p') (hv : v.category = 1) (hw : w.category = 1) (kk : kW x k n h p' lv (v :: w :: v :: w :: st)) : kW x k n h pc lv (v :: w :: st) := by
  subst hp
  exact fun H locs ls hs hS hl => lv_dup2_11 F.hx F.hb hd hv hw (kk H locs ls hs hS hl)
theorem k_dup2_2 (F : kF x y cc nL ret hh lev mc ms Po) {v : Value} (hd : decode cc pc = .ok (.dup2, 1)) (p' : Nat) (hp : pc + 1 = p') (hv : v.category = 2) (kk : kW x k n h p' lv (v :: v :: st)) : kW x k n h pc lv (v :: st) := by
  subst hp
  exact fun H locs ls hs hS hl => lv_dup2_2 F.hx F.hb hd hv (kk H locs ls hs hS hl)
theorem k_ifeq (F : kF x y cc nL ret hh lev mc ms Po) {a : Int32} {off : Int} (hd : decode cc pc = .ok (.ifCond .eq off, 3)) (p' tgt : Nat) (hp : pc + 3 = p') (ht : (pc : Int) + off = (tgt : Int)) (kt : a = 0 → kW x k n h tgt lv st) (kf : ¬ a = 0 → kW x k n h p' lv st) : kW x k n h pc lv (.int a :: st) := by
  subst hp
  exact fun H locs ls hs hS hl => lv_if_eq F.hx F.hb hd ht (fun c => kt c H locs ls hs hS hl) (fun c => kf c H locs ls hs hS hl)
theorem k_icmpeq (F : kF x y cc nL ret hh lev mc ms Po) {a b : Int32} {off : Int} (hd : decode cc pc = .ok (.if_icmp .eq off, 3)) (p' tgt : Nat) (hp : pc + 3 = p') (ht : (pc : Int) + off = (tgt : Int)) (kt : a = b → kW x k n h tgt lv st) (kf : ¬ a = b → kW x k n h p' lv st) : kW x k n h pc lv (.int b :: .int a :: st) := by
  subst hp
  exact fun H locs ls hs hS hl => lv_icmp_eq F.hx F.hb hd ht (fun c => kt c H locs ls hs hS hl) (fun c => kf c H locs ls hs hS hl)
theorem k_ifne (F : kF x y cc nL ret hh lev mc ms Po) {a : Int32} {off : Int} (hd : decode cc pc = .ok (.ifCond .ne off, 3)) (p' tgt : Nat) (hp : pc + 3 = p') (ht : (pc : Int) + off = (tgt : Int)) (kt : ¬ a = 0 → kW x k n h tgt lv st) (kf : a = 0 → kW x k n h p' lv st) : kW x k n h pc lv (.int a :: st) := by
  subst hp
  exact fun H locs ls hs hS hl => lv_if_ne F.hx F.hb hd ht (fun c => kt c H locs ls hs hS hl) (fun c => kf c H locs ls hs hS hl)
theorem k_icmpne (F : kF x y cc nL ret hh lev mc ms Po) {a b : Int32} {off : Int} (hd : decode cc pc = .ok (.if_icmp .ne off, 3)) (p' tgt : Nat) (hp : pc + 3 = p') (ht : (pc : Int) + off = (tgt : Int)) (kt : ¬ a = b → kW x k n h tgt lv st) (kf : a = b → kW x k n h p' lv st) : kW x k n h pc lv (.int b :: .int a :: st) := by
  subst hp
  exact fun H locs ls hs hS hl => lv_icmp_ne F.hx F.hb hd ht (fun c => kt c H locs ls hs hS hl) (fun c => kf c H locs ls hs hS hl)
theorem k_iflt (F : kF x y cc nL ret hh lev mc ms Po) {a : Int32} {off : Int} (hd : decode cc pc = .ok (.ifCond .lt off, 3)) (p' tgt : Nat) (hp : pc + 3 = p') (ht : (pc : Int) + off = (tgt : Int)) (kt : a < 0 → kW x k n h tgt lv st) (kf : ¬ a < 0 → kW x k n h p' lv st) : kW x k n h pc lv (.int a :: st) := by
  subst hp
  exact fun H locs ls hs hS hl => lv_if_lt F.hx F.hb hd ht (fun c => kt c H locs ls hs hS hl) (fun c => kf c H locs ls hs hS hl)
theorem k_icmplt (F : kF x y cc nL ret hh lev mc ms Po) {a b : Int32} {off : Int} (hd : decode cc pc = .ok (.if_icmp .lt off, 3)) (p' tgt : Nat) (hp : pc + 3 = p') (ht : (pc : Int) + off = (tgt : Int)) (kt : a < b → kW x k n h tgt lv st) (kf : ¬ a < b → kW x k n h p' lv st) : kW x k n h pc lv (.int b :: .int a :: st) := by
  subst hp
  exact fun H locs ls hs hS hl => lv_icmp_lt F.hx F.hb hd ht (fun c => kt c H locs ls hs hS hl) (fun c => kf c H locs ls hs hS hl)
theorem k_ifge (F : kF x y cc nL ret hh lev mc ms Po) {a : Int32} {off : Int} (hd : decode cc pc = .ok (.ifCond .ge off, 3)) (p' tgt : Nat) (hp : pc + 3 = p') (ht : (pc : Int) + off = (tgt : Int)) (kt : 0 ≤ a → kW x k n h tgt lv st) (kf : ¬ 0 ≤ a → kW x k n h p' lv st) : kW x k n h pc lv (.int a :: st) := by
  subst hp
  exact fun H locs ls hs hS hl => lv_if_ge F.hx F.hb hd ht (fun c => kt c H locs ls hs hS hl) (fun c => kf c H locs ls hs hS hl)
theorem k_icmpge (F : kF x y cc nL ret hh lev mc ms Po) {a b : Int32} {off : Int} (hd : decode cc pc = .ok (.if_icmp .ge off, 3)) (p' tgt : Nat) (hp : pc + 3 = p') (ht : (pc : Int) + off = (tgt : Int)) (kt : b ≤ a → kW x k n h tgt lv st) (kf : ¬ b ≤ a → kW x k n h p' lv st) : kW x k n h pc lv (.int b :: .int a :: st) := by
  subst hp
  exact fun H locs ls hs hS hl => lv_icmp_ge F.hx F.hb hd ht (fun c => kt c H locs ls hs hS hl) (fun c => kf c H locs ls hs hS hl)
theorem k_ifgt (F : kF x y cc nL ret hh lev mc ms Po) {a : Int32} {off : Int} (hd : decode cc pc = .ok (.ifCond .gt off, 3)) (p' tgt : Nat) (hp : pc + 3 = p') (ht : (pc : Int) + off = (tgt : Int)) (kt : 0 < a → kW x k n h tgt lv st) (kf : ¬ 0 < a → kW x k n h p' lv st) : kW x k n h pc lv (.int a :: st) := by
  subst hp
  exact fun H locs ls hs hS hl => lv_if_gt F.hx F.hb hd ht (fun c => kt c H locs ls hs hS hl) (fun c => kf c H locs ls hs hS hl)
theorem k_icmpgt (F : kF x y cc nL ret hh lev mc ms Po) {a b : Int32} {off : Int} (hd : decode cc pc = .ok (.if_icmp .gt off, 3)) (p' tgt : Nat) (hp : pc + 3 = p') (ht : (pc : Int) + off = (tgt : Int)) (kt : b < a → kW x k n h tgt lv st) (kf : ¬ b < a → kW x k n h p' lv st) : kW x k n h pc lv (.int b :: .int a :: st) := by
  subst hp
  exact fun H locs ls hs hS hl => lv_icmp_gt F.hx F.hb hd ht (fun c => kt c H locs ls hs hS hl) (fun c => kf c H locs ls hs hS hl)
theorem k_ifle (F : kF x y cc nL ret hh lev mc ms Po) {a : Int32} {off : Int} (hd : decode cc pc = .ok (.ifCond .le off, 3)) (p' tgt : Nat) (hp : pc + 3 = p') (ht : (pc : Int) + off = (tgt : Int)) (kt : a ≤ 0 → kW x k n h tgt lv st) (kf : ¬ a ≤ 0 → kW x k n h p' lv st) : kW x k n h pc lv (.int a :: st) := by
  subst hp
  exact fun H locs ls hs hS hl => lv_if_le F.hx F.hb hd ht (fun c => kt c H locs ls hs hS hl) (fun c => kf c H locs ls hs hS hl)
theorem k_icmple (F : kF x y cc nL ret hh lev mc ms Po) {a b : Int32} {off : Int} (hd : decode cc pc = .ok (.if_icmp .le off, 3)) (p' tgt : Nat) (hp : pc + 3 = p') (ht : (pc : Int) + off = (tgt : Int)) (kt : a ≤ b → kW x k n h tgt lv st) (kf : ¬ a ≤ b → kW x k n h p' lv st) : kW x k n h pc lv (.int b :: .int a :: st) := by
  subst hp
  exact fun H locs ls hs hS hl => lv_icmp_le F.hx F.hb hd ht (fun c => kt c H locs ls hs hS hl) (fun c => kf c H locs ls hs hS hl)
theorem k_acmpeq (F : kF x y cc nL ret hh lev mc ms Po) {a b : Option Nat} {off : Int} (hd : decode cc pc = .ok (.if_acmp .eq off, 3)) (p' tgt : Nat) (hp : pc + 3 = p') (ht : (pc : Int) + off = (tgt : Int)) (kt : a = b → kW x k n h tgt lv st) (kf : ¬ a = b → kW x k n h p' lv st) : kW x k n h pc lv (va_rf b :: va_rf a :: st) := by
  subst hp
  exact fun H locs ls hs hS hl => lv_acmp_eq F.hx F.hb hd ht (fun c => kt c H locs ls hs hS hl) (fun c => kf c H locs ls hs hS hl)
theorem k_acmpne (F : kF x y cc nL ret hh lev mc ms Po) {a b : Option Nat} {off : Int} (hd : decode cc pc = .ok (.if_acmp .ne off, 3)) (p' tgt : Nat) (hp : pc + 3 = p') (ht : (pc : Int) + off = (tgt : Int)) (kt : ¬ a = b → kW x k n h tgt lv st) (kf : a = b → kW x k n h p' lv st) : kW x k n h pc lv (va_rf b :: va_rf a :: st) := by
  subst hp
  exact fun H locs ls hs hS hl => lv_acmp_ne F.hx F.hb hd ht (fun c => kt c H locs ls hs hS hl) (fun c => kf c H locs ls hs hS hl)
theorem k_goto (F : kF x y cc nL ret hh lev mc ms Po) {off : Int} (hd : decode cc pc = .ok (.goto off, 3)) (tgt : Nat) (ht : (pc : Int) + off = (tgt : Int)) (kk : kW x k n h tgt lv st) : kW x k n h pc lv st :=
  fun H locs ls hs hS hl => lv_goto F.hx F.hb hd ht (kk H locs ls hs hS hl)
theorem k_ifnull (F : kF x y cc nL ret hh lev mc ms Po) {r : Option Nat} {off : Int} (hd : decode cc pc = .ok (.ifnull off, 3)) (p' tgt : Nat) (hp : pc + 3 = p') (ht : (pc : Int) + off = (tgt : Int)) (kt : r = none → kW x k n h tgt lv st) (kf : ∀ a, r = some a → kW x k n h p' lv st) : kW x k n h pc lv (va_rf r :: st) := by
  subst hp
  cases r with
  | none => exact fun H locs ls hs hS hl => lv_ifnullN F.hx F.hb hd ht (kt rfl H locs ls hs hS hl)
  | some a => exact fun H locs ls hs hS hl => lv_ifnull F.hx F.hb hd (kf a rfl H locs ls hs hS hl)
theorem k_ifnonnull (F : kF x y cc nL ret hh lev mc ms Po) {r : Option Nat} {off : Int} (hd : decode cc pc = .ok (.ifnonnull off, 3)) (p' tgt : Nat) (hp : pc + 3 = p') (ht : (pc : Int) + off = (tgt : Int)) (kt : ∀ a, r = some a → kW x k n h tgt lv st) (kf : r = none → kW x k n h p' lv st) : kW x k n h pc lv (va_rf r :: st) := by
  subst hp
  cases r with
  | none => exact fun H locs ls hs hS hl => lv_ifnonnullN F.hx F.hb hd (kf rfl H locs ls hs hS hl)
  | some a => exact fun H locs ls hs hS hl => lv_ifnonnull F.hx F.hb hd ht (kt a rfl H locs ls hs hS hl)
theorem k_tableIn (F : kF x y cc nL ret hh lev mc ms Po) {dflt lo hi : Int} {offs : Array Int} {len : Nat} {a : Int32} {off : Int} (hd : decode cc pc = .ok (.tableswitch dflt lo hi offs, len)) (tgt : Nat) (h1 : ¬ a.toInt < lo) (h2 : ¬ hi < a.toInt) (ho : offs[(a.toInt - lo).toNat]? = some off) (ht : (pc : Int) + off = (tgt : Int)) (kk : kW x k n h tgt lv st) : kW x k n h pc lv (.int a :: st) :=
  fun H locs ls hs hS hl => lv_tableIn F.hx F.hb hd h1 h2 ho ht (kk H locs ls hs hS hl)
theorem k_tableOut (F : kF x y cc nL ret hh lev mc ms Po) {dflt lo hi : Int} {offs : Array Int} {len : Nat} {a : Int32} (hd : decode cc pc = .ok (.tableswitch dflt lo hi offs, len)) (tgt : Nat) (h1 : a.toInt < lo ∨ hi < a.toInt) (ht : (pc : Int) + dflt = (tgt : Int)) (kk : kW x k n h tgt lv st) : kW x k n h pc lv (.int a :: st) :=
  fun H locs ls hs hS hl => lv_tableOut F.hx F.hb hd h1 ht (kk H locs ls hs hS hl)
theorem k_lookup (F : kF x y cc nL ret hh lev mc ms Po) {dflt : Int} {ps : Array (Int × Int)} {len : Nat} {a : Int32} {off : Int} (hd : decode cc pc = .ok (.lookupswitch dflt ps, len)) (tgt : Nat) (hp : (ps.toList.zip (ps.toList.drop 1)).all (fun (a, next) => a.1 < next.1) = true) (ho : Op.lookupswitch.offset ps.toList dflt a.toInt = off) (ht : (pc : Int) + off = (tgt : Int)) (kk : kW x k n h tgt lv st) : kW x k n h pc lv (.int a :: st) :=
  fun H locs ls hs hS hl => lv_lookup F.hx F.hb hd hp ho ht (kk H locs ls hs hS hl)
theorem k_ldc (F : kF x y cc nL ret hh lev mc ms Po) {index : Nat} {v : Int32} (hd : decode cc pc = .ok (.ldc index, 2)) (p' : Nat) (hp : pc + 2 = p') (hq : Cond.constant y.cls index v ∈ lw_all) (kk : kW x k n h p' lv (.int v :: st)) : kW x k n h pc lv st := by
  subst hp
  exact fun H locs ls hs hS hl => lv_ldc F.hx F.hb F.hown (F.w hq) hd (kk H locs ls hs hS hl)
theorem k_ldcw (F : kF x y cc nL ret hh lev mc ms Po) {index : Nat} {v : Int32} (hd : decode cc pc = .ok (.ldc_w index, 3)) (p' : Nat) (hp : pc + 3 = p') (hq : Cond.constant y.cls index v ∈ lw_all) (kk : kW x k n h p' lv (.int v :: st)) : kW x k n h pc lv st := by
  subst hp
  exact fun H locs ls hs hS hl => lv_ldcw F.hx F.hb F.hown (F.w hq) hd (kk H locs ls hs hS hl)
theorem k_ldc2 (F : kF x y cc nL ret hh lev mc ms Po) {index : Nat} {v : Int64} (hd : decode cc pc = .ok (.ldc2_w index, 3)) (p' : Nat) (hp : pc + 3 = p') (hq : Cond.constantLong y.cls index v ∈ lw_all) (kk : kW x k n h p' lv (.long v :: st)) : kW x k n h pc lv st := by
  subst hp
  exact fun H locs ls hs hS hl => lv_ldc2 F.hx F.hb F.hown (F.w hq) hd (kk H locs ls hs hS hl)
theorem k_ldcf (F : kF x y cc nL ret hh lev mc ms Po) {index : Nat} {v : UInt32} (hd : decode cc pc = .ok (.ldc index, 2)) (p' : Nat) (hp : pc + 2 = p') (hq : Cond.constantFloat y.cls index v ∈ lw_all) (kk : kW x k n h p' lv (.float v :: st)) : kW x k n h pc lv st := by
  subst hp
  exact fun H locs ls hs hS hl => lv_ldcf F.hx F.hb F.hown (F.w hq) hd (kk H locs ls hs hS hl)
theorem k_castN (F : kF x y cc nL ret hh lev mc ms Po) {index : Nat} (hd : decode cc pc = .ok (.checkcast index, 3)) (p' : Nat) (hp : pc + 3 = p') (kk : kW x k n h p' lv (.null :: st)) : kW x k n h pc lv (.null :: st) := by
  subst hp
  exact fun H locs ls hs hS hl => lv_castN F.hx F.hb hd (kk H locs ls hs hS hl)
theorem k_instN (F : kF x y cc nL ret hh lev mc ms Po) {index : Nat} (hd : decode cc pc = .ok (.instanceof index, 3)) (p' : Nat) (hp : pc + 3 = p') (kk : kW x k n h p' lv (.int 0 :: st)) : kW x k n h pc lv (.null :: st) := by
  subst hp
  exact fun H locs ls hs hS hl => lv_instN F.hx F.hb hd (kk H locs ls hs hS hl)
end
