/-! LAYER 6: what the start gives: statics, String constants, arrays of the start -/
def kA (g : kG) : Nat → Prop := fun q => g.U.heap.size ≤ q
theorem kA_old {g : kG} : ∀ a : Nat, a < g.U.heap.size → ¬ kA g a := fun _ h q => absurd h (Nat.not_lt.mpr q)
theorem kAnd {a b : Cond} {A : Array Value} {U : State} (h : (Cond.and a b).before A U = true) : a.before A U = true ∧ b.before A U = true := by
  rw [Cond.before_and, Bool.and_eq_true] at h
  exact h
theorem kStart.nar {l : Launch} {g : kG} (S : kStart l g) : narrow_1.before #[Value.ref g.b] g.U = true := (kAnd S.2.2.2.2.1).2
theorem kStart.tb {l : Launch} {g : kG} (S : kStart l g) {w : Cond} (h : w ∈ lw_tbl) : w.before #[Value.ref g.b] g.U = true := S.2.1 w h
section
variable {x : kX} {y : MethodName} {cc : ByteArray} {nL lev mc ms : Nat} {ret : Option FieldType} {hh : List (Nat × Nat × Nat × Nat)} {Po : kR → kH → Prop} {k n : Nat} {h : kH} {pc : Nat} {lv lv' : List (Nat × Value)} {st : List Value}
theorem kVaS (F : kF x y cc nL ret hh lev mc ms Po) {H : Heap} {locs : List Loc} (hs : kSim x.g h H) (hS : kS x H locs) : va_S (kA x.g) x.s.heap H locs := by
  refine ⟨hS.1, fun q _ hA => ?_, hS.2⟩
  have hq : q < x.g.U.heap.size := Nat.not_le.mp hA
  rw [hs.1.2 q hq, F.old.2 q hq]
theorem kKeptX (F : kF x y cc nL ret hh lev mc ms Po) : ∀ a : Nat, a < x.g.U.heap.size → ¬ kA x.g a → x.s.heap[a]? = x.g.U.heap[a]? := fun a ha _ => F.old.2 a ha
/-- a static of the start that stays -/
theorem k_gets (F : kF x y cc nL ret hh lev mc ms Po) {C n0 d ref : String} {v : Value} {index : Nat} (hl : Cond.laysStatic C n0 d ∈ lw_tbl) (hini : Cond.initialized C ∈ lw_all) (hv : (Term.static C n0 d).eval #[Value.ref x.g.b] x.g.U none [] x.g.U = some v) (hq : Cond.fieldLink y.cls index ref n0 d ∈ lw_all) (hsm : ∀ z, x.s.fieldFound? C n0 d = some z → x.s.fieldFound? ref n0 d = some z)
    (hd : decode cc pc = .ok (.getstatic index, 3)) (p' : Nat) (hp : pc + 3 = p') (kk : kW x k n h p' lv (v :: st)) : kW x k n h pc lv st := by
  subst hp
  intro H locs ls hs hS hl2
  have hZ : va_Z C n0 d v (kA x.g) x.g.U x.g.U.heap := va_Zof (F.st.tb hl) (F.st.tb (List.mem_filter.mp hini).1) hv kA_old
  exact va_gets F.hx F.hb ((va_Z.moved F.hW.alike hZ).kept (kKeptX F)) (kVaS F hs hS) F.hown (F.w hq) hsm hd (kk H locs ls hs hS hl2)
/-- a String constant -/
theorem k_ldcS (F : kF x y cc nL ret hh lev mc ms Po) {tx : String} {index q : Nat} (hZ : vk_R y.cls index tx q x.g.U) (hd : decode cc pc = .ok (.ldc index, 2)) (p' : Nat) (hp : pc + 2 = p') (kk : kW x k n h p' lv (.ref q :: st)) : kW x k n h pc lv st := by
  subst hp
  intro H locs ls hs hS hl
  exact va_ldcS F.hx F.hb F.hown (vk_R.warm F.hW hZ) hd (kk H locs ls hs hS hl)
end
/-- a constant object of the start, its fields known -/
theorem kAtR_obj {l : Launch} {g : kG} (S : kStart l g) {ci : Nat} {C : String} {T : u_T} {N : Nat} {ty : Nat → FieldType} (hc : kCl ci C T N ty) (hN : 0 < N) {t : Term} (hex : (Cond.exactly t C).before #[Value.ref g.b] g.U = true) (fs : List Value)
    (hf : ∀ i, i < N → (Term.field t (T i).1 (T i).2.1 (T i).2.2.1).eval #[Value.ref g.b] g.U none [] g.U = some (vp_V fs i)) : ∃ a, t.eval #[Value.ref g.b] g.U none [] g.U = some (.ref a) ∧ kAtR g a (.inl (ci, fs)) g.U.heap := by
  obtain ⟨a, c, cA, kA', q1, q2, q3, q4, q5, q6, -⟩ := Cond.exactly_spec (args := #[Value.ref g.b]) (first := g.U) (o := none) (s := g.U) (idx := []) (t := t) (cls := C) hex
  have hcl : g.cl[ci]? = some (C, T, N) := by rw [S.2.2.2.1]; exact hc.1
  obtain ⟨hSl, hfc, -⟩ := S.2.2.1.1 ci _ hcl
  have key : ∀ i, i < N → cA.vm ≠ .unknown ∧ cA.slots[g.D.2 ci i]? = some (vp_V fs i) := by
    intro i hi
    obtain ⟨cf, k, fi, f, cell, h1, h2, h3, h4, h5, h6⟩ := vk_OFof (A := kA g) q1 (hf i hi) kA_old
    obtain ⟨cf', k', fi', f', h1', h2'⟩ := hSl i hi
    cases h1.symm.trans h1'
    cases h3.symm.trans q3
    exact ⟨h4, by rw [← h2']; exact h5⟩
  refine ⟨a, q1, (C, T, N), hcl, cA, q3, ?_, q5, (key 0 hN).1, fun i hi => (key i hi).2⟩
  cases q2.symm.trans hfc
  exact q6
/-- a constant array of the start -/
theorem kAtR_arr {l : Launch} {g : kG} (S : kStart l g) {kd m : Nat} {c : (Nat → Int32) ⊕ (Nat → Int64) ⊕ (Nat → UInt32) ⊕ (Nat → UInt64) ⊕ (Nat → Option Nat)} {a : Nat} {f : Nat → Value} (hT : va_T (kAT kd) a m f (kA g) g.U g.U.heap) (hf : ∀ j, j < m → f j = kVr c j) : kAtR g a (.inr (.inl (kd, m, c))) g.U.heap := by
  obtain ⟨cell, h1, h2, h3, h4, h5, h6, h7⟩ := hT
  exact ⟨cell, h1, h2, h3, h4, h5, fun j hj => by rw [h6 j hj, hf j hj]⟩
theorem kEqT {l : Launch} {g : kG} (S : kStart l g) {t : Term} {z : Int32} (h : (Cond.eq t (.int z)).before #[Value.ref g.b] g.U = true) : t.eval #[Value.ref g.b] g.U none [] g.U = some (.int z) := va_eqt h
/-! text as lists of bytes -/
def byL (L : List Int32) : Nat → Int32 := fun j => L.getD j 0
/-- the hash of a text of bytes -/
def hashL (L : List Int32) : Int32 := L.foldl (fun h c => 31 * h + (c &&& 255)) 0
/-- a text whose hash was asked: String a, its bytes at v -/
def eStr (v : Nat) (L : List Int32) : kE := .inl (5, [.ref v, .int 0, .int (hashL L), .int (if hashL L = 0 then 1 else 0)])
def kStr (g : kG) (h : kH) (a : Nat) (L : List Int32) : Prop := ∃ (v : Nat) (t t' : kT) (f : Nat → Int32), t.1 = 0 ∧ t'.1 = 0 ∧ kHs g h a t (eStr v L) ∧ kHs g h v t' (eB L.length f) ∧ ∀ i, i < L.length → f i = byL L i
/-- a String constant: five places of the premises -/
theorem kLit {l : Launch} {g : kG} (S : kStart l g) {own tx : String} {k : Nat} (L : List Int32) (hw : Cond.stringRef own k tx ∈ lw_tbl) (hL : L.length < 2 ^ 31)
    (h1 : (Cond.exactly (.string own k) "java/lang/String").before #[Value.ref g.b] g.U = true)
    (h2 : (Cond.eq (.field (.string own k) "java/lang/String" "coder" "B") (.int 0)).before #[Value.ref g.b] g.U = true)
    (h3 : (Cond.eq (.field (.string own k) "java/lang/String" "hash" "I") (.int (hashL L))).before #[Value.ref g.b] g.U = true)
    (h4 : (Cond.eq (.field (.string own k) "java/lang/String" "hashIsZero" "Z") (.int (if hashL L = 0 then 1 else 0))).before #[Value.ref g.b] g.U = true)
    (h5 : (Cond.arrayOf (.field (.string own k) "java/lang/String" "value" "[B") .byte).before #[Value.ref g.b] g.U = true)
    (h6 : (Cond.eq (.length (.field (.string own k) "java/lang/String" "value" "[B")) (.int (Int32.ofNat L.length))).before #[Value.ref g.b] g.U = true)
    (h7 : ∀ j, j < L.length → (Cond.eq (.elem (.field (.string own k) "java/lang/String" "value" "[B") (.int (Int32.ofNat j))) (.int (byL L j))).before #[Value.ref g.b] g.U = true) :
    ∃ a, vk_R own k tx a g.U ∧ ∀ h : kH, kStr g h a L := by
  obtain ⟨v, hv, hT⟩ := va_Tof (f := fun j => .int (byL L j)) (A := kA g) hL h5 (va_eqt h6) (fun j hj => va_eqt (h7 j hj)) kA_old
  obtain ⟨a, ha, hO⟩ := kAtR_obj S (ci := 5) (C := "java/lang/String") (T := TJ10) (N := 4) (ty := tyJ10) ⟨rfl, in_J10, tyJ10_ok⟩ (by decide) h1 [.ref v, .int 0, .int (hashL L), .int (if hashL L = 0 then 1 else 0)] (by
    intro i hi
    rcases (show i = 0 ∨ i = 1 ∨ i = 2 ∨ i = 3 by omega) with rfl | rfl | rfl | rfl
    · exact hv
    · exact va_eqt h2
    · exact va_eqt h3
    · exact va_eqt h4)
  refine ⟨a, ⟨S.tb hw, ?_⟩, fun h => ⟨v, (0, 0, 0), (0, 0, 0), byL L, rfl, rfl, Or.inr ⟨rfl, hO⟩, Or.inr ⟨rfl, kAtR_arr S hT (fun j hj => rfl)⟩, fun i hi => rfl⟩⟩
  rw [← ha]
  rfl
/-! the premises as a list -/
def nLeaf : Cond → List Cond → List Cond
  | .and a b, acc => nLeaf a (nLeaf b acc)
  | c, acc => c :: acc
theorem nLeaf_ok {A : Array Value} {U : State} : ∀ (c : Cond) (acc : List Cond), c.before A U = true → (∀ w ∈ acc, w.before A U = true) → ∀ w ∈ nLeaf c acc, w.before A U = true := by
  intro c
  induction c with
  | and a b iha ihb =>
    intro acc h ha
    exact iha _ (kAnd h).1 (ihb _ (kAnd h).2 ha)
  | _ =>
    intro acc h ha w hw
    rcases List.mem_cons.mp hw with e | e
    · rw [e]; exact h
    · exact ha w e
theorem kStart.leaf {l : Launch} {g : kG} (S : kStart l g) (p : Nat) : ∀ w ∈ (nLeaf narrow_1 []).drop p, w.before #[Value.ref g.b] g.U = true := fun w hw => nLeaf_ok narrow_1 [] S.nar (fun _ h => by cases h) w (List.mem_of_mem_drop hw)
def isExS (own : String) (k : Nat) : Cond → Bool
  | .exactly (.string o q) c => o == own && (q == k && c == "java/lang/String")
  | _ => false
def isFi (own : String) (k : Nat) (n d : String) (z : Int32) : Cond → Bool
  | .eq (.field (.string o q) a b c) (.int w) => o == own && (q == k && (a == "java/lang/String" && (b == n && (c == d && w == z))))
  | _ => false
def isAr (own : String) (k : Nat) : Cond → Bool
  | .arrayOf (.field (.string o q) a b c) .byte => o == own && (q == k && (a == "java/lang/String" && (b == "value" && c == "[B")))
  | _ => false
def isLe (own : String) (k : Nat) (z : Int32) : Cond → Bool
  | .eq (.length (.field (.string o q) a b c)) (.int w) => o == own && (q == k && (a == "java/lang/String" && (b == "value" && (c == "[B" && w == z))))
  | _ => false
def isEl (own : String) (k j : Nat) (z : Int32) : Cond → Bool
  | .eq (.elem (.field (.string o q) a b c) (.int i)) (.int w) => o == own && (q == k && (a == "java/lang/String" && (b == "value" && (c == "[B" && (i == Int32.ofNat j && w == z)))))
  | _ => false
theorem isExS_s {own : String} {k : Nat} {c : Cond} (h : isExS own k c = true) : c = .exactly (.string own k) "java/lang/String" := by
  unfold isExS at h
  split at h
  · simp only [Bool.and_eq_true, beq_iff_eq] at h
    obtain ⟨rfl, rfl, rfl⟩ := h
    rfl
  · cases h
theorem isFi_s {own n d : String} {k : Nat} {z : Int32} {c : Cond} (h : isFi own k n d z c = true) : c = .eq (.field (.string own k) "java/lang/String" n d) (.int z) := by
  unfold isFi at h
  split at h
  · simp only [Bool.and_eq_true, beq_iff_eq] at h
    obtain ⟨rfl, rfl, rfl, rfl, rfl, rfl⟩ := h
    rfl
  · cases h
theorem isAr_s {own : String} {k : Nat} {c : Cond} (h : isAr own k c = true) : c = .arrayOf (.field (.string own k) "java/lang/String" "value" "[B") .byte := by
  unfold isAr at h
  split at h
  · simp only [Bool.and_eq_true, beq_iff_eq] at h
    obtain ⟨rfl, rfl, rfl, rfl, rfl⟩ := h
    rfl
  · cases h
theorem isLe_s {own : String} {k : Nat} {z : Int32} {c : Cond} (h : isLe own k z c = true) : c = .eq (.length (.field (.string own k) "java/lang/String" "value" "[B")) (.int z) := by
  unfold isLe at h
  split at h
  · simp only [Bool.and_eq_true, beq_iff_eq] at h
    obtain ⟨rfl, rfl, rfl, rfl, rfl, rfl⟩ := h
    rfl
  · cases h
theorem isEl_s {own : String} {k j : Nat} {z : Int32} {c : Cond} (h : isEl own k j z c = true) : c = .eq (.elem (.field (.string own k) "java/lang/String" "value" "[B") (.int (Int32.ofNat j))) (.int z) := by
  unfold isEl at h
  split at h
  · simp only [Bool.and_eq_true, beq_iff_eq] at h
    obtain ⟨rfl, rfl, rfl, rfl, rfl, rfl, rfl⟩ := h
    rfl
  · cases h
def elsOk (own : String) (k : Nat) : List Int32 → Nat → List Cond → Option (List Cond)
  | [], _, cs => some cs
  | z :: L, j, c :: cs => if isEl own k j z c = true then elsOk own k L (j + 1) cs else none
  | _ :: _, _, [] => none
theorem elsOk_s {own : String} {k : Nat} {A : Array Value} {U : State} : ∀ (L : List Int32) (j : Nat) (cs r : List Cond), elsOk own k L j cs = some r → (∀ w ∈ cs, w.before A U = true) → (∀ w ∈ r, w.before A U = true) ∧ ∀ i, i < L.length → (Cond.eq (.elem (.field (.string own k) "java/lang/String" "value" "[B") (.int (Int32.ofNat (j + i)))) (.int (byL L i))).before A U = true
  | [], j, cs, r, h, hw => by
    cases h
    exact ⟨hw, fun i hi => absurd hi (by simp)⟩
  | z :: L, j, [], r, h, hw => by cases h
  | z :: L, j, c :: cs, r, h, hw => by
    unfold elsOk at h
    split at h
    · rename_i q
      obtain ⟨h1, h2⟩ := elsOk_s L (j + 1) cs r h (fun w hx => hw w (List.mem_cons_of_mem _ hx))
      refine ⟨h1, fun i hi => ?_⟩
      cases i with
      | zero =>
        have := hw c List.mem_cons_self
        rw [isEl_s q] at this
        exact this
      | succ i =>
        have := h2 i (by simpa using hi)
        rw [show j + 1 + i = j + (i + 1) from by omega] at this
        exact this
    · cases h
def litOk (own : String) (k : Nat) (L : List Int32) : List Cond → Bool
  | c1 :: c2 :: c3 :: c4 :: cs => isExS own k c1 && (isFi own k "coder" "B" 0 c2 && (isAr own k c3 && (isLe own k (Int32.ofNat L.length) c4 && (match elsOk own k L 0 cs with
    | some (c5 :: c6 :: _) => isFi own k "hash" "I" (hashL L) c5 && isFi own k "hashIsZero" "Z" (if hashL L = 0 then 1 else 0) c6
    | _ => false))))
  | _ => false
theorem kLitP {l : Launch} {g : kG} (S : kStart l g) {own tx : String} {k : Nat} (p : Nat) (L : List Int32) (hw : Cond.stringRef own k tx ∈ lw_tbl) (hL : L.length < 2 ^ 31) (h : litOk own k L ((nLeaf narrow_1 []).drop p) = true) : ∃ a, vk_R own k tx a g.U ∧ ∀ h : kH, kStr g h a L := by
  have hl := S.leaf p
  generalize (nLeaf narrow_1 []).drop p = l9 at h hl
  unfold litOk at h
  split at h
  · rename_i c1 c2 c3 c4 cs
    simp only [Bool.and_eq_true] at h
    obtain ⟨h1, h2, h3, h4, h5⟩ := h
    split at h5
    · rename_i c5 c6 r9 he
      simp only [Bool.and_eq_true] at h5
      obtain ⟨g1, g2⟩ := elsOk_s L 0 cs _ he (fun w hx => hl w (by simp [hx]))
      have e1 := hl c1 (by simp)
      have e2 := hl c2 (by simp)
      have e3 := hl c3 (by simp)
      have e4 := hl c4 (by simp)
      have e5 := g1 c5 (by simp)
      have e6 := g1 c6 (by simp)
      rw [isExS_s h1] at e1
      rw [isFi_s h2] at e2
      rw [isAr_s h3] at e3
      rw [isLe_s h4] at e4
      rw [isFi_s h5.1] at e5
      rw [isFi_s h5.2] at e6
      refine kLit S L hw hL e1 e2 e5 e6 e3 e4 (fun j hj => ?_)
      have := g2 j hj
      rw [Nat.zero_add] at this
      exact this
    · cases h5
  · cases h
theorem kRefT {A : Array Value} {U : State} {t : Term} (h : (Cond.isRef t).before A U = true) : ∃ o : Option Nat, t.eval A U none [] U = some (va_rf o) := by
  simp only [Cond.before, Cond.holds, Cond.value] at h
  cases hv : t.eval A U none [] U with
  | none => simp [hv] at h
  | some v =>
    rw [hv] at h
    cases v with
    | ref a => exact ⟨some a, rfl⟩
    | null => exact ⟨none, rfl⟩
    | _ => simp at h
