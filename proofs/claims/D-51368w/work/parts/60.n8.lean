/-! the component: texts -/
theorem kd_J16_equals : kCd (Cond.code yJ16_equals cJ16_equals 3 (Option.some Jvm.ClassFile.FieldType.boolean)) yJ16_equals cJ16_equals 3 (Option.some Jvm.ClassFile.FieldType.boolean) [] := kCd_code (by decide +kernel)
theorem kd_J10_equals : kCd (Cond.code yJ10_equals cJ10_equals 3 (Option.some Jvm.ClassFile.FieldType.boolean)) yJ10_equals cJ10_equals 3 (Option.some Jvm.ClassFile.FieldType.boolean) [] := kCd_code (by decide +kernel)
theorem kd_J10_hashCode : kCd (Cond.code yJ10_hashCode cJ10_hashCode 2 (Option.some Jvm.ClassFile.FieldType.int)) yJ10_hashCode cJ10_hashCode 2 (Option.some Jvm.ClassFile.FieldType.int) [] := kCd_code (by decide +kernel)
theorem kd_J16_hashCode : kCd (Cond.code yJ16_hashCode cJ16_hashCode 1 (Option.some Jvm.ClassFile.FieldType.int)) yJ16_hashCode cJ16_hashCode 1 (Option.some Jvm.ClassFile.FieldType.int) [] := kCd_code (by decide +kernel)
theorem kd_J12_hashCode_2 : kCd (Cond.code yJ12_hashCode_2 cJ12_hashCode_2 6 (Option.some Jvm.ClassFile.FieldType.int)) yJ12_hashCode_2 cJ12_hashCode_2 6 (Option.some Jvm.ClassFile.FieldType.int) [] := kCd_code (by decide +kernel)
theorem byL_ext : ∀ {L L' : List Int32}, L.length = L'.length → (∀ i, i < L.length → byL L i = byL L' i) → L = L'
  | [], [], _, _ => rfl
  | [], _ :: _, h, _ => by cases h
  | _ :: _, [], h, _ => by cases h
  | a :: L, b :: L', h, e => by
    have h0 : a = b := e 0 (Nat.succ_pos _)
    have h1 : L = L' := byL_ext (Nat.succ.inj h) (fun i hi => e (i + 1) (Nat.succ_lt_succ hi))
    rw [h0, h1]
/-- a text: constant or made -/
def StE (g : kG) (h : kH) (s : Nat) (L : List Int32) : Prop := L.length < 1000000 ∧ ∃ (v : Nat) (t t' : kT) (f : Nat → Int32) (a b : Int32), kHs g h s t (eO 5 [.ref v, .int 0, .int a, .int b]) ∧ kHs g h v t' (eB L.length f) ∧ ∀ i, i < L.length → f i = byL L i
theorem StE.lit {g : kG} {h : kH} {s : Nat} {L : List Int32} (hs : kStr g h s L) (hL : L.length < 1000000) : StE g h s L := by
  obtain ⟨v, t, t', f, -, -, h1, h2, h3⟩ := hs
  exact ⟨hL, v, t, t', f, _, _, h1, h2, h3⟩
set_option maxHeartbeats 4000000 in
set_option maxRecDepth 100000 in
theorem zJ16_equals {l : Launch} {g : kG} (S : kStart l g) {h : kH} {v w : Nat} {t t' : kT} {L L' : List Int32} {f f' : Nat → Int32} (hv : kHs g h v t (eB L.length f)) (hw : kHs g h w t' (eB L'.length f')) (e1 : ∀ i, i < L.length → f i = byL L i) (e2 : ∀ i, i < L'.length → f' i = byL L' i) (h1 : L.length < 1000000) (h2 : L'.length < 1000000) : kMet l g yJ16_equals (Cond.code yJ16_equals cJ16_equals 3 (Option.some Jvm.ClassFile.FieldType.boolean)) 1 0 0 [.ref v, .ref w] h (mRd h (.int (kB (decide (L = L'))))) := by
  refine kEnter S kd_J16_equals (Nat.le_of_ble_eq_true rfl) (fun x F hxl hxg => ?_)
  subst hxl; subst hxg
  have hlv : lv_args 0 [.ref v, .ref w] = [(0, .ref v), (1, .ref w)] := rfl
  rw [hlv]
  refine k_aload_n F dJ16_equals_0 1 rfl rfl rfl ?_
  refine k_alen F dJ16_equals_1 2 rfl hv (by decide) (fun cA => vp_arr' cA _ _) ?_
  refine k_aload_n F dJ16_equals_2 3 rfl rfl rfl ?_
  refine k_alen F dJ16_equals_3 4 rfl hw (by decide) (fun cA => vp_arr' cA _ _) ?_
  have A : L.length = L'.length → ∀ (n i : Nat), L.length - i < n → i ≤ L.length → (∀ j, j < i → byL L j = byL L' j) → kW x 0 0 h 9 [(0, .ref v), (1, .ref w), (2, .int (nI i))] [] := by
    intro hl n
    induction n with
    | zero => intro i hn; omega
    | succ n ih =>
      intro i hn hi hj
      refine k_iload_n F dJ16_equals_9 10 rfl rfl rfl ?_
      refine k_aload_n F dJ16_equals_10 11 rfl rfl rfl ?_
      refine k_alen F dJ16_equals_11 12 rfl hv (by decide) (fun cA => vp_arr' cA _ _) ?_
      refine k_icmpge F dJ16_equals_12 15 32 rfl (by decide) (fun c_a => ?_) (fun c_a => ?_)
      · rw [nI_leE (by omega) (by omega)] at c_a
        refine k_iconst (v := 1) F dJ16_equals_32 33 rfl (by decide) ?_
        have : L = L' := byL_ext hl (fun j hj9 => hj j (by omega))
        exact k_zret F dJ16_equals_33 (by first | rfl | exact kzb _ | exact pk_nc _ | decide) (by first | exact Nat.le_of_ble_eq_true rfl | omega) (by first | exact Nat.le_of_ble_eq_true rfl | omega) ⟨by rw [decide_eq_true this]; rfl, rfl⟩
      · rw [nI_leE (by omega) (by omega)] at c_a
        refine k_aload_n F dJ16_equals_15 16 rfl rfl rfl ?_
        refine k_iload_n F dJ16_equals_16 17 rfl rfl rfl ?_
        refine k_bald F dJ16_equals_17 18 rfl hv (j := i) rfl (by omega) (by omega) ?_
        refine k_aload_n F dJ16_equals_18 19 rfl rfl rfl ?_
        refine k_iload_n F dJ16_equals_19 20 rfl rfl rfl ?_
        refine k_bald F dJ16_equals_20 21 rfl hw (j := i) rfl (by omega) (by omega) ?_
        rw [e1 i (by omega), e2 i (by omega)]
        refine k_icmpeq F dJ16_equals_21 24 26 rfl (by decide) (fun c_d => ?_) (fun c_d => ?_)
        · refine k_iinc (e := 1) (lv' := [(0, _), (1, _), (2, _)]) F dJ16_equals_26 29 rfl rfl (by decide) rfl (Nat.le_of_ble_eq_true rfl) rfl rfl rfl ?_
          rw [nI_1']
          refine k_goto F dJ16_equals_29 9 (by decide) ?_
          exact ih (i + 1) (by omega) (by omega) (fun j hj9 => by
            by_cases z : j = i
            · rw [z]; exact c_d
            · exact hj j (by omega))
        · refine k_iconst (v := 0) F dJ16_equals_24 25 rfl (by decide) ?_
          have : ¬ L = L' := fun z => c_d (by rw [z])
          exact k_zret F dJ16_equals_25 (by first | rfl | exact kzb _ | exact pk_nc _ | decide) (by first | exact Nat.le_of_ble_eq_true rfl | omega) (by first | exact Nat.le_of_ble_eq_true rfl | omega) ⟨by rw [decide_eq_false this]; rfl, rfl⟩
  refine k_icmpne F dJ16_equals_4 7 34 rfl (by decide) (fun c_z => ?_) (fun c_z => ?_)
  · rw [nI_inj (by omega) (by omega)] at c_z
    refine k_iconst (v := 0) F dJ16_equals_34 35 rfl (by decide) ?_
    have : ¬ L = L' := fun z => c_z (by rw [z])
    exact k_zret F dJ16_equals_35 (by first | rfl | exact kzb _ | exact pk_nc _ | decide) (by first | exact Nat.le_of_ble_eq_true rfl | omega) (by first | exact Nat.le_of_ble_eq_true rfl | omega) ⟨by rw [decide_eq_false this]; rfl, rfl⟩
  · rw [nI_inj (by omega) (by omega)] at c_z
    refine k_iconst (v := 0) F dJ16_equals_7 8 rfl (by decide) ?_
    refine k_istore_n (lv' := [(0, _), (1, _), (2, _)]) F dJ16_equals_8 9 rfl rfl (Nat.le_of_ble_eq_true rfl) rfl rfl rfl ?_
    exact A c_z (L.length + 1) 0 (by omega) (by omega) (fun j hj => by omega)
theorem kW.sim {x : kX} {k n : Nat} {h : kH} {pc : Nat} {lv : List (Nat × Value)} {st : List Value} (kk : ∀ H, kSim x.g h H → kW x k n h pc lv st) : kW x k n h pc lv st := fun H locs ls hs => kk H hs H locs ls hs
/-- one address holds one text -/
theorem StE.uniq {x : kX} {y : MethodName} {cc : ByteArray} {nL lev mc ms : Nat} {ret : Option FieldType} {hh : List (Nat × Nat × Nat × Nat)} {Po : kR → kH → Prop} (F : kF x y cc nL ret hh lev mc ms Po) {h : kH} {H : Heap} (hs : kSim x.g h H) {s : Nat} {L L' : List Int32} (a : StE x.g h s L) (b : StE x.g h s L') : L = L' := by
  obtain ⟨a0, v, t1, t2, f, p1, p2, a1, a2, a3⟩ := a
  obtain ⟨b0, w, t3, t4, f', p3, p4, b1, b2, b3⟩ := b
  obtain ⟨r, r1, cell, c1, c2, c3, c4, c5⟩ := hs.atO a1
  obtain ⟨r', r1', cell', c1', c2', c3', c4', c5'⟩ := hs.atO b1
  cases r1.symm.trans r1'
  cases c1.symm.trans c1'
  have hr : r = (RJ10, TJ10, 4) := Option.some.inj (r1.symm.trans (F.cl kcJ10))
  subst hr
  have h0 := (c5 0 (by decide)).symm.trans (c5' 0 (by decide))
  have hvw : v = w := by
    have h9 : vp_V [.ref v, .int 0, .int p1, .int p2] 0 = vp_V [.ref w, .int 0, .int p3, .int p4] 0 := Option.some.inj h0
    have h8 : (Value.ref v) = .ref w := h9
    cases h8
    rfl
  subst hvw
  obtain ⟨cl, d1, d2, d3, d4, d5, d6⟩ := F.isA (show 1 < 10 by decide) hs a2
  obtain ⟨cl', d1', d2', d3', d4', d5', d6'⟩ := F.isA (show 1 < 10 by decide) hs b2
  cases d1.symm.trans d1'
  have hl : L.length = L'.length := by
    have h9 := d5.symm.trans d5'
    dsimp only at h9
    rwa [nI_inj (by omega) (by omega)] at h9
  refine byL_ext hl (fun i hi => ?_)
  have h9 := (d6 i hi).symm.trans (d6' i (by dsimp only; omega))
  have h8 : (Value.int (f i)) = .int (f' i) := Option.some.inj h9
  rw [← a3 i hi, ← b3 i (by omega)]
  exact Value.int.inj h8
set_option maxHeartbeats 4000000 in
set_option maxRecDepth 100000 in
theorem zJ10_equals {l : Launch} {g : kG} (S : kStart l g) {h : kH} {s s' : Nat} {L L' : List Int32} (ha : StE g h s L) (hb : StE g h s' L') : kMet l g yJ10_equals (Cond.code yJ10_equals cJ10_equals 3 (Option.some Jvm.ClassFile.FieldType.boolean)) 2 0 0 [.ref s, .ref s'] h (mRd h (.int (kB (decide (L = L'))))) := by
  refine kEnter S kd_J10_equals (Nat.le_of_ble_eq_true rfl) (fun x F hxl hxg => ?_)
  subst hxl; subst hxg
  have hlv : lv_args 0 [.ref s, .ref s'] = [(0, .ref s), (1, .ref s')] := rfl
  rw [hlv]
  refine kW.sim (fun H hs => ?_)
  obtain ⟨h1, v, t1, t2, f, p1, p2, a1, a2, a3⟩ := id ha
  obtain ⟨h2, w, t3, t4, f', p3, p4, b1, b2, b3⟩ := id hb
  refine k_aload_n F dJ10_equals_0 1 rfl rfl rfl ?_
  refine k_aload_n F dJ10_equals_1 2 rfl rfl rfl ?_
  by_cases hss : s = s'
  · subst hss
    have hLL : L = L' := StE.uniq F hs ha hb
    refine k_acmpne (a := some s) (b := some s) F dJ10_equals_2 5 7 rfl (by decide) (fun c_ => absurd rfl c_) (fun _ => ?_)
    refine k_iconst (v := 1) F dJ10_equals_5 6 rfl (by decide) ?_
    exact k_zret F dJ10_equals_6 (by first | rfl | exact kzb _ | exact pk_nc _ | decide) (by first | exact Nat.le_of_ble_eq_true rfl | omega) (by first | exact Nat.le_of_ble_eq_true rfl | omega) ⟨by rw [decide_eq_true hLL]; rfl, rfl⟩
  · refine k_acmpne (a := some s) (b := some s') F dJ10_equals_2 5 7 rfl (by decide) (fun _ => ?_) (fun c_ => absurd (Option.some.inj c_) hss)
    refine k_aload_n F dJ10_equals_7 8 rfl rfl rfl ?_
    refine k_instE F kcJ10 q1534 dJ10_equals_8 11 rfl b1 ?_
    refine k_ifeq F dJ10_equals_11 14 54 rfl (by decide) (fun c_ => (by first | exact absurd rfl c_ | exact absurd c_ (by decide) | exact absurd (by assumption) c_ | exact absurd c_ (by assumption))) (fun _ => ?_)
    refine k_aload_n F dJ10_equals_14 15 rfl rfl rfl ?_
    refine k_castE F kcJ10 q1534 dJ10_equals_15 18 rfl b1 ?_
    refine k_astore_n (lv' := [(0, _), (1, _), (2, _)]) F dJ10_equals_18 19 rfl rfl (Nat.le_of_ble_eq_true rfl) rfl rfl rfl ?_
    refine k_gets F q314 q161 (st_J10_COMPACT_STRINGS F.st) q423 (fun _ e => e) dJ10_equals_19 22 rfl ?_
    refine k_ifeq F dJ10_equals_22 25 36 rfl (by decide) (fun c_ => (by first | exact absurd rfl c_ | exact absurd c_ (by decide) | exact absurd (by assumption) c_ | exact absurd c_ (by assumption))) (fun _ => ?_)
    refine k_aload_n F dJ10_equals_25 26 rfl rfl rfl ?_
    refine k_get F kcJ10 1 (by decide) q565 (fun _ e => e) dJ10_equals_26 29 rfl a1 rfl ?_
    refine k_aload_n F dJ10_equals_29 30 rfl rfl rfl ?_
    refine k_get F kcJ10 1 (by decide) q565 (fun _ e => e) dJ10_equals_30 33 rfl b1 rfl ?_
    refine k_icmpne F dJ10_equals_33 36 54 rfl (by decide) (fun c_ => (absurd rfl c_)) (fun _ => ?_)
    refine k_aload_n F dJ10_equals_36 37 rfl rfl rfl ?_
    refine k_get F kcJ10 0 (by decide) q564 (fun _ e => e) dJ10_equals_37 40 rfl a1 rfl ?_
    refine k_aload_n F dJ10_equals_40 41 rfl rfl rfl ?_
    refine k_get F kcJ10 0 (by decide) q564 (fun _ e => e) dJ10_equals_41 44 rfl b1 rfl ?_
    refine k_callV F kd_J16_equals q1765 q168 (kInvS (Bs := [_, _]) F q1763 q1764 q168 kd_J16_equals q1765 dJ10_equals_44 rfl (by decide)) (zJ16_equals F.st a2 b2 a3 b3 h1 h2) 47 rfl (Nat.le_of_ble_eq_true rfl) (by first | exact Nat.le_of_ble_eq_true rfl | omega) (by first | exact Nat.le_of_ble_eq_true rfl | omega) (by first | exact Nat.le_of_ble_eq_true rfl | omega) (by first | exact Nat.le_of_ble_eq_true rfl | omega) (fun r1 h1 hr1 => ?_)
    obtain ⟨rfl, rfl⟩ := hr1
    refine k_ifeq F dJ10_equals_47 50 54 rfl (by decide) (fun c_z => ?_) (fun c_z => ?_)
    · rw [kB_0] at c_z
      refine k_iconst (v := 0) F dJ10_equals_54 55 rfl (by decide) ?_
      exact k_zret F dJ10_equals_55 (by first | rfl | exact kzb _ | exact pk_nc _ | decide) (by first | exact Nat.le_of_ble_eq_true rfl | omega) (by first | exact Nat.le_of_ble_eq_true rfl | omega) ⟨by rw [c_z]; rfl, rfl⟩
    · rw [kB_0, Bool.not_eq_false] at c_z
      refine k_iconst (v := 1) F dJ10_equals_50 51 rfl (by decide) ?_
      refine k_goto F dJ10_equals_51 55 (by decide) ?_
      exact k_zret F dJ10_equals_55 (by first | rfl | exact kzb _ | exact pk_nc _ | decide) (by first | exact Nat.le_of_ble_eq_true rfl | omega) (by first | exact Nat.le_of_ble_eq_true rfl | omega) ⟨by rw [c_z]; rfl, rfl⟩
/-- the hash of the first i bytes -/
def hTo (L : List Int32) (i : Nat) : Int32 := (L.take i).foldl (fun h c => 31 * h + (c &&& 255)) 0
theorem hTo_all {L : List Int32} : hTo L L.length = hashL L := by
  unfold hTo hashL
  rw [List.take_length]
theorem hTo_s {L : List Int32} {i : Nat} (hi : i < L.length) : hTo L (i + 1) = 31 * hTo L i + (byL L i &&& 255) := by
  unfold hTo byL
  rw [List.take_succ, List.foldl_append, List.getElem?_eq_getElem hi]
  simp [List.getD_eq_getElem?_getD, List.getElem?_eq_getElem hi]
theorem kd_J12_signedHashCode : kCd (Cond.code yJ12_signedHashCode cJ12_signedHashCode 6 (Option.some Jvm.ClassFile.FieldType.int)) yJ12_signedHashCode cJ12_signedHashCode 6 (Option.some Jvm.ClassFile.FieldType.int) [] := kCd_code (by decide +kernel)
theorem kd_J12_vectorizedHashCode : kCd (Cond.code yJ12_vectorizedHashCode cJ12_vectorizedHashCode 5 (Option.some Jvm.ClassFile.FieldType.int)) yJ12_vectorizedHashCode cJ12_vectorizedHashCode 5 (Option.some Jvm.ClassFile.FieldType.int) [] := kCd_code (by decide +kernel)
set_option maxHeartbeats 4000000 in
set_option maxRecDepth 100000 in
theorem zJ12_signedHashCode {l : Launch} {g : kG} (S : kStart l g) {h : kH} {v : Nat} {t' : kT} {L : List Int32} {f : Nat → Int32} (hv : kHs g h v t' (eB L.length f)) (e1 : ∀ i, i < L.length → f i = byL L i) (h1 : L.length < 1000000) : kMet l g yJ12_signedHashCode (Cond.code yJ12_signedHashCode cJ12_signedHashCode 6 (Option.some Jvm.ClassFile.FieldType.int)) 1 0 0 [.int 0, .ref v, .int 0, .int (nI L.length)] h (mRd h (.int (hashL L))) := by
  refine kEnter S kd_J12_signedHashCode (Nat.le_of_ble_eq_true rfl) (fun x F hxl hxg => ?_)
  subst hxl; subst hxg
  have hlv : lv_args 0 [.int 0, .ref v, .int 0, .int (nI L.length)] = [(0, .int 0), (1, .ref v), (2, .int 0), (3, .int (nI L.length))] := rfl
  rw [hlv]
  have A : ∀ (n j : Nat), L.length - j < n → j ≤ L.length → kW x 0 0 h 8 [(0, .int (hTo L j)), (1, .ref v), (2, .int (nI 0)), (3, .int (nI L.length)), (4, .int (nI L.length)), (5, .int (nI j))] [] := by
    intro n
    induction n with
    | zero => intro j hn; omega
    | succ n ih =>
      intro j hn hj
      refine k_iload F dJ12_signedHashCode_8 10 rfl rfl ?_
      refine k_iload F dJ12_signedHashCode_10 12 rfl rfl ?_
      refine k_icmpge F dJ12_signedHashCode_12 15 35 rfl (by decide) (fun c_a => ?_) (fun c_a => ?_)
      · rw [nI_leE (by omega) (by omega)] at c_a
        refine k_iload_n F dJ12_signedHashCode_35 36 rfl rfl rfl ?_
        have : j = L.length := by omega
        exact k_iret F dJ12_signedHashCode_36 (by first | exact Nat.le_of_ble_eq_true rfl | omega) (by first | exact Nat.le_of_ble_eq_true rfl | omega) ⟨by rw [← hTo_all, this], rfl⟩
      · rw [nI_leE (by omega) (by omega)] at c_a
        refine k_bipush (v := 31) F dJ12_signedHashCode_15 17 rfl (by decide) ?_
        refine k_iload_n F dJ12_signedHashCode_17 18 rfl rfl rfl ?_
        refine k_imul F dJ12_signedHashCode_18 19 rfl ?_
        refine k_aload_n F dJ12_signedHashCode_19 20 rfl rfl rfl ?_
        refine k_iload F dJ12_signedHashCode_20 22 rfl rfl ?_
        refine k_bald F dJ12_signedHashCode_22 23 rfl hv (j := j) rfl (by omega) (by omega) ?_
        rw [e1 j (by omega)]
        refine k_sipush (v := 255) F dJ12_signedHashCode_23 26 rfl (by decide) ?_
        refine k_iand F dJ12_signedHashCode_26 27 rfl ?_
        refine k_iadd F dJ12_signedHashCode_27 28 rfl ?_
        refine k_topi (b := hTo L (j + 1)) (hTo_s (by omega)).symm ?_
        refine k_istore_n (lv' := [(0, _), (1, _), (2, _), (3, _), (4, _), (5, _)]) F dJ12_signedHashCode_28 29 rfl rfl (Nat.le_of_ble_eq_true rfl) rfl rfl rfl ?_
        refine k_iinc (e := 1) (lv' := [(0, _), (1, _), (2, _), (3, _), (4, _), (5, _)]) F dJ12_signedHashCode_29 32 rfl rfl (by decide) rfl (Nat.le_of_ble_eq_true rfl) rfl rfl rfl ?_
        rw [nI_1']
        refine k_goto F dJ12_signedHashCode_32 8 (by decide) ?_
        exact ih (j + 1) (by omega) (by omega)
  refine k_iload_n F dJ12_signedHashCode_0 1 rfl rfl rfl ?_
  refine k_iload_n F dJ12_signedHashCode_1 2 rfl rfl rfl ?_
  refine k_iadd F dJ12_signedHashCode_2 3 rfl ?_
  refine k_topi (b := nI L.length) (by show nI 0 + nI L.length = _; rw [nI_add, Nat.zero_add]) ?_
  refine k_istore (lv' := [(0, _), (1, _), (2, _), (3, _), (4, _)]) F dJ12_signedHashCode_3 5 rfl (Nat.le_of_ble_eq_true rfl) rfl rfl rfl ?_
  refine k_iload_n F dJ12_signedHashCode_5 6 rfl rfl rfl ?_
  refine k_istore (lv' := [(0, _), (1, _), (2, _), (3, _), (4, _), (5, _)]) F dJ12_signedHashCode_6 8 rfl (Nat.le_of_ble_eq_true rfl) rfl rfl rfl ?_
  exact A (L.length + 1) 0 (by omega) (by omega)
set_option maxHeartbeats 4000000 in
set_option maxRecDepth 100000 in
theorem zJ12_vectorizedHashCode {l : Launch} {g : kG} (S : kStart l g) {h : kH} {v : Nat} {t' : kT} {L : List Int32} {f : Nat → Int32} (hv : h v = some (t', eB L.length f)) (e1 : ∀ i, i < L.length → f i = byL L i) (h1 : L.length < 1000000) : kMet l g yJ12_vectorizedHashCode (Cond.code yJ12_vectorizedHashCode cJ12_vectorizedHashCode 5 (Option.some Jvm.ClassFile.FieldType.int)) 3 0 0 [.ref v, .int 0, .int (nI L.length), .int 0, .int 4] h (mRd h (.int (hashL L))) := by
  refine kEnter S kd_J12_vectorizedHashCode (Nat.le_of_ble_eq_true rfl) (fun x F hxl hxg => ?_)
  subst hxl; subst hxg
  have hlv : lv_args 0 [.ref v, .int 0, .int (nI L.length), .int 0, .int 4] = [(0, .ref v), (1, .int 0), (2, .int (nI L.length)), (3, .int 0), (4, .int 4)] := rfl
  rw [hlv]
  refine k_iload F dJ12_vectorizedHashCode_0 2 rfl rfl ?_
  refine k_tableIn F dJ12_vectorizedHashCode_2 (off := 42) 44 (by decide) (by decide) (by decide) (by decide) ?_
  refine k_iload_n F dJ12_vectorizedHashCode_44 45 rfl rfl rfl ?_
  refine k_aload_n F dJ12_vectorizedHashCode_45 46 rfl rfl rfl ?_
  refine k_castB F q1342 dJ12_vectorizedHashCode_46 49 rfl hv ?_
  refine k_iload_n F dJ12_vectorizedHashCode_49 50 rfl rfl rfl ?_
  refine k_iload_n F dJ12_vectorizedHashCode_50 51 rfl rfl rfl ?_
  refine k_callV F kd_J12_signedHashCode q1345 q163 (kInvS (Bs := [_, _, _, _]) F q1343 q1344 q163 kd_J12_signedHashCode q1345 dJ12_vectorizedHashCode_51 rfl (by decide)) (zJ12_signedHashCode F.st (kHs.of hv) e1 h1) 54 rfl (Nat.le_of_ble_eq_true rfl) (by first | exact Nat.le_of_ble_eq_true rfl | omega) (by first | exact Nat.le_of_ble_eq_true rfl | omega) (by first | exact Nat.le_of_ble_eq_true rfl | omega) (by first | exact Nat.le_of_ble_eq_true rfl | omega) (fun r1 h1 hr1 => ?_)
  obtain ⟨rfl, rfl⟩ := hr1
  refine k_goto F dJ12_vectorizedHashCode_54 157 (by decide) ?_
  exact k_iret F dJ12_vectorizedHashCode_157 (by first | exact Nat.le_of_ble_eq_true rfl | omega) (by first | exact Nat.le_of_ble_eq_true rfl | omega) ⟨rfl, rfl⟩
theorem lk_2 {n : Nat} (h : 2 ≤ n) (h1 : n < 1000000) : Op.lookupswitch.offset [(0, 26), (1, 30)] 40 (nI n).toInt = 40 := by
  rw [nI_toInt (by omega)]
  simp [Op.lookupswitch.offset]
  omega
set_option maxHeartbeats 4000000 in
set_option maxRecDepth 100000 in
theorem zJ16_hashCode {l : Launch} {g : kG} (S : kStart l g) {h : kH} {v : Nat} {t' : kT} {L : List Int32} {f : Nat → Int32} (hv : h v = some (t', eB L.length f)) (e1 : ∀ i, i < L.length → f i = byL L i) (h1 : L.length < 1000000) : kMet l g yJ16_hashCode (Cond.code yJ16_hashCode cJ16_hashCode 1 (Option.some Jvm.ClassFile.FieldType.int)) 4 0 0 [.ref v] h (mRd h (.int (hashL L))) := by
  refine kEnter S kd_J16_hashCode (Nat.le_of_ble_eq_true rfl) (fun x F hxl hxg => ?_)
  subst hxl; subst hxg
  have hlv : lv_args 0 [.ref v] = [(0, .ref v)] := rfl
  rw [hlv]
  refine k_aload_n F dJ16_hashCode_0 1 rfl rfl rfl ?_
  refine k_alen F dJ16_hashCode_1 2 rfl (kHs.of hv) (by decide) (fun cA => vp_arr' cA _ _) ?_
  by_cases c0 : L.length = 0
  · have hl : hashL L = 0 := by rw [← hTo_all, c0]; rfl
    rw [hl] at F
    rw [c0]
    refine k_lookup F dJ16_hashCode_2 (off := 26) 28 (by decide) (by decide) (by decide) ?_
    refine k_iconst (v := 0) F dJ16_hashCode_28 29 rfl (by decide) ?_
    refine k_goto F dJ16_hashCode_29 51 (by decide) ?_
    exact k_iret F dJ16_hashCode_51 (by first | exact Nat.le_of_ble_eq_true rfl | omega) (by first | exact Nat.le_of_ble_eq_true rfl | omega) ⟨rfl, rfl⟩
  · by_cases c1 : L.length = 1
    · have hl : hashL L = byL L 0 &&& 255 := by
        rw [← hTo_all, c1, hTo_s (by omega)]
        show 31 * (0 : Int32) + (byL L 0 &&& 255) = _
        rw [Int32.mul_zero, Int32.zero_add]
      rw [hl] at F
      rw [c1]
      refine k_lookup F dJ16_hashCode_2 (off := 30) 32 (by decide) (by decide) (by decide) ?_
      refine k_aload_n F dJ16_hashCode_32 33 rfl rfl rfl ?_
      refine k_iconst (v := 0) F dJ16_hashCode_33 34 rfl (by decide) ?_
      refine k_bald F dJ16_hashCode_34 35 rfl (kHs.of hv) (j := 0) rfl (by omega) (by omega) ?_
      rw [e1 0 (by omega)]
      refine k_sipush (v := 255) F dJ16_hashCode_35 38 rfl (by decide) ?_
      refine k_iand F dJ16_hashCode_38 39 rfl ?_
      refine k_goto F dJ16_hashCode_39 51 (by decide) ?_
      exact k_iret F dJ16_hashCode_51 (by first | exact Nat.le_of_ble_eq_true rfl | omega) (by first | exact Nat.le_of_ble_eq_true rfl | omega) ⟨rfl, rfl⟩
    · refine k_lookup F dJ16_hashCode_2 (off := 40) 42 (by decide) (lk_2 (by omega) h1) (by decide) ?_
      refine k_aload_n F dJ16_hashCode_42 43 rfl rfl rfl ?_
      refine k_iconst (v := 0) F dJ16_hashCode_43 44 rfl (by decide) ?_
      refine k_aload_n F dJ16_hashCode_44 45 rfl rfl rfl ?_
      refine k_alen F dJ16_hashCode_45 46 rfl (kHs.of hv) (by decide) (fun cA => vp_arr' cA _ _) ?_
      refine k_iconst (v := 0) F dJ16_hashCode_46 47 rfl (by decide) ?_
      refine k_iconst (v := 4) F dJ16_hashCode_47 48 rfl (by decide) ?_
      refine k_callV F kd_J12_vectorizedHashCode q1341 q163 (kInvS (Bs := [_, _, _, _, _]) F q1339 q1340 q163 kd_J12_vectorizedHashCode q1341 dJ16_hashCode_48 rfl (by decide)) (zJ12_vectorizedHashCode F.st hv e1 h1) 51 rfl (Nat.le_of_ble_eq_true rfl) (by first | exact Nat.le_of_ble_eq_true rfl | omega) (by first | exact Nat.le_of_ble_eq_true rfl | omega) (by first | exact Nat.le_of_ble_eq_true rfl | omega) (by first | exact Nat.le_of_ble_eq_true rfl | omega) (fun r1 h1 hr1 => ?_)
      obtain ⟨rfl, rfl⟩ := hr1
      exact k_iret F dJ16_hashCode_51 (by first | exact Nat.le_of_ble_eq_true rfl | omega) (by first | exact Nat.le_of_ble_eq_true rfl | omega) ⟨rfl, rfl⟩
/-- a text that was made: its hash may be asked or not -/
def SmR (h : kH) (s : Nat) (t t' : kT) (L : List Int32) : Prop := ∃ (v : Nat) (f : Nat → Int32) (a b : Int32), h s = some (t, eO 5 [.ref v, .int 0, .int a, .int b]) ∧ h v = some (t', eB L.length f) ∧ (∀ i, i < L.length → f i = byL L i) ∧ L.length < 1000000 ∧ (a = 0 ∧ b = 0 ∨ a = hashL L ∧ b = if hashL L = 0 then 1 else 0)
theorem SmR.st {g : kG} {h : kH} {s : Nat} {t t' : kT} {L : List Int32} (hs : SmR h s t t' L) : StE g h s L := by
  obtain ⟨v, f, a, b, h1, h2, h3, h4, -⟩ := hs
  exact ⟨h4, v, t, t', f, a, b, kHs.of h1, kHs.of h2, h3⟩
theorem SmR.keep {S : kT → Prop} {h h' : kH} {s : Nat} {t t' : kT} {L : List Int32} (hs : SmR h s t t' L) (hK : kKp S h h') (u1 : ¬ S t) (u2 : ¬ S t') : SmR h' s t t' L := by
  obtain ⟨v, f, a, b, h1, h2, h3⟩ := hs
  exact ⟨v, f, a, b, hK _ _ _ h1 u1, hK _ _ _ h2 u2, h3⟩
theorem SmR.same {h h' : kH} {s : Nat} {t t' : kT} {L : List Int32} (hs : SmR h s t t' L) (hK : kSame h h') : SmR h' s t t' L := hs.keep (S := fun _ => False) hK.kp id id
set_option maxHeartbeats 4000000 in
set_option maxRecDepth 100000 in
theorem zJ10_hashCode {l : Launch} {g : kG} (S : kStart l g) {h : kH} {s : Nat} {t t' : kT} {L : List Int32} (hs : SmR h s t t' L) (ht : t.1 ≠ 0) : kMet l g yJ10_hashCode (Cond.code yJ10_hashCode cJ10_hashCode 2 (Option.some Jvm.ClassFile.FieldType.int)) 5 0 0 [.ref s] h (kV (fun w h' => w = .int (hashL L) ∧ SmR h' s t t' L ∧ ∀ x, x ≠ s → h' x = h x)) := by
  refine kEnter S kd_J10_hashCode (Nat.le_of_ble_eq_true rfl) (fun x F hxl hxg => ?_)
  subst hxl; subst hxg
  have hlv : lv_args 0 [.ref s] = [(0, .ref s)] := rfl
  rw [hlv]
  obtain ⟨v, f, a, b, h1, h2, h3, h4, hab⟩ := id hs
  have hsv : s ≠ v := fun z => by subst z; rw [h1] at h2; cases h2
  refine k_aload_n F dJ10_hashCode_0 1 rfl rfl rfl ?_
  refine k_get F kcJ10 2 (by decide) q566 (fun _ e => e) dJ10_hashCode_1 4 rfl (kHs.of h1) rfl ?_
  refine k_istore_n (lv' := [(0, _), (1, _)]) F dJ10_hashCode_4 5 rfl rfl (Nat.le_of_ble_eq_true rfl) rfl rfl rfl ?_
  refine k_iload_n F dJ10_hashCode_5 6 rfl rfl rfl ?_
  rcases hab with ⟨rfl, rfl⟩ | ⟨ha, hb⟩
  · refine k_ifne F dJ10_hashCode_6 9 58 rfl (by decide) (fun c_ => (absurd rfl c_)) (fun _ => ?_)
    refine k_aload_n F dJ10_hashCode_9 10 rfl rfl rfl ?_
    refine k_get F kcJ10 3 (by decide) q567 (fun _ e => e) dJ10_hashCode_10 13 rfl (kHs.of h1) rfl ?_
    refine k_ifne F dJ10_hashCode_13 16 58 rfl (by decide) (fun c_ => (absurd rfl c_)) (fun _ => ?_)
    refine k_aload_n F dJ10_hashCode_16 17 rfl rfl rfl ?_
    refine k_callV F kd_J10_isLatin1 q938 q161 (kInvV (Bs := []) F kcJ10 q947 q936 q937 kd_J10_isLatin1 q938 dJ10_hashCode_17 (kHs.of h1) rfl (by decide)) (zJ10_isLatin1 F.st (kHs.of h1)) 20 rfl (Nat.le_of_ble_eq_true rfl) (by first | exact Nat.le_of_ble_eq_true rfl | omega) (by first | exact Nat.le_of_ble_eq_true rfl | omega) (by first | exact Nat.le_of_ble_eq_true rfl | omega) (by first | exact Nat.le_of_ble_eq_true rfl | omega) (fun r1 h1 hr1 => ?_)
    obtain ⟨rfl, rfl⟩ := hr1
    refine k_ifeq F dJ10_hashCode_20 23 33 rfl (by decide) (fun c_ => (by first | exact absurd rfl c_ | exact absurd c_ (by decide) | exact absurd (by assumption) c_ | exact absurd c_ (by assumption))) (fun _ => ?_)
    refine k_aload_n F dJ10_hashCode_23 24 rfl rfl rfl ?_
    refine k_get F kcJ10 0 (by decide) q564 (fun _ e => e) dJ10_hashCode_24 27 rfl (kHs.of h1) rfl ?_
    refine k_callV F kd_J16_hashCode q1338 q168 (kInvS (Bs := [_]) F q1336 q1337 q168 kd_J16_hashCode q1338 dJ10_hashCode_27 rfl (by decide)) (zJ16_hashCode F.st h2 h3 h4) 30 rfl (Nat.le_of_ble_eq_true rfl) (by first | exact Nat.le_of_ble_eq_true rfl | omega) (by first | exact Nat.le_of_ble_eq_true rfl | omega) (by first | exact Nat.le_of_ble_eq_true rfl | omega) (by first | exact Nat.le_of_ble_eq_true rfl | omega) (fun r2 h2 hr2 => ?_)
    obtain ⟨rfl, rfl⟩ := hr2
    refine k_goto F dJ10_hashCode_30 40 (by decide) ?_
    refine k_istore_n (lv' := [(0, _), (1, _)]) F dJ10_hashCode_40 41 rfl rfl (Nat.le_of_ble_eq_true rfl) rfl rfl rfl ?_
    refine k_iload_n F dJ10_hashCode_41 42 rfl rfl rfl ?_
    refine k_ifne F dJ10_hashCode_42 45 53 rfl (by decide) (fun c_z => ?_) (fun c_z => ?_)
    · refine k_aload_n F dJ10_hashCode_53 54 rfl rfl rfl ?_
      refine k_iload_n F dJ10_hashCode_54 55 rfl rfl rfl ?_
      refine k_put (fs' := [_, _, _, _]) F kcJ10 2 (by decide) (knJ10 2) q566 (fun _ e => e) rfl dJ10_hashCode_55 58 rfl h1 ht rfl rfl (by simp) rfl ?_
      refine k_iload_n F dJ10_hashCode_58 59 rfl rfl rfl ?_
      exact k_iret F dJ10_hashCode_59 (by first | exact Nat.le_of_ble_eq_true rfl | omega) (by first | exact Nat.le_of_ble_eq_true rfl | omega) ⟨rfl, ⟨v, f, hashL L, 0, kUp_self, by rw [kUp_ne (Ne.symm hsv)]; exact h2, h3, h4, Or.inr ⟨rfl, (if_neg c_z).symm⟩⟩, fun x hx => kUp_ne hx⟩
    · refine k_aload_n F dJ10_hashCode_45 46 rfl rfl rfl ?_
      refine k_iconst (v := 1) F dJ10_hashCode_46 47 rfl (by decide) ?_
      refine k_put (fs' := [_, _, _, _]) F kcJ10 3 (by decide) (knJ10 3) q567 (fun _ e => e) rfl dJ10_hashCode_47 50 rfl h1 ht rfl rfl (by simp) rfl ?_
      refine k_goto F dJ10_hashCode_50 58 (by decide) ?_
      refine k_iload_n F dJ10_hashCode_58 59 rfl rfl rfl ?_
      exact k_iret F dJ10_hashCode_59 (by first | exact Nat.le_of_ble_eq_true rfl | omega) (by first | exact Nat.le_of_ble_eq_true rfl | omega) ⟨rfl, ⟨v, f, 0, 1, kUp_self, by rw [kUp_ne (Ne.symm hsv)]; exact h2, h3, h4, Or.inr ⟨c_z.symm, (if_pos c_z).symm⟩⟩, fun x hx => kUp_ne hx⟩
  · refine k_ifne F dJ10_hashCode_6 9 58 rfl (by decide) (fun c_z => ?_) (fun c_z => ?_)
    · refine k_iload_n F dJ10_hashCode_58 59 rfl rfl rfl ?_
      exact k_iret F dJ10_hashCode_59 (by first | exact Nat.le_of_ble_eq_true rfl | omega) (by first | exact Nat.le_of_ble_eq_true rfl | omega) ⟨by rw [ha], hs, fun x hx => rfl⟩
    · refine k_aload_n F dJ10_hashCode_9 10 rfl rfl rfl ?_
      refine k_get F kcJ10 3 (by decide) q567 (fun _ e => e) dJ10_hashCode_10 13 rfl (kHs.of h1) rfl ?_
      have hb1 : b = 1 := by rw [hb, if_pos (ha ▸ c_z)]
      refine k_ifne F dJ10_hashCode_13 16 58 rfl (by decide) (fun _ => ?_) (fun c_ => (absurd c_ (by rw [hb1]; decide)))
      refine k_iload_n F dJ10_hashCode_58 59 rfl rfl rfl ?_
      exact k_iret F dJ10_hashCode_59 (by first | exact Nat.le_of_ble_eq_true rfl | omega) (by first | exact Nat.le_of_ble_eq_true rfl | omega) ⟨by rw [ha], hs, fun x hx => rfl⟩
set_option maxHeartbeats 4000000 in
set_option maxRecDepth 100000 in
theorem zJ10_hashCodeK {l : Launch} {g : kG} (S : kStart l g) {h : kH} {s : Nat} {L : List Int32} (hs : kStr g h s L) : kMet l g yJ10_hashCode (Cond.code yJ10_hashCode cJ10_hashCode 2 (Option.some Jvm.ClassFile.FieldType.int)) 5 0 0 [.ref s] h (mRd h (.int (hashL L))) := by
  refine kEnter S kd_J10_hashCode (Nat.le_of_ble_eq_true rfl) (fun x F hxl hxg => ?_)
  subst hxl; subst hxg
  have hlv : lv_args 0 [.ref s] = [(0, .ref s)] := rfl
  rw [hlv]
  obtain ⟨v, t, t', f, u1, u2, h1, h2, h3⟩ := id hs
  have h1' : kHs x.g h s t (eO 5 [.ref v, .int 0, .int (hashL L), .int (if hashL L = 0 then 1 else 0)]) := h1
  refine k_aload_n F dJ10_hashCode_0 1 rfl rfl rfl ?_
  refine k_get F kcJ10 2 (by decide) q566 (fun _ e => e) dJ10_hashCode_1 4 rfl h1' rfl ?_
  refine k_istore_n (lv' := [(0, _), (1, _)]) F dJ10_hashCode_4 5 rfl rfl (Nat.le_of_ble_eq_true rfl) rfl rfl rfl ?_
  refine k_iload_n F dJ10_hashCode_5 6 rfl rfl rfl ?_
  refine k_ifne F dJ10_hashCode_6 9 58 rfl (by decide) (fun c_z => ?_) (fun c_z => ?_)
  · refine k_iload_n F dJ10_hashCode_58 59 rfl rfl rfl ?_
    exact k_iret F dJ10_hashCode_59 (by first | exact Nat.le_of_ble_eq_true rfl | omega) (by first | exact Nat.le_of_ble_eq_true rfl | omega) ⟨rfl, rfl⟩
  · refine k_aload_n F dJ10_hashCode_9 10 rfl rfl rfl ?_
    refine k_get F kcJ10 3 (by decide) q567 (fun _ e => e) dJ10_hashCode_10 13 rfl h1' rfl ?_
    rw [if_pos c_z]
    refine k_ifne F dJ10_hashCode_13 16 58 rfl (by decide) (fun _ => ?_) (fun c_ => (absurd c_ (by decide)))
    refine k_iload_n F dJ10_hashCode_58 59 rfl rfl rfl ?_
    exact k_iret F dJ10_hashCode_59 (by first | exact Nat.le_of_ble_eq_true rfl | omega) (by first | exact Nat.le_of_ble_eq_true rfl | omega) ⟨rfl, rfl⟩

