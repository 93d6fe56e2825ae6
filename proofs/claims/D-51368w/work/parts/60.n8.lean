/-! the component: texts -/
theorem kd_J16_equals : kCd (Cond.code yJ16_equals cJ16_equals 3 (Option.some Jvm.ClassFile.FieldType.boolean)) yJ16_equals cJ16_equals 3 (Option.some Jvm.ClassFile.FieldType.boolean) [] := kCd_code (by decide +kernel)
theorem kd_J10_equals : kCd (Cond.code yJ10_equals cJ10_equals 3 (Option.some Jvm.ClassFile.FieldType.boolean)) yJ10_equals cJ10_equals 3 (Option.some Jvm.ClassFile.FieldType.boolean) [] := kCd_code (by decide +kernel)
theorem kd_J10_hashCode : kCd (Cond.code yJ10_hashCode cJ10_hashCode 2 (Option.some Jvm.ClassFile.FieldType.int)) yJ10_hashCode cJ10_hashCode 2 (Option.some Jvm.ClassFile.FieldType.int) [] := kCd_code (by decide +kernel)
theorem kd_J16_hashCode : kCd (Cond.code yJ16_hashCode cJ16_hashCode 1 (Option.some Jvm.ClassFile.FieldType.int)) yJ16_hashCode cJ16_hashCode 1 (Option.some Jvm.ClassFile.FieldType.int) [] := kCd_code (by decide +kernel)
theorem kd_J12_hashCode_2 : kCd (Cond.code yJ12_hashCode_2 cJ12_hashCode_2 6 (Option.some Jvm.ClassFile.FieldType.int)) yJ12_hashCode_2 cJ12_hashCode_2 6 (Option.some Jvm.ClassFile.FieldType.int) [] := kCd_code (by decide +kernel)
theorem byL_ext : ∀ {L L' : List Int32}, L.length = L'.length → (∀ i, i < L.length → byL L i = byL L' i) → L = L'
  | [], [], _, _ => rfl
  | [], _ :: _, h, _ => by cases h
  | _ :: _, [], h, _ => by cases h
  | a :: L, b :: L', h, e => by
    have h0 : a = b := e 0 (Nat.succ_pos _)
    have h1 : L = L' := byL_ext (Nat.succ.inj h) (fun i hi => e (i + 1) (Nat.succ_lt_succ hi))
    rw [h0, h1]
/-- a text: constant or made -/
def StE (g : kG) (h : kH) (s : Nat) (L : List Int32) : Prop := L.length < 1000000 ∧ ∃ (v : Nat) (t t' : kT) (f : Nat → Int32) (a b : Int32), kHs g h s t (eO 5 [.ref v, .int 0, .int a, .int b]) ∧ kHs g h v t' (eB L.length f) ∧ ∀ i, i < L.length → f i = byL L i
theorem StE.lit {g : kG} {h : kH} {s : Nat} {L : List Int32} (hs : kStr g h s L) (hL : L.length < 1000000) : StE g h s L := by
  obtain ⟨v, t, t', f, -, -, h1, h2, h3⟩ := hs
  exact ⟨hL, v, t, t', f, _, _, h1, h2, h3⟩
set_option maxHeartbeats 4000000 in
set_option maxRecDepth 100000 in
theorem zJ16_equals {l : Launch} {g : kG} (S : kStart l g) {h : kH} {v w : Nat} {t t' : kT} {L L' : List Int32} {f f' : Nat → Int32} (hv : kHs g h v t (eB L.length f)) (hw : kHs g h w t' (eB L'.length f')) (e1 : ∀ i, i < L.length → f i = byL L i) (e2 : ∀ i, i < L'.length → f' i = byL L' i) (h1 : L.length < 1000000) (h2 : L'.length < 1000000) : kMet l g yJ16_equals (Cond.code yJ16_equals cJ16_equals 3 (Option.some Jvm.ClassFile.FieldType.boolean)) 1 0 0 [.ref v, .ref w] h (mRd h (.int (kB (decide (L = L'))))) := by
  refine kEnter S kd_J16_equals (Nat.le_of_ble_eq_true rfl) (fun x F hxl hxg => ?_)
  subst hxl; subst hxg
  have hlv : lv_args 0 [.ref v, .ref w] = [(0, .ref v), (1, .ref w)] := rfl
  rw [hlv]
  refine k_aload_n F dJ16_equals_0 1 rfl rfl rfl ?_
  refine k_alen F dJ16_equals_1 2 rfl hv (by decide) (fun cA => vp_arr' cA _ _) ?_
  refine k_aload_n F dJ16_equals_2 3 rfl rfl rfl ?_
  refine k_alen F dJ16_equals_3 4 rfl hw (by decide) (fun cA => vp_arr' cA _ _) ?_
  have A : L.length = L'.length → ∀ (n i : Nat), L.length - i < n → i ≤ L.length → (∀ j, j < i → byL L j = byL L' j) → kW x 0 0 h 9 [(0, .ref v), (1, .ref w), (2, .int (nI i))] [] := by
    intro hl n
    induction n with
    | zero => intro i hn; omega
    | succ n ih =>
      intro i hn hi hj
      refine k_iload_n F dJ16_equals_9 10 rfl rfl rfl ?_
      refine k_aload_n F dJ16_equals_10 11 rfl rfl rfl ?_
      refine k_alen F dJ16_equals_11 12 rfl hv (by decide) (fun cA => vp_arr' cA _ _) ?_
      refine k_icmpge F dJ16_equals_12 15 32 rfl (by decide) (fun c_a => ?_) (fun c_a => ?_)
      · rw [nI_leE (by omega) (by omega)] at c_a
        refine k_iconst (v := 1) F dJ16_equals_32 33 rfl (by decide) ?_
        have : L = L' := byL_ext hl (fun j hj9 => hj j (by omega))
        exact k_zret F dJ16_equals_33 (by first | rfl | exact kzb _ | exact pk_nc _ | decide) (by first | exact Nat.le_of_ble_eq_true rfl | omega) (by first | exact Nat.le_of_ble_eq_true rfl | omega) ⟨by rw [decide_eq_true this]; rfl, rfl⟩
      · rw [nI_leE (by omega) (by omega)] at c_a
        refine k_aload_n F dJ16_equals_15 16 rfl rfl rfl ?_
        refine k_iload_n F dJ16_equals_16 17 rfl rfl rfl ?_
        refine k_bald F dJ16_equals_17 18 rfl hv (j := i) rfl (by omega) (by omega) ?_
        refine k_aload_n F dJ16_equals_18 19 rfl rfl rfl ?_
        refine k_iload_n F dJ16_equals_19 20 rfl rfl rfl ?_
        refine k_bald F dJ16_equals_20 21 rfl hw (j := i) rfl (by omega) (by omega) ?_
        rw [e1 i (by omega), e2 i (by omega)]
        refine k_icmpeq F dJ16_equals_21 24 26 rfl (by decide) (fun c_d => ?_) (fun c_d => ?_)
        · refine k_iinc (e := 1) (lv' := [(0, _), (1, _), (2, _)]) F dJ16_equals_26 29 rfl rfl (by decide) rfl (Nat.le_of_ble_eq_true rfl) rfl rfl rfl ?_
          rw [nI_1']
          refine k_goto F dJ16_equals_29 9 (by decide) ?_
          exact ih (i + 1) (by omega) (by omega) (fun j hj9 => by
            by_cases z : j = i
            · rw [z]; exact c_d
            · exact hj j (by omega))
        · refine k_iconst (v := 0) F dJ16_equals_24 25 rfl (by decide) ?_
          have : ¬ L = L' := fun z => c_d (by rw [z])
          exact k_zret F dJ16_equals_25 (by first | rfl | exact kzb _ | exact pk_nc _ | decide) (by first | exact Nat.le_of_ble_eq_true rfl | omega) (by first | exact Nat.le_of_ble_eq_true rfl | omega) ⟨by rw [decide_eq_false this]; rfl, rfl⟩
  refine k_icmpne F dJ16_equals_4 7 34 rfl (by decide) (fun c_z => ?_) (fun c_z => ?_)
  · rw [nI_inj (by omega) (by omega)] at c_z
    refine k_iconst (v := 0) F dJ16_equals_34 35 rfl (by decide) ?_
    have : ¬ L = L' := fun z => c_z (by rw [z])
    exact k_zret F dJ16_equals_35 (by first | rfl | exact kzb _ | exact pk_nc _ | decide) (by first | exact Nat.le_of_ble_eq_true rfl | omega) (by first | exact Nat.le_of_ble_eq_true rfl | omega) ⟨by rw [decide_eq_false this]; rfl, rfl⟩
  · rw [nI_inj (by omega) (by omega)] at c_z
    refine k_iconst (v := 0) F dJ16_equals_7 8 rfl (by decide) ?_
    refine k_istore_n (lv' := [(0, _), (1, _), (2, _)]) F dJ16_equals_8 9 rfl rfl (Nat.le_of_ble_eq_true rfl) rfl rfl rfl ?_
    exact A c_z (L.length + 1) 0 (by omega) (by omega) (fun j hj => by omega)
theorem kW.sim {x : kX} {k n : Nat} {h : kH} {pc : Nat} {lv : List (Nat × Value)} {st : List Value} (kk : ∀ H, kSim x.g h H → kW x k n h pc lv st) : kW x k n h pc lv st := fun H locs ls hs => kk H hs H locs ls hs
/-- one address holds one text -/
theorem StE.uniq {x : kX} {y : MethodName} {cc : ByteArray} {nL lev mc ms : Nat} {ret : Option FieldType} {hh : List (Nat × Nat × Nat × Nat)} {Po : kR → kH → Prop} (F : kF x y cc nL ret hh lev mc ms Po) {h : kH} {H : Heap} (hs : kSim x.g h H) {s : Nat} {L L' : List Int32} (a : StE x.g h s L) (b : StE x.g h s L') : L = L' := by
  obtain ⟨a0, v, t1, t2, f, p1, p2, a1, a2, a3⟩ := a
  obtain ⟨b0, w, t3, t4, f', p3, p4, b1, b2, b3⟩ := b
  obtain ⟨r, r1, cell, c1, c2, c3, c4, c5⟩ := hs.atO a1
  obtain ⟨r', r1', cell', c1', c2', c3', c4', c5'⟩ := hs.atO b1
  cases r1.symm.trans r1'
  cases c1.symm.trans c1'
  have hr : r = (RJ10, TJ10, 4) := Option.some.inj (r1.symm.trans (F.cl kcJ10))
  subst hr
  have h0 := (c5 0 (by decide)).symm.trans (c5' 0 (by decide))
  have hvw : v = w := by
    have h9 : vp_V [.ref v, .int 0, .int p1, .int p2] 0 = vp_V [.ref w, .int 0, .int p3, .int p4] 0 := Option.some.inj h0
    have h8 : (Value.ref v) = .ref w := h9
    cases h8
    rfl
  subst hvw
  obtain ⟨cl, d1, d2, d3, d4, d5, d6⟩ := F.isA (show 1 < 10 by decide) hs a2
  obtain ⟨cl', d1', d2', d3', d4', d5', d6'⟩ := F.isA (show 1 < 10 by decide) hs b2
  cases d1.symm.trans d1'
  have hl : L.length = L'.length := by
    have h9 := d5.symm.trans d5'
    dsimp only at h9
    rwa [nI_inj (by omega) (by omega)] at h9
  refine byL_ext hl (fun i hi => ?_)
  have h9 := (d6 i hi).symm.trans (d6' i (by dsimp only; omega))
  have h8 : (Value.int (f i)) = .int (f' i) := Option.some.inj h9
  rw [← a3 i hi, ← b3 i (by omega)]
  exact Value.int.inj h8
set_option maxHeartbeats 4000000 in
set_option maxRecDepth 100000 in
theorem zJ10_equals {l : Launch} {g : kG} (S : kStart l g) {h : kH} {s s' : Nat} {L L' : List Int32} (ha : StE g h s L) (hb : StE g h s' L') : kMet l g yJ10_equals (Cond.code yJ10_equals cJ10_equals 3 (Option.some Jvm.ClassFile.FieldType.boolean)) 2 0 0 [.ref s, .ref s'] h (mRd h (.int (kB (decide (L = L'))))) := by
  refine kEnter S kd_J10_equals (Nat.le_of_ble_eq_true rfl) (fun x F hxl hxg => ?_)
  subst hxl; subst hxg
  have hlv : lv_args 0 [.ref s, .ref s'] = [(0, .ref s), (1, .ref s')] := rfl
  rw [hlv]
  refine kW.sim (fun H hs => ?_)
  obtain ⟨h1, v, t1, t2, f, p1, p2, a1, a2, a3⟩ := id ha
  obtain ⟨h2, w, t3, t4, f', p3, p4, b1, b2, b3⟩ := id hb
  refine k_aload_n F dJ10_equals_0 1 rfl rfl rfl ?_
  refine k_aload_n F dJ10_equals_1 2 rfl rfl rfl ?_
  by_cases hss : s = s'
  · subst hss
    have hLL : L = L' := StE.uniq F hs ha hb
    refine k_acmpne (a := some s) (b := some s) F dJ10_equals_2 5 7 rfl (by decide) (fun c_ => absurd rfl c_) (fun _ => ?_)
    refine k_iconst (v := 1) F dJ10_equals_5 6 rfl (by decide) ?_
    exact k_zret F dJ10_equals_6 (by first | rfl | exact kzb _ | exact pk_nc _ | decide) (by first | exact Nat.le_of_ble_eq_true rfl | omega) (by first | exact Nat.le_of_ble_eq_true rfl | omega) ⟨by rw [decide_eq_true hLL]; rfl, rfl⟩
  · refine k_acmpne (a := some s) (b := some s') F dJ10_equals_2 5 7 rfl (by decide) (fun _ => ?_) (fun c_ => absurd (Option.some.inj c_) hss)
    refine k_aload_n F dJ10_equals_7 8 rfl rfl rfl ?_
    refine k_instE F kcJ10 q1534 dJ10_equals_8 11 rfl b1 ?_
    refine k_ifeq F dJ10_equals_11 14 54 rfl (by decide) (fun c_ => (by first | exact absurd rfl c_ | exact absurd c_ (by decide) | exact absurd (by assumption) c_ | exact absurd c_ (by assumption))) (fun _ => ?_)
    refine k_aload_n F dJ10_equals_14 15 rfl rfl rfl ?_
    refine k_castE F kcJ10 q1534 dJ10_equals_15 18 rfl b1 ?_
    refine k_astore_n (lv' := [(0, _), (1, _), (2, _)]) F dJ10_equals_18 19 rfl rfl (Nat.le_of_ble_eq_true rfl) rfl rfl rfl ?_
    refine k_gets F q314 q161 (st_J10_COMPACT_STRINGS F.st) q423 (fun _ e => e) dJ10_equals_19 22 rfl ?_
    refine k_ifeq F dJ10_equals_22 25 36 rfl (by decide) (fun c_ => (by first | exact absurd rfl c_ | exact absurd c_ (by decide) | exact absurd (by assumption) c_ | exact absurd c_ (by assumption))) (fun _ => ?_)
    refine k_aload_n F dJ10_equals_25 26 rfl rfl rfl ?_
    refine k_get F kcJ10 1 (by decide) q565 (fun _ e => e) dJ10_equals_26 29 rfl a1 rfl ?_
    refine k_aload_n F dJ10_equals_29 30 rfl rfl rfl ?_
    refine k_get F kcJ10 1 (by decide) q565 (fun _ e => e) dJ10_equals_30 33 rfl b1 rfl ?_
    refine k_icmpne F dJ10_equals_33 36 54 rfl (by decide) (fun c_ => (absurd rfl c_)) (fun _ => ?_)
    refine k_aload_n F dJ10_equals_36 37 rfl rfl rfl ?_
    refine k_get F kcJ10 0 (by decide) q564 (fun _ e => e) dJ10_equals_37 40 rfl a1 rfl ?_
    refine k_aload_n F dJ10_equals_40 41 rfl rfl rfl ?_
    refine k_get F kcJ10 0 (by decide) q564 (fun _ e => e) dJ10_equals_41 44 rfl b1 rfl ?_
    refine k_callV F kd_J16_equals q1765 q168 (kInvS (Bs := [_, _]) F q1763 q1764 q168 kd_J16_equals q1765 dJ10_equals_44 rfl (by decide)) (zJ16_equals F.st a2 b2 a3 b3 h1 h2) 47 rfl (Nat.le_of_ble_eq_true rfl) (by first | exact Nat.le_of_ble_eq_true rfl | omega) (by first | exact Nat.le_of_ble_eq_true rfl | omega) (by first | exact Nat.le_of_ble_eq_true rfl | omega) (by first | exact Nat.le_of_ble_eq_true rfl | omega) (fun r1 h1 hr1 => ?_)
    obtain ⟨rfl, rfl⟩ := hr1
    refine k_ifeq F dJ10_equals_47 50 54 rfl (by decide) (fun c_z => ?_) (fun c_z => ?_)
    · rw [kB_0] at c_z
      refine k_iconst (v := 0) F dJ10_equals_54 55 rfl (by decide) ?_
      exact k_zret F dJ10_equals_55 (by first | rfl | exact kzb _ | exact pk_nc _ | decide) (by first | exact Nat.le_of_ble_eq_true rfl | omega) (by first | exact Nat.le_of_ble_eq_true rfl | omega) ⟨by rw [c_z]; rfl, rfl⟩
    · rw [kB_0, Bool.not_eq_false] at c_z
      refine k_iconst (v := 1) F dJ10_equals_50 51 rfl (by decide) ?_
      refine k_goto F dJ10_equals_51 55 (by decide) ?_
      exact k_zret F dJ10_equals_55 (by first | rfl | exact kzb _ | exact pk_nc _ | decide) (by first | exact Nat.le_of_ble_eq_true rfl | omega) (by first | exact Nat.le_of_ble_eq_true rfl | omega) ⟨by rw [c_z]; rfl, rfl⟩

