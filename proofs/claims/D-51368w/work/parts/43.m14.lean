/-! Strings: length, charAt -/
theorem kd_J15_checkIndex : kCd (Cond.code yJ15_checkIndex cJ15_checkIndex 3 (Option.some Jvm.ClassFile.FieldType.int)) yJ15_checkIndex cJ15_checkIndex 3 (Option.some Jvm.ClassFile.FieldType.int) [] := kCd_code (by decide +kernel)
theorem kd_J10_checkIndex : kCd (Cond.code yJ10_checkIndex cJ10_checkIndex 2 (Option.none : Option Jvm.ClassFile.FieldType)) yJ10_checkIndex cJ10_checkIndex 2 (Option.none : Option Jvm.ClassFile.FieldType) [] := kCd_code (by decide +kernel)
theorem kd_J10_isLatin1 : kCd (Cond.code yJ10_isLatin1 cJ10_isLatin1 1 (Option.some Jvm.ClassFile.FieldType.boolean)) yJ10_isLatin1 cJ10_isLatin1 1 (Option.some Jvm.ClassFile.FieldType.boolean) [] := kCd_code (by decide +kernel)
theorem kd_J10_coder : kCd (Cond.code yJ10_coder cJ10_coder 1 (Option.some Jvm.ClassFile.FieldType.byte)) yJ10_coder cJ10_coder 1 (Option.some Jvm.ClassFile.FieldType.byte) [] := kCd_code (by decide +kernel)
theorem kd_J10_length : kCd (Cond.code yJ10_length cJ10_length 1 (Option.some Jvm.ClassFile.FieldType.int)) yJ10_length cJ10_length 1 (Option.some Jvm.ClassFile.FieldType.int) [] := kCd_code (by decide +kernel)
theorem kd_J16_charAt : kCd (Cond.code yJ16_charAt cJ16_charAt 2 (Option.some Jvm.ClassFile.FieldType.char)) yJ16_charAt cJ16_charAt 2 (Option.some Jvm.ClassFile.FieldType.char) [] := kCd_code (by decide +kernel)
theorem kd_J10_charAt : kCd (Cond.code yJ10_charAt cJ10_charAt 2 (Option.some Jvm.ClassFile.FieldType.char)) yJ10_charAt cJ10_charAt 2 (Option.some Jvm.ClassFile.FieldType.char) [] := kCd_code (by decide +kernel)
set_option maxHeartbeats 4000000 in
set_option maxRecDepth 100000 in
theorem zJ15_checkIndexR {l : Launch} {g : kG} (S : kStart l g) {h : kH} (i n : Nat) (a : Nat) (hi : i < n) (hn : n < 2 ^ 31) : kMet l g yJ15_checkIndex (Cond.code yJ15_checkIndex cJ15_checkIndex 3 (Option.some Jvm.ClassFile.FieldType.int)) 1 0 0 [.int (nI i), .int (nI n), .ref a] h (mRd h (.int (nI i))) := by
  refine kEnter S kd_J15_checkIndex (Nat.le_of_ble_eq_true rfl) (fun x F hxl hxg => ?_)
  subst hxl; subst hxg
  have hlv : lv_args 0 [.int (nI i), .int (nI n), .ref a] = [(0, .int (nI i)), (1, .int (nI n)), (2, .ref a)] := rfl
  rw [hlv]
  refine k_iload_n F dJ15_checkIndex_0 1 rfl rfl rfl ?_
  refine k_iflt F dJ15_checkIndex_1 4 9 rfl (by decide) (fun c_ => (absurd c_ (Int32.not_lt.mpr (nI_pos' (by omega))))) (fun _ => ?_)
  refine k_iload_n F dJ15_checkIndex_4 5 rfl rfl rfl ?_
  refine k_iload_n F dJ15_checkIndex_5 6 rfl rfl rfl ?_
  refine k_icmplt F dJ15_checkIndex_6 9 16 rfl (by decide) (fun c_a => ?_) (fun c_a => ?_)
  · rw [nI_ltE (by omega) (by omega)] at c_a
    refine k_iload_n F dJ15_checkIndex_16 17 rfl rfl rfl ?_
    exact k_iret F dJ15_checkIndex_17 (by first | exact Nat.le_of_ble_eq_true rfl | omega) (by first | exact Nat.le_of_ble_eq_true rfl | omega) ⟨rfl, rfl⟩
  · rw [nI_ltE (by omega) (by omega)] at c_a
    omega
set_option maxHeartbeats 4000000 in
set_option maxRecDepth 100000 in
theorem zJ15_checkIndexN {l : Launch} {g : kG} (S : kStart l g) {h : kH} (i n : Nat) (hi : i < n) (hn : n < 2 ^ 31) : kMet l g yJ15_checkIndex (Cond.code yJ15_checkIndex cJ15_checkIndex 3 (Option.some Jvm.ClassFile.FieldType.int)) 1 0 0 [.int (nI i), .int (nI n), .null] h (mRd h (.int (nI i))) := by
  refine kEnter S kd_J15_checkIndex (Nat.le_of_ble_eq_true rfl) (fun x F hxl hxg => ?_)
  subst hxl; subst hxg
  have hlv : lv_args 0 [.int (nI i), .int (nI n), .null] = [(0, .int (nI i)), (1, .int (nI n)), (2, .null)] := rfl
  rw [hlv]
  refine k_iload_n F dJ15_checkIndex_0 1 rfl rfl rfl ?_
  refine k_iflt F dJ15_checkIndex_1 4 9 rfl (by decide) (fun c_ => (absurd c_ (Int32.not_lt.mpr (nI_pos' (by omega))))) (fun _ => ?_)
  refine k_iload_n F dJ15_checkIndex_4 5 rfl rfl rfl ?_
  refine k_iload_n F dJ15_checkIndex_5 6 rfl rfl rfl ?_
  refine k_icmplt F dJ15_checkIndex_6 9 16 rfl (by decide) (fun c_a => ?_) (fun c_a => ?_)
  · rw [nI_ltE (by omega) (by omega)] at c_a
    refine k_iload_n F dJ15_checkIndex_16 17 rfl rfl rfl ?_
    exact k_iret F dJ15_checkIndex_17 (by first | exact Nat.le_of_ble_eq_true rfl | omega) (by first | exact Nat.le_of_ble_eq_true rfl | omega) ⟨rfl, rfl⟩
  · rw [nI_ltE (by omega) (by omega)] at c_a
    omega
set_option maxHeartbeats 4000000 in
set_option maxRecDepth 100000 in
theorem zJ10_checkIndex {l : Launch} {g : kG} (S : kStart l g) {h : kH} (i n : Nat) (hi : i < n) (hn : n < 2 ^ 31) : kMet l g yJ10_checkIndex (Cond.code yJ10_checkIndex cJ10_checkIndex 2 (Option.none : Option Jvm.ClassFile.FieldType)) 2 0 0 [.int (nI i), .int (nI n)] h (kN (fun h' => h = h')) := by
  refine kEnter S kd_J10_checkIndex (Nat.le_of_ble_eq_true rfl) (fun x F hxl hxg => ?_)
  subst hxl; subst hxg
  have hlv : lv_args 0 [.int (nI i), .int (nI n)] = [(0, .int (nI i)), (1, .int (nI n))] := rfl
  rw [hlv]
  refine k_iload_n F dJ10_checkIndex_0 1 rfl rfl rfl ?_
  refine k_iload_n F dJ10_checkIndex_1 2 rfl rfl rfl ?_
  obtain ⟨o, ho⟩ := sr_J15_SIOOBE_FORMATTER F.st
  refine k_gets F q402 q167 ho q401 (fun _ e => e) dJ10_checkIndex_2 5 rfl ?_
  cases o with
  | none =>
    refine k_callV F kd_J15_checkIndex q858 q167 (kInvS (Bs := [_, _, _]) F q856 q857 q167 kd_J15_checkIndex q858 dJ10_checkIndex_5 rfl (by decide)) (zJ15_checkIndexN F.st i n hi hn) 8 rfl (Nat.le_of_ble_eq_true rfl) (by first | exact Nat.le_of_ble_eq_true rfl | omega) (by first | exact Nat.le_of_ble_eq_true rfl | omega) (by first | exact Nat.le_of_ble_eq_true rfl | omega) (by first | exact Nat.le_of_ble_eq_true rfl | omega) (fun r1 h1 hr1 => ?_)
    obtain ⟨rfl, rfl⟩ := hr1
    refine k_pop F dJ10_checkIndex_8 9 rfl rfl ?_
    exact k_vret F dJ10_checkIndex_9 (by first | exact Nat.le_of_ble_eq_true rfl | omega) (by first | exact Nat.le_of_ble_eq_true rfl | omega) rfl
  | some a =>
    refine k_callV F kd_J15_checkIndex q858 q167 (kInvS (Bs := [_, _, _]) F q856 q857 q167 kd_J15_checkIndex q858 dJ10_checkIndex_5 rfl (by decide)) (zJ15_checkIndexR F.st i n a hi hn) 8 rfl (Nat.le_of_ble_eq_true rfl) (by first | exact Nat.le_of_ble_eq_true rfl | omega) (by first | exact Nat.le_of_ble_eq_true rfl | omega) (by first | exact Nat.le_of_ble_eq_true rfl | omega) (by first | exact Nat.le_of_ble_eq_true rfl | omega) (fun r2 h2 hr2 => ?_)
    obtain ⟨rfl, rfl⟩ := hr2
    refine k_pop F dJ10_checkIndex_8 9 rfl rfl ?_
    exact k_vret F dJ10_checkIndex_9 (by first | exact Nat.le_of_ble_eq_true rfl | omega) (by first | exact Nat.le_of_ble_eq_true rfl | omega) rfl
set_option maxHeartbeats 4000000 in
set_option maxRecDepth 100000 in
theorem zJ10_isLatin1 {l : Launch} {g : kG} (S : kStart l g) {h : kH} {a v : Nat} {t : kT} {x1 x2 : Int32} (hr : kHs g h a t (.inl (5, [.ref v, .int 0, .int x1, .int x2]))) : kMet l g yJ10_isLatin1 (Cond.code yJ10_isLatin1 cJ10_isLatin1 1 (Option.some Jvm.ClassFile.FieldType.boolean)) 1 0 0 [.ref a] h (mRd h (.int 1)) := by
  refine kEnter S kd_J10_isLatin1 (Nat.le_of_ble_eq_true rfl) (fun x F hxl hxg => ?_)
  subst hxl; subst hxg
  have hlv : lv_args 0 [.ref a] = [(0, .ref a)] := rfl
  rw [hlv]
  refine k_gets F q314 q161 (st_J10_COMPACT_STRINGS F.st) q423 (fun _ e => e) dJ10_isLatin1_0 3 rfl ?_
  refine k_ifeq F dJ10_isLatin1_3 6 17 rfl (by decide) (fun c_ => (by first | exact absurd rfl c_ | exact absurd c_ (by decide) | exact absurd (by assumption) c_ | exact absurd c_ (by assumption))) (fun _ => ?_)
  refine k_aload_n F dJ10_isLatin1_6 7 rfl rfl rfl ?_
  refine k_get F kcJ10 1 (by decide) q565 (fun _ e => e) dJ10_isLatin1_7 10 rfl hr rfl ?_
  refine k_ifne F dJ10_isLatin1_10 13 17 rfl (by decide) (fun c_ => (by first | exact absurd rfl c_ | exact absurd c_ (by decide) | exact absurd (by assumption) c_ | exact absurd c_ (by assumption))) (fun _ => ?_)
  refine k_iconst (v := 1) F dJ10_isLatin1_13 14 rfl (by decide) ?_
  refine k_goto F dJ10_isLatin1_14 18 (by decide) ?_
  exact k_zret F dJ10_isLatin1_18 (by first | rfl | exact kzb _ | exact pk_nc _ | decide) (by first | exact Nat.le_of_ble_eq_true rfl | omega) (by first | exact Nat.le_of_ble_eq_true rfl | omega) ⟨rfl, rfl⟩
set_option maxHeartbeats 4000000 in
set_option maxRecDepth 100000 in
theorem zJ10_coder {l : Launch} {g : kG} (S : kStart l g) {h : kH} {a v : Nat} {t : kT} {x1 x2 : Int32} (hr : kHs g h a t (.inl (5, [.ref v, .int 0, .int x1, .int x2]))) : kMet l g yJ10_coder (Cond.code yJ10_coder cJ10_coder 1 (Option.some Jvm.ClassFile.FieldType.byte)) 1 0 0 [.ref a] h (mRd h (.int 0)) := by
  refine kEnter S kd_J10_coder (Nat.le_of_ble_eq_true rfl) (fun x F hxl hxg => ?_)
  subst hxl; subst hxg
  have hlv : lv_args 0 [.ref a] = [(0, .ref a)] := rfl
  rw [hlv]
  refine k_gets F q314 q161 (st_J10_COMPACT_STRINGS F.st) q423 (fun _ e => e) dJ10_coder_0 3 rfl ?_
  refine k_ifeq F dJ10_coder_3 6 13 rfl (by decide) (fun c_ => (by first | exact absurd rfl c_ | exact absurd c_ (by decide) | exact absurd (by assumption) c_ | exact absurd c_ (by assumption))) (fun _ => ?_)
  refine k_aload_n F dJ10_coder_6 7 rfl rfl rfl ?_
  refine k_get F kcJ10 1 (by decide) q565 (fun _ e => e) dJ10_coder_7 10 rfl hr rfl ?_
  refine k_goto F dJ10_coder_10 14 (by decide) ?_
  exact k_zret F dJ10_coder_14 (by first | rfl | exact kzb _ | exact pk_nc _ | decide) (by first | exact Nat.le_of_ble_eq_true rfl | omega) (by first | exact Nat.le_of_ble_eq_true rfl | omega) ⟨rfl, rfl⟩
set_option maxHeartbeats 4000000 in
set_option maxRecDepth 100000 in
theorem zJ10_length {l : Launch} {g : kG} (S : kStart l g) {h : kH} {a : Nat} {L : List Int32} (hs : kStr g h a L) (hL : L.length < 2 ^ 31) : kMet l g yJ10_length (Cond.code yJ10_length cJ10_length 1 (Option.some Jvm.ClassFile.FieldType.int)) 2 0 0 [.ref a] h (mRd h (.int (nI L.length))) := by
  refine kEnter S kd_J10_length (Nat.le_of_ble_eq_true rfl) (fun x F hxl hxg => ?_)
  subst hxl; subst hxg
  have hlv : lv_args 0 [.ref a] = [(0, .ref a)] := rfl
  rw [hlv]
  obtain ⟨v, t, t', f, e1, e2, hr, hb, hf⟩ := hs
  refine k_aload_n F dJ10_length_0 1 rfl rfl rfl ?_
  refine k_get F kcJ10 0 (by decide) q564 (fun _ e => e) dJ10_length_1 4 rfl hr rfl ?_
  refine k_alen F dJ10_length_4 5 rfl hb (by decide) (fun cA => vp_arr' cA _ _) ?_
  refine k_aload_n F dJ10_length_5 6 rfl rfl rfl ?_
  refine k_callV F kd_J10_coder q422 q161 (kInvV (Bs := []) F kcJ10 q419 q420 q421 kd_J10_coder q422 dJ10_length_6 hr rfl (by decide)) (zJ10_coder F.st hr) 9 rfl (Nat.le_of_ble_eq_true rfl) (by first | exact Nat.le_of_ble_eq_true rfl | omega) (by first | exact Nat.le_of_ble_eq_true rfl | omega) (by first | exact Nat.le_of_ble_eq_true rfl | omega) (by first | exact Nat.le_of_ble_eq_true rfl | omega) (fun r1 h1 hr1 => ?_)
  obtain ⟨rfl, rfl⟩ := hr1
  refine k_ishr F dJ10_length_9 10 rfl ?_
  refine k_topi (b := nI L.length) (shr0 _) ?_
  exact k_iret F dJ10_length_10 (by first | exact Nat.le_of_ble_eq_true rfl | omega) (by first | exact Nat.le_of_ble_eq_true rfl | omega) ⟨rfl, rfl⟩
set_option maxHeartbeats 4000000 in
set_option maxRecDepth 100000 in
theorem zJ16_charAt {l : Launch} {g : kG} (S : kStart l g) {h : kH} {v m : Nat} {t : kT} {f : Nat → Int32} (hb : kHs g h v t (eB m f)) (hm : m < 2 ^ 31) (i : Nat) (hi : i < m) : kMet l g yJ16_charAt (Cond.code yJ16_charAt cJ16_charAt 2 (Option.some Jvm.ClassFile.FieldType.char)) 3 0 0 [.ref v, .int (nI i)] h (mRd h (.int ((f i &&& 255).toUInt32 % 65536).toInt32)) := by
  refine kEnter S kd_J16_charAt (Nat.le_of_ble_eq_true rfl) (fun x F hxl hxg => ?_)
  subst hxl; subst hxg
  have hlv : lv_args 0 [.ref v, .int (nI i)] = [(0, .ref v), (1, .int (nI i))] := rfl
  rw [hlv]
  refine k_iload_n F dJ16_charAt_0 1 rfl rfl rfl ?_
  refine k_aload_n F dJ16_charAt_1 2 rfl rfl rfl ?_
  refine k_alen F dJ16_charAt_2 3 rfl hb (by decide) (fun cA => vp_arr' cA _ _) ?_
  refine k_callN F kd_J10_checkIndex q855 q161 (kInvS (Bs := [_, _]) F q951 q854 q161 kd_J10_checkIndex q855 dJ16_charAt_3 rfl (by decide)) (zJ10_checkIndex F.st i m hi hm) 6 rfl (Nat.le_of_ble_eq_true rfl) (by first | exact Nat.le_of_ble_eq_true rfl | omega) (by first | exact Nat.le_of_ble_eq_true rfl | omega) (by first | exact Nat.le_of_ble_eq_true rfl | omega) (by first | exact Nat.le_of_ble_eq_true rfl | omega) (fun h1 hr1 => ?_)
  obtain rfl := hr1
  refine k_aload_n F dJ16_charAt_6 7 rfl rfl rfl ?_
  refine k_iload_n F dJ16_charAt_7 8 rfl rfl rfl ?_
  refine k_bald F dJ16_charAt_8 9 rfl hb rfl hi hm ?_
  refine k_sipush (v := 255) F dJ16_charAt_9 12 rfl (by decide) ?_
  refine k_iand F dJ16_charAt_12 13 rfl ?_
  refine k_i2c F dJ16_charAt_13 14 rfl ?_
  exact k_zret F dJ16_charAt_14 (by first | rfl | exact kzb _ | exact pk_nc _ | decide) (by first | exact Nat.le_of_ble_eq_true rfl | omega) (by first | exact Nat.le_of_ble_eq_true rfl | omega) ⟨rfl, rfl⟩
set_option maxHeartbeats 4000000 in
set_option maxRecDepth 100000 in
theorem zJ10_charAt {l : Launch} {g : kG} (S : kStart l g) {h : kH} {a : Nat} {L : List Int32} (hs : kStr g h a L) (hL : L.length < 2 ^ 31) (i : Nat) (hi : i < L.length) : kMet l g yJ10_charAt (Cond.code yJ10_charAt cJ10_charAt 2 (Option.some Jvm.ClassFile.FieldType.char)) 5 0 0 [.ref a, .int (nI i)] h (mRd h (.int ((byL L i &&& 255).toUInt32 % 65536).toInt32)) := by
  refine kEnter S kd_J10_charAt (Nat.le_of_ble_eq_true rfl) (fun x F hxl hxg => ?_)
  subst hxl; subst hxg
  have hlv : lv_args 0 [.ref a, .int (nI i)] = [(0, .ref a), (1, .int (nI i))] := rfl
  rw [hlv]
  obtain ⟨v, t, t', f, e1, e2, hr, hb, hf⟩ := hs
  refine k_aload_n F dJ10_charAt_0 1 rfl rfl rfl ?_
  refine k_callV F kd_J10_isLatin1 q938 q161 (kInvV (Bs := []) F kcJ10 q947 q936 q937 kd_J10_isLatin1 q938 dJ10_charAt_1 hr rfl (by decide)) (zJ10_isLatin1 F.st hr) 4 rfl (Nat.le_of_ble_eq_true rfl) (by first | exact Nat.le_of_ble_eq_true rfl | omega) (by first | exact Nat.le_of_ble_eq_true rfl | omega) (by first | exact Nat.le_of_ble_eq_true rfl | omega) (by first | exact Nat.le_of_ble_eq_true rfl | omega) (fun r1 h1 hr1 => ?_)
  obtain ⟨rfl, rfl⟩ := hr1
  refine k_ifeq F dJ10_charAt_4 7 16 rfl (by decide) (fun c_ => (by first | exact absurd rfl c_ | exact absurd c_ (by decide) | exact absurd (by assumption) c_ | exact absurd c_ (by assumption))) (fun _ => ?_)
  refine k_aload_n F dJ10_charAt_7 8 rfl rfl rfl ?_
  refine k_get F kcJ10 0 (by decide) q564 (fun _ e => e) dJ10_charAt_8 11 rfl hr rfl ?_
  refine k_iload_n F dJ10_charAt_11 12 rfl rfl rfl ?_
  refine k_callV F kd_J16_charAt q950 q168 (kInvS (Bs := [_, _]) F q948 q949 q168 kd_J16_charAt q950 dJ10_charAt_12 rfl (by decide)) (zJ16_charAt F.st hb hL i hi) 15 rfl (Nat.le_of_ble_eq_true rfl) (by first | exact Nat.le_of_ble_eq_true rfl | omega) (by first | exact Nat.le_of_ble_eq_true rfl | omega) (by first | exact Nat.le_of_ble_eq_true rfl | omega) (by first | exact Nat.le_of_ble_eq_true rfl | omega) (fun r2 h2 hr2 => ?_)
  obtain ⟨rfl, rfl⟩ := hr2
  exact k_zret F dJ10_charAt_15 (by first | rfl | exact kzb _ | exact pk_nc _ | decide) (by first | exact Nat.le_of_ble_eq_true rfl | omega) (by first | exact Nat.le_of_ble_eq_true rfl | omega) ⟨by rw [hf i hi], rfl⟩

