/-! the reference: scripts, read -/
section
seal mustS passS lookS numS goF pkTo namedF joinF isKeyF isSignF lookV memTo armS clashS memS phaseS phS1 phS2 phS3 phR

theorem kd_X7_orderHere : kCd (Cond.code yX7_orderHere cX7_orderHere 1 (Option.some Jvm.ClassFile.FieldType.int)) yX7_orderHere cX7_orderHere 1 (Option.some Jvm.ClassFile.FieldType.int) [] := kCd_code (by decide +kernel)
theorem kd_X7_readsSingle : kCd (Cond.code yX7_readsSingle cX7_readsSingle 2 (Option.none : Option Jvm.ClassFile.FieldType)) yX7_readsSingle cX7_readsSingle 2 (Option.none : Option Jvm.ClassFile.FieldType) [] := kCd_code (by decide +kernel)
theorem kd_X7_readsAgain : kCd (Cond.code yX7_readsAgain cX7_readsAgain 3 (Option.none : Option Jvm.ClassFile.FieldType)) yX7_readsAgain cX7_readsAgain 3 (Option.none : Option Jvm.ClassFile.FieldType) [] := kCd_code (by decide +kernel)
theorem kd_X7_readsOrder : kCd (Cond.code yX7_readsOrder cX7_readsOrder 4 (Option.none : Option Jvm.ClassFile.FieldType)) yX7_readsOrder cX7_readsOrder 4 (Option.none : Option Jvm.ClassFile.FieldType) [] := kCd_code (by decide +kernel)
theorem kd_X7_readsOrders : kCd (Cond.code yX7_readsOrders cX7_readsOrders 2 (Option.none : Option Jvm.ClassFile.FieldType)) yX7_readsOrders cX7_readsOrders 2 (Option.none : Option Jvm.ClassFile.FieldType) [] := kCd_code (by decide +kernel)
set_option maxHeartbeats 4000000 in
set_option maxRecDepth 100000 in
theorem zX7_orderHere {l : Launch} {g : kG} (S : kStart l g) {h : kH} {m : Nat} {ad : Nat → Nat} {sc R : Nat → Int32} {ar : Nat → Nat → Int32} {N : Nat} {s : SS} (hM : MW h m ad (scT sc s) R ar) (hn : sc 10 = nI N) (hB : BufOK (ar 9) N) (hs : SOK N s) : kMet l g yX7_orderHere (Cond.code yX7_orderHere cX7_orderHere 1 (Option.some Jvm.ClassFile.FieldType.int)) 7 0 0 [.ref m] h (mRd h (.int (nO (orderF (ar 9) LsX7 s)))) := by
  refine kEnter S kd_X7_orderHere (Nat.le_of_ble_eq_true rfl) (fun x F hxl hxg => ?_)
  subst hxl; subst hxg
  have hlv : lv_args 0 [.ref m] = [(0, .ref m)] := rfl
  rw [hlv]
  refine k_aload_n F dX7_orderHere_0 1 rfl rfl rfl ?_
  obtain ⟨q1, hz1, hl1⟩ := lsX7_244 F.st
  refine k_ldcS F hz1 dX7_orderHere_1 3 rfl ?_
  refine k_callV F kd_X7_isKey q3508 q194 (kInvV (Bs := [_]) F kcX7 q3505 q3507 qs76 kd_X7_isKey q3508 dX7_orderHere_3 (kHs.of hM.1) rfl (by decide)) (zX7_isKey F.st hM hn hB (by repeat' (first | assumption | with_reducible refine passS_ok ?_ | with_reducible refine lookS_ok ?_ | with_reducible refine numS_ok ?_ | with_reducible refine signS_ok ?_ | with_reducible refine goS_ok ?_ | with_reducible refine mustS_ok ?_ (by omega))) (hl1 _) (ascB_s (by decide))) 6 rfl (Nat.le_of_ble_eq_true rfl) (by first | exact Nat.le_of_ble_eq_true rfl | omega) (by first | exact Nat.le_of_ble_eq_true rfl | omega) (by first | exact Nat.le_of_ble_eq_true rfl | omega) (by first | exact Nat.le_of_ble_eq_true rfl | omega) (fun r1 h1 hr1 => ?_)
  obtain ⟨rfl, rfl⟩ := hr1
  refine k_ifeq F dX7_orderHere_6 9 11 rfl (by decide) (fun c_z0 => ?_) (fun c_z0 => ?_)
  · rw [kB_0] at c_z0
    refine k_aload_n F dX7_orderHere_11 12 rfl rfl rfl ?_
    obtain ⟨q12, hz12, hl12⟩ := lsX7_246 F.st
    refine k_ldcS F hz12 dX7_orderHere_12 14 rfl ?_
    refine k_callV F kd_X7_isKey q3508 q194 (kInvV (Bs := [_]) F kcX7 q3505 q3507 qs76 kd_X7_isKey q3508 dX7_orderHere_14 (kHs.of hM.1) rfl (by decide)) (zX7_isKey F.st hM hn hB (by repeat' (first | assumption | with_reducible refine passS_ok ?_ | with_reducible refine lookS_ok ?_ | with_reducible refine numS_ok ?_ | with_reducible refine signS_ok ?_ | with_reducible refine goS_ok ?_ | with_reducible refine mustS_ok ?_ (by omega))) (hl12 _) (ascB_s (by decide))) 17 rfl (Nat.le_of_ble_eq_true rfl) (by first | exact Nat.le_of_ble_eq_true rfl | omega) (by first | exact Nat.le_of_ble_eq_true rfl | omega) (by first | exact Nat.le_of_ble_eq_true rfl | omega) (by first | exact Nat.le_of_ble_eq_true rfl | omega) (fun r2 h2 hr2 => ?_)
    obtain ⟨rfl, rfl⟩ := hr2
    refine k_ifeq F dX7_orderHere_17 20 22 rfl (by decide) (fun c_z1 => ?_) (fun c_z1 => ?_)
    · rw [kB_0] at c_z1
      refine k_aload_n F dX7_orderHere_22 23 rfl rfl rfl ?_
      obtain ⟨q23, hz23, hl23⟩ := lsX7_247 F.st
      refine k_ldcS F hz23 dX7_orderHere_23 25 rfl ?_
      refine k_callV F kd_X7_isKey q3508 q194 (kInvV (Bs := [_]) F kcX7 q3505 q3507 qs76 kd_X7_isKey q3508 dX7_orderHere_25 (kHs.of hM.1) rfl (by decide)) (zX7_isKey F.st hM hn hB (by repeat' (first | assumption | with_reducible refine passS_ok ?_ | with_reducible refine lookS_ok ?_ | with_reducible refine numS_ok ?_ | with_reducible refine signS_ok ?_ | with_reducible refine goS_ok ?_ | with_reducible refine mustS_ok ?_ (by omega))) (hl23 _) (ascB_s (by decide))) 28 rfl (Nat.le_of_ble_eq_true rfl) (by first | exact Nat.le_of_ble_eq_true rfl | omega) (by first | exact Nat.le_of_ble_eq_true rfl | omega) (by first | exact Nat.le_of_ble_eq_true rfl | omega) (by first | exact Nat.le_of_ble_eq_true rfl | omega) (fun r3 h3 hr3 => ?_)
      obtain ⟨rfl, rfl⟩ := hr3
      refine k_ifeq F dX7_orderHere_28 31 33 rfl (by decide) (fun c_z2 => ?_) (fun c_z2 => ?_)
      · rw [kB_0] at c_z2
        refine k_aload_n F dX7_orderHere_33 34 rfl rfl rfl ?_
        obtain ⟨q34, hz34, hl34⟩ := lsX7_249 F.st
        refine k_ldcS F hz34 dX7_orderHere_34 36 rfl ?_
        refine k_callV F kd_X7_isKey q3508 q194 (kInvV (Bs := [_]) F kcX7 q3505 q3507 qs76 kd_X7_isKey q3508 dX7_orderHere_36 (kHs.of hM.1) rfl (by decide)) (zX7_isKey F.st hM hn hB (by repeat' (first | assumption | with_reducible refine passS_ok ?_ | with_reducible refine lookS_ok ?_ | with_reducible refine numS_ok ?_ | with_reducible refine signS_ok ?_ | with_reducible refine goS_ok ?_ | with_reducible refine mustS_ok ?_ (by omega))) (hl34 _) (ascB_s (by decide))) 39 rfl (Nat.le_of_ble_eq_true rfl) (by first | exact Nat.le_of_ble_eq_true rfl | omega) (by first | exact Nat.le_of_ble_eq_true rfl | omega) (by first | exact Nat.le_of_ble_eq_true rfl | omega) (by first | exact Nat.le_of_ble_eq_true rfl | omega) (fun r4 h4 hr4 => ?_)
        obtain ⟨rfl, rfl⟩ := hr4
        refine k_ifeq F dX7_orderHere_39 42 44 rfl (by decide) (fun c_z3 => ?_) (fun c_z3 => ?_)
        · rw [kB_0] at c_z3
          refine k_aload_n F dX7_orderHere_44 45 rfl rfl rfl ?_
          obtain ⟨q45, hz45, hl45⟩ := lsX7_251 F.st
          refine k_ldcS F hz45 dX7_orderHere_45 47 rfl ?_
          refine k_callV F kd_X7_isKey q3508 q194 (kInvV (Bs := [_]) F kcX7 q3505 q3507 qs76 kd_X7_isKey q3508 dX7_orderHere_47 (kHs.of hM.1) rfl (by decide)) (zX7_isKey F.st hM hn hB (by repeat' (first | assumption | with_reducible refine passS_ok ?_ | with_reducible refine lookS_ok ?_ | with_reducible refine numS_ok ?_ | with_reducible refine signS_ok ?_ | with_reducible refine goS_ok ?_ | with_reducible refine mustS_ok ?_ (by omega))) (hl45 _) (ascB_s (by decide))) 50 rfl (Nat.le_of_ble_eq_true rfl) (by first | exact Nat.le_of_ble_eq_true rfl | omega) (by first | exact Nat.le_of_ble_eq_true rfl | omega) (by first | exact Nat.le_of_ble_eq_true rfl | omega) (by first | exact Nat.le_of_ble_eq_true rfl | omega) (fun r5 h5 hr5 => ?_)
          obtain ⟨rfl, rfl⟩ := hr5
          refine k_ifeq F dX7_orderHere_50 53 55 rfl (by decide) (fun c_z4 => ?_) (fun c_z4 => ?_)
          · rw [kB_0] at c_z4
            refine k_aload_n F dX7_orderHere_55 56 rfl rfl rfl ?_
            obtain ⟨q56, hz56, hl56⟩ := lsX7_253 F.st
            refine k_ldcS F hz56 dX7_orderHere_56 58 rfl ?_
            refine k_callV F kd_X7_isKey q3508 q194 (kInvV (Bs := [_]) F kcX7 q3505 q3507 qs76 kd_X7_isKey q3508 dX7_orderHere_58 (kHs.of hM.1) rfl (by decide)) (zX7_isKey F.st hM hn hB (by repeat' (first | assumption | with_reducible refine passS_ok ?_ | with_reducible refine lookS_ok ?_ | with_reducible refine numS_ok ?_ | with_reducible refine signS_ok ?_ | with_reducible refine goS_ok ?_ | with_reducible refine mustS_ok ?_ (by omega))) (hl56 _) (ascB_s (by decide))) 61 rfl (Nat.le_of_ble_eq_true rfl) (by first | exact Nat.le_of_ble_eq_true rfl | omega) (by first | exact Nat.le_of_ble_eq_true rfl | omega) (by first | exact Nat.le_of_ble_eq_true rfl | omega) (by first | exact Nat.le_of_ble_eq_true rfl | omega) (fun r6 h6 hr6 => ?_)
            obtain ⟨rfl, rfl⟩ := hr6
            refine k_ifeq F dX7_orderHere_61 64 66 rfl (by decide) (fun c_z5 => ?_) (fun c_z5 => ?_)
            · rw [kB_0] at c_z5
              refine k_aload_n F dX7_orderHere_66 67 rfl rfl rfl ?_
              obtain ⟨q67, hz67, hl67⟩ := lsX7_255 F.st
              refine k_ldcS F hz67 dX7_orderHere_67 69 rfl ?_
              refine k_callV F kd_X7_isKey q3508 q194 (kInvV (Bs := [_]) F kcX7 q3505 q3507 qs76 kd_X7_isKey q3508 dX7_orderHere_69 (kHs.of hM.1) rfl (by decide)) (zX7_isKey F.st hM hn hB (by repeat' (first | assumption | with_reducible refine passS_ok ?_ | with_reducible refine lookS_ok ?_ | with_reducible refine numS_ok ?_ | with_reducible refine signS_ok ?_ | with_reducible refine goS_ok ?_ | with_reducible refine mustS_ok ?_ (by omega))) (hl67 _) (ascB_s (by decide))) 72 rfl (Nat.le_of_ble_eq_true rfl) (by first | exact Nat.le_of_ble_eq_true rfl | omega) (by first | exact Nat.le_of_ble_eq_true rfl | omega) (by first | exact Nat.le_of_ble_eq_true rfl | omega) (by first | exact Nat.le_of_ble_eq_true rfl | omega) (fun r7 h7 hr7 => ?_)
              obtain ⟨rfl, rfl⟩ := hr7
              refine k_ifeq F dX7_orderHere_72 75 78 rfl (by decide) (fun c_z6 => ?_) (fun c_z6 => ?_)
              · rw [kB_0] at c_z6
                refine k_aload_n F dX7_orderHere_78 79 rfl rfl rfl ?_
                obtain ⟨q79, hz79, hl79⟩ := lsX7_257 F.st
                refine k_ldcwS F hz79 dX7_orderHere_79 82 rfl ?_
                refine k_callV F kd_X7_isKey q3508 q194 (kInvV (Bs := [_]) F kcX7 q3505 q3507 qs76 kd_X7_isKey q3508 dX7_orderHere_82 (kHs.of hM.1) rfl (by decide)) (zX7_isKey F.st hM hn hB (by repeat' (first | assumption | with_reducible refine passS_ok ?_ | with_reducible refine lookS_ok ?_ | with_reducible refine numS_ok ?_ | with_reducible refine signS_ok ?_ | with_reducible refine goS_ok ?_ | with_reducible refine mustS_ok ?_ (by omega))) (hl79 _) (ascB_s (by decide))) 85 rfl (Nat.le_of_ble_eq_true rfl) (by first | exact Nat.le_of_ble_eq_true rfl | omega) (by first | exact Nat.le_of_ble_eq_true rfl | omega) (by first | exact Nat.le_of_ble_eq_true rfl | omega) (by first | exact Nat.le_of_ble_eq_true rfl | omega) (fun r8 h8 hr8 => ?_)
                obtain ⟨rfl, rfl⟩ := hr8
                refine k_ifeq F dX7_orderHere_85 88 91 rfl (by decide) (fun c_z7 => ?_) (fun c_z7 => ?_)
                · rw [kB_0] at c_z7
                  refine k_aload_n F dX7_orderHere_91 92 rfl rfl rfl ?_
                  obtain ⟨q92, hz92, hl92⟩ := lsX7_259 F.st
                  refine k_ldcwS F hz92 dX7_orderHere_92 95 rfl ?_
                  refine k_callV F kd_X7_isKey q3508 q194 (kInvV (Bs := [_]) F kcX7 q3505 q3507 qs76 kd_X7_isKey q3508 dX7_orderHere_95 (kHs.of hM.1) rfl (by decide)) (zX7_isKey F.st hM hn hB (by repeat' (first | assumption | with_reducible refine passS_ok ?_ | with_reducible refine lookS_ok ?_ | with_reducible refine numS_ok ?_ | with_reducible refine signS_ok ?_ | with_reducible refine goS_ok ?_ | with_reducible refine mustS_ok ?_ (by omega))) (hl92 _) (ascB_s (by decide))) 98 rfl (Nat.le_of_ble_eq_true rfl) (by first | exact Nat.le_of_ble_eq_true rfl | omega) (by first | exact Nat.le_of_ble_eq_true rfl | omega) (by first | exact Nat.le_of_ble_eq_true rfl | omega) (by first | exact Nat.le_of_ble_eq_true rfl | omega) (fun r9 h9 hr9 => ?_)
                  obtain ⟨rfl, rfl⟩ := hr9
                  refine k_ifeq F dX7_orderHere_98 101 104 rfl (by decide) (fun c_z8 => ?_) (fun c_z8 => ?_)
                  · rw [kB_0] at c_z8
                    refine k_aload_n F dX7_orderHere_104 105 rfl rfl rfl ?_
                    obtain ⟨q105, hz105, hl105⟩ := lsX7_261 F.st
                    refine k_ldcwS F hz105 dX7_orderHere_105 108 rfl ?_
                    refine k_callV F kd_X7_isKey q3508 q194 (kInvV (Bs := [_]) F kcX7 q3505 q3507 qs76 kd_X7_isKey q3508 dX7_orderHere_108 (kHs.of hM.1) rfl (by decide)) (zX7_isKey F.st hM hn hB (by repeat' (first | assumption | with_reducible refine passS_ok ?_ | with_reducible refine lookS_ok ?_ | with_reducible refine numS_ok ?_ | with_reducible refine signS_ok ?_ | with_reducible refine goS_ok ?_ | with_reducible refine mustS_ok ?_ (by omega))) (hl105 _) (ascB_s (by decide))) 111 rfl (Nat.le_of_ble_eq_true rfl) (by first | exact Nat.le_of_ble_eq_true rfl | omega) (by first | exact Nat.le_of_ble_eq_true rfl | omega) (by first | exact Nat.le_of_ble_eq_true rfl | omega) (by first | exact Nat.le_of_ble_eq_true rfl | omega) (fun r10 h10 hr10 => ?_)
                    obtain ⟨rfl, rfl⟩ := hr10
                    refine k_ifeq F dX7_orderHere_111 114 119 rfl (by decide) (fun c_z9 => ?_) (fun c_z9 => ?_)
                    · rw [kB_0] at c_z9
                      refine k_iconst (v := (-1)) F dX7_orderHere_119 120 rfl (by decide) ?_
                      have ef : orderF (ar 9) LsX7 s = none := findTo_none (fun i hi => by rcases (show i = 0 ∨ i = 1 ∨ i = 2 ∨ i = 3 ∨ i = 4 ∨ i = 5 ∨ i = 6 ∨ i = 7 ∨ i = 8 ∨ i = 9 by omega) with rfl | rfl | rfl | rfl | rfl | rfl | rfl | rfl | rfl | rfl <;> assumption)
                      rw [ef] at F
                      exact k_iret F dX7_orderHere_120 (by first | exact Nat.le_of_ble_eq_true rfl | omega) (by first | exact Nat.le_of_ble_eq_true rfl | omega) ⟨rfl, rfl⟩
                    · rw [kB_0, Bool.not_eq_false] at c_z9
                      refine k_bipush (v := 9) F dX7_orderHere_114 116 rfl (by decide) ?_
                      refine k_goto F dX7_orderHere_116 120 (by decide) ?_
                      have ef : orderF (ar 9) LsX7 s = some 9 := findTo_some (f := fun k => isKeyF (ar 9) s (LsX7 k)) (by omega) (fun i hi => by rcases (show i = 0 ∨ i = 1 ∨ i = 2 ∨ i = 3 ∨ i = 4 ∨ i = 5 ∨ i = 6 ∨ i = 7 ∨ i = 8 by omega) with rfl | rfl | rfl | rfl | rfl | rfl | rfl | rfl | rfl <;> assumption) c_z9
                      rw [ef] at F
                      exact k_iret F dX7_orderHere_120 (by first | exact Nat.le_of_ble_eq_true rfl | omega) (by first | exact Nat.le_of_ble_eq_true rfl | omega) ⟨rfl, rfl⟩
                  · rw [kB_0, Bool.not_eq_false] at c_z8
                    refine k_bipush (v := 8) F dX7_orderHere_101 103 rfl (by decide) ?_
                    have ef : orderF (ar 9) LsX7 s = some 8 := findTo_some (f := fun k => isKeyF (ar 9) s (LsX7 k)) (by omega) (fun i hi => by rcases (show i = 0 ∨ i = 1 ∨ i = 2 ∨ i = 3 ∨ i = 4 ∨ i = 5 ∨ i = 6 ∨ i = 7 by omega) with rfl | rfl | rfl | rfl | rfl | rfl | rfl | rfl <;> assumption) c_z8
                    rw [ef] at F
                    exact k_iret F dX7_orderHere_103 (by first | exact Nat.le_of_ble_eq_true rfl | omega) (by first | exact Nat.le_of_ble_eq_true rfl | omega) ⟨rfl, rfl⟩
                · rw [kB_0, Bool.not_eq_false] at c_z7
                  refine k_bipush (v := 7) F dX7_orderHere_88 90 rfl (by decide) ?_
                  have ef : orderF (ar 9) LsX7 s = some 7 := findTo_some (f := fun k => isKeyF (ar 9) s (LsX7 k)) (by omega) (fun i hi => by rcases (show i = 0 ∨ i = 1 ∨ i = 2 ∨ i = 3 ∨ i = 4 ∨ i = 5 ∨ i = 6 by omega) with rfl | rfl | rfl | rfl | rfl | rfl | rfl <;> assumption) c_z7
                  rw [ef] at F
                  exact k_iret F dX7_orderHere_90 (by first | exact Nat.le_of_ble_eq_true rfl | omega) (by first | exact Nat.le_of_ble_eq_true rfl | omega) ⟨rfl, rfl⟩
              · rw [kB_0, Bool.not_eq_false] at c_z6
                refine k_bipush (v := 6) F dX7_orderHere_75 77 rfl (by decide) ?_
                have ef : orderF (ar 9) LsX7 s = some 6 := findTo_some (f := fun k => isKeyF (ar 9) s (LsX7 k)) (by omega) (fun i hi => by rcases (show i = 0 ∨ i = 1 ∨ i = 2 ∨ i = 3 ∨ i = 4 ∨ i = 5 by omega) with rfl | rfl | rfl | rfl | rfl | rfl <;> assumption) c_z6
                rw [ef] at F
                exact k_iret F dX7_orderHere_77 (by first | exact Nat.le_of_ble_eq_true rfl | omega) (by first | exact Nat.le_of_ble_eq_true rfl | omega) ⟨rfl, rfl⟩
            · rw [kB_0, Bool.not_eq_false] at c_z5
              refine k_iconst (v := 5) F dX7_orderHere_64 65 rfl (by decide) ?_
              have ef : orderF (ar 9) LsX7 s = some 5 := findTo_some (f := fun k => isKeyF (ar 9) s (LsX7 k)) (by omega) (fun i hi => by rcases (show i = 0 ∨ i = 1 ∨ i = 2 ∨ i = 3 ∨ i = 4 by omega) with rfl | rfl | rfl | rfl | rfl <;> assumption) c_z5
              rw [ef] at F
              exact k_iret F dX7_orderHere_65 (by first | exact Nat.le_of_ble_eq_true rfl | omega) (by first | exact Nat.le_of_ble_eq_true rfl | omega) ⟨rfl, rfl⟩
          · rw [kB_0, Bool.not_eq_false] at c_z4
            refine k_iconst (v := 4) F dX7_orderHere_53 54 rfl (by decide) ?_
            have ef : orderF (ar 9) LsX7 s = some 4 := findTo_some (f := fun k => isKeyF (ar 9) s (LsX7 k)) (by omega) (fun i hi => by rcases (show i = 0 ∨ i = 1 ∨ i = 2 ∨ i = 3 by omega) with rfl | rfl | rfl | rfl <;> assumption) c_z4
            rw [ef] at F
            exact k_iret F dX7_orderHere_54 (by first | exact Nat.le_of_ble_eq_true rfl | omega) (by first | exact Nat.le_of_ble_eq_true rfl | omega) ⟨rfl, rfl⟩
        · rw [kB_0, Bool.not_eq_false] at c_z3
          refine k_iconst (v := 3) F dX7_orderHere_42 43 rfl (by decide) ?_
          have ef : orderF (ar 9) LsX7 s = some 3 := findTo_some (f := fun k => isKeyF (ar 9) s (LsX7 k)) (by omega) (fun i hi => by rcases (show i = 0 ∨ i = 1 ∨ i = 2 by omega) with rfl | rfl | rfl <;> assumption) c_z3
          rw [ef] at F
          exact k_iret F dX7_orderHere_43 (by first | exact Nat.le_of_ble_eq_true rfl | omega) (by first | exact Nat.le_of_ble_eq_true rfl | omega) ⟨rfl, rfl⟩
      · rw [kB_0, Bool.not_eq_false] at c_z2
        refine k_iconst (v := 2) F dX7_orderHere_31 32 rfl (by decide) ?_
        have ef : orderF (ar 9) LsX7 s = some 2 := findTo_some (f := fun k => isKeyF (ar 9) s (LsX7 k)) (by omega) (fun i hi => by rcases (show i = 0 ∨ i = 1 by omega) with rfl | rfl <;> assumption) c_z2
        rw [ef] at F
        exact k_iret F dX7_orderHere_32 (by first | exact Nat.le_of_ble_eq_true rfl | omega) (by first | exact Nat.le_of_ble_eq_true rfl | omega) ⟨rfl, rfl⟩
    · rw [kB_0, Bool.not_eq_false] at c_z1
      refine k_iconst (v := 1) F dX7_orderHere_20 21 rfl (by decide) ?_
      have ef : orderF (ar 9) LsX7 s = some 1 := findTo_some (f := fun k => isKeyF (ar 9) s (LsX7 k)) (by omega) (fun i hi => by rcases (show i = 0 by omega) with rfl <;> assumption) c_z1
      rw [ef] at F
      exact k_iret F dX7_orderHere_21 (by first | exact Nat.le_of_ble_eq_true rfl | omega) (by first | exact Nat.le_of_ble_eq_true rfl | omega) ⟨rfl, rfl⟩
  · rw [kB_0, Bool.not_eq_false] at c_z0
    refine k_iconst (v := 0) F dX7_orderHere_9 10 rfl (by decide) ?_
    have ef : orderF (ar 9) LsX7 s = some 0 := findTo_some (f := fun k => isKeyF (ar 9) s (LsX7 k)) (by omega) (fun i hi => absurd hi (by omega)) c_z0
    rw [ef] at F
    exact k_iret F dX7_orderHere_10 (by first | exact Nat.le_of_ble_eq_true rfl | omega) (by first | exact Nat.le_of_ble_eq_true rfl | omega) ⟨rfl, rfl⟩
set_option maxHeartbeats 4000000 in
set_option maxRecDepth 100000 in
theorem zX7_readsSingle {l : Launch} {g : kG} (S : kStart l g) {h : kH} {m : Nat} {ad : Nat → Nat} {sc R : Nat → Int32} {ar : Nat → Nat → Int32} {N : Nat} {s : SS} (hM : MW h m ad (scT sc s) R ar) (hn : sc 10 = nI N) (hB : BufOK (ar 9) N) (hs : SOK N s) (i kd : Nat) (hi : i < 30) (hk : kd ≤ 8) (h17 : ar 17 i = nI kd) : kMet l g yX7_readsSingle (Cond.code yX7_readsSingle cX7_readsSingle 2 (Option.none : Option Jvm.ClassFile.FieldType)) 5 0 0 [.ref m, .int (nI i)] h (mDo h m ad (scT sc (singleS (ar 9) N i kd (s, ar)).1) R (singleS (ar 9) N i kd (s, ar)).2) := by
  refine kEnter S kd_X7_readsSingle (Nat.le_of_ble_eq_true rfl) (fun x F hxl hxg => ?_)
  subst hxl; subst hxg
  have hlv : lv_args 0 [.ref m, .int (nI i)] = [(0, .ref m), (1, .int (nI i))] := rfl
  rw [hlv]
  have hK : kKp (mOwn m) h h := kKp.rf
  refine k_aload_n F dX7_readsSingle_0 1 rfl rfl rfl ?_
  refine m_get F 17 (by decide) q3609 rfl dX7_readsSingle_1 4 rfl hM rfl ?_
  refine k_iload_n F dX7_readsSingle_4 5 rfl rfl rfl ?_
  refine m_iald F _ (by rfl) dX7_readsSingle_5 6 rfl hM (i) (by first | (with_reducible rfl) | (simp only [nI_lit, pk_mul, nI_add])) (by first | decide | omega | (simp only [mSz]; omega)) ?_
  rw [h17]
  rcases (show kd = 0 ∨ kd = 1 ∨ kd = 2 ∨ kd = 3 ∨ kd = 4 ∨ kd = 5 ∨ kd = 6 ∨ kd = 7 ∨ kd = 8 by omega) with rfl | rfl | rfl | rfl | rfl | rfl | rfl | rfl | rfl
  · have ef : singleS (ar 9) N i 0 (s, ar) = rdN (ar 9) N 19 i 1 99 (rdW (ar 9) N i (s, ar)) := rfl
    rw [ef] at F
    refine k_tableIn F dX7_readsSingle_6 56 (by decide) (by decide) (by rfl) (by decide) ?_
    refine k_aload_n F dX7_readsSingle_56 57 rfl rfl rfl ?_
    refine m_get F 18 (by decide) q3610 rfl dX7_readsSingle_57 60 rfl hM rfl ?_
    refine k_iload_n F dX7_readsSingle_60 61 rfl rfl rfl ?_
    refine k_aload_n F dX7_readsSingle_61 62 rfl rfl rfl ?_
    refine k_callV F kd_X7_takesName q3729 q194 (kInvV (Bs := []) F kcX7 q3726 q3728 qs103 kd_X7_takesName q3729 dX7_readsSingle_62 (kHs.of hM.1) rfl (by decide)) (zX7_takesName F.st hM hn hB (by repeat' (first | assumption | with_reducible refine passS_ok ?_ | with_reducible refine lookS_ok ?_ | with_reducible refine numS_ok ?_ | with_reducible refine signS_ok ?_ | with_reducible refine goS_ok ?_ | with_reducible refine mustS_ok ?_ (by omega)))) 65 rfl (Nat.le_of_ble_eq_true rfl) (by first | exact Nat.le_of_ble_eq_true rfl | omega) (by first | exact Nat.le_of_ble_eq_true rfl | omega) (by first | exact Nat.le_of_ble_eq_true rfl | omega) (by first | exact Nat.le_of_ble_eq_true rfl | omega) (fun r1 h1 hr1 => ?_)
    obtain ⟨rfl, hM, hK9⟩ := hr1
    have hK := hK.tr hK9
    refine m_iast F _ (by rfl) dX7_readsSingle_65 66 rfl hM hK (i) (by first | (with_reducible rfl) | (simp only [nI_lit, pk_mul, nI_add])) (by first | decide | omega | (simp only [mSz]; omega)) (fun h9 hM hK => ?_)
    refine k_aload_n F dX7_readsSingle_66 67 rfl rfl rfl ?_
    refine m_get F 19 (by decide) q3611 rfl dX7_readsSingle_67 70 rfl hM rfl ?_
    refine k_iload_n F dX7_readsSingle_70 71 rfl rfl rfl ?_
    refine k_aload_n F dX7_readsSingle_71 72 rfl rfl rfl ?_
    refine k_iconst (v := 1) F dX7_readsSingle_72 73 rfl (by decide) ?_
    refine k_bipush (v := 99) F dX7_readsSingle_73 75 rfl (by decide) ?_
    refine k_callV F kd_X7_number q3520 q194 (kInvV (Bs := [_, _]) F kcX7 q3517 q3519 qs79 kd_X7_number q3520 dX7_readsSingle_75 (kHs.of hM.1) rfl (by decide)) (zX7_number F.st hM hn hB (by repeat' (first | assumption | with_reducible refine passS_ok ?_ | with_reducible refine lookS_ok ?_ | with_reducible refine numS_ok ?_ | with_reducible refine signS_ok ?_ | with_reducible refine goS_ok ?_ | with_reducible refine mustS_ok ?_ (by omega))) _ _) 78 rfl (Nat.le_of_ble_eq_true rfl) (by first | exact Nat.le_of_ble_eq_true rfl | omega) (by first | exact Nat.le_of_ble_eq_true rfl | omega) (by first | exact Nat.le_of_ble_eq_true rfl | omega) (by first | exact Nat.le_of_ble_eq_true rfl | omega) (fun r2 h2 hr2 => ?_)
    obtain ⟨rfl, hM, hK9⟩ := hr2
    have hK := hK.tr hK9
    refine m_iast F _ (by rfl) dX7_readsSingle_78 79 rfl hM hK (i) (by first | (with_reducible rfl) | (simp only [nI_lit, pk_mul, nI_add])) (by first | decide | omega | (simp only [mSz]; omega)) (fun h9 hM hK => ?_)
    refine k_goto F dX7_readsSingle_79 198 (by decide) ?_
    exact k_vret F dX7_readsSingle_198 (by first | exact Nat.le_of_ble_eq_true rfl | omega) (by first | exact Nat.le_of_ble_eq_true rfl | omega) ⟨hM, hK⟩
  · have ef : singleS (ar 9) N i 1 (s, ar) = rdN (ar 9) N 19 i 1 60 (s, ar) := rfl
    rw [ef] at F
    refine k_tableIn F dX7_readsSingle_6 82 (by decide) (by decide) (by rfl) (by decide) ?_
    refine k_aload_n F dX7_readsSingle_82 83 rfl rfl rfl ?_
    refine m_get F 19 (by decide) q3611 rfl dX7_readsSingle_83 86 rfl hM rfl ?_
    refine k_iload_n F dX7_readsSingle_86 87 rfl rfl rfl ?_
    refine k_aload_n F dX7_readsSingle_87 88 rfl rfl rfl ?_
    refine k_iconst (v := 1) F dX7_readsSingle_88 89 rfl (by decide) ?_
    refine k_bipush (v := 60) F dX7_readsSingle_89 91 rfl (by decide) ?_
    refine k_callV F kd_X7_number q3520 q194 (kInvV (Bs := [_, _]) F kcX7 q3517 q3519 qs79 kd_X7_number q3520 dX7_readsSingle_91 (kHs.of hM.1) rfl (by decide)) (zX7_number F.st hM hn hB (by repeat' (first | assumption | with_reducible refine passS_ok ?_ | with_reducible refine lookS_ok ?_ | with_reducible refine numS_ok ?_ | with_reducible refine signS_ok ?_ | with_reducible refine goS_ok ?_ | with_reducible refine mustS_ok ?_ (by omega))) _ _) 94 rfl (Nat.le_of_ble_eq_true rfl) (by first | exact Nat.le_of_ble_eq_true rfl | omega) (by first | exact Nat.le_of_ble_eq_true rfl | omega) (by first | exact Nat.le_of_ble_eq_true rfl | omega) (by first | exact Nat.le_of_ble_eq_true rfl | omega) (fun r3 h3 hr3 => ?_)
    obtain ⟨rfl, hM, hK9⟩ := hr3
    have hK := hK.tr hK9
    refine m_iast F _ (by rfl) dX7_readsSingle_94 95 rfl hM hK (i) (by first | (with_reducible rfl) | (simp only [nI_lit, pk_mul, nI_add])) (by first | decide | omega | (simp only [mSz]; omega)) (fun h9 hM hK => ?_)
    refine k_goto F dX7_readsSingle_95 198 (by decide) ?_
    exact k_vret F dX7_readsSingle_198 (by first | exact Nat.le_of_ble_eq_true rfl | omega) (by first | exact Nat.le_of_ble_eq_true rfl | omega) ⟨hM, hK⟩
  · have ef : singleS (ar 9) N i 2 (s, ar) = rdN (ar 9) N 19 i 0 5 (s, ar) := rfl
    rw [ef] at F
    refine k_tableIn F dX7_readsSingle_6 98 (by decide) (by decide) (by rfl) (by decide) ?_
    refine k_aload_n F dX7_readsSingle_98 99 rfl rfl rfl ?_
    refine m_get F 19 (by decide) q3611 rfl dX7_readsSingle_99 102 rfl hM rfl ?_
    refine k_iload_n F dX7_readsSingle_102 103 rfl rfl rfl ?_
    refine k_aload_n F dX7_readsSingle_103 104 rfl rfl rfl ?_
    refine k_iconst (v := 0) F dX7_readsSingle_104 105 rfl (by decide) ?_
    refine k_iconst (v := 5) F dX7_readsSingle_105 106 rfl (by decide) ?_
    refine k_callV F kd_X7_number q3520 q194 (kInvV (Bs := [_, _]) F kcX7 q3517 q3519 qs79 kd_X7_number q3520 dX7_readsSingle_106 (kHs.of hM.1) rfl (by decide)) (zX7_number F.st hM hn hB (by repeat' (first | assumption | with_reducible refine passS_ok ?_ | with_reducible refine lookS_ok ?_ | with_reducible refine numS_ok ?_ | with_reducible refine signS_ok ?_ | with_reducible refine goS_ok ?_ | with_reducible refine mustS_ok ?_ (by omega))) _ _) 109 rfl (Nat.le_of_ble_eq_true rfl) (by first | exact Nat.le_of_ble_eq_true rfl | omega) (by first | exact Nat.le_of_ble_eq_true rfl | omega) (by first | exact Nat.le_of_ble_eq_true rfl | omega) (by first | exact Nat.le_of_ble_eq_true rfl | omega) (fun r4 h4 hr4 => ?_)
    obtain ⟨rfl, hM, hK9⟩ := hr4
    have hK := hK.tr hK9
    refine m_iast F _ (by rfl) dX7_readsSingle_109 110 rfl hM hK (i) (by first | (with_reducible rfl) | (simp only [nI_lit, pk_mul, nI_add])) (by first | decide | omega | (simp only [mSz]; omega)) (fun h9 hM hK => ?_)
    refine k_goto F dX7_readsSingle_110 198 (by decide) ?_
    exact k_vret F dX7_readsSingle_198 (by first | exact Nat.le_of_ble_eq_true rfl | omega) (by first | exact Nat.le_of_ble_eq_true rfl | omega) ⟨hM, hK⟩
  · have ef : singleS (ar 9) N i 3 (s, ar) = rdW (ar 9) N i (s, ar) := rfl
    rw [ef] at F
    refine k_tableIn F dX7_readsSingle_6 188 (by decide) (by decide) (by rfl) (by decide) ?_
    refine k_aload_n F dX7_readsSingle_188 189 rfl rfl rfl ?_
    refine m_get F 18 (by decide) q3610 rfl dX7_readsSingle_189 192 rfl hM rfl ?_
    refine k_iload_n F dX7_readsSingle_192 193 rfl rfl rfl ?_
    refine k_aload_n F dX7_readsSingle_193 194 rfl rfl rfl ?_
    refine k_callV F kd_X7_takesName q3729 q194 (kInvV (Bs := []) F kcX7 q3726 q3728 qs103 kd_X7_takesName q3729 dX7_readsSingle_194 (kHs.of hM.1) rfl (by decide)) (zX7_takesName F.st hM hn hB (by repeat' (first | assumption | with_reducible refine passS_ok ?_ | with_reducible refine lookS_ok ?_ | with_reducible refine numS_ok ?_ | with_reducible refine signS_ok ?_ | with_reducible refine goS_ok ?_ | with_reducible refine mustS_ok ?_ (by omega)))) 197 rfl (Nat.le_of_ble_eq_true rfl) (by first | exact Nat.le_of_ble_eq_true rfl | omega) (by first | exact Nat.le_of_ble_eq_true rfl | omega) (by first | exact Nat.le_of_ble_eq_true rfl | omega) (by first | exact Nat.le_of_ble_eq_true rfl | omega) (fun r5 h5 hr5 => ?_)
    obtain ⟨rfl, hM, hK9⟩ := hr5
    have hK := hK.tr hK9
    refine m_iast F _ (by rfl) dX7_readsSingle_197 198 rfl hM hK (i) (by first | (with_reducible rfl) | (simp only [nI_lit, pk_mul, nI_add])) (by first | decide | omega | (simp only [mSz]; omega)) (fun h9 hM hK => ?_)
    exact k_vret F dX7_readsSingle_198 (by first | exact Nat.le_of_ble_eq_true rfl | omega) (by first | exact Nat.le_of_ble_eq_true rfl | omega) ⟨hM, hK⟩
  · have ef : singleS (ar 9) N i 4 (s, ar) = rdW (ar 9) N i (s, ar) := rfl
    rw [ef] at F
    refine k_tableIn F dX7_readsSingle_6 188 (by decide) (by decide) (by rfl) (by decide) ?_
    refine k_aload_n F dX7_readsSingle_188 189 rfl rfl rfl ?_
    refine m_get F 18 (by decide) q3610 rfl dX7_readsSingle_189 192 rfl hM rfl ?_
    refine k_iload_n F dX7_readsSingle_192 193 rfl rfl rfl ?_
    refine k_aload_n F dX7_readsSingle_193 194 rfl rfl rfl ?_
    refine k_callV F kd_X7_takesName q3729 q194 (kInvV (Bs := []) F kcX7 q3726 q3728 qs103 kd_X7_takesName q3729 dX7_readsSingle_194 (kHs.of hM.1) rfl (by decide)) (zX7_takesName F.st hM hn hB (by repeat' (first | assumption | with_reducible refine passS_ok ?_ | with_reducible refine lookS_ok ?_ | with_reducible refine numS_ok ?_ | with_reducible refine signS_ok ?_ | with_reducible refine goS_ok ?_ | with_reducible refine mustS_ok ?_ (by omega)))) 197 rfl (Nat.le_of_ble_eq_true rfl) (by first | exact Nat.le_of_ble_eq_true rfl | omega) (by first | exact Nat.le_of_ble_eq_true rfl | omega) (by first | exact Nat.le_of_ble_eq_true rfl | omega) (by first | exact Nat.le_of_ble_eq_true rfl | omega) (fun r6 h6 hr6 => ?_)
    obtain ⟨rfl, hM, hK9⟩ := hr6
    have hK := hK.tr hK9
    refine m_iast F _ (by rfl) dX7_readsSingle_197 198 rfl hM hK (i) (by first | (with_reducible rfl) | (simp only [nI_lit, pk_mul, nI_add])) (by first | decide | omega | (simp only [mSz]; omega)) (fun h9 hM hK => ?_)
    exact k_vret F dX7_readsSingle_198 (by first | exact Nat.le_of_ble_eq_true rfl | omega) (by first | exact Nat.le_of_ble_eq_true rfl | omega) ⟨hM, hK⟩
  · have ef : singleS (ar 9) N i 5 (s, ar) = rdN (ar 9) N 19 i 0 2 (s, ar) := rfl
    rw [ef] at F
    refine k_tableIn F dX7_readsSingle_6 113 (by decide) (by decide) (by rfl) (by decide) ?_
    refine k_aload_n F dX7_readsSingle_113 114 rfl rfl rfl ?_
    refine m_get F 19 (by decide) q3611 rfl dX7_readsSingle_114 117 rfl hM rfl ?_
    refine k_iload_n F dX7_readsSingle_117 118 rfl rfl rfl ?_
    refine k_aload_n F dX7_readsSingle_118 119 rfl rfl rfl ?_
    refine k_iconst (v := 0) F dX7_readsSingle_119 120 rfl (by decide) ?_
    refine k_iconst (v := 2) F dX7_readsSingle_120 121 rfl (by decide) ?_
    refine k_callV F kd_X7_number q3520 q194 (kInvV (Bs := [_, _]) F kcX7 q3517 q3519 qs79 kd_X7_number q3520 dX7_readsSingle_121 (kHs.of hM.1) rfl (by decide)) (zX7_number F.st hM hn hB (by repeat' (first | assumption | with_reducible refine passS_ok ?_ | with_reducible refine lookS_ok ?_ | with_reducible refine numS_ok ?_ | with_reducible refine signS_ok ?_ | with_reducible refine goS_ok ?_ | with_reducible refine mustS_ok ?_ (by omega))) _ _) 124 rfl (Nat.le_of_ble_eq_true rfl) (by first | exact Nat.le_of_ble_eq_true rfl | omega) (by first | exact Nat.le_of_ble_eq_true rfl | omega) (by first | exact Nat.le_of_ble_eq_true rfl | omega) (by first | exact Nat.le_of_ble_eq_true rfl | omega) (fun r7 h7 hr7 => ?_)
    obtain ⟨rfl, hM, hK9⟩ := hr7
    have hK := hK.tr hK9
    refine m_iast F _ (by rfl) dX7_readsSingle_124 125 rfl hM hK (i) (by first | (with_reducible rfl) | (simp only [nI_lit, pk_mul, nI_add])) (by first | decide | omega | (simp only [mSz]; omega)) (fun h9 hM hK => ?_)
    refine k_goto F dX7_readsSingle_125 198 (by decide) ?_
    exact k_vret F dX7_readsSingle_198 (by first | exact Nat.le_of_ble_eq_true rfl | omega) (by first | exact Nat.le_of_ble_eq_true rfl | omega) ⟨hM, hK⟩
  · have ef : singleS (ar 9) N i 6 (s, ar) = rdN (ar 9) N 19 i 0 20 (s, ar) := rfl
    rw [ef] at F
    refine k_tableIn F dX7_readsSingle_6 128 (by decide) (by decide) (by rfl) (by decide) ?_
    refine k_aload_n F dX7_readsSingle_128 129 rfl rfl rfl ?_
    refine m_get F 19 (by decide) q3611 rfl dX7_readsSingle_129 132 rfl hM rfl ?_
    refine k_iload_n F dX7_readsSingle_132 133 rfl rfl rfl ?_
    refine k_aload_n F dX7_readsSingle_133 134 rfl rfl rfl ?_
    refine k_iconst (v := 0) F dX7_readsSingle_134 135 rfl (by decide) ?_
    refine k_bipush (v := 20) F dX7_readsSingle_135 137 rfl (by decide) ?_
    refine k_callV F kd_X7_number q3520 q194 (kInvV (Bs := [_, _]) F kcX7 q3517 q3519 qs79 kd_X7_number q3520 dX7_readsSingle_137 (kHs.of hM.1) rfl (by decide)) (zX7_number F.st hM hn hB (by repeat' (first | assumption | with_reducible refine passS_ok ?_ | with_reducible refine lookS_ok ?_ | with_reducible refine numS_ok ?_ | with_reducible refine signS_ok ?_ | with_reducible refine goS_ok ?_ | with_reducible refine mustS_ok ?_ (by omega))) _ _) 140 rfl (Nat.le_of_ble_eq_true rfl) (by first | exact Nat.le_of_ble_eq_true rfl | omega) (by first | exact Nat.le_of_ble_eq_true rfl | omega) (by first | exact Nat.le_of_ble_eq_true rfl | omega) (by first | exact Nat.le_of_ble_eq_true rfl | omega) (fun r8 h8 hr8 => ?_)
    obtain ⟨rfl, hM, hK9⟩ := hr8
    have hK := hK.tr hK9
    refine m_iast F _ (by rfl) dX7_readsSingle_140 141 rfl hM hK (i) (by first | (with_reducible rfl) | (simp only [nI_lit, pk_mul, nI_add])) (by first | decide | omega | (simp only [mSz]; omega)) (fun h9 hM hK => ?_)
    refine k_goto F dX7_readsSingle_141 198 (by decide) ?_
    exact k_vret F dX7_readsSingle_198 (by first | exact Nat.le_of_ble_eq_true rfl | omega) (by first | exact Nat.le_of_ble_eq_true rfl | omega) ⟨hM, hK⟩
  · have ef : singleS (ar 9) N i 7 (s, ar) = rdN (ar 9) N 20 i 1 60 (rdN (ar 9) N 19 i 0 5 (s, ar)) := rfl
    rw [ef] at F
    refine k_tableIn F dX7_readsSingle_6 144 (by decide) (by decide) (by rfl) (by decide) ?_
    refine k_aload_n F dX7_readsSingle_144 145 rfl rfl rfl ?_
    refine m_get F 19 (by decide) q3611 rfl dX7_readsSingle_145 148 rfl hM rfl ?_
    refine k_iload_n F dX7_readsSingle_148 149 rfl rfl rfl ?_
    refine k_aload_n F dX7_readsSingle_149 150 rfl rfl rfl ?_
    refine k_iconst (v := 0) F dX7_readsSingle_150 151 rfl (by decide) ?_
    refine k_iconst (v := 5) F dX7_readsSingle_151 152 rfl (by decide) ?_
    refine k_callV F kd_X7_number q3520 q194 (kInvV (Bs := [_, _]) F kcX7 q3517 q3519 qs79 kd_X7_number q3520 dX7_readsSingle_152 (kHs.of hM.1) rfl (by decide)) (zX7_number F.st hM hn hB (by repeat' (first | assumption | with_reducible refine passS_ok ?_ | with_reducible refine lookS_ok ?_ | with_reducible refine numS_ok ?_ | with_reducible refine signS_ok ?_ | with_reducible refine goS_ok ?_ | with_reducible refine mustS_ok ?_ (by omega))) _ _) 155 rfl (Nat.le_of_ble_eq_true rfl) (by first | exact Nat.le_of_ble_eq_true rfl | omega) (by first | exact Nat.le_of_ble_eq_true rfl | omega) (by first | exact Nat.le_of_ble_eq_true rfl | omega) (by first | exact Nat.le_of_ble_eq_true rfl | omega) (fun r9 h9 hr9 => ?_)
    obtain ⟨rfl, hM, hK9⟩ := hr9
    have hK := hK.tr hK9
    refine m_iast F _ (by rfl) dX7_readsSingle_155 156 rfl hM hK (i) (by first | (with_reducible rfl) | (simp only [nI_lit, pk_mul, nI_add])) (by first | decide | omega | (simp only [mSz]; omega)) (fun h9 hM hK => ?_)
    refine k_aload_n F dX7_readsSingle_156 157 rfl rfl rfl ?_
    refine m_get F 20 (by decide) q3612 rfl dX7_readsSingle_157 160 rfl hM rfl ?_
    refine k_iload_n F dX7_readsSingle_160 161 rfl rfl rfl ?_
    refine k_aload_n F dX7_readsSingle_161 162 rfl rfl rfl ?_
    refine k_iconst (v := 1) F dX7_readsSingle_162 163 rfl (by decide) ?_
    refine k_aload_n F dX7_readsSingle_163 164 rfl rfl rfl ?_
    refine m_get F 17 (by decide) q3609 rfl dX7_readsSingle_164 167 rfl hM rfl ?_
    refine k_iload_n F dX7_readsSingle_167 168 rfl rfl rfl ?_
    refine m_iald F _ (by rfl) dX7_readsSingle_168 169 rfl hM (i) (by first | (with_reducible rfl) | (simp only [nI_lit, pk_mul, nI_add])) (by first | decide | omega | (simp only [mSz]; omega)) ?_
    rw [show updA ar 19 i (nI s.1.2.2.2) 17 i = nI 7 from h17]
    refine k_bipush (v := 7) F dX7_readsSingle_169 171 rfl (by decide) ?_
    refine k_icmpne F dX7_readsSingle_171 174 179 rfl (by decide) (fun c_ => (by first | exact absurd rfl c_ | exact absurd c_ (by decide) | exact absurd (by assumption) c_ | exact absurd c_ (by assumption))) (fun _ => ?_)
    refine k_bipush (v := 60) F dX7_readsSingle_174 176 rfl (by decide) ?_
    refine k_goto F dX7_readsSingle_176 181 (by decide) ?_
    refine k_callV F kd_X7_number q3520 q194 (kInvV (Bs := [_, _]) F kcX7 q3517 q3519 qs79 kd_X7_number q3520 dX7_readsSingle_181 (kHs.of hM.1) rfl (by decide)) (zX7_number F.st hM hn hB (by repeat' (first | assumption | with_reducible refine passS_ok ?_ | with_reducible refine lookS_ok ?_ | with_reducible refine numS_ok ?_ | with_reducible refine signS_ok ?_ | with_reducible refine goS_ok ?_ | with_reducible refine mustS_ok ?_ (by omega))) _ _) 184 rfl (Nat.le_of_ble_eq_true rfl) (by first | exact Nat.le_of_ble_eq_true rfl | omega) (by first | exact Nat.le_of_ble_eq_true rfl | omega) (by first | exact Nat.le_of_ble_eq_true rfl | omega) (by first | exact Nat.le_of_ble_eq_true rfl | omega) (fun r10 h10 hr10 => ?_)
    obtain ⟨rfl, hM, hK9⟩ := hr10
    have hK := hK.tr hK9
    refine m_iast F _ (by rfl) dX7_readsSingle_184 185 rfl hM hK (i) (by first | (with_reducible rfl) | (simp only [nI_lit, pk_mul, nI_add])) (by first | decide | omega | (simp only [mSz]; omega)) (fun h9 hM hK => ?_)
    refine k_goto F dX7_readsSingle_185 198 (by decide) ?_
    exact k_vret F dX7_readsSingle_198 (by first | exact Nat.le_of_ble_eq_true rfl | omega) (by first | exact Nat.le_of_ble_eq_true rfl | omega) ⟨hM, hK⟩
  · have ef : singleS (ar 9) N i 8 (s, ar) = rdN (ar 9) N 20 i 1 99 (rdN (ar 9) N 19 i 0 5 (s, ar)) := rfl
    rw [ef] at F
    refine k_tableIn F dX7_readsSingle_6 144 (by decide) (by decide) (by rfl) (by decide) ?_
    refine k_aload_n F dX7_readsSingle_144 145 rfl rfl rfl ?_
    refine m_get F 19 (by decide) q3611 rfl dX7_readsSingle_145 148 rfl hM rfl ?_
    refine k_iload_n F dX7_readsSingle_148 149 rfl rfl rfl ?_
    refine k_aload_n F dX7_readsSingle_149 150 rfl rfl rfl ?_
    refine k_iconst (v := 0) F dX7_readsSingle_150 151 rfl (by decide) ?_
    refine k_iconst (v := 5) F dX7_readsSingle_151 152 rfl (by decide) ?_
    refine k_callV F kd_X7_number q3520 q194 (kInvV (Bs := [_, _]) F kcX7 q3517 q3519 qs79 kd_X7_number q3520 dX7_readsSingle_152 (kHs.of hM.1) rfl (by decide)) (zX7_number F.st hM hn hB (by repeat' (first | assumption | with_reducible refine passS_ok ?_ | with_reducible refine lookS_ok ?_ | with_reducible refine numS_ok ?_ | with_reducible refine signS_ok ?_ | with_reducible refine goS_ok ?_ | with_reducible refine mustS_ok ?_ (by omega))) _ _) 155 rfl (Nat.le_of_ble_eq_true rfl) (by first | exact Nat.le_of_ble_eq_true rfl | omega) (by first | exact Nat.le_of_ble_eq_true rfl | omega) (by first | exact Nat.le_of_ble_eq_true rfl | omega) (by first | exact Nat.le_of_ble_eq_true rfl | omega) (fun r11 h11 hr11 => ?_)
    obtain ⟨rfl, hM, hK9⟩ := hr11
    have hK := hK.tr hK9
    refine m_iast F _ (by rfl) dX7_readsSingle_155 156 rfl hM hK (i) (by first | (with_reducible rfl) | (simp only [nI_lit, pk_mul, nI_add])) (by first | decide | omega | (simp only [mSz]; omega)) (fun h9 hM hK => ?_)
    refine k_aload_n F dX7_readsSingle_156 157 rfl rfl rfl ?_
    refine m_get F 20 (by decide) q3612 rfl dX7_readsSingle_157 160 rfl hM rfl ?_
    refine k_iload_n F dX7_readsSingle_160 161 rfl rfl rfl ?_
    refine k_aload_n F dX7_readsSingle_161 162 rfl rfl rfl ?_
    refine k_iconst (v := 1) F dX7_readsSingle_162 163 rfl (by decide) ?_
    refine k_aload_n F dX7_readsSingle_163 164 rfl rfl rfl ?_
    refine m_get F 17 (by decide) q3609 rfl dX7_readsSingle_164 167 rfl hM rfl ?_
    refine k_iload_n F dX7_readsSingle_167 168 rfl rfl rfl ?_
    refine m_iald F _ (by rfl) dX7_readsSingle_168 169 rfl hM (i) (by first | (with_reducible rfl) | (simp only [nI_lit, pk_mul, nI_add])) (by first | decide | omega | (simp only [mSz]; omega)) ?_
    rw [show updA ar 19 i (nI s.1.2.2.2) 17 i = nI 8 from h17]
    refine k_bipush (v := 7) F dX7_readsSingle_169 171 rfl (by decide) ?_
    refine k_icmpne F dX7_readsSingle_171 174 179 rfl (by decide) (fun _ => ?_) (fun c_ => (by first | exact absurd rfl c_ | exact absurd c_ (by decide) | exact absurd (by assumption) c_ | exact absurd c_ (by assumption)))
    refine k_bipush (v := 99) F dX7_readsSingle_179 181 rfl (by decide) ?_
    refine k_callV F kd_X7_number q3520 q194 (kInvV (Bs := [_, _]) F kcX7 q3517 q3519 qs79 kd_X7_number q3520 dX7_readsSingle_181 (kHs.of hM.1) rfl (by decide)) (zX7_number F.st hM hn hB (by repeat' (first | assumption | with_reducible refine passS_ok ?_ | with_reducible refine lookS_ok ?_ | with_reducible refine numS_ok ?_ | with_reducible refine signS_ok ?_ | with_reducible refine goS_ok ?_ | with_reducible refine mustS_ok ?_ (by omega))) _ _) 184 rfl (Nat.le_of_ble_eq_true rfl) (by first | exact Nat.le_of_ble_eq_true rfl | omega) (by first | exact Nat.le_of_ble_eq_true rfl | omega) (by first | exact Nat.le_of_ble_eq_true rfl | omega) (by first | exact Nat.le_of_ble_eq_true rfl | omega) (fun r12 h12 hr12 => ?_)
    obtain ⟨rfl, hM, hK9⟩ := hr12
    have hK := hK.tr hK9
    refine m_iast F _ (by rfl) dX7_readsSingle_184 185 rfl hM hK (i) (by first | (with_reducible rfl) | (simp only [nI_lit, pk_mul, nI_add])) (by first | decide | omega | (simp only [mSz]; omega)) (fun h9 hM hK => ?_)
    refine k_goto F dX7_readsSingle_185 198 (by decide) ?_
    exact k_vret F dX7_readsSingle_198 (by first | exact Nat.le_of_ble_eq_true rfl | omega) (by first | exact Nat.le_of_ble_eq_true rfl | omega) ⟨hM, hK⟩
theorem mustS_bad {b : Bool} {n : Nat} {s : SS} (h : s.2.1 = 0) (hb : b = false) : (mustS b n s).2.1 = n := by
  unfold mustS
  rw [if_pos ⟨h, hb⟩]
set_option maxHeartbeats 4000000 in
set_option maxRecDepth 100000 in
theorem zX7_readsAgain {l : Launch} {g : kG} (S : kStart l g) {h : kH} {m : Nat} {ad : Nat → Nat} {sc R : Nat → Int32} {ar : Nat → Nat → Int32} {N : Nat} {s : SS} {o : Nat} (hM : MW h m ad (scQ sc (s, o, ar)) R ar) (hn : sc 10 = nI N) (hB : BufOK (ar 9) N) (hs : SOK N s) (ho : o ≤ 30) {f lvR : Nat} (hLv : 30 ≤ lvR) (i w : Nat) (hi : i < 30) (hw : w ≤ 2) (hRec : ∀ (h1 : kH) (q : QS), QOK (ar 9) N q → enough N f q.1 → (w = 2 → q.1.2.1 ≠ 0) → MW h1 m ad (scQ sc q) R q.2.2 → kMet l g yX7_readsOrders (Cond.code yX7_readsOrders cX7_readsOrders 2 (Option.none : Option Jvm.ClassFile.FieldType)) lvR 0 0 [.ref m, .int (nI (w + 1))] h1 (mDo h1 m ad (scQ sc (ordersS (ar 9) N LsX7 f (w + 1) q)) R (ordersS (ar 9) N LsX7 f (w + 1) q).2.2)) (hen : enough N f (againH (ar 9) N w i (s, o, ar)).1) : kMet l g yX7_readsAgain (Cond.code yX7_readsAgain cX7_readsAgain 3 (Option.none : Option Jvm.ClassFile.FieldType)) (lvR+1) 0 0 [.ref m, .int (nI i), .int (nI w)] h (mDo h m ad (scQ sc (againS (ar 9) N (ordersS (ar 9) N LsX7 f) w i (s, o, ar))) R (againS (ar 9) N (ordersS (ar 9) N LsX7 f) w i (s, o, ar)).2.2) := by
  refine kEnter S kd_X7_readsAgain (Nat.le_of_ble_eq_true rfl) (fun x F hxl hxg => ?_)
  subst hxl; subst hxg
  have hlv : lv_args 0 [.ref m, .int (nI i), .int (nI w)] = [(0, .ref m), (1, .int (nI i)), (2, .int (nI w))] := rfl
  rw [hlv]
  have hK : kKp (mOwn m) h h := kKp.rf
  refine k_aload_n F dX7_readsAgain_0 1 rfl rfl rfl ?_
  refine m_get F 19 (by decide) q3611 rfl dX7_readsAgain_1 4 rfl hM rfl ?_
  refine k_iload_n F dX7_readsAgain_4 5 rfl rfl rfl ?_
  refine k_aload_n F dX7_readsAgain_5 6 rfl rfl rfl ?_
  refine k_iconst (v := 0) F dX7_readsAgain_6 7 rfl (by decide) ?_
  refine k_bipush (v := 20) F dX7_readsAgain_7 9 rfl (by decide) ?_
  refine k_callV F kd_X7_number q3520 q194 (kInvV (Bs := [_, _]) F kcX7 q3517 q3519 qs79 kd_X7_number q3520 dX7_readsAgain_9 (kHs.of hM.1) rfl (by decide)) (zX7_number F.st hM hn hB (by repeat' (first | assumption | with_reducible refine passS_ok ?_ | with_reducible refine lookS_ok ?_ | with_reducible refine numS_ok ?_ | with_reducible refine signS_ok ?_ | with_reducible refine goS_ok ?_ | with_reducible refine mustS_ok ?_ (by omega))) _ _) 12 rfl (Nat.le_of_ble_eq_true rfl) (by first | exact Nat.le_of_ble_eq_true rfl | omega) (by first | exact Nat.le_of_ble_eq_true rfl | omega) (by first | exact Nat.le_of_ble_eq_true rfl | omega) (by first | exact Nat.le_of_ble_eq_true rfl | omega) (fun r1 h1 hr1 => ?_)
  obtain ⟨rfl, hM, hK9⟩ := hr1
  have hK := hK.tr hK9
  refine m_iast F _ (by rfl) dX7_readsAgain_12 13 rfl hM hK (i) (by first | (with_reducible rfl) | (simp only [nI_lit, pk_mul, nI_add])) (by first | decide | omega | (simp only [mSz]; omega)) (fun h9 hM hK => ?_)
  refine k_aload_n F dX7_readsAgain_13 14 rfl rfl rfl ?_
  refine k_aload_n F dX7_readsAgain_14 15 rfl rfl rfl ?_
  refine k_bipush (v := 40) F dX7_readsAgain_15 17 rfl (by decide) ?_
  refine k_callV F kd_X7_isSign q3528 q194 (kInvV (Bs := [_]) F kcX7 q3525 q3527 qs81 kd_X7_isSign q3528 dX7_readsAgain_17 (kHs.of hM.1) rfl (by decide)) (zX7_isSign F.st hM hn hB (by repeat' (first | assumption | with_reducible refine passS_ok ?_ | with_reducible refine lookS_ok ?_ | with_reducible refine numS_ok ?_ | with_reducible refine signS_ok ?_ | with_reducible refine goS_ok ?_ | with_reducible refine mustS_ok ?_ (by omega))) _) 20 rfl (Nat.le_of_ble_eq_true rfl) (by first | exact Nat.le_of_ble_eq_true rfl | omega) (by first | exact Nat.le_of_ble_eq_true rfl | omega) (by first | exact Nat.le_of_ble_eq_true rfl | omega) (by first | exact Nat.le_of_ble_eq_true rfl | omega) (fun r2 h2 hr2 => ?_)
  obtain ⟨rfl, rfl⟩ := hr2
  refine k_iconst (v := 1) F dX7_readsAgain_20 21 rfl (by decide) ?_
  refine k_callV F kd_X7_must q3512 q194 (kInvV (Bs := [_, _]) F kcX7 q3509 q3511 qs77 kd_X7_must q3512 dX7_readsAgain_21 (kHs.of hM.1) rfl (by decide)) (zX7_must F.st hM hn hB (by repeat' (first | assumption | with_reducible refine passS_ok ?_ | with_reducible refine lookS_ok ?_ | with_reducible refine numS_ok ?_ | with_reducible refine signS_ok ?_ | with_reducible refine goS_ok ?_ | with_reducible refine mustS_ok ?_ (by omega))) _ 1 (by omega) (by omega)) 24 rfl (Nat.le_of_ble_eq_true rfl) (by first | exact Nat.le_of_ble_eq_true rfl | omega) (by first | exact Nat.le_of_ble_eq_true rfl | omega) (by first | exact Nat.le_of_ble_eq_true rfl | omega) (by first | exact Nat.le_of_ble_eq_true rfl | omega) (fun r3 h3 hr3 => ?_)
  obtain ⟨rfl, hM, hK9⟩ := hr3
  have hK := hK.tr hK9
  have hs2 : SOK N (mustS (isSignF (ar 9) N (numS (ar 9) N 0 20 s) 40) 1 (numS (ar 9) N 0 20 s)) := (by repeat' (first | assumption | with_reducible refine passS_ok ?_ | with_reducible refine lookS_ok ?_ | with_reducible refine numS_ok ?_ | with_reducible refine signS_ok ?_ | with_reducible refine goS_ok ?_ | with_reducible refine mustS_ok ?_ (by omega)))
  have eH : againH (ar 9) N w i (s, o, ar) = (passS (ar 9) N (if (mustS (isSignF (ar 9) N (numS (ar 9) N 0 20 s) 40) 1 (numS (ar 9) N 0 20 s)).2.1 = 0 then mustS (decide (w < 2)) 5 (mustS (isSignF (ar 9) N (numS (ar 9) N 0 20 s) 40) 1 (numS (ar 9) N 0 20 s)) else mustS (isSignF (ar 9) N (numS (ar 9) N 0 20 s) 40) 1 (numS (ar 9) N 0 20 s)), o, updA ar 19 i (nI s.1.2.2.2)) := rfl
  replace hM : MW h3 m ad (scT (upd sc 21 (nI o)) (mustS (isSignF (ar 9) N (numS (ar 9) N 0 20 s) 40) 1 (numS (ar 9) N 0 20 s))) R (updA ar 19 i (nI s.1.2.2.2)) := hM
  have hH : QOK (ar 9) N (againH (ar 9) N w i (s, o, ar)) := againH_ok ⟨hs, ho, rfl⟩
  have goP : ∀ (s3 : SS) (h1 : kH), SOK N s3 → againH (ar 9) N w i (s, o, ar) = (passS (ar 9) N s3, o, updA ar 19 i (nI s.1.2.2.2)) → (w = 2 → s3.2.1 ≠ 0) → MW h1 m ad (scT (upd sc 21 (nI o)) s3) R (updA ar 19 i (nI s.1.2.2.2)) → kKp (mOwn m) h h1 → kW x 0 0 h1 43 [(0, .ref m), (1, .int (nI i)), (2, .int (nI w))] [] := by
    intro s3 h1 hs3 e3 hw2 hM hK
    refine k_aload_n F dX7_readsAgain_43 44 rfl rfl rfl ?_
    refine k_callN F kd_X7_passes q3516 q194 (kInvV (Bs := []) F kcX7 q3513 q3515 qs78 kd_X7_passes q3516 dX7_readsAgain_44 (kHs.of hM.1) rfl (by decide)) (zX7_passes F.st hM hn hB (by repeat' (first | assumption | with_reducible refine passS_ok ?_ | with_reducible refine lookS_ok ?_ | with_reducible refine numS_ok ?_ | with_reducible refine signS_ok ?_ | with_reducible refine goS_ok ?_ | with_reducible refine mustS_ok ?_ (by omega)))) 47 rfl (Nat.le_of_ble_eq_true rfl) (by first | exact Nat.le_of_ble_eq_true rfl | omega) (by first | exact Nat.le_of_ble_eq_true rfl | omega) (by first | exact Nat.le_of_ble_eq_true rfl | omega) (by first | exact Nat.le_of_ble_eq_true rfl | omega) (fun h4 hr4 => ?_)
    obtain ⟨hM, hK9⟩ := hr4
    have hK := hK.tr hK9
    refine k_aload_n F dX7_readsAgain_47 48 rfl rfl rfl ?_
    refine k_iload_n F dX7_readsAgain_48 49 rfl rfl rfl ?_
    refine k_iconst (v := 1) F dX7_readsAgain_49 50 rfl (by decide) ?_
    refine k_iadd F dX7_readsAgain_50 51 rfl ?_
    refine k_topi (b := nI (w + 1)) nI_1' ?_
    replace hM : MW h4 m ad (scQ sc (againH (ar 9) N w i (s, o, ar))) R (againH (ar 9) N w i (s, o, ar)).2.2 := by rw [e3]; exact hM
    refine k_callN F kd_X7_readsOrders q3699 q194 (kInvV (Bs := [_]) F kcX7 q3696 q3698 qs98 kd_X7_readsOrders q3699 dX7_readsAgain_51 (kHs.of hM.1) rfl (by decide)) (hRec _ _ hH hen (fun z => by rw [e3]; show (passS (ar 9) N s3).2.1 ≠ 0; rw [passS_c]; exact hw2 z) hM) 54 rfl (Nat.le_of_ble_eq_true rfl) (by first | exact Nat.le_of_ble_eq_true rfl | omega) (by first | exact Nat.le_of_ble_eq_true rfl | omega) (by first | exact Nat.le_of_ble_eq_true rfl | omega) (by first | exact Nat.le_of_ble_eq_true rfl | omega) (fun h5 hr5 => ?_)
    obtain ⟨hM, hK9⟩ := hr5
    have hK := hK.tr hK9
    have hr := ordersS_ok (B := ar 9) (N := N) (Ls := LsX7) f (w + 1) _ hH
    have ef : againS (ar 9) N (ordersS (ar 9) N LsX7 f) w i (s, o, ar) = (signS (ar 9) N 41 (ordersS (ar 9) N LsX7 f (w + 1) (againH (ar 9) N w i (s, o, ar))).1, (ordersS (ar 9) N LsX7 f (w + 1) (againH (ar 9) N w i (s, o, ar))).2.1, updA (ordersS (ar 9) N LsX7 f (w + 1) (againH (ar 9) N w i (s, o, ar))).2.2 20 i (nI (ordersS (ar 9) N LsX7 f (w + 1) (againH (ar 9) N w i (s, o, ar))).2.1)) := rfl
    rw [ef] at F
    generalize ordersS (ar 9) N LsX7 f (w + 1) (againH (ar 9) N w i (s, o, ar)) = r at hM hr F
    obtain ⟨rs, ro, ra⟩ := r
    obtain ⟨hr1, hr2, hr3⟩ := hr
    dsimp only at hr1 hr2 hr3
    replace hM : MW h5 m ad (scT (upd sc 21 (nI ro)) rs) R ra := hM
    have hB3 : BufOK (ra 9) N := by rw [hr3]; exact hB
    refine k_aload_n F dX7_readsAgain_54 55 rfl rfl rfl ?_
    refine k_bipush (v := 41) F dX7_readsAgain_55 57 rfl (by decide) ?_
    refine k_callN F kd_X7_takesSign q3524 q194 (kInvV (Bs := [_]) F kcX7 q3521 q3523 qs80 kd_X7_takesSign q3524 dX7_readsAgain_57 (kHs.of hM.1) rfl (by decide)) (zX7_takesSign F.st hM hn hB3 (by repeat' (first | assumption | with_reducible refine passS_ok ?_ | with_reducible refine lookS_ok ?_ | with_reducible refine numS_ok ?_ | with_reducible refine signS_ok ?_ | with_reducible refine goS_ok ?_ | with_reducible refine mustS_ok ?_ (by omega))) _) 60 rfl (Nat.le_of_ble_eq_true rfl) (by first | exact Nat.le_of_ble_eq_true rfl | omega) (by first | exact Nat.le_of_ble_eq_true rfl | omega) (by first | exact Nat.le_of_ble_eq_true rfl | omega) (by first | exact Nat.le_of_ble_eq_true rfl | omega) (fun h6 hr6 => ?_)
    obtain ⟨hM, hK9⟩ := hr6
    have hK := hK.tr hK9
    rw [hr3] at hM
    refine k_aload_n F dX7_readsAgain_60 61 rfl rfl rfl ?_
    refine m_get F 20 (by decide) q3612 rfl dX7_readsAgain_61 64 rfl hM rfl ?_
    refine k_iload_n F dX7_readsAgain_64 65 rfl rfl rfl ?_
    refine k_aload_n F dX7_readsAgain_65 66 rfl rfl rfl ?_
    refine m_get F 21 (by decide) q3613 rfl dX7_readsAgain_66 69 rfl hM rfl ?_
    refine k_topi (b := nI ro) ((scT_at (by omega)).trans upd_eq) ?_
    refine m_iast F _ (by rfl) dX7_readsAgain_69 70 rfl hM hK (i) (by first | (with_reducible rfl) | (simp only [nI_lit, pk_mul, nI_add])) (by first | decide | omega | (simp only [mSz]; omega)) (fun h9 hM hK => ?_)
    exact k_vret F dX7_readsAgain_70 (by first | exact Nat.le_of_ble_eq_true rfl | omega) (by first | exact Nat.le_of_ble_eq_true rfl | omega) ⟨hM, hK⟩
  refine k_ifeq F dX7_readsAgain_24 27 43 rfl (by decide) (fun c_a => ?_) (fun c_a => ?_)
  · rw [kB_0, decide_eq_false_iff_not] at c_a
    replace c_a : ¬ ((mustS (isSignF (ar 9) N (numS (ar 9) N 0 20 s) 40) 1 (numS (ar 9) N 0 20 s)).2.1 = 0) := c_a
    exact goP _ _ hs2 (by rw [eH, if_neg c_a]) (fun _ => c_a) hM hK
  · rw [kB_0, decide_eq_false_iff_not, Classical.not_not] at c_a
    replace c_a : (mustS (isSignF (ar 9) N (numS (ar 9) N 0 20 s) 40) 1 (numS (ar 9) N 0 20 s)).2.1 = 0 := c_a
    refine k_aload_n F dX7_readsAgain_27 28 rfl rfl rfl ?_
    refine k_iload_n F dX7_readsAgain_28 29 rfl rfl rfl ?_
    refine k_iconst (v := 2) F dX7_readsAgain_29 30 rfl (by decide) ?_
    have go1 : ∀ b1 : Bool, b1 = decide (w < 2) → kW x 0 0 h3 38 [(0, .ref m), (1, .int (nI i)), (2, .int (nI w))] [.int (kB b1), .ref m] := by
      intro b1 hb1
      refine k_iconst (v := 5) F dX7_readsAgain_38 39 rfl (by decide) ?_
      refine k_callV F kd_X7_must q3512 q194 (kInvV (Bs := [_, _]) F kcX7 q3509 q3511 qs77 kd_X7_must q3512 dX7_readsAgain_39 (kHs.of hM.1) rfl (by decide)) (zX7_must F.st hM hn hB (by repeat' (first | assumption | with_reducible refine passS_ok ?_ | with_reducible refine lookS_ok ?_ | with_reducible refine numS_ok ?_ | with_reducible refine signS_ok ?_ | with_reducible refine goS_ok ?_ | with_reducible refine mustS_ok ?_ (by omega))) _ 5 (by omega) (by omega)) 42 rfl (Nat.le_of_ble_eq_true rfl) (by first | exact Nat.le_of_ble_eq_true rfl | omega) (by first | exact Nat.le_of_ble_eq_true rfl | omega) (by first | exact Nat.le_of_ble_eq_true rfl | omega) (by first | exact Nat.le_of_ble_eq_true rfl | omega) (fun r7 h7 hr7 => ?_)
      obtain ⟨rfl, hM, hK9⟩ := hr7
      have hK := hK.tr hK9
      refine k_pop F dX7_readsAgain_42 43 rfl rfl ?_
      refine goP _ _ (mustS_ok hs2 (by omega)) (by rw [eH, if_pos c_a, hb1]) (fun z => ?_) hM hK
      rw [hb1, z, mustS_bad c_a (by decide)]
      exact (by decide : (5 : Nat) ≠ 0)
    refine k_icmpge F dX7_readsAgain_30 33 37 rfl (by decide) (fun z8 => ?_) (fun z8 => ?_)
    · refine k_iconst (v := 0) F dX7_readsAgain_37 38 rfl (by decide) ?_
      exact go1 false (by (try simp (disch := omega) only [nI_0E, nI_inj, nI_leE, nI_ltE, kB_0, kB_1, Bool.not_eq_false, Bool.not_eq_true, (show (2 : Int32) = nI 2 from rfl)] at z8) <;> (try simp (disch := omega) [z8]) <;> (try omega))
    · refine k_iconst (v := 1) F dX7_readsAgain_33 34 rfl (by decide) ?_
      refine k_goto F dX7_readsAgain_34 38 (by decide) ?_
      exact go1 true (by (try simp (disch := omega) only [nI_0E, nI_inj, nI_leE, nI_ltE, kB_0, kB_1, Bool.not_eq_false, Bool.not_eq_true, (show (2 : Int32) = nI 2 from rfl)] at z8) <;> (try simp (disch := omega) [z8]) <;> (try omega))
set_option maxHeartbeats 4000000 in
set_option maxRecDepth 100000 in
theorem zX7_readsOrder {l : Launch} {g : kG} (S : kStart l g) {h : kH} {m : Nat} {ad : Nat → Nat} {sc R : Nat → Int32} {ar : Nat → Nat → Int32} {N : Nat} {s : SS} {o : Nat} (hM : MW h m ad (scQ sc (s, o, ar)) R ar) (hn : sc 10 = nI N) (hB : BufOK (ar 9) N) (hs : SOK N s) (ho : o ≤ 30) {f lvR : Nat} (hLv : 30 ≤ lvR) (w : Nat) (hw : w ≤ 2) (hRec : ∀ (h1 : kH) (q : QS), QOK (ar 9) N q → enough N f q.1 → (w = 2 → q.1.2.1 ≠ 0) → MW h1 m ad (scQ sc q) R q.2.2 → kMet l g yX7_readsOrders (Cond.code yX7_readsOrders cX7_readsOrders 2 (Option.none : Option Jvm.ClassFile.FieldType)) lvR 0 0 [.ref m, .int (nI (w + 1))] h1 (mDo h1 m ad (scQ sc (ordersS (ar 9) N LsX7 f (w + 1) q)) R (ordersS (ar 9) N LsX7 f (w + 1) q).2.2)) (h0 : s.2.1 = 0) (hk0 : s.1.2.2.1 ≠ 0) (hen : N + 1 - s.1.2.1 ≤ f + 1) : kMet l g yX7_readsOrder (Cond.code yX7_readsOrder cX7_readsOrder 4 (Option.none : Option Jvm.ClassFile.FieldType)) (lvR+2) 0 0 [.ref m, .int (nI w)] h (mDo h m ad (scQ sc (orderS (ar 9) N LsX7 (ordersS (ar 9) N LsX7 f) w (s, o, ar))) R (orderS (ar 9) N LsX7 (ordersS (ar 9) N LsX7 f) w (s, o, ar)).2.2) := by
  refine kEnter S kd_X7_readsOrder (Nat.le_of_ble_eq_true rfl) (fun x F hxl hxg => ?_)
  subst hxl; subst hxg
  have hlv : lv_args 0 [.ref m, .int (nI w)] = [(0, .ref m), (1, .int (nI w))] := rfl
  rw [hlv]
  have hK : kKp (mOwn m) h h := kKp.rf
  refine k_aload_n F dX7_readsOrder_0 1 rfl rfl rfl ?_
  refine k_callV F kd_X7_orderHere q3707 q194 (kInvV (Bs := []) F kcX7 q3704 q3706 qs100 kd_X7_orderHere q3707 dX7_readsOrder_1 (kHs.of hM.1) rfl (by decide)) (zX7_orderHere F.st hM hn hB hs) 4 rfl (Nat.le_of_ble_eq_true rfl) (by first | exact Nat.le_of_ble_eq_true rfl | omega) (by first | exact Nat.le_of_ble_eq_true rfl | omega) (by first | exact Nat.le_of_ble_eq_true rfl | omega) (by first | exact Nat.le_of_ble_eq_true rfl | omega) (fun r1 h1 hr1 => ?_)
  obtain ⟨rfl, rfl⟩ := hr1
  have hK9 : ∀ q, orderF (ar 9) LsX7 s = some q → q < 100 := fun q e => by have := orderF_lt e; omega
  have hno := nO_m1' hK9
  refine k_istore_n (lv' := [(0, _), (1, _), (2, _)]) F dX7_readsOrder_4 5 rfl rfl (Nat.le_of_ble_eq_true rfl) rfl rfl rfl ?_
  refine k_aload_n F dX7_readsOrder_5 6 rfl rfl rfl ?_
  refine k_iload_n F dX7_readsOrder_6 7 rfl rfl rfl ?_
  refine k_iconst (v := (-1)) F dX7_readsOrder_7 8 rfl (by decide) ?_
  have go1 : ∀ b1 : Bool, b1 = (orderF (ar 9) LsX7 s).isSome → kW x 0 0 h 16 [(0, .ref m), (1, .int (nI w)), (2, .int (nO (orderF (ar 9) LsX7 s)))] [.int (kB b1), .ref m] := by
    intro b1 hb1
    refine k_iconst (v := 1) F dX7_readsOrder_16 17 rfl (by decide) ?_
    refine k_callV F kd_X7_must q3512 q194 (kInvV (Bs := [_, _]) F kcX7 q3509 q3511 qs77 kd_X7_must q3512 dX7_readsOrder_17 (kHs.of hM.1) rfl (by decide)) (zX7_must F.st hM hn hB (by repeat' (first | assumption | with_reducible refine passS_ok ?_ | with_reducible refine lookS_ok ?_ | with_reducible refine numS_ok ?_ | with_reducible refine signS_ok ?_ | with_reducible refine goS_ok ?_ | with_reducible refine mustS_ok ?_ (by omega))) _ 1 (by omega) (by omega)) 20 rfl (Nat.le_of_ble_eq_true rfl) (by first | exact Nat.le_of_ble_eq_true rfl | omega) (by first | exact Nat.le_of_ble_eq_true rfl | omega) (by first | exact Nat.le_of_ble_eq_true rfl | omega) (by first | exact Nat.le_of_ble_eq_true rfl | omega) (fun r2 h2 hr2 => ?_)
    obtain ⟨rfl, hM, hK9⟩ := hr2
    have hK := hK.tr hK9
    replace hM : MW h2 m ad (scT (upd sc 21 (nI o)) (mustS b1 1 s)) R ar := hM
    have hs1 : SOK N (mustS b1 1 s) := (by repeat' (first | assumption | with_reducible refine passS_ok ?_ | with_reducible refine lookS_ok ?_ | with_reducible refine numS_ok ?_ | with_reducible refine signS_ok ?_ | with_reducible refine goS_ok ?_ | with_reducible refine mustS_ok ?_ (by omega)))
    refine k_ifeq F dX7_readsOrder_20 23 45 rfl (by decide) (fun c_a => ?_) (fun c_a => ?_)
    · rw [kB_0, decide_eq_false_iff_not] at c_a
      have e1 : ord1 (ar 9) LsX7 (s, o, ar) = mustS b1 1 s := by unfold ord1; dsimp only; rw [← hb1, if_neg c_a]
      have ef : orderS (ar 9) N LsX7 (ordersS (ar 9) N LsX7 f) w (s, o, ar) = (mustS b1 1 s, o, ar) := by unfold orderS; rw [e1, if_neg c_a]
      rw [ef] at F
      exact k_vret F dX7_readsOrder_45 (by first | exact Nat.le_of_ble_eq_true rfl | omega) (by first | exact Nat.le_of_ble_eq_true rfl | omega) ⟨hM, hK⟩
    · rw [kB_0, decide_eq_false_iff_not, Classical.not_not] at c_a
      refine k_aload_n F dX7_readsOrder_23 24 rfl rfl rfl ?_
      refine k_aload_n F dX7_readsOrder_24 25 rfl rfl rfl ?_
      refine m_get F 21 (by decide) q3613 rfl dX7_readsOrder_25 28 rfl hM rfl ?_
      refine k_topi (b := nI o) ((scT_at (by omega)).trans upd_eq) ?_
      refine k_bipush (v := 30) F dX7_readsOrder_28 30 rfl (by decide) ?_
      have go2 : ∀ b2 : Bool, b2 = decide (o < 30) → kW x 0 0 h2 38 [(0, .ref m), (1, .int (nI w)), (2, .int (nO (orderF (ar 9) LsX7 s)))] [.int (kB b2), .ref m] := by
        intro b2 hb2
        refine k_iconst (v := 5) F dX7_readsOrder_38 39 rfl (by decide) ?_
        refine k_callV F kd_X7_must q3512 q194 (kInvV (Bs := [_, _]) F kcX7 q3509 q3511 qs77 kd_X7_must q3512 dX7_readsOrder_39 (kHs.of hM.1) rfl (by decide)) (zX7_must F.st hM hn hB (by repeat' (first | assumption | with_reducible refine passS_ok ?_ | with_reducible refine lookS_ok ?_ | with_reducible refine numS_ok ?_ | with_reducible refine signS_ok ?_ | with_reducible refine goS_ok ?_ | with_reducible refine mustS_ok ?_ (by omega))) _ 5 (by omega) (by omega)) 42 rfl (Nat.le_of_ble_eq_true rfl) (by first | exact Nat.le_of_ble_eq_true rfl | omega) (by first | exact Nat.le_of_ble_eq_true rfl | omega) (by first | exact Nat.le_of_ble_eq_true rfl | omega) (by first | exact Nat.le_of_ble_eq_true rfl | omega) (fun r3 h3 hr3 => ?_)
        obtain ⟨rfl, hM, hK9⟩ := hr3
        have hK := hK.tr hK9
        have hs2 : SOK N (mustS b2 5 (mustS b1 1 s)) := (by repeat' (first | assumption | with_reducible refine passS_ok ?_ | with_reducible refine lookS_ok ?_ | with_reducible refine numS_ok ?_ | with_reducible refine signS_ok ?_ | with_reducible refine goS_ok ?_ | with_reducible refine mustS_ok ?_ (by omega)))
        have e1 : ord1 (ar 9) LsX7 (s, o, ar) = mustS b2 5 (mustS b1 1 s) := by unfold ord1; dsimp only; rw [← hb1, if_pos c_a, ← hb2]
        refine k_ifne F dX7_readsOrder_42 45 46 rfl (by decide) (fun c_d => ?_) (fun c_d => ?_)
        · rw [kB_0, decide_eq_false_iff_not, Classical.not_not] at c_d
          have e0 : (ord1 (ar 9) LsX7 (s, o, ar)).2.1 = 0 := by rw [e1]; exact c_d
          obtain ⟨-, hsm, h30⟩ := ord1_0 e0
          obtain ⟨kd, hkd⟩ := Option.isSome_iff_exists.mp hsm
          dsimp only at hkd h30
          have hkl := orderF_lt hkd
          have hadv : adv (s.1.2.1 + 1) (goS (ar 9) N (mustS b2 5 (mustS b1 1 s))) := by
            have := adv.goN (B := ar 9) hs2 (by rw [mustS_1, mustS_1]; exact hk0)
            rw [mustS_1, mustS_1] at this
            exact this
          rw [hkd]
          have ef : orderS (ar 9) N LsX7 (ordersS (ar 9) N LsX7 f) w (s, o, ar) = (signS (ar 9) N 59 (ord2 (ar 9) N LsX7 (ordersS (ar 9) N LsX7 f) w (s, o, ar)).1, (ord2 (ar 9) N LsX7 (ordersS (ar 9) N LsX7 f) w (s, o, ar)).2) := if_pos e0
          rw [ef] at F
          refine k_aload_n F dX7_readsOrder_46 47 rfl rfl rfl ?_
          refine m_get F 21 (by decide) q3613 rfl dX7_readsOrder_47 50 rfl hM rfl ?_
          refine k_topi (b := nI o) ((scT_at (by omega)).trans upd_eq) ?_
          refine k_istore_n (lv' := [(0, _), (1, _), (2, _), (3, _)]) F dX7_readsOrder_50 51 rfl rfl (Nat.le_of_ble_eq_true rfl) rfl rfl rfl ?_
          refine k_aload_n F dX7_readsOrder_51 52 rfl rfl rfl ?_
          refine m_get F 17 (by decide) q3609 rfl dX7_readsOrder_52 55 rfl hM rfl ?_
          refine k_iload_n F dX7_readsOrder_55 56 rfl rfl rfl ?_
          refine k_iload_n F dX7_readsOrder_56 57 rfl rfl rfl ?_
          refine m_iast F _ (by rfl) dX7_readsOrder_57 58 rfl hM hK (o) (by first | (with_reducible rfl) | (simp only [nI_lit, pk_mul, nI_add])) (by first | decide | omega | (simp only [mSz]; omega)) (fun h9 hM hK => ?_)
          refine k_aload_n F dX7_readsOrder_58 59 rfl rfl rfl ?_
          refine k_dup F dX7_readsOrder_59 60 rfl rfl ?_
          refine m_get F 21 (by decide) q3613 rfl dX7_readsOrder_60 63 rfl hM rfl ?_
          refine k_topi (b := nI o) ((scT_at (by omega)).trans upd_eq) ?_
          refine k_iconst (v := 1) F dX7_readsOrder_63 64 rfl (by decide) ?_
          refine k_iadd F dX7_readsOrder_64 65 rfl ?_
          refine m_put F 21 (by decide) (knX7 21) q3613 rfl rfl dX7_readsOrder_65 68 rfl hM hK rfl rfl rfl (fun h9 hM hK => ?_)
          rw [show nI o + 1 = nI (o + 1) from nI_1'] at hM
          replace hM : MW h9 m ad (scQ sc (mustS b2 5 (mustS b1 1 s), o + 1, updA ar 17 o (nI kd))) R (updA ar 17 o (nI kd)) := by rw [← scQ_21 (o := o)]; exact hM
          replace hM : MW h9 m ad (scT (upd sc 21 (nI (o + 1))) (mustS b2 5 (mustS b1 1 s))) R (updA ar 17 o (nI kd)) := hM
          refine k_aload_n F dX7_readsOrder_68 69 rfl rfl rfl ?_
          refine k_callN F kd_X7_goes q3491 q194 (kInvV (Bs := []) F kcX7 q3488 q3490 qs73 kd_X7_goes q3491 dX7_readsOrder_69 (kHs.of hM.1) rfl (by decide)) (zX7_goes F.st hM hn hB hs2.1.1) 72 rfl (Nat.le_of_ble_eq_true rfl) (by first | exact Nat.le_of_ble_eq_true rfl | omega) (by first | exact Nat.le_of_ble_eq_true rfl | omega) (by first | exact Nat.le_of_ble_eq_true rfl | omega) (by first | exact Nat.le_of_ble_eq_true rfl | omega) (fun h4 hr4 => ?_)
          obtain ⟨hM, hK9⟩ := hr4
          have hK := hK.tr hK9
          replace hM : MW h4 m ad (scT (upd sc 21 (nI (o + 1))) (goS (ar 9) N (mustS b2 5 (mustS b1 1 s)))) R (updA ar 17 o (nI kd)) := hM
          have hs3 : SOK N (goS (ar 9) N (mustS b2 5 (mustS b1 1 s))) := (by repeat' (first | assumption | with_reducible refine passS_ok ?_ | with_reducible refine lookS_ok ?_ | with_reducible refine numS_ok ?_ | with_reducible refine signS_ok ?_ | with_reducible refine goS_ok ?_ | with_reducible refine mustS_ok ?_ (by omega)))
          have fin : ∀ (q : QS) (h1 : kH), QOK (ar 9) N q → ord2 (ar 9) N LsX7 (ordersS (ar 9) N LsX7 f) w (s, o, ar) = q → MW h1 m ad (scQ sc q) R q.2.2 → kKp (mOwn m) h h1 → kW x 0 0 h1 92 [(0, .ref m), (1, .int (nI w)), (2, .int (nI kd)), (3, .int (nI o))] [] := by
            intro q h1 hq e2 hM hK
            rw [e2] at F
            obtain ⟨qs, qo, qa⟩ := q
            obtain ⟨hq1, hq2, hq3⟩ := hq
            dsimp only at hq1 hq2 hq3
            replace hM : MW h1 m ad (scT (upd sc 21 (nI qo)) qs) R qa := hM
            have hB3 : BufOK (qa 9) N := by rw [hq3]; exact hB
            refine k_aload_n F dX7_readsOrder_92 93 rfl rfl rfl ?_
            refine k_bipush (v := 59) F dX7_readsOrder_93 95 rfl (by decide) ?_
            refine k_callN F kd_X7_takesSign q3524 q194 (kInvV (Bs := [_]) F kcX7 q3521 q3523 qs80 kd_X7_takesSign q3524 dX7_readsOrder_95 (kHs.of hM.1) rfl (by decide)) (zX7_takesSign F.st hM hn hB3 (by repeat' (first | assumption | with_reducible refine passS_ok ?_ | with_reducible refine lookS_ok ?_ | with_reducible refine numS_ok ?_ | with_reducible refine signS_ok ?_ | with_reducible refine goS_ok ?_ | with_reducible refine mustS_ok ?_ (by omega))) _) 98 rfl (Nat.le_of_ble_eq_true rfl) (by first | exact Nat.le_of_ble_eq_true rfl | omega) (by first | exact Nat.le_of_ble_eq_true rfl | omega) (by first | exact Nat.le_of_ble_eq_true rfl | omega) (by first | exact Nat.le_of_ble_eq_true rfl | omega) (fun h5 hr5 => ?_)
            obtain ⟨hM, hK9⟩ := hr5
            have hK := hK.tr hK9
            rw [hq3] at hM
            exact k_vret F dX7_readsOrder_98 (by first | exact Nat.le_of_ble_eq_true rfl | omega) (by first | exact Nat.le_of_ble_eq_true rfl | omega) ⟨hM, hK⟩
          have hgo := ord2_ok (Ls := LsX7) (w := w) (ordersS_ok (B := ar 9) (N := N) (Ls := LsX7) f) (q := (s, o, ar)) ⟨hs, ho, rfl⟩ e0
          by_cases h9 : kd = 9
          · subst h9
            have e2 : ord2 (ar 9) N LsX7 (ordersS (ar 9) N LsX7 f) w (s, o, ar) = againS (ar 9) N (ordersS (ar 9) N LsX7 f) w o (goS (ar 9) N (mustS b2 5 (mustS b1 1 s)), o + 1, updA ar 17 o (nI 9)) := by
              unfold ord2; dsimp only; rw [if_pos hkd, e1]
            refine k_iload_n F dX7_readsOrder_72 73 rfl rfl rfl ?_
            refine k_bipush (v := 9) F dX7_readsOrder_73 75 rfl (by decide) ?_
            refine k_icmpne F dX7_readsOrder_75 78 87 rfl (by decide) (fun c_ => (by first | exact absurd rfl c_ | exact absurd c_ (by decide) | exact absurd (by assumption) c_ | exact absurd c_ (by assumption))) (fun _ => ?_)
            refine k_aload_n F dX7_readsOrder_78 79 rfl rfl rfl ?_
            refine k_iload_n F dX7_readsOrder_79 80 rfl rfl rfl ?_
            refine k_iload_n F dX7_readsOrder_80 81 rfl rfl rfl ?_
            have hq3 : QOK (ar 9) N (goS (ar 9) N (mustS b2 5 (mustS b1 1 s)), o + 1, updA ar 17 o (nI 9)) := ⟨hs3, by dsimp only; omega, (updA_9 rfl (by decide) : updA ar 17 o (nI 9) 9 = ar 9)⟩
            have hen3 : enough N f (againH (ar 9) N w o (goS (ar 9) N (mustS b2 5 (mustS b1 1 s)), o + 1, updA ar 17 o (nI 9))).1 := fun z _ => by
              have := adv_againH (B := ar 9) (w := w) (i := o) (q := (goS (ar 9) N (mustS b2 5 (mustS b1 1 s)), o + 1, updA ar 17 o (nI 9))) hs3 hadv z
              omega
            refine k_callN F kd_X7_readsAgain q3721 q194 (kInvV (Bs := [_, _]) F kcX7 q3718 q3720 qs101 kd_X7_readsAgain q3721 dX7_readsOrder_81 (kHs.of hM.1) rfl (by decide)) (zX7_readsAgain F.st (ar := updA ar 17 o (nI 9)) (o := o + 1) hM hn hB hs3 (by omega) hLv o w (by omega) hw hRec hen3) 84 rfl (Nat.le_of_ble_eq_true rfl) (by first | exact Nat.le_of_ble_eq_true rfl | omega) (by first | exact Nat.le_of_ble_eq_true rfl | omega) (by first | exact Nat.le_of_ble_eq_true rfl | omega) (by first | exact Nat.le_of_ble_eq_true rfl | omega) (fun h6 hr6 => ?_)
            obtain ⟨hM, hK9⟩ := hr6
            have hK := hK.tr hK9
            refine k_goto F dX7_readsOrder_84 92 (by decide) ?_
            rw [e2] at hgo
            exact fin _ _ hgo e2 hM hK
          · have e2 : ord2 (ar 9) N LsX7 (ordersS (ar 9) N LsX7 f) w (s, o, ar) = ((singleS (ar 9) N o kd (goS (ar 9) N (mustS b2 5 (mustS b1 1 s)), updA ar 17 o (nI kd))).1, o + 1, (singleS (ar 9) N o kd (goS (ar 9) N (mustS b2 5 (mustS b1 1 s)), updA ar 17 o (nI kd))).2) := by
              unfold ord2; dsimp only; rw [if_neg (by rw [hkd]; exact fun z => h9 (Option.some.inj z)), e1, hkd]
            refine k_iload_n F dX7_readsOrder_72 73 rfl rfl rfl ?_
            refine k_bipush (v := 9) F dX7_readsOrder_73 75 rfl (by decide) ?_
            refine k_icmpne F dX7_readsOrder_75 78 87 rfl (by decide) (fun _ => ?_) (fun c_ => (absurd (show nI kd = nI 9 from c_) (by rw [nI_inj (by omega) (by omega)]; exact h9)))
            refine k_aload_n F dX7_readsOrder_87 88 rfl rfl rfl ?_
            refine k_iload_n F dX7_readsOrder_88 89 rfl rfl rfl ?_
            refine k_callN F kd_X7_readsSingle q3725 q194 (kInvV (Bs := [_]) F kcX7 q3722 q3724 qs102 kd_X7_readsSingle q3725 dX7_readsOrder_89 (kHs.of hM.1) rfl (by decide)) (zX7_readsSingle F.st (ar := updA ar 17 o (nI kd)) hM hn hB hs3 o kd (by omega) (by omega) ((congrFun updA_s o).trans upd_eq)) 92 rfl (Nat.le_of_ble_eq_true rfl) (by first | exact Nat.le_of_ble_eq_true rfl | omega) (by first | exact Nat.le_of_ble_eq_true rfl | omega) (by first | exact Nat.le_of_ble_eq_true rfl | omega) (by first | exact Nat.le_of_ble_eq_true rfl | omega) (fun h7 hr7 => ?_)
            obtain ⟨hM, hK9⟩ := hr7
            have hK := hK.tr hK9
            rw [e2] at hgo
            exact fin _ _ hgo e2 hM hK
        · rw [kB_0, decide_eq_false_iff_not] at c_d
          have ef : orderS (ar 9) N LsX7 (ordersS (ar 9) N LsX7 f) w (s, o, ar) = (mustS b2 5 (mustS b1 1 s), o, ar) := by unfold orderS; rw [e1, if_neg c_d]
          rw [ef] at F
          exact k_vret F dX7_readsOrder_45 (by first | exact Nat.le_of_ble_eq_true rfl | omega) (by first | exact Nat.le_of_ble_eq_true rfl | omega) ⟨hM, hK⟩
      refine k_icmpge F dX7_readsOrder_30 33 37 rfl (by decide) (fun z8 => ?_) (fun z8 => ?_)
      · refine k_iconst (v := 0) F dX7_readsOrder_37 38 rfl (by decide) ?_
        exact go2 false (by (try simp (disch := omega) only [nI_0E, nI_inj, nI_leE, nI_ltE, kB_0, kB_1, Bool.not_eq_false, Bool.not_eq_true, (show (30 : Int32) = nI 30 from rfl)] at z8) <;> (try simp (disch := omega) [z8]) <;> (try omega))
      · refine k_iconst (v := 1) F dX7_readsOrder_33 34 rfl (by decide) ?_
        refine k_goto F dX7_readsOrder_34 38 (by decide) ?_
        exact go2 true (by (try simp (disch := omega) only [nI_0E, nI_inj, nI_leE, nI_ltE, kB_0, kB_1, Bool.not_eq_false, Bool.not_eq_true, (show (30 : Int32) = nI 30 from rfl)] at z8) <;> (try simp (disch := omega) [z8]) <;> (try omega))
  refine k_icmpeq F dX7_readsOrder_8 11 15 rfl (by decide) (fun z9 => ?_) (fun z9 => ?_)
  · refine k_iconst (v := 0) F dX7_readsOrder_15 16 rfl (by decide) ?_
    exact go1 false (by (try simp (disch := omega) only [nI_0E, nI_inj, nI_leE, nI_ltE, kB_0, kB_1, Bool.not_eq_false, Bool.not_eq_true, hno] at z9) <;> (try simp (disch := omega) [Option.isSome_iff_ne_none, z9]) <;> (try omega))
  · refine k_iconst (v := 1) F dX7_readsOrder_11 12 rfl (by decide) ?_
    refine k_goto F dX7_readsOrder_12 16 (by decide) ?_
    exact go1 true (by (try simp (disch := omega) only [nI_0E, nI_inj, nI_leE, nI_ltE, kB_0, kB_1, Bool.not_eq_false, Bool.not_eq_true, hno] at z9) <;> (try simp (disch := omega) [Option.isSome_iff_ne_none, z9]) <;> (try omega))
set_option maxHeartbeats 4000000 in
set_option maxRecDepth 100000 in
theorem zX7_readsOrdersS {l : Launch} {g : kG} (S : kStart l g) {h : kH} {m : Nat} {ad : Nat → Nat} {sc R : Nat → Int32} {ar : Nat → Nat → Int32} {N : Nat} {s : SS} {o : Nat} (hM : MW h m ad (scQ sc (s, o, ar)) R ar) (hn : sc 10 = nI N) (hB : BufOK (ar 9) N) (hs : SOK N s) (ho : o ≤ 30) {f0 lvR : Nat} (hLv : 30 ≤ lvR) (w : Nat) (hw : w ≤ 3) (hRec : w < 3 → ∀ (f : Nat) (h1 : kH) (q : QS), QOK (ar 9) N q → enough N f q.1 → (w = 2 → q.1.2.1 ≠ 0) → MW h1 m ad (scQ sc q) R q.2.2 → kMet l g yX7_readsOrders (Cond.code yX7_readsOrders cX7_readsOrders 2 (Option.none : Option Jvm.ClassFile.FieldType)) lvR 0 0 [.ref m, .int (nI (w + 1))] h1 (mDo h1 m ad (scQ sc (ordersS (ar 9) N LsX7 f (w + 1) q)) R (ordersS (ar 9) N LsX7 f (w + 1) q).2.2)) (hen0 : enough N f0 s) (h3 : w = 3 → s.2.1 ≠ 0) : kMet l g yX7_readsOrders (Cond.code yX7_readsOrders cX7_readsOrders 2 (Option.none : Option Jvm.ClassFile.FieldType)) (lvR+3) 0 0 [.ref m, .int (nI w)] h (mDo h m ad (scQ sc (ordersS (ar 9) N LsX7 f0 w (s, o, ar))) R (ordersS (ar 9) N LsX7 f0 w (s, o, ar)).2.2) := by
  refine kEnter S kd_X7_readsOrders (Nat.le_of_ble_eq_true rfl) (fun x F hxl hxg => ?_)
  subst hxl; subst hxg
  have hlv : lv_args 0 [.ref m, .int (nI w)] = [(0, .ref m), (1, .int (nI w))] := rfl
  rw [hlv]
  have hK : kKp (mOwn m) h h := kKp.rf
  have loop : ∀ (f : Nat) (q : QS) (h1 : kH), QOK (ar 9) N q → enough N f q.1 → (w = 3 → q.1.2.1 ≠ 0) → ordersS (ar 9) N LsX7 f w q = ordersS (ar 9) N LsX7 f0 w (s, o, ar) → MW h1 m ad (scQ sc q) R q.2.2 → kKp (mOwn m) h h1 → kW x 0 0 h1 0 [(0, .ref m), (1, .int (nI w))] [] := by
    intro f q h1 hq hen h3 he hM hK
    have hK9 : True := trivial
    revert hq hen h3 he hM hK
    revert q h1
    induction f with
    | zero =>
      intro q h1 hq hen h3 he hM hK
      have hno := moreF_0 (B := ar 9) hq.1 hen
      have out : kW x 0 0 h1 31 [(0, .ref m), (1, .int (nI w))] [] := by
        rw [← he] at F
        exact k_vret F dX7_readsOrders_31 (by first | exact Nat.le_of_ble_eq_true rfl | omega) (by first | exact Nat.le_of_ble_eq_true rfl | omega) ⟨hM, hK⟩
      obtain ⟨qs, qo, qa⟩ := q
      obtain ⟨hq1, hq2, hq3⟩ := hq
      dsimp only at hq1 hq2 hq3 hno
      replace hM : MW h1 m ad (scT (upd sc 21 (nI qo)) qs) R qa := hM
      have hB3 : BufOK (qa 9) N := by rw [hq3]; exact hB
      have hq5 := hq1.2
      have hqk := hq1.1.2.2.1
      refine k_aload_n F dX7_readsOrders_0 1 rfl rfl rfl ?_
      refine m_get F 16 (by decide) q3608 rfl dX7_readsOrders_1 4 rfl hM rfl ?_
      refine k_topi (b := nI qs.2.1) rfl ?_
      refine k_ifne F dX7_readsOrders_4 7 31 rfl (by decide) (fun c_a => ?_) (fun c_a => ?_)
      · exact out
      · rw [nI_0E (by omega)] at c_a
        refine k_aload_n F dX7_readsOrders_7 8 rfl rfl rfl ?_
        refine m_get F 14 (by decide) q3606 rfl dX7_readsOrders_8 11 rfl hM rfl ?_
        refine k_topi (b := nI qs.1.2.2.1) rfl ?_
        refine k_ifeq F dX7_readsOrders_11 14 31 rfl (by decide) (fun c_d => ?_) (fun c_d => ?_)
        · exact out
        · rw [nI_0E (by omega)] at c_d
          refine k_aload_n F dX7_readsOrders_14 15 rfl rfl rfl ?_
          refine k_bipush (v := 41) F dX7_readsOrders_15 17 rfl (by decide) ?_
          refine k_callV F kd_X7_isSign q3528 q194 (kInvV (Bs := [_]) F kcX7 q3525 q3527 qs81 kd_X7_isSign q3528 dX7_readsOrders_17 (kHs.of hM.1) rfl (by decide)) (zX7_isSign F.st hM hn hB3 hq1 _) 20 rfl (Nat.le_of_ble_eq_true rfl) (by first | exact Nat.le_of_ble_eq_true rfl | omega) (by first | exact Nat.le_of_ble_eq_true rfl | omega) (by first | exact Nat.le_of_ble_eq_true rfl | omega) (by first | exact Nat.le_of_ble_eq_true rfl | omega) (fun r1 h1 hr1 => ?_)
          obtain ⟨rfl, rfl⟩ := hr1
          rw [hq3]
          refine k_ifne F dX7_readsOrders_20 23 31 rfl (by decide) (fun c_e => ?_) (fun c_e => ?_)
          · exact out
          · rw [kB_0] at c_e
            exfalso
            unfold moreF at hno
            rw [c_e, decide_eq_true c_a, decide_eq_true c_d] at hno
            cases hno
    | succ f ih =>
      intro q h1 hq hen h3 he hM hK
      have out : moreF (ar 9) N q.1 = false → kW x 0 0 h1 31 [(0, .ref m), (1, .int (nI w))] [] := by
        intro hno
        rw [show ordersS (ar 9) N LsX7 (f + 1) w q = q from if_neg (by rw [hno]; decide)] at he
        rw [← he] at F
        exact k_vret F dX7_readsOrders_31 (by first | exact Nat.le_of_ble_eq_true rfl | omega) (by first | exact Nat.le_of_ble_eq_true rfl | omega) ⟨hM, hK⟩
      have hqo := orderS_ok (B := ar 9) (N := N) (w := w) (Ls := LsX7) (ordersS_ok (B := ar 9) (N := N) (Ls := LsX7) f) hq
      obtain ⟨qs, qo, qa⟩ := q
      obtain ⟨hq1, hq2, hq3⟩ := id hq
      dsimp only at hq1 hq2 hq3 out
      replace hM : MW h1 m ad (scT (upd sc 21 (nI qo)) qs) R qa := hM
      have hB3 : BufOK (qa 9) N := by rw [hq3]; exact hB
      have hq5 := hq1.2
      have hqk := hq1.1.2.2.1
      refine k_aload_n F dX7_readsOrders_0 1 rfl rfl rfl ?_
      refine m_get F 16 (by decide) q3608 rfl dX7_readsOrders_1 4 rfl hM rfl ?_
      refine k_topi (b := nI qs.2.1) rfl ?_
      refine k_ifne F dX7_readsOrders_4 7 31 rfl (by decide) (fun c_a => ?_) (fun c_a => ?_)
      · rw [nI_0E (by omega)] at c_a
        exact out (by unfold moreF; rw [decide_eq_false c_a]; rfl)
      · rw [nI_0E (by omega)] at c_a
        refine k_aload_n F dX7_readsOrders_7 8 rfl rfl rfl ?_
        refine m_get F 14 (by decide) q3606 rfl dX7_readsOrders_8 11 rfl hM rfl ?_
        refine k_topi (b := nI qs.1.2.2.1) rfl ?_
        refine k_ifeq F dX7_readsOrders_11 14 31 rfl (by decide) (fun c_d => ?_) (fun c_d => ?_)
        · rw [nI_0E (by omega)] at c_d
          exact out (by unfold moreF; simp [c_d])
        · rw [nI_0E (by omega)] at c_d
          refine k_aload_n F dX7_readsOrders_14 15 rfl rfl rfl ?_
          refine k_bipush (v := 41) F dX7_readsOrders_15 17 rfl (by decide) ?_
          refine k_callV F kd_X7_isSign q3528 q194 (kInvV (Bs := [_]) F kcX7 q3525 q3527 qs81 kd_X7_isSign q3528 dX7_readsOrders_17 (kHs.of hM.1) rfl (by decide)) (zX7_isSign F.st hM hn hB3 hq1 _) 20 rfl (Nat.le_of_ble_eq_true rfl) (by first | exact Nat.le_of_ble_eq_true rfl | omega) (by first | exact Nat.le_of_ble_eq_true rfl | omega) (by first | exact Nat.le_of_ble_eq_true rfl | omega) (by first | exact Nat.le_of_ble_eq_true rfl | omega) (fun r2 h2 hr2 => ?_)
          obtain ⟨rfl, rfl⟩ := hr2
          rw [hq3]
          refine k_ifne F dX7_readsOrders_20 23 31 rfl (by decide) (fun c_e => ?_) (fun c_e => ?_)
          · rw [kB_0, Bool.not_eq_false] at c_e
            exact out (by unfold moreF; rw [c_e, Bool.not_true, Bool.and_false, Bool.and_false])
          · rw [kB_0] at c_e
            have hmore : moreF (ar 9) N qs = true := by unfold moreF; rw [c_e, decide_eq_true c_a, decide_eq_true c_d]; rfl
            have hw2 : w ≤ 2 := by
              have : w ≠ 3 := fun z => h3 z c_a
              omega
            have hadv := orderS_adv (Ls := LsX7) (w := w) (ordersS_ok (B := ar 9) (N := N) (Ls := LsX7) f) (ordersS_adv f) hq c_d
            rw [show ordersS (ar 9) N LsX7 (f + 1) w (qs, qo, qa) = ordersS (ar 9) N LsX7 f w (orderS (ar 9) N LsX7 (ordersS (ar 9) N LsX7 f) w (qs, qo, qa)) from if_pos hmore] at he
            refine k_aload_n F dX7_readsOrders_23 24 rfl rfl rfl ?_
            refine k_iload_n F dX7_readsOrders_24 25 rfl rfl rfl ?_
            refine k_callN F kd_X7_readsOrder q3703 q194 (kInvV (Bs := [_]) F kcX7 q3700 q3702 qs99 kd_X7_readsOrder q3703 dX7_readsOrders_25 (kHs.of hM.1) rfl (by decide)) (zX7_readsOrder F.st (s := qs) (o := qo) (ar := qa) hM hn hB3 hq1 hq2 hLv w hw2 (by rw [hq3]; exact hRec (by omega) f) c_a c_d (hen c_a c_d)) 28 rfl (Nat.le_of_ble_eq_true rfl) (by first | exact Nat.le_of_ble_eq_true rfl | omega) (by first | exact Nat.le_of_ble_eq_true rfl | omega) (by first | exact Nat.le_of_ble_eq_true rfl | omega) (by first | exact Nat.le_of_ble_eq_true rfl | omega) (fun h3 hr3 => ?_)
            obtain ⟨hM, hK9⟩ := hr3
            have hK := hK.tr hK9
            rw [hq3] at hM
            refine k_goto F dX7_readsOrders_28 0 (by decide) ?_
            exact ih _ _ hqo (fun z _ => by have a1 := hadv z; have a2 := hen c_a c_d; dsimp only at a1 a2 ⊢; omega) (fun z => absurd z (by omega)) he hM hK
  exact loop f0 _ _ ⟨hs, ho, rfl⟩ hen0 h3 rfl hM hK
theorem zX7_readsOrders {l : Launch} {g : kG} (S : kStart l g) {m : Nat} {ad : Nat → Nat} {sc R B : Nat → Int32} {N : Nat} (hn : sc 10 = nI N) (hB : BufOK B N) : ∀ (d w : Nat), w + d = 3 → ∀ (f : Nat) (h : kH) (q : QS), QOK B N q → enough N f q.1 → (w = 3 → q.1.2.1 ≠ 0) → MW h m ad (scQ sc q) R q.2.2 → kMet l g yX7_readsOrders (Cond.code yX7_readsOrders cX7_readsOrders 2 (Option.none : Option Jvm.ClassFile.FieldType)) (33 + 3 * d) 0 0 [.ref m, .int (nI w)] h (mDo h m ad (scQ sc (ordersS B N LsX7 f w q)) R (ordersS B N LsX7 f w q).2.2) := by
  intro d
  induction d with
  | zero =>
    intro w hw f h q hq hen h3 hM
    obtain ⟨qs, qo, qa⟩ := q
    obtain ⟨hq1, hq2, hq3⟩ := hq
    dsimp only at hq1 hq2 hq3
    subst hq3
    exact zX7_readsOrdersS S (lvR := 30) hM hn hB hq1 hq2 (by omega) w (by omega) (fun z => absurd z (by omega)) hen h3
  | succ d ih =>
    intro w hw f h q hq hen h3 hM
    obtain ⟨qs, qo, qa⟩ := q
    obtain ⟨hq1, hq2, hq3⟩ := hq
    dsimp only at hq1 hq2 hq3
    subst hq3
    have := zX7_readsOrdersS S (lvR := 33 + 3 * d) hM hn hB hq1 hq2 (by omega) w (by omega) (fun _ f h1 q1 a1 a2 a3 a4 => ih (w + 1) (by omega) f h1 q1 a1 a2 (fun z => a3 (by omega)) a4) hen h3
    exact this
end

