/-! the classes -/
theorem kcJ1 : kCl 0 RJ1 TJ1 3 tyJ1 := ⟨rfl, in_J1, tyJ1_ok⟩
theorem knJ1 (j : Nat) (hj : j < 3 := by decide) : kNm TJ1 3 j := fun b hb hne => nmJ1 b hb j hj hne
theorem kcJ3 : kCl 1 RJ3 TJ3 3 tyJ3 := ⟨rfl, in_J3, tyJ3_ok⟩
theorem knJ3 (j : Nat) (hj : j < 3 := by decide) : kNm TJ3 3 j := fun b hb hne => nmJ3 b hb j hj hne
theorem kcJ4 : kCl 2 RJ4 TJ4 5 tyJ4 := ⟨rfl, in_J4, tyJ4_ok⟩
theorem knJ4 (j : Nat) (hj : j < 5 := by decide) : kNm TJ4 5 j := fun b hb hne => nmJ4 b hb j hj hne
theorem kcJ9 : kCl 4 RJ9 TJ9 4 tyJ9 := ⟨rfl, in_J9, tyJ9_ok⟩
theorem knJ9 (j : Nat) (hj : j < 4 := by decide) : kNm TJ9 4 j := fun b hb hne => nmJ9 b hb j hj hne
theorem kcJ10 : kCl 5 RJ10 TJ10 4 tyJ10 := ⟨rfl, in_J10, tyJ10_ok⟩
theorem knJ10 (j : Nat) (hj : j < 4 := by decide) : kNm TJ10 4 j := fun b hb hne => nmJ10 b hb j hj hne
theorem kcJ18 : kCl 6 RJ18 TJ18 1 tyJ18 := ⟨rfl, in_J18, tyJ18_ok⟩
theorem knJ18 (j : Nat) (hj : j < 1 := by decide) : kNm TJ18 1 j := fun b hb hne => nmJ18 b hb j hj hne
theorem kcJ21 : kCl 7 RJ21 TJ21 12 tyJ21 := ⟨rfl, in_J21, tyJ21_ok⟩
theorem knJ21 (j : Nat) (hj : j < 12 := by decide) : kNm TJ21 12 j := fun b hb hne => nmJ21 b hb j hj hne
theorem kcJ24 : kCl 8 RJ24 TJ24 1 tyJ24 := ⟨rfl, in_J24, tyJ24_ok⟩
theorem knJ24 (j : Nat) (hj : j < 1 := by decide) : kNm TJ24 1 j := fun b hb hne => nmJ24 b hb j hj hne
theorem kcJ31 : kCl 9 RJ31 TJ31 6 tyJ31 := ⟨rfl, in_J31, tyJ31_ok⟩
theorem knJ31 (j : Nat) (hj : j < 6 := by decide) : kNm TJ31 6 j := fun b hb hne => nmJ31 b hb j hj hne
theorem kcJ35 : kCl 10 RJ35 TJ35 3 tyJ35 := ⟨rfl, in_J35, tyJ35_ok⟩
theorem knJ35 (j : Nat) (hj : j < 3 := by decide) : kNm TJ35 3 j := fun b hb hne => nmJ35 b hb j hj hne
theorem kcJ39 : kCl 11 RJ39 TJ39 2 tyJ39 := ⟨rfl, in_J39, tyJ39_ok⟩
theorem knJ39 (j : Nat) (hj : j < 2 := by decide) : kNm TJ39 2 j := fun b hb hne => nmJ39 b hb j hj hne
theorem kcJ41 : kCl 12 RJ41 TJ41 5 tyJ41 := ⟨rfl, in_J41, tyJ41_ok⟩
theorem knJ41 (j : Nat) (hj : j < 5 := by decide) : kNm TJ41 5 j := fun b hb hne => nmJ41 b hb j hj hne
theorem kcJ43 : kCl 13 RJ43 TJ43 5 tyJ43 := ⟨rfl, in_J43, tyJ43_ok⟩
theorem knJ43 (j : Nat) (hj : j < 5 := by decide) : kNm TJ43 5 j := fun b hb hne => nmJ43 b hb j hj hne
theorem kcX1 : kCl 15 RX1 TX1 9 tyX1 := ⟨rfl, in_X1, tyX1_ok⟩
theorem knX1 (j : Nat) (hj : j < 9 := by decide) : kNm TX1 9 j := fun b hb hne => nmX1 b hb j hj hne
theorem kcX2 : kCl 16 RX2 TX2 11 tyX2 := ⟨rfl, in_X2, tyX2_ok⟩
theorem knX2 (j : Nat) (hj : j < 11 := by decide) : kNm TX2 11 j := fun b hb hne => nmX2 b hb j hj hne
theorem kcX3 : kCl 17 RX3 TX3 6 tyX3 := ⟨rfl, in_X3, tyX3_ok⟩
theorem knX3 (j : Nat) (hj : j < 6 := by decide) : kNm TX3 6 j := fun b hb hne => nmX3 b hb j hj hne
theorem kcX4 : kCl 18 RX4 TX4 3 tyX4 := ⟨rfl, in_X4, tyX4_ok⟩
theorem knX4 (j : Nat) (hj : j < 3 := by decide) : kNm TX4 3 j := fun b hb hne => nmX4 b hb j hj hne
theorem kcX5 : kCl 19 RX5 TX5 2 tyX5 := ⟨rfl, in_X5, tyX5_ok⟩
theorem knX5 (j : Nat) (hj : j < 2 := by decide) : kNm TX5 2 j := fun b hb hne => nmX5 b hb j hj hne
theorem kcX6 : kCl 20 RX6 TX6 5 tyX6 := ⟨rfl, in_X6, tyX6_ok⟩
theorem knX6 (j : Nat) (hj : j < 5 := by decide) : kNm TX6 5 j := fun b hb hne => nmX6 b hb j hj hne
theorem kcX9 : kCl 22 RX9 TX9 9 tyX9 := ⟨rfl, in_X9, tyX9_ok⟩
theorem kcX10 : kCl 23 RX10 TX10 8 tyX10 := ⟨rfl, in_X10, tyX10_ok⟩
theorem knX10 (j : Nat) (hj : j < 8 := by decide) : kNm TX10 8 j := fun b hb hne => nmX10 b hb j hj hne
theorem kcX12 : kCl 24 RX12 TX12 10 tyX12 := ⟨rfl, in_X12, tyX12_ok⟩
theorem kcX14 : kCl 25 RX14 TX14 2 tyX14 := ⟨rfl, in_X14, tyX14_ok⟩
theorem knX14 (j : Nat) (hj : j < 2 := by decide) : kNm TX14 2 j := fun b hb hne => nmX14 b hb j hj hne
theorem kcX15 : kCl 26 RX15 TX15 2 tyX15 := ⟨rfl, in_X15, tyX15_ok⟩
theorem knX15 (j : Nat) (hj : j < 2 := by decide) : kNm TX15 2 j := fun b hb hne => nmX15 b hb j hj hne
