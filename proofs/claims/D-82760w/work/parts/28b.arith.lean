/-! numbers of 32 and 64 bits as integers -/
set_option maxRecDepth 100000
theorem i32_add {a b : Int32} (h1 : -2 ^ 31 ≤ a.toInt + b.toInt) (h2 : a.toInt + b.toInt < 2 ^ 31) : (a + b).toInt = a.toInt + b.toInt := by
  rw [Int32.toInt_add]; exact Int.bmod_eq_of_le (by omega) (by omega)
theorem i32_sub {a b : Int32} (h1 : -2 ^ 31 ≤ a.toInt - b.toInt) (h2 : a.toInt - b.toInt < 2 ^ 31) : (a - b).toInt = a.toInt - b.toInt := by
  rw [Int32.toInt_sub]; exact Int.bmod_eq_of_le (by omega) (by omega)
theorem i32_mul {a b : Int32} (h1 : -2 ^ 31 ≤ a.toInt * b.toInt) (h2 : a.toInt * b.toInt < 2 ^ 31) : (a * b).toInt = a.toInt * b.toInt := by
  rw [Int32.toInt_mul]; exact Int.bmod_eq_of_le (by omega) (by omega)
theorem i32_div {a b : Int32} (ha : 0 ≤ a.toInt) (hb : 0 < b.toInt) : (a / b).toInt = a.toInt / b.toInt := by
  have h3 := Int32.toInt_lt a
  have h4 : a.toInt / b.toInt ≤ a.toInt := Int.ediv_le_self _ ha
  have h5 : 0 ≤ a.toInt / b.toInt := Int.ediv_nonneg ha (by omega)
  rw [Int32.toInt_div, Int.tdiv_eq_ediv_of_nonneg ha]
  exact Int.bmod_eq_of_le (by omega) (by omega)
theorem i64_add {a b : Int64} (h1 : -2 ^ 63 ≤ a.toInt + b.toInt) (h2 : a.toInt + b.toInt < 2 ^ 63) : (a + b).toInt = a.toInt + b.toInt := by
  rw [Int64.toInt_add]; exact Int.bmod_eq_of_le (by omega) (by omega)
theorem i64_sub {a b : Int64} (h1 : -2 ^ 63 ≤ a.toInt - b.toInt) (h2 : a.toInt - b.toInt < 2 ^ 63) : (a - b).toInt = a.toInt - b.toInt := by
  rw [Int64.toInt_sub]; exact Int.bmod_eq_of_le (by omega) (by omega)
theorem i64_mul {a b : Int64} (h1 : -2 ^ 63 ≤ a.toInt * b.toInt) (h2 : a.toInt * b.toInt < 2 ^ 63) : (a * b).toInt = a.toInt * b.toInt := by
  rw [Int64.toInt_mul]; exact Int.bmod_eq_of_le (by omega) (by omega)
theorem i64_div {a b : Int64} (ha : 0 ≤ a.toInt) (hb : 0 < b.toInt) : (a / b).toInt = a.toInt / b.toInt := by
  have h3 := Int64.toInt_lt a
  have h4 : a.toInt / b.toInt ≤ a.toInt := Int.ediv_le_self _ ha
  have h5 : 0 ≤ a.toInt / b.toInt := Int.ediv_nonneg ha (by omega)
  rw [Int64.toInt_div, Int.tdiv_eq_ediv_of_nonneg ha]
  exact Int.bmod_eq_of_le (by omega) (by omega)
theorem i64_lt {x y : Int64} : x < y ↔ x.toInt < y.toInt := Int64.lt_iff_toInt_lt
theorem i64_le {x y : Int64} : x ≤ y ↔ x.toInt ≤ y.toInt := Int64.le_iff_toInt_le
theorem imax_toInt (a b : Int32) : (imax a b).toInt = max a.toInt b.toInt := by unfold imax; by_cases c : a < b <;> simp [c] <;> rw [i32_lt] at c <;> omega
theorem imin_toInt (a b : Int32) : (imin a b).toInt = min a.toInt b.toInt := by unfold imin; by_cases c : b < a <;> simp [c] <;> rw [i32_lt] at c <;> omega
theorem lmax_toInt (a b : Int64) : (lmax a b).toInt = max a.toInt b.toInt := by unfold lmax; by_cases c : b < a <;> simp [c] <;> rw [i64_lt] at c <;> omega
theorem lmin_toInt (a b : Int64) : (lmin a b).toInt = min a.toInt b.toInt := by unfold lmin; by_cases c : b < a <;> simp [c] <;> rw [i64_lt] at c <;> omega
theorem to64 (a : Int32) : a.toInt64.toInt = a.toInt := Int32.toInt_toInt64 a
theorem to32 {a : Int64} (h1 : -2 ^ 31 ≤ a.toInt) (h2 : a.toInt < 2 ^ 31) : a.toInt32.toInt = a.toInt := by
  rw [Int64.toInt_toInt32]; exact Int.bmod_eq_of_le (by omega) (by omega)
theorem i32_ext {a b : Int32} (h : a.toInt = b.toInt) : a = b := Int32.toInt_inj.mp h
theorem i64_ext {a b : Int64} (h : a.toInt = b.toInt) : a = b := Int64.toInt_inj.mp h
theorem nI_nat {m : Nat} (hm : m < 2 ^ 31) : (nI m).toInt = m := nI_toInt hm
theorem toI_0 : (0 : Int32).toInt = 0 := by decide
theorem toI_1 : (1 : Int32).toInt = 1 := by decide
theorem toI_2 : (2 : Int32).toInt = 2 := by decide
theorem toI_5 : (5 : Int32).toInt = 5 := by decide
theorem toI_10 : (10 : Int32).toInt = 10 := by decide
theorem toI_20 : (20 : Int32).toInt = 20 := by decide
theorem toI_30 : (30 : Int32).toInt = 30 := by decide
theorem toI_100 : (100 : Int32).toInt = 100 := by decide
theorem toI_m1 : (-1 : Int32).toInt = -1 := by decide
theorem toI_365 : (365 : Int32).toInt = 365 := by decide
theorem toL_0 : (0 : Int64).toInt = 0 := by decide
theorem toL_2 : (2 : Int64).toInt = 2 := by decide
theorem toL_10 : (10 : Int64).toInt = 10 := by decide
theorem toL_100 : (100 : Int64).toInt = 100 := by decide
