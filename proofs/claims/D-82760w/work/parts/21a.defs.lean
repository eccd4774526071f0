/-! plain words: within bounds, the last that is at most, list elements -/
set_option maxRecDepth 100000
def isin (v lo hi : Int32) : Bool := decide (lo ≤ v) && decide (v ≤ hi)
/-- a list's element -/
def el (h : Hp) (a i : Nat) : Nat := eR h (gR h 1101 a) i
/-- a list may be asked for its i-th -/
def ALg (h : Hp) (a : Nat) (i : Int32) : Prop := kd h (gR h 1101 a) = 65 ∧ vp_in i (ix (gI h 1102 a)) ∧ 0 ≤ (gI h 1102 a).toInt ∧ ix (gI h 1102 a) ≤ ln h (gR h 1101 a)
theorem isin_t {v lo hi : Int32} : isin v lo hi = true ↔ lo ≤ v ∧ v ≤ hi := by simp [isin]
theorem isin_f {v lo hi : Int32} : isin v lo hi = false ↔ ¬ (lo ≤ v ∧ v ≤ hi) := by rw [← isin_t]; simp
def nz (x : Int32) : Bool := decide (x ≠ 0)
theorem nz_b1 (b : Bool) : nz (b1 b) = b := by cases b <;> decide
theorem i32_lt {x y : Int32} : x < y ↔ x.toInt < y.toInt := Int32.lt_iff_toInt_lt
theorem i32_le {x y : Int32} : x ≤ y ↔ x.toInt ≤ y.toInt := Int32.le_iff_toInt_le
theorem i32_not_lt {x y : Int32} : ¬ x < y ↔ y ≤ x := by rw [i32_lt, i32_le]; omega
theorem i32_not_le {x y : Int32} : ¬ x ≤ y ↔ y < x := by rw [i32_lt, i32_le]; omega
theorem ix_toInt {x : Int32} (h : 0 ≤ x.toInt) : ((ix x : Nat) : Int) = x.toInt := by show ((x.toInt.toNat : Nat) : Int) = _; omega
theorem vin_iff {x : Int32} {n : Nat} : vp_in x n ↔ 0 ≤ x.toInt ∧ x.toInt < n := vp_in_iff
theorem nI_ix {x : Int32} (h : 0 ≤ x.toInt) : nI (ix x) = x := by
  have h1 := Int32.toInt_lt x
  apply Int32.toInt_inj.mp
  rw [nI_toInt (by have := ix_toInt h; omega)]
  exact ix_toInt h
/-- a list of m elements -/
def ALk (h : Hp) (a m : Nat) : Prop := kd h a = 12 ∧ gI h 1102 a = nI m ∧ m ≤ ln h (gR h 1101 a) ∧ (kd h (gR h 1101 a) = 65 ∨ (gR h 1101 a = kc h 0 ∧ m = 0)) ∧ ln h (gR h 1101 a) ≤ 60000
theorem ALk.g {h : Hp} {a m : Nat} (H : ALk h a m) {i : Int32} (h0 : 0 ≤ i.toInt) (h1 : i.toInt < m) : ALg h a i := by
  obtain ⟨g1, g2, g3, g4, g5⟩ := H
  have e : ix (gI h 1102 a) = m := by rw [g2]; exact ix_nI (by omega)
  have e2 : (gI h 1102 a).toInt = m := by rw [g2]; exact nI_toInt (by omega)
  refine ⟨?_, by rw [e, vin_iff]; exact ⟨h0, h1⟩, by omega, by omega⟩
  rcases g4 with z | z
  · exact z
  · omega
/-- what at, bedAt, roofAt answer -/
def atv (h : Hp) (x : Nat) (c : Int32) : Nat := if isin c 0 (gI h 1102 (x + 2) - 1) then el h (x + 2) (ix c) else 0
def bdv (h : Hp) (x : Nat) (c : Int32) : Nat := if isin c 0 (gI h 1102 (x + 2) - 1) then gR h 109 (el h (x + 2) (ix c)) else 0
def rfv (h : Hp) (x : Nat) (c : Int32) : Nat := if isin c 0 (gI h 1102 (x + 3) - 1) then el h (x + 3) (ix c) else 0
def atp (h : Hp) (x : Nat) (c : Int32) : Prop := isin c 0 (gI h 1102 (x + 2) - 1) = true → ALg h (x + 2) c ∧ kd h (el h (x + 2) (ix c)) = 2
def rfp (h : Hp) (x : Nat) (c : Int32) : Prop := isin c 0 (gI h 1102 (x + 3) - 1) = true → ALg h (x + 3) c ∧ kd h (el h (x + 3) (ix c)) = 3
def isbed (h : Hp) (mo : Nat) (c : Int32) : Bool := isin c 0 (gI h 1001 mo - 1) && nz (eI h (mo + 6) (ix c))
