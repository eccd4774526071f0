/-! bits -/
set_option maxRecDepth 100000
def bt (c : Int32) (y : Nat) : Bool := c.toBitVec.getLsbD y
theorem nI_bv {y : Nat} (hy : y < 32) : ((nI y &&& 31).toBitVec) = BitVec.ofNat 32 y := by
  have : ∀ y, y < 32 → ((nI y &&& 31).toBitVec) = BitVec.ofNat 32 y := by decide
  exact this y hy
theorem nI_smod {y : Nat} (hy : y < 32) : (((nI y &&& 31).toBitVec).smod 32).toNat = y := by
  have : ∀ y, y < 32 → (((nI y &&& 31).toBitVec).smod 32).toNat = y := by decide
  exact this y hy
theorem shr_bit {c : Int32} {y : Nat} (hy : y < 32) : (shr c (nI y) &&& 1 = 1) ↔ bt c y = true := by
  have e : (shr c (nI y)).toBitVec = c.toBitVec.sshiftRight y := by
    unfold shr
    rw [Int32.toBitVec_shiftRight]
    unfold BitVec.sshiftRight'
    rw [nI_smod hy]
  constructor
  · intro z
    have z2 := congrArg Int32.toBitVec z
    rw [Int32.toBitVec_and, e] at z2
    have z3 := congrArg (fun b : BitVec 32 => b.getLsbD 0) z2
    simp only [BitVec.getLsbD_and, BitVec.getLsbD_sshiftRight] at z3
    have o1 : (Int32.toBitVec 1).getLsbD 0 = true := by decide
    rw [o1] at z3
    simp [hy] at z3
    exact z3
  · intro z
    apply Int32.toBitVec_inj.mp
    rw [Int32.toBitVec_and, e]
    apply BitVec.eq_of_getLsbD_eq
    intro i hi
    have o1 : (Int32.toBitVec 1).getLsbD i = decide (i = 0) := by
      have : ∀ i, i < 32 → (Int32.toBitVec 1).getLsbD i = decide (i = 0) := by decide
      exact this i hi
    rw [BitVec.getLsbD_and, o1, BitVec.getLsbD_sshiftRight]
    by_cases h0 : i = 0
    · subst h0
      simp [hy]
      exact z
    · simp [h0]
theorem bt_or (a b : Int32) (y : Nat) : bt (a ||| b) y = (bt a y || bt b y) := by unfold bt; rw [Int32.toBitVec_or, BitVec.getLsbD_or]
theorem bt_and (a b : Int32) (y : Nat) : bt (a &&& b) y = (bt a y && bt b y) := by unfold bt; rw [Int32.toBitVec_and, BitVec.getLsbD_and]
theorem bt_not (a : Int32) {y : Nat} (hy : y < 32) : bt (~~~a) y = !bt a y := by unfold bt; rw [Int32.toBitVec_not, BitVec.getLsbD_not]; simp [hy]
theorem bt_zero (y : Nat) : bt 0 y = false := by unfold bt; exact BitVec.getLsbD_zero
theorem bt_shl1 {y0 y : Nat} (h0 : y0 < 32) (hy : y < 32) : bt (shl 1 (nI y0)) y = decide (y = y0) := by
  have : ∀ y0, y0 < 32 → ∀ y, y < 32 → bt (shl 1 (nI y0)) y = decide (y = y0) := by decide +kernel
  exact this y0 h0 y hy
theorem bt_nI {s : Nat} (hs : s < 2 ^ 31) {y : Nat} (hy : y < 32) : bt (nI s) y = s.testBit y := by
  show (BitVec.ofNat 32 s).getLsbD y = _
  rw [BitVec.getLsbD_ofNat]
  simp [hy]
theorem bt_ext {a b : Int32} (h : ∀ y, y < 32 → bt a y = bt b y) : a = b := by
  apply Int32.toBitVec_inj.mp
  exact BitVec.eq_of_getLsbD_eq h
