/-! contracts: small static methods, lists' size and get -/
set_option maxRecDepth 100000
section
variable {h : Hp} {E : Nat → Hp → Prop} {k n : Nat}
theorem ct_X3_isIn {v lo hi : Int32} {Q : Int32 → Hp → Prop} (hq : Q (b1 (isin v lo hi)) h) : CtI M_X3_isIn [iV v, iV lo, iV hi] h k n Q E := by
  refine b_X3_isIn_0 ⟨fun c => ?_, fun c => ⟨fun d => ?_, fun d => ?_⟩⟩
  · rwa [show isin v lo hi = false from isin_f.mpr fun z => i32_not_lt.mpr z.1 c] at hq
  · rwa [show isin v lo hi = false from isin_f.mpr fun z => i32_not_lt.mpr z.2 d] at hq
  · rwa [show isin v lo hi = true from isin_t.mpr ⟨i32_not_lt.mp c, i32_not_lt.mp d⟩] at hq
theorem ct_X0_isIn {v lo hi : Int32} {Q : Int32 → Hp → Prop} (hq : Q (b1 (isin v lo hi)) h) : CtI M_X0_isIn [iV v, iV lo, iV hi] h k n Q E := by
  refine b_X0_isIn_0 ⟨fun c => ?_, fun c => ⟨fun d => ?_, fun d => ?_⟩⟩
  · rwa [show isin v lo hi = false from isin_f.mpr fun z => i32_not_lt.mpr z.1 c] at hq
  · rwa [show isin v lo hi = false from isin_f.mpr fun z => i32_not_lt.mpr z.2 d] at hq
  · rwa [show isin v lo hi = true from isin_t.mpr ⟨i32_not_lt.mp c, i32_not_lt.mp d⟩] at hq
theorem ct_X3_one {x : Int32} {Q : Int32 → Hp → Prop} (hq : Q (b1 (nz x)) h) : CtI M_X3_one [iV x] h k n Q E := by
  refine b_X3_one_0 ⟨fun c => ?_, fun c => ?_⟩
  · rwa [show nz x = false by simp [nz, c]] at hq
  · rwa [show nz x = true by simp [nz, c]] at hq
theorem ct_X3_one_b {b : Bool} {Q : Int32 → Hp → Prop} (hq : Q (b1 b) h) : CtI M_X3_one [iV (b1 b)] h k n Q E := ct_X3_one (by rw [nz_b1]; exact hq)
theorem ct_J2_size {a : Nat} {Q : Int32 → Hp → Prop} (hk : kd h a = 12) (hq : Q (gI h 1102 a) h) : CtI M_J2_size [rV a] h k n Q E := b_J2_size_0 ⟨hk, hq⟩
theorem ct_J2_get {a : Nat} {i : Int32} {Q : Nat → Hp → Prop} (hk : kd h a = 12) (hg : ALg h a i) (hq : Q (el h a (ix i)) h) : CtR M_J2_get [rV a, iV i] h k n Q E := by
  obtain ⟨g1, g2, g3, g4⟩ := hg
  rw [vin_iff] at g2
  have g5 := ix_toInt g3
  refine b_J2_get_0 ⟨hk, ?_⟩
  refine b_J6_checkIndex_0 (b_J7_checkIndex_0 ⟨fun c => ?_, fun c => ⟨fun c2 => ⟨hk, ?_⟩, fun c2 => ?_⟩⟩)
  · rw [i32_lt] at c
    simp at c
    omega
  · exact b_J2_elementData_0 ⟨hk, g1, by rw [vin_iff]; omega, hq⟩
  · exact c2 (by rw [i32_lt]; omega)
end
