/-! what the coupling gives -/
set_option maxRecDepth 100000
section
variable {h : Hp} {x : Nat}
theorem CP.xw (H : CP h x) : XW h x := H.1.1
theorem CP.mw (H : CP h x) : MW h (x + 23) := H.1.2.1
theorem bd_nI {v : Int32} {hi : Nat} (H : bd v 0 hi) : v = nI (ix v) ∧ ix v ≤ hi := by
  have h1 := ix_toInt H.1
  have h2 := H.2
  exact ⟨(nI_ix H.1).symm, by omega⟩
theorem CP.nC_le (H : CP h x) : gI h 1001 (x + 23) = nI (nC h x) ∧ nC h x ≤ 12 := bd_nI (hi := 12) H.2.2.1.2.1
theorem CP.nR_le (H : CP h x) : gI h 1002 (x + 23) = nI (nR h x) ∧ nR h x ≤ 30 := bd_nI (hi := 30) H.2.2.1.2.2.1
theorem CP.nS_le (H : CP h x) : gI h 1004 (x + 23) = nI (nS h x) ∧ nS h x ≤ 40 := bd_nI (hi := 40) H.2.2.1.2.2.2.2.1
theorem CP.nP_le (H : CP h x) : gI h 1006 (x + 23) = nI (nP h x) ∧ nP h x ≤ 60 := bd_nI (hi := 60) H.2.2.1.2.2.2.2.2.1
theorem CP.nU_le (H : CP h x) : gI h 1067 (x + 23) = nI (nU h x) ∧ nU h x ≤ 10 := bd_nI (hi := 10) H.2.2.1.2.2.2.2.2.2.1
theorem CP.size2 (H : CP h x) : gI h 1102 (x + 2) = gI h 1001 (x + 23) := H.2.2.2.1.1.2.1.trans H.nC_le.1.symm
theorem CP.size3 (H : CP h x) : gI h 1102 (x + 3) = gI h 1002 (x + 23) := H.2.2.2.1.2.1.2.1.trans H.nR_le.1.symm
theorem CP.size4 (H : CP h x) : gI h 1102 (x + 4) = gI h 1067 (x + 23) := H.2.2.2.1.2.2.1.2.1.trans H.nU_le.1.symm
theorem CP.size21 (H : CP h x) : gI h 1102 (x + 21) = gI h 1004 (x + 23) := H.2.2.2.1.2.2.2.1.2.1.trans H.nS_le.1.symm
theorem CP.size22 (H : CP h x) : gI h 1102 (x + 22) = gI h 1006 (x + 23) := H.2.2.2.1.2.2.2.2.2.1.trans H.nP_le.1.symm
theorem nI_m1 {m : Nat} (hm : m < 2 ^ 30) : (nI m - 1).toInt = (m : Int) - 1 := by
  have h1 := pk_sub_toInt (a := m) (b := 1) (by omega) (by omega)
  have h2 : nI 1 = 1 := by decide
  rw [h2] at h1
  exact_mod_cast h1
/-- an index into m things: out of bounds, or one of them -/
theorem isin_cases {m : Nat} (hm : m < 2 ^ 30) (c : Int32) : (isin c 0 (nI m - 1) = false) ∨ ∃ i, i < m ∧ c = nI i ∧ ix c = i ∧ isin c 0 (nI m - 1) = true ∧ 0 ≤ c.toInt ∧ c.toInt < m := by
  by_cases hc : 0 ≤ c.toInt ∧ c.toInt < m
  · right
    have h1 := ix_toInt hc.1
    refine ⟨ix c, by omega, (nI_ix hc.1).symm, rfl, ?_, hc.1, hc.2⟩
    rw [isin_t, i32_le, i32_le, nI_m1 hm]
    exact ⟨by simpa using hc.1, by omega⟩
  · left
    rw [isin_f, i32_le, i32_le, nI_m1 hm]
    intro z
    exact hc ⟨by simpa using z.1, by omega⟩
theorem CP.cor (H : CP h x) (wf : wfH h) (c : Int32) : atp h x c ∧ ((isin c 0 (gI h 1001 (x + 23) - 1) = false ∧ atv h x c = 0) ∨ ∃ i, i < nC h x ∧ c = nI i ∧ ix c = i ∧ isin c 0 (gI h 1001 (x + 23) - 1) = true ∧ atv h x c = el h (x + 2) i ∧ vp_in c 12 ∧ el h (x + 2) i ≠ 0 ∧ ALg h (x + 2) c) := by
  have hn := H.nC_le
  have e := H.size2
  unfold atp atv
  rw [e, hn.1]
  rcases isin_cases (show nC h x < 2 ^ 30 by omega) c with z | ⟨i, hi, rfl, h2, h3, h4, h5⟩
  · exact ⟨fun y => absurd (z.symm.trans y) (by decide), Or.inl ⟨z, by simp [z]⟩⟩
  · have hal := H.2.2.2.1.1.g h4 h5
    have hk := (H.2.2.2.2.1 i hi).1.1
    refine ⟨fun _ => ⟨hal, by rw [h2]; exact hk⟩, Or.inr ⟨i, hi, rfl, h2, h3, by simp [h3, h2], ?_, ?_, hal⟩⟩
    · rw [vin_iff]; omega
    · exact Nat.ne_of_gt (wf.lt hk (by decide)).1
end
