/-! a write into an array of ints that a part of the coupling does not read -/
set_option maxRecDepth 100000
section
variable {h : Hp} {x b i : Nat} {v : Int32}
theorem eI_sI_ne {c : Nat} (hb : c ≠ b) : eI (sI h b i v) c = eI h c := by funext j; show up2 (eI h) b i v c j = _; unfold up2; rw [if_neg (fun z => hb z.1)]
theorem CPw_sI (H : CPw h x) : CPw (sI h b i v) x := H
theorem CPn_sI (H : CPn h x) : CPn (sI h b i v) x := H
theorem CPo_sI (H : CPo h x) : CPo (sI h b i v) x := H
theorem CPl_sI (H : CPl h x) : CPl (sI h b i v) x := H
theorem CPc_sI (hb : ∀ o ∈ [24, 25, 26, 27, 28, 66], x + o ≠ b) (H : CPc h x) : CPc (sI h b i v) x := by
  have n24 : eI (sI h b i v) (x + 23 + 1) = eI h (x + 23 + 1) := eI_sI_ne (by have := hb 24 (by decide); omega)
  have n25 : eI (sI h b i v) (x + 23 + 2) = eI h (x + 23 + 2) := eI_sI_ne (by have := hb 25 (by decide); omega)
  have n26 : eI (sI h b i v) (x + 23 + 3) = eI h (x + 23 + 3) := eI_sI_ne (by have := hb 26 (by decide); omega)
  have n27 : eI (sI h b i v) (x + 23 + 4) = eI h (x + 23 + 4) := eI_sI_ne (by have := hb 27 (by decide); omega)
  have n28 : eI (sI h b i v) (x + 23 + 5) = eI h (x + 23 + 5) := eI_sI_ne (by have := hb 28 (by decide); omega)
  have n66 : eI (sI h b i v) (x + 23 + 43) = eI h (x + 23 + 43) := eI_sI_ne (by have := hb 66 (by decide); omega)
  unfold CPc nC CPc1 CPc2 at H ⊢
  simp only [n24, n25, n26, n27, n28, n66]
  exact H
theorem CPv_sI (hb : ∀ o ∈ [24, 25, 26, 27, 28], x + o ≠ b) (H : CPv h x) : CPv (sI h b i v) x := by
  have n24 : eI (sI h b i v) (x + 23 + 1) = eI h (x + 23 + 1) := eI_sI_ne (by have := hb 24 (by decide); omega)
  have n25 : eI (sI h b i v) (x + 23 + 2) = eI h (x + 23 + 2) := eI_sI_ne (by have := hb 25 (by decide); omega)
  have n26 : eI (sI h b i v) (x + 23 + 3) = eI h (x + 23 + 3) := eI_sI_ne (by have := hb 26 (by decide); omega)
  have n27 : eI (sI h b i v) (x + 23 + 4) = eI h (x + 23 + 4) := eI_sI_ne (by have := hb 27 (by decide); omega)
  have n28 : eI (sI h b i v) (x + 23 + 5) = eI h (x + 23 + 5) := eI_sI_ne (by have := hb 28 (by decide); omega)
  unfold CPv nC CPv1 at H ⊢
  simp only [n24, n25, n26, n27, n28]
  exact H
theorem CPb_sI (hb : ∀ o ∈ [29, 30, 31, 32, 33, 34, 35, 36, 37, 38, 39, 40, 41], x + o ≠ b) (H : CPb h x) : CPb (sI h b i v) x := by
  have n29 : eI (sI h b i v) (x + 23 + 6) = eI h (x + 23 + 6) := eI_sI_ne (by have := hb 29 (by decide); omega)
  have n30 : eI (sI h b i v) (x + 23 + 7) = eI h (x + 23 + 7) := eI_sI_ne (by have := hb 30 (by decide); omega)
  have n31 : eI (sI h b i v) (x + 23 + 8) = eI h (x + 23 + 8) := eI_sI_ne (by have := hb 31 (by decide); omega)
  have n32 : eI (sI h b i v) (x + 23 + 9) = eI h (x + 23 + 9) := eI_sI_ne (by have := hb 32 (by decide); omega)
  have n33 : eI (sI h b i v) (x + 23 + 10) = eI h (x + 23 + 10) := eI_sI_ne (by have := hb 33 (by decide); omega)
  have n34 : eI (sI h b i v) (x + 23 + 11) = eI h (x + 23 + 11) := eI_sI_ne (by have := hb 34 (by decide); omega)
  have n35 : eI (sI h b i v) (x + 23 + 12) = eI h (x + 23 + 12) := eI_sI_ne (by have := hb 35 (by decide); omega)
  have n36 : eI (sI h b i v) (x + 23 + 13) = eI h (x + 23 + 13) := eI_sI_ne (by have := hb 36 (by decide); omega)
  have n37 : eI (sI h b i v) (x + 23 + 14) = eI h (x + 23 + 14) := eI_sI_ne (by have := hb 37 (by decide); omega)
  have n38 : eI (sI h b i v) (x + 23 + 15) = eI h (x + 23 + 15) := eI_sI_ne (by have := hb 38 (by decide); omega)
  have n39 : eI (sI h b i v) (x + 23 + 16) = eI h (x + 23 + 16) := eI_sI_ne (by have := hb 39 (by decide); omega)
  have n40 : eI (sI h b i v) (x + 23 + 17) = eI h (x + 23 + 17) := eI_sI_ne (by have := hb 40 (by decide); omega)
  have n41 : eI (sI h b i v) (x + 23 + 18) = eI h (x + 23 + 18) := eI_sI_ne (by have := hb 41 (by decide); omega)
  unfold CPb nC CPb1 CPb2 CPb3 at H ⊢
  simp only [n29, n30, n31, n32, n33, n34, n35, n36, n37, n38, n39, n40, n41]
  exact H
theorem CPx_sI (hb : ∀ o ∈ [29, 30, 31, 32, 33, 34, 35, 36, 37, 38, 39, 40, 41], x + o ≠ b) (H : CPx h x) : CPx (sI h b i v) x := by
  have n29 : eI (sI h b i v) (x + 23 + 6) = eI h (x + 23 + 6) := eI_sI_ne (by have := hb 29 (by decide); omega)
  have n30 : eI (sI h b i v) (x + 23 + 7) = eI h (x + 23 + 7) := eI_sI_ne (by have := hb 30 (by decide); omega)
  have n31 : eI (sI h b i v) (x + 23 + 8) = eI h (x + 23 + 8) := eI_sI_ne (by have := hb 31 (by decide); omega)
  have n32 : eI (sI h b i v) (x + 23 + 9) = eI h (x + 23 + 9) := eI_sI_ne (by have := hb 32 (by decide); omega)
  have n33 : eI (sI h b i v) (x + 23 + 10) = eI h (x + 23 + 10) := eI_sI_ne (by have := hb 33 (by decide); omega)
  have n34 : eI (sI h b i v) (x + 23 + 11) = eI h (x + 23 + 11) := eI_sI_ne (by have := hb 34 (by decide); omega)
  have n35 : eI (sI h b i v) (x + 23 + 12) = eI h (x + 23 + 12) := eI_sI_ne (by have := hb 35 (by decide); omega)
  have n36 : eI (sI h b i v) (x + 23 + 13) = eI h (x + 23 + 13) := eI_sI_ne (by have := hb 36 (by decide); omega)
  have n37 : eI (sI h b i v) (x + 23 + 14) = eI h (x + 23 + 14) := eI_sI_ne (by have := hb 37 (by decide); omega)
  have n38 : eI (sI h b i v) (x + 23 + 15) = eI h (x + 23 + 15) := eI_sI_ne (by have := hb 38 (by decide); omega)
  have n39 : eI (sI h b i v) (x + 23 + 16) = eI h (x + 23 + 16) := eI_sI_ne (by have := hb 39 (by decide); omega)
  have n40 : eI (sI h b i v) (x + 23 + 17) = eI h (x + 23 + 17) := eI_sI_ne (by have := hb 40 (by decide); omega)
  have n41 : eI (sI h b i v) (x + 23 + 18) = eI h (x + 23 + 18) := eI_sI_ne (by have := hb 41 (by decide); omega)
  unfold CPx nC CPw1 CPw0 at H ⊢
  simp only [n29, n30, n31, n32, n33, n34, n35, n36, n37, n38, n39, n40, n41]
  exact H
theorem CPr_sI (hb : ∀ o ∈ [42, 43, 44, 45, 46, 47], x + o ≠ b) (H : CPr h x) : CPr (sI h b i v) x := by
  have n42 : eI (sI h b i v) (x + 23 + 19) = eI h (x + 23 + 19) := eI_sI_ne (by have := hb 42 (by decide); omega)
  have n43 : eI (sI h b i v) (x + 23 + 20) = eI h (x + 23 + 20) := eI_sI_ne (by have := hb 43 (by decide); omega)
  have n44 : eI (sI h b i v) (x + 23 + 21) = eI h (x + 23 + 21) := eI_sI_ne (by have := hb 44 (by decide); omega)
  have n45 : eI (sI h b i v) (x + 23 + 22) = eI h (x + 23 + 22) := eI_sI_ne (by have := hb 45 (by decide); omega)
  have n46 : eI (sI h b i v) (x + 23 + 23) = eI h (x + 23 + 23) := eI_sI_ne (by have := hb 46 (by decide); omega)
  have n47 : eI (sI h b i v) (x + 23 + 24) = eI h (x + 23 + 24) := eI_sI_ne (by have := hb 47 (by decide); omega)
  unfold CPr nR CPr1 CPr2 nC at H ⊢
  simp only [n42, n43, n44, n45, n46, n47]
  exact H
theorem CPq_sI (hb : ∀ o ∈ [42], x + o ≠ b) (H : CPq h x) : CPq (sI h b i v) x := by
  have n42 : eI (sI h b i v) (x + 23 + 19) = eI h (x + 23 + 19) := eI_sI_ne (by have := hb 42 (by decide); omega)
  unfold CPq nC nR nU rfs at H ⊢
  simp only [n42]
  exact H
theorem CPs_sI (hb : ∀ o ∈ [64, 65], x + o ≠ b) (H : CPs h x) : CPs (sI h b i v) x := by
  have n64 : eI (sI h b i v) (x + 23 + 41) = eI h (x + 23 + 41) := eI_sI_ne (by have := hb 64 (by decide); omega)
  have n65 : eI (sI h b i v) (x + 23 + 42) = eI h (x + 23 + 42) := eI_sI_ne (by have := hb 65 (by decide); omega)
  unfold CPs nS CPs1 at H ⊢
  simp only [n64, n65]
  exact H
theorem CPp_sI (hb : ∀ o ∈ [67, 68, 69, 70, 71, 72], x + o ≠ b) (H : CPp h x) : CPp (sI h b i v) x := by
  have n67 : eI (sI h b i v) (x + 23 + 44) = eI h (x + 23 + 44) := eI_sI_ne (by have := hb 67 (by decide); omega)
  have n68 : eI (sI h b i v) (x + 23 + 45) = eI h (x + 23 + 45) := eI_sI_ne (by have := hb 68 (by decide); omega)
  have n69 : eI (sI h b i v) (x + 23 + 46) = eI h (x + 23 + 46) := eI_sI_ne (by have := hb 69 (by decide); omega)
  have n70 : eI (sI h b i v) (x + 23 + 47) = eI h (x + 23 + 47) := eI_sI_ne (by have := hb 70 (by decide); omega)
  have n71 : eI (sI h b i v) (x + 23 + 48) = eI h (x + 23 + 48) := eI_sI_ne (by have := hb 71 (by decide); omega)
  have n72 : eI (sI h b i v) (x + 23 + 49) = eI h (x + 23 + 49) := eI_sI_ne (by have := hb 72 (by decide); omega)
  unfold CPp nP CPp1 nC at H ⊢
  simp only [n67, n68, n69, n70, n71, n72]
  exact H
theorem CPa_sI (hb : ∀ o ∈ [1, 9, 10, 11, 12, 46, 47, 48, 49, 50, 51, 66, 80], x + o ≠ b) (H : CPa h x) : CPa (sI h b i v) x := by
  have n1 : eI (sI h b i v) (x + 1) = eI h (x + 1) := eI_sI_ne (by have := hb 1 (by decide); omega)
  have n9 : eI (sI h b i v) (x + 9) = eI h (x + 9) := eI_sI_ne (by have := hb 9 (by decide); omega)
  have n10 : eI (sI h b i v) (x + 10) = eI h (x + 10) := eI_sI_ne (by have := hb 10 (by decide); omega)
  have n11 : eI (sI h b i v) (x + 11) = eI h (x + 11) := eI_sI_ne (by have := hb 11 (by decide); omega)
  have n12 : eI (sI h b i v) (x + 12) = eI h (x + 12) := eI_sI_ne (by have := hb 12 (by decide); omega)
  have n46 : eI (sI h b i v) (x + 23 + 23) = eI h (x + 23 + 23) := eI_sI_ne (by have := hb 46 (by decide); omega)
  have n47 : eI (sI h b i v) (x + 23 + 24) = eI h (x + 23 + 24) := eI_sI_ne (by have := hb 47 (by decide); omega)
  have n66 : eI (sI h b i v) (x + 23 + 43) = eI h (x + 23 + 43) := eI_sI_ne (by have := hb 66 (by decide); omega)
  have n48 : eI (sI h b i v) (x + 23 + 25) = eI h (x + 23 + 25) := eI_sI_ne (by have := hb 48 (by decide); omega)
  have n49 : eI (sI h b i v) (x + 23 + 26) = eI h (x + 23 + 26) := eI_sI_ne (by have := hb 49 (by decide); omega)
  have n50 : eI (sI h b i v) (x + 23 + 27) = eI h (x + 23 + 27) := eI_sI_ne (by have := hb 50 (by decide); omega)
  have n51 : eI (sI h b i v) (x + 23 + 28) = eI h (x + 23 + 28) := eI_sI_ne (by have := hb 51 (by decide); omega)
  have n80 : eI (sI h b i v) (x + 23 + 57) = eI h (x + 23 + 57) := eI_sI_ne (by have := hb 80 (by decide); omega)
  unfold CPa at H ⊢
  simp only [n1, n9, n10, n11, n12, n46, n47, n66, n48, n49, n50, n51, n80, gI_sI, eJ_sI]
  exact H
theorem CPu_sI (hb : ∀ o ∈ [73, 74, 75, 76, 77, 78, 79], x + o ≠ b) (hd : ∀ r, r < nU h x → gR h 416 (el h (x + 4) r) ≠ b ∧ gR h 417 (el h (x + 4) r) ≠ b) (h7 : x + 7 ≠ b) (h8 : x + 8 ≠ b) (H : CPu h x) : CPu (sI h b i v) x := by
  have n73 : eI (sI h b i v) (x + 23 + 50) = eI h (x + 23 + 50) := eI_sI_ne (by have := hb 73 (by decide); omega)
  have n74 : eI (sI h b i v) (x + 23 + 51) = eI h (x + 23 + 51) := eI_sI_ne (by have := hb 74 (by decide); omega)
  have n75 : eI (sI h b i v) (x + 23 + 52) = eI h (x + 23 + 52) := eI_sI_ne (by have := hb 75 (by decide); omega)
  have n76 : eI (sI h b i v) (x + 23 + 53) = eI h (x + 23 + 53) := eI_sI_ne (by have := hb 76 (by decide); omega)
  have n77 : eI (sI h b i v) (x + 23 + 54) = eI h (x + 23 + 54) := eI_sI_ne (by have := hb 77 (by decide); omega)
  have n78 : eI (sI h b i v) (x + 23 + 55) = eI h (x + 23 + 55) := eI_sI_ne (by have := hb 78 (by decide); omega)
  have n79 : eI (sI h b i v) (x + 23 + 56) = eI h (x + 23 + 56) := eI_sI_ne (by have := hb 79 (by decide); omega)
  obtain ⟨⟨U1, U2, U3, U4, U5⟩, U6⟩ := H
  unfold CPu
  refine ⟨⟨?_, ?_, U3, U4, U5⟩, fun r hr => ?_⟩
  · unfold CPu1 at U1 ⊢
    have f1 : eI (sI h b i v) (gR h 416 (x + 5)) = eI h (gR h 416 (x + 5)) := eI_sI_ne (by rw [U4]; exact h7)
    have f2 : eI (sI h b i v) (gR h 417 (x + 5)) = eI h (gR h 417 (x + 5)) := eI_sI_ne (by rw [U5]; exact h8)
    simp only [gR_sI, f1, f2]
    exact U1
  · unfold CPu2 CPt1 at U2 ⊢
    simp only [n73, n74, n75, n76, n77, n78, n79]
    exact U2
  · have hr : r < nU h x := hr
    obtain ⟨W1, W2, W3, W4, W5, W6⟩ := U6 r hr
    have f1 : eI (sI h b i v) (gR h 416 (el h (x + 4) r)) = eI h (gR h 416 (el h (x + 4) r)) := eI_sI_ne (hd r hr).1
    have f2 : eI (sI h b i v) (gR h 417 (el h (x + 4) r)) = eI h (gR h 417 (el h (x + 4) r)) := eI_sI_ne (hd r hr).2
    have el1 : el (sI h b i v) = el h := rfl
    simp only [n73, n74, n75, n76, n77, n78, n79, el1]
    refine ⟨?_, ?_, W3, W4, W5, W6⟩
    · unfold CPu1 at W1 ⊢
      simp only [gR_sI, f1, f2]
      exact W1
    · unfold CPu2 CPt1 at W2 ⊢
      simp only [el1, gR_sI, n73, n74, n75, n76, n77, n78, n79]
      exact W2
end
