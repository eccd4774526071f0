/-! pairs: corner -/
set_option maxRecDepth 100000
section
variable {h : Hp} {x : Nat} {E : Nat → Hp → Prop} {k n : Nat} {R : Hp → Prop}
/-- a list's size, where its reader does not look -/
theorem CPu_1102 {a : Nat} {v : Int32} (h6 : x + 6 ≠ a) (hd : ∀ r, r < nU h x → gR h 401 (el h (x + 4) r) ≠ a) (H : CPu h x) : CPu (pI h 1102 a v) x := by
  obtain ⟨⟨u1, u2, u3, u4, u5⟩, u6⟩ := H
  have key : ∀ b l, gR h 401 b ≠ a → CPu2 h x b l → CPu2 (pI h 1102 a v) x b l := fun b l hne U => by
    obtain ⟨⟨g1, g2, g3, g4, g5⟩, U2⟩ := U
    have eg : gI (pI h 1102 a v) 1102 (gR h 401 b) = gI h 1102 (gR h 401 b) := by rw [gI_pI, if_neg (fun z => hne z.2)]
    refine ⟨⟨g1, eg.trans g2, g3, g4, g5⟩, fun j hj => ?_⟩
    have := U2 j hj
    unfold CPt1 at this ⊢
    simp [nx_pI, kd_pI, ln_pI, gI_pI, gJ_pI, gR_pI, eI_pI, eJ_pI, eR_pI, kc_pI, nx_pJ, kd_pJ, ln_pJ, gI_pJ, gJ_pJ, gR_pJ, eI_pJ, eJ_pJ, eR_pJ, kc_pJ, nx_pR, kd_pR, ln_pR, gI_pR, gJ_pR, gR_pR, eI_pR, eJ_pR, eR_pR, kc_pR, nx_sI, kd_sI, ln_sI, gI_sI, gJ_sI, gR_sI, eI_sI, eJ_sI, eR_sI, kc_sI, nx_sJ, kd_sJ, ln_sJ, gI_sJ, gJ_sJ, gR_sJ, eI_sJ, eJ_sJ, eR_sJ, kc_sJ, nx_sR, kd_sR, ln_sR, gI_sR, gJ_sR, gR_sR, eI_sR, eJ_sR, eR_sR, kc_sR, ln_nO, eI_nO, eJ_nO, eR_nO, kc_nO, gI_nO, gI_nA, gJ_nO, gJ_nA, gR_nO, gR_nA, eI_nA, eJ_nA, eR_nA, kc_nA, nx_nO, nx_nA, kd_nO_at, kd_nA_at, ln_nA_at, el_pI]
    simpa using this
  refine ⟨⟨?_, key _ _ (by rw [u3]; exact h6) u2, u3, u4, u5⟩, fun r hr => ?_⟩
  · unfold CPu1 at u1 ⊢
    simp [nx_pI, kd_pI, ln_pI, gI_pI, gJ_pI, gR_pI, eI_pI, eJ_pI, eR_pI, kc_pI, nx_pJ, kd_pJ, ln_pJ, gI_pJ, gJ_pJ, gR_pJ, eI_pJ, eJ_pJ, eR_pJ, kc_pJ, nx_pR, kd_pR, ln_pR, gI_pR, gJ_pR, gR_pR, eI_pR, eJ_pR, eR_pR, kc_pR, nx_sI, kd_sI, ln_sI, gI_sI, gJ_sI, gR_sI, eI_sI, eJ_sI, eR_sI, kc_sI, nx_sJ, kd_sJ, ln_sJ, gI_sJ, gJ_sJ, gR_sJ, eI_sJ, eJ_sJ, eR_sJ, kc_sJ, nx_sR, kd_sR, ln_sR, gI_sR, gJ_sR, gR_sR, eI_sR, eJ_sR, eR_sR, kc_sR, ln_nO, eI_nO, eJ_nO, eR_nO, kc_nO, gI_nO, gI_nA, gJ_nO, gJ_nA, gR_nO, gR_nA, eI_nA, eJ_nA, eR_nA, kc_nA, nx_nO, nx_nA, kd_nO_at, kd_nA_at, ln_nA_at]
    simpa using u1
  · have hr : r < nU h x := by unfold nU at hr ⊢; simp [nx_pI, kd_pI, ln_pI, gI_pI, gJ_pI, gR_pI, eI_pI, eJ_pI, eR_pI, kc_pI, nx_pJ, kd_pJ, ln_pJ, gI_pJ, gJ_pJ, gR_pJ, eI_pJ, eJ_pJ, eR_pJ, kc_pJ, nx_pR, kd_pR, ln_pR, gI_pR, gJ_pR, gR_pR, eI_pR, eJ_pR, eR_pR, kc_pR, nx_sI, kd_sI, ln_sI, gI_sI, gJ_sI, gR_sI, eI_sI, eJ_sI, eR_sI, kc_sI, nx_sJ, kd_sJ, ln_sJ, gI_sJ, gJ_sJ, gR_sJ, eI_sJ, eJ_sJ, eR_sJ, kc_sJ, nx_sR, kd_sR, ln_sR, gI_sR, gJ_sR, gR_sR, eI_sR, eJ_sR, eR_sR, kc_sR, ln_nO, eI_nO, eJ_nO, eR_nO, kc_nO, gI_nO, gI_nA, gJ_nO, gJ_nA, gR_nO, gR_nA, eI_nA, eJ_nA, eR_nA, kc_nA, nx_nO, nx_nA, kd_nO_at, kd_nA_at, ln_nA_at] at hr; exact hr
    obtain ⟨v1, v2, v3, v4, v5, v6⟩ := u6 r hr
    refine ⟨?_, key _ _ (hd r hr) v2, ?_, v4, v5, v6⟩
    · unfold CPu1 at v1 ⊢
      simp [nx_pI, kd_pI, ln_pI, gI_pI, gJ_pI, gR_pI, eI_pI, eJ_pI, eR_pI, kc_pI, nx_pJ, kd_pJ, ln_pJ, gI_pJ, gJ_pJ, gR_pJ, eI_pJ, eJ_pJ, eR_pJ, kc_pJ, nx_pR, kd_pR, ln_pR, gI_pR, gJ_pR, gR_pR, eI_pR, eJ_pR, eR_pR, kc_pR, nx_sI, kd_sI, ln_sI, gI_sI, gJ_sI, gR_sI, eI_sI, eJ_sI, eR_sI, kc_sI, nx_sJ, kd_sJ, ln_sJ, gI_sJ, gJ_sJ, gR_sJ, eI_sJ, eJ_sJ, eR_sJ, kc_sJ, nx_sR, kd_sR, ln_sR, gI_sR, gJ_sR, gR_sR, eI_sR, eJ_sR, eR_sR, kc_sR, ln_nO, eI_nO, eJ_nO, eR_nO, kc_nO, gI_nO, gI_nA, gJ_nO, gJ_nA, gR_nO, gR_nA, eI_nA, eJ_nA, eR_nA, kc_nA, nx_nO, nx_nA, kd_nO_at, kd_nA_at, ln_nA_at, el_pI]
      simpa using v1
    · simp [nx_pI, kd_pI, ln_pI, gI_pI, gJ_pI, gR_pI, eI_pI, eJ_pI, eR_pI, kc_pI, nx_pJ, kd_pJ, ln_pJ, gI_pJ, gJ_pJ, gR_pJ, eI_pJ, eJ_pJ, eR_pJ, kc_pJ, nx_pR, kd_pR, ln_pR, gI_pR, gJ_pR, gR_pR, eI_pR, eJ_pR, eR_pR, kc_pR, nx_sI, kd_sI, ln_sI, gI_sI, gJ_sI, gR_sI, eI_sI, eJ_sI, eR_sI, kc_sI, nx_sJ, kd_sJ, ln_sJ, gI_sJ, gJ_sJ, gR_sJ, eI_sJ, eJ_sJ, eR_sJ, kc_sJ, nx_sR, kd_sR, ln_sR, gI_sR, gJ_sR, gR_sR, eI_sR, eJ_sR, eR_sR, kc_sR, ln_nO, eI_nO, eJ_nO, eR_nO, kc_nO, gI_nO, gI_nA, gJ_nO, gJ_nA, gR_nO, gR_nA, eI_nA, eJ_nA, eR_nA, kc_nA, nx_nO, nx_nA, kd_nO_at, kd_nA_at, ln_nA_at, el_pI]; exact v3
def hCor (h : Hp) (x m : Nat) (va vp vk vc : Int32) : Hp := pI (sI (sI (sI (sI (sI (pI h 1102 (x + 2) (nI (m + 1))) (x + 23 + 1) m va) (x + 23 + 2) m vp) (x + 23 + 3) m vk) (x + 23 + 4) m vc) (x + 23 + 5) m (-1)) 1001 (x + 23) (nI (m + 1))
theorem cp_corner (H : CP h x) {m : Nat} (em : nC h x = m) (hm : m < 12) {va vp vk vc : Int32} (ba : bd va 1 100) (bp : bd vp 1 500) (bk : bd vk 0 9) (bc : bd vc 0 500) (hl : m + 1 ≤ ln h (gR h 1101 (x + 2))) (h65 : kd h (gR h 1101 (x + 2)) = 65) {r q : Nat} (hr : el h (x + 2) m = r) (kr : kd h r = 2)
    (f : gI h 100 r = nI m ∧ gI h 101 r = va ∧ gI h 102 r = vp ∧ gI h 103 r = vk ∧ gI h 104 r = vc ∧ gI h 105 r = -1 ∧ gI h 106 r = 0 ∧ gI h 107 r = 0 ∧ gI h 108 r = 0 ∧ gR h 109 r = 0) (hq : gR h 110 r = q) (kq : kd h q = 12) (sq : gI h 1102 q = 0) (aq : gR h 1101 q = kc h 0) (xq : x + 82 ≤ q) (nq : ∀ i, i < m → gR h 110 (el h (x + 2) i) ≠ q) (nu : ∀ r', r' < nU h x → gR h 401 (el h (x + 4) r') ≠ q) : CP (hCor h x m va vp vk vc) x := by
  have hn := H.nC_le.1
  rw [em] at hn
  unfold hCor
  generalize hF : pI (sI (sI (sI (sI (sI (pI h 1102 (x + 2) (nI (m + 1))) (x + 23 + 1) m va) (x + 23 + 2) m vp) (x + 23 + 3) m vk) (x + 23 + 4) m vc) (x + 23 + 5) m (-1)) 1001 (x + 23) (nI (m + 1)) = F
  have ek : kd F = kd h := by rw [← hF]; rfl
  have el' : ln F = ln h := by rw [← hF]; rfl
  have er : gR F = gR h := by rw [← hF]; rfl
  have ee : el F = el h := by rw [← hF]; rfl
  have ekc : kc F = kc h := by rw [← hF]; rfl
  have ej : eJ F = eJ h := by rw [← hF]; rfl
  have gi : ∀ f a, f ≠ 1102 → f ≠ 1001 → gI F f a = gI h f a := fun f a h1 h2 => by rw [← hF]; simp [nx_pI, kd_pI, ln_pI, gI_pI, gJ_pI, gR_pI, eI_pI, eJ_pI, eR_pI, kc_pI, nx_pJ, kd_pJ, ln_pJ, gI_pJ, gJ_pJ, gR_pJ, eI_pJ, eJ_pJ, eR_pJ, kc_pJ, nx_pR, kd_pR, ln_pR, gI_pR, gJ_pR, gR_pR, eI_pR, eJ_pR, eR_pR, kc_pR, nx_sI, kd_sI, ln_sI, gI_sI, gJ_sI, gR_sI, eI_sI, eJ_sI, eR_sI, kc_sI, nx_sJ, kd_sJ, ln_sJ, gI_sJ, gJ_sJ, gR_sJ, eI_sJ, eJ_sJ, eR_sJ, kc_sJ, nx_sR, kd_sR, ln_sR, gI_sR, gJ_sR, gR_sR, eI_sR, eJ_sR, eR_sR, kc_sR, ln_nO, eI_nO, eJ_nO, eR_nO, kc_nO, gI_nO, gI_nA, gJ_nO, gJ_nA, gR_nO, gR_nA, eI_nA, eJ_nA, eR_nA, kc_nA, nx_nO, nx_nA, kd_nO_at, kd_nA_at, ln_nA_at, h1, h2]
  have g2 : ∀ a, a ≠ x + 2 → gI F 1102 a = gI h 1102 a := fun a h1 => by rw [← hF]; simp [nx_pI, kd_pI, ln_pI, gI_pI, gJ_pI, gR_pI, eI_pI, eJ_pI, eR_pI, kc_pI, nx_pJ, kd_pJ, ln_pJ, gI_pJ, gJ_pJ, gR_pJ, eI_pJ, eJ_pJ, eR_pJ, kc_pJ, nx_pR, kd_pR, ln_pR, gI_pR, gJ_pR, gR_pR, eI_pR, eJ_pR, eR_pR, kc_pR, nx_sI, kd_sI, ln_sI, gI_sI, gJ_sI, gR_sI, eI_sI, eJ_sI, eR_sI, kc_sI, nx_sJ, kd_sJ, ln_sJ, gI_sJ, gJ_sJ, gR_sJ, eI_sJ, eJ_sJ, eR_sJ, kc_sJ, nx_sR, kd_sR, ln_sR, gI_sR, gJ_sR, gR_sR, eI_sR, eJ_sR, eR_sR, kc_sR, ln_nO, eI_nO, eJ_nO, eR_nO, kc_nO, gI_nO, gI_nA, gJ_nO, gJ_nA, gR_nO, gR_nA, eI_nA, eJ_nA, eR_nA, kc_nA, nx_nO, nx_nA, kd_nO_at, kd_nA_at, ln_nA_at, h1]
  have g2' : gI F 1102 (x + 2) = nI (m + 1) := by rw [← hF]; simp [nx_pI, kd_pI, ln_pI, gI_pI, gJ_pI, gR_pI, eI_pI, eJ_pI, eR_pI, kc_pI, nx_pJ, kd_pJ, ln_pJ, gI_pJ, gJ_pJ, gR_pJ, eI_pJ, eJ_pJ, eR_pJ, kc_pJ, nx_pR, kd_pR, ln_pR, gI_pR, gJ_pR, gR_pR, eI_pR, eJ_pR, eR_pR, kc_pR, nx_sI, kd_sI, ln_sI, gI_sI, gJ_sI, gR_sI, eI_sI, eJ_sI, eR_sI, kc_sI, nx_sJ, kd_sJ, ln_sJ, gI_sJ, gJ_sJ, gR_sJ, eI_sJ, eJ_sJ, eR_sJ, kc_sJ, nx_sR, kd_sR, ln_sR, gI_sR, gJ_sR, gR_sR, eI_sR, eJ_sR, eR_sR, kc_sR, ln_nO, eI_nO, eJ_nO, eR_nO, kc_nO, gI_nO, gI_nA, gJ_nO, gJ_nA, gR_nO, gR_nA, eI_nA, eJ_nA, eR_nA, kc_nA, nx_nO, nx_nA, kd_nO_at, kd_nA_at, ln_nA_at]
  have gc : gI F 1001 (x + 23) = nI (m + 1) := by rw [← hF]; simp [nx_pI, kd_pI, ln_pI, gI_pI, gJ_pI, gR_pI, eI_pI, eJ_pI, eR_pI, kc_pI, nx_pJ, kd_pJ, ln_pJ, gI_pJ, gJ_pJ, gR_pJ, eI_pJ, eJ_pJ, eR_pJ, kc_pJ, nx_pR, kd_pR, ln_pR, gI_pR, gJ_pR, gR_pR, eI_pR, eJ_pR, eR_pR, kc_pR, nx_sI, kd_sI, ln_sI, gI_sI, gJ_sI, gR_sI, eI_sI, eJ_sI, eR_sI, kc_sI, nx_sJ, kd_sJ, ln_sJ, gI_sJ, gJ_sJ, gR_sJ, eI_sJ, eJ_sJ, eR_sJ, kc_sJ, nx_sR, kd_sR, ln_sR, gI_sR, gJ_sR, gR_sR, eI_sR, eJ_sR, eR_sR, kc_sR, ln_nO, eI_nO, eJ_nO, eR_nO, kc_nO, gI_nO, gI_nA, gJ_nO, gJ_nA, gR_nO, gR_nA, eI_nA, eJ_nA, eR_nA, kc_nA, nx_nO, nx_nA, kd_nO_at, kd_nA_at, ln_nA_at]
  have eC : nC F x = m + 1 := by unfold nC; rw [gc, ix_nI (by omega)]
  have eR' : nR F x = nR h x := by unfold nR; rw [gi _ _ (by decide) (by decide)]
  have eU' : nU F x = nU h x := by unfold nU; rw [gi _ _ (by decide) (by decide)]
  have eP' : nP F x = nP h x := by unfold nP; rw [gi _ _ (by decide) (by decide)]
  have eS' : nS F x = nS h x := by unfold nS; rw [gi _ _ (by decide) (by decide)]
  have ei : ∀ o, 5 < o → eI F (x + 23 + o) = eI h (x + 23 + o) := fun o ho => by
    funext j
    rw [← hF]
    simp only [eI_pI, eI_sI]
    rw [if_neg (by omega), if_neg (by omega), if_neg (by omega), if_neg (by omega), if_neg (by omega)]
  have eo : ∀ o j, j ≠ m → eI F (x + 23 + o) j = eI h (x + 23 + o) j := fun o j hj => by rw [← hF]; simp [nx_pI, kd_pI, ln_pI, gI_pI, gJ_pI, gR_pI, eI_pI, eJ_pI, eR_pI, kc_pI, nx_pJ, kd_pJ, ln_pJ, gI_pJ, gJ_pJ, gR_pJ, eI_pJ, eJ_pJ, eR_pJ, kc_pJ, nx_pR, kd_pR, ln_pR, gI_pR, gJ_pR, gR_pR, eI_pR, eJ_pR, eR_pR, kc_pR, nx_sI, kd_sI, ln_sI, gI_sI, gJ_sI, gR_sI, eI_sI, eJ_sI, eR_sI, kc_sI, nx_sJ, kd_sJ, ln_sJ, gI_sJ, gJ_sJ, gR_sJ, eI_sJ, eJ_sJ, eR_sJ, kc_sJ, nx_sR, kd_sR, ln_sR, gI_sR, gJ_sR, gR_sR, eI_sR, eJ_sR, eR_sR, kc_sR, ln_nO, eI_nO, eJ_nO, eR_nO, kc_nO, gI_nO, gI_nA, gJ_nO, gJ_nA, gR_nO, gR_nA, eI_nA, eJ_nA, eR_nA, kc_nA, nx_nO, nx_nA, kd_nO_at, kd_nA_at, ln_nA_at, hj]
  have m1 : eI F (x + 23 + 1) m = va := by rw [← hF]; simp [nx_pI, kd_pI, ln_pI, gI_pI, gJ_pI, gR_pI, eI_pI, eJ_pI, eR_pI, kc_pI, nx_pJ, kd_pJ, ln_pJ, gI_pJ, gJ_pJ, gR_pJ, eI_pJ, eJ_pJ, eR_pJ, kc_pJ, nx_pR, kd_pR, ln_pR, gI_pR, gJ_pR, gR_pR, eI_pR, eJ_pR, eR_pR, kc_pR, nx_sI, kd_sI, ln_sI, gI_sI, gJ_sI, gR_sI, eI_sI, eJ_sI, eR_sI, kc_sI, nx_sJ, kd_sJ, ln_sJ, gI_sJ, gJ_sJ, gR_sJ, eI_sJ, eJ_sJ, eR_sJ, kc_sJ, nx_sR, kd_sR, ln_sR, gI_sR, gJ_sR, gR_sR, eI_sR, eJ_sR, eR_sR, kc_sR, ln_nO, eI_nO, eJ_nO, eR_nO, kc_nO, gI_nO, gI_nA, gJ_nO, gJ_nA, gR_nO, gR_nA, eI_nA, eJ_nA, eR_nA, kc_nA, nx_nO, nx_nA, kd_nO_at, kd_nA_at, ln_nA_at]
  have m2 : eI F (x + 23 + 2) m = vp := by rw [← hF]; simp [nx_pI, kd_pI, ln_pI, gI_pI, gJ_pI, gR_pI, eI_pI, eJ_pI, eR_pI, kc_pI, nx_pJ, kd_pJ, ln_pJ, gI_pJ, gJ_pJ, gR_pJ, eI_pJ, eJ_pJ, eR_pJ, kc_pJ, nx_pR, kd_pR, ln_pR, gI_pR, gJ_pR, gR_pR, eI_pR, eJ_pR, eR_pR, kc_pR, nx_sI, kd_sI, ln_sI, gI_sI, gJ_sI, gR_sI, eI_sI, eJ_sI, eR_sI, kc_sI, nx_sJ, kd_sJ, ln_sJ, gI_sJ, gJ_sJ, gR_sJ, eI_sJ, eJ_sJ, eR_sJ, kc_sJ, nx_sR, kd_sR, ln_sR, gI_sR, gJ_sR, gR_sR, eI_sR, eJ_sR, eR_sR, kc_sR, ln_nO, eI_nO, eJ_nO, eR_nO, kc_nO, gI_nO, gI_nA, gJ_nO, gJ_nA, gR_nO, gR_nA, eI_nA, eJ_nA, eR_nA, kc_nA, nx_nO, nx_nA, kd_nO_at, kd_nA_at, ln_nA_at]
  have m3 : eI F (x + 23 + 3) m = vk := by rw [← hF]; simp [nx_pI, kd_pI, ln_pI, gI_pI, gJ_pI, gR_pI, eI_pI, eJ_pI, eR_pI, kc_pI, nx_pJ, kd_pJ, ln_pJ, gI_pJ, gJ_pJ, gR_pJ, eI_pJ, eJ_pJ, eR_pJ, kc_pJ, nx_pR, kd_pR, ln_pR, gI_pR, gJ_pR, gR_pR, eI_pR, eJ_pR, eR_pR, kc_pR, nx_sI, kd_sI, ln_sI, gI_sI, gJ_sI, gR_sI, eI_sI, eJ_sI, eR_sI, kc_sI, nx_sJ, kd_sJ, ln_sJ, gI_sJ, gJ_sJ, gR_sJ, eI_sJ, eJ_sJ, eR_sJ, kc_sJ, nx_sR, kd_sR, ln_sR, gI_sR, gJ_sR, gR_sR, eI_sR, eJ_sR, eR_sR, kc_sR, ln_nO, eI_nO, eJ_nO, eR_nO, kc_nO, gI_nO, gI_nA, gJ_nO, gJ_nA, gR_nO, gR_nA, eI_nA, eJ_nA, eR_nA, kc_nA, nx_nO, nx_nA, kd_nO_at, kd_nA_at, ln_nA_at]
  have m4 : eI F (x + 23 + 4) m = vc := by rw [← hF]; simp [nx_pI, kd_pI, ln_pI, gI_pI, gJ_pI, gR_pI, eI_pI, eJ_pI, eR_pI, kc_pI, nx_pJ, kd_pJ, ln_pJ, gI_pJ, gJ_pJ, gR_pJ, eI_pJ, eJ_pJ, eR_pJ, kc_pJ, nx_pR, kd_pR, ln_pR, gI_pR, gJ_pR, gR_pR, eI_pR, eJ_pR, eR_pR, kc_pR, nx_sI, kd_sI, ln_sI, gI_sI, gJ_sI, gR_sI, eI_sI, eJ_sI, eR_sI, kc_sI, nx_sJ, kd_sJ, ln_sJ, gI_sJ, gJ_sJ, gR_sJ, eI_sJ, eJ_sJ, eR_sJ, kc_sJ, nx_sR, kd_sR, ln_sR, gI_sR, gJ_sR, gR_sR, eI_sR, eJ_sR, eR_sR, kc_sR, ln_nO, eI_nO, eJ_nO, eR_nO, kc_nO, gI_nO, gI_nA, gJ_nO, gJ_nA, gR_nO, gR_nA, eI_nA, eJ_nA, eR_nA, kc_nA, nx_nO, nx_nA, kd_nO_at, kd_nA_at, ln_nA_at]
  have m5 : eI F (x + 23 + 5) m = -1 := by rw [← hF]; simp [nx_pI, kd_pI, ln_pI, gI_pI, gJ_pI, gR_pI, eI_pI, eJ_pI, eR_pI, kc_pI, nx_pJ, kd_pJ, ln_pJ, gI_pJ, gJ_pJ, gR_pJ, eI_pJ, eJ_pJ, eR_pJ, kc_pJ, nx_pR, kd_pR, ln_pR, gI_pR, gJ_pR, gR_pR, eI_pR, eJ_pR, eR_pR, kc_pR, nx_sI, kd_sI, ln_sI, gI_sI, gJ_sI, gR_sI, eI_sI, eJ_sI, eR_sI, kc_sI, nx_sJ, kd_sJ, ln_sJ, gI_sJ, gJ_sJ, gR_sJ, eI_sJ, eJ_sJ, eR_sJ, kc_sJ, nx_sR, kd_sR, ln_sR, gI_sR, gJ_sR, gR_sR, eI_sR, eJ_sR, eR_sR, kc_sR, ln_nO, eI_nO, eJ_nO, eR_nO, kc_nO, gI_nO, gI_nA, gJ_nO, gJ_nA, gR_nO, gR_nA, eI_nA, eJ_nA, eR_nA, kc_nA, nx_nO, nx_nA, kd_nO_at, kd_nA_at, ln_nA_at]
  have alk : ∀ a q, a ≠ x + 2 → ALk h a q → ALk F a q := fun a q hne A => by
    obtain ⟨b1, b2, b3, b4, b5⟩ := A
    refine ⟨by rw [ek]; exact b1, (g2 a hne).trans b2, by rw [el', er]; exact b3, by rw [ek, er, ekc]; exact b4, by rw [el', er]; exact b5⟩
  have H0 := H
  obtain ⟨Kw, Kn, Ko, Kl, Kc, Kv, Kb, Kx, Kr, Kq, Ks, Kp, Ka, Ku⟩ := H
  refine ⟨?_, ?_, ?_, ?_, ?_, ?_, ?_, ?_, ?_, ?_, ?_, ?_, ?_, ?_⟩
  · rw [← hF]; exact Kw
  · rw [← hF]; with_reducible (repeat (first | assumption | refine CPn_pI (by decide) ?_ | refine CPn_pJ (by decide) ?_ | refine CPn_pR ?_ | refine CPn_sJ ?_ | refine CPn_sM ?_))
  · obtain ⟨n1, n2, n3, n4, n5, n6, n7, n8⟩ := Ko
    refine ⟨by rw [gi _ _ (by decide) (by decide)]; exact n1, ?_, by rw [gi _ _ (by decide) (by decide)]; exact n3, by rw [gi _ _ (by decide) (by decide)]; exact n4, by rw [gi _ _ (by decide) (by decide)]; exact n5, by rw [gi _ _ (by decide) (by decide)]; exact n6, by rw [gi _ _ (by decide) (by decide)]; exact n7, by rw [gi _ _ (by decide) (by decide)]; exact n8⟩
    rw [gc]; unfold bd; rw [nI_toInt (by omega)]; omega
  · obtain ⟨l1, l2, l3, l4, l5⟩ := Kl
    unfold CPl
    rw [eC, eR', eU', eS', eP']
    refine ⟨⟨by rw [ek]; exact l1.1, g2', by rw [el', er]; exact hl, Or.inl (by rw [ek, er]; exact h65), by rw [el', er]; exact l1.2.2.2.2⟩, alk _ _ (by omega) l2, alk _ _ (by omega) l3, alk _ _ (by omega) l4, alk _ _ (by omega) l5⟩
  · intro i hi
    rw [eC] at hi
    rw [ee]
    by_cases c : i = m
    · subst c
      rw [hr]
      obtain ⟨f0, f1, f2, f3, f4, f5, f6, f7, f8, f9⟩ := f
      have t0 := Ka.2.2.2.2.2.1 i (by show nC h x ≤ i; omega) hm
      refine ⟨⟨by rw [ek]; exact kr, by rw [gi _ _ (by decide) (by decide)]; exact f0, by rw [gi _ _ (by decide) (by decide), m1]; exact f1, by rw [gi _ _ (by decide) (by decide), m2]; exact f2, by rw [gi _ _ (by decide) (by decide), m3]; exact f3, by rw [gi _ _ (by decide) (by decide), m4]; exact f4, by rw [gi _ _ (by decide) (by decide), m5]; exact f5⟩, by rw [gi _ _ (by decide) (by decide), ej, t0.1]; exact f6, by rw [gi _ _ (by decide) (by decide), ej, t0.2.1]; exact f7, by rw [gi _ _ (by decide) (by decide), ei 43 (by decide), t0.2.2]; exact f8⟩
    · obtain ⟨c1, c2⟩ := Kc i (by omega)
      unfold CPc1 at c1 ⊢
      unfold CPc2 at c2 ⊢
      simp only [ek, ej, gi 100 _ (by decide) (by decide), gi 101 _ (by decide) (by decide), gi 102 _ (by decide) (by decide), gi 103 _ (by decide) (by decide), gi 104 _ (by decide) (by decide), gi 105 _ (by decide) (by decide), gi 106 _ (by decide) (by decide), gi 107 _ (by decide) (by decide), gi 108 _ (by decide) (by decide), eo _ i c]
      exact ⟨c1, c2⟩
  · intro i hi
    rw [eC] at hi
    unfold CPv1
    rw [eC]
    by_cases c : i = m
    · subst c
      rw [m1, m2, m3, m4, m5]
      exact ⟨ba, bp, bk, bc, Or.inl rfl⟩
    · obtain ⟨c1, c2, c3, c4, c5⟩ := Kv i (by omega)
      rw [eo _ i c, eo _ i c, eo _ i c, eo _ i c, eo _ i c]
      refine ⟨c1, c2, c3, c4, ?_⟩
      rcases c5 with z | ⟨z1, z2⟩
      · exact Or.inl z
      · exact Or.inr ⟨z1, by rw [em] at z2; omega⟩
  · intro i hi
    rw [eC] at hi
    rw [ee, er]
    by_cases c : i = m
    · subst c
      left
      rw [ei 6 (by decide), hr]
      exact ⟨(Kx i (by omega)).2.2.2 (by omega), f.2.2.2.2.2.2.2.2.2⟩
    · rcases Kb i (by omega) with ⟨e1, e2⟩ | ⟨e1, e2, e3, e4⟩
      · left; rw [ei 6 (by decide)]; exact ⟨e1, e2⟩
      · right
        unfold CPb1 at e2 ⊢
        unfold CPb2 at e3 ⊢
        unfold CPb3 at e4 ⊢
        simp only [ek, er, gi 301 _ (by decide) (by decide), gi 302 _ (by decide) (by decide), gi 303 _ (by decide) (by decide), gi 304 _ (by decide) (by decide), gi 305 _ (by decide) (by decide), gi 306 _ (by decide) (by decide), gi 307 _ (by decide) (by decide), gi 308 _ (by decide) (by decide), gi 309 _ (by decide) (by decide), gi 310 _ (by decide) (by decide), gi 311 _ (by decide) (by decide), gi 312 _ (by decide) (by decide), gi 1000 _ (by decide) (by decide), ei 6 (by decide), ei 7 (by decide), ei 8 (by decide), ei 9 (by decide), ei 10 (by decide), ei 11 (by decide), ei 12 (by decide), ei 13 (by decide), ei 14 (by decide), ei 15 (by decide), ei 16 (by decide), ei 17 (by decide), ei 18 (by decide)]
        exact ⟨e1, e2, e3, e4⟩
  · intro i hi
    obtain ⟨x1, x2, x3, x4⟩ := Kx i hi
    unfold CPw1 at x1 ⊢
    unfold CPw0 at x2 ⊢
    simp only [eC, gi 1000 _ (by decide) (by decide), ei 6 (by decide), ei 7 (by decide), ei 8 (by decide), ei 9 (by decide), ei 10 (by decide), ei 11 (by decide), ei 12 (by decide), ei 13 (by decide), ei 14 (by decide), ei 15 (by decide), ei 16 (by decide), ei 17 (by decide), ei 18 (by decide)]
    exact ⟨x1, x2, x3, fun z => x4 (by omega)⟩
  · intro i hi
    rw [eR'] at hi
    obtain ⟨r1, r2⟩ := Kr i hi
    unfold CPr1 at r1 ⊢
    unfold CPr2 at r2 ⊢
    simp only [ek, er, ee, eC, gi 200 _ (by decide) (by decide), gi 201 _ (by decide) (by decide), gi 202 _ (by decide) (by decide), gi 203 _ (by decide) (by decide), gi 205 _ (by decide) (by decide), gi 206 _ (by decide) (by decide), ei 19 (by decide), ei 20 (by decide), ei 21 (by decide), ei 22 (by decide), ei 23 (by decide), ei 24 (by decide)]
    exact ⟨r1, ⟨r2.1.1, by have := r2.1.2; omega⟩, r2.2⟩
  · intro i hi
    rw [eC] at hi
    simp only [ee, er, eC, eR', eU', ei 19 (by decide)]
    by_cases c : i = m
    · subst c
      rw [hr, hq]
      have hrf : rfs (eI h (x + 23 + 19)) (nR h x) i = [] := by
        unfold rfs
        rw [List.filter_eq_nil_iff]
        intro j hj
        have hj := List.mem_range.mp hj
        have := (Kr j hj).2.1
        intro z
        have z := of_decide_eq_true z
        rw [z, ix_nI (by omega)] at this
        have := this.2
        omega
      rw [hrf]
      refine ⟨xq, alk q 0 (by omega) ⟨kq, by rw [sq]; rfl, Nat.zero_le _, Or.inr ⟨aq, rfl⟩, by rw [aq, Kw.2.2.2.2]; decide⟩, fun j hj => absurd hj (by simp), fun j hj c => ?_, nu⟩
      exact (nq j (by omega)).symm
    · obtain ⟨q1, q2, q3, q4, q5⟩ := Kq i (by omega)
      refine ⟨q1, alk _ _ (by omega) q2, q3, fun j hj cj => ?_, q5⟩
      by_cases d : j = m
      · subst d
        rw [hr, hq]
        exact nq i (by omega)
      · exact q4 j (by omega) cj
  · rw [← hF]; with_reducible (repeat (first | assumption | refine CPs_pI (by decide) ?_ | refine CPs_pJ (by decide) ?_ | refine CPs_pR (by decide) ?_ | refine CPs_sJ (by decide) ?_ | refine CPs_sM (by decide) ?_ | refine CPs_sX (by decide) ?_))
  · obtain ⟨p1, p2⟩ := Kp
    refine ⟨fun i hi => ?_, ?_⟩
    · rw [eP'] at hi
      have := p1 i hi
      unfold CPp1 at this ⊢
      simp only [ek, er, ee, eC, gi 801 _ (by decide) (by decide), gi 802 _ (by decide) (by decide), gi 803 _ (by decide) (by decide), gi 804 _ (by decide) (by decide), gi 805 _ (by decide) (by decide), gi 806 _ (by decide) (by decide), gi 1000 _ (by decide) (by decide), ei 44 (by decide), ei 45 (by decide), ei 46 (by decide), ei 47 (by decide), ei 48 (by decide), ei 49 (by decide)]
      obtain ⟨t1, t2, t3, t4, t5⟩ := this
      exact ⟨t1, t2, t3, ⟨t4.1, by have := t4.2; omega⟩, t5⟩
    · simp only [eP', gi 1000 _ (by decide) (by decide), ei 44 (by decide), ei 45 (by decide), ei 47 (by decide), ei 49 (by decide)]
      exact p2
  · obtain ⟨a1, a2, a3, a4, a5, a6, a7⟩ := Ka
    have e1 : ∀ o, o < 23 → eI F (x + o) = eI h (x + o) := fun o ho => by
      funext j
      rw [← hF]
      simp only [eI_pI, eI_sI]
      rw [if_neg (by omega), if_neg (by omega), if_neg (by omega), if_neg (by omega), if_neg (by omega)]
    unfold CPa
    simp only [e1 1 (by decide), e1 9 (by decide), e1 10 (by decide), e1 11 (by decide), e1 12 (by decide), ei 23 (by decide), ei 24 (by decide), ei 25 (by decide), ei 26 (by decide), ei 27 (by decide), ei 28 (by decide), ei 43 (by decide), ei 57 (by decide), ej, gi 1000 _ (by decide) (by decide), gi 1002 _ (by decide) (by decide)]
    refine ⟨a1, a2, a3, a4, a5, fun i hi hi2 => a6 i ?_ hi2, a7⟩
    rw [gc, ix_nI (by omega)] at hi
    show nC h x ≤ i
    omega
  · rw [← hF]
    have := CPu_1102 (h := h) (x := x) (a := x + 2) (v := nI (m + 1)) (by omega) (fun r hr e => by have := (Ku.2 r hr).2.2.2.2.2.2.2; omega) Ku
    with_reducible (repeat (first | assumption | refine CPu_pI (by decide) ?_ | refine CPu_pJ ?_ | refine CPu_pR (by decide) ?_ | refine CPu_sJ ?_ | refine CPu_sM (by decide) (by decide) ?_ | refine CPu_sX (by decide) (by decide) (by decide) ?_))
theorem pI_back {f a : Nat} {u v : Int32} (e : gI h f a = v) : pI (pI h f a u) f a v = h := by
  have e1 : up2 (up2 (gI h) f a u) f a v = gI h := by
    funext i j
    unfold up2
    by_cases c : i = f ∧ j = a
    · rw [if_pos c, c.1, c.2, e]
    · rw [if_neg c, if_neg c]
  show (nx h, kd h, ln h, up2 (up2 (gI h) f a u) f a v, gJ h, gR h, eI h, eJ h, eR h, kc h) = h
  rw [e1]
  rfl
theorem ok_c {c0 : Nat} {R0 : String} {T0 : u_T} {N0 b : Nat} (hc : xcl[c0]? = some (R0, T0, N0)) (hw : Cond.castable R0 "java/lang/Object" ∈ lw_tbl) (hk : kd h b = c0 + 1) : OkR h b := ⟨c0, R0, T0, N0, hc, hw, hk⟩
/-- the component's heap with a new corner, before it is put into the list -/
def hCorA (h : Hp) (v a b c d : Int32) : Hp := pI (pI (pI (pI (pI (pR (pR (pI (nO (pI (nO h 1) 105 (nx h) (-1)) 11) 1100 (nx h + 1) 0) 1101 (nx h + 1) (kc h 0)) 110 (nx h) (nx h + 1)) 100 (nx h) v) 101 (nx h) a) 102 (nx h) b) 103 (nx h) c) 104 (nx h) d
theorem corA_ag (wf : wfH h) {v a b c d : Int32} : Ag h (hCorA h v a b c d) x := by
  have z1 : kd h (nx h) = 0 := wf.2 _ (Nat.le_refl _)
  have z2 : kd h (nx h + 1) = 0 := wf.2 _ (by omega)
  exact (((((((((((Ag.refl h x).wnO wf).wpI z1).wnO wf).wpI z2).wpR z2).wpR z1).wpI z1).wpI z1).wpI z1).wpI z1).wpI z1
theorem corA_kd {v a b c d : Int32} (y : Nat) : kd (hCorA h v a b c d) y = if y = nx h + 1 then 12 else if y = nx h then 2 else kd h y := by
  unfold hCorA
  simp only [kd_pI, kd_pR, kd_nO_at, nx_pI, nx_nO]
theorem pr_corner (H : CP h x) {a b c d : Int32} (hk : 3 ≤ k) (hn : 300 ≤ n) (hR : ∀ h', CP h' x → R h') : CtI M_X0_corner [rV x, iV a, iV b, iV c, iV d] h k n (fun r h1 => CtI M_X3_corner [rV (x + 23), iV a, iV b, iV c, iV d] h1 0 0 (fun r2 h2 => r = r2 ∧ R h2) E) E := by
  refine r_wfH fun wf => ?_
  have g := hR _ H
  have hn0 := H.nC_le
  by_cases c1 : isin a 1 100 = true
  rotate_left
  · have y : isin a 1 100 = false := by simpa using c1
    exact b_X0_corner_0 H.xw ⟨fun _ => b_X3_corner_0 H.mw ⟨fun _ => ⟨rfl, g⟩, fun z => absurd z c1⟩, fun z => absurd z c1⟩
  have c1f : ¬ isin a 1 100 = false := by rw [c1]; decide
  by_cases c2 : isin b 1 500 = true
  rotate_left
  · have y : isin b 1 500 = false := by simpa using c2
    exact b_X0_corner_0 H.xw ⟨fun z => absurd z c1f, fun _ => ⟨fun _ => b_X3_corner_0 H.mw ⟨fun z => absurd z c1f, fun _ => ⟨fun _ => ⟨rfl, g⟩, fun z => absurd z c2⟩⟩, fun z => absurd z c2⟩⟩
  have c2f : ¬ isin b 1 500 = false := by rw [c2]; decide
  by_cases c3 : isin c 0 9 = true
  rotate_left
  · have y : isin c 0 9 = false := by simpa using c3
    exact b_X0_corner_0 H.xw ⟨fun z => absurd z c1f, fun _ => ⟨fun z => absurd z c2f, fun _ => ⟨fun _ => b_X3_corner_0 H.mw ⟨fun z => absurd z c1f, fun _ => ⟨fun z => absurd z c2f, fun _ => ⟨fun _ => ⟨rfl, g⟩, fun z => absurd z c3⟩⟩⟩, fun z => absurd z c3⟩⟩⟩
  have c3f : ¬ isin c 0 9 = false := by rw [c3]; decide
  by_cases c4 : isin d 0 500 = true
  rotate_left
  · have y : isin d 0 500 = false := by simpa using c4
    exact b_X0_corner_0 H.xw ⟨fun z => absurd z c1f, fun _ => ⟨fun z => absurd z c2f, fun _ => ⟨fun z => absurd z c3f, fun _ => ⟨fun _ => b_X3_corner_0 H.mw ⟨fun z => absurd z c1f, fun _ => ⟨fun z => absurd z c2f, fun _ => ⟨fun z => absurd z c3f, fun _ => ⟨fun _ => ⟨rfl, g⟩, fun z => absurd z c4⟩⟩⟩⟩, fun z => absurd z c4⟩⟩⟩⟩
  have c4f : ¬ isin d 0 500 = false := by rw [c4]; decide
  have t12 : (12 : Int32) = nI 12 := by decide
  refine b_X0_corner_0 H.xw ⟨fun z => absurd z c1f, fun _ => ⟨fun z => absurd z c2f, fun _ => ⟨fun z => absurd z c3f, fun _ => ⟨fun z => absurd z c4f, fun _ => ?_⟩⟩⟩⟩
  rw [H.size2, hn0.1, t12]
  refine ⟨fun c5 => ⟨⟨by omega, by omega⟩, ?_⟩, fun c5 => b_X3_corner_0 H.mw ⟨fun z => absurd z c1f, fun _ => ⟨fun z => absurd z c2f, fun _ => ⟨fun z => absurd z c3f, fun _ => ⟨fun z => absurd z c4f, fun _ => ⟨fun z => absurd (by rw [hn0.1, t12]; exact c5) z, fun _ => ⟨rfl, g⟩⟩⟩⟩⟩⟩⟩
  have hm : nC h x < 12 := by
    rcases Nat.lt_or_ge (nC h x) 12 with z | z
    · exact z
    · exact absurd (by congr 1; omega) c5
  have x2n : x + 2 ≠ nx h := by have := H.xw.2.2.1; omega
  rintro _ rfl _ rfl
  rw [gI_nO, if_neg x2n, H.size2, hn0.1]
  refine ⟨1, 3, k - 2, n - 14, by omega, by omega, ?_⟩
  have kn : kd (nO h 1) (nx h) = 2 := kd_nO _ _
  refine b_X4_init_0 ⟨by rw [kn]; decide, kn, ?_⟩
  rintro _ rfl
  refine ⟨⟨by omega, by omega⟩, ?_⟩
  rintro _ rfl _ rfl
  rw [nx_pI, nx_nO]
  refine ct_J2_init (by rw [kd_nO_at, nx_pI, nx_nO, if_pos rfl]) ?_
  refine ⟨by rw [kd_pR, kd_pI, kd_nO_at, nx_pI, nx_nO, if_neg (by omega), kd_pI, kn], ?_⟩
  rintro _ rfl _ rfl _ rfl _ rfl _ rfl _ rfl
  -- the new corner stands
  have A := corA_ag (h := h) (x := x) wf (v := nI (nC h x)) (a := a) (b := b) (c := c) (d := d)
  have hkd := corA_kd (h := h) (v := nI (nC h x)) (a := a) (b := b) (c := c) (d := d)
  have hflds : gI (hCorA h (nI (nC h x)) a b c d) 100 (nx h) = nI (nC h x) ∧ gI (hCorA h (nI (nC h x)) a b c d) 101 (nx h) = a ∧ gI (hCorA h (nI (nC h x)) a b c d) 102 (nx h) = b ∧ gI (hCorA h (nI (nC h x)) a b c d) 103 (nx h) = c ∧ gI (hCorA h (nI (nC h x)) a b c d) 104 (nx h) = d ∧ gI (hCorA h (nI (nC h x)) a b c d) 105 (nx h) = -1 ∧ gI (hCorA h (nI (nC h x)) a b c d) 106 (nx h) = 0 ∧ gI (hCorA h (nI (nC h x)) a b c d) 107 (nx h) = 0 ∧ gI (hCorA h (nI (nC h x)) a b c d) 108 (nx h) = 0 ∧ gR (hCorA h (nI (nC h x)) a b c d) 109 (nx h) = 0 := by
    refine ⟨?_, ?_, ?_, ?_, ?_, ?_, ?_, ?_, ?_, ?_⟩ <;> simp [hCorA, nx_pI, kd_pI, ln_pI, gI_pI, gJ_pI, gR_pI, eI_pI, eJ_pI, eR_pI, kc_pI, nx_pJ, kd_pJ, ln_pJ, gI_pJ, gJ_pJ, gR_pJ, eI_pJ, eJ_pJ, eR_pJ, kc_pJ, nx_pR, kd_pR, ln_pR, gI_pR, gJ_pR, gR_pR, eI_pR, eJ_pR, eR_pR, kc_pR, nx_sI, kd_sI, ln_sI, gI_sI, gJ_sI, gR_sI, eI_sI, eJ_sI, eR_sI, kc_sI, nx_sJ, kd_sJ, ln_sJ, gI_sJ, gJ_sJ, gR_sJ, eI_sJ, eJ_sJ, eR_sJ, kc_sJ, nx_sR, kd_sR, ln_sR, gI_sR, gJ_sR, gR_sR, eI_sR, eJ_sR, eR_sR, kc_sR, ln_nO, eI_nO, eJ_nO, eR_nO, kc_nO, gI_nO, gI_nA, gJ_nO, gJ_nA, gR_nO, gR_nA, eI_nA, eJ_nA, eR_nA, kc_nA, nx_nO, nx_nA, kd_nO_at, kd_nA_at, ln_nA_at]
  have hq110 : gR (hCorA h (nI (nC h x)) a b c d) 110 (nx h) = nx h + 1 := by simp [hCorA, nx_pI, kd_pI, ln_pI, gI_pI, gJ_pI, gR_pI, eI_pI, eJ_pI, eR_pI, kc_pI, nx_pJ, kd_pJ, ln_pJ, gI_pJ, gJ_pJ, gR_pJ, eI_pJ, eJ_pJ, eR_pJ, kc_pJ, nx_pR, kd_pR, ln_pR, gI_pR, gJ_pR, gR_pR, eI_pR, eJ_pR, eR_pR, kc_pR, nx_sI, kd_sI, ln_sI, gI_sI, gJ_sI, gR_sI, eI_sI, eJ_sI, eR_sI, kc_sI, nx_sJ, kd_sJ, ln_sJ, gI_sJ, gJ_sJ, gR_sJ, eI_sJ, eJ_sJ, eR_sJ, kc_sJ, nx_sR, kd_sR, ln_sR, gI_sR, gJ_sR, gR_sR, eI_sR, eJ_sR, eR_sR, kc_sR, ln_nO, eI_nO, eJ_nO, eR_nO, kc_nO, gI_nO, gI_nA, gJ_nO, gJ_nA, gR_nO, gR_nA, eI_nA, eJ_nA, eR_nA, kc_nA, nx_nO, nx_nA, kd_nO_at, kd_nA_at, ln_nA_at]
  have hq1101 : gR (hCorA h (nI (nC h x)) a b c d) 1101 (nx h + 1) = kc (hCorA h (nI (nC h x)) a b c d) 0 := by simp [hCorA, nx_pI, kd_pI, ln_pI, gI_pI, gJ_pI, gR_pI, eI_pI, eJ_pI, eR_pI, kc_pI, nx_pJ, kd_pJ, ln_pJ, gI_pJ, gJ_pJ, gR_pJ, eI_pJ, eJ_pJ, eR_pJ, kc_pJ, nx_pR, kd_pR, ln_pR, gI_pR, gJ_pR, gR_pR, eI_pR, eJ_pR, eR_pR, kc_pR, nx_sI, kd_sI, ln_sI, gI_sI, gJ_sI, gR_sI, eI_sI, eJ_sI, eR_sI, kc_sI, nx_sJ, kd_sJ, ln_sJ, gI_sJ, gJ_sJ, gR_sJ, eI_sJ, eJ_sJ, eR_sJ, kc_sJ, nx_sR, kd_sR, ln_sR, gI_sR, gJ_sR, gR_sR, eI_sR, eJ_sR, eR_sR, kc_sR, ln_nO, eI_nO, eJ_nO, eR_nO, kc_nO, gI_nO, gI_nA, gJ_nO, gJ_nA, gR_nO, gR_nA, eI_nA, eJ_nA, eR_nA, kc_nA, nx_nO, nx_nA, kd_nO_at, kd_nA_at, ln_nA_at]
  have hq1102 : gI (hCorA h (nI (nC h x)) a b c d) 1102 (nx h + 1) = 0 := by simp [hCorA, nx_pI, kd_pI, ln_pI, gI_pI, gJ_pI, gR_pI, eI_pI, eJ_pI, eR_pI, kc_pI, nx_pJ, kd_pJ, ln_pJ, gI_pJ, gJ_pJ, gR_pJ, eI_pJ, eJ_pJ, eR_pJ, kc_pJ, nx_pR, kd_pR, ln_pR, gI_pR, gJ_pR, gR_pR, eI_pR, eJ_pR, eR_pR, kc_pR, nx_sI, kd_sI, ln_sI, gI_sI, gJ_sI, gR_sI, eI_sI, eJ_sI, eR_sI, kc_sI, nx_sJ, kd_sJ, ln_sJ, gI_sJ, gJ_sJ, gR_sJ, eI_sJ, eJ_sJ, eR_sJ, kc_sJ, nx_sR, kd_sR, ln_sR, gI_sR, gJ_sR, gR_sR, eI_sR, eJ_sR, eR_sR, kc_sR, ln_nO, eI_nO, eJ_nO, eR_nO, kc_nO, gI_nO, gI_nA, gJ_nO, gJ_nA, gR_nO, gR_nA, eI_nA, eJ_nA, eR_nA, kc_nA, nx_nO, nx_nA, kd_nO_at, kd_nA_at, ln_nA_at]
  have hkc : kc (hCorA h (nI (nC h x)) a b c d) 0 = kc h 0 := rfl
  have hnx : x + 82 ≤ nx h := H.xw.2.2.1
  show XW (hCorA h (nI (nC h x)) a b c d) x ∧ (∃ k110 n111 k112 n113 : Nat, k110 + k112 ≤ k - 2 ∧ n111 + n113 ≤ n - 14 ∧ CtI M_J2_add [rV (x + 2), rV (nx h)] (hCorA h (nI (nC h x)) a b c d) k110 n111 (fun x114 h109 => XW h109 x ∧ CtI M_X3_corner [rV (x + 23), iV a, iV b, iV c, iV d] h109 0 0 (fun r2 h2 => gI h109 1102 (x + 2) - 1 = r2 ∧ R h2) E) E)
  generalize hCorA h (nI (nC h x)) a b c d = hA at A hkd hflds hq110 hq1101 hq1102 hkc ⊢
  have h75 := H.pw.2.2.2.1
  have iA : ALinj hA := ALinj_new A H.pw.2.2.1 h75 (q := nx h + 1) (fun y hy => by
    rw [hkd] at hy
    by_cases z : y = nx h + 1
    · exact Or.inr z
    · rw [if_neg z] at hy
      by_cases w : y = nx h
      · rw [if_pos w] at hy; exact absurd hy (by decide)
      · rw [if_neg w] at hy; exact Or.inl hy) (wf.2 _ (by omega)) (Or.inl hq1101)
  have HA : CP hA x := CP_ag A iA H
  have eA : nC hA x = nC h x := (A.to2 h75).qC (mw_k H.mw)
  have krA : kd hA (nx h) = 2 := by rw [hkd, if_neg (by omega), if_pos rfl]
  have kqA : kd hA (nx h + 1) = 12 := by rw [hkd, if_pos rfl]
  refine ⟨HA.xw, k - 2, n - 14, 0, 0, by omega, by omega, ?_⟩
  refine r_wfH fun wfA => ?_
  refine ct_add (c0 := 1) HA.pl.1 HA.pw.2.2.2.1 HA.pw.2.2.2.2 (ok_c (c0 := 1) rfl q1920 krA) (fun i hi => (HA.pc i hi).1.1) rfl q1920 (by omega) (by omega) (by omega) (fun h' D => ?_)
  obtain ⟨A2, i2⟩ := D.ag2 (x := x) HA.pl.1 wfA HA.pw.2.2.1
  have HV := CP_ag2 A2 i2 HA
  obtain ⟨⟨d1, d2, d3⟩, d4, d5, d6, d7, ⟨e1, e2, e3, e4, e5⟩, d8, d9, d10⟩ := D
  rw [eA] at HV A2 e1 e4 d8 d9
  have xw' : XW h' x := HV.xw
  have mw' : MW h' (x + 23) := HV.mw
  refine ⟨xw', ?_⟩
  have gC : gI h' 1001 (x + 23) = nI (nC h x) := by rw [d4 _ _ (fun z => by omega), A.gi (mw_k H.mw) (by decide) (by decide)]; exact hn0.1
  have eix : ix (nI (nC h x)) = nC h x := ix_nI (by omega)
  have vC : vp_in (nI (nC h x)) 12 := vin_nI (by omega) (by decide)
  refine b_X3_corner_0 mw' ⟨fun z => absurd z c1f, fun _ => ⟨fun z => absurd z c2f, fun _ => ⟨fun z => absurd z c3f, fun _ => ⟨fun z => absurd z c4f, fun _ => ?_⟩⟩⟩⟩
  rw [gC, t12, eix]
  refine ⟨fun _ => ⟨vC, ?_⟩, fun z => absurd z c5⟩
  rintro _ rfl
  rw [gI_sI, gC, eix]
  refine ⟨vC, ?_⟩
  rintro _ rfl
  rw [gI_sI, gI_sI, gC, eix]
  refine ⟨vC, ?_⟩
  rintro _ rfl
  rw [gI_sI, gI_sI, gI_sI, gC, eix]
  refine ⟨vC, ?_⟩
  rintro _ rfl
  rw [gI_sI, gI_sI, gI_sI, gI_sI, gC, eix]
  refine ⟨vC, ?_⟩
  rintro _ rfl
  rw [gI_sI, gI_sI, gI_sI, gI_sI, gI_sI, gC]
  rintro _ rfl
  rw [gI_pI, if_pos ⟨rfl, rfl⟩, e1, nI_add1]
  refine ⟨rfl, hR _ ?_⟩
  have eF := pI_back (h := h') (f := 1102) (a := x + 2) (u := nI (nC h x)) e1
  have eV : nC (pI h' 1102 (x + 2) (nI (nC h x))) x = nC h x := by
    have := A2.qC (mw_k HA.mw)
    rw [this, eA]
  have gin : ∀ f, gI (pI h' 1102 (x + 2) (nI (nC h x))) f (nx h) = gI hA f (nx h) := fun f => by
    rw [gI_pI, if_neg (fun z => by omega), d4 _ _ (fun z => by omega)]
  have grn : ∀ f, gR (pI h' 1102 (x + 2) (nI (nC h x))) f (nx h) = gR hA f (nx h) := fun f => by
    rw [gR_pI, d6 _ _ (fun z => by omega)]
  have K := cp_corner HV (m := nC h x) eV hm (va := a) (vp := b) (vk := c) (vc := d) (isin_bd c1) (isin_bd c2) (isin_bd c3) (isin_bd c4) e4 e3 (r := nx h) (q := nx h + 1) d9 (by rw [kd_pI, (d3 _ (by rw [krA]; decide)).1]; exact krA)
    (by simp only [gin, grn]; exact hflds) (by rw [grn]; exact hq110) (by rw [kd_pI, (d3 _ (by rw [kqA]; decide)).1]; exact kqA) (by rw [gI_pI, if_neg (fun z => by omega), d4 _ _ (fun z => by omega)]; exact hq1102) (by rw [gR_pI, kc_pI, d6 _ _ (fun z => by omega), d1]; exact hq1101) (by omega)
    (fun i hi => by
      have hiA : i < nC hA x := by rw [eA]; exact hi
      rw [(A2.lst (by rw [← eA]; exact HA.pl.1)).2 i hi, A2.gr (HA.pc i hiA).1.1 (by decide) (by decide), (A.alk h75 H.pl.1).2, A.gr (H.pc i hi).1.1 (by decide) (by decide)]
      have := (wf.lt (H.pq i hi).2.1.1 (by decide)).2
      omega)
    (fun r hr => by
      have hrA : r < nU hA x := by rw [A2.qU (mw_k HA.mw)] at hr; exact hr
      have hrh : r < nU h x := by rw [(A.to2 h75).qU (mw_k H.mw)] at hrA; exact hrA
      rw [(A2.lst HA.pl.2.2.1).2 r hrA, A2.gr (HA.pu.2 r hrA).1.1 (by decide) (by decide), (A.alk h75 H.pl.2.2.1).2, A.gr (H.pu.2 r hrh).1.1 (by decide) (by decide)]
      have := (wf.lt (H.pu.2 r hrh).2.1.1.1 (by decide)).2
      omega)
  unfold hCor at K
  rw [eF] at K
  exact K
end
