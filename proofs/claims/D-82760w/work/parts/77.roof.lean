/-! pairs: roof -/
set_option maxRecDepth 100000
section
variable {h : Hp} {x : Nat} {E : Nat → Hp → Prop} {k n : Nat} {R : Hp → Prop}
theorem AddR.pI1 {h' : Hp} {a b m c : Nat} {v : Int32} (D : AddR h h' a b m) (hc : c ≠ a) : AddR (pI h 1102 c v) (pI h' 1102 c v) a b m := by
  obtain ⟨d1, d4, d5, d6, d7, ⟨e1, e2⟩, d8⟩ := D
  refine ⟨d1, fun f y hn => ?_, d5, d6, d7, ⟨?_, e2⟩, d8⟩
  · rw [gI_pI, gI_pI]
    by_cases z : f = 1102 ∧ y = c
    · rw [if_pos z, if_pos z]
    · rw [if_neg z, if_neg z]; exact d4 f y hn
  · rw [gI_pI, if_neg (fun z => hc z.2.symm)]; exact e1
theorem rfs_succ {ra ra' : Nat → Int32} {m i i0 : Nat} (e : ∀ j, j < m → ra' j = ra j) (em : ra' m = nI i0) (hi : i < 2 ^ 31) (hi0 : i0 < 2 ^ 31) : rfs ra' (m + 1) i = if i = i0 then rfs ra m i ++ [m] else rfs ra m i := by
  unfold rfs
  rw [List.range_succ, List.filter_append]
  have e1 : (List.range m).filter (fun j => decide (ra' j = nI i)) = (List.range m).filter (fun j => decide (ra j = nI i)) := by
    apply List.filter_congr
    intro j hj
    rw [e j (List.mem_range.mp hj)]
  rw [e1]
  by_cases c : i = i0
  · rw [if_pos c, List.filter_cons_of_pos (by rw [em, c]; simp), List.filter_nil]
  · rw [if_neg c, List.filter_cons_of_neg (by rw [em]; simp; exact fun z => c (nI_inj hi0 hi z).symm), List.filter_nil, List.append_nil]
def hRof (h : Hp) (x m q L : Nat) (vi vo va vb : Int32) : Hp := pI (sI (sI (sI (sI (pI (pI h 1102 q (nI (L + 1))) 1102 (x + 3) (nI (m + 1))) (x + 23 + 19) m vi) (x + 23 + 20) m vo) (x + 23 + 21) m va) (x + 23 + 22) m vb) 1002 (x + 23) (nI (m + 1))
theorem cp_roof (H : CP h x) {m i0 L : Nat} (em : nR h x = m) (hm : m < 30) (hi0 : i0 < nC h x) {vo va vb : Int32} (bo : bd vo 0 19) (ba : bd va 1 50) (bb : bd vb 0 200) (hl : m + 1 ≤ ln h (gR h 1101 (x + 3))) (h65 : kd h (gR h 1101 (x + 3)) = 65) {r q : Nat} (hq : gR h 110 (el h (x + 2) i0) = q) (hL : (rfs (eI h (x + 23 + 19)) m i0).length = L) (hl2 : L + 1 ≤ ln h (gR h 1101 q)) (h65q : kd h (gR h 1101 q) = 65) (hr : el h (x + 3) m = r) (hrq : el h q L = r) (kr : kd h r = 3)
    (f : gI h 200 r = nI m ∧ gR h 204 r = el h (x + 2) i0 ∧ gI h 201 r = vo ∧ gI h 202 r = va ∧ gI h 203 r = vb ∧ gI h 205 r = 0 ∧ gI h 206 r = 0) : CP (hRof h x m q L (nI i0) vo va vb) x := by
  have hn := H.nR_le.1
  rw [em] at hn
  have hnC := H.nC_le
  have qx : x + 82 ≤ q := by rw [← hq]; exact (H.pq i0 hi0).1
  unfold hRof
  generalize hF : pI (sI (sI (sI (sI (pI (pI h 1102 q (nI (L + 1))) 1102 (x + 3) (nI (m + 1))) (x + 23 + 19) m (nI i0)) (x + 23 + 20) m vo) (x + 23 + 21) m va) (x + 23 + 22) m vb) 1002 (x + 23) (nI (m + 1)) = F
  have ek : kd F = kd h := by rw [← hF]; rfl
  have el' : ln F = ln h := by rw [← hF]; rfl
  have er : gR F = gR h := by rw [← hF]; rfl
  have ee : el F = el h := by rw [← hF]; rfl
  have ekc : kc F = kc h := by rw [← hF]; rfl
  have ej : eJ F = eJ h := by rw [← hF]; rfl
  have gi : ∀ f a, f ≠ 1102 → f ≠ 1002 → gI F f a = gI h f a := fun f a h1 h2 => by rw [← hF]; simp [nx_pI, kd_pI, ln_pI, gI_pI, gJ_pI, gR_pI, eI_pI, eJ_pI, eR_pI, kc_pI, nx_pJ, kd_pJ, ln_pJ, gI_pJ, gJ_pJ, gR_pJ, eI_pJ, eJ_pJ, eR_pJ, kc_pJ, nx_pR, kd_pR, ln_pR, gI_pR, gJ_pR, gR_pR, eI_pR, eJ_pR, eR_pR, kc_pR, nx_sI, kd_sI, ln_sI, gI_sI, gJ_sI, gR_sI, eI_sI, eJ_sI, eR_sI, kc_sI, nx_sJ, kd_sJ, ln_sJ, gI_sJ, gJ_sJ, gR_sJ, eI_sJ, eJ_sJ, eR_sJ, kc_sJ, nx_sR, kd_sR, ln_sR, gI_sR, gJ_sR, gR_sR, eI_sR, eJ_sR, eR_sR, kc_sR, ln_nO, eI_nO, eJ_nO, eR_nO, kc_nO, gI_nO, gI_nA, gJ_nO, gJ_nA, gR_nO, gR_nA, eI_nA, eJ_nA, eR_nA, kc_nA, nx_nO, nx_nA, kd_nO_at, kd_nA_at, ln_nA_at, h1, h2]
  have g2 : ∀ a, a ≠ x + 3 → a ≠ q → gI F 1102 a = gI h 1102 a := fun a h1 h2 => by rw [← hF]; simp [nx_pI, kd_pI, ln_pI, gI_pI, gJ_pI, gR_pI, eI_pI, eJ_pI, eR_pI, kc_pI, nx_pJ, kd_pJ, ln_pJ, gI_pJ, gJ_pJ, gR_pJ, eI_pJ, eJ_pJ, eR_pJ, kc_pJ, nx_pR, kd_pR, ln_pR, gI_pR, gJ_pR, gR_pR, eI_pR, eJ_pR, eR_pR, kc_pR, nx_sI, kd_sI, ln_sI, gI_sI, gJ_sI, gR_sI, eI_sI, eJ_sI, eR_sI, kc_sI, nx_sJ, kd_sJ, ln_sJ, gI_sJ, gJ_sJ, gR_sJ, eI_sJ, eJ_sJ, eR_sJ, kc_sJ, nx_sR, kd_sR, ln_sR, gI_sR, gJ_sR, gR_sR, eI_sR, eJ_sR, eR_sR, kc_sR, ln_nO, eI_nO, eJ_nO, eR_nO, kc_nO, gI_nO, gI_nA, gJ_nO, gJ_nA, gR_nO, gR_nA, eI_nA, eJ_nA, eR_nA, kc_nA, nx_nO, nx_nA, kd_nO_at, kd_nA_at, ln_nA_at, h1, h2]
  have g2' : gI F 1102 (x + 3) = nI (m + 1) := by rw [← hF]; simp [nx_pI, kd_pI, ln_pI, gI_pI, gJ_pI, gR_pI, eI_pI, eJ_pI, eR_pI, kc_pI, nx_pJ, kd_pJ, ln_pJ, gI_pJ, gJ_pJ, gR_pJ, eI_pJ, eJ_pJ, eR_pJ, kc_pJ, nx_pR, kd_pR, ln_pR, gI_pR, gJ_pR, gR_pR, eI_pR, eJ_pR, eR_pR, kc_pR, nx_sI, kd_sI, ln_sI, gI_sI, gJ_sI, gR_sI, eI_sI, eJ_sI, eR_sI, kc_sI, nx_sJ, kd_sJ, ln_sJ, gI_sJ, gJ_sJ, gR_sJ, eI_sJ, eJ_sJ, eR_sJ, kc_sJ, nx_sR, kd_sR, ln_sR, gI_sR, gJ_sR, gR_sR, eI_sR, eJ_sR, eR_sR, kc_sR, ln_nO, eI_nO, eJ_nO, eR_nO, kc_nO, gI_nO, gI_nA, gJ_nO, gJ_nA, gR_nO, gR_nA, eI_nA, eJ_nA, eR_nA, kc_nA, nx_nO, nx_nA, kd_nO_at, kd_nA_at, ln_nA_at]
  have hne3 : q ≠ x + 3 := by omega
  have g2q : gI F 1102 q = nI (L + 1) := by rw [← hF]; simp [nx_pI, kd_pI, ln_pI, gI_pI, gJ_pI, gR_pI, eI_pI, eJ_pI, eR_pI, kc_pI, nx_pJ, kd_pJ, ln_pJ, gI_pJ, gJ_pJ, gR_pJ, eI_pJ, eJ_pJ, eR_pJ, kc_pJ, nx_pR, kd_pR, ln_pR, gI_pR, gJ_pR, gR_pR, eI_pR, eJ_pR, eR_pR, kc_pR, nx_sI, kd_sI, ln_sI, gI_sI, gJ_sI, gR_sI, eI_sI, eJ_sI, eR_sI, kc_sI, nx_sJ, kd_sJ, ln_sJ, gI_sJ, gJ_sJ, gR_sJ, eI_sJ, eJ_sJ, eR_sJ, kc_sJ, nx_sR, kd_sR, ln_sR, gI_sR, gJ_sR, gR_sR, eI_sR, eJ_sR, eR_sR, kc_sR, ln_nO, eI_nO, eJ_nO, eR_nO, kc_nO, gI_nO, gI_nA, gJ_nO, gJ_nA, gR_nO, gR_nA, eI_nA, eJ_nA, eR_nA, kc_nA, nx_nO, nx_nA, kd_nO_at, kd_nA_at, ln_nA_at, hne3]
  have gc : gI F 1002 (x + 23) = nI (m + 1) := by rw [← hF]; simp [nx_pI, kd_pI, ln_pI, gI_pI, gJ_pI, gR_pI, eI_pI, eJ_pI, eR_pI, kc_pI, nx_pJ, kd_pJ, ln_pJ, gI_pJ, gJ_pJ, gR_pJ, eI_pJ, eJ_pJ, eR_pJ, kc_pJ, nx_pR, kd_pR, ln_pR, gI_pR, gJ_pR, gR_pR, eI_pR, eJ_pR, eR_pR, kc_pR, nx_sI, kd_sI, ln_sI, gI_sI, gJ_sI, gR_sI, eI_sI, eJ_sI, eR_sI, kc_sI, nx_sJ, kd_sJ, ln_sJ, gI_sJ, gJ_sJ, gR_sJ, eI_sJ, eJ_sJ, eR_sJ, kc_sJ, nx_sR, kd_sR, ln_sR, gI_sR, gJ_sR, gR_sR, eI_sR, eJ_sR, eR_sR, kc_sR, ln_nO, eI_nO, eJ_nO, eR_nO, kc_nO, gI_nO, gI_nA, gJ_nO, gJ_nA, gR_nO, gR_nA, eI_nA, eJ_nA, eR_nA, kc_nA, nx_nO, nx_nA, kd_nO_at, kd_nA_at, ln_nA_at]
  have eR' : nR F x = m + 1 := by unfold nR; rw [gc, ix_nI (by omega)]
  have eC : nC F x = nC h x := by unfold nC; rw [gi _ _ (by decide) (by decide)]
  have eU' : nU F x = nU h x := by unfold nU; rw [gi _ _ (by decide) (by decide)]
  have eP' : nP F x = nP h x := by unfold nP; rw [gi _ _ (by decide) (by decide)]
  have eS' : nS F x = nS h x := by unfold nS; rw [gi _ _ (by decide) (by decide)]
  have ei : ∀ o, 22 < o → eI F (x + 23 + o) = eI h (x + 23 + o) := fun o ho => by
    funext j
    rw [← hF]
    simp only [eI_pI, eI_sI]
    rw [if_neg (by omega), if_neg (by omega), if_neg (by omega), if_neg (by omega)]
  have eo : ∀ o j, j ≠ m → eI F (x + 23 + o) j = eI h (x + 23 + o) j := fun o j hj => by rw [← hF]; simp [nx_pI, kd_pI, ln_pI, gI_pI, gJ_pI, gR_pI, eI_pI, eJ_pI, eR_pI, kc_pI, nx_pJ, kd_pJ, ln_pJ, gI_pJ, gJ_pJ, gR_pJ, eI_pJ, eJ_pJ, eR_pJ, kc_pJ, nx_pR, kd_pR, ln_pR, gI_pR, gJ_pR, gR_pR, eI_pR, eJ_pR, eR_pR, kc_pR, nx_sI, kd_sI, ln_sI, gI_sI, gJ_sI, gR_sI, eI_sI, eJ_sI, eR_sI, kc_sI, nx_sJ, kd_sJ, ln_sJ, gI_sJ, gJ_sJ, gR_sJ, eI_sJ, eJ_sJ, eR_sJ, kc_sJ, nx_sR, kd_sR, ln_sR, gI_sR, gJ_sR, gR_sR, eI_sR, eJ_sR, eR_sR, kc_sR, ln_nO, eI_nO, eJ_nO, eR_nO, kc_nO, gI_nO, gI_nA, gJ_nO, gJ_nA, gR_nO, gR_nA, eI_nA, eJ_nA, eR_nA, kc_nA, nx_nO, nx_nA, kd_nO_at, kd_nA_at, ln_nA_at, hj]
  have m1 : eI F (x + 23 + 19) m = nI i0 := by rw [← hF]; simp [nx_pI, kd_pI, ln_pI, gI_pI, gJ_pI, gR_pI, eI_pI, eJ_pI, eR_pI, kc_pI, nx_pJ, kd_pJ, ln_pJ, gI_pJ, gJ_pJ, gR_pJ, eI_pJ, eJ_pJ, eR_pJ, kc_pJ, nx_pR, kd_pR, ln_pR, gI_pR, gJ_pR, gR_pR, eI_pR, eJ_pR, eR_pR, kc_pR, nx_sI, kd_sI, ln_sI, gI_sI, gJ_sI, gR_sI, eI_sI, eJ_sI, eR_sI, kc_sI, nx_sJ, kd_sJ, ln_sJ, gI_sJ, gJ_sJ, gR_sJ, eI_sJ, eJ_sJ, eR_sJ, kc_sJ, nx_sR, kd_sR, ln_sR, gI_sR, gJ_sR, gR_sR, eI_sR, eJ_sR, eR_sR, kc_sR, ln_nO, eI_nO, eJ_nO, eR_nO, kc_nO, gI_nO, gI_nA, gJ_nO, gJ_nA, gR_nO, gR_nA, eI_nA, eJ_nA, eR_nA, kc_nA, nx_nO, nx_nA, kd_nO_at, kd_nA_at, ln_nA_at]
  have m2 : eI F (x + 23 + 20) m = vo := by rw [← hF]; simp [nx_pI, kd_pI, ln_pI, gI_pI, gJ_pI, gR_pI, eI_pI, eJ_pI, eR_pI, kc_pI, nx_pJ, kd_pJ, ln_pJ, gI_pJ, gJ_pJ, gR_pJ, eI_pJ, eJ_pJ, eR_pJ, kc_pJ, nx_pR, kd_pR, ln_pR, gI_pR, gJ_pR, gR_pR, eI_pR, eJ_pR, eR_pR, kc_pR, nx_sI, kd_sI, ln_sI, gI_sI, gJ_sI, gR_sI, eI_sI, eJ_sI, eR_sI, kc_sI, nx_sJ, kd_sJ, ln_sJ, gI_sJ, gJ_sJ, gR_sJ, eI_sJ, eJ_sJ, eR_sJ, kc_sJ, nx_sR, kd_sR, ln_sR, gI_sR, gJ_sR, gR_sR, eI_sR, eJ_sR, eR_sR, kc_sR, ln_nO, eI_nO, eJ_nO, eR_nO, kc_nO, gI_nO, gI_nA, gJ_nO, gJ_nA, gR_nO, gR_nA, eI_nA, eJ_nA, eR_nA, kc_nA, nx_nO, nx_nA, kd_nO_at, kd_nA_at, ln_nA_at]
  have m3 : eI F (x + 23 + 21) m = va := by rw [← hF]; simp [nx_pI, kd_pI, ln_pI, gI_pI, gJ_pI, gR_pI, eI_pI, eJ_pI, eR_pI, kc_pI, nx_pJ, kd_pJ, ln_pJ, gI_pJ, gJ_pJ, gR_pJ, eI_pJ, eJ_pJ, eR_pJ, kc_pJ, nx_pR, kd_pR, ln_pR, gI_pR, gJ_pR, gR_pR, eI_pR, eJ_pR, eR_pR, kc_pR, nx_sI, kd_sI, ln_sI, gI_sI, gJ_sI, gR_sI, eI_sI, eJ_sI, eR_sI, kc_sI, nx_sJ, kd_sJ, ln_sJ, gI_sJ, gJ_sJ, gR_sJ, eI_sJ, eJ_sJ, eR_sJ, kc_sJ, nx_sR, kd_sR, ln_sR, gI_sR, gJ_sR, gR_sR, eI_sR, eJ_sR, eR_sR, kc_sR, ln_nO, eI_nO, eJ_nO, eR_nO, kc_nO, gI_nO, gI_nA, gJ_nO, gJ_nA, gR_nO, gR_nA, eI_nA, eJ_nA, eR_nA, kc_nA, nx_nO, nx_nA, kd_nO_at, kd_nA_at, ln_nA_at]
  have m4 : eI F (x + 23 + 22) m = vb := by rw [← hF]; simp [nx_pI, kd_pI, ln_pI, gI_pI, gJ_pI, gR_pI, eI_pI, eJ_pI, eR_pI, kc_pI, nx_pJ, kd_pJ, ln_pJ, gI_pJ, gJ_pJ, gR_pJ, eI_pJ, eJ_pJ, eR_pJ, kc_pJ, nx_pR, kd_pR, ln_pR, gI_pR, gJ_pR, gR_pR, eI_pR, eJ_pR, eR_pR, kc_pR, nx_sI, kd_sI, ln_sI, gI_sI, gJ_sI, gR_sI, eI_sI, eJ_sI, eR_sI, kc_sI, nx_sJ, kd_sJ, ln_sJ, gI_sJ, gJ_sJ, gR_sJ, eI_sJ, eJ_sJ, eR_sJ, kc_sJ, nx_sR, kd_sR, ln_sR, gI_sR, gJ_sR, gR_sR, eI_sR, eJ_sR, eR_sR, kc_sR, ln_nO, eI_nO, eJ_nO, eR_nO, kc_nO, gI_nO, gI_nA, gJ_nO, gJ_nA, gR_nO, gR_nA, eI_nA, eJ_nA, eR_nA, kc_nA, nx_nO, nx_nA, kd_nO_at, kd_nA_at, ln_nA_at]
  have alk : ∀ a q', a ≠ x + 3 → a ≠ q → ALk h a q' → ALk F a q' := fun a q' hne hne2 A => by
    obtain ⟨b1, b2, b3, b4, b5⟩ := A
    refine ⟨by rw [ek]; exact b1, (g2 a hne hne2).trans b2, by rw [el', er]; exact b3, by rw [ek, er, ekc]; exact b4, by rw [el', er]; exact b5⟩
  have H0 := H
  obtain ⟨Kw, Kn, Ko, Kl, Kc, Kv, Kb, Kx, Kr, Kq, Ks, Kp, Ka, Ku⟩ := H
  refine ⟨?_, ?_, ?_, ?_, ?_, ?_, ?_, ?_, ?_, ?_, ?_, ?_, ?_, ?_⟩
  · rw [← hF]; exact Kw
  · rw [← hF]; with_reducible (repeat (first | assumption | refine CPn_pI (by decide) ?_ | refine CPn_pJ (by decide) ?_ | refine CPn_pR ?_ | refine CPn_sJ ?_ | refine CPn_sM ?_))
  · obtain ⟨n1, n2, n3, n4, n5, n6, n7, n8⟩ := Ko
    refine ⟨by rw [gi _ _ (by decide) (by decide)]; exact n1, by rw [gi _ _ (by decide) (by decide)]; exact n2, ?_, by rw [gi _ _ (by decide) (by decide)]; exact n4, by rw [gi _ _ (by decide) (by decide)]; exact n5, by rw [gi _ _ (by decide) (by decide)]; exact n6, by rw [gi _ _ (by decide) (by decide)]; exact n7, by rw [gi _ _ (by decide) (by decide)]; exact n8⟩
    rw [gc]; unfold bd; rw [nI_toInt (by omega)]; omega
  · obtain ⟨l1, l2, l3, l4, l5⟩ := Kl
    unfold CPl
    rw [eC, eR', eU', eS', eP']
    refine ⟨alk _ _ (by omega) (by omega) l1, ⟨by rw [ek]; exact l2.1, g2', by rw [el', er]; exact hl, Or.inl (by rw [ek, er]; exact h65), by rw [el', er]; exact l2.2.2.2.2⟩, alk _ _ (by omega) (by omega) l3, alk _ _ (by omega) (by omega) l4, alk _ _ (by omega) (by omega) l5⟩
  · rw [← hF]; with_reducible (repeat (first | assumption | refine CPc_pI (by decide) ?_ | refine CPc_pJ ?_ | refine CPc_pR (by decide) ?_ | refine CPc_sJ (by decide) ?_ | refine CPc_sM (by decide) ?_ | refine CPc_sX (by decide) ?_))
  · rw [← hF]; with_reducible (repeat (first | assumption | refine CPv_pI (by decide) ?_ | refine CPv_pJ ?_ | refine CPv_pR ?_ | refine CPv_sJ ?_ | refine CPv_sM (by decide) ?_ | refine CPv_sX (by decide) ?_))
  · rw [← hF]; with_reducible (repeat (first | assumption | refine CPb_pI (by decide) ?_ | refine CPb_pJ ?_ | refine CPb_pR (by decide) ?_ | refine CPb_sJ ?_ | refine CPb_sM (by decide) ?_ | refine CPb_sX (by decide) ?_))
  · rw [← hF]; with_reducible (repeat (first | assumption | refine CPx_pI (by decide) ?_ | refine CPx_pJ ?_ | refine CPx_pR ?_ | refine CPx_sJ ?_ | refine CPx_sM (by decide) ?_ | refine CPx_sX (by decide) ?_))
  · intro i hi
    rw [eR'] at hi
    rw [ee]
    by_cases c : i = m
    · subst c
      rw [hr]
      obtain ⟨f0, f1, f2, f3, f4, f5, f6⟩ := f
      have t0 := Ka.2.2.2.2.2.2 i (by show nR h x ≤ i; omega) hm
      unfold CPr1 CPr2
      rw [m1, m2, m3, m4, ix_nI (show i0 < 2 ^ 31 by omega), ek, er, ee, eC, gi 200 _ (by decide) (by decide), gi 201 _ (by decide) (by decide), gi 202 _ (by decide) (by decide), gi 203 _ (by decide) (by decide), gi 205 _ (by decide) (by decide), gi 206 _ (by decide) (by decide), ei 23 (by decide), ei 24 (by decide), t0.1, t0.2]
      refine ⟨⟨kr, f0, f1, f2, f3, f4, f5, f6⟩, ⟨?_, hi0⟩, bo, ba, bb, ⟨by decide, by decide⟩, by decide, by decide⟩
      unfold bd
      rw [nI_toInt (by omega)]
      omega
    · obtain ⟨r1, r2⟩ := Kr i (by omega)
      unfold CPr1 at r1 ⊢
      unfold CPr2 at r2 ⊢
      simp only [ek, er, ee, eC, gi 200 _ (by decide) (by decide), gi 201 _ (by decide) (by decide), gi 202 _ (by decide) (by decide), gi 203 _ (by decide) (by decide), gi 205 _ (by decide) (by decide), gi 206 _ (by decide) (by decide), eo _ i c]
      exact ⟨r1, r2⟩
  · intro i hi
    rw [eC] at hi
    have hrf := rfs_succ (ra := eI h (x + 23 + 19)) (ra' := eI F (x + 23 + 19)) (m := m) (i := i) (i0 := i0) (fun j hj => eo 19 j (by omega)) m1 (by omega) (by omega)
    simp only [ee, er, eC, eR', eU']
    rw [hrf]
    obtain ⟨q1, q2, q3, q4, q5⟩ := Kq i hi
    rw [em] at q2 q3
    by_cases c : i = i0
    · subst c
      rw [if_pos rfl]
      rw [hq] at q1 q2 q3 q4 q5 ⊢
      have hlen : (rfs (eI h (x + 23 + 19)) m i ++ [m]).length = L + 1 := by rw [List.length_append, hL]; rfl
      rw [hlen]
      refine ⟨q1, ⟨by rw [ek]; exact q2.1, g2q, by rw [el', er]; exact hl2, Or.inl (by rw [ek, er]; exact h65q), by rw [el', er]; exact q2.2.2.2.2⟩, fun j hj => ?_, q4, q5⟩
      by_cases d : j = L
      · subst d
        rw [hrq]
        have : (rfs (eI h (x + 23 + 19)) m i ++ [m]).getD j 0 = m := by rw [← hL]; simp [List.getD_eq_getElem?_getD]
        rw [this, hr]
      · have hj2 : j < (rfs (eI h (x + 23 + 19)) m i).length := by omega
        rw [q3 j hj2]
        congr 1
        rw [List.getD_eq_getElem?_getD, List.getD_eq_getElem?_getD, List.getElem?_append_left hj2]
    · rw [if_neg c]
      exact ⟨q1, alk _ _ (by omega) (by rw [← hq]; exact q4 i0 hi0 c) q2, q3, q4, q5⟩
  · rw [← hF]; with_reducible (repeat (first | assumption | refine CPs_pI (by decide) ?_ | refine CPs_pJ (by decide) ?_ | refine CPs_pR (by decide) ?_ | refine CPs_sJ (by decide) ?_ | refine CPs_sM (by decide) ?_ | refine CPs_sX (by decide) ?_))
  · rw [← hF]; with_reducible (repeat (first | assumption | refine CPp_pI (by decide) ?_ | refine CPp_pJ ?_ | refine CPp_pR (by decide) ?_ | refine CPp_sJ ?_ | refine CPp_sM (by decide) ?_ | refine CPp_sX (by decide) ?_))
  · obtain ⟨a1, a2, a3, a4, a5, a6, a7⟩ := Ka
    have e1 : ∀ o, o < 23 → eI F (x + o) = eI h (x + o) := fun o ho => by
      funext j
      rw [← hF]
      simp only [eI_pI, eI_sI]
      rw [if_neg (by omega), if_neg (by omega), if_neg (by omega), if_neg (by omega)]
    unfold CPa
    simp only [e1 1 (by decide), e1 9 (by decide), e1 10 (by decide), e1 11 (by decide), e1 12 (by decide), ei 23 (by decide), ei 24 (by decide), ei 25 (by decide), ei 26 (by decide), ei 27 (by decide), ei 28 (by decide), ei 43 (by decide), ei 57 (by decide), ej, gi 1000 _ (by decide) (by decide), gi 1001 _ (by decide) (by decide)]
    refine ⟨a1, a2, a3, a4, a5, a6, fun i hi hi2 => a7 i ?_ hi2⟩
    rw [gc, ix_nI (by omega)] at hi
    show nR h x ≤ i
    omega
  · rw [← hF]
    have u1 := CPu_1102 (h := h) (x := x) (a := q) (v := nI (L + 1)) (by omega) (fun r hr => by rw [← hq]; exact (Kq i0 hi0).2.2.2.2 r hr) Ku
    have u2 := CPu_1102 (h := pI h 1102 q (nI (L + 1))) (x := x) (a := x + 3) (v := nI (m + 1)) (by omega) (fun r hr e => by
      have e : gR h 401 (el h (x + 4) r) = x + 3 := e
      have hr : r < nU h x := by unfold nU at hr ⊢; simp [nx_pI, kd_pI, ln_pI, gI_pI, gJ_pI, gR_pI, eI_pI, eJ_pI, eR_pI, kc_pI, nx_pJ, kd_pJ, ln_pJ, gI_pJ, gJ_pJ, gR_pJ, eI_pJ, eJ_pJ, eR_pJ, kc_pJ, nx_pR, kd_pR, ln_pR, gI_pR, gJ_pR, gR_pR, eI_pR, eJ_pR, eR_pR, kc_pR, nx_sI, kd_sI, ln_sI, gI_sI, gJ_sI, gR_sI, eI_sI, eJ_sI, eR_sI, kc_sI, nx_sJ, kd_sJ, ln_sJ, gI_sJ, gJ_sJ, gR_sJ, eI_sJ, eJ_sJ, eR_sJ, kc_sJ, nx_sR, kd_sR, ln_sR, gI_sR, gJ_sR, gR_sR, eI_sR, eJ_sR, eR_sR, kc_sR, ln_nO, eI_nO, eJ_nO, eR_nO, kc_nO, gI_nO, gI_nA, gJ_nO, gJ_nA, gR_nO, gR_nA, eI_nA, eJ_nA, eR_nA, kc_nA, nx_nO, nx_nA, kd_nO_at, kd_nA_at, ln_nA_at] at hr; exact hr
      have := (Ku.2 r hr).2.2.2.2.2.2.2; omega) u1
    with_reducible (repeat (first | assumption | refine CPu_pI (by decide) ?_ | refine CPu_pJ ?_ | refine CPu_pR (by decide) ?_ | refine CPu_sJ ?_ | refine CPu_sM (by decide) (by decide) ?_ | refine CPu_sX (by decide) (by decide) (by decide) ?_))
def hRofA (h : Hp) (v o a b : Int32) (c : Nat) : Hp := pI (pI (pI (pR (pI (nO h 2) 200 (nx h) v) 204 (nx h) c) 201 (nx h) o) 202 (nx h) a) 203 (nx h) b
theorem rofA_ag (wf : wfH h) {v o a b : Int32} {c : Nat} : Ag h (hRofA h v o a b c) x := by
  have z1 : kd h (nx h) = 0 := wf.2 _ (Nat.le_refl _)
  exact ((((((Ag.refl h x).wnO wf).wpI z1).wpR z1).wpI z1).wpI z1).wpI z1
theorem rofA_kd {v o a b : Int32} {c : Nat} (y : Nat) : kd (hRofA h v o a b c) y = if y = nx h then 3 else kd h y := by
  unfold hRofA
  simp only [kd_pI, kd_pR, kd_nO_at]
theorem pr_roof (H : CP h x) {a b c d : Int32} (hk : 5 ≤ k) (hn : 600 ≤ n) (hR : ∀ h', CP h' x → R h') : CtI M_X0_roof [rV x, iV a, iV b, iV c, iV d] h k n (fun r h1 => CtI M_X3_roof [rV (x + 23), iV a, iV b, iV c, iV d] h1 0 0 (fun r2 h2 => r = r2 ∧ R h2) E) E := by
  refine r_wfH fun wf => ?_
  have g := hR _ H
  have hn0 := H.nR_le
  have hC0 := H.nC_le
  have h75 := H.pw.2.2.2.1
  obtain ⟨pa, ⟨z1, z2⟩ | ⟨i, hi, rfl, z0, z1, z2, z3, z4, z5⟩⟩ := H.cor wf a
  · refine b_X0_roof_0 H.xw ⟨pa, ?_⟩
    rintro _ rfl
    exact ⟨fun _ => b_X3_roof_0 H.mw ⟨fun _ => ⟨rfl, g⟩, fun y => absurd (z1.symm.trans y) (by decide)⟩, fun y => absurd z2 y⟩
  have z1f : ¬ isin (nI i) 0 (gI h 1001 (x + 23) - 1) = false := by rw [z1]; decide
  refine b_X0_roof_0 H.xw ⟨pa, ?_⟩
  rw [z2]
  rintro _ rfl
  refine ⟨fun y => absurd y z4, fun _ => ?_⟩
  by_cases c2 : isin b 0 19 = true
  rotate_left
  · have y : isin b 0 19 = false := by simpa using c2
    exact ⟨fun _ => b_X3_roof_0 H.mw ⟨fun z => absurd z z1f, fun _ => ⟨fun _ => ⟨rfl, g⟩, fun z => absurd z c2⟩⟩, fun z => absurd z c2⟩
  have c2f : ¬ isin b 0 19 = false := by rw [c2]; decide
  refine ⟨fun z => absurd z c2f, fun _ => ?_⟩
  by_cases c3 : isin c 1 50 = true
  rotate_left
  · have y : isin c 1 50 = false := by simpa using c3
    exact ⟨fun _ => b_X3_roof_0 H.mw ⟨fun z => absurd z z1f, fun _ => ⟨fun z => absurd z c2f, fun _ => ⟨fun _ => ⟨rfl, g⟩, fun z => absurd z c3⟩⟩⟩, fun z => absurd z c3⟩
  have c3f : ¬ isin c 1 50 = false := by rw [c3]; decide
  refine ⟨fun z => absurd z c3f, fun _ => ?_⟩
  by_cases c4 : isin d 0 200 = true
  rotate_left
  · have y : isin d 0 200 = false := by simpa using c4
    exact ⟨fun _ => b_X3_roof_0 H.mw ⟨fun z => absurd z z1f, fun _ => ⟨fun z => absurd z c2f, fun _ => ⟨fun z => absurd z c3f, fun _ => ⟨fun _ => ⟨rfl, g⟩, fun z => absurd z c4⟩⟩⟩⟩, fun z => absurd z c4⟩
  have c4f : ¬ isin d 0 200 = false := by rw [c4]; decide
  refine ⟨fun z => absurd z c4f, fun _ => ?_⟩
  have t30 : (30 : Int32) = nI 30 := by decide
  rw [H.size3, hn0.1, t30]
  refine ⟨fun c5 => ⟨⟨by omega, by omega⟩, ?_⟩, fun c5 => b_X3_roof_0 H.mw ⟨fun z => absurd z z1f, fun _ => ⟨fun z => absurd z c2f, fun _ => ⟨fun z => absurd z c3f, fun _ => ⟨fun z => absurd z c4f, fun _ => ⟨fun z => absurd (by rw [hn0.1, t30]; exact c5) z, fun _ => ⟨rfl, g⟩⟩⟩⟩⟩⟩⟩
  have hm : nR h x < 30 := by
    rcases Nat.lt_or_ge (nR h x) 30 with z | z
    · exact z
    · exact absurd (by congr 1; omega) c5
  have hnx : x + 82 ≤ nx h := H.xw.2.2.1
  rintro _ rfl _ rfl
  rw [gI_nO, if_neg (by omega), H.size3, hn0.1]
  have kn : kd (nO h 2) (nx h) = 3 := kd_nO _ _
  refine b_X5_init_0 ⟨by rw [kn]; decide, kn, ?_⟩
  rintro _ rfl _ rfl _ rfl _ rfl _ rfl
  have A := rofA_ag (h := h) (x := x) wf (v := nI (nR h x)) (o := b) (a := c) (b := d) (c := el h (x + 2) i)
  have hkd := rofA_kd (h := h) (v := nI (nR h x)) (o := b) (a := c) (b := d) (c := el h (x + 2) i)
  have hflds : gI (hRofA h (nI (nR h x)) b c d (el h (x + 2) i)) 200 (nx h) = nI (nR h x) ∧ gR (hRofA h (nI (nR h x)) b c d (el h (x + 2) i)) 204 (nx h) = el h (x + 2) i ∧ gI (hRofA h (nI (nR h x)) b c d (el h (x + 2) i)) 201 (nx h) = b ∧ gI (hRofA h (nI (nR h x)) b c d (el h (x + 2) i)) 202 (nx h) = c ∧ gI (hRofA h (nI (nR h x)) b c d (el h (x + 2) i)) 203 (nx h) = d ∧ gI (hRofA h (nI (nR h x)) b c d (el h (x + 2) i)) 205 (nx h) = 0 ∧ gI (hRofA h (nI (nR h x)) b c d (el h (x + 2) i)) 206 (nx h) = 0 := by
    refine ⟨?_, ?_, ?_, ?_, ?_, ?_, ?_⟩ <;> simp [hRofA, nx_pI, kd_pI, ln_pI, gI_pI, gJ_pI, gR_pI, eI_pI, eJ_pI, eR_pI, kc_pI, nx_pJ, kd_pJ, ln_pJ, gI_pJ, gJ_pJ, gR_pJ, eI_pJ, eJ_pJ, eR_pJ, kc_pJ, nx_pR, kd_pR, ln_pR, gI_pR, gJ_pR, gR_pR, eI_pR, eJ_pR, eR_pR, kc_pR, nx_sI, kd_sI, ln_sI, gI_sI, gJ_sI, gR_sI, eI_sI, eJ_sI, eR_sI, kc_sI, nx_sJ, kd_sJ, ln_sJ, gI_sJ, gJ_sJ, gR_sJ, eI_sJ, eJ_sJ, eR_sJ, kc_sJ, nx_sR, kd_sR, ln_sR, gI_sR, gJ_sR, gR_sR, eI_sR, eJ_sR, eR_sR, kc_sR, ln_nO, eI_nO, eJ_nO, eR_nO, kc_nO, gI_nO, gI_nA, gJ_nO, gJ_nA, gR_nO, gR_nA, eI_nA, eJ_nA, eR_nA, kc_nA, nx_nO, nx_nA, kd_nO_at, kd_nA_at, ln_nA_at]
  show XW (hRofA h (nI (nR h x)) b c d (el h (x + 2) i)) x ∧ (∃ k112 n113 k114 n115 : Nat, k112 + k114 ≤ k - 1 ∧ n113 + n115 ≤ n - 7 ∧ CtI M_J2_add [rV (x + 3), rV (nx h)] (hRofA h (nI (nR h x)) b c d (el h (x + 2) i)) k112 n113 (fun x116 h111 => XW h111 x ∧ (kd h111 (el h (x + 2) i) = 2 ∧ (kd h111 (gR h111 110 (el h (x + 2) i)) = 12 ∧ (∃ k120 n121 k122 n123 : Nat, k120 + k122 ≤ k114 ∧ n121 + n123 ≤ n115 ∧ CtI M_J2_add [rV (gR h111 110 (el h (x + 2) i)), rV (nx h)] h111 k120 n121 (fun x124 h119 => XW h119 x ∧ (kd h119 (nx h) = 3 ∧ (CtI M_X3_roof [rV (x + 23), iV (nI i), iV b, iV c, iV d] h119 0 0 (fun r2 h2 => gI h119 200 (nx h) = r2 ∧ R h2) E))) E)))) E)
  generalize hRofA h (nI (nR h x)) b c d (el h (x + 2) i) = hA at A hkd hflds ⊢
  have A0 := A.to2 h75
  have M0 := mw_k H.mw
  have iA : ALinj hA := ALinj_kd A H.pw.2.2.1 wf h75 (fun y hy => by
    rw [hkd] at hy
    by_cases z : y = nx h
    · rw [if_pos z] at hy; exact absurd hy (by decide)
    · rw [if_neg z] at hy; exact hy)
  have HA : CP hA x := CP_ag A iA H
  have eA : nR hA x = nR h x := A0.qR M0
  have eAC : nC hA x = nC h x := A0.qC M0
  have krA : kd hA (nx h) = 3 := by rw [hkd, if_pos rfl]
  have kc0 : kd h (el h (x + 2) i) = 2 := (H.pc i hi).1.1
  have kcA : kd hA (el h (x + 2) i) = 2 := A.kd' kc0 (by decide)
  have elA : el hA (x + 2) i = el h (x + 2) i := by rw [(A.alk h75 H.pl.1).2]
  have q0 := (H.pq i hi).2.1
  have lqn : (rfs (eI h (x + 23 + 19)) (nR h x) i).length ≤ nR h x := by
    unfold rfs
    have := List.length_filter_le (fun j => decide (eI h (x + 23 + 19) j = nI i)) (List.range (nR h x))
    rw [List.length_range] at this
    exact this
  refine ⟨HA.xw, 1, 200, k - 2, n - 207, by omega, by omega, ?_⟩
  refine r_wfH fun wfA => ?_
  refine ct_add (c0 := 2) HA.pl.2.1 HA.pw.2.2.2.1 HA.pw.2.2.2.2 (ok_c (c0 := 2) rfl q1921 krA) (fun j hj => (HA.pr j hj).1.1) rfl q1921 (by omega) (by omega) (by omega) (fun h1 D1 => ?_)
  obtain ⟨A1, i1⟩ := D1.ag2 (x := x) HA.pl.2.1 wfA HA.pw.2.2.1
  have H1 := CP_ag2 A1 i1 HA
  obtain ⟨⟨d1, d2, d3⟩, d4, d5, d6, d7, ⟨e1, e2, e3, e4, e5⟩, d8, d9, d10⟩ := D1
  rw [eA] at H1 A1 i1 e1 e4 d8 d9
  have k1c : kd h1 (el h (x + 2) i) = 2 := (d3 _ (by rw [kcA]; decide)).1.trans kcA
  have g1c : gR h1 110 (el h (x + 2) i) = gR h 110 (el h (x + 2) i) := by rw [d6 _ _ (fun z => absurd z.2 (by decide)), A.gr kc0 (by decide) (by decide)]
  have qx : x + 82 ≤ gR h 110 (el h (x + 2) i) := (H.pq i hi).1
  have kqA : kd hA (gR h 110 (el h (x + 2) i)) = 12 := A.kd' q0.1 (by decide)
  have qne : gR h 110 (el h (x + 2) i) ≠ nx h := Nat.ne_of_lt (wf.lt q0.1 (by decide)).2
  refine ⟨H1.xw, k1c, by rw [g1c]; exact (d3 _ (by rw [kqA]; decide)).1.trans kqA, 1, 200, 0, 0, by omega, by omega, ?_⟩
  rw [g1c]
  have M1 := mw_k HA.mw
  have e1C : nC (pI h1 1102 (x + 3) (nI (nR h x))) x = nC h x := (A1.qC M1).trans eAC
  have e1R : nR (pI h1 1102 (x + 3) (nI (nR h x))) x = nR h x := (A1.qR M1).trans eA
  have el1 : el (pI h1 1102 (x + 3) (nI (nR h x))) (x + 2) i = el h (x + 2) i := by rw [(A1.lst HA.pl.1).2 i (by rw [eAC]; exact hi), elA]
  have ra1 : eI (pI h1 1102 (x + 3) (nI (nR h x))) (x + 23 + 19) = eI h (x + 23 + 19) := by rw [A1.eiM HA.mw (o := 19) (by decide) (by decide) (by decide), A0.eiM H.mw (o := 19) (by decide) (by decide) (by decide)]
  have Q1 := H1.pq i (by rw [e1C]; exact hi)
  rw [el1, e1R, ra1] at Q1
  have gq1 : gR (pI h1 1102 (x + 3) (nI (nR h x))) 110 (el h (x + 2) i) = gR h 110 (el h (x + 2) i) := g1c
  rw [gq1] at Q1
  obtain ⟨Q11, Q12, Q13, -⟩ := Q1
  generalize hL : (rfs (eI h (x + 23 + 19)) (nR h x) i).length = L at Q12 Q13 lqn
  have alq : ALk h1 (gR h 110 (el h (x + 2) i)) L := by
    obtain ⟨b1, b2, b3, b4, b5⟩ := Q12
    rw [gI_pI, if_neg (fun z => by omega)] at b2
    exact ⟨b1, b2, b3, b4, b5⟩
  have kr1 : kd h1 (nx h) = 3 := (d3 _ (by rw [krA]; decide)).1.trans krA
  refine r_wfH fun wf1 => ?_
  refine ct_add (c0 := 2) alq H1.pw.2.2.2.1 H1.pw.2.2.2.2 (ok_c (c0 := 2) rfl q1921 kr1) (fun j hj => ?_) rfl q1921 (by omega) (by omega) (by omega) (fun h2 D2 => ?_)
  · have := Q13 j hj
    have e9 : el h1 (gR h 110 (el h (x + 2) i)) j = el (pI h1 1102 (x + 3) (nI (nR h x))) (gR h 110 (el h (x + 2) i)) j := rfl
    rw [e9, this]
    have hg := rfs_getD (ra := eI h (x + 23 + 19)) (m := nR h x) (i := i) (j := j) (by rw [hL]; exact hj)
    exact (H1.pr _ (by rw [e1R]; exact hg.1)).1.1
  have D2' := D2.pI1 (c := x + 3) (v := nI (nR h x)) (by omega)
  obtain ⟨A2, i2⟩ := D2'.ag2 (x := x) Q12 wf1 i1
  have H2 := CP_ag2 A2 i2 H1
  obtain ⟨⟨r1, r2, r3⟩, r4, r5, r6, r7, ⟨s1, s2, s3, s4, s5⟩, r8, r9, r10⟩ := D2
  have kr2 : kd h2 (nx h) = 3 := (r3 _ (by rw [kr1]; decide)).1.trans kr1
  refine ⟨H2.xw, kr2, ?_⟩
  have M2 := mw_k H1.mw
  have gR2 : gI h2 1002 (x + 23) = nI (nR h x) := by rw [r4 _ _ (fun z => by omega), d4 _ _ (fun z => by omega), A.gi M0 (by decide) (by decide)]; exact hn0.1
  have gC2 : gI h2 1001 (x + 23) = gI h 1001 (x + 23) := by rw [r4 _ _ (fun z => by omega), d4 _ _ (fun z => by omega), A.gi M0 (by decide) (by decide)]
  have eix : ix (nI (nR h x)) = nR h x := ix_nI (by omega)
  have vR : vp_in (nI (nR h x)) 30 := vin_nI (by omega) (by decide)
  have mw2 : MW h2 (x + 23) := H2.mw
  refine b_X3_roof_0 mw2 ?_
  rw [gC2, gR2, t30, eix]
  refine ⟨fun z => absurd z z1f, fun _ => ⟨fun z => absurd z c2f, fun _ => ⟨fun z => absurd z c3f, fun _ => ⟨fun z => absurd z c4f, fun _ => ⟨fun _ => ⟨vR, ?_⟩, fun z => absurd z c5⟩⟩⟩⟩⟩
  rintro _ rfl
  rw [gI_sI, gR2, eix]
  refine ⟨vR, ?_⟩
  rintro _ rfl
  rw [gI_sI, gI_sI, gR2, eix]
  refine ⟨vR, ?_⟩
  rintro _ rfl
  rw [gI_sI, gI_sI, gI_sI, gR2, eix]
  refine ⟨vR, ?_⟩
  rintro _ rfl
  rw [gI_sI, gI_sI, gI_sI, gI_sI, gR2]
  rintro _ rfl
  have num2 : gI h2 200 (nx h) = nI (nR h x) := by rw [r4 _ _ (fun z => by omega), d4 _ _ (fun z => by omega)]; exact hflds.1
  rw [gI_pI, if_pos ⟨rfl, rfl⟩, num2, nI_add1]
  refine ⟨?_, hR _ ?_⟩
  · apply i32_ext
    rw [nI_m1 (by omega), nI_toInt (by omega)]
    omega
  -- the coupling
  have e2C : nC (pI (pI h2 1102 (x + 3) (nI (nR h x))) 1102 (gR h 110 (el h (x + 2) i)) (nI L)) x = nC h x := (A2.qC M2).trans e1C
  have e2R : nR (pI (pI h2 1102 (x + 3) (nI (nR h x))) 1102 (gR h 110 (el h (x + 2) i)) (nI L)) x = nR h x := (A2.qR M2).trans e1R
  have gin : ∀ f, gI (pI (pI h2 1102 (x + 3) (nI (nR h x))) 1102 (gR h 110 (el h (x + 2) i)) (nI L)) f (nx h) = gI hA f (nx h) := fun f => by
    rw [gI_pI, if_neg (fun z => qne z.2.symm), gI_pI, if_neg (fun z => by omega), r4 _ _ (fun z => qne z.1.symm), d4 _ _ (fun z => by omega)]
  have elx3 : ∀ j, j ≤ nR h x → el h2 (x + 3) j = el h1 (x + 3) j := fun j hj => by
    show eR h2 (gR h2 1101 (x + 3)) j = eR h1 (gR h1 1101 (x + 3)) j
    rw [r6 _ _ (fun z => by omega)]
    refine r7 _ _ (by rw [e3]; decide) (fun z => ?_)
    have := i1.2 (x + 3) (gR h 110 (el h (x + 2) i)) (by show kd h1 (x + 3) = 12; exact (d3 _ (by rw [(HA.pl.2.1).1]; decide)).1.trans HA.pl.2.1.1) Q12.1 (by omega) z.1
    have t2 : kd h1 (gR h1 1101 (x + 3)) = 75 := this
    rw [e3] at t2
    exact absurd t2 (by decide)
  have K := cp_roof H2 (m := nR h x) (i0 := i) (L := L) e2R hm (by rw [e2C]; exact hi) (vo := b) (va := c) (vb := d) (isin_bd c2) (isin_bd c3) (isin_bd c4)
    (r := nx h) (q := gR h 110 (el h (x + 2) i)) (by
      show nR h x + 1 ≤ ln h2 (gR h2 1101 (x + 3))
      rw [r6 _ _ (fun z => by omega), (r3 _ (by rw [e3]; decide)).2.1]; exact e4) (by
      show kd h2 (gR h2 1101 (x + 3)) = 65
      rw [r6 _ _ (fun z => by omega), (r3 _ (by rw [e3]; decide)).1]; exact e3) (by
      rw [(A2.lst H1.pl.1).2 i (by rw [e1C]; exact hi), el1]
      show gR h2 110 (el h (x + 2) i) = _
      rw [r6 _ _ (fun z => absurd z.2 (by decide))]; exact g1c) (by
      rw [A2.eiM H1.mw (o := 19) (by decide) (by decide) (by decide), ra1]; exact hL) s4 s3 (by
      show el h2 (x + 3) (nR h x) = nx h
      rw [elx3 _ (Nat.le_refl _)]; exact d9) r9 kr2 (by
      have f2 := hflds.2.1
      refine ⟨by rw [gin]; exact hflds.1, ?_, by rw [gin]; exact hflds.2.2.1, by rw [gin]; exact hflds.2.2.2.1, by rw [gin]; exact hflds.2.2.2.2.1, by rw [gin]; exact hflds.2.2.2.2.2.1, by rw [gin]; exact hflds.2.2.2.2.2.2⟩
      rw [(A2.lst H1.pl.1).2 i (by rw [e1C]; exact hi), el1]
      show gR h2 204 (nx h) = _
      rw [r6 _ _ (fun z => absurd z.2 (by decide)), d6 _ _ (fun z => absurd z.2 (by decide))]; exact f2)
  unfold hRof at K
  rw [pI_back (h := pI h2 1102 (x + 3) (nI (nR h x))) (f := 1102) (a := gR h 110 (el h (x + 2) i)) (u := nI L) (v := nI (L + 1)) (by rw [gI_pI, if_neg (fun z => by omega)]; exact s1), pI_back (h := h2) (f := 1102) (a := x + 3) (u := nI (nR h x)) (v := nI (nR h x + 1)) (by rw [r4 _ _ (fun z => by omega)]; exact e1)] at K
  exact K
end
