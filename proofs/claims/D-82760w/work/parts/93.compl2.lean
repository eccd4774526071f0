/-! complain: the coupling behind it -/
set_option maxRecDepth 100000
section
variable {h g : Hp} {x : Nat}
theorem today_sub (H : CP h x) {i : Nat} (hi : i < nP h x) : (gI h 1000 (x + 23) - eI h (x + 23 + 47) i).toInt = (gI h 1000 (x + 23)).toInt - (eI h (x + 23 + 47) i).toInt := by
  have h1 := H.po.1
  obtain ⟨-, -, -, -, -, -, -, -, -, -, q11, -⟩ := H.pp.1 i hi
  have a1 := h1.1
  have a2 := h1.2
  have a3 := q11.1
  have a4 := q11.2
  exact i32_sub (by omega) (by omega)
/-- no two may be joined -/
theorem hit_one (H : CP h x) {c kd : Int32} {i j : Nat} (hi : i < nP h x) (hj : j < nP h x) (h1 : hit h x c kd i = true) (h2 : hit h x c kd j = true) : i = j := by
  have key : ∀ i j, i < j → j < nP h x → hit h x c kd i = true → hit h x c kd j = true → False := by
    intro i j hij hj u v
    obtain ⟨u1, u2, u3, u4⟩ := hit_t.mp u
    obtain ⟨v1, v2, v3, v4⟩ := hit_t.mp v
    have o : ∀ q, q < nP h x → ¬ eI h (x + 23 + 49) q = 0 → eI h (x + 23 + 49) q = 1 := fun q hq z => by
      obtain ⟨-, -, -, -, -, -, -, -, -, b, -⟩ := H.pp.1 q hq
      have b1 := b.1
      have b2 := b.2
      apply i32_ext
      have : (1 : Int32).toInt = 1 := by decide
      rw [this]
      have : ¬ (eI h (x + 23 + 49) q).toInt = 0 := fun e => z (i32_ext (by rw [e]; decide))
      omega
    have := H.pp.2 i j hij hj (o i (by omega) u1) (o j hj v1) (u2.trans v2.symm) (u3.trans v3.symm)
    have t7 : (7 : Int32).toInt = 7 := by decide
    rw [i32_le, today_sub H (by omega), t7] at u4
    omega
  rcases Nat.lt_trichotomy i j with z | z | z
  · exact absurd (key i j z hj h1 h2) id
  · exact z
  · exact absurd (key j i z hi h2 h1) id
theorem cp_join (H : CP h x) {c kd : Int32} {i : Nat} (hi : i < nP h x) (hh : hit h x c kd i = true) : CP (cmJ (pI (pI h 804 (el h (x + 22) i) (gI h 1000 (x + 23))) 805 (el h (x + 22) i) (eI h (x + 23 + 48) i + 1)) x i) x := by
  have hne : ∀ j, j < nP h x → j ≠ i → el h (x + 22) j ≠ el h (x + 22) i := fun j hj c e => c (H.com_inj hj hi e)
  have one := fun j (hj : j < nP h x) => hit_one H (c := c) (kd := kd) hi hj hh
  have tb := H.po.1
  have H0 := H
  obtain ⟨u1, u2, u3, u4⟩ := hit_t.mp hh
  unfold cmJ
  rw [gI_pI, if_neg (fun z => absurd z.1 (by decide)), gI_pI, if_neg (fun z => absurd z.1 (by decide)), eI_pI, eI_pI]
  generalize htd : gI h 1000 (x + 23) = td at u4
  obtain ⟨Kw, Kn, Ko, Kl, Kc, Kv, Kb, Kx, Kr, Kq, Ks, Kp, Ka, Ku⟩ := H; refine ⟨(by with_reducible (repeat (first | assumption | refine CPw_pI ?_ | refine CPw_pJ ?_ | refine CPw_pR (by decide) ?_ | refine CPw_sJ ?_ | refine CPw_sM ?_))), (by with_reducible (repeat (first | assumption | refine CPn_pI (by decide) ?_ | refine CPn_pJ (by decide) ?_ | refine CPn_pR ?_ | refine CPn_sJ ?_ | refine CPn_sM ?_))), (by with_reducible (repeat (first | assumption | refine CPo_pI (by decide) ?_ | refine CPo_pJ ?_ | refine CPo_pR ?_ | refine CPo_sJ ?_ | refine CPo_sM ?_))), (by with_reducible (repeat (first | assumption | refine CPl_pI (by decide) ?_ | refine CPl_pJ ?_ | refine CPl_pR (by decide) ?_ | refine CPl_sJ ?_ | refine CPl_sM ?_))), (by with_reducible (repeat (first | assumption | refine CPc_pI (by decide) ?_ | refine CPc_pJ ?_ | refine CPc_pR (by decide) ?_ | refine CPc_sJ (by decide) ?_ | refine CPc_sM (by decide) ?_ | refine CPc_sX (by decide) ?_))), (by with_reducible (repeat (first | assumption | refine CPv_pI (by decide) ?_ | refine CPv_pJ ?_ | refine CPv_pR ?_ | refine CPv_sJ ?_ | refine CPv_sM (by decide) ?_ | refine CPv_sX (by decide) ?_))), (by with_reducible (repeat (first | assumption | refine CPb_pI (by decide) ?_ | refine CPb_pJ ?_ | refine CPb_pR (by decide) ?_ | refine CPb_sJ ?_ | refine CPb_sM (by decide) ?_ | refine CPb_sX (by decide) ?_))), (by with_reducible (repeat (first | assumption | refine CPx_pI (by decide) ?_ | refine CPx_pJ ?_ | refine CPx_pR ?_ | refine CPx_sJ ?_ | refine CPx_sM (by decide) ?_ | refine CPx_sX (by decide) ?_))), (by with_reducible (repeat (first | assumption | refine CPr_pI (by decide) ?_ | refine CPr_pJ ?_ | refine CPr_pR (by decide) ?_ | refine CPr_sJ ?_ | refine CPr_sM (by decide) ?_ | refine CPr_sX (by decide) ?_))), (by with_reducible (repeat (first | assumption | refine CPq_pI (by decide) ?_ | refine CPq_pJ ?_ | refine CPq_pR (by decide) ?_ | refine CPq_sJ ?_ | refine CPq_sM (by decide) ?_ | refine CPq_sX (by decide) ?_))), (by with_reducible (repeat (first | assumption | refine CPs_pI (by decide) ?_ | refine CPs_pJ (by decide) ?_ | refine CPs_pR (by decide) ?_ | refine CPs_sJ (by decide) ?_ | refine CPs_sM (by decide) ?_ | refine CPs_sX (by decide) ?_))), ?_, (by with_reducible (repeat (first | assumption | refine CPa_pI (by decide) ?_ | refine CPa_pJ ?_ | refine CPa_pR ?_ | refine CPa_sJ (by decide) ?_ | refine CPa_sM (by decide) ?_ | refine CPa_sX (by decide) ?_))), (by with_reducible (repeat (first | assumption | refine CPu_pI (by decide) ?_ | refine CPu_pJ ?_ | refine CPu_pR (by decide) ?_ | refine CPu_sJ ?_ | refine CPu_sM (by decide) (by decide) ?_ | refine CPu_sX (by decide) (by decide) (by decide) ?_)))⟩
  refine ⟨fun j hj => ?_, fun j l hjl hl => ?_⟩
  · simp [nx_pI, kd_pI, ln_pI, gI_pI, gJ_pI, gR_pI, eI_pI, eJ_pI, eR_pI, kc_pI, nx_pJ, kd_pJ, ln_pJ, gI_pJ, gJ_pJ, gR_pJ, eI_pJ, eJ_pJ, eR_pJ, kc_pJ, nx_pR, kd_pR, ln_pR, gI_pR, gJ_pR, gR_pR, eI_pR, eJ_pR, eR_pR, kc_pR, nx_sI, kd_sI, ln_sI, gI_sI, gJ_sI, gR_sI, eI_sI, eJ_sI, eR_sI, kc_sI, nx_sJ, kd_sJ, ln_sJ, gI_sJ, gJ_sJ, gR_sJ, eI_sJ, eJ_sJ, eR_sJ, kc_sJ, nx_sR, kd_sR, ln_sR, gI_sR, gJ_sR, gR_sR, eI_sR, eJ_sR, eR_sR, kc_sR, ln_nO, eI_nO, eJ_nO, eR_nO, kc_nO, gI_nO, gI_nA, gJ_nO, gJ_nA, gR_nO, gR_nA, eI_nA, eJ_nA, eR_nA, kc_nA, nx_nO, nx_nA, kd_nO_at, kd_nA_at, ln_nA_at, el_pI, el_pJ, el_sI, el_sJ, bedp_pI, bedp_pJ, bedp_sI, bedp_sJ, nC_pI, nC_pJ, nC_sI, nC_sJ, nC_pR, nC_sR, nR_pI, nR_pJ, nR_sI, nR_sJ, nR_pR, nR_sR, nS_pI, nS_pJ, nS_sI, nS_sJ, nS_pR, nS_sR, nP_pI, nP_pJ, nP_sI, nP_sJ, nP_pR, nP_sR, nU_pI, nU_pJ, nU_sI, nU_sJ, nU_pR, nU_sR] at hj
    have e1 := Kp.1 j hj
    unfold CPp1 at e1 ⊢
    by_cases c : j = i
    · subst c
      have hz : bd td 0 3649 := by rw [← htd]; exact tb
      simp [nx_pI, kd_pI, ln_pI, gI_pI, gJ_pI, gR_pI, eI_pI, eJ_pI, eR_pI, kc_pI, nx_pJ, kd_pJ, ln_pJ, gI_pJ, gJ_pJ, gR_pJ, eI_pJ, eJ_pJ, eR_pJ, kc_pJ, nx_pR, kd_pR, ln_pR, gI_pR, gJ_pR, gR_pR, eI_pR, eJ_pR, eR_pR, kc_pR, nx_sI, kd_sI, ln_sI, gI_sI, gJ_sI, gR_sI, eI_sI, eJ_sI, eR_sI, kc_sI, nx_sJ, kd_sJ, ln_sJ, gI_sJ, gJ_sJ, gR_sJ, eI_sJ, eJ_sJ, eR_sJ, kc_sJ, nx_sR, kd_sR, ln_sR, gI_sR, gJ_sR, gR_sR, eI_sR, eJ_sR, eR_sR, kc_sR, ln_nO, eI_nO, eJ_nO, eR_nO, kc_nO, gI_nO, gI_nA, gJ_nO, gJ_nA, gR_nO, gR_nA, eI_nA, eJ_nA, eR_nA, kc_nA, nx_nO, nx_nA, kd_nO_at, kd_nA_at, ln_nA_at, el_pI, el_pJ, el_sI, el_sJ, bedp_pI, bedp_pJ, bedp_sI, bedp_sJ, nC_pI, nC_pJ, nC_sI, nC_sJ, nC_pR, nC_sR, nR_pI, nR_pJ, nR_sI, nR_sJ, nR_pR, nR_sR, nS_pI, nS_pJ, nS_sI, nS_sJ, nS_pR, nS_sR, nP_pI, nP_pJ, nP_sI, nP_sJ, nP_pR, nP_sR, nU_pI, nU_pJ, nU_sI, nU_sJ, nU_pR, nU_sR, htd]
      simp [e1, hz]
    · simp [nx_pI, kd_pI, ln_pI, gI_pI, gJ_pI, gR_pI, eI_pI, eJ_pI, eR_pI, kc_pI, nx_pJ, kd_pJ, ln_pJ, gI_pJ, gJ_pJ, gR_pJ, eI_pJ, eJ_pJ, eR_pJ, kc_pJ, nx_pR, kd_pR, ln_pR, gI_pR, gJ_pR, gR_pR, eI_pR, eJ_pR, eR_pR, kc_pR, nx_sI, kd_sI, ln_sI, gI_sI, gJ_sI, gR_sI, eI_sI, eJ_sI, eR_sI, kc_sI, nx_sJ, kd_sJ, ln_sJ, gI_sJ, gJ_sJ, gR_sJ, eI_sJ, eJ_sJ, eR_sJ, kc_sJ, nx_sR, kd_sR, ln_sR, gI_sR, gJ_sR, gR_sR, eI_sR, eJ_sR, eR_sR, kc_sR, ln_nO, eI_nO, eJ_nO, eR_nO, kc_nO, gI_nO, gI_nA, gJ_nO, gJ_nA, gR_nO, gR_nA, eI_nA, eJ_nA, eR_nA, kc_nA, nx_nO, nx_nA, kd_nO_at, kd_nA_at, ln_nA_at, el_pI, el_pJ, el_sI, el_sJ, bedp_pI, bedp_pJ, bedp_sI, bedp_sJ, nC_pI, nC_pJ, nC_sI, nC_sJ, nC_pR, nC_sR, nR_pI, nR_pJ, nR_sI, nR_sJ, nR_pR, nR_sR, nS_pI, nS_pJ, nS_sI, nS_sJ, nS_pR, nS_sR, nP_pI, nP_pJ, nP_sI, nP_sJ, nP_pR, nP_sR, nU_pI, nU_pJ, nU_sI, nU_sJ, nU_pR, nU_sR, hne j hj c, c]
      simpa using e1
  · simp [nx_pI, kd_pI, ln_pI, gI_pI, gJ_pI, gR_pI, eI_pI, eJ_pI, eR_pI, kc_pI, nx_pJ, kd_pJ, ln_pJ, gI_pJ, gJ_pJ, gR_pJ, eI_pJ, eJ_pJ, eR_pJ, kc_pJ, nx_pR, kd_pR, ln_pR, gI_pR, gJ_pR, gR_pR, eI_pR, eJ_pR, eR_pR, kc_pR, nx_sI, kd_sI, ln_sI, gI_sI, gJ_sI, gR_sI, eI_sI, eJ_sI, eR_sI, kc_sI, nx_sJ, kd_sJ, ln_sJ, gI_sJ, gJ_sJ, gR_sJ, eI_sJ, eJ_sJ, eR_sJ, kc_sJ, nx_sR, kd_sR, ln_sR, gI_sR, gJ_sR, gR_sR, eI_sR, eJ_sR, eR_sR, kc_sR, ln_nO, eI_nO, eJ_nO, eR_nO, kc_nO, gI_nO, gI_nA, gJ_nO, gJ_nA, gR_nO, gR_nA, eI_nA, eJ_nA, eR_nA, kc_nA, nx_nO, nx_nA, kd_nO_at, kd_nA_at, ln_nA_at, el_pI, el_pJ, el_sI, el_sJ, bedp_pI, bedp_pJ, bedp_sI, bedp_sJ, nC_pI, nC_pJ, nC_sI, nC_sJ, nC_pR, nC_sR, nR_pI, nR_pJ, nR_sI, nR_sJ, nR_pR, nR_sR, nS_pI, nS_pJ, nS_sI, nS_sJ, nS_pR, nS_sR, nP_pI, nP_pJ, nP_sI, nP_sJ, nP_pR, nP_sR, nU_pI, nU_pJ, nU_sI, nU_sJ, nU_pR, nU_sR] at hl
    have e2 := Kp.2 j l hjl hl
    simp [nx_pI, kd_pI, ln_pI, gI_pI, gJ_pI, gR_pI, eI_pI, eJ_pI, eR_pI, kc_pI, nx_pJ, kd_pJ, ln_pJ, gI_pJ, gJ_pJ, gR_pJ, eI_pJ, eJ_pJ, eR_pJ, kc_pJ, nx_pR, kd_pR, ln_pR, gI_pR, gJ_pR, gR_pR, eI_pR, eJ_pR, eR_pR, kc_pR, nx_sI, kd_sI, ln_sI, gI_sI, gJ_sI, gR_sI, eI_sI, eJ_sI, eR_sI, kc_sI, nx_sJ, kd_sJ, ln_sJ, gI_sJ, gJ_sJ, gR_sJ, eI_sJ, eJ_sJ, eR_sJ, kc_sJ, nx_sR, kd_sR, ln_sR, gI_sR, gJ_sR, gR_sR, eI_sR, eJ_sR, eR_sR, kc_sR, ln_nO, eI_nO, eJ_nO, eR_nO, kc_nO, gI_nO, gI_nA, gJ_nO, gJ_nA, gR_nO, gR_nA, eI_nA, eJ_nA, eR_nA, kc_nA, nx_nO, nx_nA, kd_nO_at, kd_nA_at, ln_nA_at, el_pI, el_pJ, el_sI, el_sJ, bedp_pI, bedp_pJ, bedp_sI, bedp_sJ, nC_pI, nC_pJ, nC_sI, nC_sJ, nC_pR, nC_sR, nR_pI, nR_pJ, nR_sI, nR_sJ, nR_pR, nR_sR, nS_pI, nS_pJ, nS_sI, nS_sJ, nS_pR, nS_sR, nP_pI, nP_pJ, nP_sI, nP_sJ, nP_pR, nP_sR, nU_pI, nU_pJ, nU_sI, nU_sJ, nU_pR, nU_sR, htd]
    rw [htd] at e2
    intro v1 v2 v3 v4
    by_cases cj : j = i
    · subst cj
      have := e2 v1 v2 v3 v4
      rw [i32_le, ← htd, today_sub H0 hi, htd] at u4
      have t7 : (7 : Int32).toInt = 7 := by decide
      omega
    · rw [if_neg cj]
      exact e2 v1 v2 v3 v4
theorem cp_cmN (H : CP h x) {m i : Nat} (em : nP h x = m) (hm : m < 60) (hi : i < nC h x) {kd0 : Int32} (nohit : ∀ j, j < m → hit h x (nI i) kd0 j = false) (hl : m + 1 ≤ ln h (gR h 1101 (x + 22))) (h65 : kd h (gR h 1101 (x + 22)) = 65) (hl6 : ln h (gR h 1101 (x + 22)) ≤ 60000) {r : Nat} (hr : el h (x + 22) m = r) (kr : kd h r = 9)
    (f : gI h 801 r = nI m ∧ gR h 800 r = el h (x + 2) i ∧ gI h 802 r = kd0 ∧ gI h 803 r = gI h 1000 (x + 23) ∧ gI h 804 r = gI h 1000 (x + 23) ∧ gI h 805 r = 1 ∧ gI h 806 r = 1) : CP (cmN (pI h 1102 (x + 22) (nI (m + 1))) x m (nI i) kd0) x := by
  have hn := H.nC_le.2
  have tb := H.po.1
  have H0 := H
  have eP : gI h 1006 (x + 23) = nI m := by have := H.nP_le.1; rw [em] at this; exact this
  unfold cmN
  rw [gI_pI, if_neg (fun z => absurd z.1 (by decide))]
  generalize htd : gI h 1000 (x + 23) = td at f
  generalize hF : pI (sI (sI (sI (sI (sI (sI (pI h 1102 (x + 22) (nI (m + 1))) (x + 23 + 44) m (nI i)) (x + 23 + 45) m kd0) (x + 23 + 46) m td) (x + 23 + 47) m td) (x + 23 + 48) m 1) (x + 23 + 49) m 1) 1006 (x + 23) (nI (m + 1)) = F
  have ek : kd F = kd h := by rw [← hF, kd_pI, kd_sI, kd_sI, kd_sI, kd_sI, kd_sI, kd_sI, kd_pI]
  have el' : ln F = ln h := by rw [← hF, ln_pI, ln_sI, ln_sI, ln_sI, ln_sI, ln_sI, ln_sI, ln_pI]
  have er : gR F = gR h := by rw [← hF, gR_pI, gR_sI, gR_sI, gR_sI, gR_sI, gR_sI, gR_sI, gR_pI]
  have ekc : kc F = kc h := by rw [← hF, kc_pI, kc_sI, kc_sI, kc_sI, kc_sI, kc_sI, kc_sI, kc_pI]
  have eeR : eR F = eR h := by rw [← hF, eR_pI, eR_sI, eR_sI, eR_sI, eR_sI, eR_sI, eR_sI, eR_pI]
  have ee : el F = el h := by funext a b; unfold el; rw [eeR, er]
  have gi : ∀ f a, f ≠ 1102 → f ≠ 1006 → gI F f a = gI h f a := fun f a h1 h2 => by rw [← hF, gI_pI, if_neg (fun z => h2 z.1), gI_sI, gI_sI, gI_sI, gI_sI, gI_sI, gI_sI, gI_pI, if_neg (fun z => h1 z.1)]
  have g2 : ∀ a, a ≠ x + 22 → gI F 1102 a = gI h 1102 a := fun a h1 => by rw [← hF, gI_pI, if_neg (fun z => absurd z.1 (by decide)), gI_sI, gI_sI, gI_sI, gI_sI, gI_sI, gI_sI, gI_pI, if_neg (fun z => h1 z.2)]
  have g2' : gI F 1102 (x + 22) = nI (m + 1) := by rw [← hF, gI_pI, if_neg (fun z => absurd z.1 (by decide)), gI_sI, gI_sI, gI_sI, gI_sI, gI_sI, gI_sI, gI_pI, if_pos ⟨rfl, rfl⟩]
  have gc : gI F 1006 (x + 23) = nI (m + 1) := by rw [← hF, gI_pI, if_pos ⟨rfl, rfl⟩]
  have gtd : gI F 1000 (x + 23) = td := by rw [gi _ _ (by decide) (by decide)]; exact htd
  have eC : nC F x = nC h x := by unfold nC; rw [gi _ _ (by decide) (by decide)]
  have eR' : nR F x = nR h x := by unfold nR; rw [gi _ _ (by decide) (by decide)]
  have eU' : nU F x = nU h x := by unfold nU; rw [gi _ _ (by decide) (by decide)]
  have eS' : nS F x = nS h x := by unfold nS; rw [gi _ _ (by decide) (by decide)]
  have eP' : nP F x = m + 1 := by unfold nP; rw [gc, ix_nI (by omega)]
  have eo : ∀ o j, j ≠ m → eI F (x + 23 + o) j = eI h (x + 23 + o) j := fun o j hj => by rw [← hF]; simp [nx_pI, kd_pI, ln_pI, gI_pI, gJ_pI, gR_pI, eI_pI, eJ_pI, eR_pI, kc_pI, nx_pJ, kd_pJ, ln_pJ, gI_pJ, gJ_pJ, gR_pJ, eI_pJ, eJ_pJ, eR_pJ, kc_pJ, nx_pR, kd_pR, ln_pR, gI_pR, gJ_pR, gR_pR, eI_pR, eJ_pR, eR_pR, kc_pR, nx_sI, kd_sI, ln_sI, gI_sI, gJ_sI, gR_sI, eI_sI, eJ_sI, eR_sI, kc_sI, nx_sJ, kd_sJ, ln_sJ, gI_sJ, gJ_sJ, gR_sJ, eI_sJ, eJ_sJ, eR_sJ, kc_sJ, nx_sR, kd_sR, ln_sR, gI_sR, gJ_sR, gR_sR, eI_sR, eJ_sR, eR_sR, kc_sR, ln_nO, eI_nO, eJ_nO, eR_nO, kc_nO, gI_nO, gI_nA, gJ_nO, gJ_nA, gR_nO, gR_nA, eI_nA, eJ_nA, eR_nA, kc_nA, nx_nO, nx_nA, kd_nO_at, kd_nA_at, ln_nA_at, hj]
  have m1 : eI F (x + 23 + 44) m = nI i := by rw [← hF]; simp [nx_pI, kd_pI, ln_pI, gI_pI, gJ_pI, gR_pI, eI_pI, eJ_pI, eR_pI, kc_pI, nx_pJ, kd_pJ, ln_pJ, gI_pJ, gJ_pJ, gR_pJ, eI_pJ, eJ_pJ, eR_pJ, kc_pJ, nx_pR, kd_pR, ln_pR, gI_pR, gJ_pR, gR_pR, eI_pR, eJ_pR, eR_pR, kc_pR, nx_sI, kd_sI, ln_sI, gI_sI, gJ_sI, gR_sI, eI_sI, eJ_sI, eR_sI, kc_sI, nx_sJ, kd_sJ, ln_sJ, gI_sJ, gJ_sJ, gR_sJ, eI_sJ, eJ_sJ, eR_sJ, kc_sJ, nx_sR, kd_sR, ln_sR, gI_sR, gJ_sR, gR_sR, eI_sR, eJ_sR, eR_sR, kc_sR, ln_nO, eI_nO, eJ_nO, eR_nO, kc_nO, gI_nO, gI_nA, gJ_nO, gJ_nA, gR_nO, gR_nA, eI_nA, eJ_nA, eR_nA, kc_nA, nx_nO, nx_nA, kd_nO_at, kd_nA_at, ln_nA_at]
  have m2 : eI F (x + 23 + 45) m = kd0 := by rw [← hF]; simp [nx_pI, kd_pI, ln_pI, gI_pI, gJ_pI, gR_pI, eI_pI, eJ_pI, eR_pI, kc_pI, nx_pJ, kd_pJ, ln_pJ, gI_pJ, gJ_pJ, gR_pJ, eI_pJ, eJ_pJ, eR_pJ, kc_pJ, nx_pR, kd_pR, ln_pR, gI_pR, gJ_pR, gR_pR, eI_pR, eJ_pR, eR_pR, kc_pR, nx_sI, kd_sI, ln_sI, gI_sI, gJ_sI, gR_sI, eI_sI, eJ_sI, eR_sI, kc_sI, nx_sJ, kd_sJ, ln_sJ, gI_sJ, gJ_sJ, gR_sJ, eI_sJ, eJ_sJ, eR_sJ, kc_sJ, nx_sR, kd_sR, ln_sR, gI_sR, gJ_sR, gR_sR, eI_sR, eJ_sR, eR_sR, kc_sR, ln_nO, eI_nO, eJ_nO, eR_nO, kc_nO, gI_nO, gI_nA, gJ_nO, gJ_nA, gR_nO, gR_nA, eI_nA, eJ_nA, eR_nA, kc_nA, nx_nO, nx_nA, kd_nO_at, kd_nA_at, ln_nA_at]
  have m3 : eI F (x + 23 + 46) m = td := by rw [← hF]; simp [nx_pI, kd_pI, ln_pI, gI_pI, gJ_pI, gR_pI, eI_pI, eJ_pI, eR_pI, kc_pI, nx_pJ, kd_pJ, ln_pJ, gI_pJ, gJ_pJ, gR_pJ, eI_pJ, eJ_pJ, eR_pJ, kc_pJ, nx_pR, kd_pR, ln_pR, gI_pR, gJ_pR, gR_pR, eI_pR, eJ_pR, eR_pR, kc_pR, nx_sI, kd_sI, ln_sI, gI_sI, gJ_sI, gR_sI, eI_sI, eJ_sI, eR_sI, kc_sI, nx_sJ, kd_sJ, ln_sJ, gI_sJ, gJ_sJ, gR_sJ, eI_sJ, eJ_sJ, eR_sJ, kc_sJ, nx_sR, kd_sR, ln_sR, gI_sR, gJ_sR, gR_sR, eI_sR, eJ_sR, eR_sR, kc_sR, ln_nO, eI_nO, eJ_nO, eR_nO, kc_nO, gI_nO, gI_nA, gJ_nO, gJ_nA, gR_nO, gR_nA, eI_nA, eJ_nA, eR_nA, kc_nA, nx_nO, nx_nA, kd_nO_at, kd_nA_at, ln_nA_at]
  have m4 : eI F (x + 23 + 47) m = td := by rw [← hF]; simp [nx_pI, kd_pI, ln_pI, gI_pI, gJ_pI, gR_pI, eI_pI, eJ_pI, eR_pI, kc_pI, nx_pJ, kd_pJ, ln_pJ, gI_pJ, gJ_pJ, gR_pJ, eI_pJ, eJ_pJ, eR_pJ, kc_pJ, nx_pR, kd_pR, ln_pR, gI_pR, gJ_pR, gR_pR, eI_pR, eJ_pR, eR_pR, kc_pR, nx_sI, kd_sI, ln_sI, gI_sI, gJ_sI, gR_sI, eI_sI, eJ_sI, eR_sI, kc_sI, nx_sJ, kd_sJ, ln_sJ, gI_sJ, gJ_sJ, gR_sJ, eI_sJ, eJ_sJ, eR_sJ, kc_sJ, nx_sR, kd_sR, ln_sR, gI_sR, gJ_sR, gR_sR, eI_sR, eJ_sR, eR_sR, kc_sR, ln_nO, eI_nO, eJ_nO, eR_nO, kc_nO, gI_nO, gI_nA, gJ_nO, gJ_nA, gR_nO, gR_nA, eI_nA, eJ_nA, eR_nA, kc_nA, nx_nO, nx_nA, kd_nO_at, kd_nA_at, ln_nA_at]
  have m5 : eI F (x + 23 + 48) m = 1 := by rw [← hF]; simp [nx_pI, kd_pI, ln_pI, gI_pI, gJ_pI, gR_pI, eI_pI, eJ_pI, eR_pI, kc_pI, nx_pJ, kd_pJ, ln_pJ, gI_pJ, gJ_pJ, gR_pJ, eI_pJ, eJ_pJ, eR_pJ, kc_pJ, nx_pR, kd_pR, ln_pR, gI_pR, gJ_pR, gR_pR, eI_pR, eJ_pR, eR_pR, kc_pR, nx_sI, kd_sI, ln_sI, gI_sI, gJ_sI, gR_sI, eI_sI, eJ_sI, eR_sI, kc_sI, nx_sJ, kd_sJ, ln_sJ, gI_sJ, gJ_sJ, gR_sJ, eI_sJ, eJ_sJ, eR_sJ, kc_sJ, nx_sR, kd_sR, ln_sR, gI_sR, gJ_sR, gR_sR, eI_sR, eJ_sR, eR_sR, kc_sR, ln_nO, eI_nO, eJ_nO, eR_nO, kc_nO, gI_nO, gI_nA, gJ_nO, gJ_nA, gR_nO, gR_nA, eI_nA, eJ_nA, eR_nA, kc_nA, nx_nO, nx_nA, kd_nO_at, kd_nA_at, ln_nA_at]
  have m6 : eI F (x + 23 + 49) m = 1 := by rw [← hF]; simp [nx_pI, kd_pI, ln_pI, gI_pI, gJ_pI, gR_pI, eI_pI, eJ_pI, eR_pI, kc_pI, nx_pJ, kd_pJ, ln_pJ, gI_pJ, gJ_pJ, gR_pJ, eI_pJ, eJ_pJ, eR_pJ, kc_pJ, nx_pR, kd_pR, ln_pR, gI_pR, gJ_pR, gR_pR, eI_pR, eJ_pR, eR_pR, kc_pR, nx_sI, kd_sI, ln_sI, gI_sI, gJ_sI, gR_sI, eI_sI, eJ_sI, eR_sI, kc_sI, nx_sJ, kd_sJ, ln_sJ, gI_sJ, gJ_sJ, gR_sJ, eI_sJ, eJ_sJ, eR_sJ, kc_sJ, nx_sR, kd_sR, ln_sR, gI_sR, gJ_sR, gR_sR, eI_sR, eJ_sR, eR_sR, kc_sR, ln_nO, eI_nO, eJ_nO, eR_nO, kc_nO, gI_nO, gI_nA, gJ_nO, gJ_nA, gR_nO, gR_nA, eI_nA, eJ_nA, eR_nA, kc_nA, nx_nO, nx_nA, kd_nO_at, kd_nA_at, ln_nA_at]
  have alk : ∀ a q, a ≠ x + 22 → ALk h a q → ALk F a q := fun a q hne A => by
    obtain ⟨b1, b2, b3, b4, b5⟩ := A
    exact ⟨by rw [ek]; exact b1, (g2 a hne).trans b2, by rw [el', er]; exact b3, by rw [ek, er, ekc]; exact b4, by rw [el', er]; exact b5⟩
  obtain ⟨Kw, Kn, Ko, Kl, Kc, Kv, Kb, Kx, Kr, Kq, Ks, Kp, Ka, Ku⟩ := H
  refine ⟨?_, ?_, ?_, ?_, ?_, ?_, ?_, ?_, ?_, ?_, ?_, ?_, ?_, ?_⟩
  · rw [← hF]; with_reducible (repeat (first | assumption | refine CPw_pI ?_ | refine CPw_pJ ?_ | refine CPw_pR (by decide) ?_ | refine CPw_sJ ?_ | refine CPw_sM ?_))
  · rw [← hF]; with_reducible (repeat (first | assumption | refine CPn_pI (by decide) ?_ | refine CPn_pJ (by decide) ?_ | refine CPn_pR ?_ | refine CPn_sJ ?_ | refine CPn_sM ?_))
  · obtain ⟨n1, n2, n3, n4, n5, n6, n7, n8⟩ := Ko
    refine ⟨by rw [gi _ _ (by decide) (by decide)]; exact n1, by rw [gi _ _ (by decide) (by decide)]; exact n2, by rw [gi _ _ (by decide) (by decide)]; exact n3, by rw [gi _ _ (by decide) (by decide)]; exact n4, by rw [gi _ _ (by decide) (by decide)]; exact n5, ?_, by rw [gi _ _ (by decide) (by decide)]; exact n7, by rw [gi _ _ (by decide) (by decide)]; exact n8⟩
    rw [gc]; unfold bd; rw [nI_toInt (by omega)]; omega
  · obtain ⟨l1, l2, l3, l4, l5⟩ := Kl
    unfold CPl
    rw [eC, eR', eU', eS', eP']
    exact ⟨alk _ _ (by omega) l1, alk _ _ (by omega) l2, alk _ _ (by omega) l3, alk _ _ (by omega) l4, ⟨by rw [ek]; exact l5.1, g2', by rw [el', er]; exact hl, Or.inl (by rw [ek, er]; exact h65), by rw [el', er]; exact hl6⟩⟩
  · rw [← hF]; with_reducible (repeat (first | assumption | refine CPc_pI (by decide) ?_ | refine CPc_pJ ?_ | refine CPc_pR (by decide) ?_ | refine CPc_sJ (by decide) ?_ | refine CPc_sM (by decide) ?_ | refine CPc_sX (by decide) ?_))
  · rw [← hF]; with_reducible (repeat (first | assumption | refine CPv_pI (by decide) ?_ | refine CPv_pJ ?_ | refine CPv_pR ?_ | refine CPv_sJ ?_ | refine CPv_sM (by decide) ?_ | refine CPv_sX (by decide) ?_))
  · rw [← hF]; with_reducible (repeat (first | assumption | refine CPb_pI (by decide) ?_ | refine CPb_pJ ?_ | refine CPb_pR (by decide) ?_ | refine CPb_sJ ?_ | refine CPb_sM (by decide) ?_ | refine CPb_sX (by decide) ?_))
  · rw [← hF]; with_reducible (repeat (first | assumption | refine CPx_pI (by decide) ?_ | refine CPx_pJ ?_ | refine CPx_pR ?_ | refine CPx_sJ ?_ | refine CPx_sM (by decide) ?_ | refine CPx_sX (by decide) ?_))
  · rw [← hF]; with_reducible (repeat (first | assumption | refine CPr_pI (by decide) ?_ | refine CPr_pJ ?_ | refine CPr_pR (by decide) ?_ | refine CPr_sJ ?_ | refine CPr_sM (by decide) ?_ | refine CPr_sX (by decide) ?_))
  · have := CPq_1102 (a := x + 22) (v := nI (m + 1)) (by omega) Kq
    rw [← hF]; with_reducible (repeat (first | assumption | refine CPq_pI (by decide) ?_ | refine CPq_pJ ?_ | refine CPq_pR (by decide) ?_ | refine CPq_sJ ?_ | refine CPq_sM (by decide) ?_ | refine CPq_sX (by decide) ?_))
  · rw [← hF]; with_reducible (repeat (first | assumption | refine CPs_pI (by decide) ?_ | refine CPs_pJ (by decide) ?_ | refine CPs_pR (by decide) ?_ | refine CPs_sJ (by decide) ?_ | refine CPs_sM (by decide) ?_ | refine CPs_sX (by decide) ?_))
  · obtain ⟨p1, p2⟩ := Kp
    refine ⟨fun j hj => ?_, fun j l hjl hl2 => ?_⟩
    · rw [eP'] at hj
      rw [ee]
      by_cases c : j = m
      · subst c
        rw [hr]
        obtain ⟨f0, f1, f2, f3, f4, f5, f6⟩ := f
        have hti : (nI i).toInt = i := nI_toInt (by omega)
        unfold CPp1
        rw [ek, er, ee, eC, gi 801 _ (by decide) (by decide), gi 802 _ (by decide) (by decide), gi 803 _ (by decide) (by decide), gi 804 _ (by decide) (by decide), gi 805 _ (by decide) (by decide), gi 806 _ (by decide) (by decide), m1, m2, m3, m4, m5, m6, gtd, ix_nI (by omega)]
        refine ⟨kr, f0, f1, ⟨⟨by rw [hti]; omega, by rw [hti]; omega⟩, hi⟩, f2, f3, f4, f5, f6, ⟨by decide, by decide⟩, by rw [← htd]; exact tb, Int.le_refl _⟩
      · have e1 := p1 j (by omega)
        unfold CPp1 at e1 ⊢
        rw [ek, er, ee, eC, gi 801 _ (by decide) (by decide), gi 802 _ (by decide) (by decide), gi 803 _ (by decide) (by decide), gi 804 _ (by decide) (by decide), gi 805 _ (by decide) (by decide), gi 806 _ (by decide) (by decide), eo _ _ c, eo _ _ c, eo _ _ c, eo _ _ c, eo _ _ c, eo _ _ c, gi 1000 _ (by decide) (by decide)]
        exact e1
    · rw [eP'] at hl2
      have cj : j ≠ m := by omega
      rw [eo _ _ cj, eo _ _ cj, eo _ _ cj, eo _ _ cj, gi 1000 _ (by decide) (by decide)]
      by_cases c : l = m
      · subst c
        rw [m1, m2, m6]
        intro v1 _ v3 v4
        have hh := nohit j hjl
        have t7 : (7 : Int32).toInt = 7 := by decide
        by_cases z : 7 < (gI h 1000 (x + 23)).toInt - (eI h (x + 23 + 47) j).toInt
        · exact z
        · refine absurd (hit_t.mpr ⟨by rw [v1]; decide, v3, v4, ?_⟩) (by rw [hh]; decide)
          rw [i32_le, today_sub H0 (by omega), t7]
          omega
      · rw [eo _ _ c, eo _ _ c, eo _ _ c]
        exact p2 j l hjl (by omega)
  · rw [← hF]; with_reducible (repeat (first | assumption | refine CPa_pI (by decide) ?_ | refine CPa_pJ ?_ | refine CPa_pR ?_ | refine CPa_sJ (by decide) ?_ | refine CPa_sM (by decide) ?_ | refine CPa_sX (by decide) ?_))
  · have := CPu_1102 (h := h) (x := x) (a := x + 22) (v := nI (m + 1)) (by omega) (fun r hr e => by have := (Ku.2 r hr).2.2.2.2.2.2.2; omega) Ku
    rw [← hF]; with_reducible (repeat (first | assumption | refine CPu_pI (by decide) ?_ | refine CPu_pJ ?_ | refine CPu_pR (by decide) ?_ | refine CPu_sJ ?_ | refine CPu_sM (by decide) (by decide) ?_ | refine CPu_sX (by decide) (by decide) (by decide) ?_))
end
