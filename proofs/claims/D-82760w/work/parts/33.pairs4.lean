/-! pairs: care, treat, below, prove, close -/
set_option maxRecDepth 100000
section
variable {h : Hp} {x : Nat} {E : Nat → Hp → Prop} {k n : Nat} {R : Hp → Prop}
theorem bd_care {v : Int32} (hv : bd v 0 100) : bd (imax 0 (v - 30)) 0 100 := by
  have h1 := hv.1
  have h2 := hv.2
  unfold bd
  rw [imax_toInt, i32_sub (by rw [toI_30]; omega) (by rw [toI_30]; omega), toI_0, toI_30]
  omega
theorem cp_care (H : CP h x) {i y : Nat} (hi : i < nC h x) (gi : eI h (x + 23 + 6) i = 1) (hy : y < 11) : CP (sI (sI (sI (pI (pI (pI h 311 (bedp h x i) (gI h 311 (bedp h x i) ||| shl 1 (nI y))) 305 (bedp h x i) (imax 0 (eI h (x + 23 + 12) i - 30))) 306 (bedp h x i) 0) (x + 23 + 18) (11 * i + y) (gI h 1000 (x + 23))) (x + 23 + 12) i (imax 0 (eI h (x + 23 + 12) i - 30))) (x + 23 + 13) i 0) x := by
  have hne := fun j hj gj c => H.bed_ne (j := j) hi gi hj gj c
  obtain ⟨Kw, Kn, Ko, Kl, Kc, Kv, Kb, Kx, Kr, Kq, Ks, Kp, Ka, Ku⟩ := H; refine ⟨(by with_reducible (repeat (first | assumption | refine CPw_pI ?_ | refine CPw_pJ ?_ | refine CPw_pR (by decide) ?_ | refine CPw_sJ ?_ | refine CPw_sM ?_))), (by with_reducible (repeat (first | assumption | refine CPn_pI (by decide) ?_ | refine CPn_pJ (by decide) ?_ | refine CPn_pR ?_ | refine CPn_sJ ?_ | refine CPn_sM ?_))), (by with_reducible (repeat (first | assumption | refine CPo_pI (by decide) ?_ | refine CPo_pJ ?_ | refine CPo_pR ?_ | refine CPo_sJ ?_ | refine CPo_sM ?_))), (by with_reducible (repeat (first | assumption | refine CPl_pI (by decide) ?_ | refine CPl_pJ ?_ | refine CPl_pR (by decide) ?_ | refine CPl_sJ ?_ | refine CPl_sM ?_))), (by with_reducible (repeat (first | assumption | refine CPc_pI (by decide) ?_ | refine CPc_pJ ?_ | refine CPc_pR (by decide) ?_ | refine CPc_sJ (by decide) ?_ | refine CPc_sM (by decide) ?_ | refine CPc_sX (by decide) ?_))), (by with_reducible (repeat (first | assumption | refine CPv_pI (by decide) ?_ | refine CPv_pJ ?_ | refine CPv_pR ?_ | refine CPv_sJ ?_ | refine CPv_sM (by decide) ?_ | refine CPv_sX (by decide) ?_))), ?_, ?_, (by with_reducible (repeat (first | assumption | refine CPr_pI (by decide) ?_ | refine CPr_pJ ?_ | refine CPr_pR (by decide) ?_ | refine CPr_sJ ?_ | refine CPr_sM (by decide) ?_ | refine CPr_sX (by decide) ?_))), (by with_reducible (repeat (first | assumption | refine CPq_pI (by decide) ?_ | refine CPq_pJ ?_ | refine CPq_pR (by decide) ?_ | refine CPq_sJ ?_ | refine CPq_sM (by decide) ?_ | refine CPq_sX (by decide) ?_))), (by with_reducible (repeat (first | assumption | refine CPs_pI (by decide) ?_ | refine CPs_pJ (by decide) ?_ | refine CPs_pR (by decide) ?_ | refine CPs_sJ (by decide) ?_ | refine CPs_sM (by decide) ?_ | refine CPs_sX (by decide) ?_))), (by with_reducible (repeat (first | assumption | refine CPp_pI (by decide) ?_ | refine CPp_pJ ?_ | refine CPp_pR (by decide) ?_ | refine CPp_sJ ?_ | refine CPp_sM (by decide) ?_ | refine CPp_sX (by decide) ?_))), (by with_reducible (repeat (first | assumption | refine CPa_pI (by decide) ?_ | refine CPa_pJ ?_ | refine CPa_pR ?_ | refine CPa_sJ (by decide) ?_ | refine CPa_sM (by decide) ?_ | refine CPa_sX (by decide) ?_))), (by with_reducible (repeat (first | assumption | refine CPu_pI (by decide) ?_ | refine CPu_pJ ?_ | refine CPu_pR (by decide) ?_ | refine CPu_sJ ?_ | refine CPu_sM (by decide) (by decide) ?_ | refine CPu_sX (by decide) (by decide) (by decide) ?_)))⟩
  · intro j hj
    simp [nx_pI, kd_pI, ln_pI, gI_pI, gJ_pI, gR_pI, eI_pI, eJ_pI, eR_pI, kc_pI, nx_pJ, kd_pJ, ln_pJ, gI_pJ, gJ_pJ, gR_pJ, eI_pJ, eJ_pJ, eR_pJ, kc_pJ, nx_pR, kd_pR, ln_pR, gI_pR, gJ_pR, gR_pR, eI_pR, eJ_pR, eR_pR, kc_pR, nx_sI, kd_sI, ln_sI, gI_sI, gJ_sI, gR_sI, eI_sI, eJ_sI, eR_sI, kc_sI, nx_sJ, kd_sJ, ln_sJ, gI_sJ, gJ_sJ, gR_sJ, eI_sJ, eJ_sJ, eR_sJ, kc_sJ, nx_sR, kd_sR, ln_sR, gI_sR, gJ_sR, gR_sR, eI_sR, eJ_sR, eR_sR, kc_sR, ln_nO, eI_nO, eJ_nO, eR_nO, kc_nO, gI_nO, gI_nA, gJ_nO, gJ_nA, gR_nO, gR_nA, eI_nA, eJ_nA, eR_nA, kc_nA, nx_nO, nx_nA, kd_nO_at, kd_nA_at, ln_nA_at, el_pI, el_pJ, el_sI, el_sJ, bedp_pI, bedp_pJ, bedp_sI, bedp_sJ, nC_pI, nC_pJ, nC_sI, nC_sJ, nC_pR, nC_sR, nR_pI, nR_pJ, nR_sI, nR_sJ, nR_pR, nR_sR, nS_pI, nS_pJ, nS_sI, nS_sJ, nS_pR, nS_sR, nP_pI, nP_pJ, nP_sI, nP_sJ, nP_pR, nP_sR, nU_pI, nU_pJ, nU_sI, nU_sJ, nU_pR, nU_sR] at hj
    rcases Kb j hj with ⟨e1, e2⟩ | ⟨e1, e2, e3, e4⟩
    · exact Or.inl ⟨by simp [nx_pI, kd_pI, ln_pI, gI_pI, gJ_pI, gR_pI, eI_pI, eJ_pI, eR_pI, kc_pI, nx_pJ, kd_pJ, ln_pJ, gI_pJ, gJ_pJ, gR_pJ, eI_pJ, eJ_pJ, eR_pJ, kc_pJ, nx_pR, kd_pR, ln_pR, gI_pR, gJ_pR, gR_pR, eI_pR, eJ_pR, eR_pR, kc_pR, nx_sI, kd_sI, ln_sI, gI_sI, gJ_sI, gR_sI, eI_sI, eJ_sI, eR_sI, kc_sI, nx_sJ, kd_sJ, ln_sJ, gI_sJ, gJ_sJ, gR_sJ, eI_sJ, eJ_sJ, eR_sJ, kc_sJ, nx_sR, kd_sR, ln_sR, gI_sR, gJ_sR, gR_sR, eI_sR, eJ_sR, eR_sR, kc_sR, ln_nO, eI_nO, eJ_nO, eR_nO, kc_nO, gI_nO, gI_nA, gJ_nO, gJ_nA, gR_nO, gR_nA, eI_nA, eJ_nA, eR_nA, kc_nA, nx_nO, nx_nA, kd_nO_at, kd_nA_at, ln_nA_at, e1], by simp [nx_pI, kd_pI, ln_pI, gI_pI, gJ_pI, gR_pI, eI_pI, eJ_pI, eR_pI, kc_pI, nx_pJ, kd_pJ, ln_pJ, gI_pJ, gJ_pJ, gR_pJ, eI_pJ, eJ_pJ, eR_pJ, kc_pJ, nx_pR, kd_pR, ln_pR, gI_pR, gJ_pR, gR_pR, eI_pR, eJ_pR, eR_pR, kc_pR, nx_sI, kd_sI, ln_sI, gI_sI, gJ_sI, gR_sI, eI_sI, eJ_sI, eR_sI, kc_sI, nx_sJ, kd_sJ, ln_sJ, gI_sJ, gJ_sJ, gR_sJ, eI_sJ, eJ_sJ, eR_sJ, kc_sJ, nx_sR, kd_sR, ln_sR, gI_sR, gJ_sR, gR_sR, eI_sR, eJ_sR, eR_sR, kc_sR, ln_nO, eI_nO, eJ_nO, eR_nO, kc_nO, gI_nO, gI_nA, gJ_nO, gJ_nA, gR_nO, gR_nA, eI_nA, eJ_nA, eR_nA, kc_nA, nx_nO, nx_nA, kd_nO_at, kd_nA_at, ln_nA_at, el_pI, el_pJ, el_sI, el_sJ, bedp_pI, bedp_pJ, bedp_sI, bedp_sJ, nC_pI, nC_pJ, nC_sI, nC_sJ, nC_pR, nC_sR, nR_pI, nR_pJ, nR_sI, nR_sJ, nR_pR, nR_sR, nS_pI, nS_pJ, nS_sI, nS_sJ, nS_pR, nS_sR, nP_pI, nP_pJ, nP_sI, nP_sJ, nP_pR, nP_sR, nU_pI, nU_pJ, nU_sI, nU_sJ, nU_pR, nU_sR, e2]⟩
    · refine Or.inr ⟨by simp [nx_pI, kd_pI, ln_pI, gI_pI, gJ_pI, gR_pI, eI_pI, eJ_pI, eR_pI, kc_pI, nx_pJ, kd_pJ, ln_pJ, gI_pJ, gJ_pJ, gR_pJ, eI_pJ, eJ_pJ, eR_pJ, kc_pJ, nx_pR, kd_pR, ln_pR, gI_pR, gJ_pR, gR_pR, eI_pR, eJ_pR, eR_pR, kc_pR, nx_sI, kd_sI, ln_sI, gI_sI, gJ_sI, gR_sI, eI_sI, eJ_sI, eR_sI, kc_sI, nx_sJ, kd_sJ, ln_sJ, gI_sJ, gJ_sJ, gR_sJ, eI_sJ, eJ_sJ, eR_sJ, kc_sJ, nx_sR, kd_sR, ln_sR, gI_sR, gJ_sR, gR_sR, eI_sR, eJ_sR, eR_sR, kc_sR, ln_nO, eI_nO, eJ_nO, eR_nO, kc_nO, gI_nO, gI_nA, gJ_nO, gJ_nA, gR_nO, gR_nA, eI_nA, eJ_nA, eR_nA, kc_nA, nx_nO, nx_nA, kd_nO_at, kd_nA_at, ln_nA_at, e1], ?_, ?_, ?_⟩
      · unfold CPb1 at e2 ⊢
        simp [nx_pI, kd_pI, ln_pI, gI_pI, gJ_pI, gR_pI, eI_pI, eJ_pI, eR_pI, kc_pI, nx_pJ, kd_pJ, ln_pJ, gI_pJ, gJ_pJ, gR_pJ, eI_pJ, eJ_pJ, eR_pJ, kc_pJ, nx_pR, kd_pR, ln_pR, gI_pR, gJ_pR, gR_pR, eI_pR, eJ_pR, eR_pR, kc_pR, nx_sI, kd_sI, ln_sI, gI_sI, gJ_sI, gR_sI, eI_sI, eJ_sI, eR_sI, kc_sI, nx_sJ, kd_sJ, ln_sJ, gI_sJ, gJ_sJ, gR_sJ, eI_sJ, eJ_sJ, eR_sJ, kc_sJ, nx_sR, kd_sR, ln_sR, gI_sR, gJ_sR, gR_sR, eI_sR, eJ_sR, eR_sR, kc_sR, ln_nO, eI_nO, eJ_nO, eR_nO, kc_nO, gI_nO, gI_nA, gJ_nO, gJ_nA, gR_nO, gR_nA, eI_nA, eJ_nA, eR_nA, kc_nA, nx_nO, nx_nA, kd_nO_at, kd_nA_at, ln_nA_at, el_pI, el_pJ, el_sI, el_sJ, bedp_pI, bedp_pJ, bedp_sI, bedp_sJ, nC_pI, nC_pJ, nC_sI, nC_sJ, nC_pR, nC_sR, nR_pI, nR_pJ, nR_sI, nR_sJ, nR_pR, nR_sR, nS_pI, nS_pJ, nS_sI, nS_sJ, nS_pR, nS_sR, nP_pI, nP_pJ, nP_sI, nP_sJ, nP_pR, nP_sR, nU_pI, nU_pJ, nU_sI, nU_sJ, nU_pR, nU_sR]
        simpa using e2
      · unfold CPb2 at e3 ⊢
        by_cases c : j = i
        · subst c
          simp [nx_pI, kd_pI, ln_pI, gI_pI, gJ_pI, gR_pI, eI_pI, eJ_pI, eR_pI, kc_pI, nx_pJ, kd_pJ, ln_pJ, gI_pJ, gJ_pJ, gR_pJ, eI_pJ, eJ_pJ, eR_pJ, kc_pJ, nx_pR, kd_pR, ln_pR, gI_pR, gJ_pR, gR_pR, eI_pR, eJ_pR, eR_pR, kc_pR, nx_sI, kd_sI, ln_sI, gI_sI, gJ_sI, gR_sI, eI_sI, eJ_sI, eR_sI, kc_sI, nx_sJ, kd_sJ, ln_sJ, gI_sJ, gJ_sJ, gR_sJ, eI_sJ, eJ_sJ, eR_sJ, kc_sJ, nx_sR, kd_sR, ln_sR, gI_sR, gJ_sR, gR_sR, eI_sR, eJ_sR, eR_sR, kc_sR, ln_nO, eI_nO, eJ_nO, eR_nO, kc_nO, gI_nO, gI_nA, gJ_nO, gJ_nA, gR_nO, gR_nA, eI_nA, eJ_nA, eR_nA, kc_nA, nx_nO, nx_nA, kd_nO_at, kd_nA_at, ln_nA_at, el_pI, el_pJ, el_sI, el_sJ, bedp_pI, bedp_pJ, bedp_sI, bedp_sJ, nC_pI, nC_pJ, nC_sI, nC_sJ, nC_pR, nC_sR, nR_pI, nR_pJ, nR_sI, nR_sJ, nR_pR, nR_sR, nS_pI, nS_pJ, nS_sI, nS_sJ, nS_pR, nS_sR, nP_pI, nP_pJ, nP_sI, nP_sJ, nP_pR, nP_sR, nU_pI, nU_pJ, nU_sI, nU_sJ, nU_pR, nU_sR, bedp]
          simp [e3]
        · simp [nx_pI, kd_pI, ln_pI, gI_pI, gJ_pI, gR_pI, eI_pI, eJ_pI, eR_pI, kc_pI, nx_pJ, kd_pJ, ln_pJ, gI_pJ, gJ_pJ, gR_pJ, eI_pJ, eJ_pJ, eR_pJ, kc_pJ, nx_pR, kd_pR, ln_pR, gI_pR, gJ_pR, gR_pR, eI_pR, eJ_pR, eR_pR, kc_pR, nx_sI, kd_sI, ln_sI, gI_sI, gJ_sI, gR_sI, eI_sI, eJ_sI, eR_sI, kc_sI, nx_sJ, kd_sJ, ln_sJ, gI_sJ, gJ_sJ, gR_sJ, eI_sJ, eJ_sJ, eR_sJ, kc_sJ, nx_sR, kd_sR, ln_sR, gI_sR, gJ_sR, gR_sR, eI_sR, eJ_sR, eR_sR, kc_sR, ln_nO, eI_nO, eJ_nO, eR_nO, kc_nO, gI_nO, gI_nA, gJ_nO, gJ_nA, gR_nO, gR_nA, eI_nA, eJ_nA, eR_nA, kc_nA, nx_nO, nx_nA, kd_nO_at, kd_nA_at, ln_nA_at, el_pI, el_pJ, el_sI, el_sJ, bedp_pI, bedp_pJ, bedp_sI, bedp_sJ, nC_pI, nC_pJ, nC_sI, nC_sJ, nC_pR, nC_sR, nR_pI, nR_pJ, nR_sI, nR_sJ, nR_pR, nR_sR, nS_pI, nS_pJ, nS_sI, nS_sJ, nS_pR, nS_sR, nP_pI, nP_pJ, nP_sI, nP_sJ, nP_pR, nP_sR, nU_pI, nU_pJ, nU_sI, nU_sJ, nU_pR, nU_sR, hne j hj e1 c, c]
          simpa using e3
      · unfold CPb3 at e4 ⊢
        intro y' hy'
        have e5 := e4 y' hy'
        by_cases c : j = i
        · subst c
          by_cases cy : y' = y
          · subst cy
            simp [nx_pI, kd_pI, ln_pI, gI_pI, gJ_pI, gR_pI, eI_pI, eJ_pI, eR_pI, kc_pI, nx_pJ, kd_pJ, ln_pJ, gI_pJ, gJ_pJ, gR_pJ, eI_pJ, eJ_pJ, eR_pJ, kc_pJ, nx_pR, kd_pR, ln_pR, gI_pR, gJ_pR, gR_pR, eI_pR, eJ_pR, eR_pR, kc_pR, nx_sI, kd_sI, ln_sI, gI_sI, gJ_sI, gR_sI, eI_sI, eJ_sI, eR_sI, kc_sI, nx_sJ, kd_sJ, ln_sJ, gI_sJ, gJ_sJ, gR_sJ, eI_sJ, eJ_sJ, eR_sJ, kc_sJ, nx_sR, kd_sR, ln_sR, gI_sR, gJ_sR, gR_sR, eI_sR, eJ_sR, eR_sR, kc_sR, ln_nO, eI_nO, eJ_nO, eR_nO, kc_nO, gI_nO, gI_nA, gJ_nO, gJ_nA, gR_nO, gR_nA, eI_nA, eJ_nA, eR_nA, kc_nA, nx_nO, nx_nA, kd_nO_at, kd_nA_at, ln_nA_at, el_pI, el_pJ, el_sI, el_sJ, bedp_pI, bedp_pJ, bedp_sI, bedp_sJ, nC_pI, nC_pJ, nC_sI, nC_sJ, nC_pR, nC_sR, nR_pI, nR_pJ, nR_sI, nR_sJ, nR_pR, nR_sR, nS_pI, nS_pJ, nS_sI, nS_sJ, nS_pR, nS_sR, nP_pI, nP_pJ, nP_sI, nP_sJ, nP_pR, nP_sR, nU_pI, nU_pJ, nU_sI, nU_sJ, nU_pR, nU_sR, bedp]
            rw [shr_bit (by omega), bt_or, bt_shl1 (by omega) (by omega)]
            simp
          · have : ¬ 11 * j + y' = 11 * j + y := by omega
            simp [nx_pI, kd_pI, ln_pI, gI_pI, gJ_pI, gR_pI, eI_pI, eJ_pI, eR_pI, kc_pI, nx_pJ, kd_pJ, ln_pJ, gI_pJ, gJ_pJ, gR_pJ, eI_pJ, eJ_pJ, eR_pJ, kc_pJ, nx_pR, kd_pR, ln_pR, gI_pR, gJ_pR, gR_pR, eI_pR, eJ_pR, eR_pR, kc_pR, nx_sI, kd_sI, ln_sI, gI_sI, gJ_sI, gR_sI, eI_sI, eJ_sI, eR_sI, kc_sI, nx_sJ, kd_sJ, ln_sJ, gI_sJ, gJ_sJ, gR_sJ, eI_sJ, eJ_sJ, eR_sJ, kc_sJ, nx_sR, kd_sR, ln_sR, gI_sR, gJ_sR, gR_sR, eI_sR, eJ_sR, eR_sR, kc_sR, ln_nO, eI_nO, eJ_nO, eR_nO, kc_nO, gI_nO, gI_nA, gJ_nO, gJ_nA, gR_nO, gR_nA, eI_nA, eJ_nA, eR_nA, kc_nA, nx_nO, nx_nA, kd_nO_at, kd_nA_at, ln_nA_at, el_pI, el_pJ, el_sI, el_sJ, bedp_pI, bedp_pJ, bedp_sI, bedp_sJ, nC_pI, nC_pJ, nC_sI, nC_sJ, nC_pR, nC_sR, nR_pI, nR_pJ, nR_sI, nR_sJ, nR_pR, nR_sR, nS_pI, nS_pJ, nS_sI, nS_sJ, nS_pR, nS_sR, nP_pI, nP_pJ, nP_sI, nP_sJ, nP_pR, nP_sR, nU_pI, nU_pJ, nU_sI, nU_sJ, nU_pR, nU_sR, bedp, cy]
            rw [shr_bit (by omega)] at e5 ⊢
            rw [bt_or, bt_shl1 (by omega) (by omega), ← e5]
            simp [cy]
        · have : ¬ 11 * j + y' = 11 * i + y := by omega
          simp [nx_pI, kd_pI, ln_pI, gI_pI, gJ_pI, gR_pI, eI_pI, eJ_pI, eR_pI, kc_pI, nx_pJ, kd_pJ, ln_pJ, gI_pJ, gJ_pJ, gR_pJ, eI_pJ, eJ_pJ, eR_pJ, kc_pJ, nx_pR, kd_pR, ln_pR, gI_pR, gJ_pR, gR_pR, eI_pR, eJ_pR, eR_pR, kc_pR, nx_sI, kd_sI, ln_sI, gI_sI, gJ_sI, gR_sI, eI_sI, eJ_sI, eR_sI, kc_sI, nx_sJ, kd_sJ, ln_sJ, gI_sJ, gJ_sJ, gR_sJ, eI_sJ, eJ_sJ, eR_sJ, kc_sJ, nx_sR, kd_sR, ln_sR, gI_sR, gJ_sR, gR_sR, eI_sR, eJ_sR, eR_sR, kc_sR, ln_nO, eI_nO, eJ_nO, eR_nO, kc_nO, gI_nO, gI_nA, gJ_nO, gJ_nA, gR_nO, gR_nA, eI_nA, eJ_nA, eR_nA, kc_nA, nx_nO, nx_nA, kd_nO_at, kd_nA_at, ln_nA_at, el_pI, el_pJ, el_sI, el_sJ, bedp_pI, bedp_pJ, bedp_sI, bedp_sJ, nC_pI, nC_pJ, nC_sI, nC_sJ, nC_pR, nC_sR, nR_pI, nR_pJ, nR_sI, nR_sJ, nR_pR, nR_sR, nS_pI, nS_pJ, nS_sI, nS_sJ, nS_pR, nS_sR, nP_pI, nP_pJ, nP_sI, nP_sJ, nP_pR, nP_sR, nU_pI, nU_pJ, nU_sI, nU_sJ, nU_pR, nU_sR, hne j hj e1 c, c, this]
          simpa using e5
  · intro j hj
    obtain ⟨e1, e2, e3, e4⟩ := Kx j hj
    have e1i := (Kx i (by have : nC h x ≤ 12 := CP.nC_le ⟨Kw, Kn, Ko, Kl, Kc, Kv, Kb, Kx, Kr, Kq, Ks, Kp, Ka, Ku⟩ |>.2; omega)).1
    refine ⟨?_, ?_, ?_, ?_⟩
    · obtain ⟨q1, q2, q3, q4, q5, q6, q7, q8, q9, q10, q11, q12⟩ := e1
      refine ⟨?_, ?_, ?_, ?_, ?_, ?_, ?_, ?_, ?_, ?_, ?_, ?_⟩
      all_goals simp [nx_pI, kd_pI, ln_pI, gI_pI, gJ_pI, gR_pI, eI_pI, eJ_pI, eR_pI, kc_pI, nx_pJ, kd_pJ, ln_pJ, gI_pJ, gJ_pJ, gR_pJ, eI_pJ, eJ_pJ, eR_pJ, kc_pJ, nx_pR, kd_pR, ln_pR, gI_pR, gJ_pR, gR_pR, eI_pR, eJ_pR, eR_pR, kc_pR, nx_sI, kd_sI, ln_sI, gI_sI, gJ_sI, gR_sI, eI_sI, eJ_sI, eR_sI, kc_sI, nx_sJ, kd_sJ, ln_sJ, gI_sJ, gJ_sJ, gR_sJ, eI_sJ, eJ_sJ, eR_sJ, kc_sJ, nx_sR, kd_sR, ln_sR, gI_sR, gJ_sR, gR_sR, eI_sR, eJ_sR, eR_sR, kc_sR, ln_nO, eI_nO, eJ_nO, eR_nO, kc_nO, gI_nO, gI_nA, gJ_nO, gJ_nA, gR_nO, gR_nA, eI_nA, eJ_nA, eR_nA, kc_nA, nx_nO, nx_nA, kd_nO_at, kd_nA_at, ln_nA_at]
      all_goals first | assumption | skip
      · by_cases c : j = i
        · simp [c]; exact bd_care e1i.2.2.2.2.2.1
        · simp [c]; exact q6
      · by_cases c : j = i
        · simp [c]; exact ⟨by decide, by decide⟩
        · simp [c]; exact q7
      · intro y' hy'
        by_cases c : 11 * j + y' = 11 * i + y
        · simp [c]
        · simp [c]; exact q12 y' hy'
    · unfold CPw0 at e2 ⊢
      by_cases c : j = i
      · subst c
        simp [nx_pI, kd_pI, ln_pI, gI_pI, gJ_pI, gR_pI, eI_pI, eJ_pI, eR_pI, kc_pI, nx_pJ, kd_pJ, ln_pJ, gI_pJ, gJ_pJ, gR_pJ, eI_pJ, eJ_pJ, eR_pJ, kc_pJ, nx_pR, kd_pR, ln_pR, gI_pR, gJ_pR, gR_pR, eI_pR, eJ_pR, eR_pR, kc_pR, nx_sI, kd_sI, ln_sI, gI_sI, gJ_sI, gR_sI, eI_sI, eJ_sI, eR_sI, kc_sI, nx_sJ, kd_sJ, ln_sJ, gI_sJ, gJ_sJ, gR_sJ, eI_sJ, eJ_sJ, eR_sJ, kc_sJ, nx_sR, kd_sR, ln_sR, gI_sR, gJ_sR, gR_sR, eI_sR, eJ_sR, eR_sR, kc_sR, ln_nO, eI_nO, eJ_nO, eR_nO, kc_nO, gI_nO, gI_nA, gJ_nO, gJ_nA, gR_nO, gR_nA, eI_nA, eJ_nA, eR_nA, kc_nA, nx_nO, nx_nA, kd_nO_at, kd_nA_at, ln_nA_at, gi]
      · simp [nx_pI, kd_pI, ln_pI, gI_pI, gJ_pI, gR_pI, eI_pI, eJ_pI, eR_pI, kc_pI, nx_pJ, kd_pJ, ln_pJ, gI_pJ, gJ_pJ, gR_pJ, eI_pJ, eJ_pJ, eR_pJ, kc_pJ, nx_pR, kd_pR, ln_pR, gI_pR, gJ_pR, gR_pR, eI_pR, eJ_pR, eR_pR, kc_pR, nx_sI, kd_sI, ln_sI, gI_sI, gJ_sI, gR_sI, eI_sI, eJ_sI, eR_sI, kc_sI, nx_sJ, kd_sJ, ln_sJ, gI_sJ, gJ_sJ, gR_sJ, eI_sJ, eJ_sJ, eR_sJ, kc_sJ, nx_sR, kd_sR, ln_sR, gI_sR, gJ_sR, gR_sR, eI_sR, eJ_sR, eR_sR, kc_sR, ln_nO, eI_nO, eJ_nO, eR_nO, kc_nO, gI_nO, gI_nA, gJ_nO, gJ_nA, gR_nO, gR_nA, eI_nA, eJ_nA, eR_nA, kc_nA, nx_nO, nx_nA, kd_nO_at, kd_nA_at, ln_nA_at, c]; simpa using e2
    · simp [nx_pI, kd_pI, ln_pI, gI_pI, gJ_pI, gR_pI, eI_pI, eJ_pI, eR_pI, kc_pI, nx_pJ, kd_pJ, ln_pJ, gI_pJ, gJ_pJ, gR_pJ, eI_pJ, eJ_pJ, eR_pJ, kc_pJ, nx_pR, kd_pR, ln_pR, gI_pR, gJ_pR, gR_pR, eI_pR, eJ_pR, eR_pR, kc_pR, nx_sI, kd_sI, ln_sI, gI_sI, gJ_sI, gR_sI, eI_sI, eJ_sI, eR_sI, kc_sI, nx_sJ, kd_sJ, ln_sJ, gI_sJ, gJ_sJ, gR_sJ, eI_sJ, eJ_sJ, eR_sJ, kc_sJ, nx_sR, kd_sR, ln_sR, gI_sR, gJ_sR, gR_sR, eI_sR, eJ_sR, eR_sR, kc_sR, ln_nO, eI_nO, eJ_nO, eR_nO, kc_nO, gI_nO, gI_nA, gJ_nO, gJ_nA, gR_nO, gR_nA, eI_nA, eJ_nA, eR_nA, kc_nA, nx_nO, nx_nA, kd_nO_at, kd_nA_at, ln_nA_at]; simpa using e3
    · have : nC h x ≤ j → eI h (x + 23 + 6) j = 0 := e4
      simp [nx_pI, kd_pI, ln_pI, gI_pI, gJ_pI, gR_pI, eI_pI, eJ_pI, eR_pI, kc_pI, nx_pJ, kd_pJ, ln_pJ, gI_pJ, gJ_pJ, gR_pJ, eI_pJ, eJ_pJ, eR_pJ, kc_pJ, nx_pR, kd_pR, ln_pR, gI_pR, gJ_pR, gR_pR, eI_pR, eJ_pR, eR_pR, kc_pR, nx_sI, kd_sI, ln_sI, gI_sI, gJ_sI, gR_sI, eI_sI, eJ_sI, eR_sI, kc_sI, nx_sJ, kd_sJ, ln_sJ, gI_sJ, gJ_sJ, gR_sJ, eI_sJ, eJ_sJ, eR_sJ, kc_sJ, nx_sR, kd_sR, ln_sR, gI_sR, gJ_sR, gR_sR, eI_sR, eJ_sR, eR_sR, kc_sR, ln_nO, eI_nO, eJ_nO, eR_nO, kc_nO, gI_nO, gI_nA, gJ_nO, gJ_nA, gR_nO, gR_nA, eI_nA, eJ_nA, eR_nA, kc_nA, nx_nO, nx_nA, kd_nO_at, kd_nA_at, ln_nA_at, el_pI, el_pJ, el_sI, el_sJ, bedp_pI, bedp_pJ, bedp_sI, bedp_sJ, nC_pI, nC_pJ, nC_sI, nC_sJ, nC_pR, nC_sR, nR_pI, nR_pJ, nR_sI, nR_sJ, nR_pR, nR_sR, nS_pI, nS_pJ, nS_sI, nS_sJ, nS_pR, nS_sR, nP_pI, nP_pJ, nP_sI, nP_sJ, nP_pR, nP_sR, nU_pI, nU_pJ, nU_sI, nU_sJ, nU_pR, nU_sR]
      exact this
theorem pr_care (H : CP h x) {a b : Int32} (hR : ∀ h', CP h' x → R h') : CtI M_X0_care [rV x, iV a, iV b] h k n (fun r h1 => CtI M_X3_care [rV (x + 23), iV a, iV b] h1 0 0 (fun r2 h2 => r = r2 ∧ R h2) E) E := by
  refine r_wfH fun wf => ?_
  obtain ⟨p1, p2, ⟨z1, z2⟩ | ⟨i, hi, rfl, z0, z1, z2, z3, z4, z5, z6, z7, z8, z9⟩⟩ := H.bedc wf a
  · refine ct_X0_care H.xw (by simp [P_X0_care, p1, z1]) ?_
    rw [show F_X0_care h x a b = (0, h) by simp [F_X0_care, z1]]
    refine ct_X3_care H.mw (by simp [P_X3_care, p2, z2]) ?_
    rw [show F_X3_care h (x + 23) a b = (0, h) by simp [F_X3_care, z2]]
    exact ⟨rfl, hR _ H⟩
  · have hn := H.nC_le.2
    by_cases c1 : isin b 0 10 = true
    · obtain ⟨d1, d2⟩ := isin_nI (m := 10) (by decide) c1
      obtain ⟨y, hy, rfl⟩ : ∃ y, y < 11 ∧ b = nI y := ⟨ix b, by omega, d1⟩
      have e1 : (11 : Int32) * nI i + nI y = nI (11 * i + y) := by
        unfold nI; rw [Int32.ofNat_add, Int32.ofNat_mul]; rfl
      have e2 : ix (nI (11 * i + y)) = 11 * i + y := ix_nI (by omega)
      have e3 : vp_in (nI (11 * i + y)) 132 := by rw [vin_iff, nI_toInt (by omega)]; omega
      have e4 := z9 y hy
      have e5 : gI h 305 (bedp h x i) = eI h (x + 23 + 12) i := z8.1
      by_cases c2 : eI h (x + 23 + 18) (11 * i + y) = gI h 1000 (x + 23)
      · have c3 := e4.mpr c2
        refine ct_X0_care H.xw (by simp [P_X0_care, p1, z2, z5, P_X6_isCaredBy]) ?_
        rw [show F_X0_care h x (nI i) (nI y) = (0, h) by simp [F_X0_care, z2, V_X6_isCaredBy, c3]]
        refine ct_X3_care H.mw (by simp [P_X3_care, p2, e1, e2, e3, c2]) ?_
        rw [show F_X3_care h (x + 23) (nI i) (nI y) = (0, h) by simp [F_X3_care, e1, e2, c2]]
        exact ⟨rfl, hR _ H⟩
      · have c3 : ¬ shr (gI h 311 (bedp h x i)) (nI y) &&& 1 = 1 := fun z => c2 (e4.mp z)
        refine ct_X0_care H.xw (by simp [P_X0_care, p1, z2, z5, P_X6_isCaredBy]) ?_
        have hm : MW (pI (pI (pI h 311 (bedp h x i) (gI h 311 (bedp h x i) ||| shl 1 (nI y))) 305 (bedp h x i) (imax 0 (eI h (x + 23 + 12) i - 30))) 306 (bedp h x i) 0) (x + 23) := MW_pI (MW_pI (MW_pI H.mw))
        rw [show F_X0_care h x (nI i) (nI y) = (1, pI (pI (pI h 311 (bedp h x i) (gI h 311 (bedp h x i) ||| shl 1 (nI y))) 305 (bedp h x i) (imax 0 (eI h (x + 23 + 12) i - 30))) 306 (bedp h x i) 0) by simp [F_X0_care, z2, z4, c1, V_X6_isCaredBy, c3, e5, nx_pI, kd_pI, ln_pI, gI_pI, gJ_pI, gR_pI, eI_pI, eJ_pI, eR_pI, kc_pI, nx_pJ, kd_pJ, ln_pJ, gI_pJ, gJ_pJ, gR_pJ, eI_pJ, eJ_pJ, eR_pJ, kc_pJ, nx_pR, kd_pR, ln_pR, gI_pR, gJ_pR, gR_pR, eI_pR, eJ_pR, eR_pR, kc_pR, nx_sI, kd_sI, ln_sI, gI_sI, gJ_sI, gR_sI, eI_sI, eJ_sI, eR_sI, kc_sI, nx_sJ, kd_sJ, ln_sJ, gI_sJ, gJ_sJ, gR_sJ, eI_sJ, eJ_sJ, eR_sJ, kc_sJ, nx_sR, kd_sR, ln_sR, gI_sR, gJ_sR, gR_sR, eI_sR, eJ_sR, eR_sR, kc_sR, ln_nO, eI_nO, eJ_nO, eR_nO, kc_nO, gI_nO, gI_nA, gJ_nO, gJ_nA, gR_nO, gR_nA, eI_nA, eJ_nA, eR_nA, kc_nA, nx_nO, nx_nA, kd_nO_at, kd_nA_at, ln_nA_at]]
        generalize hg : pI (pI (pI h 311 (bedp h x i) (gI h 311 (bedp h x i) ||| shl 1 (nI y))) 305 (bedp h x i) (imax 0 (eI h (x + 23 + 12) i - 30))) 306 (bedp h x i) 0 = h1 at hm ⊢
        have g1 : eI h1 = eI h := by rw [← hg]; simp [nx_pI, kd_pI, ln_pI, gI_pI, gJ_pI, gR_pI, eI_pI, eJ_pI, eR_pI, kc_pI, nx_pJ, kd_pJ, ln_pJ, gI_pJ, gJ_pJ, gR_pJ, eI_pJ, eJ_pJ, eR_pJ, kc_pJ, nx_pR, kd_pR, ln_pR, gI_pR, gJ_pR, gR_pR, eI_pR, eJ_pR, eR_pR, kc_pR, nx_sI, kd_sI, ln_sI, gI_sI, gJ_sI, gR_sI, eI_sI, eJ_sI, eR_sI, kc_sI, nx_sJ, kd_sJ, ln_sJ, gI_sJ, gJ_sJ, gR_sJ, eI_sJ, eJ_sJ, eR_sJ, kc_sJ, nx_sR, kd_sR, ln_sR, gI_sR, gJ_sR, gR_sR, eI_sR, eJ_sR, eR_sR, kc_sR, ln_nO, eI_nO, eJ_nO, eR_nO, kc_nO, gI_nO, gI_nA, gJ_nO, gJ_nA, gR_nO, gR_nA, eI_nA, eJ_nA, eR_nA, kc_nA, nx_nO, nx_nA, kd_nO_at, kd_nA_at, ln_nA_at]
        have g2 : gI h1 1001 (x + 23) = gI h 1001 (x + 23) := by rw [← hg]; simp [nx_pI, kd_pI, ln_pI, gI_pI, gJ_pI, gR_pI, eI_pI, eJ_pI, eR_pI, kc_pI, nx_pJ, kd_pJ, ln_pJ, gI_pJ, gJ_pJ, gR_pJ, eI_pJ, eJ_pJ, eR_pJ, kc_pJ, nx_pR, kd_pR, ln_pR, gI_pR, gJ_pR, gR_pR, eI_pR, eJ_pR, eR_pR, kc_pR, nx_sI, kd_sI, ln_sI, gI_sI, gJ_sI, gR_sI, eI_sI, eJ_sI, eR_sI, kc_sI, nx_sJ, kd_sJ, ln_sJ, gI_sJ, gJ_sJ, gR_sJ, eI_sJ, eJ_sJ, eR_sJ, kc_sJ, nx_sR, kd_sR, ln_sR, gI_sR, gJ_sR, gR_sR, eI_sR, eJ_sR, eR_sR, kc_sR, ln_nO, eI_nO, eJ_nO, eR_nO, kc_nO, gI_nO, gI_nA, gJ_nO, gJ_nA, gR_nO, gR_nA, eI_nA, eJ_nA, eR_nA, kc_nA, nx_nO, nx_nA, kd_nO_at, kd_nA_at, ln_nA_at]
        have g3 : gI h1 1000 (x + 23) = gI h 1000 (x + 23) := by rw [← hg]; simp [nx_pI, kd_pI, ln_pI, gI_pI, gJ_pI, gR_pI, eI_pI, eJ_pI, eR_pI, kc_pI, nx_pJ, kd_pJ, ln_pJ, gI_pJ, gJ_pJ, gR_pJ, eI_pJ, eJ_pJ, eR_pJ, kc_pJ, nx_pR, kd_pR, ln_pR, gI_pR, gJ_pR, gR_pR, eI_pR, eJ_pR, eR_pR, kc_pR, nx_sI, kd_sI, ln_sI, gI_sI, gJ_sI, gR_sI, eI_sI, eJ_sI, eR_sI, kc_sI, nx_sJ, kd_sJ, ln_sJ, gI_sJ, gJ_sJ, gR_sJ, eI_sJ, eJ_sJ, eR_sJ, kc_sJ, nx_sR, kd_sR, ln_sR, gI_sR, gJ_sR, gR_sR, eI_sR, eJ_sR, eR_sR, kc_sR, ln_nO, eI_nO, eJ_nO, eR_nO, kc_nO, gI_nO, gI_nA, gJ_nO, gJ_nA, gR_nO, gR_nA, eI_nA, eJ_nA, eR_nA, kc_nA, nx_nO, nx_nA, kd_nO_at, kd_nA_at, ln_nA_at]
        have p2' : P_X3_isBed h1 (x + 23) (nI i) := by unfold P_X3_isBed at p2 ⊢; rw [g2]; exact p2
        have z3' : V_X3_isBed h1 (x + 23) (nI i) = 1 := by unfold V_X3_isBed at z3 ⊢; rw [g2, g1]; exact z3
        refine ct_X3_care hm (by simp [P_X3_care, p2', z3', z1, e1, e2, e3]) ?_
        rw [show F_X3_care h1 (x + 23) (nI i) (nI y) = (1, sI (sI (sI h1 (x + 23 + 18) (11 * i + y) (gI h 1000 (x + 23))) (x + 23 + 12) i (imax 0 (eI h (x + 23 + 12) i - 30))) (x + 23 + 13) i 0) by simp [F_X3_care, z3', z0, c1, e1, e2, g1, g3, c2, nx_pI, kd_pI, ln_pI, gI_pI, gJ_pI, gR_pI, eI_pI, eJ_pI, eR_pI, kc_pI, nx_pJ, kd_pJ, ln_pJ, gI_pJ, gJ_pJ, gR_pJ, eI_pJ, eJ_pJ, eR_pJ, kc_pJ, nx_pR, kd_pR, ln_pR, gI_pR, gJ_pR, gR_pR, eI_pR, eJ_pR, eR_pR, kc_pR, nx_sI, kd_sI, ln_sI, gI_sI, gJ_sI, gR_sI, eI_sI, eJ_sI, eR_sI, kc_sI, nx_sJ, kd_sJ, ln_sJ, gI_sJ, gJ_sJ, gR_sJ, eI_sJ, eJ_sJ, eR_sJ, kc_sJ, nx_sR, kd_sR, ln_sR, gI_sR, gJ_sR, gR_sR, eI_sR, eJ_sR, eR_sR, kc_sR, ln_nO, eI_nO, eJ_nO, eR_nO, kc_nO, gI_nO, gI_nA, gJ_nO, gJ_nA, gR_nO, gR_nA, eI_nA, eJ_nA, eR_nA, kc_nA, nx_nO, nx_nA, kd_nO_at, kd_nA_at, ln_nA_at]]
        rw [← hg]
        exact ⟨rfl, hR _ (cp_care H hi z6 hy)⟩
    · have c1 : isin b 0 10 = false := by simpa using c1
      refine ct_X0_care H.xw (by simp [P_X0_care, p1, c1]) ?_
      rw [show F_X0_care h x (nI i) b = (0, h) by simp [F_X0_care, c1]]
      refine ct_X3_care H.mw (by simp [P_X3_care, p2, c1]) ?_
      rw [show F_X3_care h (x + 23) (nI i) b = (0, h) by simp [F_X3_care, c1]]
      exact ⟨rfl, hR _ H⟩
end
