/-! pairs: treat, below, prove, close -/
set_option maxRecDepth 100000
section
variable {h : Hp} {x : Nat} {E : Nat → Hp → Prop} {k n : Nat} {R : Hp → Prop}
theorem bd_salt {v : Int32} (hv : bd v 0 100) : bd (imin 100 (v + 10)) 0 100 := by
  have h1 := hv.1
  have h2 := hv.2
  unfold bd
  rw [imin_toInt, i32_add (by rw [toI_10]; omega) (by rw [toI_10]; omega), toI_100, toI_10]
  omega
theorem cp_salt (H : CP h x) {i : Nat} {v : Int32} (hi : i < nC h x) (gi : eI h (x + 23 + 6) i = 1) (hv : bd v 0 100) : CP (sI (pI h 307 (bedp h x i) v) (x + 23 + 14) i v) x := by
  have hne := fun j hj gj c => H.bed_ne (j := j) hi gi hj gj c
  obtain ⟨Kw, Kn, Ko, Kl, Kc, Kv, Kb, Kx, Kr, Kq, Ks, Kp, Ka, Ku⟩ := H; refine ⟨(by with_reducible (repeat (first | assumption | refine CPw_pI ?_ | refine CPw_pJ ?_ | refine CPw_pR (by decide) ?_ | refine CPw_sJ ?_ | refine CPw_sM ?_))), (by with_reducible (repeat (first | assumption | refine CPn_pI (by decide) ?_ | refine CPn_pJ (by decide) ?_ | refine CPn_pR ?_ | refine CPn_sJ ?_ | refine CPn_sM ?_))), (by with_reducible (repeat (first | assumption | refine CPo_pI (by decide) ?_ | refine CPo_pJ ?_ | refine CPo_pR ?_ | refine CPo_sJ ?_ | refine CPo_sM ?_))), (by with_reducible (repeat (first | assumption | refine CPl_pI (by decide) ?_ | refine CPl_pJ ?_ | refine CPl_pR (by decide) ?_ | refine CPl_sJ ?_ | refine CPl_sM ?_))), (by with_reducible (repeat (first | assumption | refine CPc_pI (by decide) ?_ | refine CPc_pJ ?_ | refine CPc_pR (by decide) ?_ | refine CPc_sJ (by decide) ?_ | refine CPc_sM (by decide) ?_ | refine CPc_sX (by decide) ?_))), (by with_reducible (repeat (first | assumption | refine CPv_pI (by decide) ?_ | refine CPv_pJ ?_ | refine CPv_pR ?_ | refine CPv_sJ ?_ | refine CPv_sM (by decide) ?_ | refine CPv_sX (by decide) ?_))), ?_, ?_, (by with_reducible (repeat (first | assumption | refine CPr_pI (by decide) ?_ | refine CPr_pJ ?_ | refine CPr_pR (by decide) ?_ | refine CPr_sJ ?_ | refine CPr_sM (by decide) ?_ | refine CPr_sX (by decide) ?_))), (by with_reducible (repeat (first | assumption | refine CPq_pI (by decide) ?_ | refine CPq_pJ ?_ | refine CPq_pR (by decide) ?_ | refine CPq_sJ ?_ | refine CPq_sM (by decide) ?_ | refine CPq_sX (by decide) ?_))), (by with_reducible (repeat (first | assumption | refine CPs_pI (by decide) ?_ | refine CPs_pJ (by decide) ?_ | refine CPs_pR (by decide) ?_ | refine CPs_sJ (by decide) ?_ | refine CPs_sM (by decide) ?_ | refine CPs_sX (by decide) ?_))), (by with_reducible (repeat (first | assumption | refine CPp_pI (by decide) ?_ | refine CPp_pJ ?_ | refine CPp_pR (by decide) ?_ | refine CPp_sJ ?_ | refine CPp_sM (by decide) ?_ | refine CPp_sX (by decide) ?_))), (by with_reducible (repeat (first | assumption | refine CPa_pI (by decide) ?_ | refine CPa_pJ ?_ | refine CPa_pR ?_ | refine CPa_sJ (by decide) ?_ | refine CPa_sM (by decide) ?_ | refine CPa_sX (by decide) ?_))), (by with_reducible (repeat (first | assumption | refine CPu_pI (by decide) ?_ | refine CPu_pJ ?_ | refine CPu_pR (by decide) ?_ | refine CPu_sJ ?_ | refine CPu_sM (by decide) (by decide) ?_ | refine CPu_sX (by decide) (by decide) (by decide) ?_)))⟩
  · intro j hj
    simp [nx_pI, kd_pI, ln_pI, gI_pI, gJ_pI, gR_pI, eI_pI, eJ_pI, eR_pI, kc_pI, nx_pJ, kd_pJ, ln_pJ, gI_pJ, gJ_pJ, gR_pJ, eI_pJ, eJ_pJ, eR_pJ, kc_pJ, nx_pR, kd_pR, ln_pR, gI_pR, gJ_pR, gR_pR, eI_pR, eJ_pR, eR_pR, kc_pR, nx_sI, kd_sI, ln_sI, gI_sI, gJ_sI, gR_sI, eI_sI, eJ_sI, eR_sI, kc_sI, nx_sJ, kd_sJ, ln_sJ, gI_sJ, gJ_sJ, gR_sJ, eI_sJ, eJ_sJ, eR_sJ, kc_sJ, nx_sR, kd_sR, ln_sR, gI_sR, gJ_sR, gR_sR, eI_sR, eJ_sR, eR_sR, kc_sR, ln_nO, eI_nO, eJ_nO, eR_nO, kc_nO, gI_nO, gI_nA, gJ_nO, gJ_nA, gR_nO, gR_nA, eI_nA, eJ_nA, eR_nA, kc_nA, nx_nO, nx_nA, kd_nO_at, kd_nA_at, ln_nA_at, el_pI, el_pJ, el_sI, el_sJ, bedp_pI, bedp_pJ, bedp_sI, bedp_sJ, nC_pI, nC_pJ, nC_sI, nC_sJ, nC_pR, nC_sR, nR_pI, nR_pJ, nR_sI, nR_sJ, nR_pR, nR_sR, nS_pI, nS_pJ, nS_sI, nS_sJ, nS_pR, nS_sR, nP_pI, nP_pJ, nP_sI, nP_sJ, nP_pR, nP_sR, nU_pI, nU_pJ, nU_sI, nU_sJ, nU_pR, nU_sR] at hj
    rcases Kb j hj with ⟨e1, e2⟩ | ⟨e1, e2, e3, e4⟩
    · exact Or.inl ⟨by simp [nx_pI, kd_pI, ln_pI, gI_pI, gJ_pI, gR_pI, eI_pI, eJ_pI, eR_pI, kc_pI, nx_pJ, kd_pJ, ln_pJ, gI_pJ, gJ_pJ, gR_pJ, eI_pJ, eJ_pJ, eR_pJ, kc_pJ, nx_pR, kd_pR, ln_pR, gI_pR, gJ_pR, gR_pR, eI_pR, eJ_pR, eR_pR, kc_pR, nx_sI, kd_sI, ln_sI, gI_sI, gJ_sI, gR_sI, eI_sI, eJ_sI, eR_sI, kc_sI, nx_sJ, kd_sJ, ln_sJ, gI_sJ, gJ_sJ, gR_sJ, eI_sJ, eJ_sJ, eR_sJ, kc_sJ, nx_sR, kd_sR, ln_sR, gI_sR, gJ_sR, gR_sR, eI_sR, eJ_sR, eR_sR, kc_sR, ln_nO, eI_nO, eJ_nO, eR_nO, kc_nO, gI_nO, gI_nA, gJ_nO, gJ_nA, gR_nO, gR_nA, eI_nA, eJ_nA, eR_nA, kc_nA, nx_nO, nx_nA, kd_nO_at, kd_nA_at, ln_nA_at, e1], by simp [nx_pI, kd_pI, ln_pI, gI_pI, gJ_pI, gR_pI, eI_pI, eJ_pI, eR_pI, kc_pI, nx_pJ, kd_pJ, ln_pJ, gI_pJ, gJ_pJ, gR_pJ, eI_pJ, eJ_pJ, eR_pJ, kc_pJ, nx_pR, kd_pR, ln_pR, gI_pR, gJ_pR, gR_pR, eI_pR, eJ_pR, eR_pR, kc_pR, nx_sI, kd_sI, ln_sI, gI_sI, gJ_sI, gR_sI, eI_sI, eJ_sI, eR_sI, kc_sI, nx_sJ, kd_sJ, ln_sJ, gI_sJ, gJ_sJ, gR_sJ, eI_sJ, eJ_sJ, eR_sJ, kc_sJ, nx_sR, kd_sR, ln_sR, gI_sR, gJ_sR, gR_sR, eI_sR, eJ_sR, eR_sR, kc_sR, ln_nO, eI_nO, eJ_nO, eR_nO, kc_nO, gI_nO, gI_nA, gJ_nO, gJ_nA, gR_nO, gR_nA, eI_nA, eJ_nA, eR_nA, kc_nA, nx_nO, nx_nA, kd_nO_at, kd_nA_at, ln_nA_at, el_pI, el_pJ, el_sI, el_sJ, bedp_pI, bedp_pJ, bedp_sI, bedp_sJ, nC_pI, nC_pJ, nC_sI, nC_sJ, nC_pR, nC_sR, nR_pI, nR_pJ, nR_sI, nR_sJ, nR_pR, nR_sR, nS_pI, nS_pJ, nS_sI, nS_sJ, nS_pR, nS_sR, nP_pI, nP_pJ, nP_sI, nP_sJ, nP_pR, nP_sR, nU_pI, nU_pJ, nU_sI, nU_sJ, nU_pR, nU_sR, e2]⟩
    · refine Or.inr ⟨by simp [nx_pI, kd_pI, ln_pI, gI_pI, gJ_pI, gR_pI, eI_pI, eJ_pI, eR_pI, kc_pI, nx_pJ, kd_pJ, ln_pJ, gI_pJ, gJ_pJ, gR_pJ, eI_pJ, eJ_pJ, eR_pJ, kc_pJ, nx_pR, kd_pR, ln_pR, gI_pR, gJ_pR, gR_pR, eI_pR, eJ_pR, eR_pR, kc_pR, nx_sI, kd_sI, ln_sI, gI_sI, gJ_sI, gR_sI, eI_sI, eJ_sI, eR_sI, kc_sI, nx_sJ, kd_sJ, ln_sJ, gI_sJ, gJ_sJ, gR_sJ, eI_sJ, eJ_sJ, eR_sJ, kc_sJ, nx_sR, kd_sR, ln_sR, gI_sR, gJ_sR, gR_sR, eI_sR, eJ_sR, eR_sR, kc_sR, ln_nO, eI_nO, eJ_nO, eR_nO, kc_nO, gI_nO, gI_nA, gJ_nO, gJ_nA, gR_nO, gR_nA, eI_nA, eJ_nA, eR_nA, kc_nA, nx_nO, nx_nA, kd_nO_at, kd_nA_at, ln_nA_at, e1], ?_, ?_, ?_⟩
      · unfold CPb1 at e2 ⊢
        simp [nx_pI, kd_pI, ln_pI, gI_pI, gJ_pI, gR_pI, eI_pI, eJ_pI, eR_pI, kc_pI, nx_pJ, kd_pJ, ln_pJ, gI_pJ, gJ_pJ, gR_pJ, eI_pJ, eJ_pJ, eR_pJ, kc_pJ, nx_pR, kd_pR, ln_pR, gI_pR, gJ_pR, gR_pR, eI_pR, eJ_pR, eR_pR, kc_pR, nx_sI, kd_sI, ln_sI, gI_sI, gJ_sI, gR_sI, eI_sI, eJ_sI, eR_sI, kc_sI, nx_sJ, kd_sJ, ln_sJ, gI_sJ, gJ_sJ, gR_sJ, eI_sJ, eJ_sJ, eR_sJ, kc_sJ, nx_sR, kd_sR, ln_sR, gI_sR, gJ_sR, gR_sR, eI_sR, eJ_sR, eR_sR, kc_sR, ln_nO, eI_nO, eJ_nO, eR_nO, kc_nO, gI_nO, gI_nA, gJ_nO, gJ_nA, gR_nO, gR_nA, eI_nA, eJ_nA, eR_nA, kc_nA, nx_nO, nx_nA, kd_nO_at, kd_nA_at, ln_nA_at, el_pI, el_pJ, el_sI, el_sJ, bedp_pI, bedp_pJ, bedp_sI, bedp_sJ, nC_pI, nC_pJ, nC_sI, nC_sJ, nC_pR, nC_sR, nR_pI, nR_pJ, nR_sI, nR_sJ, nR_pR, nR_sR, nS_pI, nS_pJ, nS_sI, nS_sJ, nS_pR, nS_sR, nP_pI, nP_pJ, nP_sI, nP_sJ, nP_pR, nP_sR, nU_pI, nU_pJ, nU_sI, nU_sJ, nU_pR, nU_sR]
        simpa using e2
      · unfold CPb2 at e3 ⊢
        by_cases c : j = i
        · subst c
          simp [nx_pI, kd_pI, ln_pI, gI_pI, gJ_pI, gR_pI, eI_pI, eJ_pI, eR_pI, kc_pI, nx_pJ, kd_pJ, ln_pJ, gI_pJ, gJ_pJ, gR_pJ, eI_pJ, eJ_pJ, eR_pJ, kc_pJ, nx_pR, kd_pR, ln_pR, gI_pR, gJ_pR, gR_pR, eI_pR, eJ_pR, eR_pR, kc_pR, nx_sI, kd_sI, ln_sI, gI_sI, gJ_sI, gR_sI, eI_sI, eJ_sI, eR_sI, kc_sI, nx_sJ, kd_sJ, ln_sJ, gI_sJ, gJ_sJ, gR_sJ, eI_sJ, eJ_sJ, eR_sJ, kc_sJ, nx_sR, kd_sR, ln_sR, gI_sR, gJ_sR, gR_sR, eI_sR, eJ_sR, eR_sR, kc_sR, ln_nO, eI_nO, eJ_nO, eR_nO, kc_nO, gI_nO, gI_nA, gJ_nO, gJ_nA, gR_nO, gR_nA, eI_nA, eJ_nA, eR_nA, kc_nA, nx_nO, nx_nA, kd_nO_at, kd_nA_at, ln_nA_at, el_pI, el_pJ, el_sI, el_sJ, bedp_pI, bedp_pJ, bedp_sI, bedp_sJ, nC_pI, nC_pJ, nC_sI, nC_sJ, nC_pR, nC_sR, nR_pI, nR_pJ, nR_sI, nR_sJ, nR_pR, nR_sR, nS_pI, nS_pJ, nS_sI, nS_sJ, nS_pR, nS_sR, nP_pI, nP_pJ, nP_sI, nP_sJ, nP_pR, nP_sR, nU_pI, nU_pJ, nU_sI, nU_sJ, nU_pR, nU_sR, bedp]
          simp [e3]
        · simp [nx_pI, kd_pI, ln_pI, gI_pI, gJ_pI, gR_pI, eI_pI, eJ_pI, eR_pI, kc_pI, nx_pJ, kd_pJ, ln_pJ, gI_pJ, gJ_pJ, gR_pJ, eI_pJ, eJ_pJ, eR_pJ, kc_pJ, nx_pR, kd_pR, ln_pR, gI_pR, gJ_pR, gR_pR, eI_pR, eJ_pR, eR_pR, kc_pR, nx_sI, kd_sI, ln_sI, gI_sI, gJ_sI, gR_sI, eI_sI, eJ_sI, eR_sI, kc_sI, nx_sJ, kd_sJ, ln_sJ, gI_sJ, gJ_sJ, gR_sJ, eI_sJ, eJ_sJ, eR_sJ, kc_sJ, nx_sR, kd_sR, ln_sR, gI_sR, gJ_sR, gR_sR, eI_sR, eJ_sR, eR_sR, kc_sR, ln_nO, eI_nO, eJ_nO, eR_nO, kc_nO, gI_nO, gI_nA, gJ_nO, gJ_nA, gR_nO, gR_nA, eI_nA, eJ_nA, eR_nA, kc_nA, nx_nO, nx_nA, kd_nO_at, kd_nA_at, ln_nA_at, el_pI, el_pJ, el_sI, el_sJ, bedp_pI, bedp_pJ, bedp_sI, bedp_sJ, nC_pI, nC_pJ, nC_sI, nC_sJ, nC_pR, nC_sR, nR_pI, nR_pJ, nR_sI, nR_sJ, nR_pR, nR_sR, nS_pI, nS_pJ, nS_sI, nS_sJ, nS_pR, nS_sR, nP_pI, nP_pJ, nP_sI, nP_sJ, nP_pR, nP_sR, nU_pI, nU_pJ, nU_sI, nU_sJ, nU_pR, nU_sR, hne j hj e1 c, c]
          simpa using e3
      · unfold CPb3 at e4 ⊢
        simp [nx_pI, kd_pI, ln_pI, gI_pI, gJ_pI, gR_pI, eI_pI, eJ_pI, eR_pI, kc_pI, nx_pJ, kd_pJ, ln_pJ, gI_pJ, gJ_pJ, gR_pJ, eI_pJ, eJ_pJ, eR_pJ, kc_pJ, nx_pR, kd_pR, ln_pR, gI_pR, gJ_pR, gR_pR, eI_pR, eJ_pR, eR_pR, kc_pR, nx_sI, kd_sI, ln_sI, gI_sI, gJ_sI, gR_sI, eI_sI, eJ_sI, eR_sI, kc_sI, nx_sJ, kd_sJ, ln_sJ, gI_sJ, gJ_sJ, gR_sJ, eI_sJ, eJ_sJ, eR_sJ, kc_sJ, nx_sR, kd_sR, ln_sR, gI_sR, gJ_sR, gR_sR, eI_sR, eJ_sR, eR_sR, kc_sR, ln_nO, eI_nO, eJ_nO, eR_nO, kc_nO, gI_nO, gI_nA, gJ_nO, gJ_nA, gR_nO, gR_nA, eI_nA, eJ_nA, eR_nA, kc_nA, nx_nO, nx_nA, kd_nO_at, kd_nA_at, ln_nA_at, el_pI, el_pJ, el_sI, el_sJ, bedp_pI, bedp_pJ, bedp_sI, bedp_sJ, nC_pI, nC_pJ, nC_sI, nC_sJ, nC_pR, nC_sR, nR_pI, nR_pJ, nR_sI, nR_sJ, nR_pR, nR_sR, nS_pI, nS_pJ, nS_sI, nS_sJ, nS_pR, nS_sR, nP_pI, nP_pJ, nP_sI, nP_sJ, nP_pR, nP_sR, nU_pI, nU_pJ, nU_sI, nU_sJ, nU_pR, nU_sR]
        simpa using e4
  · intro j hj
    obtain ⟨e1, e2, e3, e4⟩ := Kx j hj
    refine ⟨?_, ?_, ?_, ?_⟩
    · obtain ⟨q1, q2, q3, q4, q5, q6, q7, q8, q9, q10, q11, q12⟩ := e1
      refine ⟨?_, ?_, ?_, ?_, ?_, ?_, ?_, ?_, ?_, ?_, ?_, ?_⟩
      all_goals simp [nx_pI, kd_pI, ln_pI, gI_pI, gJ_pI, gR_pI, eI_pI, eJ_pI, eR_pI, kc_pI, nx_pJ, kd_pJ, ln_pJ, gI_pJ, gJ_pJ, gR_pJ, eI_pJ, eJ_pJ, eR_pJ, kc_pJ, nx_pR, kd_pR, ln_pR, gI_pR, gJ_pR, gR_pR, eI_pR, eJ_pR, eR_pR, kc_pR, nx_sI, kd_sI, ln_sI, gI_sI, gJ_sI, gR_sI, eI_sI, eJ_sI, eR_sI, kc_sI, nx_sJ, kd_sJ, ln_sJ, gI_sJ, gJ_sJ, gR_sJ, eI_sJ, eJ_sJ, eR_sJ, kc_sJ, nx_sR, kd_sR, ln_sR, gI_sR, gJ_sR, gR_sR, eI_sR, eJ_sR, eR_sR, kc_sR, ln_nO, eI_nO, eJ_nO, eR_nO, kc_nO, gI_nO, gI_nA, gJ_nO, gJ_nA, gR_nO, gR_nA, eI_nA, eJ_nA, eR_nA, kc_nA, nx_nO, nx_nA, kd_nO_at, kd_nA_at, ln_nA_at]
      all_goals first | assumption | skip
      by_cases c : j = i
      · simp [c]; exact hv
      · simp [c]; exact q8
    · unfold CPw0 at e2 ⊢
      by_cases c : j = i
      · subst c
        simp [nx_pI, kd_pI, ln_pI, gI_pI, gJ_pI, gR_pI, eI_pI, eJ_pI, eR_pI, kc_pI, nx_pJ, kd_pJ, ln_pJ, gI_pJ, gJ_pJ, gR_pJ, eI_pJ, eJ_pJ, eR_pJ, kc_pJ, nx_pR, kd_pR, ln_pR, gI_pR, gJ_pR, gR_pR, eI_pR, eJ_pR, eR_pR, kc_pR, nx_sI, kd_sI, ln_sI, gI_sI, gJ_sI, gR_sI, eI_sI, eJ_sI, eR_sI, kc_sI, nx_sJ, kd_sJ, ln_sJ, gI_sJ, gJ_sJ, gR_sJ, eI_sJ, eJ_sJ, eR_sJ, kc_sJ, nx_sR, kd_sR, ln_sR, gI_sR, gJ_sR, gR_sR, eI_sR, eJ_sR, eR_sR, kc_sR, ln_nO, eI_nO, eJ_nO, eR_nO, kc_nO, gI_nO, gI_nA, gJ_nO, gJ_nA, gR_nO, gR_nA, eI_nA, eJ_nA, eR_nA, kc_nA, nx_nO, nx_nA, kd_nO_at, kd_nA_at, ln_nA_at, gi]
      · simp [nx_pI, kd_pI, ln_pI, gI_pI, gJ_pI, gR_pI, eI_pI, eJ_pI, eR_pI, kc_pI, nx_pJ, kd_pJ, ln_pJ, gI_pJ, gJ_pJ, gR_pJ, eI_pJ, eJ_pJ, eR_pJ, kc_pJ, nx_pR, kd_pR, ln_pR, gI_pR, gJ_pR, gR_pR, eI_pR, eJ_pR, eR_pR, kc_pR, nx_sI, kd_sI, ln_sI, gI_sI, gJ_sI, gR_sI, eI_sI, eJ_sI, eR_sI, kc_sI, nx_sJ, kd_sJ, ln_sJ, gI_sJ, gJ_sJ, gR_sJ, eI_sJ, eJ_sJ, eR_sJ, kc_sJ, nx_sR, kd_sR, ln_sR, gI_sR, gJ_sR, gR_sR, eI_sR, eJ_sR, eR_sR, kc_sR, ln_nO, eI_nO, eJ_nO, eR_nO, kc_nO, gI_nO, gI_nA, gJ_nO, gJ_nA, gR_nO, gR_nA, eI_nA, eJ_nA, eR_nA, kc_nA, nx_nO, nx_nA, kd_nO_at, kd_nA_at, ln_nA_at, c]; simpa using e2
    · simp [nx_pI, kd_pI, ln_pI, gI_pI, gJ_pI, gR_pI, eI_pI, eJ_pI, eR_pI, kc_pI, nx_pJ, kd_pJ, ln_pJ, gI_pJ, gJ_pJ, gR_pJ, eI_pJ, eJ_pJ, eR_pJ, kc_pJ, nx_pR, kd_pR, ln_pR, gI_pR, gJ_pR, gR_pR, eI_pR, eJ_pR, eR_pR, kc_pR, nx_sI, kd_sI, ln_sI, gI_sI, gJ_sI, gR_sI, eI_sI, eJ_sI, eR_sI, kc_sI, nx_sJ, kd_sJ, ln_sJ, gI_sJ, gJ_sJ, gR_sJ, eI_sJ, eJ_sJ, eR_sJ, kc_sJ, nx_sR, kd_sR, ln_sR, gI_sR, gJ_sR, gR_sR, eI_sR, eJ_sR, eR_sR, kc_sR, ln_nO, eI_nO, eJ_nO, eR_nO, kc_nO, gI_nO, gI_nA, gJ_nO, gJ_nA, gR_nO, gR_nA, eI_nA, eJ_nA, eR_nA, kc_nA, nx_nO, nx_nA, kd_nO_at, kd_nA_at, ln_nA_at]; simpa using e3
    · have : nC h x ≤ j → eI h (x + 23 + 6) j = 0 := e4
      simp [nx_pI, kd_pI, ln_pI, gI_pI, gJ_pI, gR_pI, eI_pI, eJ_pI, eR_pI, kc_pI, nx_pJ, kd_pJ, ln_pJ, gI_pJ, gJ_pJ, gR_pJ, eI_pJ, eJ_pJ, eR_pJ, kc_pJ, nx_pR, kd_pR, ln_pR, gI_pR, gJ_pR, gR_pR, eI_pR, eJ_pR, eR_pR, kc_pR, nx_sI, kd_sI, ln_sI, gI_sI, gJ_sI, gR_sI, eI_sI, eJ_sI, eR_sI, kc_sI, nx_sJ, kd_sJ, ln_sJ, gI_sJ, gJ_sJ, gR_sJ, eI_sJ, eJ_sJ, eR_sJ, kc_sJ, nx_sR, kd_sR, ln_sR, gI_sR, gJ_sR, gR_sR, eI_sR, eJ_sR, eR_sR, kc_sR, ln_nO, eI_nO, eJ_nO, eR_nO, kc_nO, gI_nO, gI_nA, gJ_nO, gJ_nA, gR_nO, gR_nA, eI_nA, eJ_nA, eR_nA, kc_nA, nx_nO, nx_nA, kd_nO_at, kd_nA_at, ln_nA_at, el_pI, el_pJ, el_sI, el_sJ, bedp_pI, bedp_pJ, bedp_sI, bedp_sJ, nC_pI, nC_pJ, nC_sI, nC_sJ, nC_pR, nC_sR, nR_pI, nR_pJ, nR_sI, nR_sJ, nR_pR, nR_sR, nS_pI, nS_pJ, nS_sI, nS_sJ, nS_pR, nS_sR, nP_pI, nP_pJ, nP_sI, nP_sJ, nP_pR, nP_sR, nU_pI, nU_pJ, nU_sI, nU_sJ, nU_pR, nU_sR]
      exact this
theorem cp_plants (H : CP h x) {i : Nat} {v : Int32} (hi : i < nC h x) (gi : eI h (x + 23 + 6) i = 1) (hv : bd v 0 1) : CP (sI (pI h 312 (bedp h x i) v) (x + 23 + 8) i v) x := by
  have hne := fun j hj gj c => H.bed_ne (j := j) hi gi hj gj c
  obtain ⟨Kw, Kn, Ko, Kl, Kc, Kv, Kb, Kx, Kr, Kq, Ks, Kp, Ka, Ku⟩ := H; refine ⟨(by with_reducible (repeat (first | assumption | refine CPw_pI ?_ | refine CPw_pJ ?_ | refine CPw_pR (by decide) ?_ | refine CPw_sJ ?_ | refine CPw_sM ?_))), (by with_reducible (repeat (first | assumption | refine CPn_pI (by decide) ?_ | refine CPn_pJ (by decide) ?_ | refine CPn_pR ?_ | refine CPn_sJ ?_ | refine CPn_sM ?_))), (by with_reducible (repeat (first | assumption | refine CPo_pI (by decide) ?_ | refine CPo_pJ ?_ | refine CPo_pR ?_ | refine CPo_sJ ?_ | refine CPo_sM ?_))), (by with_reducible (repeat (first | assumption | refine CPl_pI (by decide) ?_ | refine CPl_pJ ?_ | refine CPl_pR (by decide) ?_ | refine CPl_sJ ?_ | refine CPl_sM ?_))), (by with_reducible (repeat (first | assumption | refine CPc_pI (by decide) ?_ | refine CPc_pJ ?_ | refine CPc_pR (by decide) ?_ | refine CPc_sJ (by decide) ?_ | refine CPc_sM (by decide) ?_ | refine CPc_sX (by decide) ?_))), (by with_reducible (repeat (first | assumption | refine CPv_pI (by decide) ?_ | refine CPv_pJ ?_ | refine CPv_pR ?_ | refine CPv_sJ ?_ | refine CPv_sM (by decide) ?_ | refine CPv_sX (by decide) ?_))), ?_, ?_, (by with_reducible (repeat (first | assumption | refine CPr_pI (by decide) ?_ | refine CPr_pJ ?_ | refine CPr_pR (by decide) ?_ | refine CPr_sJ ?_ | refine CPr_sM (by decide) ?_ | refine CPr_sX (by decide) ?_))), (by with_reducible (repeat (first | assumption | refine CPq_pI (by decide) ?_ | refine CPq_pJ ?_ | refine CPq_pR (by decide) ?_ | refine CPq_sJ ?_ | refine CPq_sM (by decide) ?_ | refine CPq_sX (by decide) ?_))), (by with_reducible (repeat (first | assumption | refine CPs_pI (by decide) ?_ | refine CPs_pJ (by decide) ?_ | refine CPs_pR (by decide) ?_ | refine CPs_sJ (by decide) ?_ | refine CPs_sM (by decide) ?_ | refine CPs_sX (by decide) ?_))), (by with_reducible (repeat (first | assumption | refine CPp_pI (by decide) ?_ | refine CPp_pJ ?_ | refine CPp_pR (by decide) ?_ | refine CPp_sJ ?_ | refine CPp_sM (by decide) ?_ | refine CPp_sX (by decide) ?_))), (by with_reducible (repeat (first | assumption | refine CPa_pI (by decide) ?_ | refine CPa_pJ ?_ | refine CPa_pR ?_ | refine CPa_sJ (by decide) ?_ | refine CPa_sM (by decide) ?_ | refine CPa_sX (by decide) ?_))), (by with_reducible (repeat (first | assumption | refine CPu_pI (by decide) ?_ | refine CPu_pJ ?_ | refine CPu_pR (by decide) ?_ | refine CPu_sJ ?_ | refine CPu_sM (by decide) (by decide) ?_ | refine CPu_sX (by decide) (by decide) (by decide) ?_)))⟩
  · intro j hj
    simp [nx_pI, kd_pI, ln_pI, gI_pI, gJ_pI, gR_pI, eI_pI, eJ_pI, eR_pI, kc_pI, nx_pJ, kd_pJ, ln_pJ, gI_pJ, gJ_pJ, gR_pJ, eI_pJ, eJ_pJ, eR_pJ, kc_pJ, nx_pR, kd_pR, ln_pR, gI_pR, gJ_pR, gR_pR, eI_pR, eJ_pR, eR_pR, kc_pR, nx_sI, kd_sI, ln_sI, gI_sI, gJ_sI, gR_sI, eI_sI, eJ_sI, eR_sI, kc_sI, nx_sJ, kd_sJ, ln_sJ, gI_sJ, gJ_sJ, gR_sJ, eI_sJ, eJ_sJ, eR_sJ, kc_sJ, nx_sR, kd_sR, ln_sR, gI_sR, gJ_sR, gR_sR, eI_sR, eJ_sR, eR_sR, kc_sR, ln_nO, eI_nO, eJ_nO, eR_nO, kc_nO, gI_nO, gI_nA, gJ_nO, gJ_nA, gR_nO, gR_nA, eI_nA, eJ_nA, eR_nA, kc_nA, nx_nO, nx_nA, kd_nO_at, kd_nA_at, ln_nA_at, el_pI, el_pJ, el_sI, el_sJ, bedp_pI, bedp_pJ, bedp_sI, bedp_sJ, nC_pI, nC_pJ, nC_sI, nC_sJ, nC_pR, nC_sR, nR_pI, nR_pJ, nR_sI, nR_sJ, nR_pR, nR_sR, nS_pI, nS_pJ, nS_sI, nS_sJ, nS_pR, nS_sR, nP_pI, nP_pJ, nP_sI, nP_sJ, nP_pR, nP_sR, nU_pI, nU_pJ, nU_sI, nU_sJ, nU_pR, nU_sR] at hj
    rcases Kb j hj with ⟨e1, e2⟩ | ⟨e1, e2, e3, e4⟩
    · exact Or.inl ⟨by simp [nx_pI, kd_pI, ln_pI, gI_pI, gJ_pI, gR_pI, eI_pI, eJ_pI, eR_pI, kc_pI, nx_pJ, kd_pJ, ln_pJ, gI_pJ, gJ_pJ, gR_pJ, eI_pJ, eJ_pJ, eR_pJ, kc_pJ, nx_pR, kd_pR, ln_pR, gI_pR, gJ_pR, gR_pR, eI_pR, eJ_pR, eR_pR, kc_pR, nx_sI, kd_sI, ln_sI, gI_sI, gJ_sI, gR_sI, eI_sI, eJ_sI, eR_sI, kc_sI, nx_sJ, kd_sJ, ln_sJ, gI_sJ, gJ_sJ, gR_sJ, eI_sJ, eJ_sJ, eR_sJ, kc_sJ, nx_sR, kd_sR, ln_sR, gI_sR, gJ_sR, gR_sR, eI_sR, eJ_sR, eR_sR, kc_sR, ln_nO, eI_nO, eJ_nO, eR_nO, kc_nO, gI_nO, gI_nA, gJ_nO, gJ_nA, gR_nO, gR_nA, eI_nA, eJ_nA, eR_nA, kc_nA, nx_nO, nx_nA, kd_nO_at, kd_nA_at, ln_nA_at, e1], by simp [nx_pI, kd_pI, ln_pI, gI_pI, gJ_pI, gR_pI, eI_pI, eJ_pI, eR_pI, kc_pI, nx_pJ, kd_pJ, ln_pJ, gI_pJ, gJ_pJ, gR_pJ, eI_pJ, eJ_pJ, eR_pJ, kc_pJ, nx_pR, kd_pR, ln_pR, gI_pR, gJ_pR, gR_pR, eI_pR, eJ_pR, eR_pR, kc_pR, nx_sI, kd_sI, ln_sI, gI_sI, gJ_sI, gR_sI, eI_sI, eJ_sI, eR_sI, kc_sI, nx_sJ, kd_sJ, ln_sJ, gI_sJ, gJ_sJ, gR_sJ, eI_sJ, eJ_sJ, eR_sJ, kc_sJ, nx_sR, kd_sR, ln_sR, gI_sR, gJ_sR, gR_sR, eI_sR, eJ_sR, eR_sR, kc_sR, ln_nO, eI_nO, eJ_nO, eR_nO, kc_nO, gI_nO, gI_nA, gJ_nO, gJ_nA, gR_nO, gR_nA, eI_nA, eJ_nA, eR_nA, kc_nA, nx_nO, nx_nA, kd_nO_at, kd_nA_at, ln_nA_at, el_pI, el_pJ, el_sI, el_sJ, bedp_pI, bedp_pJ, bedp_sI, bedp_sJ, nC_pI, nC_pJ, nC_sI, nC_sJ, nC_pR, nC_sR, nR_pI, nR_pJ, nR_sI, nR_sJ, nR_pR, nR_sR, nS_pI, nS_pJ, nS_sI, nS_sJ, nS_pR, nS_sR, nP_pI, nP_pJ, nP_sI, nP_sJ, nP_pR, nP_sR, nU_pI, nU_pJ, nU_sI, nU_sJ, nU_pR, nU_sR, e2]⟩
    · refine Or.inr ⟨by simp [nx_pI, kd_pI, ln_pI, gI_pI, gJ_pI, gR_pI, eI_pI, eJ_pI, eR_pI, kc_pI, nx_pJ, kd_pJ, ln_pJ, gI_pJ, gJ_pJ, gR_pJ, eI_pJ, eJ_pJ, eR_pJ, kc_pJ, nx_pR, kd_pR, ln_pR, gI_pR, gJ_pR, gR_pR, eI_pR, eJ_pR, eR_pR, kc_pR, nx_sI, kd_sI, ln_sI, gI_sI, gJ_sI, gR_sI, eI_sI, eJ_sI, eR_sI, kc_sI, nx_sJ, kd_sJ, ln_sJ, gI_sJ, gJ_sJ, gR_sJ, eI_sJ, eJ_sJ, eR_sJ, kc_sJ, nx_sR, kd_sR, ln_sR, gI_sR, gJ_sR, gR_sR, eI_sR, eJ_sR, eR_sR, kc_sR, ln_nO, eI_nO, eJ_nO, eR_nO, kc_nO, gI_nO, gI_nA, gJ_nO, gJ_nA, gR_nO, gR_nA, eI_nA, eJ_nA, eR_nA, kc_nA, nx_nO, nx_nA, kd_nO_at, kd_nA_at, ln_nA_at, e1], ?_, ?_, ?_⟩
      · unfold CPb1 at e2 ⊢
        simp [nx_pI, kd_pI, ln_pI, gI_pI, gJ_pI, gR_pI, eI_pI, eJ_pI, eR_pI, kc_pI, nx_pJ, kd_pJ, ln_pJ, gI_pJ, gJ_pJ, gR_pJ, eI_pJ, eJ_pJ, eR_pJ, kc_pJ, nx_pR, kd_pR, ln_pR, gI_pR, gJ_pR, gR_pR, eI_pR, eJ_pR, eR_pR, kc_pR, nx_sI, kd_sI, ln_sI, gI_sI, gJ_sI, gR_sI, eI_sI, eJ_sI, eR_sI, kc_sI, nx_sJ, kd_sJ, ln_sJ, gI_sJ, gJ_sJ, gR_sJ, eI_sJ, eJ_sJ, eR_sJ, kc_sJ, nx_sR, kd_sR, ln_sR, gI_sR, gJ_sR, gR_sR, eI_sR, eJ_sR, eR_sR, kc_sR, ln_nO, eI_nO, eJ_nO, eR_nO, kc_nO, gI_nO, gI_nA, gJ_nO, gJ_nA, gR_nO, gR_nA, eI_nA, eJ_nA, eR_nA, kc_nA, nx_nO, nx_nA, kd_nO_at, kd_nA_at, ln_nA_at, el_pI, el_pJ, el_sI, el_sJ, bedp_pI, bedp_pJ, bedp_sI, bedp_sJ, nC_pI, nC_pJ, nC_sI, nC_sJ, nC_pR, nC_sR, nR_pI, nR_pJ, nR_sI, nR_sJ, nR_pR, nR_sR, nS_pI, nS_pJ, nS_sI, nS_sJ, nS_pR, nS_sR, nP_pI, nP_pJ, nP_sI, nP_sJ, nP_pR, nP_sR, nU_pI, nU_pJ, nU_sI, nU_sJ, nU_pR, nU_sR]
        simpa using e2
      · unfold CPb2 at e3 ⊢
        by_cases c : j = i
        · subst c
          simp [nx_pI, kd_pI, ln_pI, gI_pI, gJ_pI, gR_pI, eI_pI, eJ_pI, eR_pI, kc_pI, nx_pJ, kd_pJ, ln_pJ, gI_pJ, gJ_pJ, gR_pJ, eI_pJ, eJ_pJ, eR_pJ, kc_pJ, nx_pR, kd_pR, ln_pR, gI_pR, gJ_pR, gR_pR, eI_pR, eJ_pR, eR_pR, kc_pR, nx_sI, kd_sI, ln_sI, gI_sI, gJ_sI, gR_sI, eI_sI, eJ_sI, eR_sI, kc_sI, nx_sJ, kd_sJ, ln_sJ, gI_sJ, gJ_sJ, gR_sJ, eI_sJ, eJ_sJ, eR_sJ, kc_sJ, nx_sR, kd_sR, ln_sR, gI_sR, gJ_sR, gR_sR, eI_sR, eJ_sR, eR_sR, kc_sR, ln_nO, eI_nO, eJ_nO, eR_nO, kc_nO, gI_nO, gI_nA, gJ_nO, gJ_nA, gR_nO, gR_nA, eI_nA, eJ_nA, eR_nA, kc_nA, nx_nO, nx_nA, kd_nO_at, kd_nA_at, ln_nA_at, el_pI, el_pJ, el_sI, el_sJ, bedp_pI, bedp_pJ, bedp_sI, bedp_sJ, nC_pI, nC_pJ, nC_sI, nC_sJ, nC_pR, nC_sR, nR_pI, nR_pJ, nR_sI, nR_sJ, nR_pR, nR_sR, nS_pI, nS_pJ, nS_sI, nS_sJ, nS_pR, nS_sR, nP_pI, nP_pJ, nP_sI, nP_sJ, nP_pR, nP_sR, nU_pI, nU_pJ, nU_sI, nU_sJ, nU_pR, nU_sR, bedp]
          simp [e3]
        · simp [nx_pI, kd_pI, ln_pI, gI_pI, gJ_pI, gR_pI, eI_pI, eJ_pI, eR_pI, kc_pI, nx_pJ, kd_pJ, ln_pJ, gI_pJ, gJ_pJ, gR_pJ, eI_pJ, eJ_pJ, eR_pJ, kc_pJ, nx_pR, kd_pR, ln_pR, gI_pR, gJ_pR, gR_pR, eI_pR, eJ_pR, eR_pR, kc_pR, nx_sI, kd_sI, ln_sI, gI_sI, gJ_sI, gR_sI, eI_sI, eJ_sI, eR_sI, kc_sI, nx_sJ, kd_sJ, ln_sJ, gI_sJ, gJ_sJ, gR_sJ, eI_sJ, eJ_sJ, eR_sJ, kc_sJ, nx_sR, kd_sR, ln_sR, gI_sR, gJ_sR, gR_sR, eI_sR, eJ_sR, eR_sR, kc_sR, ln_nO, eI_nO, eJ_nO, eR_nO, kc_nO, gI_nO, gI_nA, gJ_nO, gJ_nA, gR_nO, gR_nA, eI_nA, eJ_nA, eR_nA, kc_nA, nx_nO, nx_nA, kd_nO_at, kd_nA_at, ln_nA_at, el_pI, el_pJ, el_sI, el_sJ, bedp_pI, bedp_pJ, bedp_sI, bedp_sJ, nC_pI, nC_pJ, nC_sI, nC_sJ, nC_pR, nC_sR, nR_pI, nR_pJ, nR_sI, nR_sJ, nR_pR, nR_sR, nS_pI, nS_pJ, nS_sI, nS_sJ, nS_pR, nS_sR, nP_pI, nP_pJ, nP_sI, nP_sJ, nP_pR, nP_sR, nU_pI, nU_pJ, nU_sI, nU_sJ, nU_pR, nU_sR, hne j hj e1 c, c]
          simpa using e3
      · unfold CPb3 at e4 ⊢
        simp [nx_pI, kd_pI, ln_pI, gI_pI, gJ_pI, gR_pI, eI_pI, eJ_pI, eR_pI, kc_pI, nx_pJ, kd_pJ, ln_pJ, gI_pJ, gJ_pJ, gR_pJ, eI_pJ, eJ_pJ, eR_pJ, kc_pJ, nx_pR, kd_pR, ln_pR, gI_pR, gJ_pR, gR_pR, eI_pR, eJ_pR, eR_pR, kc_pR, nx_sI, kd_sI, ln_sI, gI_sI, gJ_sI, gR_sI, eI_sI, eJ_sI, eR_sI, kc_sI, nx_sJ, kd_sJ, ln_sJ, gI_sJ, gJ_sJ, gR_sJ, eI_sJ, eJ_sJ, eR_sJ, kc_sJ, nx_sR, kd_sR, ln_sR, gI_sR, gJ_sR, gR_sR, eI_sR, eJ_sR, eR_sR, kc_sR, ln_nO, eI_nO, eJ_nO, eR_nO, kc_nO, gI_nO, gI_nA, gJ_nO, gJ_nA, gR_nO, gR_nA, eI_nA, eJ_nA, eR_nA, kc_nA, nx_nO, nx_nA, kd_nO_at, kd_nA_at, ln_nA_at, el_pI, el_pJ, el_sI, el_sJ, bedp_pI, bedp_pJ, bedp_sI, bedp_sJ, nC_pI, nC_pJ, nC_sI, nC_sJ, nC_pR, nC_sR, nR_pI, nR_pJ, nR_sI, nR_sJ, nR_pR, nR_sR, nS_pI, nS_pJ, nS_sI, nS_sJ, nS_pR, nS_sR, nP_pI, nP_pJ, nP_sI, nP_sJ, nP_pR, nP_sR, nU_pI, nU_pJ, nU_sI, nU_sJ, nU_pR, nU_sR]
        simpa using e4
  · intro j hj
    obtain ⟨e1, e2, e3, e4⟩ := Kx j hj
    refine ⟨?_, ?_, ?_, ?_⟩
    · obtain ⟨q1, q2, q3, q4, q5, q6, q7, q8, q9, q10, q11, q12⟩ := e1
      refine ⟨?_, ?_, ?_, ?_, ?_, ?_, ?_, ?_, ?_, ?_, ?_, ?_⟩
      all_goals simp [nx_pI, kd_pI, ln_pI, gI_pI, gJ_pI, gR_pI, eI_pI, eJ_pI, eR_pI, kc_pI, nx_pJ, kd_pJ, ln_pJ, gI_pJ, gJ_pJ, gR_pJ, eI_pJ, eJ_pJ, eR_pJ, kc_pJ, nx_pR, kd_pR, ln_pR, gI_pR, gJ_pR, gR_pR, eI_pR, eJ_pR, eR_pR, kc_pR, nx_sI, kd_sI, ln_sI, gI_sI, gJ_sI, gR_sI, eI_sI, eJ_sI, eR_sI, kc_sI, nx_sJ, kd_sJ, ln_sJ, gI_sJ, gJ_sJ, gR_sJ, eI_sJ, eJ_sJ, eR_sJ, kc_sJ, nx_sR, kd_sR, ln_sR, gI_sR, gJ_sR, gR_sR, eI_sR, eJ_sR, eR_sR, kc_sR, ln_nO, eI_nO, eJ_nO, eR_nO, kc_nO, gI_nO, gI_nA, gJ_nO, gJ_nA, gR_nO, gR_nA, eI_nA, eJ_nA, eR_nA, kc_nA, nx_nO, nx_nA, kd_nO_at, kd_nA_at, ln_nA_at]
      all_goals first | assumption | skip
      by_cases c : j = i
      · simp [c]; exact hv
      · simp [c]; exact q5
    · unfold CPw0 at e2 ⊢
      simp [nx_pI, kd_pI, ln_pI, gI_pI, gJ_pI, gR_pI, eI_pI, eJ_pI, eR_pI, kc_pI, nx_pJ, kd_pJ, ln_pJ, gI_pJ, gJ_pJ, gR_pJ, eI_pJ, eJ_pJ, eR_pJ, kc_pJ, nx_pR, kd_pR, ln_pR, gI_pR, gJ_pR, gR_pR, eI_pR, eJ_pR, eR_pR, kc_pR, nx_sI, kd_sI, ln_sI, gI_sI, gJ_sI, gR_sI, eI_sI, eJ_sI, eR_sI, kc_sI, nx_sJ, kd_sJ, ln_sJ, gI_sJ, gJ_sJ, gR_sJ, eI_sJ, eJ_sJ, eR_sJ, kc_sJ, nx_sR, kd_sR, ln_sR, gI_sR, gJ_sR, gR_sR, eI_sR, eJ_sR, eR_sR, kc_sR, ln_nO, eI_nO, eJ_nO, eR_nO, kc_nO, gI_nO, gI_nA, gJ_nO, gJ_nA, gR_nO, gR_nA, eI_nA, eJ_nA, eR_nA, kc_nA, nx_nO, nx_nA, kd_nO_at, kd_nA_at, ln_nA_at]; simpa using e2
    · simp [nx_pI, kd_pI, ln_pI, gI_pI, gJ_pI, gR_pI, eI_pI, eJ_pI, eR_pI, kc_pI, nx_pJ, kd_pJ, ln_pJ, gI_pJ, gJ_pJ, gR_pJ, eI_pJ, eJ_pJ, eR_pJ, kc_pJ, nx_pR, kd_pR, ln_pR, gI_pR, gJ_pR, gR_pR, eI_pR, eJ_pR, eR_pR, kc_pR, nx_sI, kd_sI, ln_sI, gI_sI, gJ_sI, gR_sI, eI_sI, eJ_sI, eR_sI, kc_sI, nx_sJ, kd_sJ, ln_sJ, gI_sJ, gJ_sJ, gR_sJ, eI_sJ, eJ_sJ, eR_sJ, kc_sJ, nx_sR, kd_sR, ln_sR, gI_sR, gJ_sR, gR_sR, eI_sR, eJ_sR, eR_sR, kc_sR, ln_nO, eI_nO, eJ_nO, eR_nO, kc_nO, gI_nO, gI_nA, gJ_nO, gJ_nA, gR_nO, gR_nA, eI_nA, eJ_nA, eR_nA, kc_nA, nx_nO, nx_nA, kd_nO_at, kd_nA_at, ln_nA_at]; simpa using e3
    · have : nC h x ≤ j → eI h (x + 23 + 6) j = 0 := e4
      simp [nx_pI, kd_pI, ln_pI, gI_pI, gJ_pI, gR_pI, eI_pI, eJ_pI, eR_pI, kc_pI, nx_pJ, kd_pJ, ln_pJ, gI_pJ, gJ_pJ, gR_pJ, eI_pJ, eJ_pJ, eR_pJ, kc_pJ, nx_pR, kd_pR, ln_pR, gI_pR, gJ_pR, gR_pR, eI_pR, eJ_pR, eR_pR, kc_pR, nx_sI, kd_sI, ln_sI, gI_sI, gJ_sI, gR_sI, eI_sI, eJ_sI, eR_sI, kc_sI, nx_sJ, kd_sJ, ln_sJ, gI_sJ, gJ_sJ, gR_sJ, eI_sJ, eJ_sJ, eR_sJ, kc_sJ, nx_sR, kd_sR, ln_sR, gI_sR, gJ_sR, gR_sR, eI_sR, eJ_sR, eR_sR, kc_sR, ln_nO, eI_nO, eJ_nO, eR_nO, kc_nO, gI_nO, gI_nA, gJ_nO, gJ_nA, gR_nO, gR_nA, eI_nA, eJ_nA, eR_nA, kc_nA, nx_nO, nx_nA, kd_nO_at, kd_nA_at, ln_nA_at, el_pI, el_pJ, el_sI, el_sJ, bedp_pI, bedp_pJ, bedp_sI, bedp_sJ, nC_pI, nC_pJ, nC_sI, nC_sJ, nC_pR, nC_sR, nR_pI, nR_pJ, nR_sI, nR_sJ, nR_pR, nR_sR, nS_pI, nS_pJ, nS_sI, nS_sJ, nS_pR, nS_sR, nP_pI, nP_pJ, nP_sI, nP_sJ, nP_pR, nP_sR, nU_pI, nU_pJ, nU_sI, nU_sJ, nU_pR, nU_sR]
      exact this
theorem pr_treat (H : CP h x) {a b : Int32} (hR : ∀ h', CP h' x → R h') : CtI M_X0_treat [rV x, iV a, iV b] h k n (fun r h1 => CtI M_X3_treat [rV (x + 23), iV a, iV b] h1 0 0 (fun r2 h2 => r = r2 ∧ R h2) E) E := by
  refine r_wfH fun wf => ?_
  obtain ⟨p1, p2, ⟨z1, z2⟩ | ⟨i, hi, rfl, z0, z1, z2, z3, z4, z5, z6, z7, z8, z9⟩⟩ := H.bedc wf a
  · refine ct_X0_treat H.xw (by simp [P_X0_treat, p1, z1]) ?_
    rw [show F_X0_treat h x a b = (0, h) by simp [F_X0_treat, z1]]
    refine ct_X3_treat H.mw (by simp [P_X3_treat, p2, z2]) ?_
    rw [show F_X3_treat h (x + 23) a b = (0, h) by simp [F_X3_treat, z2]]
    exact ⟨rfl, hR _ H⟩
  · have hn := H.nC_le.2
    have e5 : gI h 307 (bedp h x i) = eI h (x + 23 + 14) i := z8.2.2.1
    have e6 : gI h 312 (bedp h x i) = eI h (x + 23 + 8) i := z8.2.2.2.2.2.2
    have e7 := (H.px i (by omega)).1.2.2.2.2.2.2.2.1
    have hx : P_X0_treat h x (nI i) b := by simp [P_X0_treat, p1, z2, z5]
    have hy : ∀ h1, P_X3_isBed h1 (x + 23) (nI i) → P_X3_treat h1 (x + 23) (nI i) b := fun h1 p => by simp [P_X3_treat, p, z1]
    by_cases c1 : isin b 0 1 = true
    · obtain ⟨d1, d2⟩ := isin_nI (m := 1) (by decide) c1
      by_cases c2 : b = 0
      · subst c2
        refine ct_X0_treat H.xw hx ?_
        have hm : MW (pI h 307 (bedp h x i) (imin 100 (eI h (x + 23 + 14) i + 10))) (x + 23) := MW_pI H.mw
        rw [show F_X0_treat h x (nI i) 0 = (1, pI h 307 (bedp h x i) (imin 100 (eI h (x + 23 + 14) i + 10))) by simp [F_X0_treat, z2, z4, c1, e5]]
        generalize hg : pI h 307 (bedp h x i) (imin 100 (eI h (x + 23 + 14) i + 10)) = h1 at hm ⊢
        have g1 : eI h1 = eI h := by rw [← hg]; simp [nx_pI, kd_pI, ln_pI, gI_pI, gJ_pI, gR_pI, eI_pI, eJ_pI, eR_pI, kc_pI, nx_pJ, kd_pJ, ln_pJ, gI_pJ, gJ_pJ, gR_pJ, eI_pJ, eJ_pJ, eR_pJ, kc_pJ, nx_pR, kd_pR, ln_pR, gI_pR, gJ_pR, gR_pR, eI_pR, eJ_pR, eR_pR, kc_pR, nx_sI, kd_sI, ln_sI, gI_sI, gJ_sI, gR_sI, eI_sI, eJ_sI, eR_sI, kc_sI, nx_sJ, kd_sJ, ln_sJ, gI_sJ, gJ_sJ, gR_sJ, eI_sJ, eJ_sJ, eR_sJ, kc_sJ, nx_sR, kd_sR, ln_sR, gI_sR, gJ_sR, gR_sR, eI_sR, eJ_sR, eR_sR, kc_sR, ln_nO, eI_nO, eJ_nO, eR_nO, kc_nO, gI_nO, gI_nA, gJ_nO, gJ_nA, gR_nO, gR_nA, eI_nA, eJ_nA, eR_nA, kc_nA, nx_nO, nx_nA, kd_nO_at, kd_nA_at, ln_nA_at]
        have g2 : gI h1 1001 (x + 23) = gI h 1001 (x + 23) := by rw [← hg]; simp [nx_pI, kd_pI, ln_pI, gI_pI, gJ_pI, gR_pI, eI_pI, eJ_pI, eR_pI, kc_pI, nx_pJ, kd_pJ, ln_pJ, gI_pJ, gJ_pJ, gR_pJ, eI_pJ, eJ_pJ, eR_pJ, kc_pJ, nx_pR, kd_pR, ln_pR, gI_pR, gJ_pR, gR_pR, eI_pR, eJ_pR, eR_pR, kc_pR, nx_sI, kd_sI, ln_sI, gI_sI, gJ_sI, gR_sI, eI_sI, eJ_sI, eR_sI, kc_sI, nx_sJ, kd_sJ, ln_sJ, gI_sJ, gJ_sJ, gR_sJ, eI_sJ, eJ_sJ, eR_sJ, kc_sJ, nx_sR, kd_sR, ln_sR, gI_sR, gJ_sR, gR_sR, eI_sR, eJ_sR, eR_sR, kc_sR, ln_nO, eI_nO, eJ_nO, eR_nO, kc_nO, gI_nO, gI_nA, gJ_nO, gJ_nA, gR_nO, gR_nA, eI_nA, eJ_nA, eR_nA, kc_nA, nx_nO, nx_nA, kd_nO_at, kd_nA_at, ln_nA_at]
        have p2' : P_X3_isBed h1 (x + 23) (nI i) := by unfold P_X3_isBed at p2 ⊢; rw [g2]; exact p2
        have z3' : V_X3_isBed h1 (x + 23) (nI i) = 1 := by unfold V_X3_isBed at z3 ⊢; rw [g2, g1]; exact z3
        refine ct_X3_treat hm (hy _ p2') ?_
        rw [show F_X3_treat h1 (x + 23) (nI i) 0 = (1, sI h1 (x + 23 + 14) i (imin 100 (eI h (x + 23 + 14) i + 10))) by simp [F_X3_treat, z3', z0, c1, g1]]
        rw [← hg]
        exact ⟨rfl, hR _ (cp_salt H hi z6 (bd_salt e7))⟩
      · have c3 : b = 1 := by
          rw [d1]
          have : ix b = 0 ∨ ix b = 1 := by omega
          rcases this with z | z
          · rw [z] at d1; exact absurd (d1.trans (by decide)) c2
          · rw [z]; decide
        subst c3
        by_cases c4 : eI h (x + 23 + 8) i = 0
        · refine ct_X0_treat H.xw hx ?_
          have hm : MW (pI h 312 (bedp h x i) 1) (x + 23) := MW_pI H.mw
          rw [show F_X0_treat h x (nI i) 1 = (1, pI h 312 (bedp h x i) 1) by simp [F_X0_treat, z2, z4, c1, e6, c4]]
          generalize hg : pI h 312 (bedp h x i) 1 = h1 at hm ⊢
          have g1 : eI h1 = eI h := by rw [← hg]; simp [nx_pI, kd_pI, ln_pI, gI_pI, gJ_pI, gR_pI, eI_pI, eJ_pI, eR_pI, kc_pI, nx_pJ, kd_pJ, ln_pJ, gI_pJ, gJ_pJ, gR_pJ, eI_pJ, eJ_pJ, eR_pJ, kc_pJ, nx_pR, kd_pR, ln_pR, gI_pR, gJ_pR, gR_pR, eI_pR, eJ_pR, eR_pR, kc_pR, nx_sI, kd_sI, ln_sI, gI_sI, gJ_sI, gR_sI, eI_sI, eJ_sI, eR_sI, kc_sI, nx_sJ, kd_sJ, ln_sJ, gI_sJ, gJ_sJ, gR_sJ, eI_sJ, eJ_sJ, eR_sJ, kc_sJ, nx_sR, kd_sR, ln_sR, gI_sR, gJ_sR, gR_sR, eI_sR, eJ_sR, eR_sR, kc_sR, ln_nO, eI_nO, eJ_nO, eR_nO, kc_nO, gI_nO, gI_nA, gJ_nO, gJ_nA, gR_nO, gR_nA, eI_nA, eJ_nA, eR_nA, kc_nA, nx_nO, nx_nA, kd_nO_at, kd_nA_at, ln_nA_at]
          have g2 : gI h1 1001 (x + 23) = gI h 1001 (x + 23) := by rw [← hg]; simp [nx_pI, kd_pI, ln_pI, gI_pI, gJ_pI, gR_pI, eI_pI, eJ_pI, eR_pI, kc_pI, nx_pJ, kd_pJ, ln_pJ, gI_pJ, gJ_pJ, gR_pJ, eI_pJ, eJ_pJ, eR_pJ, kc_pJ, nx_pR, kd_pR, ln_pR, gI_pR, gJ_pR, gR_pR, eI_pR, eJ_pR, eR_pR, kc_pR, nx_sI, kd_sI, ln_sI, gI_sI, gJ_sI, gR_sI, eI_sI, eJ_sI, eR_sI, kc_sI, nx_sJ, kd_sJ, ln_sJ, gI_sJ, gJ_sJ, gR_sJ, eI_sJ, eJ_sJ, eR_sJ, kc_sJ, nx_sR, kd_sR, ln_sR, gI_sR, gJ_sR, gR_sR, eI_sR, eJ_sR, eR_sR, kc_sR, ln_nO, eI_nO, eJ_nO, eR_nO, kc_nO, gI_nO, gI_nA, gJ_nO, gJ_nA, gR_nO, gR_nA, eI_nA, eJ_nA, eR_nA, kc_nA, nx_nO, nx_nA, kd_nO_at, kd_nA_at, ln_nA_at]
          have p2' : P_X3_isBed h1 (x + 23) (nI i) := by unfold P_X3_isBed at p2 ⊢; rw [g2]; exact p2
          have z3' : V_X3_isBed h1 (x + 23) (nI i) = 1 := by unfold V_X3_isBed at z3 ⊢; rw [g2, g1]; exact z3
          refine ct_X3_treat hm (hy _ p2') ?_
          rw [show F_X3_treat h1 (x + 23) (nI i) 1 = (1, sI h1 (x + 23 + 8) i 1) by simp [F_X3_treat, z3', z0, c1, g1, c4]]
          rw [← hg]
          exact ⟨rfl, hR _ (cp_plants H hi z6 ⟨by decide, by decide⟩)⟩
        · refine ct_X0_treat H.xw hx ?_
          rw [show F_X0_treat h x (nI i) 1 = (0, h) by simp [F_X0_treat, z2, z4, c1, e6, c4]]
          refine ct_X3_treat H.mw (hy _ p2) ?_
          rw [show F_X3_treat h (x + 23) (nI i) 1 = (0, h) by simp [F_X3_treat, z3, z0, c1, c4]]
          exact ⟨rfl, hR _ H⟩
    · have c1 : isin b 0 1 = false := by simpa using c1
      refine ct_X0_treat H.xw hx ?_
      rw [show F_X0_treat h x (nI i) b = (0, h) by simp [F_X0_treat, c1]]
      refine ct_X3_treat H.mw (hy _ p2) ?_
      rw [show F_X3_treat h (x + 23) (nI i) b = (0, h) by simp [F_X3_treat, c1]]
      exact ⟨rfl, hR _ H⟩
theorem cp_below (H : CP h x) {i : Nat} {v : Int32} (hi : i < nC h x) (hv : v = -1 ∨ (i < v.toInt ∧ v.toInt < nC h x)) : CP (sI (pI h 105 (el h (x + 2) i) v) (x + 23 + 5) i v) x := by
  have hne : ∀ j, j < nC h x → j ≠ i → el h (x + 2) j ≠ el h (x + 2) i := fun j hj c e => c (H.cor_inj hj hi e)
  obtain ⟨Kw, Kn, Ko, Kl, Kc, Kv, Kb, Kx, Kr, Kq, Ks, Kp, Ka, Ku⟩ := H; refine ⟨(by with_reducible (repeat (first | assumption | refine CPw_pI ?_ | refine CPw_pJ ?_ | refine CPw_pR (by decide) ?_ | refine CPw_sJ ?_ | refine CPw_sM ?_))), (by with_reducible (repeat (first | assumption | refine CPn_pI (by decide) ?_ | refine CPn_pJ (by decide) ?_ | refine CPn_pR ?_ | refine CPn_sJ ?_ | refine CPn_sM ?_))), (by with_reducible (repeat (first | assumption | refine CPo_pI (by decide) ?_ | refine CPo_pJ ?_ | refine CPo_pR ?_ | refine CPo_sJ ?_ | refine CPo_sM ?_))), (by with_reducible (repeat (first | assumption | refine CPl_pI (by decide) ?_ | refine CPl_pJ ?_ | refine CPl_pR (by decide) ?_ | refine CPl_sJ ?_ | refine CPl_sM ?_))), ?_, ?_, (by with_reducible (repeat (first | assumption | refine CPb_pI (by decide) ?_ | refine CPb_pJ ?_ | refine CPb_pR (by decide) ?_ | refine CPb_sJ ?_ | refine CPb_sM (by decide) ?_ | refine CPb_sX (by decide) ?_))), (by with_reducible (repeat (first | assumption | refine CPx_pI (by decide) ?_ | refine CPx_pJ ?_ | refine CPx_pR ?_ | refine CPx_sJ ?_ | refine CPx_sM (by decide) ?_ | refine CPx_sX (by decide) ?_))), (by with_reducible (repeat (first | assumption | refine CPr_pI (by decide) ?_ | refine CPr_pJ ?_ | refine CPr_pR (by decide) ?_ | refine CPr_sJ ?_ | refine CPr_sM (by decide) ?_ | refine CPr_sX (by decide) ?_))), (by with_reducible (repeat (first | assumption | refine CPq_pI (by decide) ?_ | refine CPq_pJ ?_ | refine CPq_pR (by decide) ?_ | refine CPq_sJ ?_ | refine CPq_sM (by decide) ?_ | refine CPq_sX (by decide) ?_))), (by with_reducible (repeat (first | assumption | refine CPs_pI (by decide) ?_ | refine CPs_pJ (by decide) ?_ | refine CPs_pR (by decide) ?_ | refine CPs_sJ (by decide) ?_ | refine CPs_sM (by decide) ?_ | refine CPs_sX (by decide) ?_))), (by with_reducible (repeat (first | assumption | refine CPp_pI (by decide) ?_ | refine CPp_pJ ?_ | refine CPp_pR (by decide) ?_ | refine CPp_sJ ?_ | refine CPp_sM (by decide) ?_ | refine CPp_sX (by decide) ?_))), (by with_reducible (repeat (first | assumption | refine CPa_pI (by decide) ?_ | refine CPa_pJ ?_ | refine CPa_pR ?_ | refine CPa_sJ (by decide) ?_ | refine CPa_sM (by decide) ?_ | refine CPa_sX (by decide) ?_))), (by with_reducible (repeat (first | assumption | refine CPu_pI (by decide) ?_ | refine CPu_pJ ?_ | refine CPu_pR (by decide) ?_ | refine CPu_sJ ?_ | refine CPu_sM (by decide) (by decide) ?_ | refine CPu_sX (by decide) (by decide) (by decide) ?_)))⟩
  · intro j hj
    simp [nx_pI, kd_pI, ln_pI, gI_pI, gJ_pI, gR_pI, eI_pI, eJ_pI, eR_pI, kc_pI, nx_pJ, kd_pJ, ln_pJ, gI_pJ, gJ_pJ, gR_pJ, eI_pJ, eJ_pJ, eR_pJ, kc_pJ, nx_pR, kd_pR, ln_pR, gI_pR, gJ_pR, gR_pR, eI_pR, eJ_pR, eR_pR, kc_pR, nx_sI, kd_sI, ln_sI, gI_sI, gJ_sI, gR_sI, eI_sI, eJ_sI, eR_sI, kc_sI, nx_sJ, kd_sJ, ln_sJ, gI_sJ, gJ_sJ, gR_sJ, eI_sJ, eJ_sJ, eR_sJ, kc_sJ, nx_sR, kd_sR, ln_sR, gI_sR, gJ_sR, gR_sR, eI_sR, eJ_sR, eR_sR, kc_sR, ln_nO, eI_nO, eJ_nO, eR_nO, kc_nO, gI_nO, gI_nA, gJ_nO, gJ_nA, gR_nO, gR_nA, eI_nA, eJ_nA, eR_nA, kc_nA, nx_nO, nx_nA, kd_nO_at, kd_nA_at, ln_nA_at, el_pI, el_pJ, el_sI, el_sJ, bedp_pI, bedp_pJ, bedp_sI, bedp_sJ, nC_pI, nC_pJ, nC_sI, nC_sJ, nC_pR, nC_sR, nR_pI, nR_pJ, nR_sI, nR_sJ, nR_pR, nR_sR, nS_pI, nS_pJ, nS_sI, nS_sJ, nS_pR, nS_sR, nP_pI, nP_pJ, nP_sI, nP_sJ, nP_pR, nP_sR, nU_pI, nU_pJ, nU_sI, nU_sJ, nU_pR, nU_sR] at hj
    obtain ⟨e1, e2⟩ := Kc j hj
    refine ⟨?_, ?_⟩
    · unfold CPc1 at e1 ⊢
      by_cases c : j = i
      · subst c
        simp [nx_pI, kd_pI, ln_pI, gI_pI, gJ_pI, gR_pI, eI_pI, eJ_pI, eR_pI, kc_pI, nx_pJ, kd_pJ, ln_pJ, gI_pJ, gJ_pJ, gR_pJ, eI_pJ, eJ_pJ, eR_pJ, kc_pJ, nx_pR, kd_pR, ln_pR, gI_pR, gJ_pR, gR_pR, eI_pR, eJ_pR, eR_pR, kc_pR, nx_sI, kd_sI, ln_sI, gI_sI, gJ_sI, gR_sI, eI_sI, eJ_sI, eR_sI, kc_sI, nx_sJ, kd_sJ, ln_sJ, gI_sJ, gJ_sJ, gR_sJ, eI_sJ, eJ_sJ, eR_sJ, kc_sJ, nx_sR, kd_sR, ln_sR, gI_sR, gJ_sR, gR_sR, eI_sR, eJ_sR, eR_sR, kc_sR, ln_nO, eI_nO, eJ_nO, eR_nO, kc_nO, gI_nO, gI_nA, gJ_nO, gJ_nA, gR_nO, gR_nA, eI_nA, eJ_nA, eR_nA, kc_nA, nx_nO, nx_nA, kd_nO_at, kd_nA_at, ln_nA_at, el_pI, el_pJ, el_sI, el_sJ, bedp_pI, bedp_pJ, bedp_sI, bedp_sJ, nC_pI, nC_pJ, nC_sI, nC_sJ, nC_pR, nC_sR, nR_pI, nR_pJ, nR_sI, nR_sJ, nR_pR, nR_sR, nS_pI, nS_pJ, nS_sI, nS_sJ, nS_pR, nS_sR, nP_pI, nP_pJ, nP_sI, nP_sJ, nP_pR, nP_sR, nU_pI, nU_pJ, nU_sI, nU_sJ, nU_pR, nU_sR]
        simp [e1]
      · simp [nx_pI, kd_pI, ln_pI, gI_pI, gJ_pI, gR_pI, eI_pI, eJ_pI, eR_pI, kc_pI, nx_pJ, kd_pJ, ln_pJ, gI_pJ, gJ_pJ, gR_pJ, eI_pJ, eJ_pJ, eR_pJ, kc_pJ, nx_pR, kd_pR, ln_pR, gI_pR, gJ_pR, gR_pR, eI_pR, eJ_pR, eR_pR, kc_pR, nx_sI, kd_sI, ln_sI, gI_sI, gJ_sI, gR_sI, eI_sI, eJ_sI, eR_sI, kc_sI, nx_sJ, kd_sJ, ln_sJ, gI_sJ, gJ_sJ, gR_sJ, eI_sJ, eJ_sJ, eR_sJ, kc_sJ, nx_sR, kd_sR, ln_sR, gI_sR, gJ_sR, gR_sR, eI_sR, eJ_sR, eR_sR, kc_sR, ln_nO, eI_nO, eJ_nO, eR_nO, kc_nO, gI_nO, gI_nA, gJ_nO, gJ_nA, gR_nO, gR_nA, eI_nA, eJ_nA, eR_nA, kc_nA, nx_nO, nx_nA, kd_nO_at, kd_nA_at, ln_nA_at, el_pI, el_pJ, el_sI, el_sJ, bedp_pI, bedp_pJ, bedp_sI, bedp_sJ, nC_pI, nC_pJ, nC_sI, nC_sJ, nC_pR, nC_sR, nR_pI, nR_pJ, nR_sI, nR_sJ, nR_pR, nR_sR, nS_pI, nS_pJ, nS_sI, nS_sJ, nS_pR, nS_sR, nP_pI, nP_pJ, nP_sI, nP_sJ, nP_pR, nP_sR, nU_pI, nU_pJ, nU_sI, nU_sJ, nU_pR, nU_sR, hne j hj c, c]
        simpa using e1
    · unfold CPc2 at e2 ⊢
      simp [nx_pI, kd_pI, ln_pI, gI_pI, gJ_pI, gR_pI, eI_pI, eJ_pI, eR_pI, kc_pI, nx_pJ, kd_pJ, ln_pJ, gI_pJ, gJ_pJ, gR_pJ, eI_pJ, eJ_pJ, eR_pJ, kc_pJ, nx_pR, kd_pR, ln_pR, gI_pR, gJ_pR, gR_pR, eI_pR, eJ_pR, eR_pR, kc_pR, nx_sI, kd_sI, ln_sI, gI_sI, gJ_sI, gR_sI, eI_sI, eJ_sI, eR_sI, kc_sI, nx_sJ, kd_sJ, ln_sJ, gI_sJ, gJ_sJ, gR_sJ, eI_sJ, eJ_sJ, eR_sJ, kc_sJ, nx_sR, kd_sR, ln_sR, gI_sR, gJ_sR, gR_sR, eI_sR, eJ_sR, eR_sR, kc_sR, ln_nO, eI_nO, eJ_nO, eR_nO, kc_nO, gI_nO, gI_nA, gJ_nO, gJ_nA, gR_nO, gR_nA, eI_nA, eJ_nA, eR_nA, kc_nA, nx_nO, nx_nA, kd_nO_at, kd_nA_at, ln_nA_at, el_pI, el_pJ, el_sI, el_sJ, bedp_pI, bedp_pJ, bedp_sI, bedp_sJ, nC_pI, nC_pJ, nC_sI, nC_sJ, nC_pR, nC_sR, nR_pI, nR_pJ, nR_sI, nR_sJ, nR_pR, nR_sR, nS_pI, nS_pJ, nS_sI, nS_sJ, nS_pR, nS_sR, nP_pI, nP_pJ, nP_sI, nP_sJ, nP_pR, nP_sR, nU_pI, nU_pJ, nU_sI, nU_sJ, nU_pR, nU_sR]
      simpa using e2
  · intro j hj
    simp [nx_pI, kd_pI, ln_pI, gI_pI, gJ_pI, gR_pI, eI_pI, eJ_pI, eR_pI, kc_pI, nx_pJ, kd_pJ, ln_pJ, gI_pJ, gJ_pJ, gR_pJ, eI_pJ, eJ_pJ, eR_pJ, kc_pJ, nx_pR, kd_pR, ln_pR, gI_pR, gJ_pR, gR_pR, eI_pR, eJ_pR, eR_pR, kc_pR, nx_sI, kd_sI, ln_sI, gI_sI, gJ_sI, gR_sI, eI_sI, eJ_sI, eR_sI, kc_sI, nx_sJ, kd_sJ, ln_sJ, gI_sJ, gJ_sJ, gR_sJ, eI_sJ, eJ_sJ, eR_sJ, kc_sJ, nx_sR, kd_sR, ln_sR, gI_sR, gJ_sR, gR_sR, eI_sR, eJ_sR, eR_sR, kc_sR, ln_nO, eI_nO, eJ_nO, eR_nO, kc_nO, gI_nO, gI_nA, gJ_nO, gJ_nA, gR_nO, gR_nA, eI_nA, eJ_nA, eR_nA, kc_nA, nx_nO, nx_nA, kd_nO_at, kd_nA_at, ln_nA_at, el_pI, el_pJ, el_sI, el_sJ, bedp_pI, bedp_pJ, bedp_sI, bedp_sJ, nC_pI, nC_pJ, nC_sI, nC_sJ, nC_pR, nC_sR, nR_pI, nR_pJ, nR_sI, nR_sJ, nR_pR, nR_sR, nS_pI, nS_pJ, nS_sI, nS_sJ, nS_pR, nS_sR, nP_pI, nP_pJ, nP_sI, nP_sJ, nP_pR, nP_sR, nU_pI, nU_pJ, nU_sI, nU_sJ, nU_pR, nU_sR] at hj
    obtain ⟨q1, q2, q3, q4, q5⟩ := Kv j hj
    refine ⟨?_, ?_, ?_, ?_, ?_⟩
    all_goals simp [nx_pI, kd_pI, ln_pI, gI_pI, gJ_pI, gR_pI, eI_pI, eJ_pI, eR_pI, kc_pI, nx_pJ, kd_pJ, ln_pJ, gI_pJ, gJ_pJ, gR_pJ, eI_pJ, eJ_pJ, eR_pJ, kc_pJ, nx_pR, kd_pR, ln_pR, gI_pR, gJ_pR, gR_pR, eI_pR, eJ_pR, eR_pR, kc_pR, nx_sI, kd_sI, ln_sI, gI_sI, gJ_sI, gR_sI, eI_sI, eJ_sI, eR_sI, kc_sI, nx_sJ, kd_sJ, ln_sJ, gI_sJ, gJ_sJ, gR_sJ, eI_sJ, eJ_sJ, eR_sJ, kc_sJ, nx_sR, kd_sR, ln_sR, gI_sR, gJ_sR, gR_sR, eI_sR, eJ_sR, eR_sR, kc_sR, ln_nO, eI_nO, eJ_nO, eR_nO, kc_nO, gI_nO, gI_nA, gJ_nO, gJ_nA, gR_nO, gR_nA, eI_nA, eJ_nA, eR_nA, kc_nA, nx_nO, nx_nA, kd_nO_at, kd_nA_at, ln_nA_at, el_pI, el_pJ, el_sI, el_sJ, bedp_pI, bedp_pJ, bedp_sI, bedp_sJ, nC_pI, nC_pJ, nC_sI, nC_sJ, nC_pR, nC_sR, nR_pI, nR_pJ, nR_sI, nR_sJ, nR_pR, nR_sR, nS_pI, nS_pJ, nS_sI, nS_sJ, nS_pR, nS_sR, nP_pI, nP_pJ, nP_sI, nP_sJ, nP_pR, nP_sR, nU_pI, nU_pJ, nU_sI, nU_sJ, nU_pR, nU_sR]
    all_goals first | assumption | skip
    by_cases c : j = i
    · subst c
      simp; exact hv
    · simp [c]; exact q5
theorem pr_below (H : CP h x) {a b : Int32} (hR : ∀ h', CP h' x → R h') : CtI M_X0_below [rV x, iV a, iV b] h k n (fun r h1 => CtI M_X3_below [rV (x + 23), iV a, iV b] h1 0 0 (fun r2 h2 => r = r2 ∧ R h2) E) E := by
  refine r_wfH fun wf => ?_
  obtain ⟨hp, ⟨z1, z2⟩ | ⟨i, hi, rfl, z0, z1, z2, z3, z4, z5⟩⟩ := H.cor wf a
  · refine ct_X0_below H.xw (by simp [P_X0_below, hp, z2]) ?_
    rw [show F_X0_below h x a b = (0, h) by simp [F_X0_below, z2]]
    refine ct_X3_below H.mw (by simp [P_X3_below, z1]) ?_
    rw [show F_X3_below h (x + 23) a b = (0, h) by simp [F_X3_below, z1]]
    exact ⟨rfl, hR _ H⟩
  · have hk := (H.pc i hi).1.1
    have hn := H.nC_le.2
    obtain ⟨hp2, y1⟩ := H.cor wf b
    have hx : P_X0_below h x (nI i) b := by simp [P_X0_below, hp, hp2, z5, z0, hk]
    have hy : ∀ h1, P_X3_below h1 (x + 23) (nI i) b := fun h1 => by simp [P_X3_below, z3]
    have key : (b = -1 ∨ (nI i < b ∧ b.toInt < nC h x)) → CtI M_X0_below [rV x, iV (nI i), iV b] h k n (fun r h1 => CtI M_X3_below [rV (x + 23), iV (nI i), iV b] h1 0 0 (fun r2 h2 => r = r2 ∧ R h2) E) E := by
      intro hb
      have hm : MW (pI h 105 (el h (x + 2) i) b) (x + 23) := MW_pI H.mw
      have hvv : b = -1 ∨ (i < b.toInt ∧ b.toInt < nC h x) := by
        rcases hb with z | ⟨z, z'⟩
        · exact Or.inl z
        · rw [i32_lt, nI_toInt (by omega)] at z; exact Or.inr ⟨z, z'⟩
      refine ct_X0_below H.xw hx ?_
      have g0 : F_X0_below h x (nI i) b = (1, pI h 105 (el h (x + 2) i) b) := by
        by_cases c : b = -1
        · simp [F_X0_below, z2, z4, c, z0]
        · rcases y1 with ⟨w1, w2⟩ | ⟨j, hj, rfl, w0, w1, w2, w3, w4, w5⟩
          · exfalso
            rcases hb with z | ⟨z, z'⟩
            · exact c z
            · rw [H.nC_le.1, isin_f, i32_le, i32_le, nI_m1 (by omega)] at w1
              rw [i32_lt, nI_toInt (by omega)] at z
              exact w1 ⟨by rw [toI_0]; omega, by omega⟩
          · rcases hb with z | ⟨z, z'⟩
            · exact absurd z c
            · simp [F_X0_below, z2, z4, c, z0, w2, w4, z]
      rw [g0]
      generalize hg : pI h 105 (el h (x + 2) i) b = h1 at hm ⊢
      have g2 : gI h1 1001 (x + 23) = gI h 1001 (x + 23) := by rw [← hg]; simp [nx_pI, kd_pI, ln_pI, gI_pI, gJ_pI, gR_pI, eI_pI, eJ_pI, eR_pI, kc_pI, nx_pJ, kd_pJ, ln_pJ, gI_pJ, gJ_pJ, gR_pJ, eI_pJ, eJ_pJ, eR_pJ, kc_pJ, nx_pR, kd_pR, ln_pR, gI_pR, gJ_pR, gR_pR, eI_pR, eJ_pR, eR_pR, kc_pR, nx_sI, kd_sI, ln_sI, gI_sI, gJ_sI, gR_sI, eI_sI, eJ_sI, eR_sI, kc_sI, nx_sJ, kd_sJ, ln_sJ, gI_sJ, gJ_sJ, gR_sJ, eI_sJ, eJ_sJ, eR_sJ, kc_sJ, nx_sR, kd_sR, ln_sR, gI_sR, gJ_sR, gR_sR, eI_sR, eJ_sR, eR_sR, kc_sR, ln_nO, eI_nO, eJ_nO, eR_nO, kc_nO, gI_nO, gI_nA, gJ_nO, gJ_nA, gR_nO, gR_nA, eI_nA, eJ_nA, eR_nA, kc_nA, nx_nO, nx_nA, kd_nO_at, kd_nA_at, ln_nA_at]
      refine ct_X3_below hm (hy _) ?_
      have g1 : F_X3_below h1 (x + 23) (nI i) b = (1, sI h1 (x + 23 + 5) i b) := by
        by_cases c : b = -1
        · simp [F_X3_below, g2, z1, c, z0]
        · rcases y1 with ⟨w1, w2⟩ | ⟨j, hj, rfl, w0, w1, w2, w3, w4, w5⟩
          · exfalso
            rcases hb with z | ⟨z, z'⟩
            · exact c z
            · rw [H.nC_le.1, isin_f, i32_le, i32_le, nI_m1 (by omega)] at w1
              rw [i32_lt, nI_toInt (by omega)] at z
              exact w1 ⟨by rw [toI_0]; omega, by omega⟩
          · rcases hb with z | ⟨z, z'⟩
            · exact absurd z c
            · simp [F_X3_below, g2, z1, c, z0, w1, z]
      rw [g1, ← hg]
      exact ⟨rfl, hR _ (cp_below H hi hvv)⟩
    by_cases c : b = -1
    · exact key (Or.inl c)
    · rcases y1 with ⟨w1, w2⟩ | ⟨j, hj, rfl, w0, w1, w2, w3, w4, w5⟩
      · refine ct_X0_below H.xw hx ?_
        rw [show F_X0_below h x (nI i) b = (0, h) by simp [F_X0_below, z2, z4, c, w2]]
        refine ct_X3_below H.mw (hy _) ?_
        rw [show F_X3_below h (x + 23) (nI i) b = (0, h) by simp [F_X3_below, z1, c, w1]]
        exact ⟨rfl, hR _ H⟩
      · by_cases c2 : nI i < nI j
        · exact key (Or.inr ⟨c2, by rw [nI_toInt (by omega)]; omega⟩)
        · refine ct_X0_below H.xw hx ?_
          rw [show F_X0_below h x (nI i) (nI j) = (0, h) by simp [F_X0_below, z2, z4, c, w2, w4, c2]]
          refine ct_X3_below H.mw (hy _) ?_
          rw [show F_X3_below h (x + 23) (nI i) (nI j) = (0, h) by simp [F_X3_below, z1, c, w1, c2]]
          exact ⟨rfl, hR _ H⟩
end
