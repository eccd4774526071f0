/-! pairs: prove, close -/
set_option maxRecDepth 100000
section
variable {h : Hp} {x : Nat} {E : Nat → Hp → Prop} {k n : Nat} {R : Hp → Prop}
theorem nI_or {a b : Nat} (ha : a < 2 ^ 31) (hb : b < 2 ^ 31) : nI a ||| nI b = nI (a ||| b) := by
  have hc : a ||| b < 2 ^ 31 := Nat.or_lt_two_pow ha hb
  apply bt_ext
  intro y hy
  rw [bt_or, bt_nI ha hy, bt_nI hb hy, bt_nI hc hy, Nat.testBit_or]
theorem shl_nI {y : Nat} (hy : y < 31) : shl 1 (nI y) = nI (2 ^ y) := by
  have : ∀ y, y < 31 → shl 1 (nI y) = nI (2 ^ y) := by decide +kernel
  exact this y hy
theorem year_nI {v : Int32} (hv : bd v 0 3649) : ∃ y, y < 10 ∧ v / 365 = nI y := by
  have h1 := hv.1
  have h2 := hv.2
  have e := i32_div (a := v) (b := 365) h1 (by decide)
  rw [toI_365] at e
  have e2 : bd (v / 365) 0 9 := by unfold bd; rw [e]; omega
  obtain ⟨z1, z2⟩ := bd_nI (hi := 9) e2
  exact ⟨ix (v / 365), by omega, z1⟩
theorem bd_prove {v : Int32} (hv : bd v 0 1023) {y : Nat} (hy : y < 10) : bd (v ||| shl 1 (nI y)) 0 1023 := by
  obtain ⟨z1, z2⟩ := bd_nI (hi := 1023) hv
  rw [z1, shl_nI (by omega)]
  have h2 : 2 ^ y < 2 ^ 10 := Nat.pow_lt_pow_right (by decide) hy
  rw [nI_or (by omega) (by omega)]
  have h3 : ix v ||| 2 ^ y < 2 ^ 10 := Nat.or_lt_two_pow (by omega) h2
  unfold bd
  rw [nI_toInt (by omega)]
  omega
theorem cp_prove (H : CP h x) {i : Nat} {v : Int32} (hi : i < nR h x) (hv : bd v 0 1023) : CP (sI (pI h 206 (el h (x + 3) i) v) (x + 23 + 24) i v) x := by
  have hne : ∀ j, j < nR h x → j ≠ i → el h (x + 3) j ≠ el h (x + 3) i := fun j hj c e => c (H.rof_inj hj hi e)
  obtain ⟨Kw, Kn, Ko, Kl, Kc, Kv, Kb, Kx, Kr, Kq, Ks, Kp, Ka, Ku⟩ := H; refine ⟨(by with_reducible (repeat (first | assumption | refine CPw_pI ?_ | refine CPw_pJ ?_ | refine CPw_pR (by decide) ?_ | refine CPw_sJ ?_ | refine CPw_sM ?_))), (by with_reducible (repeat (first | assumption | refine CPn_pI (by decide) ?_ | refine CPn_pJ (by decide) ?_ | refine CPn_pR ?_ | refine CPn_sJ ?_ | refine CPn_sM ?_))), (by with_reducible (repeat (first | assumption | refine CPo_pI (by decide) ?_ | refine CPo_pJ ?_ | refine CPo_pR ?_ | refine CPo_sJ ?_ | refine CPo_sM ?_))), (by with_reducible (repeat (first | assumption | refine CPl_pI (by decide) ?_ | refine CPl_pJ ?_ | refine CPl_pR (by decide) ?_ | refine CPl_sJ ?_ | refine CPl_sM ?_))), (by with_reducible (repeat (first | assumption | refine CPc_pI (by decide) ?_ | refine CPc_pJ ?_ | refine CPc_pR (by decide) ?_ | refine CPc_sJ (by decide) ?_ | refine CPc_sM (by decide) ?_ | refine CPc_sX (by decide) ?_))), (by with_reducible (repeat (first | assumption | refine CPv_pI (by decide) ?_ | refine CPv_pJ ?_ | refine CPv_pR ?_ | refine CPv_sJ ?_ | refine CPv_sM (by decide) ?_ | refine CPv_sX (by decide) ?_))), (by with_reducible (repeat (first | assumption | refine CPb_pI (by decide) ?_ | refine CPb_pJ ?_ | refine CPb_pR (by decide) ?_ | refine CPb_sJ ?_ | refine CPb_sM (by decide) ?_ | refine CPb_sX (by decide) ?_))), (by with_reducible (repeat (first | assumption | refine CPx_pI (by decide) ?_ | refine CPx_pJ ?_ | refine CPx_pR ?_ | refine CPx_sJ ?_ | refine CPx_sM (by decide) ?_ | refine CPx_sX (by decide) ?_))), ?_, (by with_reducible (repeat (first | assumption | refine CPq_pI (by decide) ?_ | refine CPq_pJ ?_ | refine CPq_pR (by decide) ?_ | refine CPq_sJ ?_ | refine CPq_sM (by decide) ?_ | refine CPq_sX (by decide) ?_))), (by with_reducible (repeat (first | assumption | refine CPs_pI (by decide) ?_ | refine CPs_pJ (by decide) ?_ | refine CPs_pR (by decide) ?_ | refine CPs_sJ (by decide) ?_ | refine CPs_sM (by decide) ?_ | refine CPs_sX (by decide) ?_))), (by with_reducible (repeat (first | assumption | refine CPp_pI (by decide) ?_ | refine CPp_pJ ?_ | refine CPp_pR (by decide) ?_ | refine CPp_sJ ?_ | refine CPp_sM (by decide) ?_ | refine CPp_sX (by decide) ?_))), ?_, (by with_reducible (repeat (first | assumption | refine CPu_pI (by decide) ?_ | refine CPu_pJ ?_ | refine CPu_pR (by decide) ?_ | refine CPu_sJ ?_ | refine CPu_sM (by decide) (by decide) ?_ | refine CPu_sX (by decide) (by decide) (by decide) ?_)))⟩
  · intro j hj
    simp [nx_pI, kd_pI, ln_pI, gI_pI, gJ_pI, gR_pI, eI_pI, eJ_pI, eR_pI, kc_pI, nx_pJ, kd_pJ, ln_pJ, gI_pJ, gJ_pJ, gR_pJ, eI_pJ, eJ_pJ, eR_pJ, kc_pJ, nx_pR, kd_pR, ln_pR, gI_pR, gJ_pR, gR_pR, eI_pR, eJ_pR, eR_pR, kc_pR, nx_sI, kd_sI, ln_sI, gI_sI, gJ_sI, gR_sI, eI_sI, eJ_sI, eR_sI, kc_sI, nx_sJ, kd_sJ, ln_sJ, gI_sJ, gJ_sJ, gR_sJ, eI_sJ, eJ_sJ, eR_sJ, kc_sJ, nx_sR, kd_sR, ln_sR, gI_sR, gJ_sR, gR_sR, eI_sR, eJ_sR, eR_sR, kc_sR, ln_nO, eI_nO, eJ_nO, eR_nO, kc_nO, gI_nO, gI_nA, gJ_nO, gJ_nA, gR_nO, gR_nA, eI_nA, eJ_nA, eR_nA, kc_nA, nx_nO, nx_nA, kd_nO_at, kd_nA_at, ln_nA_at, el_pI, el_pJ, el_sI, el_sJ, bedp_pI, bedp_pJ, bedp_sI, bedp_sJ, nC_pI, nC_pJ, nC_sI, nC_sJ, nC_pR, nC_sR, nR_pI, nR_pJ, nR_sI, nR_sJ, nR_pR, nR_sR, nS_pI, nS_pJ, nS_sI, nS_sJ, nS_pR, nS_sR, nP_pI, nP_pJ, nP_sI, nP_sJ, nP_pR, nP_sR, nU_pI, nU_pJ, nU_sI, nU_sJ, nU_pR, nU_sR] at hj
    obtain ⟨e1, e2⟩ := Kr j hj
    refine ⟨?_, ?_⟩
    · unfold CPr1 at e1 ⊢
      by_cases c : j = i
      · subst c
        simp [nx_pI, kd_pI, ln_pI, gI_pI, gJ_pI, gR_pI, eI_pI, eJ_pI, eR_pI, kc_pI, nx_pJ, kd_pJ, ln_pJ, gI_pJ, gJ_pJ, gR_pJ, eI_pJ, eJ_pJ, eR_pJ, kc_pJ, nx_pR, kd_pR, ln_pR, gI_pR, gJ_pR, gR_pR, eI_pR, eJ_pR, eR_pR, kc_pR, nx_sI, kd_sI, ln_sI, gI_sI, gJ_sI, gR_sI, eI_sI, eJ_sI, eR_sI, kc_sI, nx_sJ, kd_sJ, ln_sJ, gI_sJ, gJ_sJ, gR_sJ, eI_sJ, eJ_sJ, eR_sJ, kc_sJ, nx_sR, kd_sR, ln_sR, gI_sR, gJ_sR, gR_sR, eI_sR, eJ_sR, eR_sR, kc_sR, ln_nO, eI_nO, eJ_nO, eR_nO, kc_nO, gI_nO, gI_nA, gJ_nO, gJ_nA, gR_nO, gR_nA, eI_nA, eJ_nA, eR_nA, kc_nA, nx_nO, nx_nA, kd_nO_at, kd_nA_at, ln_nA_at, el_pI, el_pJ, el_sI, el_sJ, bedp_pI, bedp_pJ, bedp_sI, bedp_sJ, nC_pI, nC_pJ, nC_sI, nC_sJ, nC_pR, nC_sR, nR_pI, nR_pJ, nR_sI, nR_sJ, nR_pR, nR_sR, nS_pI, nS_pJ, nS_sI, nS_sJ, nS_pR, nS_sR, nP_pI, nP_pJ, nP_sI, nP_sJ, nP_pR, nP_sR, nU_pI, nU_pJ, nU_sI, nU_sJ, nU_pR, nU_sR]
        simp [e1]
      · simp [nx_pI, kd_pI, ln_pI, gI_pI, gJ_pI, gR_pI, eI_pI, eJ_pI, eR_pI, kc_pI, nx_pJ, kd_pJ, ln_pJ, gI_pJ, gJ_pJ, gR_pJ, eI_pJ, eJ_pJ, eR_pJ, kc_pJ, nx_pR, kd_pR, ln_pR, gI_pR, gJ_pR, gR_pR, eI_pR, eJ_pR, eR_pR, kc_pR, nx_sI, kd_sI, ln_sI, gI_sI, gJ_sI, gR_sI, eI_sI, eJ_sI, eR_sI, kc_sI, nx_sJ, kd_sJ, ln_sJ, gI_sJ, gJ_sJ, gR_sJ, eI_sJ, eJ_sJ, eR_sJ, kc_sJ, nx_sR, kd_sR, ln_sR, gI_sR, gJ_sR, gR_sR, eI_sR, eJ_sR, eR_sR, kc_sR, ln_nO, eI_nO, eJ_nO, eR_nO, kc_nO, gI_nO, gI_nA, gJ_nO, gJ_nA, gR_nO, gR_nA, eI_nA, eJ_nA, eR_nA, kc_nA, nx_nO, nx_nA, kd_nO_at, kd_nA_at, ln_nA_at, el_pI, el_pJ, el_sI, el_sJ, bedp_pI, bedp_pJ, bedp_sI, bedp_sJ, nC_pI, nC_pJ, nC_sI, nC_sJ, nC_pR, nC_sR, nR_pI, nR_pJ, nR_sI, nR_sJ, nR_pR, nR_sR, nS_pI, nS_pJ, nS_sI, nS_sJ, nS_pR, nS_sR, nP_pI, nP_pJ, nP_sI, nP_sJ, nP_pR, nP_sR, nU_pI, nU_pJ, nU_sI, nU_sJ, nU_pR, nU_sR, hne j hj c, c]
        simpa using e1
    · obtain ⟨q1, q2, q3, q4, q5, q6⟩ := e2
      refine ⟨?_, ?_, ?_, ?_, ?_, ?_⟩
      all_goals simp [nx_pI, kd_pI, ln_pI, gI_pI, gJ_pI, gR_pI, eI_pI, eJ_pI, eR_pI, kc_pI, nx_pJ, kd_pJ, ln_pJ, gI_pJ, gJ_pJ, gR_pJ, eI_pJ, eJ_pJ, eR_pJ, kc_pJ, nx_pR, kd_pR, ln_pR, gI_pR, gJ_pR, gR_pR, eI_pR, eJ_pR, eR_pR, kc_pR, nx_sI, kd_sI, ln_sI, gI_sI, gJ_sI, gR_sI, eI_sI, eJ_sI, eR_sI, kc_sI, nx_sJ, kd_sJ, ln_sJ, gI_sJ, gJ_sJ, gR_sJ, eI_sJ, eJ_sJ, eR_sJ, kc_sJ, nx_sR, kd_sR, ln_sR, gI_sR, gJ_sR, gR_sR, eI_sR, eJ_sR, eR_sR, kc_sR, ln_nO, eI_nO, eJ_nO, eR_nO, kc_nO, gI_nO, gI_nA, gJ_nO, gJ_nA, gR_nO, gR_nA, eI_nA, eJ_nA, eR_nA, kc_nA, nx_nO, nx_nA, kd_nO_at, kd_nA_at, ln_nA_at, el_pI, el_pJ, el_sI, el_sJ, bedp_pI, bedp_pJ, bedp_sI, bedp_sJ, nC_pI, nC_pJ, nC_sI, nC_sJ, nC_pR, nC_sR, nR_pI, nR_pJ, nR_sI, nR_sJ, nR_pR, nR_sR, nS_pI, nS_pJ, nS_sI, nS_sJ, nS_pR, nS_sR, nP_pI, nP_pJ, nP_sI, nP_sJ, nP_pR, nP_sR, nU_pI, nU_pJ, nU_sI, nU_sJ, nU_pR, nU_sR]
      all_goals first | assumption | skip
      by_cases c : j = i
      · subst c
        simp; exact hv
      · simp [c]; exact q6
  · obtain ⟨a1, a2, a3, a4, a5, a6, a7⟩ := Ka
    refine ⟨?_, ?_, ?_, ?_, ?_, ?_, fun j hj hj2 => ?_⟩
    · simp [nx_pI, kd_pI, ln_pI, gI_pI, gJ_pI, gR_pI, eI_pI, eJ_pI, eR_pI, kc_pI, nx_pJ, kd_pJ, ln_pJ, gI_pJ, gJ_pJ, gR_pJ, eI_pJ, eJ_pJ, eR_pJ, kc_pJ, nx_pR, kd_pR, ln_pR, gI_pR, gJ_pR, gR_pR, eI_pR, eJ_pR, eR_pR, kc_pR, nx_sI, kd_sI, ln_sI, gI_sI, gJ_sI, gR_sI, eI_sI, eJ_sI, eR_sI, kc_sI, nx_sJ, kd_sJ, ln_sJ, gI_sJ, gJ_sJ, gR_sJ, eI_sJ, eJ_sJ, eR_sJ, kc_sJ, nx_sR, kd_sR, ln_sR, gI_sR, gJ_sR, gR_sR, eI_sR, eJ_sR, eR_sR, kc_sR, ln_nO, eI_nO, eJ_nO, eR_nO, kc_nO, gI_nO, gI_nA, gJ_nO, gJ_nA, gR_nO, gR_nA, eI_nA, eJ_nA, eR_nA, kc_nA, nx_nO, nx_nA, kd_nO_at, kd_nA_at, ln_nA_at]; exact a1
    · simp [nx_pI, kd_pI, ln_pI, gI_pI, gJ_pI, gR_pI, eI_pI, eJ_pI, eR_pI, kc_pI, nx_pJ, kd_pJ, ln_pJ, gI_pJ, gJ_pJ, gR_pJ, eI_pJ, eJ_pJ, eR_pJ, kc_pJ, nx_pR, kd_pR, ln_pR, gI_pR, gJ_pR, gR_pR, eI_pR, eJ_pR, eR_pR, kc_pR, nx_sI, kd_sI, ln_sI, gI_sI, gJ_sI, gR_sI, eI_sI, eJ_sI, eR_sI, kc_sI, nx_sJ, kd_sJ, ln_sJ, gI_sJ, gJ_sJ, gR_sJ, eI_sJ, eJ_sJ, eR_sJ, kc_sJ, nx_sR, kd_sR, ln_sR, gI_sR, gJ_sR, gR_sR, eI_sR, eJ_sR, eR_sR, kc_sR, ln_nO, eI_nO, eJ_nO, eR_nO, kc_nO, gI_nO, gI_nA, gJ_nO, gJ_nA, gR_nO, gR_nA, eI_nA, eJ_nA, eR_nA, kc_nA, nx_nO, nx_nA, kd_nO_at, kd_nA_at, ln_nA_at]; exact a2
    · simp [nx_pI, kd_pI, ln_pI, gI_pI, gJ_pI, gR_pI, eI_pI, eJ_pI, eR_pI, kc_pI, nx_pJ, kd_pJ, ln_pJ, gI_pJ, gJ_pJ, gR_pJ, eI_pJ, eJ_pJ, eR_pJ, kc_pJ, nx_pR, kd_pR, ln_pR, gI_pR, gJ_pR, gR_pR, eI_pR, eJ_pR, eR_pR, kc_pR, nx_sI, kd_sI, ln_sI, gI_sI, gJ_sI, gR_sI, eI_sI, eJ_sI, eR_sI, kc_sI, nx_sJ, kd_sJ, ln_sJ, gI_sJ, gJ_sJ, gR_sJ, eI_sJ, eJ_sJ, eR_sJ, kc_sJ, nx_sR, kd_sR, ln_sR, gI_sR, gJ_sR, gR_sR, eI_sR, eJ_sR, eR_sR, kc_sR, ln_nO, eI_nO, eJ_nO, eR_nO, kc_nO, gI_nO, gI_nA, gJ_nO, gJ_nA, gR_nO, gR_nA, eI_nA, eJ_nA, eR_nA, kc_nA, nx_nO, nx_nA, kd_nO_at, kd_nA_at, ln_nA_at]; exact a3
    · simp [nx_pI, kd_pI, ln_pI, gI_pI, gJ_pI, gR_pI, eI_pI, eJ_pI, eR_pI, kc_pI, nx_pJ, kd_pJ, ln_pJ, gI_pJ, gJ_pJ, gR_pJ, eI_pJ, eJ_pJ, eR_pJ, kc_pJ, nx_pR, kd_pR, ln_pR, gI_pR, gJ_pR, gR_pR, eI_pR, eJ_pR, eR_pR, kc_pR, nx_sI, kd_sI, ln_sI, gI_sI, gJ_sI, gR_sI, eI_sI, eJ_sI, eR_sI, kc_sI, nx_sJ, kd_sJ, ln_sJ, gI_sJ, gJ_sJ, gR_sJ, eI_sJ, eJ_sJ, eR_sJ, kc_sJ, nx_sR, kd_sR, ln_sR, gI_sR, gJ_sR, gR_sR, eI_sR, eJ_sR, eR_sR, kc_sR, ln_nO, eI_nO, eJ_nO, eR_nO, kc_nO, gI_nO, gI_nA, gJ_nO, gJ_nA, gR_nO, gR_nA, eI_nA, eJ_nA, eR_nA, kc_nA, nx_nO, nx_nA, kd_nO_at, kd_nA_at, ln_nA_at]; exact a4
    · simp [nx_pI, kd_pI, ln_pI, gI_pI, gJ_pI, gR_pI, eI_pI, eJ_pI, eR_pI, kc_pI, nx_pJ, kd_pJ, ln_pJ, gI_pJ, gJ_pJ, gR_pJ, eI_pJ, eJ_pJ, eR_pJ, kc_pJ, nx_pR, kd_pR, ln_pR, gI_pR, gJ_pR, gR_pR, eI_pR, eJ_pR, eR_pR, kc_pR, nx_sI, kd_sI, ln_sI, gI_sI, gJ_sI, gR_sI, eI_sI, eJ_sI, eR_sI, kc_sI, nx_sJ, kd_sJ, ln_sJ, gI_sJ, gJ_sJ, gR_sJ, eI_sJ, eJ_sJ, eR_sJ, kc_sJ, nx_sR, kd_sR, ln_sR, gI_sR, gJ_sR, gR_sR, eI_sR, eJ_sR, eR_sR, kc_sR, ln_nO, eI_nO, eJ_nO, eR_nO, kc_nO, gI_nO, gI_nA, gJ_nO, gJ_nA, gR_nO, gR_nA, eI_nA, eJ_nA, eR_nA, kc_nA, nx_nO, nx_nA, kd_nO_at, kd_nA_at, ln_nA_at]; exact a5
    · simp [nx_pI, kd_pI, ln_pI, gI_pI, gJ_pI, gR_pI, eI_pI, eJ_pI, eR_pI, kc_pI, nx_pJ, kd_pJ, ln_pJ, gI_pJ, gJ_pJ, gR_pJ, eI_pJ, eJ_pJ, eR_pJ, kc_pJ, nx_pR, kd_pR, ln_pR, gI_pR, gJ_pR, gR_pR, eI_pR, eJ_pR, eR_pR, kc_pR, nx_sI, kd_sI, ln_sI, gI_sI, gJ_sI, gR_sI, eI_sI, eJ_sI, eR_sI, kc_sI, nx_sJ, kd_sJ, ln_sJ, gI_sJ, gJ_sJ, gR_sJ, eI_sJ, eJ_sJ, eR_sJ, kc_sJ, nx_sR, kd_sR, ln_sR, gI_sR, gJ_sR, gR_sR, eI_sR, eJ_sR, eR_sR, kc_sR, ln_nO, eI_nO, eJ_nO, eR_nO, kc_nO, gI_nO, gI_nA, gJ_nO, gJ_nA, gR_nO, gR_nA, eI_nA, eJ_nA, eR_nA, kc_nA, nx_nO, nx_nA, kd_nO_at, kd_nA_at, ln_nA_at]; exact a6
    · have hj : nR h x ≤ j := by simp [nx_pI, kd_pI, ln_pI, gI_pI, gJ_pI, gR_pI, eI_pI, eJ_pI, eR_pI, kc_pI, nx_pJ, kd_pJ, ln_pJ, gI_pJ, gJ_pJ, gR_pJ, eI_pJ, eJ_pJ, eR_pJ, kc_pJ, nx_pR, kd_pR, ln_pR, gI_pR, gJ_pR, gR_pR, eI_pR, eJ_pR, eR_pR, kc_pR, nx_sI, kd_sI, ln_sI, gI_sI, gJ_sI, gR_sI, eI_sI, eJ_sI, eR_sI, kc_sI, nx_sJ, kd_sJ, ln_sJ, gI_sJ, gJ_sJ, gR_sJ, eI_sJ, eJ_sJ, eR_sJ, kc_sJ, nx_sR, kd_sR, ln_sR, gI_sR, gJ_sR, gR_sR, eI_sR, eJ_sR, eR_sR, kc_sR, ln_nO, eI_nO, eJ_nO, eR_nO, kc_nO, gI_nO, gI_nA, gJ_nO, gJ_nA, gR_nO, gR_nA, eI_nA, eJ_nA, eR_nA, kc_nA, nx_nO, nx_nA, kd_nO_at, kd_nA_at, ln_nA_at] at hj; exact hj
      have c : ¬ j = i := by omega
      have := a7 j hj hj2
      simp [nx_pI, kd_pI, ln_pI, gI_pI, gJ_pI, gR_pI, eI_pI, eJ_pI, eR_pI, kc_pI, nx_pJ, kd_pJ, ln_pJ, gI_pJ, gJ_pJ, gR_pJ, eI_pJ, eJ_pJ, eR_pJ, kc_pJ, nx_pR, kd_pR, ln_pR, gI_pR, gJ_pR, gR_pR, eI_pR, eJ_pR, eR_pR, kc_pR, nx_sI, kd_sI, ln_sI, gI_sI, gJ_sI, gR_sI, eI_sI, eJ_sI, eR_sI, kc_sI, nx_sJ, kd_sJ, ln_sJ, gI_sJ, gJ_sJ, gR_sJ, eI_sJ, eJ_sJ, eR_sJ, kc_sJ, nx_sR, kd_sR, ln_sR, gI_sR, gJ_sR, gR_sR, eI_sR, eJ_sR, eR_sR, kc_sR, ln_nO, eI_nO, eJ_nO, eR_nO, kc_nO, gI_nO, gI_nA, gJ_nO, gJ_nA, gR_nO, gR_nA, eI_nA, eJ_nA, eR_nA, kc_nA, nx_nO, nx_nA, kd_nO_at, kd_nA_at, ln_nA_at, c, this]
theorem CP.rof (H : CP h x) (wf : wfH h) (c : Int32) : rfp h x c ∧ ((isin c 0 (gI h 1002 (x + 23) - 1) = false ∧ rfv h x c = 0) ∨ ∃ i, i < nR h x ∧ c = nI i ∧ ix c = i ∧ isin c 0 (gI h 1002 (x + 23) - 1) = true ∧ rfv h x c = el h (x + 3) i ∧ vp_in c 30 ∧ el h (x + 3) i ≠ 0 ∧ ALg h (x + 3) c) := by
  have hn := H.nR_le
  have e := H.size3
  unfold rfp rfv
  rw [e, hn.1]
  rcases isin_cases (show nR h x < 2 ^ 30 by omega) c with z | ⟨i, hi, rfl, h2, h3, h4, h5⟩
  · exact ⟨fun y => absurd (z.symm.trans y) (by decide), Or.inl ⟨z, by simp [z]⟩⟩
  · have hal := H.pl.2.1.g h4 h5
    have hk := (H.pr i hi).1.1
    refine ⟨fun _ => ⟨hal, by rw [h2]; exact hk⟩, Or.inr ⟨i, hi, rfl, h2, h3, by simp [h3, h2], ?_, ?_, hal⟩⟩
    · rw [vin_iff]; omega
    · exact Nat.ne_of_gt (wf.lt hk (by decide)).1
theorem pr_prove (H : CP h x) {a : Int32} (hR : ∀ h', CP h' x → R h') : CtI M_X0_prove [rV x, iV a] h k n (fun r h1 => CtI M_X3_prove [rV (x + 23), iV a] h1 0 0 (fun r2 h2 => r = r2 ∧ R h2) E) E := by
  refine r_wfH fun wf => ?_
  obtain ⟨hp, ⟨z1, z2⟩ | ⟨i, hi, rfl, z0, z1, z2, z3, z4, z5⟩⟩ := H.rof wf a
  · refine ct_X0_prove H.xw (by simp [P_X0_prove, hp, z2]) ?_
    rw [show F_X0_prove h x a = (0, h) by simp [F_X0_prove, z2]]
    refine ct_X3_prove H.mw (by simp [P_X3_prove, z1]) ?_
    rw [show F_X3_prove h (x + 23) a = (0, h) by simp [F_X3_prove, z1]]
    exact ⟨rfl, hR _ H⟩
  · obtain ⟨⟨r1, r2, r3, r4, r5, r6, r7, r8⟩, s1, s2, s3, s4, s5, s6⟩ := H.pr i hi
    have hx : P_X0_prove h x (nI i) := by simp [P_X0_prove, hp, z2, r1]
    have hy : ∀ h1, P_X3_prove h1 (x + 23) (nI i) := fun h1 => by simp [P_X3_prove, z3]
    have et := H.pn.1
    obtain ⟨y, hy9, ey⟩ := year_nI H.po.1
    by_cases c : eI h (x + 23 + 22) i = 0
    · refine ct_X0_prove H.xw hx ?_
      rw [show F_X0_prove h x (nI i) = (0, h) by simp [F_X0_prove, z2, z4, r6, c]]
      refine ct_X3_prove H.mw (hy _) ?_
      rw [show F_X3_prove h (x + 23) (nI i) = (0, h) by simp [F_X3_prove, z1, z0, c]]
      exact ⟨rfl, hR _ H⟩
    · refine ct_X0_prove H.xw hx ?_
      have hm : MW (pI h 206 (el h (x + 3) i) (eI h (x + 23 + 24) i ||| shl 1 (nI y))) (x + 23) := MW_pI H.mw
      rw [show F_X0_prove h x (nI i) = (1, pI h 206 (el h (x + 3) i) (eI h (x + 23 + 24) i ||| shl 1 (nI y))) by simp [F_X0_prove, z2, z4, r6, r8, c, et, ey]]
      generalize hg : pI h 206 (el h (x + 3) i) (eI h (x + 23 + 24) i ||| shl 1 (nI y)) = h1 at hm ⊢
      have g1 : eI h1 = eI h := by rw [← hg]; simp [nx_pI, kd_pI, ln_pI, gI_pI, gJ_pI, gR_pI, eI_pI, eJ_pI, eR_pI, kc_pI, nx_pJ, kd_pJ, ln_pJ, gI_pJ, gJ_pJ, gR_pJ, eI_pJ, eJ_pJ, eR_pJ, kc_pJ, nx_pR, kd_pR, ln_pR, gI_pR, gJ_pR, gR_pR, eI_pR, eJ_pR, eR_pR, kc_pR, nx_sI, kd_sI, ln_sI, gI_sI, gJ_sI, gR_sI, eI_sI, eJ_sI, eR_sI, kc_sI, nx_sJ, kd_sJ, ln_sJ, gI_sJ, gJ_sJ, gR_sJ, eI_sJ, eJ_sJ, eR_sJ, kc_sJ, nx_sR, kd_sR, ln_sR, gI_sR, gJ_sR, gR_sR, eI_sR, eJ_sR, eR_sR, kc_sR, ln_nO, eI_nO, eJ_nO, eR_nO, kc_nO, gI_nO, gI_nA, gJ_nO, gJ_nA, gR_nO, gR_nA, eI_nA, eJ_nA, eR_nA, kc_nA, nx_nO, nx_nA, kd_nO_at, kd_nA_at, ln_nA_at]
      have g2 : gI h1 1002 (x + 23) = gI h 1002 (x + 23) := by rw [← hg]; simp [nx_pI, kd_pI, ln_pI, gI_pI, gJ_pI, gR_pI, eI_pI, eJ_pI, eR_pI, kc_pI, nx_pJ, kd_pJ, ln_pJ, gI_pJ, gJ_pJ, gR_pJ, eI_pJ, eJ_pJ, eR_pJ, kc_pJ, nx_pR, kd_pR, ln_pR, gI_pR, gJ_pR, gR_pR, eI_pR, eJ_pR, eR_pR, kc_pR, nx_sI, kd_sI, ln_sI, gI_sI, gJ_sI, gR_sI, eI_sI, eJ_sI, eR_sI, kc_sI, nx_sJ, kd_sJ, ln_sJ, gI_sJ, gJ_sJ, gR_sJ, eI_sJ, eJ_sJ, eR_sJ, kc_sJ, nx_sR, kd_sR, ln_sR, gI_sR, gJ_sR, gR_sR, eI_sR, eJ_sR, eR_sR, kc_sR, ln_nO, eI_nO, eJ_nO, eR_nO, kc_nO, gI_nO, gI_nA, gJ_nO, gJ_nA, gR_nO, gR_nA, eI_nA, eJ_nA, eR_nA, kc_nA, nx_nO, nx_nA, kd_nO_at, kd_nA_at, ln_nA_at]
      have g3 : gI h1 1000 (x + 23) = gI h 1000 (x + 23) := by rw [← hg]; simp [nx_pI, kd_pI, ln_pI, gI_pI, gJ_pI, gR_pI, eI_pI, eJ_pI, eR_pI, kc_pI, nx_pJ, kd_pJ, ln_pJ, gI_pJ, gJ_pJ, gR_pJ, eI_pJ, eJ_pJ, eR_pJ, kc_pJ, nx_pR, kd_pR, ln_pR, gI_pR, gJ_pR, gR_pR, eI_pR, eJ_pR, eR_pR, kc_pR, nx_sI, kd_sI, ln_sI, gI_sI, gJ_sI, gR_sI, eI_sI, eJ_sI, eR_sI, kc_sI, nx_sJ, kd_sJ, ln_sJ, gI_sJ, gJ_sJ, gR_sJ, eI_sJ, eJ_sJ, eR_sJ, kc_sJ, nx_sR, kd_sR, ln_sR, gI_sR, gJ_sR, gR_sR, eI_sR, eJ_sR, eR_sR, kc_sR, ln_nO, eI_nO, eJ_nO, eR_nO, kc_nO, gI_nO, gI_nA, gJ_nO, gJ_nA, gR_nO, gR_nA, eI_nA, eJ_nA, eR_nA, kc_nA, nx_nO, nx_nA, kd_nO_at, kd_nA_at, ln_nA_at]
      refine ct_X3_prove hm (hy _) ?_
      rw [show F_X3_prove h1 (x + 23) (nI i) = (1, sI h1 (x + 23 + 24) i (eI h (x + 23 + 24) i ||| shl 1 (nI y))) by simp [F_X3_prove, g2, z1, z0, g1, c, g3, ey]]
      rw [← hg]
      exact ⟨rfl, hR _ (cp_prove H hi (bd_prove s6 hy9))⟩
theorem cp_close (H : CP h x) {i : Nat} (hi : i < nP h x) : CP (sI (pI h 806 (el h (x + 22) i) 0) (x + 23 + 49) i 0) x := by
  have hne : ∀ j, j < nP h x → j ≠ i → el h (x + 22) j ≠ el h (x + 22) i := fun j hj c e => c (H.com_inj hj hi e)
  obtain ⟨Kw, Kn, Ko, Kl, Kc, Kv, Kb, Kx, Kr, Kq, Ks, Kp, Ka, Ku⟩ := H; refine ⟨(by with_reducible (repeat (first | assumption | refine CPw_pI ?_ | refine CPw_pJ ?_ | refine CPw_pR (by decide) ?_ | refine CPw_sJ ?_ | refine CPw_sM ?_))), (by with_reducible (repeat (first | assumption | refine CPn_pI (by decide) ?_ | refine CPn_pJ (by decide) ?_ | refine CPn_pR ?_ | refine CPn_sJ ?_ | refine CPn_sM ?_))), (by with_reducible (repeat (first | assumption | refine CPo_pI (by decide) ?_ | refine CPo_pJ ?_ | refine CPo_pR ?_ | refine CPo_sJ ?_ | refine CPo_sM ?_))), (by with_reducible (repeat (first | assumption | refine CPl_pI (by decide) ?_ | refine CPl_pJ ?_ | refine CPl_pR (by decide) ?_ | refine CPl_sJ ?_ | refine CPl_sM ?_))), (by with_reducible (repeat (first | assumption | refine CPc_pI (by decide) ?_ | refine CPc_pJ ?_ | refine CPc_pR (by decide) ?_ | refine CPc_sJ (by decide) ?_ | refine CPc_sM (by decide) ?_ | refine CPc_sX (by decide) ?_))), (by with_reducible (repeat (first | assumption | refine CPv_pI (by decide) ?_ | refine CPv_pJ ?_ | refine CPv_pR ?_ | refine CPv_sJ ?_ | refine CPv_sM (by decide) ?_ | refine CPv_sX (by decide) ?_))), (by with_reducible (repeat (first | assumption | refine CPb_pI (by decide) ?_ | refine CPb_pJ ?_ | refine CPb_pR (by decide) ?_ | refine CPb_sJ ?_ | refine CPb_sM (by decide) ?_ | refine CPb_sX (by decide) ?_))), (by with_reducible (repeat (first | assumption | refine CPx_pI (by decide) ?_ | refine CPx_pJ ?_ | refine CPx_pR ?_ | refine CPx_sJ ?_ | refine CPx_sM (by decide) ?_ | refine CPx_sX (by decide) ?_))), (by with_reducible (repeat (first | assumption | refine CPr_pI (by decide) ?_ | refine CPr_pJ ?_ | refine CPr_pR (by decide) ?_ | refine CPr_sJ ?_ | refine CPr_sM (by decide) ?_ | refine CPr_sX (by decide) ?_))), (by with_reducible (repeat (first | assumption | refine CPq_pI (by decide) ?_ | refine CPq_pJ ?_ | refine CPq_pR (by decide) ?_ | refine CPq_sJ ?_ | refine CPq_sM (by decide) ?_ | refine CPq_sX (by decide) ?_))), (by with_reducible (repeat (first | assumption | refine CPs_pI (by decide) ?_ | refine CPs_pJ (by decide) ?_ | refine CPs_pR (by decide) ?_ | refine CPs_sJ (by decide) ?_ | refine CPs_sM (by decide) ?_ | refine CPs_sX (by decide) ?_))), ?_, (by with_reducible (repeat (first | assumption | refine CPa_pI (by decide) ?_ | refine CPa_pJ ?_ | refine CPa_pR ?_ | refine CPa_sJ (by decide) ?_ | refine CPa_sM (by decide) ?_ | refine CPa_sX (by decide) ?_))), (by with_reducible (repeat (first | assumption | refine CPu_pI (by decide) ?_ | refine CPu_pJ ?_ | refine CPu_pR (by decide) ?_ | refine CPu_sJ ?_ | refine CPu_sM (by decide) (by decide) ?_ | refine CPu_sX (by decide) (by decide) (by decide) ?_)))⟩
  refine ⟨fun j hj => ?_, fun j l hjl hl => ?_⟩
  · simp [nx_pI, kd_pI, ln_pI, gI_pI, gJ_pI, gR_pI, eI_pI, eJ_pI, eR_pI, kc_pI, nx_pJ, kd_pJ, ln_pJ, gI_pJ, gJ_pJ, gR_pJ, eI_pJ, eJ_pJ, eR_pJ, kc_pJ, nx_pR, kd_pR, ln_pR, gI_pR, gJ_pR, gR_pR, eI_pR, eJ_pR, eR_pR, kc_pR, nx_sI, kd_sI, ln_sI, gI_sI, gJ_sI, gR_sI, eI_sI, eJ_sI, eR_sI, kc_sI, nx_sJ, kd_sJ, ln_sJ, gI_sJ, gJ_sJ, gR_sJ, eI_sJ, eJ_sJ, eR_sJ, kc_sJ, nx_sR, kd_sR, ln_sR, gI_sR, gJ_sR, gR_sR, eI_sR, eJ_sR, eR_sR, kc_sR, ln_nO, eI_nO, eJ_nO, eR_nO, kc_nO, gI_nO, gI_nA, gJ_nO, gJ_nA, gR_nO, gR_nA, eI_nA, eJ_nA, eR_nA, kc_nA, nx_nO, nx_nA, kd_nO_at, kd_nA_at, ln_nA_at, el_pI, el_pJ, el_sI, el_sJ, bedp_pI, bedp_pJ, bedp_sI, bedp_sJ, nC_pI, nC_pJ, nC_sI, nC_sJ, nC_pR, nC_sR, nR_pI, nR_pJ, nR_sI, nR_sJ, nR_pR, nR_sR, nS_pI, nS_pJ, nS_sI, nS_sJ, nS_pR, nS_sR, nP_pI, nP_pJ, nP_sI, nP_sJ, nP_pR, nP_sR, nU_pI, nU_pJ, nU_sI, nU_sJ, nU_pR, nU_sR] at hj
    have e1 := Kp.1 j hj
    unfold CPp1 at e1 ⊢
    by_cases c : j = i
    · subst c
      have hz : bd 0 0 1 := ⟨by decide, by decide⟩
      simp [nx_pI, kd_pI, ln_pI, gI_pI, gJ_pI, gR_pI, eI_pI, eJ_pI, eR_pI, kc_pI, nx_pJ, kd_pJ, ln_pJ, gI_pJ, gJ_pJ, gR_pJ, eI_pJ, eJ_pJ, eR_pJ, kc_pJ, nx_pR, kd_pR, ln_pR, gI_pR, gJ_pR, gR_pR, eI_pR, eJ_pR, eR_pR, kc_pR, nx_sI, kd_sI, ln_sI, gI_sI, gJ_sI, gR_sI, eI_sI, eJ_sI, eR_sI, kc_sI, nx_sJ, kd_sJ, ln_sJ, gI_sJ, gJ_sJ, gR_sJ, eI_sJ, eJ_sJ, eR_sJ, kc_sJ, nx_sR, kd_sR, ln_sR, gI_sR, gJ_sR, gR_sR, eI_sR, eJ_sR, eR_sR, kc_sR, ln_nO, eI_nO, eJ_nO, eR_nO, kc_nO, gI_nO, gI_nA, gJ_nO, gJ_nA, gR_nO, gR_nA, eI_nA, eJ_nA, eR_nA, kc_nA, nx_nO, nx_nA, kd_nO_at, kd_nA_at, ln_nA_at, el_pI, el_pJ, el_sI, el_sJ, bedp_pI, bedp_pJ, bedp_sI, bedp_sJ, nC_pI, nC_pJ, nC_sI, nC_sJ, nC_pR, nC_sR, nR_pI, nR_pJ, nR_sI, nR_sJ, nR_pR, nR_sR, nS_pI, nS_pJ, nS_sI, nS_sJ, nS_pR, nS_sR, nP_pI, nP_pJ, nP_sI, nP_sJ, nP_pR, nP_sR, nU_pI, nU_pJ, nU_sI, nU_sJ, nU_pR, nU_sR]
      simp [e1, hz]
    · simp [nx_pI, kd_pI, ln_pI, gI_pI, gJ_pI, gR_pI, eI_pI, eJ_pI, eR_pI, kc_pI, nx_pJ, kd_pJ, ln_pJ, gI_pJ, gJ_pJ, gR_pJ, eI_pJ, eJ_pJ, eR_pJ, kc_pJ, nx_pR, kd_pR, ln_pR, gI_pR, gJ_pR, gR_pR, eI_pR, eJ_pR, eR_pR, kc_pR, nx_sI, kd_sI, ln_sI, gI_sI, gJ_sI, gR_sI, eI_sI, eJ_sI, eR_sI, kc_sI, nx_sJ, kd_sJ, ln_sJ, gI_sJ, gJ_sJ, gR_sJ, eI_sJ, eJ_sJ, eR_sJ, kc_sJ, nx_sR, kd_sR, ln_sR, gI_sR, gJ_sR, gR_sR, eI_sR, eJ_sR, eR_sR, kc_sR, ln_nO, eI_nO, eJ_nO, eR_nO, kc_nO, gI_nO, gI_nA, gJ_nO, gJ_nA, gR_nO, gR_nA, eI_nA, eJ_nA, eR_nA, kc_nA, nx_nO, nx_nA, kd_nO_at, kd_nA_at, ln_nA_at, el_pI, el_pJ, el_sI, el_sJ, bedp_pI, bedp_pJ, bedp_sI, bedp_sJ, nC_pI, nC_pJ, nC_sI, nC_sJ, nC_pR, nC_sR, nR_pI, nR_pJ, nR_sI, nR_sJ, nR_pR, nR_sR, nS_pI, nS_pJ, nS_sI, nS_sJ, nS_pR, nS_sR, nP_pI, nP_pJ, nP_sI, nP_sJ, nP_pR, nP_sR, nU_pI, nU_pJ, nU_sI, nU_sJ, nU_pR, nU_sR, hne j hj c, c]
      simpa using e1
  · simp [nx_pI, kd_pI, ln_pI, gI_pI, gJ_pI, gR_pI, eI_pI, eJ_pI, eR_pI, kc_pI, nx_pJ, kd_pJ, ln_pJ, gI_pJ, gJ_pJ, gR_pJ, eI_pJ, eJ_pJ, eR_pJ, kc_pJ, nx_pR, kd_pR, ln_pR, gI_pR, gJ_pR, gR_pR, eI_pR, eJ_pR, eR_pR, kc_pR, nx_sI, kd_sI, ln_sI, gI_sI, gJ_sI, gR_sI, eI_sI, eJ_sI, eR_sI, kc_sI, nx_sJ, kd_sJ, ln_sJ, gI_sJ, gJ_sJ, gR_sJ, eI_sJ, eJ_sJ, eR_sJ, kc_sJ, nx_sR, kd_sR, ln_sR, gI_sR, gJ_sR, gR_sR, eI_sR, eJ_sR, eR_sR, kc_sR, ln_nO, eI_nO, eJ_nO, eR_nO, kc_nO, gI_nO, gI_nA, gJ_nO, gJ_nA, gR_nO, gR_nA, eI_nA, eJ_nA, eR_nA, kc_nA, nx_nO, nx_nA, kd_nO_at, kd_nA_at, ln_nA_at, el_pI, el_pJ, el_sI, el_sJ, bedp_pI, bedp_pJ, bedp_sI, bedp_sJ, nC_pI, nC_pJ, nC_sI, nC_sJ, nC_pR, nC_sR, nR_pI, nR_pJ, nR_sI, nR_sJ, nR_pR, nR_sR, nS_pI, nS_pJ, nS_sI, nS_sJ, nS_pR, nS_sR, nP_pI, nP_pJ, nP_sI, nP_sJ, nP_pR, nP_sR, nU_pI, nU_pJ, nU_sI, nU_sJ, nU_pR, nU_sR] at hl
    have e2 := Kp.2 j l hjl hl
    simp [nx_pI, kd_pI, ln_pI, gI_pI, gJ_pI, gR_pI, eI_pI, eJ_pI, eR_pI, kc_pI, nx_pJ, kd_pJ, ln_pJ, gI_pJ, gJ_pJ, gR_pJ, eI_pJ, eJ_pJ, eR_pJ, kc_pJ, nx_pR, kd_pR, ln_pR, gI_pR, gJ_pR, gR_pR, eI_pR, eJ_pR, eR_pR, kc_pR, nx_sI, kd_sI, ln_sI, gI_sI, gJ_sI, gR_sI, eI_sI, eJ_sI, eR_sI, kc_sI, nx_sJ, kd_sJ, ln_sJ, gI_sJ, gJ_sJ, gR_sJ, eI_sJ, eJ_sJ, eR_sJ, kc_sJ, nx_sR, kd_sR, ln_sR, gI_sR, gJ_sR, gR_sR, eI_sR, eJ_sR, eR_sR, kc_sR, ln_nO, eI_nO, eJ_nO, eR_nO, kc_nO, gI_nO, gI_nA, gJ_nO, gJ_nA, gR_nO, gR_nA, eI_nA, eJ_nA, eR_nA, kc_nA, nx_nO, nx_nA, kd_nO_at, kd_nA_at, ln_nA_at, el_pI, el_pJ, el_sI, el_sJ, bedp_pI, bedp_pJ, bedp_sI, bedp_sJ, nC_pI, nC_pJ, nC_sI, nC_sJ, nC_pR, nC_sR, nR_pI, nR_pJ, nR_sI, nR_sJ, nR_pR, nR_sR, nS_pI, nS_pJ, nS_sI, nS_sJ, nS_pR, nS_sR, nP_pI, nP_pJ, nP_sI, nP_sJ, nP_pR, nP_sR, nU_pI, nU_pJ, nU_sI, nU_sJ, nU_pR, nU_sR]
    intro u1 u2
    by_cases c : j = i
    · simp [c] at u1
    · by_cases c2 : l = i
      · simp [c2] at u2
      · simp [c] at u1
        simp [c2] at u2
        exact e2 u1 u2
theorem pr_close (H : CP h x) {a : Int32} (hR : ∀ h', CP h' x → R h') : CtI M_X0_close [rV x, iV a] h k n (fun r h1 => CtI M_X3_close [rV (x + 23), iV a] h1 0 0 (fun r2 h2 => r = r2 ∧ R h2) E) E := by
  obtain ⟨s1, s2⟩ := H.nP_le
  have e := H.size22
  rcases isin_cases (m := nP h x) (by omega) a with z | ⟨i, hi, rfl, h2, h3, h4, h5⟩
  · rw [← s1] at z
    refine ct_X0_close H.xw (by simp [P_X0_close, e, z]) ?_
    rw [show F_X0_close h x a = (0, h) by simp [F_X0_close, e, z]]
    refine ct_X3_close H.mw (by simp [P_X3_close, z]) ?_
    rw [show F_X3_close h (x + 23) a = (0, h) by simp [F_X3_close, z]]
    exact ⟨rfl, hR _ H⟩
  · rw [← s1] at h3
    obtain ⟨q1, q2, q3, q4, q5, q6, q7, q8, q9, -⟩ := H.pp.1 i hi
    have hv : vp_in (nI i) 60 := by rw [vin_iff]; omega
    have hal := H.pl.2.2.2.2.g h4 h5
    have hx : P_X0_close h x (nI i) := by simp [P_X0_close, hal, h2, q1]
    have hy : ∀ h1, P_X3_close h1 (x + 23) (nI i) := fun h1 => by simp [P_X3_close, hv]
    by_cases c : eI h (x + 23 + 49) i = 0
    · refine ct_X0_close H.xw hx ?_
      rw [show F_X0_close h x (nI i) = (0, h) by simp [F_X0_close, e, h3, h2, q9, c]]
      refine ct_X3_close H.mw (hy _) ?_
      rw [show F_X3_close h (x + 23) (nI i) = (0, h) by simp [F_X3_close, h3, h2, c]]
      exact ⟨rfl, hR _ H⟩
    · refine ct_X0_close H.xw hx ?_
      have hm : MW (pI h 806 (el h (x + 22) i) 0) (x + 23) := MW_pI H.mw
      rw [show F_X0_close h x (nI i) = (1, pI h 806 (el h (x + 22) i) 0) by simp [F_X0_close, e, h3, h2, q9, c]]
      generalize hg : pI h 806 (el h (x + 22) i) 0 = h1 at hm ⊢
      have g1 : eI h1 = eI h := by rw [← hg]; simp [nx_pI, kd_pI, ln_pI, gI_pI, gJ_pI, gR_pI, eI_pI, eJ_pI, eR_pI, kc_pI, nx_pJ, kd_pJ, ln_pJ, gI_pJ, gJ_pJ, gR_pJ, eI_pJ, eJ_pJ, eR_pJ, kc_pJ, nx_pR, kd_pR, ln_pR, gI_pR, gJ_pR, gR_pR, eI_pR, eJ_pR, eR_pR, kc_pR, nx_sI, kd_sI, ln_sI, gI_sI, gJ_sI, gR_sI, eI_sI, eJ_sI, eR_sI, kc_sI, nx_sJ, kd_sJ, ln_sJ, gI_sJ, gJ_sJ, gR_sJ, eI_sJ, eJ_sJ, eR_sJ, kc_sJ, nx_sR, kd_sR, ln_sR, gI_sR, gJ_sR, gR_sR, eI_sR, eJ_sR, eR_sR, kc_sR, ln_nO, eI_nO, eJ_nO, eR_nO, kc_nO, gI_nO, gI_nA, gJ_nO, gJ_nA, gR_nO, gR_nA, eI_nA, eJ_nA, eR_nA, kc_nA, nx_nO, nx_nA, kd_nO_at, kd_nA_at, ln_nA_at]
      have g2 : gI h1 1006 (x + 23) = gI h 1006 (x + 23) := by rw [← hg]; simp [nx_pI, kd_pI, ln_pI, gI_pI, gJ_pI, gR_pI, eI_pI, eJ_pI, eR_pI, kc_pI, nx_pJ, kd_pJ, ln_pJ, gI_pJ, gJ_pJ, gR_pJ, eI_pJ, eJ_pJ, eR_pJ, kc_pJ, nx_pR, kd_pR, ln_pR, gI_pR, gJ_pR, gR_pR, eI_pR, eJ_pR, eR_pR, kc_pR, nx_sI, kd_sI, ln_sI, gI_sI, gJ_sI, gR_sI, eI_sI, eJ_sI, eR_sI, kc_sI, nx_sJ, kd_sJ, ln_sJ, gI_sJ, gJ_sJ, gR_sJ, eI_sJ, eJ_sJ, eR_sJ, kc_sJ, nx_sR, kd_sR, ln_sR, gI_sR, gJ_sR, gR_sR, eI_sR, eJ_sR, eR_sR, kc_sR, ln_nO, eI_nO, eJ_nO, eR_nO, kc_nO, gI_nO, gI_nA, gJ_nO, gJ_nA, gR_nO, gR_nA, eI_nA, eJ_nA, eR_nA, kc_nA, nx_nO, nx_nA, kd_nO_at, kd_nA_at, ln_nA_at]
      refine ct_X3_close hm (hy _) ?_
      rw [show F_X3_close h1 (x + 23) (nI i) = (1, sI h1 (x + 23 + 49) i 0) by simp [F_X3_close, g2, h3, h2, g1, c]]
      rw [← hg]
      exact ⟨rfl, hR _ (cp_close H hi)⟩
end
