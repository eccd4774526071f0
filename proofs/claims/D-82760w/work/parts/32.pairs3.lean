/-! pairs: rows of beds, corners, roofs, complaints changed -/
set_option maxRecDepth 100000
theorem el_pI (h : Hp) (f a : Nat) (v : Int32) : el (pI h f a v) = el h := (rfl)
theorem bedp_pI (h : Hp) (f a : Nat) (v : Int32) : bedp (pI h f a v) = bedp h := (rfl)
theorem el_pJ (h : Hp) (f a : Nat) (v : Int64) : el (pJ h f a v) = el h := (rfl)
theorem bedp_pJ (h : Hp) (f a : Nat) (v : Int64) : bedp (pJ h f a v) = bedp h := (rfl)
theorem el_sI (h : Hp) (f a : Nat) (v : Int32) : el (sI h f a v) = el h := (rfl)
theorem bedp_sI (h : Hp) (f a : Nat) (v : Int32) : bedp (sI h f a v) = bedp h := (rfl)
theorem el_sJ (h : Hp) (f a : Nat) (v : Int64) : el (sJ h f a v) = el h := (rfl)
theorem bedp_sJ (h : Hp) (f a : Nat) (v : Int64) : bedp (sJ h f a v) = bedp h := (rfl)
theorem nC_pJ (h : Hp) (f a : Nat) (v : Int64) : nC (pJ h f a v) = nC h := (rfl)
theorem nC_sI (h : Hp) (f a : Nat) (v : Int32) : nC (sI h f a v) = nC h := (rfl)
theorem nC_sJ (h : Hp) (f a : Nat) (v : Int64) : nC (sJ h f a v) = nC h := (rfl)
theorem nC_pI {h : Hp} {f a : Nat} {v : Int32} (hf : f ≠ 1001) : nC (pI h f a v) = nC h := by funext x; unfold nC; rw [gI_pI_ne hf]
theorem nC_pR (h : Hp) (f a v : Nat) : nC (pR h f a v) = nC h := (rfl)
theorem nC_sR (h : Hp) (f a v : Nat) : nC (sR h f a v) = nC h := (rfl)
theorem nR_pJ (h : Hp) (f a : Nat) (v : Int64) : nR (pJ h f a v) = nR h := (rfl)
theorem nR_sI (h : Hp) (f a : Nat) (v : Int32) : nR (sI h f a v) = nR h := (rfl)
theorem nR_sJ (h : Hp) (f a : Nat) (v : Int64) : nR (sJ h f a v) = nR h := (rfl)
theorem nR_pI {h : Hp} {f a : Nat} {v : Int32} (hf : f ≠ 1002) : nR (pI h f a v) = nR h := by funext x; unfold nR; rw [gI_pI_ne hf]
theorem nR_pR (h : Hp) (f a v : Nat) : nR (pR h f a v) = nR h := (rfl)
theorem nR_sR (h : Hp) (f a v : Nat) : nR (sR h f a v) = nR h := (rfl)
theorem nS_pJ (h : Hp) (f a : Nat) (v : Int64) : nS (pJ h f a v) = nS h := (rfl)
theorem nS_sI (h : Hp) (f a : Nat) (v : Int32) : nS (sI h f a v) = nS h := (rfl)
theorem nS_sJ (h : Hp) (f a : Nat) (v : Int64) : nS (sJ h f a v) = nS h := (rfl)
theorem nS_pI {h : Hp} {f a : Nat} {v : Int32} (hf : f ≠ 1004) : nS (pI h f a v) = nS h := by funext x; unfold nS; rw [gI_pI_ne hf]
theorem nS_pR (h : Hp) (f a v : Nat) : nS (pR h f a v) = nS h := (rfl)
theorem nS_sR (h : Hp) (f a v : Nat) : nS (sR h f a v) = nS h := (rfl)
theorem nP_pJ (h : Hp) (f a : Nat) (v : Int64) : nP (pJ h f a v) = nP h := (rfl)
theorem nP_sI (h : Hp) (f a : Nat) (v : Int32) : nP (sI h f a v) = nP h := (rfl)
theorem nP_sJ (h : Hp) (f a : Nat) (v : Int64) : nP (sJ h f a v) = nP h := (rfl)
theorem nP_pI {h : Hp} {f a : Nat} {v : Int32} (hf : f ≠ 1006) : nP (pI h f a v) = nP h := by funext x; unfold nP; rw [gI_pI_ne hf]
theorem nP_pR (h : Hp) (f a v : Nat) : nP (pR h f a v) = nP h := (rfl)
theorem nP_sR (h : Hp) (f a v : Nat) : nP (sR h f a v) = nP h := (rfl)
theorem nU_pJ (h : Hp) (f a : Nat) (v : Int64) : nU (pJ h f a v) = nU h := (rfl)
theorem nU_sI (h : Hp) (f a : Nat) (v : Int32) : nU (sI h f a v) = nU h := (rfl)
theorem nU_sJ (h : Hp) (f a : Nat) (v : Int64) : nU (sJ h f a v) = nU h := (rfl)
theorem nU_pI {h : Hp} {f a : Nat} {v : Int32} (hf : f ≠ 1067) : nU (pI h f a v) = nU h := by funext x; unfold nU; rw [gI_pI_ne hf]
theorem nU_pR (h : Hp) (f a v : Nat) : nU (pR h f a v) = nU h := (rfl)
theorem nU_sR (h : Hp) (f a v : Nat) : nU (sR h f a v) = nU h := (rfl)
section
variable {h : Hp} {x : Nat} {E : Nat → Hp → Prop} {k n : Nat} {R : Hp → Prop}
theorem CP.bed_ne (H : CP h x) {i j : Nat} (hi : i < nC h x) (gi : eI h (x + 23 + 6) i = 1) (hj : j < nC h x) (gj : eI h (x + 23 + 6) j = 1) (c : j ≠ i) : gR h 109 (el h (x + 2) j) ≠ bedp h x i := fun e => c (H.bed_inj hj hi gj gi e)
theorem cp_look (H : CP h x) {i : Nat} {v w : Int32} (hi : i < nC h x) (gi : eI h (x + 23 + 6) i = 1) (hv : bd v 0 3) : CP (pI (sI (pI (pI h 310 (bedp h x i) v) 26 x w) (x + 23 + 17) i v) 1005 (x + 23) w) x := by
  have hne := fun j hj gj c => H.bed_ne (j := j) hi gi hj gj c
  obtain ⟨Kw, Kn, Ko, Kl, Kc, Kv, Kb, Kx, Kr, Kq, Ks, Kp, Ka, Ku⟩ := H; refine ⟨(by with_reducible (repeat (first | assumption | refine CPw_pI ?_ | refine CPw_pJ ?_ | refine CPw_pR (by decide) ?_ | refine CPw_sJ ?_ | refine CPw_sM ?_))), ?_, (by with_reducible (repeat (first | assumption | refine CPo_pI (by decide) ?_ | refine CPo_pJ ?_ | refine CPo_pR ?_ | refine CPo_sJ ?_ | refine CPo_sM ?_))), (by with_reducible (repeat (first | assumption | refine CPl_pI (by decide) ?_ | refine CPl_pJ ?_ | refine CPl_pR (by decide) ?_ | refine CPl_sJ ?_ | refine CPl_sM ?_))), (by with_reducible (repeat (first | assumption | refine CPc_pI (by decide) ?_ | refine CPc_pJ ?_ | refine CPc_pR (by decide) ?_ | refine CPc_sJ (by decide) ?_ | refine CPc_sM (by decide) ?_ | refine CPc_sX (by decide) ?_))), (by with_reducible (repeat (first | assumption | refine CPv_pI (by decide) ?_ | refine CPv_pJ ?_ | refine CPv_pR ?_ | refine CPv_sJ ?_ | refine CPv_sM (by decide) ?_ | refine CPv_sX (by decide) ?_))), ?_, ?_, (by with_reducible (repeat (first | assumption | refine CPr_pI (by decide) ?_ | refine CPr_pJ ?_ | refine CPr_pR (by decide) ?_ | refine CPr_sJ ?_ | refine CPr_sM (by decide) ?_ | refine CPr_sX (by decide) ?_))), (by with_reducible (repeat (first | assumption | refine CPq_pI (by decide) ?_ | refine CPq_pJ ?_ | refine CPq_pR (by decide) ?_ | refine CPq_sJ ?_ | refine CPq_sM (by decide) ?_ | refine CPq_sX (by decide) ?_))), (by with_reducible (repeat (first | assumption | refine CPs_pI (by decide) ?_ | refine CPs_pJ (by decide) ?_ | refine CPs_pR (by decide) ?_ | refine CPs_sJ (by decide) ?_ | refine CPs_sM (by decide) ?_ | refine CPs_sX (by decide) ?_))), (by with_reducible (repeat (first | assumption | refine CPp_pI (by decide) ?_ | refine CPp_pJ ?_ | refine CPp_pR (by decide) ?_ | refine CPp_sJ ?_ | refine CPp_sM (by decide) ?_ | refine CPp_sX (by decide) ?_))), (by with_reducible (repeat (first | assumption | refine CPa_pI (by decide) ?_ | refine CPa_pJ ?_ | refine CPa_pR ?_ | refine CPa_sJ (by decide) ?_ | refine CPa_sM (by decide) ?_ | refine CPa_sX (by decide) ?_))), (by with_reducible (repeat (first | assumption | refine CPu_pI (by decide) ?_ | refine CPu_pJ ?_ | refine CPu_pR (by decide) ?_ | refine CPu_sJ ?_ | refine CPu_sM (by decide) (by decide) ?_ | refine CPu_sX (by decide) (by decide) (by decide) ?_)))⟩
  · obtain ⟨n1, n2, n3, n4, n5, n6, n7, n8, n9, n10⟩ := Kn
    simp [CPn, nx_pI, kd_pI, ln_pI, gI_pI, gJ_pI, gR_pI, eI_pI, eJ_pI, eR_pI, kc_pI, nx_pJ, kd_pJ, ln_pJ, gI_pJ, gJ_pJ, gR_pJ, eI_pJ, eJ_pJ, eR_pJ, kc_pJ, nx_pR, kd_pR, ln_pR, gI_pR, gJ_pR, gR_pR, eI_pR, eJ_pR, eR_pR, kc_pR, nx_sI, kd_sI, ln_sI, gI_sI, gJ_sI, gR_sI, eI_sI, eJ_sI, eR_sI, kc_sI, nx_sJ, kd_sJ, ln_sJ, gI_sJ, gJ_sJ, gR_sJ, eI_sJ, eJ_sJ, eR_sJ, kc_sJ, nx_sR, kd_sR, ln_sR, gI_sR, gJ_sR, gR_sR, eI_sR, eJ_sR, eR_sR, kc_sR, ln_nO, eI_nO, eJ_nO, eR_nO, kc_nO, gI_nO, gI_nA, gJ_nO, gJ_nA, gR_nO, gR_nA, eI_nA, eJ_nA, eR_nA, kc_nA, nx_nO, nx_nA, kd_nO_at, kd_nA_at, ln_nA_at, n1, n2, n4, n5, n6, n7, n8, n9, n10]
  · intro j hj
    simp [nx_pI, kd_pI, ln_pI, gI_pI, gJ_pI, gR_pI, eI_pI, eJ_pI, eR_pI, kc_pI, nx_pJ, kd_pJ, ln_pJ, gI_pJ, gJ_pJ, gR_pJ, eI_pJ, eJ_pJ, eR_pJ, kc_pJ, nx_pR, kd_pR, ln_pR, gI_pR, gJ_pR, gR_pR, eI_pR, eJ_pR, eR_pR, kc_pR, nx_sI, kd_sI, ln_sI, gI_sI, gJ_sI, gR_sI, eI_sI, eJ_sI, eR_sI, kc_sI, nx_sJ, kd_sJ, ln_sJ, gI_sJ, gJ_sJ, gR_sJ, eI_sJ, eJ_sJ, eR_sJ, kc_sJ, nx_sR, kd_sR, ln_sR, gI_sR, gJ_sR, gR_sR, eI_sR, eJ_sR, eR_sR, kc_sR, ln_nO, eI_nO, eJ_nO, eR_nO, kc_nO, gI_nO, gI_nA, gJ_nO, gJ_nA, gR_nO, gR_nA, eI_nA, eJ_nA, eR_nA, kc_nA, nx_nO, nx_nA, kd_nO_at, kd_nA_at, ln_nA_at, el_pI, el_pJ, el_sI, el_sJ, bedp_pI, bedp_pJ, bedp_sI, bedp_sJ, nC_pI, nC_pJ, nC_sI, nC_sJ, nC_pR, nC_sR, nR_pI, nR_pJ, nR_sI, nR_sJ, nR_pR, nR_sR, nS_pI, nS_pJ, nS_sI, nS_sJ, nS_pR, nS_sR, nP_pI, nP_pJ, nP_sI, nP_sJ, nP_pR, nP_sR, nU_pI, nU_pJ, nU_sI, nU_sJ, nU_pR, nU_sR] at hj
    rcases Kb j hj with ⟨e1, e2⟩ | ⟨e1, e2, e3, e4⟩
    · exact Or.inl ⟨by simp [nx_pI, kd_pI, ln_pI, gI_pI, gJ_pI, gR_pI, eI_pI, eJ_pI, eR_pI, kc_pI, nx_pJ, kd_pJ, ln_pJ, gI_pJ, gJ_pJ, gR_pJ, eI_pJ, eJ_pJ, eR_pJ, kc_pJ, nx_pR, kd_pR, ln_pR, gI_pR, gJ_pR, gR_pR, eI_pR, eJ_pR, eR_pR, kc_pR, nx_sI, kd_sI, ln_sI, gI_sI, gJ_sI, gR_sI, eI_sI, eJ_sI, eR_sI, kc_sI, nx_sJ, kd_sJ, ln_sJ, gI_sJ, gJ_sJ, gR_sJ, eI_sJ, eJ_sJ, eR_sJ, kc_sJ, nx_sR, kd_sR, ln_sR, gI_sR, gJ_sR, gR_sR, eI_sR, eJ_sR, eR_sR, kc_sR, ln_nO, eI_nO, eJ_nO, eR_nO, kc_nO, gI_nO, gI_nA, gJ_nO, gJ_nA, gR_nO, gR_nA, eI_nA, eJ_nA, eR_nA, kc_nA, nx_nO, nx_nA, kd_nO_at, kd_nA_at, ln_nA_at, e1], by simp [nx_pI, kd_pI, ln_pI, gI_pI, gJ_pI, gR_pI, eI_pI, eJ_pI, eR_pI, kc_pI, nx_pJ, kd_pJ, ln_pJ, gI_pJ, gJ_pJ, gR_pJ, eI_pJ, eJ_pJ, eR_pJ, kc_pJ, nx_pR, kd_pR, ln_pR, gI_pR, gJ_pR, gR_pR, eI_pR, eJ_pR, eR_pR, kc_pR, nx_sI, kd_sI, ln_sI, gI_sI, gJ_sI, gR_sI, eI_sI, eJ_sI, eR_sI, kc_sI, nx_sJ, kd_sJ, ln_sJ, gI_sJ, gJ_sJ, gR_sJ, eI_sJ, eJ_sJ, eR_sJ, kc_sJ, nx_sR, kd_sR, ln_sR, gI_sR, gJ_sR, gR_sR, eI_sR, eJ_sR, eR_sR, kc_sR, ln_nO, eI_nO, eJ_nO, eR_nO, kc_nO, gI_nO, gI_nA, gJ_nO, gJ_nA, gR_nO, gR_nA, eI_nA, eJ_nA, eR_nA, kc_nA, nx_nO, nx_nA, kd_nO_at, kd_nA_at, ln_nA_at, el_pI, el_pJ, el_sI, el_sJ, bedp_pI, bedp_pJ, bedp_sI, bedp_sJ, nC_pI, nC_pJ, nC_sI, nC_sJ, nC_pR, nC_sR, nR_pI, nR_pJ, nR_sI, nR_sJ, nR_pR, nR_sR, nS_pI, nS_pJ, nS_sI, nS_sJ, nS_pR, nS_sR, nP_pI, nP_pJ, nP_sI, nP_sJ, nP_pR, nP_sR, nU_pI, nU_pJ, nU_sI, nU_sJ, nU_pR, nU_sR, e2]⟩
    · refine Or.inr ⟨by simp [nx_pI, kd_pI, ln_pI, gI_pI, gJ_pI, gR_pI, eI_pI, eJ_pI, eR_pI, kc_pI, nx_pJ, kd_pJ, ln_pJ, gI_pJ, gJ_pJ, gR_pJ, eI_pJ, eJ_pJ, eR_pJ, kc_pJ, nx_pR, kd_pR, ln_pR, gI_pR, gJ_pR, gR_pR, eI_pR, eJ_pR, eR_pR, kc_pR, nx_sI, kd_sI, ln_sI, gI_sI, gJ_sI, gR_sI, eI_sI, eJ_sI, eR_sI, kc_sI, nx_sJ, kd_sJ, ln_sJ, gI_sJ, gJ_sJ, gR_sJ, eI_sJ, eJ_sJ, eR_sJ, kc_sJ, nx_sR, kd_sR, ln_sR, gI_sR, gJ_sR, gR_sR, eI_sR, eJ_sR, eR_sR, kc_sR, ln_nO, eI_nO, eJ_nO, eR_nO, kc_nO, gI_nO, gI_nA, gJ_nO, gJ_nA, gR_nO, gR_nA, eI_nA, eJ_nA, eR_nA, kc_nA, nx_nO, nx_nA, kd_nO_at, kd_nA_at, ln_nA_at, e1], ?_, ?_, ?_⟩
      · unfold CPb1 at e2 ⊢
        simp [nx_pI, kd_pI, ln_pI, gI_pI, gJ_pI, gR_pI, eI_pI, eJ_pI, eR_pI, kc_pI, nx_pJ, kd_pJ, ln_pJ, gI_pJ, gJ_pJ, gR_pJ, eI_pJ, eJ_pJ, eR_pJ, kc_pJ, nx_pR, kd_pR, ln_pR, gI_pR, gJ_pR, gR_pR, eI_pR, eJ_pR, eR_pR, kc_pR, nx_sI, kd_sI, ln_sI, gI_sI, gJ_sI, gR_sI, eI_sI, eJ_sI, eR_sI, kc_sI, nx_sJ, kd_sJ, ln_sJ, gI_sJ, gJ_sJ, gR_sJ, eI_sJ, eJ_sJ, eR_sJ, kc_sJ, nx_sR, kd_sR, ln_sR, gI_sR, gJ_sR, gR_sR, eI_sR, eJ_sR, eR_sR, kc_sR, ln_nO, eI_nO, eJ_nO, eR_nO, kc_nO, gI_nO, gI_nA, gJ_nO, gJ_nA, gR_nO, gR_nA, eI_nA, eJ_nA, eR_nA, kc_nA, nx_nO, nx_nA, kd_nO_at, kd_nA_at, ln_nA_at, el_pI, el_pJ, el_sI, el_sJ, bedp_pI, bedp_pJ, bedp_sI, bedp_sJ, nC_pI, nC_pJ, nC_sI, nC_sJ, nC_pR, nC_sR, nR_pI, nR_pJ, nR_sI, nR_sJ, nR_pR, nR_sR, nS_pI, nS_pJ, nS_sI, nS_sJ, nS_pR, nS_sR, nP_pI, nP_pJ, nP_sI, nP_sJ, nP_pR, nP_sR, nU_pI, nU_pJ, nU_sI, nU_sJ, nU_pR, nU_sR]
        simpa using e2
      · unfold CPb2 at e3 ⊢
        by_cases c : j = i
        · subst c
          simp [nx_pI, kd_pI, ln_pI, gI_pI, gJ_pI, gR_pI, eI_pI, eJ_pI, eR_pI, kc_pI, nx_pJ, kd_pJ, ln_pJ, gI_pJ, gJ_pJ, gR_pJ, eI_pJ, eJ_pJ, eR_pJ, kc_pJ, nx_pR, kd_pR, ln_pR, gI_pR, gJ_pR, gR_pR, eI_pR, eJ_pR, eR_pR, kc_pR, nx_sI, kd_sI, ln_sI, gI_sI, gJ_sI, gR_sI, eI_sI, eJ_sI, eR_sI, kc_sI, nx_sJ, kd_sJ, ln_sJ, gI_sJ, gJ_sJ, gR_sJ, eI_sJ, eJ_sJ, eR_sJ, kc_sJ, nx_sR, kd_sR, ln_sR, gI_sR, gJ_sR, gR_sR, eI_sR, eJ_sR, eR_sR, kc_sR, ln_nO, eI_nO, eJ_nO, eR_nO, kc_nO, gI_nO, gI_nA, gJ_nO, gJ_nA, gR_nO, gR_nA, eI_nA, eJ_nA, eR_nA, kc_nA, nx_nO, nx_nA, kd_nO_at, kd_nA_at, ln_nA_at, el_pI, el_pJ, el_sI, el_sJ, bedp_pI, bedp_pJ, bedp_sI, bedp_sJ, nC_pI, nC_pJ, nC_sI, nC_sJ, nC_pR, nC_sR, nR_pI, nR_pJ, nR_sI, nR_sJ, nR_pR, nR_sR, nS_pI, nS_pJ, nS_sI, nS_sJ, nS_pR, nS_sR, nP_pI, nP_pJ, nP_sI, nP_sJ, nP_pR, nP_sR, nU_pI, nU_pJ, nU_sI, nU_sJ, nU_pR, nU_sR, bedp]
          simp [e3]
        · simp [nx_pI, kd_pI, ln_pI, gI_pI, gJ_pI, gR_pI, eI_pI, eJ_pI, eR_pI, kc_pI, nx_pJ, kd_pJ, ln_pJ, gI_pJ, gJ_pJ, gR_pJ, eI_pJ, eJ_pJ, eR_pJ, kc_pJ, nx_pR, kd_pR, ln_pR, gI_pR, gJ_pR, gR_pR, eI_pR, eJ_pR, eR_pR, kc_pR, nx_sI, kd_sI, ln_sI, gI_sI, gJ_sI, gR_sI, eI_sI, eJ_sI, eR_sI, kc_sI, nx_sJ, kd_sJ, ln_sJ, gI_sJ, gJ_sJ, gR_sJ, eI_sJ, eJ_sJ, eR_sJ, kc_sJ, nx_sR, kd_sR, ln_sR, gI_sR, gJ_sR, gR_sR, eI_sR, eJ_sR, eR_sR, kc_sR, ln_nO, eI_nO, eJ_nO, eR_nO, kc_nO, gI_nO, gI_nA, gJ_nO, gJ_nA, gR_nO, gR_nA, eI_nA, eJ_nA, eR_nA, kc_nA, nx_nO, nx_nA, kd_nO_at, kd_nA_at, ln_nA_at, el_pI, el_pJ, el_sI, el_sJ, bedp_pI, bedp_pJ, bedp_sI, bedp_sJ, nC_pI, nC_pJ, nC_sI, nC_sJ, nC_pR, nC_sR, nR_pI, nR_pJ, nR_sI, nR_sJ, nR_pR, nR_sR, nS_pI, nS_pJ, nS_sI, nS_sJ, nS_pR, nS_sR, nP_pI, nP_pJ, nP_sI, nP_sJ, nP_pR, nP_sR, nU_pI, nU_pJ, nU_sI, nU_sJ, nU_pR, nU_sR, hne j hj e1 c, c]
          simpa using e3
      · unfold CPb3 at e4 ⊢
        simp [nx_pI, kd_pI, ln_pI, gI_pI, gJ_pI, gR_pI, eI_pI, eJ_pI, eR_pI, kc_pI, nx_pJ, kd_pJ, ln_pJ, gI_pJ, gJ_pJ, gR_pJ, eI_pJ, eJ_pJ, eR_pJ, kc_pJ, nx_pR, kd_pR, ln_pR, gI_pR, gJ_pR, gR_pR, eI_pR, eJ_pR, eR_pR, kc_pR, nx_sI, kd_sI, ln_sI, gI_sI, gJ_sI, gR_sI, eI_sI, eJ_sI, eR_sI, kc_sI, nx_sJ, kd_sJ, ln_sJ, gI_sJ, gJ_sJ, gR_sJ, eI_sJ, eJ_sJ, eR_sJ, kc_sJ, nx_sR, kd_sR, ln_sR, gI_sR, gJ_sR, gR_sR, eI_sR, eJ_sR, eR_sR, kc_sR, ln_nO, eI_nO, eJ_nO, eR_nO, kc_nO, gI_nO, gI_nA, gJ_nO, gJ_nA, gR_nO, gR_nA, eI_nA, eJ_nA, eR_nA, kc_nA, nx_nO, nx_nA, kd_nO_at, kd_nA_at, ln_nA_at, el_pI, el_pJ, el_sI, el_sJ, bedp_pI, bedp_pJ, bedp_sI, bedp_sJ, nC_pI, nC_pJ, nC_sI, nC_sJ, nC_pR, nC_sR, nR_pI, nR_pJ, nR_sI, nR_sJ, nR_pR, nR_sR, nS_pI, nS_pJ, nS_sI, nS_sJ, nS_pR, nS_sR, nP_pI, nP_pJ, nP_sI, nP_sJ, nP_pR, nP_sR, nU_pI, nU_pJ, nU_sI, nU_sJ, nU_pR, nU_sR]
        simpa using e4
  · intro j hj
    obtain ⟨e1, e2, e3, e4⟩ := Kx j hj
    refine ⟨?_, ?_, ?_, ?_⟩
    · obtain ⟨q1, q2, q3, q4, q5, q6, q7, q8, q9, q10, q11, q12⟩ := e1
      refine ⟨?_, ?_, ?_, ?_, ?_, ?_, ?_, ?_, ?_, ?_, ?_, ?_⟩
      all_goals simp [nx_pI, kd_pI, ln_pI, gI_pI, gJ_pI, gR_pI, eI_pI, eJ_pI, eR_pI, kc_pI, nx_pJ, kd_pJ, ln_pJ, gI_pJ, gJ_pJ, gR_pJ, eI_pJ, eJ_pJ, eR_pJ, kc_pJ, nx_pR, kd_pR, ln_pR, gI_pR, gJ_pR, gR_pR, eI_pR, eJ_pR, eR_pR, kc_pR, nx_sI, kd_sI, ln_sI, gI_sI, gJ_sI, gR_sI, eI_sI, eJ_sI, eR_sI, kc_sI, nx_sJ, kd_sJ, ln_sJ, gI_sJ, gJ_sJ, gR_sJ, eI_sJ, eJ_sJ, eR_sJ, kc_sJ, nx_sR, kd_sR, ln_sR, gI_sR, gJ_sR, gR_sR, eI_sR, eJ_sR, eR_sR, kc_sR, ln_nO, eI_nO, eJ_nO, eR_nO, kc_nO, gI_nO, gI_nA, gJ_nO, gJ_nA, gR_nO, gR_nA, eI_nA, eJ_nA, eR_nA, kc_nA, nx_nO, nx_nA, kd_nO_at, kd_nA_at, ln_nA_at]
      all_goals first | assumption | skip
      by_cases c : j = i
      · simp [c]; exact ⟨by have := hv.1; omega, hv.2⟩
      · simp [c]; exact q11
    · unfold CPw0 at e2 ⊢
      simp [nx_pI, kd_pI, ln_pI, gI_pI, gJ_pI, gR_pI, eI_pI, eJ_pI, eR_pI, kc_pI, nx_pJ, kd_pJ, ln_pJ, gI_pJ, gJ_pJ, gR_pJ, eI_pJ, eJ_pJ, eR_pJ, kc_pJ, nx_pR, kd_pR, ln_pR, gI_pR, gJ_pR, gR_pR, eI_pR, eJ_pR, eR_pR, kc_pR, nx_sI, kd_sI, ln_sI, gI_sI, gJ_sI, gR_sI, eI_sI, eJ_sI, eR_sI, kc_sI, nx_sJ, kd_sJ, ln_sJ, gI_sJ, gJ_sJ, gR_sJ, eI_sJ, eJ_sJ, eR_sJ, kc_sJ, nx_sR, kd_sR, ln_sR, gI_sR, gJ_sR, gR_sR, eI_sR, eJ_sR, eR_sR, kc_sR, ln_nO, eI_nO, eJ_nO, eR_nO, kc_nO, gI_nO, gI_nA, gJ_nO, gJ_nA, gR_nO, gR_nA, eI_nA, eJ_nA, eR_nA, kc_nA, nx_nO, nx_nA, kd_nO_at, kd_nA_at, ln_nA_at]; simpa using e2
    · simp [nx_pI, kd_pI, ln_pI, gI_pI, gJ_pI, gR_pI, eI_pI, eJ_pI, eR_pI, kc_pI, nx_pJ, kd_pJ, ln_pJ, gI_pJ, gJ_pJ, gR_pJ, eI_pJ, eJ_pJ, eR_pJ, kc_pJ, nx_pR, kd_pR, ln_pR, gI_pR, gJ_pR, gR_pR, eI_pR, eJ_pR, eR_pR, kc_pR, nx_sI, kd_sI, ln_sI, gI_sI, gJ_sI, gR_sI, eI_sI, eJ_sI, eR_sI, kc_sI, nx_sJ, kd_sJ, ln_sJ, gI_sJ, gJ_sJ, gR_sJ, eI_sJ, eJ_sJ, eR_sJ, kc_sJ, nx_sR, kd_sR, ln_sR, gI_sR, gJ_sR, gR_sR, eI_sR, eJ_sR, eR_sR, kc_sR, ln_nO, eI_nO, eJ_nO, eR_nO, kc_nO, gI_nO, gI_nA, gJ_nO, gJ_nA, gR_nO, gR_nA, eI_nA, eJ_nA, eR_nA, kc_nA, nx_nO, nx_nA, kd_nO_at, kd_nA_at, ln_nA_at]; simpa using e3
    · have : nC h x ≤ j → eI h (x + 23 + 6) j = 0 := e4
      simp [nx_pI, kd_pI, ln_pI, gI_pI, gJ_pI, gR_pI, eI_pI, eJ_pI, eR_pI, kc_pI, nx_pJ, kd_pJ, ln_pJ, gI_pJ, gJ_pJ, gR_pJ, eI_pJ, eJ_pJ, eR_pJ, kc_pJ, nx_pR, kd_pR, ln_pR, gI_pR, gJ_pR, gR_pR, eI_pR, eJ_pR, eR_pR, kc_pR, nx_sI, kd_sI, ln_sI, gI_sI, gJ_sI, gR_sI, eI_sI, eJ_sI, eR_sI, kc_sI, nx_sJ, kd_sJ, ln_sJ, gI_sJ, gJ_sJ, gR_sJ, eI_sJ, eJ_sJ, eR_sJ, kc_sJ, nx_sR, kd_sR, ln_sR, gI_sR, gJ_sR, gR_sR, eI_sR, eJ_sR, eR_sR, kc_sR, ln_nO, eI_nO, eJ_nO, eR_nO, kc_nO, gI_nO, gI_nA, gJ_nO, gJ_nA, gR_nO, gR_nA, eI_nA, eJ_nA, eR_nA, kc_nA, nx_nO, nx_nA, kd_nO_at, kd_nA_at, ln_nA_at, el_pI, el_pJ, el_sI, el_sJ, bedp_pI, bedp_pJ, bedp_sI, bedp_sJ, nC_pI, nC_pJ, nC_sI, nC_sJ, nC_pR, nC_sR, nR_pI, nR_pJ, nR_sI, nR_sJ, nR_pR, nR_sR, nS_pI, nS_pJ, nS_sI, nS_sJ, nS_pR, nS_sR, nP_pI, nP_pJ, nP_sI, nP_sJ, nP_pR, nP_sR, nU_pI, nU_pJ, nU_sI, nU_sJ, nU_pR, nU_sR]
      exact this
theorem pr_look (H : CP h x) {a b : Int32} (hR : ∀ h', CP h' x → R h') : CtI M_X0_look_2 [rV x, iV a, iV b] h k n (fun r h1 => CtI M_X3_look [rV (x + 23), iV a, iV b] h1 0 0 (fun r2 h2 => r = r2 ∧ R h2) E) E := by
  refine r_wfH fun wf => ?_
  obtain ⟨p1, p2, ⟨z1, z2⟩ | ⟨i, hi, rfl, z0, z1, z2, z3, z4, z5, z6, z7, z8, z9⟩⟩ := H.bedc wf a
  · refine ct_X0_look_2 H.xw (by simp [P_X0_look_2, p1, z1]) ?_
    rw [show F_X0_look_2 h x a b = (-1, h) by simp [F_X0_look_2, z1]]
    refine ct_X3_look H.mw (by simp [P_X3_look, p2, z2]) ?_
    rw [show F_X3_look h (x + 23) a b = (-1, h) by simp [F_X3_look, z2]]
    exact ⟨rfl, hR _ H⟩
  · by_cases c1 : isin b 0 3 = true
    · refine ct_X0_look_2 H.xw (by simp [P_X0_look_2, p1, z2, z5]) ?_
      rw [show F_X0_look_2 h x (nI i) b = (gI h 26 x + 1, pI (pI h 310 (bedp h x i) b) 26 x (gI h 26 x + 1)) by simp [F_X0_look_2, z2, z4, c1, nx_pI, kd_pI, ln_pI, gI_pI, gJ_pI, gR_pI, eI_pI, eJ_pI, eR_pI, kc_pI, nx_pJ, kd_pJ, ln_pJ, gI_pJ, gJ_pJ, gR_pJ, eI_pJ, eJ_pJ, eR_pJ, kc_pJ, nx_pR, kd_pR, ln_pR, gI_pR, gJ_pR, gR_pR, eI_pR, eJ_pR, eR_pR, kc_pR, nx_sI, kd_sI, ln_sI, gI_sI, gJ_sI, gR_sI, eI_sI, eJ_sI, eR_sI, kc_sI, nx_sJ, kd_sJ, ln_sJ, gI_sJ, gJ_sJ, gR_sJ, eI_sJ, eJ_sJ, eR_sJ, kc_sJ, nx_sR, kd_sR, ln_sR, gI_sR, gJ_sR, gR_sR, eI_sR, eJ_sR, eR_sR, kc_sR, ln_nO, eI_nO, eJ_nO, eR_nO, kc_nO, gI_nO, gI_nA, gJ_nO, gJ_nA, gR_nO, gR_nA, eI_nA, eJ_nA, eR_nA, kc_nA, nx_nO, nx_nA, kd_nO_at, kd_nA_at, ln_nA_at]]
      have hm' : MW (pI (pI h 310 (bedp h x i) b) 26 x (gI h 26 x + 1)) (x + 23) := H.mw
      have p2' : P_X3_isBed (pI (pI h 310 (bedp h x i) b) 26 x (gI h 26 x + 1)) (x + 23) (nI i) := p2
      have z3' : V_X3_isBed (pI (pI h 310 (bedp h x i) b) 26 x (gI h 26 x + 1)) (x + 23) (nI i) = 1 := z3
      refine ct_X3_look hm' (by simp [P_X3_look, p2', z3', z1]) ?_
      rw [show F_X3_look (pI (pI h 310 (bedp h x i) b) 26 x (gI h 26 x + 1)) (x + 23) (nI i) b = (gI h 26 x + 1, pI (sI (pI (pI h 310 (bedp h x i) b) 26 x (gI h 26 x + 1)) (x + 23 + 17) i b) 1005 (x + 23) (gI h 26 x + 1)) by simp [F_X3_look, z3', z0, c1, nx_pI, kd_pI, ln_pI, gI_pI, gJ_pI, gR_pI, eI_pI, eJ_pI, eR_pI, kc_pI, nx_pJ, kd_pJ, ln_pJ, gI_pJ, gJ_pJ, gR_pJ, eI_pJ, eJ_pJ, eR_pJ, kc_pJ, nx_pR, kd_pR, ln_pR, gI_pR, gJ_pR, gR_pR, eI_pR, eJ_pR, eR_pR, kc_pR, nx_sI, kd_sI, ln_sI, gI_sI, gJ_sI, gR_sI, eI_sI, eJ_sI, eR_sI, kc_sI, nx_sJ, kd_sJ, ln_sJ, gI_sJ, gJ_sJ, gR_sJ, eI_sJ, eJ_sJ, eR_sJ, kc_sJ, nx_sR, kd_sR, ln_sR, gI_sR, gJ_sR, gR_sR, eI_sR, eJ_sR, eR_sR, kc_sR, ln_nO, eI_nO, eJ_nO, eR_nO, kc_nO, gI_nO, gI_nA, gJ_nO, gJ_nA, gR_nO, gR_nA, eI_nA, eJ_nA, eR_nA, kc_nA, nx_nO, nx_nA, kd_nO_at, kd_nA_at, ln_nA_at, ← H.pn.2.2.1]]
      exact ⟨rfl, hR _ (cp_look H hi z6 (isin_bd c1))⟩
    · have c1 : isin b 0 3 = false := by simpa using c1
      refine ct_X0_look_2 H.xw (by simp [P_X0_look_2, p1, c1]) ?_
      rw [show F_X0_look_2 h x (nI i) b = (-1, h) by simp [F_X0_look_2, c1]]
      refine ct_X3_look H.mw (by simp [P_X3_look, p2, c1]) ?_
      rw [show F_X3_look h (x + 23) (nI i) b = (-1, h) by simp [F_X3_look, c1]]
      exact ⟨rfl, hR _ H⟩
end
