/-! pairs: rows told, single rows changed -/
set_option maxRecDepth 100000
section
variable {h : Hp} {x : Nat} {E : Nat → Hp → Prop} {k n : Nat} {R : Hp → Prop}
theorem CP.pw (H : CP h x) : CPw h x := H.1
theorem CP.pn (H : CP h x) : CPn h x := H.2.1
theorem CP.po (H : CP h x) : CPo h x := H.2.2.1
theorem CP.pl (H : CP h x) : CPl h x := H.2.2.2.1
theorem CP.pc (H : CP h x) : CPc h x := H.2.2.2.2.1
theorem CP.pv (H : CP h x) : CPv h x := H.2.2.2.2.2.1
theorem CP.pb (H : CP h x) : CPb h x := H.2.2.2.2.2.2.1
theorem CP.px (H : CP h x) : CPx h x := H.2.2.2.2.2.2.2.1
theorem CP.pr (H : CP h x) : CPr h x := H.2.2.2.2.2.2.2.2.1
theorem CP.pq (H : CP h x) : CPq h x := H.2.2.2.2.2.2.2.2.2.1
theorem CP.ps (H : CP h x) : CPs h x := H.2.2.2.2.2.2.2.2.2.2.1
theorem CP.pp (H : CP h x) : CPp h x := H.2.2.2.2.2.2.2.2.2.2.2.1
theorem CP.pa (H : CP h x) : CPa h x := H.2.2.2.2.2.2.2.2.2.2.2.2.1
theorem CP.pu (H : CP h x) : CPu h x := H.2.2.2.2.2.2.2.2.2.2.2.2.2
theorem if_nz (v : Int32) : (if v = 0 then (0 : Int32) else 1) = b1 (nz v) := by unfold b1 nz; by_cases c : v = 0 <;> simp [c]
theorem nI_inj {a b : Nat} (ha : a < 2 ^ 31) (hb : b < 2 ^ 31) (e : nI a = nI b) : a = b := by rw [← ix_nI ha, ← ix_nI hb, e]
/-- two corners, two beds -/
theorem CP.cor_inj (H : CP h x) {i j : Nat} (hi : i < nC h x) (hj : j < nC h x) (e : el h (x + 2) i = el h (x + 2) j) : i = j := by
  have h1 := (H.pc i hi).1.2.1
  have h2 := (H.pc j hj).1.2.1
  have := H.nC_le.2
  rw [e] at h1
  exact nI_inj (by omega) (by omega) (h1.symm.trans h2)
theorem CP.rof_inj (H : CP h x) {i j : Nat} (hi : i < nR h x) (hj : j < nR h x) (e : el h (x + 3) i = el h (x + 3) j) : i = j := by
  have h1 := (H.pr i hi).1.2.1
  have h2 := (H.pr j hj).1.2.1
  have := H.nR_le.2
  rw [e] at h1
  exact nI_inj (by omega) (by omega) (h1.symm.trans h2)
theorem CP.com_inj (H : CP h x) {i j : Nat} (hi : i < nP h x) (hj : j < nP h x) (e : el h (x + 22) i = el h (x + 22) j) : i = j := by
  have h1 := (H.pp.1 i hi).2.1
  have h2 := (H.pp.1 j hj).2.1
  have := H.nP_le.2
  rw [e] at h1
  exact nI_inj (by omega) (by omega) (h1.symm.trans h2)
def bedp (h : Hp) (x i : Nat) : Nat := gR h 109 (el h (x + 2) i)
theorem CP.bed_inj (H : CP h x) {i j : Nat} (hi : i < nC h x) (hj : j < nC h x) (gi : eI h (x + 23 + 6) i = 1) (gj : eI h (x + 23 + 6) j = 1) (e : bedp h x i = bedp h x j) : i = j := by
  rcases H.pb i hi with ⟨z, -⟩ | ⟨-, z1, -⟩
  · rw [gi] at z; exact absurd z (by decide)
  rcases H.pb j hj with ⟨z, -⟩ | ⟨-, z2, -⟩
  · rw [gj] at z; exact absurd z (by decide)
  have a1 := z1.2.2.1
  have a2 := z2.2.2.1
  unfold bedp at e
  rw [e] at a1
  exact H.cor_inj hi hj (a1.symm.trans a2)
/-- the bed at a corner, on both sides -/
theorem CP.bedc (H : CP h x) (wf : wfH h) (c : Int32) : P_X0_bedAt h x c ∧ P_X3_isBed h (x + 23) c ∧ ((V_X0_bedAt h x c = 0 ∧ V_X3_isBed h (x + 23) c = 0) ∨ ∃ i, i < nC h x ∧ c = nI i ∧ ix c = i ∧ vp_in c 12 ∧ V_X0_bedAt h x c = bedp h x i ∧ V_X3_isBed h (x + 23) c = 1 ∧ bedp h x i ≠ 0 ∧ kd h (bedp h x i) = 4 ∧ eI h (x + 23 + 6) i = 1 ∧ CPb1 h x i (el h (x + 2) i) (bedp h x i) ∧ CPb2 h x i (bedp h x i) ∧ CPb3 h x i (bedp h x i)) := by
  obtain ⟨hp, ⟨z1, z2⟩ | ⟨i, hi, rfl, z0, z1, z2, z3, z4, z5⟩⟩ := H.cor wf c
  · refine ⟨?_, ?_, Or.inl ⟨?_, ?_⟩⟩
    all_goals simp [P_X0_bedAt, P_X3_isBed, V_X0_bedAt, V_X3_isBed, z1, z2, hp]
  · have hk := (H.pc i hi).1.1
    rcases H.pb i hi with ⟨e1, e2⟩ | ⟨e1, e2, e3, e4⟩
    · refine ⟨?_, ?_, Or.inl ⟨?_, ?_⟩⟩
      all_goals simp [P_X0_bedAt, P_X3_isBed, V_X0_bedAt, V_X3_isBed, z0, z1, z2, z3, z4, z5, hp, hk, e1, e2]
    · have e5 := Nat.ne_of_gt (wf.lt e2.1 (by decide)).1
      refine ⟨?_, ?_, Or.inr ⟨i, hi, rfl, z0, z3, ?_, ?_, e5, e2.1, e1, e2, e3, e4⟩⟩
      all_goals simp [P_X0_bedAt, P_X3_isBed, V_X0_bedAt, V_X3_isBed, z0, z1, z2, z3, z4, z5, hp, hk, e1, e5, bedp]
theorem pr_fault (H : CP h x) (hR : ∀ h', CP h' x → R h') : CtI M_X0_fault [rV x] h k n (fun r h1 => CtI M_X3_fault [rV (x + 23)] h1 0 0 (fun r2 h2 => r = r2 ∧ R h2) E) E :=
  ct_X0_fault H.xw (ct_X3_fault H.mw ⟨H.pn.2.2.2.2.1, hR h H⟩)
theorem pr_stormOf (H : CP h x) {a b : Int32} (hR : ∀ h', CP h' x → R h') : CtJ M_X0_stormOf [rV x, iV a, iV b] h k n (fun r h1 => CtJ M_X3_stormOf [rV (x + 23), iV a, iV b] h1 0 0 (fun r2 h2 => r = r2 ∧ R h2) E) E := by
  obtain ⟨s1, s2⟩ := H.nS_le
  have e := H.size21
  rcases isin_cases (m := nS h x) (by omega) a with z | ⟨i, hi, rfl, h2, h3, h4, h5⟩
  · rw [← s1] at z
    refine ct_X0_stormOf H.xw ?_ (ct_X3_stormOf H.mw ?_ ⟨?_, hR h H⟩)
    all_goals simp [P_X0_stormOf, P_X3_stormOf, V_X0_stormOf, V_X3_stormOf, e, z]
  · rw [← s1] at h3
    obtain ⟨q1, q2, q3, q4, q5, q6⟩ := H.ps i hi
    have hv : vp_in (nI i) 40 := by rw [vin_iff]; omega
    have hal := H.pl.2.2.2.1.g h4 h5
    refine ct_X0_stormOf H.xw ?_ (ct_X3_stormOf H.mw ?_ ⟨?_, hR h H⟩)
    all_goals simp [P_X0_stormOf, P_X3_stormOf, V_X0_stormOf, V_X3_stormOf, P_X8_day, P_X8_rained, P_X8_spilt, P_X8_wet, P_X8_most, V_X8_day, V_X8_rained, V_X8_spilt, V_X8_wet, V_X8_most, e, h2, h3, hv, hal, q1, q2, q3, q4, q5, q6]
theorem pr_complaint (H : CP h x) {a b : Int32} (hR : ∀ h', CP h' x → R h') : CtI M_X0_complaint [rV x, iV a, iV b] h k n (fun r h1 => CtI M_X3_complaint [rV (x + 23), iV a, iV b] h1 0 0 (fun r2 h2 => r = r2 ∧ R h2) E) E := by
  obtain ⟨s1, s2⟩ := H.nP_le
  have e := H.size22
  rcases isin_cases (m := nP h x) (by omega) a with z | ⟨i, hi, rfl, h2, h3, h4, h5⟩
  · rw [← s1] at z
    refine ct_X0_complaint H.xw ?_ (ct_X3_complaint H.mw ?_ ⟨?_, hR h H⟩)
    all_goals simp [P_X0_complaint, P_X3_complaint, V_X0_complaint, V_X3_complaint, e, z]
  · rw [← s1] at h3
    obtain ⟨q1, q2, q3, q4, q5, q6, q7, q8, q9, -⟩ := H.pp.1 i hi
    have hv : vp_in (nI i) 60 := by rw [vin_iff]; omega
    have hal := H.pl.2.2.2.2.g h4 h5
    have c1 := (H.pc _ q4.2).1
    have c2 : gI h 100 (el h (x + 2) (ix (eI h (x + 23 + 44) i))) = eI h (x + 23 + 44) i := by rw [c1.2.1, nI_ix q4.1.1]
    refine ct_X0_complaint H.xw ?_ (ct_X3_complaint H.mw ?_ ⟨?_, hR h H⟩)
    all_goals simp [P_X0_complaint, P_X3_complaint, V_X0_complaint, V_X3_complaint, e, h2, h3, hv, hal, q1, q3, c1.1, c2, q5, q6, q7, q8, q9, if_nz]
theorem cp_clear (H : CP h x) : CP (pI (pI h 23 x 0) 1003 (x + 23) 0) x := by
  obtain ⟨Kw, Kn, Ko, Kl, Kc, Kv, Kb, Kx, Kr, Kq, Ks, Kp, Ka, Ku⟩ := H; refine ⟨(by with_reducible (repeat (first | assumption | refine CPw_pI ?_ | refine CPw_pJ ?_ | refine CPw_pR (by decide) ?_ | refine CPw_sJ ?_ | refine CPw_sM ?_))), ?_, ?_, (by with_reducible (repeat (first | assumption | refine CPl_pI (by decide) ?_ | refine CPl_pJ ?_ | refine CPl_pR (by decide) ?_ | refine CPl_sJ ?_ | refine CPl_sM ?_))), (by with_reducible (repeat (first | assumption | refine CPc_pI (by decide) ?_ | refine CPc_pJ ?_ | refine CPc_pR (by decide) ?_ | refine CPc_sJ (by decide) ?_ | refine CPc_sM (by decide) ?_ | refine CPc_sX (by decide) ?_))), (by with_reducible (repeat (first | assumption | refine CPv_pI (by decide) ?_ | refine CPv_pJ ?_ | refine CPv_pR ?_ | refine CPv_sJ ?_ | refine CPv_sM (by decide) ?_ | refine CPv_sX (by decide) ?_))), (by with_reducible (repeat (first | assumption | refine CPb_pI (by decide) ?_ | refine CPb_pJ ?_ | refine CPb_pR (by decide) ?_ | refine CPb_sJ ?_ | refine CPb_sM (by decide) ?_ | refine CPb_sX (by decide) ?_))), (by with_reducible (repeat (first | assumption | refine CPx_pI (by decide) ?_ | refine CPx_pJ ?_ | refine CPx_pR ?_ | refine CPx_sJ ?_ | refine CPx_sM (by decide) ?_ | refine CPx_sX (by decide) ?_))), (by with_reducible (repeat (first | assumption | refine CPr_pI (by decide) ?_ | refine CPr_pJ ?_ | refine CPr_pR (by decide) ?_ | refine CPr_sJ ?_ | refine CPr_sM (by decide) ?_ | refine CPr_sX (by decide) ?_))), (by with_reducible (repeat (first | assumption | refine CPq_pI (by decide) ?_ | refine CPq_pJ ?_ | refine CPq_pR (by decide) ?_ | refine CPq_sJ ?_ | refine CPq_sM (by decide) ?_ | refine CPq_sX (by decide) ?_))), (by with_reducible (repeat (first | assumption | refine CPs_pI (by decide) ?_ | refine CPs_pJ (by decide) ?_ | refine CPs_pR (by decide) ?_ | refine CPs_sJ (by decide) ?_ | refine CPs_sM (by decide) ?_ | refine CPs_sX (by decide) ?_))), (by with_reducible (repeat (first | assumption | refine CPp_pI (by decide) ?_ | refine CPp_pJ ?_ | refine CPp_pR (by decide) ?_ | refine CPp_sJ ?_ | refine CPp_sM (by decide) ?_ | refine CPp_sX (by decide) ?_))), (by with_reducible (repeat (first | assumption | refine CPa_pI (by decide) ?_ | refine CPa_pJ ?_ | refine CPa_pR ?_ | refine CPa_sJ (by decide) ?_ | refine CPa_sM (by decide) ?_ | refine CPa_sX (by decide) ?_))), (by with_reducible (repeat (first | assumption | refine CPu_pI (by decide) ?_ | refine CPu_pJ ?_ | refine CPu_pR (by decide) ?_ | refine CPu_sJ ?_ | refine CPu_sM (by decide) (by decide) ?_ | refine CPu_sX (by decide) (by decide) (by decide) ?_)))⟩
  · obtain ⟨n1, n2, n3, n4, n5, n6, n7, n8, n9, n10⟩ := Kn
    simp [CPn, nx_pI, kd_pI, ln_pI, gI_pI, gJ_pI, gR_pI, eI_pI, eJ_pI, eR_pI, kc_pI, nx_pJ, kd_pJ, ln_pJ, gI_pJ, gJ_pJ, gR_pJ, eI_pJ, eJ_pJ, eR_pJ, kc_pJ, nx_pR, kd_pR, ln_pR, gI_pR, gJ_pR, gR_pR, eI_pR, eJ_pR, eR_pR, kc_pR, nx_sI, kd_sI, ln_sI, gI_sI, gJ_sI, gR_sI, eI_sI, eJ_sI, eR_sI, kc_sI, nx_sJ, kd_sJ, ln_sJ, gI_sJ, gJ_sJ, gR_sJ, eI_sJ, eJ_sJ, eR_sJ, kc_sJ, nx_sR, kd_sR, ln_sR, gI_sR, gJ_sR, gR_sR, eI_sR, eJ_sR, eR_sR, kc_sR, ln_nO, eI_nO, eJ_nO, eR_nO, kc_nO, gI_nO, gI_nA, gJ_nO, gJ_nA, gR_nO, gR_nA, eI_nA, eJ_nA, eR_nA, kc_nA, nx_nO, nx_nA, kd_nO_at, kd_nA_at, ln_nA_at, n1, n3, n4, n5, n6, n7, n8, n9, n10]
  · obtain ⟨n1, n2, n3, n4, n5, n6, n7, n8⟩ := Ko
    refine ⟨?_, ?_, ?_, ?_, ?_, ?_, ?_, ?_⟩
    all_goals simp [nx_pI, kd_pI, ln_pI, gI_pI, gJ_pI, gR_pI, eI_pI, eJ_pI, eR_pI, kc_pI, nx_pJ, kd_pJ, ln_pJ, gI_pJ, gJ_pJ, gR_pJ, eI_pJ, eJ_pJ, eR_pJ, kc_pJ, nx_pR, kd_pR, ln_pR, gI_pR, gJ_pR, gR_pR, eI_pR, eJ_pR, eR_pR, kc_pR, nx_sI, kd_sI, ln_sI, gI_sI, gJ_sI, gR_sI, eI_sI, eJ_sI, eR_sI, kc_sI, nx_sJ, kd_sJ, ln_sJ, gI_sJ, gJ_sJ, gR_sJ, eI_sJ, eJ_sJ, eR_sJ, kc_sJ, nx_sR, kd_sR, ln_sR, gI_sR, gJ_sR, gR_sR, eI_sR, eJ_sR, eR_sR, kc_sR, ln_nO, eI_nO, eJ_nO, eR_nO, kc_nO, gI_nO, gI_nA, gJ_nO, gJ_nA, gR_nO, gR_nA, eI_nA, eJ_nA, eR_nA, kc_nA, nx_nO, nx_nA, kd_nO_at, kd_nA_at, ln_nA_at, n1, n2, n3, n5, n6, n7, n8]
    exact ⟨by decide, by decide⟩
theorem pr_clear (H : CP h x) (hR : ∀ h', CP h' x → R h') : CtI M_X0_clear [rV x] h k n (fun r h1 => CtI M_X3_clear [rV (x + 23)] h1 0 0 (fun r2 h2 => r = r2 ∧ R h2) E) E := by
  refine ct_X0_clear H.xw ?_
  have hm : MW (F_X0_clear h x).2 (x + 23) := H.mw
  exact ct_X3_clear hm ⟨H.pn.2.1, hR _ (cp_clear H)⟩
theorem isin_bd {v lo hi : Int32} (z : isin v lo hi = true) : bd v lo.toInt hi.toInt := by
  rw [isin_t, i32_le, i32_le] at z; exact z
theorem isin_nI {v : Int32} {m : Nat} (hm : m < 2 ^ 31) (z : isin v 0 (nI m) = true) : v = nI (ix v) ∧ ix v ≤ m := by
  have := isin_bd z
  rw [nI_toInt hm] at this
  exact bd_nI this
theorem nI_add1 {m : Nat} : nI m + 1 = nI (m + 1) := by
  unfold nI; exact (Int32.ofNat_add m 1).symm
theorem cp_rain (H : CP h x) {v : Int32} {m : Nat} (hm : m < 30) (e : gI h 1003 (x + 23) = nI m) (hv : bd v 0 50) : CP (pI (sI (pI (sI h (x + 12) m v) 23 x (nI (m + 1))) (x + 23 + 26) m v) 1003 (x + 23) (nI (m + 1))) x := by
  obtain ⟨Kw, Kn, Ko, Kl, Kc, Kv, Kb, Kx, Kr, Kq, Ks, Kp, Ka, Ku⟩ := H; refine ⟨(by with_reducible (repeat (first | assumption | refine CPw_pI ?_ | refine CPw_pJ ?_ | refine CPw_pR (by decide) ?_ | refine CPw_sJ ?_ | refine CPw_sM ?_))), ?_, ?_, (by with_reducible (repeat (first | assumption | refine CPl_pI (by decide) ?_ | refine CPl_pJ ?_ | refine CPl_pR (by decide) ?_ | refine CPl_sJ ?_ | refine CPl_sM ?_))), (by with_reducible (repeat (first | assumption | refine CPc_pI (by decide) ?_ | refine CPc_pJ ?_ | refine CPc_pR (by decide) ?_ | refine CPc_sJ (by decide) ?_ | refine CPc_sM (by decide) ?_ | refine CPc_sX (by decide) ?_))), (by with_reducible (repeat (first | assumption | refine CPv_pI (by decide) ?_ | refine CPv_pJ ?_ | refine CPv_pR ?_ | refine CPv_sJ ?_ | refine CPv_sM (by decide) ?_ | refine CPv_sX (by decide) ?_))), (by with_reducible (repeat (first | assumption | refine CPb_pI (by decide) ?_ | refine CPb_pJ ?_ | refine CPb_pR (by decide) ?_ | refine CPb_sJ ?_ | refine CPb_sM (by decide) ?_ | refine CPb_sX (by decide) ?_))), (by with_reducible (repeat (first | assumption | refine CPx_pI (by decide) ?_ | refine CPx_pJ ?_ | refine CPx_pR ?_ | refine CPx_sJ ?_ | refine CPx_sM (by decide) ?_ | refine CPx_sX (by decide) ?_))), (by with_reducible (repeat (first | assumption | refine CPr_pI (by decide) ?_ | refine CPr_pJ ?_ | refine CPr_pR (by decide) ?_ | refine CPr_sJ ?_ | refine CPr_sM (by decide) ?_ | refine CPr_sX (by decide) ?_))), (by with_reducible (repeat (first | assumption | refine CPq_pI (by decide) ?_ | refine CPq_pJ ?_ | refine CPq_pR (by decide) ?_ | refine CPq_sJ ?_ | refine CPq_sM (by decide) ?_ | refine CPq_sX (by decide) ?_))), (by with_reducible (repeat (first | assumption | refine CPs_pI (by decide) ?_ | refine CPs_pJ (by decide) ?_ | refine CPs_pR (by decide) ?_ | refine CPs_sJ (by decide) ?_ | refine CPs_sM (by decide) ?_ | refine CPs_sX (by decide) ?_))), (by with_reducible (repeat (first | assumption | refine CPp_pI (by decide) ?_ | refine CPp_pJ ?_ | refine CPp_pR (by decide) ?_ | refine CPp_sJ ?_ | refine CPp_sM (by decide) ?_ | refine CPp_sX (by decide) ?_))), ?_, (by with_reducible (repeat (first | assumption | refine CPu_pI (by decide) ?_ | refine CPu_pJ ?_ | refine CPu_pR (by decide) ?_ | refine CPu_sJ ?_ | refine CPu_sM (by decide) (by decide) ?_ | refine CPu_sX (by decide) (by decide) (by decide) ?_)))⟩
  · obtain ⟨n1, n2, n3, n4, n5, n6, n7, n8, n9, n10⟩ := Kn
    simp [CPn, nx_pI, kd_pI, ln_pI, gI_pI, gJ_pI, gR_pI, eI_pI, eJ_pI, eR_pI, kc_pI, nx_pJ, kd_pJ, ln_pJ, gI_pJ, gJ_pJ, gR_pJ, eI_pJ, eJ_pJ, eR_pJ, kc_pJ, nx_pR, kd_pR, ln_pR, gI_pR, gJ_pR, gR_pR, eI_pR, eJ_pR, eR_pR, kc_pR, nx_sI, kd_sI, ln_sI, gI_sI, gJ_sI, gR_sI, eI_sI, eJ_sI, eR_sI, kc_sI, nx_sJ, kd_sJ, ln_sJ, gI_sJ, gJ_sJ, gR_sJ, eI_sJ, eJ_sJ, eR_sJ, kc_sJ, nx_sR, kd_sR, ln_sR, gI_sR, gJ_sR, gR_sR, eI_sR, eJ_sR, eR_sR, kc_sR, ln_nO, eI_nO, eJ_nO, eR_nO, kc_nO, gI_nO, gI_nA, gJ_nO, gJ_nA, gR_nO, gR_nA, eI_nA, eJ_nA, eR_nA, kc_nA, nx_nO, nx_nA, kd_nO_at, kd_nA_at, ln_nA_at, n1, n3, n4, n5, n6, n7, n8, n9, n10]
  · obtain ⟨n1, n2, n3, n4, n5, n6, n7, n8⟩ := Ko
    refine ⟨?_, ?_, ?_, ?_, ?_, ?_, ?_, ?_⟩
    all_goals simp [nx_pI, kd_pI, ln_pI, gI_pI, gJ_pI, gR_pI, eI_pI, eJ_pI, eR_pI, kc_pI, nx_pJ, kd_pJ, ln_pJ, gI_pJ, gJ_pJ, gR_pJ, eI_pJ, eJ_pJ, eR_pJ, kc_pJ, nx_pR, kd_pR, ln_pR, gI_pR, gJ_pR, gR_pR, eI_pR, eJ_pR, eR_pR, kc_pR, nx_sI, kd_sI, ln_sI, gI_sI, gJ_sI, gR_sI, eI_sI, eJ_sI, eR_sI, kc_sI, nx_sJ, kd_sJ, ln_sJ, gI_sJ, gJ_sJ, gR_sJ, eI_sJ, eJ_sJ, eR_sJ, kc_sJ, nx_sR, kd_sR, ln_sR, gI_sR, gJ_sR, gR_sR, eI_sR, eJ_sR, eR_sR, kc_sR, ln_nO, eI_nO, eJ_nO, eR_nO, kc_nO, gI_nO, gI_nA, gJ_nO, gJ_nA, gR_nO, gR_nA, eI_nA, eJ_nA, eR_nA, kc_nA, nx_nO, nx_nA, kd_nO_at, kd_nA_at, ln_nA_at, n1, n2, n3, n5, n6, n7, n8]
    unfold bd
    rw [nI_toInt (by omega)]
    omega
  · obtain ⟨a1, a2, a3, a4, a5, a6, a7⟩ := Ka
    refine ⟨?_, ?_, ?_, ?_, ?_, ?_, ?_⟩
    · simp [nx_pI, kd_pI, ln_pI, gI_pI, gJ_pI, gR_pI, eI_pI, eJ_pI, eR_pI, kc_pI, nx_pJ, kd_pJ, ln_pJ, gI_pJ, gJ_pJ, gR_pJ, eI_pJ, eJ_pJ, eR_pJ, kc_pJ, nx_pR, kd_pR, ln_pR, gI_pR, gJ_pR, gR_pR, eI_pR, eJ_pR, eR_pR, kc_pR, nx_sI, kd_sI, ln_sI, gI_sI, gJ_sI, gR_sI, eI_sI, eJ_sI, eR_sI, kc_sI, nx_sJ, kd_sJ, ln_sJ, gI_sJ, gJ_sJ, gR_sJ, eI_sJ, eJ_sJ, eR_sJ, kc_sJ, nx_sR, kd_sR, ln_sR, gI_sR, gJ_sR, gR_sR, eI_sR, eJ_sR, eR_sR, kc_sR, ln_nO, eI_nO, eJ_nO, eR_nO, kc_nO, gI_nO, gI_nA, gJ_nO, gJ_nA, gR_nO, gR_nA, eI_nA, eJ_nA, eR_nA, kc_nA, nx_nO, nx_nA, kd_nO_at, kd_nA_at, ln_nA_at]; exact a1
    · simp [nx_pI, kd_pI, ln_pI, gI_pI, gJ_pI, gR_pI, eI_pI, eJ_pI, eR_pI, kc_pI, nx_pJ, kd_pJ, ln_pJ, gI_pJ, gJ_pJ, gR_pJ, eI_pJ, eJ_pJ, eR_pJ, kc_pJ, nx_pR, kd_pR, ln_pR, gI_pR, gJ_pR, gR_pR, eI_pR, eJ_pR, eR_pR, kc_pR, nx_sI, kd_sI, ln_sI, gI_sI, gJ_sI, gR_sI, eI_sI, eJ_sI, eR_sI, kc_sI, nx_sJ, kd_sJ, ln_sJ, gI_sJ, gJ_sJ, gR_sJ, eI_sJ, eJ_sJ, eR_sJ, kc_sJ, nx_sR, kd_sR, ln_sR, gI_sR, gJ_sR, gR_sR, eI_sR, eJ_sR, eR_sR, kc_sR, ln_nO, eI_nO, eJ_nO, eR_nO, kc_nO, gI_nO, gI_nA, gJ_nO, gJ_nA, gR_nO, gR_nA, eI_nA, eJ_nA, eR_nA, kc_nA, nx_nO, nx_nA, kd_nO_at, kd_nA_at, ln_nA_at]; exact a2
    · simp [nx_pI, kd_pI, ln_pI, gI_pI, gJ_pI, gR_pI, eI_pI, eJ_pI, eR_pI, kc_pI, nx_pJ, kd_pJ, ln_pJ, gI_pJ, gJ_pJ, gR_pJ, eI_pJ, eJ_pJ, eR_pJ, kc_pJ, nx_pR, kd_pR, ln_pR, gI_pR, gJ_pR, gR_pR, eI_pR, eJ_pR, eR_pR, kc_pR, nx_sI, kd_sI, ln_sI, gI_sI, gJ_sI, gR_sI, eI_sI, eJ_sI, eR_sI, kc_sI, nx_sJ, kd_sJ, ln_sJ, gI_sJ, gJ_sJ, gR_sJ, eI_sJ, eJ_sJ, eR_sJ, kc_sJ, nx_sR, kd_sR, ln_sR, gI_sR, gJ_sR, gR_sR, eI_sR, eJ_sR, eR_sR, kc_sR, ln_nO, eI_nO, eJ_nO, eR_nO, kc_nO, gI_nO, gI_nA, gJ_nO, gJ_nA, gR_nO, gR_nA, eI_nA, eJ_nA, eR_nA, kc_nA, nx_nO, nx_nA, kd_nO_at, kd_nA_at, ln_nA_at]; exact a3
    · intro j hj
      have := a4 j hj
      by_cases c : j = m
      · simp [nx_pI, kd_pI, ln_pI, gI_pI, gJ_pI, gR_pI, eI_pI, eJ_pI, eR_pI, kc_pI, nx_pJ, kd_pJ, ln_pJ, gI_pJ, gJ_pJ, gR_pJ, eI_pJ, eJ_pJ, eR_pJ, kc_pJ, nx_pR, kd_pR, ln_pR, gI_pR, gJ_pR, gR_pR, eI_pR, eJ_pR, eR_pR, kc_pR, nx_sI, kd_sI, ln_sI, gI_sI, gJ_sI, gR_sI, eI_sI, eJ_sI, eR_sI, kc_sI, nx_sJ, kd_sJ, ln_sJ, gI_sJ, gJ_sJ, gR_sJ, eI_sJ, eJ_sJ, eR_sJ, kc_sJ, nx_sR, kd_sR, ln_sR, gI_sR, gJ_sR, gR_sR, eI_sR, eJ_sR, eR_sR, kc_sR, ln_nO, eI_nO, eJ_nO, eR_nO, kc_nO, gI_nO, gI_nA, gJ_nO, gJ_nA, gR_nO, gR_nA, eI_nA, eJ_nA, eR_nA, kc_nA, nx_nO, nx_nA, kd_nO_at, kd_nA_at, ln_nA_at, c, hv]
      · simp [nx_pI, kd_pI, ln_pI, gI_pI, gJ_pI, gR_pI, eI_pI, eJ_pI, eR_pI, kc_pI, nx_pJ, kd_pJ, ln_pJ, gI_pJ, gJ_pJ, gR_pJ, eI_pJ, eJ_pJ, eR_pJ, kc_pJ, nx_pR, kd_pR, ln_pR, gI_pR, gJ_pR, gR_pR, eI_pR, eJ_pR, eR_pR, kc_pR, nx_sI, kd_sI, ln_sI, gI_sI, gJ_sI, gR_sI, eI_sI, eJ_sI, eR_sI, kc_sI, nx_sJ, kd_sJ, ln_sJ, gI_sJ, gJ_sJ, gR_sJ, eI_sJ, eJ_sJ, eR_sJ, kc_sJ, nx_sR, kd_sR, ln_sR, gI_sR, gJ_sR, gR_sR, eI_sR, eJ_sR, eR_sR, kc_sR, ln_nO, eI_nO, eJ_nO, eR_nO, kc_nO, gI_nO, gI_nA, gJ_nO, gJ_nA, gR_nO, gR_nA, eI_nA, eJ_nA, eR_nA, kc_nA, nx_nO, nx_nA, kd_nO_at, kd_nA_at, ln_nA_at, c, this]
    · simp [nx_pI, kd_pI, ln_pI, gI_pI, gJ_pI, gR_pI, eI_pI, eJ_pI, eR_pI, kc_pI, nx_pJ, kd_pJ, ln_pJ, gI_pJ, gJ_pJ, gR_pJ, eI_pJ, eJ_pJ, eR_pJ, kc_pJ, nx_pR, kd_pR, ln_pR, gI_pR, gJ_pR, gR_pR, eI_pR, eJ_pR, eR_pR, kc_pR, nx_sI, kd_sI, ln_sI, gI_sI, gJ_sI, gR_sI, eI_sI, eJ_sI, eR_sI, kc_sI, nx_sJ, kd_sJ, ln_sJ, gI_sJ, gJ_sJ, gR_sJ, eI_sJ, eJ_sJ, eR_sJ, kc_sJ, nx_sR, kd_sR, ln_sR, gI_sR, gJ_sR, gR_sR, eI_sR, eJ_sR, eR_sR, kc_sR, ln_nO, eI_nO, eJ_nO, eR_nO, kc_nO, gI_nO, gI_nA, gJ_nO, gJ_nA, gR_nO, gR_nA, eI_nA, eJ_nA, eR_nA, kc_nA, nx_nO, nx_nA, kd_nO_at, kd_nA_at, ln_nA_at]; exact a5
    · simp [nx_pI, kd_pI, ln_pI, gI_pI, gJ_pI, gR_pI, eI_pI, eJ_pI, eR_pI, kc_pI, nx_pJ, kd_pJ, ln_pJ, gI_pJ, gJ_pJ, gR_pJ, eI_pJ, eJ_pJ, eR_pJ, kc_pJ, nx_pR, kd_pR, ln_pR, gI_pR, gJ_pR, gR_pR, eI_pR, eJ_pR, eR_pR, kc_pR, nx_sI, kd_sI, ln_sI, gI_sI, gJ_sI, gR_sI, eI_sI, eJ_sI, eR_sI, kc_sI, nx_sJ, kd_sJ, ln_sJ, gI_sJ, gJ_sJ, gR_sJ, eI_sJ, eJ_sJ, eR_sJ, kc_sJ, nx_sR, kd_sR, ln_sR, gI_sR, gJ_sR, gR_sR, eI_sR, eJ_sR, eR_sR, kc_sR, ln_nO, eI_nO, eJ_nO, eR_nO, kc_nO, gI_nO, gI_nA, gJ_nO, gJ_nA, gR_nO, gR_nA, eI_nA, eJ_nA, eR_nA, kc_nA, nx_nO, nx_nA, kd_nO_at, kd_nA_at, ln_nA_at]; exact a6
    · simp [nx_pI, kd_pI, ln_pI, gI_pI, gJ_pI, gR_pI, eI_pI, eJ_pI, eR_pI, kc_pI, nx_pJ, kd_pJ, ln_pJ, gI_pJ, gJ_pJ, gR_pJ, eI_pJ, eJ_pJ, eR_pJ, kc_pJ, nx_pR, kd_pR, ln_pR, gI_pR, gJ_pR, gR_pR, eI_pR, eJ_pR, eR_pR, kc_pR, nx_sI, kd_sI, ln_sI, gI_sI, gJ_sI, gR_sI, eI_sI, eJ_sI, eR_sI, kc_sI, nx_sJ, kd_sJ, ln_sJ, gI_sJ, gJ_sJ, gR_sJ, eI_sJ, eJ_sJ, eR_sJ, kc_sJ, nx_sR, kd_sR, ln_sR, gI_sR, gJ_sR, gR_sR, eI_sR, eJ_sR, eR_sR, kc_sR, ln_nO, eI_nO, eJ_nO, eR_nO, kc_nO, gI_nO, gI_nA, gJ_nO, gJ_nA, gR_nO, gR_nA, eI_nA, eJ_nA, eR_nA, kc_nA, nx_nO, nx_nA, kd_nO_at, kd_nA_at, ln_nA_at]; exact a7
theorem pr_rain (H : CP h x) {a : Int32} (hR : ∀ h', CP h' x → R h') : CtI M_X0_rain [rV x, iV a] h k n (fun r h1 => CtI M_X3_rain [rV (x + 23), iV a] h1 0 0 (fun r2 h2 => r = r2 ∧ R h2) E) E := by
  have e1 := H.pn.2.1
  have e2 := H.po.2.2.2.1
  obtain ⟨m, hm, em⟩ : ∃ m, m ≤ 30 ∧ gI h 1003 (x + 23) = nI m := ⟨_, (bd_nI (hi := 30) e2).2, (bd_nI (hi := 30) e2).1⟩
  rw [em] at e1
  by_cases c1 : isin a 0 50 = true
  · by_cases c2 : m = 30
    · subst c2
      refine ct_X0_rain H.xw ?_ ?_
      · simp [P_X0_rain, e1]
        intro _ z; exact absurd rfl z
      have ex : F_X0_rain h x a = (-1, h) := by simp [F_X0_rain, e1, show nI 30 = 30 by decide]
      rw [ex]
      refine ct_X3_rain H.mw ?_ ?_
      · simp [P_X3_rain, em]
        intro _ z; exact absurd rfl z
      have ey : F_X3_rain h (x + 23) a = (-1, h) := by simp [F_X3_rain, em, show nI 30 = 30 by decide]
      rw [ey]
      exact ⟨rfl, hR _ H⟩
    · have hm2 : m < 30 := by omega
      have c3 : ¬ nI m = 30 := fun z => c2 (nI_inj (by omega) (by omega) (z.trans (by decide)))
      have c4 : vp_in (nI m) 30 := by rw [vin_iff, nI_toInt (by omega)]; omega
      refine ct_X0_rain H.xw ?_ ?_
      · simp [P_X0_rain, e1, c4]
      have ex : F_X0_rain h x a = (nI (m + 1), pI (sI h (x + 12) m a) 23 x (nI (m + 1))) := by simp [F_X0_rain, e1, c1, c3, nx_pI, kd_pI, ln_pI, gI_pI, gJ_pI, gR_pI, eI_pI, eJ_pI, eR_pI, kc_pI, nx_pJ, kd_pJ, ln_pJ, gI_pJ, gJ_pJ, gR_pJ, eI_pJ, eJ_pJ, eR_pJ, kc_pJ, nx_pR, kd_pR, ln_pR, gI_pR, gJ_pR, gR_pR, eI_pR, eJ_pR, eR_pR, kc_pR, nx_sI, kd_sI, ln_sI, gI_sI, gJ_sI, gR_sI, eI_sI, eJ_sI, eR_sI, kc_sI, nx_sJ, kd_sJ, ln_sJ, gI_sJ, gJ_sJ, gR_sJ, eI_sJ, eJ_sJ, eR_sJ, kc_sJ, nx_sR, kd_sR, ln_sR, gI_sR, gJ_sR, gR_sR, eI_sR, eJ_sR, eR_sR, kc_sR, ln_nO, eI_nO, eJ_nO, eR_nO, kc_nO, gI_nO, gI_nA, gJ_nO, gJ_nA, gR_nO, gR_nA, eI_nA, eJ_nA, eR_nA, kc_nA, nx_nO, nx_nA, kd_nO_at, kd_nA_at, ln_nA_at, nI_add1, ix_nI (show m < 2 ^ 31 by omega)]
      rw [ex]
      have hm' : MW (pI (sI h (x + 12) m a) 23 x (nI (m + 1))) (x + 23) := H.mw
      refine ct_X3_rain hm' ?_ ?_
      · simp [P_X3_rain, nx_pI, kd_pI, ln_pI, gI_pI, gJ_pI, gR_pI, eI_pI, eJ_pI, eR_pI, kc_pI, nx_pJ, kd_pJ, ln_pJ, gI_pJ, gJ_pJ, gR_pJ, eI_pJ, eJ_pJ, eR_pJ, kc_pJ, nx_pR, kd_pR, ln_pR, gI_pR, gJ_pR, gR_pR, eI_pR, eJ_pR, eR_pR, kc_pR, nx_sI, kd_sI, ln_sI, gI_sI, gJ_sI, gR_sI, eI_sI, eJ_sI, eR_sI, kc_sI, nx_sJ, kd_sJ, ln_sJ, gI_sJ, gJ_sJ, gR_sJ, eI_sJ, eJ_sJ, eR_sJ, kc_sJ, nx_sR, kd_sR, ln_sR, gI_sR, gJ_sR, gR_sR, eI_sR, eJ_sR, eR_sR, kc_sR, ln_nO, eI_nO, eJ_nO, eR_nO, kc_nO, gI_nO, gI_nA, gJ_nO, gJ_nA, gR_nO, gR_nA, eI_nA, eJ_nA, eR_nA, kc_nA, nx_nO, nx_nA, kd_nO_at, kd_nA_at, ln_nA_at, em, c4]
      have ey : F_X3_rain (pI (sI h (x + 12) m a) 23 x (nI (m + 1))) (x + 23) a = (nI (m + 1), pI (sI (pI (sI h (x + 12) m a) 23 x (nI (m + 1))) (x + 23 + 26) m a) 1003 (x + 23) (nI (m + 1))) := by simp [F_X3_rain, em, c1, c3, nx_pI, kd_pI, ln_pI, gI_pI, gJ_pI, gR_pI, eI_pI, eJ_pI, eR_pI, kc_pI, nx_pJ, kd_pJ, ln_pJ, gI_pJ, gJ_pJ, gR_pJ, eI_pJ, eJ_pJ, eR_pJ, kc_pJ, nx_pR, kd_pR, ln_pR, gI_pR, gJ_pR, gR_pR, eI_pR, eJ_pR, eR_pR, kc_pR, nx_sI, kd_sI, ln_sI, gI_sI, gJ_sI, gR_sI, eI_sI, eJ_sI, eR_sI, kc_sI, nx_sJ, kd_sJ, ln_sJ, gI_sJ, gJ_sJ, gR_sJ, eI_sJ, eJ_sJ, eR_sJ, kc_sJ, nx_sR, kd_sR, ln_sR, gI_sR, gJ_sR, gR_sR, eI_sR, eJ_sR, eR_sR, kc_sR, ln_nO, eI_nO, eJ_nO, eR_nO, kc_nO, gI_nO, gI_nA, gJ_nO, gJ_nA, gR_nO, gR_nA, eI_nA, eJ_nA, eR_nA, kc_nA, nx_nO, nx_nA, kd_nO_at, kd_nA_at, ln_nA_at, nI_add1, ix_nI (show m < 2 ^ 31 by omega)]
      rw [ey]
      exact ⟨rfl, hR _ (cp_rain H hm2 em (isin_bd c1))⟩
  · have c1 : isin a 0 50 = false := by simpa using c1
    refine ct_X0_rain H.xw (by simp [P_X0_rain, c1]) ?_
    have ex : F_X0_rain h x a = (-1, h) := by simp [F_X0_rain, c1]
    rw [ex]
    refine ct_X3_rain H.mw (by simp [P_X3_rain, c1]) ?_
    have ey : F_X3_rain h (x + 23) a = (-1, h) := by simp [F_X3_rain, c1]
    rw [ey]
    exact ⟨rfl, hR _ H⟩
theorem cp_lot (H : CP h x) {v : Int32} {m : Nat} (hm : m < 10) (hv : bd v 1 100) : CP (sI (sI h (x + 1) m v) (x + 23 + 25) m v) x := by
  obtain ⟨Kw, Kn, Ko, Kl, Kc, Kv, Kb, Kx, Kr, Kq, Ks, Kp, Ka, Ku⟩ := H; refine ⟨(by with_reducible (repeat (first | assumption | refine CPw_pI ?_ | refine CPw_pJ ?_ | refine CPw_pR (by decide) ?_ | refine CPw_sJ ?_ | refine CPw_sM ?_))), (by with_reducible (repeat (first | assumption | refine CPn_pI (by decide) ?_ | refine CPn_pJ (by decide) ?_ | refine CPn_pR ?_ | refine CPn_sJ ?_ | refine CPn_sM ?_))), (by with_reducible (repeat (first | assumption | refine CPo_pI (by decide) ?_ | refine CPo_pJ ?_ | refine CPo_pR ?_ | refine CPo_sJ ?_ | refine CPo_sM ?_))), (by with_reducible (repeat (first | assumption | refine CPl_pI (by decide) ?_ | refine CPl_pJ ?_ | refine CPl_pR (by decide) ?_ | refine CPl_sJ ?_ | refine CPl_sM ?_))), (by with_reducible (repeat (first | assumption | refine CPc_pI (by decide) ?_ | refine CPc_pJ ?_ | refine CPc_pR (by decide) ?_ | refine CPc_sJ (by decide) ?_ | refine CPc_sM (by decide) ?_ | refine CPc_sX (by decide) ?_))), (by with_reducible (repeat (first | assumption | refine CPv_pI (by decide) ?_ | refine CPv_pJ ?_ | refine CPv_pR ?_ | refine CPv_sJ ?_ | refine CPv_sM (by decide) ?_ | refine CPv_sX (by decide) ?_))), (by with_reducible (repeat (first | assumption | refine CPb_pI (by decide) ?_ | refine CPb_pJ ?_ | refine CPb_pR (by decide) ?_ | refine CPb_sJ ?_ | refine CPb_sM (by decide) ?_ | refine CPb_sX (by decide) ?_))), (by with_reducible (repeat (first | assumption | refine CPx_pI (by decide) ?_ | refine CPx_pJ ?_ | refine CPx_pR ?_ | refine CPx_sJ ?_ | refine CPx_sM (by decide) ?_ | refine CPx_sX (by decide) ?_))), (by with_reducible (repeat (first | assumption | refine CPr_pI (by decide) ?_ | refine CPr_pJ ?_ | refine CPr_pR (by decide) ?_ | refine CPr_sJ ?_ | refine CPr_sM (by decide) ?_ | refine CPr_sX (by decide) ?_))), (by with_reducible (repeat (first | assumption | refine CPq_pI (by decide) ?_ | refine CPq_pJ ?_ | refine CPq_pR (by decide) ?_ | refine CPq_sJ ?_ | refine CPq_sM (by decide) ?_ | refine CPq_sX (by decide) ?_))), (by with_reducible (repeat (first | assumption | refine CPs_pI (by decide) ?_ | refine CPs_pJ (by decide) ?_ | refine CPs_pR (by decide) ?_ | refine CPs_sJ (by decide) ?_ | refine CPs_sM (by decide) ?_ | refine CPs_sX (by decide) ?_))), (by with_reducible (repeat (first | assumption | refine CPp_pI (by decide) ?_ | refine CPp_pJ ?_ | refine CPp_pR (by decide) ?_ | refine CPp_sJ ?_ | refine CPp_sM (by decide) ?_ | refine CPp_sX (by decide) ?_))), ?_, (by with_reducible (repeat (first | assumption | refine CPu_pI (by decide) ?_ | refine CPu_pJ ?_ | refine CPu_pR (by decide) ?_ | refine CPu_sJ ?_ | refine CPu_sM (by decide) (by decide) ?_ | refine CPu_sX (by decide) (by decide) (by decide) ?_)))⟩
  obtain ⟨a1, a2, a3, a4, a5, a6, a7⟩ := Ka
  refine ⟨?_, ?_, ?_, ?_, ?_, ?_, ?_⟩
  · intro j hj
    have := a1 j hj
    by_cases c : j = m
    · simp [nx_pI, kd_pI, ln_pI, gI_pI, gJ_pI, gR_pI, eI_pI, eJ_pI, eR_pI, kc_pI, nx_pJ, kd_pJ, ln_pJ, gI_pJ, gJ_pJ, gR_pJ, eI_pJ, eJ_pJ, eR_pJ, kc_pJ, nx_pR, kd_pR, ln_pR, gI_pR, gJ_pR, gR_pR, eI_pR, eJ_pR, eR_pR, kc_pR, nx_sI, kd_sI, ln_sI, gI_sI, gJ_sI, gR_sI, eI_sI, eJ_sI, eR_sI, kc_sI, nx_sJ, kd_sJ, ln_sJ, gI_sJ, gJ_sJ, gR_sJ, eI_sJ, eJ_sJ, eR_sJ, kc_sJ, nx_sR, kd_sR, ln_sR, gI_sR, gJ_sR, gR_sR, eI_sR, eJ_sR, eR_sR, kc_sR, ln_nO, eI_nO, eJ_nO, eR_nO, kc_nO, gI_nO, gI_nA, gJ_nO, gJ_nA, gR_nO, gR_nA, eI_nA, eJ_nA, eR_nA, kc_nA, nx_nO, nx_nA, kd_nO_at, kd_nA_at, ln_nA_at, c, hv]
    · simp [nx_pI, kd_pI, ln_pI, gI_pI, gJ_pI, gR_pI, eI_pI, eJ_pI, eR_pI, kc_pI, nx_pJ, kd_pJ, ln_pJ, gI_pJ, gJ_pJ, gR_pJ, eI_pJ, eJ_pJ, eR_pJ, kc_pJ, nx_pR, kd_pR, ln_pR, gI_pR, gJ_pR, gR_pR, eI_pR, eJ_pR, eR_pR, kc_pR, nx_sI, kd_sI, ln_sI, gI_sI, gJ_sI, gR_sI, eI_sI, eJ_sI, eR_sI, kc_sI, nx_sJ, kd_sJ, ln_sJ, gI_sJ, gJ_sJ, gR_sJ, eI_sJ, eJ_sJ, eR_sJ, kc_sJ, nx_sR, kd_sR, ln_sR, gI_sR, gJ_sR, gR_sR, eI_sR, eJ_sR, eR_sR, kc_sR, ln_nO, eI_nO, eJ_nO, eR_nO, kc_nO, gI_nO, gI_nA, gJ_nO, gJ_nA, gR_nO, gR_nA, eI_nA, eJ_nA, eR_nA, kc_nA, nx_nO, nx_nA, kd_nO_at, kd_nA_at, ln_nA_at, c, this]
  · simp [nx_pI, kd_pI, ln_pI, gI_pI, gJ_pI, gR_pI, eI_pI, eJ_pI, eR_pI, kc_pI, nx_pJ, kd_pJ, ln_pJ, gI_pJ, gJ_pJ, gR_pJ, eI_pJ, eJ_pJ, eR_pJ, kc_pJ, nx_pR, kd_pR, ln_pR, gI_pR, gJ_pR, gR_pR, eI_pR, eJ_pR, eR_pR, kc_pR, nx_sI, kd_sI, ln_sI, gI_sI, gJ_sI, gR_sI, eI_sI, eJ_sI, eR_sI, kc_sI, nx_sJ, kd_sJ, ln_sJ, gI_sJ, gJ_sJ, gR_sJ, eI_sJ, eJ_sJ, eR_sJ, kc_sJ, nx_sR, kd_sR, ln_sR, gI_sR, gJ_sR, gR_sR, eI_sR, eJ_sR, eR_sR, kc_sR, ln_nO, eI_nO, eJ_nO, eR_nO, kc_nO, gI_nO, gI_nA, gJ_nO, gJ_nA, gR_nO, gR_nA, eI_nA, eJ_nA, eR_nA, kc_nA, nx_nO, nx_nA, kd_nO_at, kd_nA_at, ln_nA_at]; exact a2
  · simp [nx_pI, kd_pI, ln_pI, gI_pI, gJ_pI, gR_pI, eI_pI, eJ_pI, eR_pI, kc_pI, nx_pJ, kd_pJ, ln_pJ, gI_pJ, gJ_pJ, gR_pJ, eI_pJ, eJ_pJ, eR_pJ, kc_pJ, nx_pR, kd_pR, ln_pR, gI_pR, gJ_pR, gR_pR, eI_pR, eJ_pR, eR_pR, kc_pR, nx_sI, kd_sI, ln_sI, gI_sI, gJ_sI, gR_sI, eI_sI, eJ_sI, eR_sI, kc_sI, nx_sJ, kd_sJ, ln_sJ, gI_sJ, gJ_sJ, gR_sJ, eI_sJ, eJ_sJ, eR_sJ, kc_sJ, nx_sR, kd_sR, ln_sR, gI_sR, gJ_sR, gR_sR, eI_sR, eJ_sR, eR_sR, kc_sR, ln_nO, eI_nO, eJ_nO, eR_nO, kc_nO, gI_nO, gI_nA, gJ_nO, gJ_nA, gR_nO, gR_nA, eI_nA, eJ_nA, eR_nA, kc_nA, nx_nO, nx_nA, kd_nO_at, kd_nA_at, ln_nA_at]; exact a3
  · simp [nx_pI, kd_pI, ln_pI, gI_pI, gJ_pI, gR_pI, eI_pI, eJ_pI, eR_pI, kc_pI, nx_pJ, kd_pJ, ln_pJ, gI_pJ, gJ_pJ, gR_pJ, eI_pJ, eJ_pJ, eR_pJ, kc_pJ, nx_pR, kd_pR, ln_pR, gI_pR, gJ_pR, gR_pR, eI_pR, eJ_pR, eR_pR, kc_pR, nx_sI, kd_sI, ln_sI, gI_sI, gJ_sI, gR_sI, eI_sI, eJ_sI, eR_sI, kc_sI, nx_sJ, kd_sJ, ln_sJ, gI_sJ, gJ_sJ, gR_sJ, eI_sJ, eJ_sJ, eR_sJ, kc_sJ, nx_sR, kd_sR, ln_sR, gI_sR, gJ_sR, gR_sR, eI_sR, eJ_sR, eR_sR, kc_sR, ln_nO, eI_nO, eJ_nO, eR_nO, kc_nO, gI_nO, gI_nA, gJ_nO, gJ_nA, gR_nO, gR_nA, eI_nA, eJ_nA, eR_nA, kc_nA, nx_nO, nx_nA, kd_nO_at, kd_nA_at, ln_nA_at]; exact a4
  · simp [nx_pI, kd_pI, ln_pI, gI_pI, gJ_pI, gR_pI, eI_pI, eJ_pI, eR_pI, kc_pI, nx_pJ, kd_pJ, ln_pJ, gI_pJ, gJ_pJ, gR_pJ, eI_pJ, eJ_pJ, eR_pJ, kc_pJ, nx_pR, kd_pR, ln_pR, gI_pR, gJ_pR, gR_pR, eI_pR, eJ_pR, eR_pR, kc_pR, nx_sI, kd_sI, ln_sI, gI_sI, gJ_sI, gR_sI, eI_sI, eJ_sI, eR_sI, kc_sI, nx_sJ, kd_sJ, ln_sJ, gI_sJ, gJ_sJ, gR_sJ, eI_sJ, eJ_sJ, eR_sJ, kc_sJ, nx_sR, kd_sR, ln_sR, gI_sR, gJ_sR, gR_sR, eI_sR, eJ_sR, eR_sR, kc_sR, ln_nO, eI_nO, eJ_nO, eR_nO, kc_nO, gI_nO, gI_nA, gJ_nO, gJ_nA, gR_nO, gR_nA, eI_nA, eJ_nA, eR_nA, kc_nA, nx_nO, nx_nA, kd_nO_at, kd_nA_at, ln_nA_at]; exact a5
  · simp [nx_pI, kd_pI, ln_pI, gI_pI, gJ_pI, gR_pI, eI_pI, eJ_pI, eR_pI, kc_pI, nx_pJ, kd_pJ, ln_pJ, gI_pJ, gJ_pJ, gR_pJ, eI_pJ, eJ_pJ, eR_pJ, kc_pJ, nx_pR, kd_pR, ln_pR, gI_pR, gJ_pR, gR_pR, eI_pR, eJ_pR, eR_pR, kc_pR, nx_sI, kd_sI, ln_sI, gI_sI, gJ_sI, gR_sI, eI_sI, eJ_sI, eR_sI, kc_sI, nx_sJ, kd_sJ, ln_sJ, gI_sJ, gJ_sJ, gR_sJ, eI_sJ, eJ_sJ, eR_sJ, kc_sJ, nx_sR, kd_sR, ln_sR, gI_sR, gJ_sR, gR_sR, eI_sR, eJ_sR, eR_sR, kc_sR, ln_nO, eI_nO, eJ_nO, eR_nO, kc_nO, gI_nO, gI_nA, gJ_nO, gJ_nA, gR_nO, gR_nA, eI_nA, eJ_nA, eR_nA, kc_nA, nx_nO, nx_nA, kd_nO_at, kd_nA_at, ln_nA_at]; exact a6
  · simp [nx_pI, kd_pI, ln_pI, gI_pI, gJ_pI, gR_pI, eI_pI, eJ_pI, eR_pI, kc_pI, nx_pJ, kd_pJ, ln_pJ, gI_pJ, gJ_pJ, gR_pJ, eI_pJ, eJ_pJ, eR_pJ, kc_pJ, nx_pR, kd_pR, ln_pR, gI_pR, gJ_pR, gR_pR, eI_pR, eJ_pR, eR_pR, kc_pR, nx_sI, kd_sI, ln_sI, gI_sI, gJ_sI, gR_sI, eI_sI, eJ_sI, eR_sI, kc_sI, nx_sJ, kd_sJ, ln_sJ, gI_sJ, gJ_sJ, gR_sJ, eI_sJ, eJ_sJ, eR_sJ, kc_sJ, nx_sR, kd_sR, ln_sR, gI_sR, gJ_sR, gR_sR, eI_sR, eJ_sR, eR_sR, kc_sR, ln_nO, eI_nO, eJ_nO, eR_nO, kc_nO, gI_nO, gI_nA, gJ_nO, gJ_nA, gR_nO, gR_nA, eI_nA, eJ_nA, eR_nA, kc_nA, nx_nO, nx_nA, kd_nO_at, kd_nA_at, ln_nA_at]; exact a7
theorem pr_lot (H : CP h x) {a b : Int32} (hR : ∀ h', CP h' x → R h') : CtI M_X0_lot [rV x, iV a, iV b] h k n (fun r h1 => CtI M_X3_lot [rV (x + 23), iV a, iV b] h1 0 0 (fun r2 h2 => r = r2 ∧ R h2) E) E := by
  by_cases c1 : isin a 0 9 = true ∧ isin b 1 100 = true
  · obtain ⟨c1, c2⟩ := c1
    obtain ⟨d1, d2⟩ := isin_nI (m := 9) (by decide) c1
    have c4 : vp_in a 10 := by rw [d1, vin_iff, nI_toInt (by omega)]; omega
    refine ct_X0_lot H.xw (by simp [P_X0_lot, c4]) ?_
    have ex : F_X0_lot h x a b = (1, sI h (x + 1) (ix a) b) := by simp [F_X0_lot, c1, c2]
    rw [ex]
    have hm' : MW (sI h (x + 1) (ix a) b) (x + 23) := H.mw
    refine ct_X3_lot hm' (by simp [P_X3_lot, c4]) ?_
    have ey : F_X3_lot (sI h (x + 1) (ix a) b) (x + 23) a b = (1, sI (sI h (x + 1) (ix a) b) (x + 23 + 25) (ix a) b) := by simp [F_X3_lot, c1, c2]
    rw [ey]
    exact ⟨rfl, hR _ (cp_lot H (by omega) (isin_bd c2))⟩
  · have ex : ∀ h, F_X0_lot h x a b = (0, h) := fun h => by
      unfold F_X0_lot
      by_cases d1 : isin a 0 9 = false
      · simp [d1]
      · have : isin b 1 100 = false := by simp at d1; simpa [d1] using c1
        simp [this]
    have ey : ∀ h, F_X3_lot h (x + 23) a b = (0, h) := fun h => by
      unfold F_X3_lot
      by_cases d1 : isin a 0 9 = false
      · simp [d1]
      · have : isin b 1 100 = false := by simp at d1; simpa [d1] using c1
        simp [this]
    refine ct_X0_lot H.xw ?_ ?_
    · unfold P_X0_lot
      exact ⟨fun _ => trivial, fun d1 => ⟨fun d2 => absurd ⟨d1, d2⟩ c1, fun _ => trivial⟩⟩
    rw [ex]
    refine ct_X3_lot H.mw ?_ ?_
    · unfold P_X3_lot
      exact ⟨fun _ => trivial, fun d1 => ⟨fun d2 => absurd ⟨d1, d2⟩ c1, fun _ => trivial⟩⟩
    rw [ey]
    exact ⟨rfl, hR _ H⟩
end
