/-! pairs: bed -/
set_option maxRecDepth 100000
section
variable {h : Hp} {x : Nat} {E : Nat → Hp → Prop} {k n : Nat} {R : Hp → Prop}
def crd (h : Hp) (x i t : Nat) : Hp := itr (fun k g => sI g (x + 23 + 18) (11 * i + k) (-1)) 0 t h
theorem crd_same (h : Hp) (x i t : Nat) : nx (crd h x i t) = nx h ∧ kd (crd h x i t) = kd h ∧ ln (crd h x i t) = ln h ∧ gI (crd h x i t) = gI h ∧ gJ (crd h x i t) = gJ h ∧ gR (crd h x i t) = gR h ∧ eJ (crd h x i t) = eJ h ∧ eR (crd h x i t) = eR h ∧ kc (crd h x i t) = kc h := by
  have := itr_inv (f := fun k g => sI g (x + 23 + 18) (11 * i + k) (-1)) (P := fun _ g => nx g = nx h ∧ kd g = kd h ∧ ln g = ln h ∧ gI g = gI h ∧ gJ g = gJ h ∧ gR g = gR h ∧ eJ g = eJ h ∧ eR g = eR h ∧ kc g = kc h) (t := t) (i := 0) (v := h) (fun j w _ _ hw => hw) ⟨rfl, rfl, rfl, rfl, rfl, rfl, rfl, rfl, rfl⟩
  exact this
theorem crd_eI (h : Hp) (x i : Nat) : ∀ t a j, eI (crd h x i t) a j = if a = x + 23 + 18 ∧ 11 * i ≤ j ∧ j < 11 * i + t then -1 else eI h a j := by
  intro t
  induction t with
  | zero => intro a j; rw [if_neg (by omega)]; rfl
  | succ t ih =>
    intro a j
    have e : crd h x i (t + 1) = sI (crd h x i t) (x + 23 + 18) (11 * i + t) (-1) := by unfold crd; rw [itr_succ, Nat.zero_add]
    rw [e, eI_sI, ih]
    by_cases c : a = x + 23 + 18 ∧ j = 11 * i + t
    · rw [if_pos c, if_pos (by omega)]
    · rw [if_neg c]
      by_cases d : a = x + 23 + 18 ∧ 11 * i ≤ j ∧ j < 11 * i + t
      · rw [if_pos d, if_pos (by omega)]
      · rw [if_neg d, if_neg (by omega)]
def hBed (h : Hp) (x i c b : Nat) (t l w d : Int32) : Hp := crd (sI (sI (sI (sI (sI (sI (sI (pR h 109 c b) (x + 23 + 6) i 1) (x + 23 + 7) i t) (x + 23 + 8) i 1) (x + 23 + 9) i l) (x + 23 + 10) i w) (x + 23 + 11) i d) (x + 23 + 17) i (-1)) x i 11
theorem cp_bed (H : CP h x) {i b : Nat} {t l w : Int32} (hi : i < nC h x) (hb0 : eI h (x + 23 + 6) i = 0) (bt0 : bd t 0 1) (bl : bd l 0 9) (bw : bd w 1 500) (kb : kd h b = 4) (f : gR h 313 b = x ∧ gR h 300 b = el h (x + 2) i ∧ gI h 301 b = l ∧ gI h 302 b = w ∧ gI h 303 b = gI h 1000 (x + 23) ∧ gI h 304 b = t ∧ gI h 305 b = 0 ∧ gI h 306 b = 0 ∧ gI h 307 b = 0 ∧ gI h 308 b = 0 ∧ gI h 309 b = 0 ∧ gI h 310 b = -1 ∧ gI h 311 b = 0 ∧ gI h 312 b = 1) : CP (hBed h x i (el h (x + 2) i) b t l w (gI h 1000 (x + 23))) x := by
  have hn := H.nC_le.2
  have inj := fun j hj e => H.cor_inj (i := j) (j := i) hj hi e
  have H0 := H
  obtain ⟨Kw, Kn, Ko, Kl, Kc, Kv, Kb, Kx, Kr, Kq, Ks, Kp, Ka, Ku⟩ := H
  unfold hBed
  generalize hG : sI (sI (sI (sI (sI (sI (sI (pR h 109 (el h (x + 2) i) b) (x + 23 + 6) i 1) (x + 23 + 7) i t) (x + 23 + 8) i 1) (x + 23 + 9) i l) (x + 23 + 10) i w) (x + 23 + 11) i (gI h 1000 (x + 23))) (x + 23 + 17) i (-1) = G
  obtain ⟨s1, s2, s3, s4, s5, s6, s7, s8, s9⟩ := crd_same G x i 11
  have hexp : ∀ (P : Hp → Prop), P (sI (sI (sI (sI (sI (sI (sI (sI (sI (sI (sI G (x + 23 + 18) (11 * i + 0) (-1)) (x + 23 + 18) (11 * i + (0 + 1)) (-1)) (x + 23 + 18) (11 * i + (0 + 1 + 1)) (-1)) (x + 23 + 18) (11 * i + (0 + 1 + 1 + 1)) (-1)) (x + 23 + 18) (11 * i + (0 + 1 + 1 + 1 + 1)) (-1)) (x + 23 + 18) (11 * i + (0 + 1 + 1 + 1 + 1 + 1)) (-1)) (x + 23 + 18) (11 * i + (0 + 1 + 1 + 1 + 1 + 1 + 1)) (-1)) (x + 23 + 18) (11 * i + (0 + 1 + 1 + 1 + 1 + 1 + 1 + 1)) (-1)) (x + 23 + 18) (11 * i + (0 + 1 + 1 + 1 + 1 + 1 + 1 + 1 + 1)) (-1)) (x + 23 + 18) (11 * i + (0 + 1 + 1 + 1 + 1 + 1 + 1 + 1 + 1 + 1)) (-1)) (x + 23 + 18) (11 * i + (0 + 1 + 1 + 1 + 1 + 1 + 1 + 1 + 1 + 1 + 1)) (-1)) → P (crd G x i 11) := fun P hp => hp
  refine ⟨?_, ?_, ?_, ?_, ?_, ?_, ?_, ?_, ?_, ?_, ?_, ?_, ?_, ?_⟩
  · refine hexp (fun F => CPw F x) ?_; rw [← hG]; with_reducible (repeat (first | assumption | refine CPw_pI ?_ | refine CPw_pJ ?_ | refine CPw_pR (by decide) ?_ | refine CPw_sJ ?_ | refine CPw_sM ?_))
  · refine hexp (fun F => CPn F x) ?_; rw [← hG]; with_reducible (repeat (first | assumption | refine CPn_pI (by decide) ?_ | refine CPn_pJ (by decide) ?_ | refine CPn_pR ?_ | refine CPn_sJ ?_ | refine CPn_sM ?_))
  · refine hexp (fun F => CPo F x) ?_; rw [← hG]; with_reducible (repeat (first | assumption | refine CPo_pI (by decide) ?_ | refine CPo_pJ ?_ | refine CPo_pR ?_ | refine CPo_sJ ?_ | refine CPo_sM ?_))
  · refine hexp (fun F => CPl F x) ?_; rw [← hG]; with_reducible (repeat (first | assumption | refine CPl_pI (by decide) ?_ | refine CPl_pJ ?_ | refine CPl_pR (by decide) ?_ | refine CPl_sJ ?_ | refine CPl_sM ?_))
  · refine hexp (fun F => CPc F x) ?_; rw [← hG]; with_reducible (repeat (first | assumption | refine CPc_pI (by decide) ?_ | refine CPc_pJ ?_ | refine CPc_pR (by decide) ?_ | refine CPc_sJ (by decide) ?_ | refine CPc_sM (by decide) ?_ | refine CPc_sX (by decide) ?_))
  · refine hexp (fun F => CPv F x) ?_; rw [← hG]; with_reducible (repeat (first | assumption | refine CPv_pI (by decide) ?_ | refine CPv_pJ ?_ | refine CPv_pR ?_ | refine CPv_sJ ?_ | refine CPv_sM (by decide) ?_ | refine CPv_sX (by decide) ?_))
  · intro j hj
    have hj : j < nC h x := by unfold nC at hj ⊢; rw [s4, ← hG] at hj; simp [nx_pI, kd_pI, ln_pI, gI_pI, gJ_pI, gR_pI, eI_pI, eJ_pI, eR_pI, kc_pI, nx_pJ, kd_pJ, ln_pJ, gI_pJ, gJ_pJ, gR_pJ, eI_pJ, eJ_pJ, eR_pJ, kc_pJ, nx_pR, kd_pR, ln_pR, gI_pR, gJ_pR, gR_pR, eI_pR, eJ_pR, eR_pR, kc_pR, nx_sI, kd_sI, ln_sI, gI_sI, gJ_sI, gR_sI, eI_sI, eJ_sI, eR_sI, kc_sI, nx_sJ, kd_sJ, ln_sJ, gI_sJ, gJ_sJ, gR_sJ, eI_sJ, eJ_sJ, eR_sJ, kc_sJ, nx_sR, kd_sR, ln_sR, gI_sR, gJ_sR, gR_sR, eI_sR, eJ_sR, eR_sR, kc_sR, ln_nO, eI_nO, eJ_nO, eR_nO, kc_nO, gI_nO, gI_nA, gJ_nO, gJ_nA, gR_nO, gR_nA, eI_nA, eJ_nA, eR_nA, kc_nA, nx_nO, nx_nA, kd_nO_at, kd_nA_at, ln_nA_at] at hj; exact hj
    have ee : el (crd G x i 11) = el h := by funext a q; unfold el; rw [s6, s8, ← hG]; simp [nx_pI, kd_pI, ln_pI, gI_pI, gJ_pI, gR_pI, eI_pI, eJ_pI, eR_pI, kc_pI, nx_pJ, kd_pJ, ln_pJ, gI_pJ, gJ_pJ, gR_pJ, eI_pJ, eJ_pJ, eR_pJ, kc_pJ, nx_pR, kd_pR, ln_pR, gI_pR, gJ_pR, gR_pR, eI_pR, eJ_pR, eR_pR, kc_pR, nx_sI, kd_sI, ln_sI, gI_sI, gJ_sI, gR_sI, eI_sI, eJ_sI, eR_sI, kc_sI, nx_sJ, kd_sJ, ln_sJ, gI_sJ, gJ_sJ, gR_sJ, eI_sJ, eJ_sJ, eR_sJ, kc_sJ, nx_sR, kd_sR, ln_sR, gI_sR, gJ_sR, gR_sR, eI_sR, eJ_sR, eR_sR, kc_sR, ln_nO, eI_nO, eJ_nO, eR_nO, kc_nO, gI_nO, gI_nA, gJ_nO, gJ_nA, gR_nO, gR_nA, eI_nA, eJ_nA, eR_nA, kc_nA, nx_nO, nx_nA, kd_nO_at, kd_nA_at, ln_nA_at]
    have eg : gI (crd G x i 11) = gI h := by rw [s4, ← hG]; rfl
    have ek : kd (crd G x i 11) = kd h := by rw [s2, ← hG]; rfl
    have egr : ∀ f a, f ≠ 109 → gR (crd G x i 11) f a = gR h f a := fun f a hf => by rw [s6, ← hG]; simp [nx_pI, kd_pI, ln_pI, gI_pI, gJ_pI, gR_pI, eI_pI, eJ_pI, eR_pI, kc_pI, nx_pJ, kd_pJ, ln_pJ, gI_pJ, gJ_pJ, gR_pJ, eI_pJ, eJ_pJ, eR_pJ, kc_pJ, nx_pR, kd_pR, ln_pR, gI_pR, gJ_pR, gR_pR, eI_pR, eJ_pR, eR_pR, kc_pR, nx_sI, kd_sI, ln_sI, gI_sI, gJ_sI, gR_sI, eI_sI, eJ_sI, eR_sI, kc_sI, nx_sJ, kd_sJ, ln_sJ, gI_sJ, gJ_sJ, gR_sJ, eI_sJ, eJ_sJ, eR_sJ, kc_sJ, nx_sR, kd_sR, ln_sR, gI_sR, gJ_sR, gR_sR, eI_sR, eJ_sR, eR_sR, kc_sR, ln_nO, eI_nO, eJ_nO, eR_nO, kc_nO, gI_nO, gI_nA, gJ_nO, gJ_nA, gR_nO, gR_nA, eI_nA, eJ_nA, eR_nA, kc_nA, nx_nO, nx_nA, kd_nO_at, kd_nA_at, ln_nA_at, hf]
    have e109 : ∀ a, gR (crd G x i 11) 109 a = if a = el h (x + 2) i then b else gR h 109 a := fun a => by rw [s6, ← hG]; simp [nx_pI, kd_pI, ln_pI, gI_pI, gJ_pI, gR_pI, eI_pI, eJ_pI, eR_pI, kc_pI, nx_pJ, kd_pJ, ln_pJ, gI_pJ, gJ_pJ, gR_pJ, eI_pJ, eJ_pJ, eR_pJ, kc_pJ, nx_pR, kd_pR, ln_pR, gI_pR, gJ_pR, gR_pR, eI_pR, eJ_pR, eR_pR, kc_pR, nx_sI, kd_sI, ln_sI, gI_sI, gJ_sI, gR_sI, eI_sI, eJ_sI, eR_sI, kc_sI, nx_sJ, kd_sJ, ln_sJ, gI_sJ, gJ_sJ, gR_sJ, eI_sJ, eJ_sJ, eR_sJ, kc_sJ, nx_sR, kd_sR, ln_sR, gI_sR, gJ_sR, gR_sR, eI_sR, eJ_sR, eR_sR, kc_sR, ln_nO, eI_nO, eJ_nO, eR_nO, kc_nO, gI_nO, gI_nA, gJ_nO, gJ_nA, gR_nO, gR_nA, eI_nA, eJ_nA, eR_nA, kc_nA, nx_nO, nx_nA, kd_nO_at, kd_nA_at, ln_nA_at]
    rw [ee, e109]
    by_cases c : j = i
    · subst c
      rw [if_pos rfl]
      right
      obtain ⟨f0, f1, f2, f3, f4, f5, f6, f7, f8, f9, f10, f11, f12, f13⟩ := f
      obtain ⟨y1, y2, y3, y4, y5⟩ := (Kx j (by omega)).2.1 hb0
      have e0 : ∀ o v, (o ≠ 18) → eI G (x + 23 + o) j = v → eI (crd G x j 11) (x + 23 + o) j = v := fun o v ho hv => by rw [crd_eI, if_neg (by omega)]; exact hv
      have t0 : (gI h 1000 (x + 23)) ≠ -1 := fun z => by
        have := Ko.1.1
        rw [z, toI_m1] at this
        omega
      refine ⟨e0 6 _ (by decide) (by rw [← hG]; simp [nx_pI, kd_pI, ln_pI, gI_pI, gJ_pI, gR_pI, eI_pI, eJ_pI, eR_pI, kc_pI, nx_pJ, kd_pJ, ln_pJ, gI_pJ, gJ_pJ, gR_pJ, eI_pJ, eJ_pJ, eR_pJ, kc_pJ, nx_pR, kd_pR, ln_pR, gI_pR, gJ_pR, gR_pR, eI_pR, eJ_pR, eR_pR, kc_pR, nx_sI, kd_sI, ln_sI, gI_sI, gJ_sI, gR_sI, eI_sI, eJ_sI, eR_sI, kc_sI, nx_sJ, kd_sJ, ln_sJ, gI_sJ, gJ_sJ, gR_sJ, eI_sJ, eJ_sJ, eR_sJ, kc_sJ, nx_sR, kd_sR, ln_sR, gI_sR, gJ_sR, gR_sR, eI_sR, eJ_sR, eR_sR, kc_sR, ln_nO, eI_nO, eJ_nO, eR_nO, kc_nO, gI_nO, gI_nA, gJ_nO, gJ_nA, gR_nO, gR_nA, eI_nA, eJ_nA, eR_nA, kc_nA, nx_nO, nx_nA, kd_nO_at, kd_nA_at, ln_nA_at]), ⟨by rw [ek]; exact kb, by rw [egr _ _ (by decide)]; exact f0, by rw [egr _ _ (by decide)]; exact f1, ?_, ?_, ?_, ?_⟩, ⟨?_, ?_, ?_, ?_, ?_, ?_, ?_⟩, fun y hy => ?_⟩
      · rw [eg, f2]; exact (e0 9 _ (by decide) (by rw [← hG]; simp [nx_pI, kd_pI, ln_pI, gI_pI, gJ_pI, gR_pI, eI_pI, eJ_pI, eR_pI, kc_pI, nx_pJ, kd_pJ, ln_pJ, gI_pJ, gJ_pJ, gR_pJ, eI_pJ, eJ_pJ, eR_pJ, kc_pJ, nx_pR, kd_pR, ln_pR, gI_pR, gJ_pR, gR_pR, eI_pR, eJ_pR, eR_pR, kc_pR, nx_sI, kd_sI, ln_sI, gI_sI, gJ_sI, gR_sI, eI_sI, eJ_sI, eR_sI, kc_sI, nx_sJ, kd_sJ, ln_sJ, gI_sJ, gJ_sJ, gR_sJ, eI_sJ, eJ_sJ, eR_sJ, kc_sJ, nx_sR, kd_sR, ln_sR, gI_sR, gJ_sR, gR_sR, eI_sR, eJ_sR, eR_sR, kc_sR, ln_nO, eI_nO, eJ_nO, eR_nO, kc_nO, gI_nO, gI_nA, gJ_nO, gJ_nA, gR_nO, gR_nA, eI_nA, eJ_nA, eR_nA, kc_nA, nx_nO, nx_nA, kd_nO_at, kd_nA_at, ln_nA_at])).symm
      · rw [eg, f3]; exact (e0 10 _ (by decide) (by rw [← hG]; simp [nx_pI, kd_pI, ln_pI, gI_pI, gJ_pI, gR_pI, eI_pI, eJ_pI, eR_pI, kc_pI, nx_pJ, kd_pJ, ln_pJ, gI_pJ, gJ_pJ, gR_pJ, eI_pJ, eJ_pJ, eR_pJ, kc_pJ, nx_pR, kd_pR, ln_pR, gI_pR, gJ_pR, gR_pR, eI_pR, eJ_pR, eR_pR, kc_pR, nx_sI, kd_sI, ln_sI, gI_sI, gJ_sI, gR_sI, eI_sI, eJ_sI, eR_sI, kc_sI, nx_sJ, kd_sJ, ln_sJ, gI_sJ, gJ_sJ, gR_sJ, eI_sJ, eJ_sJ, eR_sJ, kc_sJ, nx_sR, kd_sR, ln_sR, gI_sR, gJ_sR, gR_sR, eI_sR, eJ_sR, eR_sR, kc_sR, ln_nO, eI_nO, eJ_nO, eR_nO, kc_nO, gI_nO, gI_nA, gJ_nO, gJ_nA, gR_nO, gR_nA, eI_nA, eJ_nA, eR_nA, kc_nA, nx_nO, nx_nA, kd_nO_at, kd_nA_at, ln_nA_at])).symm
      · rw [eg, f4]; exact (e0 11 _ (by decide) (by rw [← hG]; simp [nx_pI, kd_pI, ln_pI, gI_pI, gJ_pI, gR_pI, eI_pI, eJ_pI, eR_pI, kc_pI, nx_pJ, kd_pJ, ln_pJ, gI_pJ, gJ_pJ, gR_pJ, eI_pJ, eJ_pJ, eR_pJ, kc_pJ, nx_pR, kd_pR, ln_pR, gI_pR, gJ_pR, gR_pR, eI_pR, eJ_pR, eR_pR, kc_pR, nx_sI, kd_sI, ln_sI, gI_sI, gJ_sI, gR_sI, eI_sI, eJ_sI, eR_sI, kc_sI, nx_sJ, kd_sJ, ln_sJ, gI_sJ, gJ_sJ, gR_sJ, eI_sJ, eJ_sJ, eR_sJ, kc_sJ, nx_sR, kd_sR, ln_sR, gI_sR, gJ_sR, gR_sR, eI_sR, eJ_sR, eR_sR, kc_sR, ln_nO, eI_nO, eJ_nO, eR_nO, kc_nO, gI_nO, gI_nA, gJ_nO, gJ_nA, gR_nO, gR_nA, eI_nA, eJ_nA, eR_nA, kc_nA, nx_nO, nx_nA, kd_nO_at, kd_nA_at, ln_nA_at])).symm
      · rw [eg, f5]; exact (e0 7 _ (by decide) (by rw [← hG]; simp [nx_pI, kd_pI, ln_pI, gI_pI, gJ_pI, gR_pI, eI_pI, eJ_pI, eR_pI, kc_pI, nx_pJ, kd_pJ, ln_pJ, gI_pJ, gJ_pJ, gR_pJ, eI_pJ, eJ_pJ, eR_pJ, kc_pJ, nx_pR, kd_pR, ln_pR, gI_pR, gJ_pR, gR_pR, eI_pR, eJ_pR, eR_pR, kc_pR, nx_sI, kd_sI, ln_sI, gI_sI, gJ_sI, gR_sI, eI_sI, eJ_sI, eR_sI, kc_sI, nx_sJ, kd_sJ, ln_sJ, gI_sJ, gJ_sJ, gR_sJ, eI_sJ, eJ_sJ, eR_sJ, kc_sJ, nx_sR, kd_sR, ln_sR, gI_sR, gJ_sR, gR_sR, eI_sR, eJ_sR, eR_sR, kc_sR, ln_nO, eI_nO, eJ_nO, eR_nO, kc_nO, gI_nO, gI_nA, gJ_nO, gJ_nA, gR_nO, gR_nA, eI_nA, eJ_nA, eR_nA, kc_nA, nx_nO, nx_nA, kd_nO_at, kd_nA_at, ln_nA_at])).symm
      · rw [eg, f6]; exact (e0 12 _ (by decide) (by rw [← hG]; simp [nx_pI, kd_pI, ln_pI, gI_pI, gJ_pI, gR_pI, eI_pI, eJ_pI, eR_pI, kc_pI, nx_pJ, kd_pJ, ln_pJ, gI_pJ, gJ_pJ, gR_pJ, eI_pJ, eJ_pJ, eR_pJ, kc_pJ, nx_pR, kd_pR, ln_pR, gI_pR, gJ_pR, gR_pR, eI_pR, eJ_pR, eR_pR, kc_pR, nx_sI, kd_sI, ln_sI, gI_sI, gJ_sI, gR_sI, eI_sI, eJ_sI, eR_sI, kc_sI, nx_sJ, kd_sJ, ln_sJ, gI_sJ, gJ_sJ, gR_sJ, eI_sJ, eJ_sJ, eR_sJ, kc_sJ, nx_sR, kd_sR, ln_sR, gI_sR, gJ_sR, gR_sR, eI_sR, eJ_sR, eR_sR, kc_sR, ln_nO, eI_nO, eJ_nO, eR_nO, kc_nO, gI_nO, gI_nA, gJ_nO, gJ_nA, gR_nO, gR_nA, eI_nA, eJ_nA, eR_nA, kc_nA, nx_nO, nx_nA, kd_nO_at, kd_nA_at, ln_nA_at]; exact y1)).symm
      · rw [eg, f7]; exact (e0 13 _ (by decide) (by rw [← hG]; simp [nx_pI, kd_pI, ln_pI, gI_pI, gJ_pI, gR_pI, eI_pI, eJ_pI, eR_pI, kc_pI, nx_pJ, kd_pJ, ln_pJ, gI_pJ, gJ_pJ, gR_pJ, eI_pJ, eJ_pJ, eR_pJ, kc_pJ, nx_pR, kd_pR, ln_pR, gI_pR, gJ_pR, gR_pR, eI_pR, eJ_pR, eR_pR, kc_pR, nx_sI, kd_sI, ln_sI, gI_sI, gJ_sI, gR_sI, eI_sI, eJ_sI, eR_sI, kc_sI, nx_sJ, kd_sJ, ln_sJ, gI_sJ, gJ_sJ, gR_sJ, eI_sJ, eJ_sJ, eR_sJ, kc_sJ, nx_sR, kd_sR, ln_sR, gI_sR, gJ_sR, gR_sR, eI_sR, eJ_sR, eR_sR, kc_sR, ln_nO, eI_nO, eJ_nO, eR_nO, kc_nO, gI_nO, gI_nA, gJ_nO, gJ_nA, gR_nO, gR_nA, eI_nA, eJ_nA, eR_nA, kc_nA, nx_nO, nx_nA, kd_nO_at, kd_nA_at, ln_nA_at]; exact y2)).symm
      · rw [eg, f8]; exact (e0 14 _ (by decide) (by rw [← hG]; simp [nx_pI, kd_pI, ln_pI, gI_pI, gJ_pI, gR_pI, eI_pI, eJ_pI, eR_pI, kc_pI, nx_pJ, kd_pJ, ln_pJ, gI_pJ, gJ_pJ, gR_pJ, eI_pJ, eJ_pJ, eR_pJ, kc_pJ, nx_pR, kd_pR, ln_pR, gI_pR, gJ_pR, gR_pR, eI_pR, eJ_pR, eR_pR, kc_pR, nx_sI, kd_sI, ln_sI, gI_sI, gJ_sI, gR_sI, eI_sI, eJ_sI, eR_sI, kc_sI, nx_sJ, kd_sJ, ln_sJ, gI_sJ, gJ_sJ, gR_sJ, eI_sJ, eJ_sJ, eR_sJ, kc_sJ, nx_sR, kd_sR, ln_sR, gI_sR, gJ_sR, gR_sR, eI_sR, eJ_sR, eR_sR, kc_sR, ln_nO, eI_nO, eJ_nO, eR_nO, kc_nO, gI_nO, gI_nA, gJ_nO, gJ_nA, gR_nO, gR_nA, eI_nA, eJ_nA, eR_nA, kc_nA, nx_nO, nx_nA, kd_nO_at, kd_nA_at, ln_nA_at]; exact y3)).symm
      · rw [eg, f9]; exact (e0 15 _ (by decide) (by rw [← hG]; simp [nx_pI, kd_pI, ln_pI, gI_pI, gJ_pI, gR_pI, eI_pI, eJ_pI, eR_pI, kc_pI, nx_pJ, kd_pJ, ln_pJ, gI_pJ, gJ_pJ, gR_pJ, eI_pJ, eJ_pJ, eR_pJ, kc_pJ, nx_pR, kd_pR, ln_pR, gI_pR, gJ_pR, gR_pR, eI_pR, eJ_pR, eR_pR, kc_pR, nx_sI, kd_sI, ln_sI, gI_sI, gJ_sI, gR_sI, eI_sI, eJ_sI, eR_sI, kc_sI, nx_sJ, kd_sJ, ln_sJ, gI_sJ, gJ_sJ, gR_sJ, eI_sJ, eJ_sJ, eR_sJ, kc_sJ, nx_sR, kd_sR, ln_sR, gI_sR, gJ_sR, gR_sR, eI_sR, eJ_sR, eR_sR, kc_sR, ln_nO, eI_nO, eJ_nO, eR_nO, kc_nO, gI_nO, gI_nA, gJ_nO, gJ_nA, gR_nO, gR_nA, eI_nA, eJ_nA, eR_nA, kc_nA, nx_nO, nx_nA, kd_nO_at, kd_nA_at, ln_nA_at]; exact y4)).symm
      · rw [eg, f10]; exact (e0 16 _ (by decide) (by rw [← hG]; simp [nx_pI, kd_pI, ln_pI, gI_pI, gJ_pI, gR_pI, eI_pI, eJ_pI, eR_pI, kc_pI, nx_pJ, kd_pJ, ln_pJ, gI_pJ, gJ_pJ, gR_pJ, eI_pJ, eJ_pJ, eR_pJ, kc_pJ, nx_pR, kd_pR, ln_pR, gI_pR, gJ_pR, gR_pR, eI_pR, eJ_pR, eR_pR, kc_pR, nx_sI, kd_sI, ln_sI, gI_sI, gJ_sI, gR_sI, eI_sI, eJ_sI, eR_sI, kc_sI, nx_sJ, kd_sJ, ln_sJ, gI_sJ, gJ_sJ, gR_sJ, eI_sJ, eJ_sJ, eR_sJ, kc_sJ, nx_sR, kd_sR, ln_sR, gI_sR, gJ_sR, gR_sR, eI_sR, eJ_sR, eR_sR, kc_sR, ln_nO, eI_nO, eJ_nO, eR_nO, kc_nO, gI_nO, gI_nA, gJ_nO, gJ_nA, gR_nO, gR_nA, eI_nA, eJ_nA, eR_nA, kc_nA, nx_nO, nx_nA, kd_nO_at, kd_nA_at, ln_nA_at]; exact y5)).symm
      · rw [eg, f11]; exact (e0 17 _ (by decide) (by rw [← hG]; simp [nx_pI, kd_pI, ln_pI, gI_pI, gJ_pI, gR_pI, eI_pI, eJ_pI, eR_pI, kc_pI, nx_pJ, kd_pJ, ln_pJ, gI_pJ, gJ_pJ, gR_pJ, eI_pJ, eJ_pJ, eR_pJ, kc_pJ, nx_pR, kd_pR, ln_pR, gI_pR, gJ_pR, gR_pR, eI_pR, eJ_pR, eR_pR, kc_pR, nx_sI, kd_sI, ln_sI, gI_sI, gJ_sI, gR_sI, eI_sI, eJ_sI, eR_sI, kc_sI, nx_sJ, kd_sJ, ln_sJ, gI_sJ, gJ_sJ, gR_sJ, eI_sJ, eJ_sJ, eR_sJ, kc_sJ, nx_sR, kd_sR, ln_sR, gI_sR, gJ_sR, gR_sR, eI_sR, eJ_sR, eR_sR, kc_sR, ln_nO, eI_nO, eJ_nO, eR_nO, kc_nO, gI_nO, gI_nA, gJ_nO, gJ_nA, gR_nO, gR_nA, eI_nA, eJ_nA, eR_nA, kc_nA, nx_nO, nx_nA, kd_nO_at, kd_nA_at, ln_nA_at])).symm
      · rw [eg, f13]; exact (e0 8 _ (by decide) (by rw [← hG]; simp [nx_pI, kd_pI, ln_pI, gI_pI, gJ_pI, gR_pI, eI_pI, eJ_pI, eR_pI, kc_pI, nx_pJ, kd_pJ, ln_pJ, gI_pJ, gJ_pJ, gR_pJ, eI_pJ, eJ_pJ, eR_pJ, kc_pJ, nx_pR, kd_pR, ln_pR, gI_pR, gJ_pR, gR_pR, eI_pR, eJ_pR, eR_pR, kc_pR, nx_sI, kd_sI, ln_sI, gI_sI, gJ_sI, gR_sI, eI_sI, eJ_sI, eR_sI, kc_sI, nx_sJ, kd_sJ, ln_sJ, gI_sJ, gJ_sJ, gR_sJ, eI_sJ, eJ_sJ, eR_sJ, kc_sJ, nx_sR, kd_sR, ln_sR, gI_sR, gJ_sR, gR_sR, eI_sR, eJ_sR, eR_sR, kc_sR, ln_nO, eI_nO, eJ_nO, eR_nO, kc_nO, gI_nO, gI_nA, gJ_nO, gJ_nA, gR_nO, gR_nA, eI_nA, eJ_nA, eR_nA, kc_nA, nx_nO, nx_nA, kd_nO_at, kd_nA_at, ln_nA_at])).symm
      · rw [eg, f12, crd_eI, if_pos (by omega)]
        have z1 : ¬ (shr 0 (nI y) &&& 1 = 1) := fun z => by
          have := (shr_bit (by omega)).mp z
          rw [bt_zero] at this
          exact absurd this (by decide)
        exact ⟨fun z => absurd z z1, fun z => absurd z.symm t0⟩
    · rw [if_neg (fun z => c (inj j hj z))]
      have e0 : ∀ o, o ≠ 18 → eI (crd G x i 11) (x + 23 + o) j = eI h (x + 23 + o) j := fun o ho => by rw [crd_eI, if_neg (by omega), ← hG]; simp [nx_pI, kd_pI, ln_pI, gI_pI, gJ_pI, gR_pI, eI_pI, eJ_pI, eR_pI, kc_pI, nx_pJ, kd_pJ, ln_pJ, gI_pJ, gJ_pJ, gR_pJ, eI_pJ, eJ_pJ, eR_pJ, kc_pJ, nx_pR, kd_pR, ln_pR, gI_pR, gJ_pR, gR_pR, eI_pR, eJ_pR, eR_pR, kc_pR, nx_sI, kd_sI, ln_sI, gI_sI, gJ_sI, gR_sI, eI_sI, eJ_sI, eR_sI, kc_sI, nx_sJ, kd_sJ, ln_sJ, gI_sJ, gJ_sJ, gR_sJ, eI_sJ, eJ_sJ, eR_sJ, kc_sJ, nx_sR, kd_sR, ln_sR, gI_sR, gJ_sR, gR_sR, eI_sR, eJ_sR, eR_sR, kc_sR, ln_nO, eI_nO, eJ_nO, eR_nO, kc_nO, gI_nO, gI_nA, gJ_nO, gJ_nA, gR_nO, gR_nA, eI_nA, eJ_nA, eR_nA, kc_nA, nx_nO, nx_nA, kd_nO_at, kd_nA_at, ln_nA_at, c]
      have e18 : ∀ y, y < 11 → eI (crd G x i 11) (x + 23 + 18) (11 * j + y) = eI h (x + 23 + 18) (11 * j + y) := fun y hy => by rw [crd_eI, if_neg (by omega), ← hG]; simp [nx_pI, kd_pI, ln_pI, gI_pI, gJ_pI, gR_pI, eI_pI, eJ_pI, eR_pI, kc_pI, nx_pJ, kd_pJ, ln_pJ, gI_pJ, gJ_pJ, gR_pJ, eI_pJ, eJ_pJ, eR_pJ, kc_pJ, nx_pR, kd_pR, ln_pR, gI_pR, gJ_pR, gR_pR, eI_pR, eJ_pR, eR_pR, kc_pR, nx_sI, kd_sI, ln_sI, gI_sI, gJ_sI, gR_sI, eI_sI, eJ_sI, eR_sI, kc_sI, nx_sJ, kd_sJ, ln_sJ, gI_sJ, gJ_sJ, gR_sJ, eI_sJ, eJ_sJ, eR_sJ, kc_sJ, nx_sR, kd_sR, ln_sR, gI_sR, gJ_sR, gR_sR, eI_sR, eJ_sR, eR_sR, kc_sR, ln_nO, eI_nO, eJ_nO, eR_nO, kc_nO, gI_nO, gI_nA, gJ_nO, gJ_nA, gR_nO, gR_nA, eI_nA, eJ_nA, eR_nA, kc_nA, nx_nO, nx_nA, kd_nO_at, kd_nA_at, ln_nA_at]
      rcases Kb j hj with ⟨e1, e2⟩ | ⟨e1, e2, e3, e4⟩
      · left; exact ⟨by rw [e0 6 (by decide)]; exact e1, e2⟩
      · right
        refine ⟨by rw [e0 6 (by decide)]; exact e1, ?_, ?_, fun y hy => ?_⟩
        · unfold CPb1 at e2 ⊢
          rw [ek, eg, egr _ _ (by decide), egr _ _ (by decide), e0 9 (by decide), e0 10 (by decide), e0 11 (by decide), e0 7 (by decide)]
          exact e2
        · unfold CPb2 at e3 ⊢
          rw [eg, e0 12 (by decide), e0 13 (by decide), e0 14 (by decide), e0 15 (by decide), e0 16 (by decide), e0 17 (by decide), e0 8 (by decide)]
          exact e3
        · rw [eg, e18 y hy]
          exact e4 y hy
  · intro j hj
    have eg : gI (crd G x i 11) = gI h := by rw [s4, ← hG]; rfl
    have eC : nC (crd G x i 11) x = nC h x := by unfold nC; rw [eg]
    obtain ⟨x1, x2, x3, x4⟩ := Kx j hj
    by_cases c : j = i
    · subst c
      obtain ⟨q1, q2, q3, q4, q5, q6, q7, q8, q9, q10, q11, q12⟩ := x1
      have e0 : ∀ o v, (o ≠ 18) → eI G (x + 23 + o) j = v → eI (crd G x j 11) (x + 23 + o) j = v := fun o v ho hv => by rw [crd_eI, if_neg (by omega)]; exact hv
      have h6 := e0 6 1 (by decide) (by rw [← hG]; simp [nx_pI, kd_pI, ln_pI, gI_pI, gJ_pI, gR_pI, eI_pI, eJ_pI, eR_pI, kc_pI, nx_pJ, kd_pJ, ln_pJ, gI_pJ, gJ_pJ, gR_pJ, eI_pJ, eJ_pJ, eR_pJ, kc_pJ, nx_pR, kd_pR, ln_pR, gI_pR, gJ_pR, gR_pR, eI_pR, eJ_pR, eR_pR, kc_pR, nx_sI, kd_sI, ln_sI, gI_sI, gJ_sI, gR_sI, eI_sI, eJ_sI, eR_sI, kc_sI, nx_sJ, kd_sJ, ln_sJ, gI_sJ, gJ_sJ, gR_sJ, eI_sJ, eJ_sJ, eR_sJ, kc_sJ, nx_sR, kd_sR, ln_sR, gI_sR, gJ_sR, gR_sR, eI_sR, eJ_sR, eR_sR, kc_sR, ln_nO, eI_nO, eJ_nO, eR_nO, kc_nO, gI_nO, gI_nA, gJ_nO, gJ_nA, gR_nO, gR_nA, eI_nA, eJ_nA, eR_nA, kc_nA, nx_nO, nx_nA, kd_nO_at, kd_nA_at, ln_nA_at])
      refine ⟨⟨?_, ?_, ?_, ?_, ?_, ?_, ?_, ?_, ?_, ?_, ?_, fun y hy => ?_⟩, fun z => absurd (h6.symm.trans z) (by decide), by rw [h6]; exact ⟨by decide, by decide⟩, fun z => absurd z (by rw [eC]; omega)⟩
      · rw [e0 9 l (by decide) (by rw [← hG]; simp [nx_pI, kd_pI, ln_pI, gI_pI, gJ_pI, gR_pI, eI_pI, eJ_pI, eR_pI, kc_pI, nx_pJ, kd_pJ, ln_pJ, gI_pJ, gJ_pJ, gR_pJ, eI_pJ, eJ_pJ, eR_pJ, kc_pJ, nx_pR, kd_pR, ln_pR, gI_pR, gJ_pR, gR_pR, eI_pR, eJ_pR, eR_pR, kc_pR, nx_sI, kd_sI, ln_sI, gI_sI, gJ_sI, gR_sI, eI_sI, eJ_sI, eR_sI, kc_sI, nx_sJ, kd_sJ, ln_sJ, gI_sJ, gJ_sJ, gR_sJ, eI_sJ, eJ_sJ, eR_sJ, kc_sJ, nx_sR, kd_sR, ln_sR, gI_sR, gJ_sR, gR_sR, eI_sR, eJ_sR, eR_sR, kc_sR, ln_nO, eI_nO, eJ_nO, eR_nO, kc_nO, gI_nO, gI_nA, gJ_nO, gJ_nA, gR_nO, gR_nA, eI_nA, eJ_nA, eR_nA, kc_nA, nx_nO, nx_nA, kd_nO_at, kd_nA_at, ln_nA_at])]; exact bl
      · rw [e0 10 w (by decide) (by rw [← hG]; simp [nx_pI, kd_pI, ln_pI, gI_pI, gJ_pI, gR_pI, eI_pI, eJ_pI, eR_pI, kc_pI, nx_pJ, kd_pJ, ln_pJ, gI_pJ, gJ_pJ, gR_pJ, eI_pJ, eJ_pJ, eR_pJ, kc_pJ, nx_pR, kd_pR, ln_pR, gI_pR, gJ_pR, gR_pR, eI_pR, eJ_pR, eR_pR, kc_pR, nx_sI, kd_sI, ln_sI, gI_sI, gJ_sI, gR_sI, eI_sI, eJ_sI, eR_sI, kc_sI, nx_sJ, kd_sJ, ln_sJ, gI_sJ, gJ_sJ, gR_sJ, eI_sJ, eJ_sJ, eR_sJ, kc_sJ, nx_sR, kd_sR, ln_sR, gI_sR, gJ_sR, gR_sR, eI_sR, eJ_sR, eR_sR, kc_sR, ln_nO, eI_nO, eJ_nO, eR_nO, kc_nO, gI_nO, gI_nA, gJ_nO, gJ_nA, gR_nO, gR_nA, eI_nA, eJ_nA, eR_nA, kc_nA, nx_nO, nx_nA, kd_nO_at, kd_nA_at, ln_nA_at])]; exact ⟨by have := bw.1; omega, bw.2⟩
      · rw [e0 11 (gI h 1000 (x + 23)) (by decide) (by rw [← hG]; simp [nx_pI, kd_pI, ln_pI, gI_pI, gJ_pI, gR_pI, eI_pI, eJ_pI, eR_pI, kc_pI, nx_pJ, kd_pJ, ln_pJ, gI_pJ, gJ_pJ, gR_pJ, eI_pJ, eJ_pJ, eR_pJ, kc_pJ, nx_pR, kd_pR, ln_pR, gI_pR, gJ_pR, gR_pR, eI_pR, eJ_pR, eR_pR, kc_pR, nx_sI, kd_sI, ln_sI, gI_sI, gJ_sI, gR_sI, eI_sI, eJ_sI, eR_sI, kc_sI, nx_sJ, kd_sJ, ln_sJ, gI_sJ, gJ_sJ, gR_sJ, eI_sJ, eJ_sJ, eR_sJ, kc_sJ, nx_sR, kd_sR, ln_sR, gI_sR, gJ_sR, gR_sR, eI_sR, eJ_sR, eR_sR, kc_sR, ln_nO, eI_nO, eJ_nO, eR_nO, kc_nO, gI_nO, gI_nA, gJ_nO, gJ_nA, gR_nO, gR_nA, eI_nA, eJ_nA, eR_nA, kc_nA, nx_nO, nx_nA, kd_nO_at, kd_nA_at, ln_nA_at])]; exact Ko.1
      · rw [e0 7 t (by decide) (by rw [← hG]; simp [nx_pI, kd_pI, ln_pI, gI_pI, gJ_pI, gR_pI, eI_pI, eJ_pI, eR_pI, kc_pI, nx_pJ, kd_pJ, ln_pJ, gI_pJ, gJ_pJ, gR_pJ, eI_pJ, eJ_pJ, eR_pJ, kc_pJ, nx_pR, kd_pR, ln_pR, gI_pR, gJ_pR, gR_pR, eI_pR, eJ_pR, eR_pR, kc_pR, nx_sI, kd_sI, ln_sI, gI_sI, gJ_sI, gR_sI, eI_sI, eJ_sI, eR_sI, kc_sI, nx_sJ, kd_sJ, ln_sJ, gI_sJ, gJ_sJ, gR_sJ, eI_sJ, eJ_sJ, eR_sJ, kc_sJ, nx_sR, kd_sR, ln_sR, gI_sR, gJ_sR, gR_sR, eI_sR, eJ_sR, eR_sR, kc_sR, ln_nO, eI_nO, eJ_nO, eR_nO, kc_nO, gI_nO, gI_nA, gJ_nO, gJ_nA, gR_nO, gR_nA, eI_nA, eJ_nA, eR_nA, kc_nA, nx_nO, nx_nA, kd_nO_at, kd_nA_at, ln_nA_at])]; exact bt0
      · rw [e0 8 1 (by decide) (by rw [← hG]; simp [nx_pI, kd_pI, ln_pI, gI_pI, gJ_pI, gR_pI, eI_pI, eJ_pI, eR_pI, kc_pI, nx_pJ, kd_pJ, ln_pJ, gI_pJ, gJ_pJ, gR_pJ, eI_pJ, eJ_pJ, eR_pJ, kc_pJ, nx_pR, kd_pR, ln_pR, gI_pR, gJ_pR, gR_pR, eI_pR, eJ_pR, eR_pR, kc_pR, nx_sI, kd_sI, ln_sI, gI_sI, gJ_sI, gR_sI, eI_sI, eJ_sI, eR_sI, kc_sI, nx_sJ, kd_sJ, ln_sJ, gI_sJ, gJ_sJ, gR_sJ, eI_sJ, eJ_sJ, eR_sJ, kc_sJ, nx_sR, kd_sR, ln_sR, gI_sR, gJ_sR, gR_sR, eI_sR, eJ_sR, eR_sR, kc_sR, ln_nO, eI_nO, eJ_nO, eR_nO, kc_nO, gI_nO, gI_nA, gJ_nO, gJ_nA, gR_nO, gR_nA, eI_nA, eJ_nA, eR_nA, kc_nA, nx_nO, nx_nA, kd_nO_at, kd_nA_at, ln_nA_at])]; exact ⟨by decide, by decide⟩
      · rw [e0 12 _ (by decide) rfl, ← hG]; simp [nx_pI, kd_pI, ln_pI, gI_pI, gJ_pI, gR_pI, eI_pI, eJ_pI, eR_pI, kc_pI, nx_pJ, kd_pJ, ln_pJ, gI_pJ, gJ_pJ, gR_pJ, eI_pJ, eJ_pJ, eR_pJ, kc_pJ, nx_pR, kd_pR, ln_pR, gI_pR, gJ_pR, gR_pR, eI_pR, eJ_pR, eR_pR, kc_pR, nx_sI, kd_sI, ln_sI, gI_sI, gJ_sI, gR_sI, eI_sI, eJ_sI, eR_sI, kc_sI, nx_sJ, kd_sJ, ln_sJ, gI_sJ, gJ_sJ, gR_sJ, eI_sJ, eJ_sJ, eR_sJ, kc_sJ, nx_sR, kd_sR, ln_sR, gI_sR, gJ_sR, gR_sR, eI_sR, eJ_sR, eR_sR, kc_sR, ln_nO, eI_nO, eJ_nO, eR_nO, kc_nO, gI_nO, gI_nA, gJ_nO, gJ_nA, gR_nO, gR_nA, eI_nA, eJ_nA, eR_nA, kc_nA, nx_nO, nx_nA, kd_nO_at, kd_nA_at, ln_nA_at]; exact q6
      · rw [e0 13 _ (by decide) rfl, ← hG]; simp [nx_pI, kd_pI, ln_pI, gI_pI, gJ_pI, gR_pI, eI_pI, eJ_pI, eR_pI, kc_pI, nx_pJ, kd_pJ, ln_pJ, gI_pJ, gJ_pJ, gR_pJ, eI_pJ, eJ_pJ, eR_pJ, kc_pJ, nx_pR, kd_pR, ln_pR, gI_pR, gJ_pR, gR_pR, eI_pR, eJ_pR, eR_pR, kc_pR, nx_sI, kd_sI, ln_sI, gI_sI, gJ_sI, gR_sI, eI_sI, eJ_sI, eR_sI, kc_sI, nx_sJ, kd_sJ, ln_sJ, gI_sJ, gJ_sJ, gR_sJ, eI_sJ, eJ_sJ, eR_sJ, kc_sJ, nx_sR, kd_sR, ln_sR, gI_sR, gJ_sR, gR_sR, eI_sR, eJ_sR, eR_sR, kc_sR, ln_nO, eI_nO, eJ_nO, eR_nO, kc_nO, gI_nO, gI_nA, gJ_nO, gJ_nA, gR_nO, gR_nA, eI_nA, eJ_nA, eR_nA, kc_nA, nx_nO, nx_nA, kd_nO_at, kd_nA_at, ln_nA_at]; exact q7
      · rw [e0 14 _ (by decide) rfl, ← hG]; simp [nx_pI, kd_pI, ln_pI, gI_pI, gJ_pI, gR_pI, eI_pI, eJ_pI, eR_pI, kc_pI, nx_pJ, kd_pJ, ln_pJ, gI_pJ, gJ_pJ, gR_pJ, eI_pJ, eJ_pJ, eR_pJ, kc_pJ, nx_pR, kd_pR, ln_pR, gI_pR, gJ_pR, gR_pR, eI_pR, eJ_pR, eR_pR, kc_pR, nx_sI, kd_sI, ln_sI, gI_sI, gJ_sI, gR_sI, eI_sI, eJ_sI, eR_sI, kc_sI, nx_sJ, kd_sJ, ln_sJ, gI_sJ, gJ_sJ, gR_sJ, eI_sJ, eJ_sJ, eR_sJ, kc_sJ, nx_sR, kd_sR, ln_sR, gI_sR, gJ_sR, gR_sR, eI_sR, eJ_sR, eR_sR, kc_sR, ln_nO, eI_nO, eJ_nO, eR_nO, kc_nO, gI_nO, gI_nA, gJ_nO, gJ_nA, gR_nO, gR_nA, eI_nA, eJ_nA, eR_nA, kc_nA, nx_nO, nx_nA, kd_nO_at, kd_nA_at, ln_nA_at]; exact q8
      · rw [e0 15 _ (by decide) rfl, ← hG]; simp [nx_pI, kd_pI, ln_pI, gI_pI, gJ_pI, gR_pI, eI_pI, eJ_pI, eR_pI, kc_pI, nx_pJ, kd_pJ, ln_pJ, gI_pJ, gJ_pJ, gR_pJ, eI_pJ, eJ_pJ, eR_pJ, kc_pJ, nx_pR, kd_pR, ln_pR, gI_pR, gJ_pR, gR_pR, eI_pR, eJ_pR, eR_pR, kc_pR, nx_sI, kd_sI, ln_sI, gI_sI, gJ_sI, gR_sI, eI_sI, eJ_sI, eR_sI, kc_sI, nx_sJ, kd_sJ, ln_sJ, gI_sJ, gJ_sJ, gR_sJ, eI_sJ, eJ_sJ, eR_sJ, kc_sJ, nx_sR, kd_sR, ln_sR, gI_sR, gJ_sR, gR_sR, eI_sR, eJ_sR, eR_sR, kc_sR, ln_nO, eI_nO, eJ_nO, eR_nO, kc_nO, gI_nO, gI_nA, gJ_nO, gJ_nA, gR_nO, gR_nA, eI_nA, eJ_nA, eR_nA, kc_nA, nx_nO, nx_nA, kd_nO_at, kd_nA_at, ln_nA_at]; exact q9
      · rw [e0 16 _ (by decide) rfl, ← hG]; simp [nx_pI, kd_pI, ln_pI, gI_pI, gJ_pI, gR_pI, eI_pI, eJ_pI, eR_pI, kc_pI, nx_pJ, kd_pJ, ln_pJ, gI_pJ, gJ_pJ, gR_pJ, eI_pJ, eJ_pJ, eR_pJ, kc_pJ, nx_pR, kd_pR, ln_pR, gI_pR, gJ_pR, gR_pR, eI_pR, eJ_pR, eR_pR, kc_pR, nx_sI, kd_sI, ln_sI, gI_sI, gJ_sI, gR_sI, eI_sI, eJ_sI, eR_sI, kc_sI, nx_sJ, kd_sJ, ln_sJ, gI_sJ, gJ_sJ, gR_sJ, eI_sJ, eJ_sJ, eR_sJ, kc_sJ, nx_sR, kd_sR, ln_sR, gI_sR, gJ_sR, gR_sR, eI_sR, eJ_sR, eR_sR, kc_sR, ln_nO, eI_nO, eJ_nO, eR_nO, kc_nO, gI_nO, gI_nA, gJ_nO, gJ_nA, gR_nO, gR_nA, eI_nA, eJ_nA, eR_nA, kc_nA, nx_nO, nx_nA, kd_nO_at, kd_nA_at, ln_nA_at]; exact q10
      · rw [e0 17 (-1) (by decide) (by rw [← hG]; simp [nx_pI, kd_pI, ln_pI, gI_pI, gJ_pI, gR_pI, eI_pI, eJ_pI, eR_pI, kc_pI, nx_pJ, kd_pJ, ln_pJ, gI_pJ, gJ_pJ, gR_pJ, eI_pJ, eJ_pJ, eR_pJ, kc_pJ, nx_pR, kd_pR, ln_pR, gI_pR, gJ_pR, gR_pR, eI_pR, eJ_pR, eR_pR, kc_pR, nx_sI, kd_sI, ln_sI, gI_sI, gJ_sI, gR_sI, eI_sI, eJ_sI, eR_sI, kc_sI, nx_sJ, kd_sJ, ln_sJ, gI_sJ, gJ_sJ, gR_sJ, eI_sJ, eJ_sJ, eR_sJ, kc_sJ, nx_sR, kd_sR, ln_sR, gI_sR, gJ_sR, gR_sR, eI_sR, eJ_sR, eR_sR, kc_sR, ln_nO, eI_nO, eJ_nO, eR_nO, kc_nO, gI_nO, gI_nA, gJ_nO, gJ_nA, gR_nO, gR_nA, eI_nA, eJ_nA, eR_nA, kc_nA, nx_nO, nx_nA, kd_nO_at, kd_nA_at, ln_nA_at])]; exact ⟨by decide, by decide⟩
      · rw [eg, crd_eI, if_pos (by omega), toI_m1]
        have := Ko.1.1
        omega
    · have e0 : ∀ o, o ≠ 18 → eI (crd G x i 11) (x + 23 + o) j = eI h (x + 23 + o) j := fun o ho => by rw [crd_eI, if_neg (by omega), ← hG]; simp [nx_pI, kd_pI, ln_pI, gI_pI, gJ_pI, gR_pI, eI_pI, eJ_pI, eR_pI, kc_pI, nx_pJ, kd_pJ, ln_pJ, gI_pJ, gJ_pJ, gR_pJ, eI_pJ, eJ_pJ, eR_pJ, kc_pJ, nx_pR, kd_pR, ln_pR, gI_pR, gJ_pR, gR_pR, eI_pR, eJ_pR, eR_pR, kc_pR, nx_sI, kd_sI, ln_sI, gI_sI, gJ_sI, gR_sI, eI_sI, eJ_sI, eR_sI, kc_sI, nx_sJ, kd_sJ, ln_sJ, gI_sJ, gJ_sJ, gR_sJ, eI_sJ, eJ_sJ, eR_sJ, kc_sJ, nx_sR, kd_sR, ln_sR, gI_sR, gJ_sR, gR_sR, eI_sR, eJ_sR, eR_sR, kc_sR, ln_nO, eI_nO, eJ_nO, eR_nO, kc_nO, gI_nO, gI_nA, gJ_nO, gJ_nA, gR_nO, gR_nA, eI_nA, eJ_nA, eR_nA, kc_nA, nx_nO, nx_nA, kd_nO_at, kd_nA_at, ln_nA_at, c]
      have e18 : ∀ y, y < 11 → eI (crd G x i 11) (x + 23 + 18) (11 * j + y) = eI h (x + 23 + 18) (11 * j + y) := fun y hy => by rw [crd_eI, if_neg (by omega), ← hG]; simp [nx_pI, kd_pI, ln_pI, gI_pI, gJ_pI, gR_pI, eI_pI, eJ_pI, eR_pI, kc_pI, nx_pJ, kd_pJ, ln_pJ, gI_pJ, gJ_pJ, gR_pJ, eI_pJ, eJ_pJ, eR_pJ, kc_pJ, nx_pR, kd_pR, ln_pR, gI_pR, gJ_pR, gR_pR, eI_pR, eJ_pR, eR_pR, kc_pR, nx_sI, kd_sI, ln_sI, gI_sI, gJ_sI, gR_sI, eI_sI, eJ_sI, eR_sI, kc_sI, nx_sJ, kd_sJ, ln_sJ, gI_sJ, gJ_sJ, gR_sJ, eI_sJ, eJ_sJ, eR_sJ, kc_sJ, nx_sR, kd_sR, ln_sR, gI_sR, gJ_sR, gR_sR, eI_sR, eJ_sR, eR_sR, kc_sR, ln_nO, eI_nO, eJ_nO, eR_nO, kc_nO, gI_nO, gI_nA, gJ_nO, gJ_nA, gR_nO, gR_nA, eI_nA, eJ_nA, eR_nA, kc_nA, nx_nO, nx_nA, kd_nO_at, kd_nA_at, ln_nA_at]
      obtain ⟨q1, q2, q3, q4, q5, q6, q7, q8, q9, q10, q11, q12⟩ := x1
      unfold CPw1 CPw0
      rw [e0 9 (by decide), e0 10 (by decide), e0 11 (by decide), e0 7 (by decide), e0 8 (by decide), e0 12 (by decide), e0 13 (by decide), e0 14 (by decide), e0 15 (by decide), e0 16 (by decide), e0 17 (by decide), e0 6 (by decide), eg, eC]
      exact ⟨⟨q1, q2, q3, q4, q5, q6, q7, q8, q9, q10, q11, fun y hy => by rw [e18 y hy]; exact q12 y hy⟩, x2, x3, x4⟩
  · refine hexp (fun F => CPr F x) ?_; rw [← hG]; with_reducible (repeat (first | assumption | refine CPr_pI (by decide) ?_ | refine CPr_pJ ?_ | refine CPr_pR (by decide) ?_ | refine CPr_sJ ?_ | refine CPr_sM (by decide) ?_ | refine CPr_sX (by decide) ?_))
  · refine hexp (fun F => CPq F x) ?_; rw [← hG]; with_reducible (repeat (first | assumption | refine CPq_pI (by decide) ?_ | refine CPq_pJ ?_ | refine CPq_pR (by decide) ?_ | refine CPq_sJ ?_ | refine CPq_sM (by decide) ?_ | refine CPq_sX (by decide) ?_))
  · refine hexp (fun F => CPs F x) ?_; rw [← hG]; with_reducible (repeat (first | assumption | refine CPs_pI (by decide) ?_ | refine CPs_pJ (by decide) ?_ | refine CPs_pR (by decide) ?_ | refine CPs_sJ (by decide) ?_ | refine CPs_sM (by decide) ?_ | refine CPs_sX (by decide) ?_))
  · refine hexp (fun F => CPp F x) ?_; rw [← hG]; with_reducible (repeat (first | assumption | refine CPp_pI (by decide) ?_ | refine CPp_pJ ?_ | refine CPp_pR (by decide) ?_ | refine CPp_sJ ?_ | refine CPp_sM (by decide) ?_ | refine CPp_sX (by decide) ?_))
  · refine hexp (fun F => CPa F x) ?_; rw [← hG]; with_reducible (repeat (first | assumption | refine CPa_pI (by decide) ?_ | refine CPa_pJ ?_ | refine CPa_pR ?_ | refine CPa_sJ (by decide) ?_ | refine CPa_sM (by decide) ?_ | refine CPa_sX (by decide) ?_))
  · refine hexp (fun F => CPu F x) ?_; rw [← hG]; with_reducible (repeat (first | assumption | refine CPu_pI (by decide) ?_ | refine CPu_pJ ?_ | refine CPu_pR (by decide) ?_ | refine CPu_sJ ?_ | refine CPu_sM (by decide) (by decide) ?_ | refine CPu_sX (by decide) (by decide) (by decide) ?_))
theorem pk_one (H : CP h x) {i : Nat} (hi : i < nC h x) (hb : eI h (x + 23 + 6) i = 0) : prks h (x + 23) (shl 1 (nI i)) = prkx h x + eI h (x + 23 + 3) i := by
  have hn := H.nC_le.2
  have hp : (2 : Nat) ^ i < 2 ^ nC h x := Nat.pow_lt_pow_right (by decide) hi
  have h12 := pow12 hn
  rw [shl_nI (by omega), ← pk_sum H hp (fun y hy ht => by
    rw [Nat.testBit_two_pow] at ht
    have : i = y := by simpa using ht
    rw [← this]; exact hb)]
  congr 1
  unfold pkof
  have := itr_inv (f := pkG h x (nI (2 ^ i))) (P := fun j v => v = if i < j then eI h (x + 23 + 3) i else 0) (t := nC h x) (i := 0) (v := 0) (fun j v _ hj hv => ?_) rfl
  · rw [Nat.zero_add, if_pos hi] at this; exact this
  · have e : (shr (nI (2 ^ i)) (nI j) &&& 1 = 1) ↔ i = j := by rw [shr_bit (by omega), bt_nI (by omega) (by omega), Nat.testBit_two_pow]; simp
    rw [parkG_def, hv]
    by_cases c : i = j
    · subst c
      rw [if_pos (e.mpr rfl), if_neg (by omega), if_pos (by omega), Int32.zero_add]
    · rw [if_neg (fun z => c (e.mp z)), Int32.add_zero]
      by_cases d : i < j
      · rw [if_pos d, if_pos (by omega)]
      · rw [if_neg d, if_neg (by omega)]
def hBedA (h : Hp) (x c : Nat) (l w t d : Int32) : Hp := pI (pI (pI (pI (pR (pI (pI (pR (nO h 3) 313 (nx h) x) 310 (nx h) (-1)) 312 (nx h) 1) 300 (nx h) c) 301 (nx h) l) 302 (nx h) w) 304 (nx h) t) 303 (nx h) d
theorem bedA_ag (wf : wfH h) {c : Nat} {l w t d : Int32} : Ag h (hBedA h x c l w t d) x := by
  have z1 : kd h (nx h) = 0 := wf.2 _ (Nat.le_refl _)
  exact (((((((((Ag.refl h x).wnO wf).wpR z1).wpI z1).wpI z1).wpR z1).wpI z1).wpI z1).wpI z1).wpI z1
theorem bedA_kd {c : Nat} {l w t d : Int32} (y : Nat) : kd (hBedA h x c l w t d) y = if y = nx h then 4 else kd h y := by
  unfold hBedA
  simp only [kd_pI, kd_pR, kd_nO_at]
theorem pr_bed (H : CP h x) {a b c d : Int32} (hd : d = 0 ∨ d = 1) (hk : 1 ≤ k) (hn : 14 ≤ n) (hR : ∀ h', CP h' x → R h') : CtI M_X0_bed [rV x, iV a, iV b, iV c, iV d] h k n (fun r h1 => CtI M_X3_bed [rV (x + 23), iV a, iV b, iV c, iV d] h1 0 0 (fun r2 h2 => r = r2 ∧ R h2) E) E := by
  refine r_wfH fun wf => ?_
  have g := hR _ H
  have hC0 := H.nC_le
  have h75 := H.pw.2.2.2.1
  obtain ⟨pa, ⟨z1, z2⟩ | ⟨i, hi, rfl, z0, z1, z2, z3, z4, z5⟩⟩ := H.cor wf a
  · refine b_X0_bed_0 H.xw ⟨pa, ?_⟩
    rintro _ rfl
    exact ⟨fun _ => b_X3_bed_0 H.mw ⟨fun _ => ⟨rfl, g⟩, fun y => absurd (z1.symm.trans y) (by decide)⟩, fun y => absurd z2 y⟩
  have z1f : ¬ isin (nI i) 0 (gI h 1001 (x + 23) - 1) = false := by rw [z1]; decide
  obtain ⟨bz, -⟩ := H.bedI wf hi
  have kc0 : kd h (el h (x + 2) i) = 2 := (H.pc i hi).1.1
  obtain ⟨o1, o2, o3, o4⟩ := H.on (gI h 0 x)
  have et := H.pn.1
  -- the reference says no
  have no : (¬ (eI h (x + 23 + 6) i = 0 ∧ isin b 0 9 = true ∧ isin c 1 500 = true ∧ prkx h x + eI h (x + 23 + 3) i ≤ lawn h (x + 23) (gI h 1000 (x + 23)) 4)) → CtI M_X3_bed [rV (x + 23), iV (nI i), iV b, iV c, iV d] h 0 0 (fun r2 h2 => 0 = r2 ∧ R h2) E := by
    intro nn
    refine b_X3_bed_0 H.mw ⟨fun _ => ⟨rfl, g⟩, fun _ => ⟨z3, ?_⟩⟩
    rw [z0]
    refine ⟨fun _ => ⟨rfl, g⟩, fun y1 => ⟨fun _ => ⟨rfl, g⟩, fun y2 => ⟨fun _ => ⟨rfl, g⟩, fun y3 => ⟨H.cnp, H.lwp, ?_⟩⟩⟩⟩
    rw [pk_one H hi y1]
    exact ⟨fun y4 => absurd ⟨y1, y2, y3, y4⟩ nn, fun _ => ⟨rfl, g⟩⟩
  refine b_X0_bed_0 H.xw ⟨pa, ?_⟩
  rw [z2]
  rintro _ rfl
  refine ⟨fun y => absurd y z4, fun _ => ⟨fun y => no (fun z => by rw [z.2.1] at y; exact absurd y (by decide)), fun c2 => ⟨fun y => no (fun z => by rw [z.2.2.1] at y; exact absurd y (by decide)), fun c3 => ⟨kc0, fun y => no (fun z => y (bz.mpr z.1)), fun y1 => ⟨H, ?_⟩⟩⟩⟩⟩
  rw [et] at o1 o2 ⊢
  rw [(H.pc i hi).1.2.2.2.2.1, o2.2.2.2.2.2.1]
  refine ⟨o1, o2.1, fun y4 => ⟨⟨hk, hn⟩, ?_⟩, fun y4 => no (fun z => y4 z.2.2.2)⟩
  have hb0 := bz.mp y1
  have hnx : x + 82 ≤ nx h := H.xw.2.2.1
  rintro _ rfl _ rfl
  have kn : kd (nO h 3) (nx h) = 4 := kd_nO _ _
  refine b_X6_init_0 ⟨kn, ?_⟩
  rintro _ rfl _ rfl _ rfl _ rfl _ rfl _ rfl
  refine ⟨hd, ?_⟩
  rintro _ rfl
  have kx : kd h x = 1 := xw_k H.xw
  have t1 : gI (pI (pI (pI (pR (pI (pI (pR (nO h 3) 313 (nx h) x) 310 (nx h) (-1)) 312 (nx h) 1) 300 (nx h) (el h (x + 2) i)) 301 (nx h) b) 302 (nx h) c) 304 (nx h) d) 0 x = gI h 1000 (x + 23) := by
    rw [← et]
    have hne : x ≠ nx h := by omega
    simp [nx_pI, kd_pI, ln_pI, gI_pI, gJ_pI, gR_pI, eI_pI, eJ_pI, eR_pI, kc_pI, nx_pJ, kd_pJ, ln_pJ, gI_pJ, gJ_pJ, gR_pJ, eI_pJ, eJ_pJ, eR_pJ, kc_pJ, nx_pR, kd_pR, ln_pR, gI_pR, gJ_pR, gR_pR, eI_pR, eJ_pR, eR_pR, kc_pR, nx_sI, kd_sI, ln_sI, gI_sI, gJ_sI, gR_sI, eI_sI, eJ_sI, eR_sI, kc_sI, nx_sJ, kd_sJ, ln_sJ, gI_sJ, gJ_sJ, gR_sJ, eI_sJ, eJ_sJ, eR_sJ, kc_sJ, nx_sR, kd_sR, ln_sR, gI_sR, gJ_sR, gR_sR, eI_sR, eJ_sR, eR_sR, kc_sR, ln_nO, eI_nO, eJ_nO, eR_nO, kc_nO, gI_nO, gI_nA, gJ_nO, gJ_nA, gR_nO, gR_nA, eI_nA, eJ_nA, eR_nA, kc_nA, nx_nO, nx_nA, kd_nO_at, kd_nA_at, ln_nA_at, hne]
  refine ⟨by rw [kd_pI, kd_pI, kd_pI, kd_pR, kd_pI, kd_pI, kd_pR, kd_nO_at, if_neg (by omega)]; exact kx, ?_⟩
  rw [t1]
  rintro _ rfl
  have A := bedA_ag (h := h) (x := x) wf (c := el h (x + 2) i) (l := b) (w := c) (t := d) (d := gI h 1000 (x + 23))
  have hkd := bedA_kd (h := h) (x := x) (c := el h (x + 2) i) (l := b) (w := c) (t := d) (d := gI h 1000 (x + 23))
  have hflds : (gR (hBedA h x (el h (x + 2) i) b c d (gI h 1000 (x + 23))) 313 (nx h) = x ∧ gR (hBedA h x (el h (x + 2) i) b c d (gI h 1000 (x + 23))) 300 (nx h) = el h (x + 2) i) ∧ ∀ f, gI (hBedA h x (el h (x + 2) i) b c d (gI h 1000 (x + 23))) f (nx h) = if f = 303 then gI h 1000 (x + 23) else if f = 304 then d else if f = 302 then c else if f = 301 then b else if f = 312 then 1 else if f = 310 then -1 else 0 := by
    refine ⟨⟨by simp [hBedA, nx_pI, kd_pI, ln_pI, gI_pI, gJ_pI, gR_pI, eI_pI, eJ_pI, eR_pI, kc_pI, nx_pJ, kd_pJ, ln_pJ, gI_pJ, gJ_pJ, gR_pJ, eI_pJ, eJ_pJ, eR_pJ, kc_pJ, nx_pR, kd_pR, ln_pR, gI_pR, gJ_pR, gR_pR, eI_pR, eJ_pR, eR_pR, kc_pR, nx_sI, kd_sI, ln_sI, gI_sI, gJ_sI, gR_sI, eI_sI, eJ_sI, eR_sI, kc_sI, nx_sJ, kd_sJ, ln_sJ, gI_sJ, gJ_sJ, gR_sJ, eI_sJ, eJ_sJ, eR_sJ, kc_sJ, nx_sR, kd_sR, ln_sR, gI_sR, gJ_sR, gR_sR, eI_sR, eJ_sR, eR_sR, kc_sR, ln_nO, eI_nO, eJ_nO, eR_nO, kc_nO, gI_nO, gI_nA, gJ_nO, gJ_nA, gR_nO, gR_nA, eI_nA, eJ_nA, eR_nA, kc_nA, nx_nO, nx_nA, kd_nO_at, kd_nA_at, ln_nA_at], by simp [hBedA, nx_pI, kd_pI, ln_pI, gI_pI, gJ_pI, gR_pI, eI_pI, eJ_pI, eR_pI, kc_pI, nx_pJ, kd_pJ, ln_pJ, gI_pJ, gJ_pJ, gR_pJ, eI_pJ, eJ_pJ, eR_pJ, kc_pJ, nx_pR, kd_pR, ln_pR, gI_pR, gJ_pR, gR_pR, eI_pR, eJ_pR, eR_pR, kc_pR, nx_sI, kd_sI, ln_sI, gI_sI, gJ_sI, gR_sI, eI_sI, eJ_sI, eR_sI, kc_sI, nx_sJ, kd_sJ, ln_sJ, gI_sJ, gJ_sJ, gR_sJ, eI_sJ, eJ_sJ, eR_sJ, kc_sJ, nx_sR, kd_sR, ln_sR, gI_sR, gJ_sR, gR_sR, eI_sR, eJ_sR, eR_sR, kc_sR, ln_nO, eI_nO, eJ_nO, eR_nO, kc_nO, gI_nO, gI_nA, gJ_nO, gJ_nA, gR_nO, gR_nA, eI_nA, eJ_nA, eR_nA, kc_nA, nx_nO, nx_nA, kd_nO_at, kd_nA_at, ln_nA_at]⟩, fun f => ?_⟩
    simp [hBedA, nx_pI, kd_pI, ln_pI, gI_pI, gJ_pI, gR_pI, eI_pI, eJ_pI, eR_pI, kc_pI, nx_pJ, kd_pJ, ln_pJ, gI_pJ, gJ_pJ, gR_pJ, eI_pJ, eJ_pJ, eR_pJ, kc_pJ, nx_pR, kd_pR, ln_pR, gI_pR, gJ_pR, gR_pR, eI_pR, eJ_pR, eR_pR, kc_pR, nx_sI, kd_sI, ln_sI, gI_sI, gJ_sI, gR_sI, eI_sI, eJ_sI, eR_sI, kc_sI, nx_sJ, kd_sJ, ln_sJ, gI_sJ, gJ_sJ, gR_sJ, eI_sJ, eJ_sJ, eR_sJ, kc_sJ, nx_sR, kd_sR, ln_sR, gI_sR, gJ_sR, gR_sR, eI_sR, eJ_sR, eR_sR, kc_sR, ln_nO, eI_nO, eJ_nO, eR_nO, kc_nO, gI_nO, gI_nA, gJ_nO, gJ_nA, gR_nO, gR_nA, eI_nA, eJ_nA, eR_nA, kc_nA, nx_nO, nx_nA, kd_nO_at, kd_nA_at, ln_nA_at]
  show XW (hBedA h x (el h (x + 2) i) b c d (gI h 1000 (x + 23))) x ∧ (kd (hBedA h x (el h (x + 2) i) b c d (gI h 1000 (x + 23))) (el h (x + 2) i) = 2 ∧ (∀ h112 : Hp, h112 = pR (hBedA h x (el h (x + 2) i) b c d (gI h 1000 (x + 23))) 109 (el h (x + 2) i) (nx h) → CtI M_X3_bed [rV (x + 23), iV (nI i), iV b, iV c, iV d] h112 0 0 (fun r2 h2 => 1 = r2 ∧ R h2) E))
  generalize hBedA h x (el h (x + 2) i) b c d (gI h 1000 (x + 23)) = hA at A hkd hflds ⊢
  have A0 := A.to2 h75
  have M0 := mw_k H.mw
  have iA : ALinj hA := ALinj_kd A H.pw.2.2.1 wf h75 (fun y hy => by
    rw [hkd] at hy
    by_cases z : y = nx h
    · rw [if_pos z] at hy; exact absurd hy (by decide)
    · rw [if_neg z] at hy; exact hy)
  have HA : CP hA x := CP_ag A iA H
  have eAC : nC hA x = nC h x := A0.qC M0
  have elA : el hA (x + 2) i = el h (x + 2) i := by rw [(A.alk h75 H.pl.1).2]
  have kbA : kd hA (nx h) = 4 := by rw [hkd, if_pos rfl]
  have eiA : ∀ o, 1 ≤ o → o < 59 → 23 + o ∉ scA → eI hA (x + 23 + o) = eI h (x + 23 + o) := fun o h1 h2 h3 => A0.eiM H.mw h1 h2 h3
  have gtA : gI hA 1000 (x + 23) = gI h 1000 (x + 23) := A.gi M0 (by decide) (by decide)
  refine ⟨HA.xw, A.kd' kc0 (by decide), ?_⟩
  rintro _ rfl
  -- the reference
  have K := cp_bed HA (i := i) (b := nx h) (t := d) (l := b) (w := c) (by rw [eAC]; exact hi) (by rw [eiA 6 (by decide) (by decide) (by decide)]; exact hb0) (by rcases hd with z | z <;> rw [z] <;> exact ⟨by decide, by decide⟩) (isin_bd c2) (isin_bd c3) kbA (by
    rw [elA, gtA]
    refine ⟨hflds.1.1, hflds.1.2, ?_⟩
    simp only [hflds.2]
    simp)
  rw [elA, gtA] at K
  have mwB : MW (pR hA 109 (el h (x + 2) i) (nx h)) (x + 23) := (CPw_pR (f := 109) (a := el h (x + 2) i) (v := nx h) (by decide) HA.pw).2.1
  have gall : ∀ f, gI (pR hA 109 (el h (x + 2) i) (nx h)) f (x + 23) = gI hA f (x + 23) := fun f => by rw [gI_pR]
  have cnB : CNp (pR hA 109 (el h (x + 2) i) (nx h)) (x + 23) := by have := HA.cnp; unfold CNp at this ⊢; rw [gI_pR]; exact this
  have lwB : LWp (pR hA 109 (el h (x + 2) i) (nx h)) (x + 23) := by have := HA.lwp; unfold LWp at this ⊢; rw [gI_pR, eI_pR]; exact this
  have law3 : ∀ q, V_X3_now (pR hA 109 (el h (x + 2) i) (nx h)) (x + 23) q = lawn h (x + 23) (gI h 1000 (x + 23)) q := fun q => by
    unfold V_X3_now lawn lawv
    rw [eI_pR, gI_pR, gtA, A.gi M0 (f := 1067) (by decide) (by decide), eiA 50 (by decide) (by decide) (by decide), eiA 51 (by decide) (by decide) (by decide), eiA 52 (by decide) (by decide) (by decide), eiA 53 (by decide) (by decide) (by decide), eiA 54 (by decide) (by decide) (by decide), eiA 55 (by decide) (by decide) (by decide)]
  have pk3 : prks (pR hA 109 (el h (x + 2) i) (nx h)) (x + 23) (shl 1 (nI i)) = prks h (x + 23) (shl 1 (nI i)) := by
    unfold prks parkS
    rw [eI_pR, gI_pR, A.gi M0 (f := 1001) (by decide) (by decide), eiA 3 (by decide) (by decide) (by decide), eiA 6 (by decide) (by decide) (by decide)]
  have vi : vp_in (nI i) 12 := z3
  refine b_X3_bed_0 mwB ?_
  rw [gall, A.gi M0 (f := 1001) (by decide) (by decide), z0, pk3, law3, pk_one H hi hb0]
  refine ⟨fun z => absurd z z1f, fun _ => ⟨vi, fun z => absurd (by rw [eI_pR, eiA 6 (by decide) (by decide) (by decide)]; exact hb0) z, fun _ => ⟨fun z => by rw [c2] at z; exact absurd z (by decide), fun _ => ⟨fun z => by rw [c3] at z; exact absurd z (by decide), fun _ => ⟨cnB, lwB, fun _ => ⟨vi, ?_⟩, fun z => absurd y4 z⟩⟩⟩⟩⟩
  rintro _ rfl
  refine ⟨vi, hd, ?_⟩
  rintro _ rfl
  refine ⟨vi, ?_⟩
  rintro _ rfl
  refine ⟨vi, ?_⟩
  rintro _ rfl
  refine ⟨vi, ?_⟩
  rintro _ rfl
  refine ⟨vi, ?_⟩
  rw [gI_sI, gI_sI, gI_sI, gI_sI, gI_sI, gI_pR, gtA]
  rintro _ rfl
  refine ⟨vi, ?_⟩
  rintro _ rfl
  unfold hBed at K
  have mwC := MW_sI (f := x + 23 + 17) (a := i) (v := -1) (MW_sI (f := x + 23 + 11) (a := i) (v := gI h 1000 (x + 23)) (MW_sI (f := x + 23 + 10) (a := i) (v := c) (MW_sI (f := x + 23 + 9) (a := i) (v := b) (MW_sI (f := x + 23 + 8) (a := i) (v := 1) (MW_sI (f := x + 23 + 7) (a := i) (v := d) (MW_sI (f := x + 23 + 6) (a := i) (v := 1) mwB))))))
  generalize sI (sI (sI (sI (sI (sI (sI (pR hA 109 (el h (x + 2) i) (nx h)) (x + 23 + 6) i 1) (x + 23 + 7) i d) (x + 23 + 8) i 1) (x + 23 + 9) i b) (x + 23 + 10) i c) (x + 23 + 11) i (gI h 1000 (x + 23))) (x + 23 + 17) i (-1) = B at K mwC ⊢
  have rB := hR _ K
  rw [← nI0]
  refine itr_loop (inv := fun t G => MW G (x + 23) → (G = crd B x i t) → Rn M_X3_bed 111 [(0, rV (x + 23)), (1, iV (nI i)), (5, iV (nI t))] [] G 0 0 (qI (fun r2 h2 => 1 = r2 ∧ R h2)) E) (f := fun t G => sI G (x + 23 + 18) (11 * i + t) (-1)) (m := 11) (fun t G ht ih mG eG => ?_) (fun mG eG => ?_) mwC (by unfold crd itr; rfl)
  · have e11 : (11 : Int32) * nI i + nI t = nI (11 * i + t) := by unfold nI; rw [Int32.ofNat_add, Int32.ofNat_mul]; rfl
    refine b_X3_bed_111 mG ⟨fun z => ?_, fun _ => ?_⟩
    · rw [show (10 : Int32) = nI 10 by decide, nIlt (by omega) (by omega)] at z; omega
    rw [e11, ix_nI (by omega)]
    refine ⟨vin_nI (by omega) (by decide), ?_⟩
    rintro _ rfl _ rfl
    rw [nI_add1]
    refine ih (MW_sI mG) ?_
    rw [eG]
    unfold crd
    rw [itr_succ, Nat.zero_add]
  · refine b_X3_bed_111 mG ⟨fun _ => ⟨rfl, ?_⟩, fun z => absurd (by decide) z⟩
    rw [eG]; exact rB
end
