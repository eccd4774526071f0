/-! a storm that came: the coupling behind it -/
set_option maxRecDepth 100000
section
variable {h V : Hp} {x : Nat}
theorem CPq_1102 {a : Nat} {v : Int32} (ha : a < x + 82) (H : CPq h x) : CPq (pI h 1102 a v) x := by
  intro i hi
  have hi : i < nC h x := by unfold nC at hi ⊢; simp [nx_pI, kd_pI, ln_pI, gI_pI, gJ_pI, gR_pI, eI_pI, eJ_pI, eR_pI, kc_pI, nx_pJ, kd_pJ, ln_pJ, gI_pJ, gJ_pJ, gR_pJ, eI_pJ, eJ_pJ, eR_pJ, kc_pJ, nx_pR, kd_pR, ln_pR, gI_pR, gJ_pR, gR_pR, eI_pR, eJ_pR, eR_pR, kc_pR, nx_sI, kd_sI, ln_sI, gI_sI, gJ_sI, gR_sI, eI_sI, eJ_sI, eR_sI, kc_sI, nx_sJ, kd_sJ, ln_sJ, gI_sJ, gJ_sJ, gR_sJ, eI_sJ, eJ_sJ, eR_sJ, kc_sJ, nx_sR, kd_sR, ln_sR, gI_sR, gJ_sR, gR_sR, eI_sR, eJ_sR, eR_sR, kc_sR, ln_nO, eI_nO, eJ_nO, eR_nO, kc_nO, gI_nO, gI_nA, gJ_nO, gJ_nA, gR_nO, gR_nA, eI_nA, eJ_nA, eR_nA, kc_nA, nx_nO, nx_nA, kd_nO_at, kd_nA_at, ln_nA_at] at hi; exact hi
  obtain ⟨q1, q2, q3, q4, q5⟩ := H i hi
  have eR : nR (pI h 1102 a v) x = nR h x := by unfold nR; simp [nx_pI, kd_pI, ln_pI, gI_pI, gJ_pI, gR_pI, eI_pI, eJ_pI, eR_pI, kc_pI, nx_pJ, kd_pJ, ln_pJ, gI_pJ, gJ_pJ, gR_pJ, eI_pJ, eJ_pJ, eR_pJ, kc_pJ, nx_pR, kd_pR, ln_pR, gI_pR, gJ_pR, gR_pR, eI_pR, eJ_pR, eR_pR, kc_pR, nx_sI, kd_sI, ln_sI, gI_sI, gJ_sI, gR_sI, eI_sI, eJ_sI, eR_sI, kc_sI, nx_sJ, kd_sJ, ln_sJ, gI_sJ, gJ_sJ, gR_sJ, eI_sJ, eJ_sJ, eR_sJ, kc_sJ, nx_sR, kd_sR, ln_sR, gI_sR, gJ_sR, gR_sR, eI_sR, eJ_sR, eR_sR, kc_sR, ln_nO, eI_nO, eJ_nO, eR_nO, kc_nO, gI_nO, gI_nA, gJ_nO, gJ_nA, gR_nO, gR_nA, eI_nA, eJ_nA, eR_nA, kc_nA, nx_nO, nx_nA, kd_nO_at, kd_nA_at, ln_nA_at]
  have eC : nC (pI h 1102 a v) x = nC h x := by unfold nC; simp [nx_pI, kd_pI, ln_pI, gI_pI, gJ_pI, gR_pI, eI_pI, eJ_pI, eR_pI, kc_pI, nx_pJ, kd_pJ, ln_pJ, gI_pJ, gJ_pJ, gR_pJ, eI_pJ, eJ_pJ, eR_pJ, kc_pJ, nx_pR, kd_pR, ln_pR, gI_pR, gJ_pR, gR_pR, eI_pR, eJ_pR, eR_pR, kc_pR, nx_sI, kd_sI, ln_sI, gI_sI, gJ_sI, gR_sI, eI_sI, eJ_sI, eR_sI, kc_sI, nx_sJ, kd_sJ, ln_sJ, gI_sJ, gJ_sJ, gR_sJ, eI_sJ, eJ_sJ, eR_sJ, kc_sJ, nx_sR, kd_sR, ln_sR, gI_sR, gJ_sR, gR_sR, eI_sR, eJ_sR, eR_sR, kc_sR, ln_nO, eI_nO, eJ_nO, eR_nO, kc_nO, gI_nO, gI_nA, gJ_nO, gJ_nA, gR_nO, gR_nA, eI_nA, eJ_nA, eR_nA, kc_nA, nx_nO, nx_nA, kd_nO_at, kd_nA_at, ln_nA_at]
  have eU : nU (pI h 1102 a v) x = nU h x := by unfold nU; simp [nx_pI, kd_pI, ln_pI, gI_pI, gJ_pI, gR_pI, eI_pI, eJ_pI, eR_pI, kc_pI, nx_pJ, kd_pJ, ln_pJ, gI_pJ, gJ_pJ, gR_pJ, eI_pJ, eJ_pJ, eR_pJ, kc_pJ, nx_pR, kd_pR, ln_pR, gI_pR, gJ_pR, gR_pR, eI_pR, eJ_pR, eR_pR, kc_pR, nx_sI, kd_sI, ln_sI, gI_sI, gJ_sI, gR_sI, eI_sI, eJ_sI, eR_sI, kc_sI, nx_sJ, kd_sJ, ln_sJ, gI_sJ, gJ_sJ, gR_sJ, eI_sJ, eJ_sJ, eR_sJ, kc_sJ, nx_sR, kd_sR, ln_sR, gI_sR, gJ_sR, gR_sR, eI_sR, eJ_sR, eR_sR, kc_sR, ln_nO, eI_nO, eJ_nO, eR_nO, kc_nO, gI_nO, gI_nA, gJ_nO, gJ_nA, gR_nO, gR_nA, eI_nA, eJ_nA, eR_nA, kc_nA, nx_nO, nx_nA, kd_nO_at, kd_nA_at, ln_nA_at]
  rw [eR, eC, eU, el_pI, gR_pI, eI_pI]
  refine ⟨q1, ?_, q3, q4, q5⟩
  obtain ⟨b1, b2, b3, b4, b5⟩ := q2
  exact ⟨b1, by rw [gI_pI, if_neg (fun z => by omega)]; exact b2, b3, b4, b5⟩
theorem cp_stormF (A : Ag3 h V x) (H : CP h x) (iV' : ALinj V) {m s : Nat} (em : nS h x = m) (hm : m < 40) (cnt : gI V 1004 (x + 23) = nI (m + 1))
    (l1 : kd V (gR V 1101 (x + 21)) = 65) (l2 : m + 1 ≤ ln V (gR V 1101 (x + 21))) (l3 : ln V (gR V 1101 (x + 21)) ≤ 60000) (l4 : ∀ i, i < m → el V (x + 21) i = el h (x + 21) i) (l5 : el V (x + 21) m = s) (ks : kd V s = 8)
    (sn : gI V 700 s = eI V (x + 23 + 41) m ∧ gJ V 701 s = eJ V (x + 23 + 36) m ∧ gJ V 702 s = eJ V (x + 23 + 37) m ∧ gI V 703 s = eI V (x + 23 + 42) m ∧ (gI V 704 s).toInt64 = eJ V (x + 23 + 38) m)
    (so : ∀ j, j < m → eI V (x + 23 + 41) j = eI h (x + 23 + 41) j ∧ eJ V (x + 23 + 36) j = eJ h (x + 23 + 36) j ∧ eJ V (x + 23 + 37) j = eJ h (x + 23 + 37) j ∧ eI V (x + 23 + 42) j = eI h (x + 23 + 42) j ∧ eJ V (x + 23 + 38) j = eJ h (x + 23 + 38) j)
    (cs : ∀ i, i < nC h x → gI V 106 (el h (x + 2) i) = (eJ V (x + 23 + 39) i).toInt32 ∧ gI V 107 (el h (x + 2) i) = (eJ V (x + 23 + 40) i).toInt32 ∧ gI V 108 (el h (x + 2) i) = eI V (x + 23 + 43) i)
    (cb : ∀ i, nC h x ≤ i → i < 12 → eJ V (x + 23 + 39) i = eJ h (x + 23 + 39) i ∧ eJ V (x + 23 + 40) i = eJ h (x + 23 + 40) i ∧ eI V (x + 23 + 43) i = eI h (x + 23 + 43) i)
    (bs : ∀ i, i < nC h x → ¬ eI h (x + 23 + 6) i = 0 → gI V 308 (gR h 109 (el h (x + 2) i)) = eI V (x + 23 + 15) i) (bb : ∀ i, i < 12 → bd (eI V (x + 23 + 15) i) 0 500 ∧ (eI h (x + 23 + 6) i = 0 → eI V (x + 23 + 15) i = 0))
    (rs : ∀ j, j < nR h x → gI V 205 (el h (x + 3) j) = eI V (x + 23 + 23) j ∧ bd (eI V (x + 23 + 23) j) 0 200) (rb : ∀ j, nR h x ≤ j → j < 30 → eI V (x + 23 + 23) j = eI h (x + 23 + 23) j)
    (t1 : gJ V 17 x = gJ V 1035 (x + 23)) (t2 : gJ V 18 x = gJ V 1036 (x + 23)) (t3 : gJ V 19 x = gJ V 1037 (x + 23)) (t4 : gJ V 20 x = gJ V 1038 (x + 23)) : CP (pI V 1102 (x + 21) (nI (m + 1))) x := by
  have X := xw_k H.xw
  have M := mw_k H.mw
  have hM := H.mw
  generalize hF : pI V 1102 (x + 21) (nI (m + 1)) = F
  have ek : kd F = kd V := by rw [← hF]; rfl
  have el' : ln F = ln V := by rw [← hF]; rfl
  have er : gR F = gR V := by rw [← hF]; rfl
  have ee : el F = el V := by rw [← hF]; rfl
  have ekc : kc F = kc V := by rw [← hF]; rfl
  have ej : eJ F = eJ V := by rw [← hF]; rfl
  have ei : eI F = eI V := by rw [← hF]; rfl
  have egj : gJ F = gJ V := by rw [← hF]; rfl
  have gi : ∀ f a, f ≠ 1102 → gI F f a = gI V f a := fun f a h1 => by rw [← hF]; simp [nx_pI, kd_pI, ln_pI, gI_pI, gJ_pI, gR_pI, eI_pI, eJ_pI, eR_pI, kc_pI, nx_pJ, kd_pJ, ln_pJ, gI_pJ, gJ_pJ, gR_pJ, eI_pJ, eJ_pJ, eR_pJ, kc_pJ, nx_pR, kd_pR, ln_pR, gI_pR, gJ_pR, gR_pR, eI_pR, eJ_pR, eR_pR, kc_pR, nx_sI, kd_sI, ln_sI, gI_sI, gJ_sI, gR_sI, eI_sI, eJ_sI, eR_sI, kc_sI, nx_sJ, kd_sJ, ln_sJ, gI_sJ, gJ_sJ, gR_sJ, eI_sJ, eJ_sJ, eR_sJ, kc_sJ, nx_sR, kd_sR, ln_sR, gI_sR, gJ_sR, gR_sR, eI_sR, eJ_sR, eR_sR, kc_sR, ln_nO, eI_nO, eJ_nO, eR_nO, kc_nO, gI_nO, gI_nA, gJ_nO, gJ_nA, gR_nO, gR_nA, eI_nA, eJ_nA, eR_nA, kc_nA, nx_nO, nx_nA, kd_nO_at, kd_nA_at, ln_nA_at, h1]
  have g2 : ∀ a, a ≠ x + 21 → gI F 1102 a = gI V 1102 a := fun a h1 => by rw [← hF]; simp [nx_pI, kd_pI, ln_pI, gI_pI, gJ_pI, gR_pI, eI_pI, eJ_pI, eR_pI, kc_pI, nx_pJ, kd_pJ, ln_pJ, gI_pJ, gJ_pJ, gR_pJ, eI_pJ, eJ_pJ, eR_pJ, kc_pJ, nx_pR, kd_pR, ln_pR, gI_pR, gJ_pR, gR_pR, eI_pR, eJ_pR, eR_pR, kc_pR, nx_sI, kd_sI, ln_sI, gI_sI, gJ_sI, gR_sI, eI_sI, eJ_sI, eR_sI, kc_sI, nx_sJ, kd_sJ, ln_sJ, gI_sJ, gJ_sJ, gR_sJ, eI_sJ, eJ_sJ, eR_sJ, kc_sJ, nx_sR, kd_sR, ln_sR, gI_sR, gJ_sR, gR_sR, eI_sR, eJ_sR, eR_sR, kc_sR, ln_nO, eI_nO, eJ_nO, eR_nO, kc_nO, gI_nO, gI_nA, gJ_nO, gJ_nA, gR_nO, gR_nA, eI_nA, eJ_nA, eR_nA, kc_nA, nx_nO, nx_nA, kd_nO_at, kd_nA_at, ln_nA_at, h1]
  have g2' : gI F 1102 (x + 21) = nI (m + 1) := by rw [← hF]; simp [nx_pI, kd_pI, ln_pI, gI_pI, gJ_pI, gR_pI, eI_pI, eJ_pI, eR_pI, kc_pI, nx_pJ, kd_pJ, ln_pJ, gI_pJ, gJ_pJ, gR_pJ, eI_pJ, eJ_pJ, eR_pJ, kc_pJ, nx_pR, kd_pR, ln_pR, gI_pR, gJ_pR, gR_pR, eI_pR, eJ_pR, eR_pR, kc_pR, nx_sI, kd_sI, ln_sI, gI_sI, gJ_sI, gR_sI, eI_sI, eJ_sI, eR_sI, kc_sI, nx_sJ, kd_sJ, ln_sJ, gI_sJ, gJ_sJ, gR_sJ, eI_sJ, eJ_sJ, eR_sJ, kc_sJ, nx_sR, kd_sR, ln_sR, gI_sR, gJ_sR, gR_sR, eI_sR, eJ_sR, eR_sR, kc_sR, ln_nO, eI_nO, eJ_nO, eR_nO, kc_nO, gI_nO, gI_nA, gJ_nO, gJ_nA, gR_nO, gR_nA, eI_nA, eJ_nA, eR_nA, kc_nA, nx_nO, nx_nA, kd_nO_at, kd_nA_at, ln_nA_at]
  have eC : nC F x = nC h x := by unfold nC; rw [gi _ _ (by decide), A.gi M (by decide) (by decide)]
  have eR : nR F x = nR h x := by unfold nR; rw [gi _ _ (by decide), A.gi M (by decide) (by decide)]
  have eU : nU F x = nU h x := by unfold nU; rw [gi _ _ (by decide), A.gi M (by decide) (by decide)]
  have eP : nP F x = nP h x := by unfold nP; rw [gi _ _ (by decide), A.gi M (by decide) (by decide)]
  have eS : nS F x = m + 1 := by unfold nS; rw [gi _ _ (by decide), cnt, ix_nI (by omega)]
  have alk : ∀ a q, a ≠ x + 21 → ALk h a q → ALk F a q := fun a q hne L => by
    obtain ⟨b1, b2, b3, b4, b5⟩ := (A.lst L hne).1
    exact ⟨by rw [ek]; exact b1, (g2 a hne).trans b2, by rw [el', er]; exact b3, by rw [ek, er, ekc]; exact b4, by rw [el', er]; exact b5⟩
  have e2 := (A.lst H.pl.1 (by omega)).2
  have e3 := (A.lst H.pl.2.1 (by omega)).2
  refine ⟨?_, ?_, ?_, ?_, ?_, ?_, ?_, ?_, ?_, ?_, ?_, ?_, ?_, ?_⟩
  · rw [← hF]
    exact ⟨XW_pI (A.xw H.xw), MW_pI (A.mw H.mw), iV', by show kd V (kc V 0) = 75; rw [A.1.1]; exact A.kd' H.pw.2.2.2.1 (by decide), by show ln V (kc V 0) = 0; rw [A.1.1, A.ln' H.pw.2.2.2.1 (by decide)]; exact H.pw.2.2.2.2⟩
  · have h1 := H.pn
    unfold CPn at h1 ⊢
    rw [egj]
    simp only [gi 0 _ (by decide), gi 1000 _ (by decide), gi 23 _ (by decide), gi 1003 _ (by decide), gi 26 _ (by decide), gi 1005 _ (by decide), gi 7 _ (by decide), gi 1077 _ (by decide), gi 8 _ (by decide), gi 1080 _ (by decide), A.gi X (by decide) (f := 0) (by decide), A.gi X (by decide) (f := 23) (by decide), A.gi X (by decide) (f := 26) (by decide), A.gi X (by decide) (f := 7) (by decide), A.gi X (by decide) (f := 8) (by decide), A.gi M (by decide) (f := 1000) (by decide), A.gi M (by decide) (f := 1003) (by decide), A.gi M (by decide) (f := 1005) (by decide), A.gi M (by decide) (f := 1077) (by decide), A.gi M (by decide) (f := 1080) (by decide), A.gj X (by decide) (f := 21) (by decide), A.gj M (by decide) (f := 1039) (by decide)]
    exact ⟨h1.1, h1.2.1, h1.2.2.1, h1.2.2.2.1, h1.2.2.2.2.1, t1, t2, t3, t4, h1.2.2.2.2.2.2.2.2.2⟩
  · have h1 := H.po
    unfold CPo at h1 ⊢
    simp only [gi 1000 _ (by decide), gi 1001 _ (by decide), gi 1002 _ (by decide), gi 1003 _ (by decide), gi 1004 _ (by decide), gi 1006 _ (by decide), gi 1067 _ (by decide), gi 1077 _ (by decide), A.gi M (by decide) (f := 1000) (by decide), A.gi M (by decide) (f := 1001) (by decide), A.gi M (by decide) (f := 1002) (by decide), A.gi M (by decide) (f := 1003) (by decide), A.gi M (by decide) (f := 1006) (by decide), A.gi M (by decide) (f := 1067) (by decide), A.gi M (by decide) (f := 1077) (by decide), cnt]
    refine ⟨h1.1, h1.2.1, h1.2.2.1, h1.2.2.2.1, ?_, h1.2.2.2.2.2⟩
    unfold bd; rw [nI_toInt (by omega)]; omega
  · obtain ⟨k1, k2, k3, k4, k5⟩ := H.pl
    unfold CPl
    rw [eC, eR, eU, eS, eP]
    exact ⟨alk _ _ (by omega) k1, alk _ _ (by omega) k2, alk _ _ (by omega) k3, ⟨by rw [ek]; exact A.kd' k4.1 (by decide), g2', by rw [el', er]; exact l2, Or.inl (by rw [ek, er]; exact l1), by rw [el', er]; exact l3⟩, alk _ _ (by omega) k5⟩
  · intro i hi
    rw [eC] at hi
    rw [ee, e2 i hi]
    have h1 := (H.pc i hi).1
    have C := h1.1
    refine ⟨?_, ?_⟩
    · unfold CPc1 at h1 ⊢
      refine ⟨by rw [ek]; exact A.kd' C (by decide), ?_⟩
      simp only [ei, gi 100 _ (by decide), gi 101 _ (by decide), gi 102 _ (by decide), gi 103 _ (by decide), gi 104 _ (by decide), gi 105 _ (by decide), A.gi C (by decide) (f := 100) (by decide), A.gi C (by decide) (f := 101) (by decide), A.gi C (by decide) (f := 102) (by decide), A.gi C (by decide) (f := 103) (by decide), A.gi C (by decide) (f := 104) (by decide), A.gi C (by decide) (f := 105) (by decide), A.eiM hM (o := 1) (by decide) (by decide) (by decide), A.eiM hM (o := 2) (by decide) (by decide) (by decide), A.eiM hM (o := 3) (by decide) (by decide) (by decide), A.eiM hM (o := 4) (by decide) (by decide) (by decide), A.eiM hM (o := 5) (by decide) (by decide) (by decide)]
      exact h1.2
    · unfold CPc2
      rw [ei, ej, gi 106 _ (by decide), gi 107 _ (by decide), gi 108 _ (by decide)]
      exact cs i hi
  · have h1 := CPv_ag3 A H
    rw [← hF]
    with_reducible exact CPv_pI (by decide) h1
  · intro i hi
    rw [eC] at hi
    have C := (H.pc i hi).1.1
    rw [ee, e2 i hi, er, A.gr C (by decide) (by decide), ei]
    rcases H.pb i hi with ⟨b1, b2⟩ | ⟨b1, b2, b3, b4⟩
    · left
      simp only [A.eiM hM (o := 6) (by decide) (by decide) (by decide)]
      exact ⟨b1, b2⟩
    · right
      have B := b2.1
      have hb := bs i hi (by rw [b1]; decide)
      refine ⟨?_, ?_, ?_, ?_⟩
      · simp only [A.eiM hM (o := 6) (by decide) (by decide) (by decide)]
        exact b1
      · unfold CPb1 at b2 ⊢
        refine ⟨by rw [ek]; exact A.kd' B (by decide), ?_⟩
        simp only [ei, er, gi 301 _ (by decide), gi 302 _ (by decide), gi 303 _ (by decide), gi 304 _ (by decide), A.gi B (by decide) (f := 301) (by decide), A.gi B (by decide) (f := 302) (by decide), A.gi B (by decide) (f := 303) (by decide), A.gi B (by decide) (f := 304) (by decide), A.gr B (by decide) (f := 313) (by decide), A.gr B (by decide) (f := 300) (by decide), A.eiM hM (o := 9) (by decide) (by decide) (by decide), A.eiM hM (o := 10) (by decide) (by decide) (by decide), A.eiM hM (o := 11) (by decide) (by decide) (by decide), A.eiM hM (o := 7) (by decide) (by decide) (by decide)]
        exact b2.2
      · unfold CPb2 at b3 ⊢
        simp only [ei, gi 305 _ (by decide), gi 306 _ (by decide), gi 307 _ (by decide), gi 308 _ (by decide), gi 309 _ (by decide), gi 310 _ (by decide), gi 312 _ (by decide), A.gi B (by decide) (f := 305) (by decide), A.gi B (by decide) (f := 306) (by decide), A.gi B (by decide) (f := 307) (by decide), A.gi B (by decide) (f := 309) (by decide), A.gi B (by decide) (f := 310) (by decide), A.gi B (by decide) (f := 312) (by decide), A.eiM hM (o := 12) (by decide) (by decide) (by decide), A.eiM hM (o := 13) (by decide) (by decide) (by decide), A.eiM hM (o := 14) (by decide) (by decide) (by decide), A.eiM hM (o := 16) (by decide) (by decide) (by decide), A.eiM hM (o := 17) (by decide) (by decide) (by decide), A.eiM hM (o := 8) (by decide) (by decide) (by decide)]
        exact ⟨b3.1, b3.2.1, b3.2.2.1, hb, b3.2.2.2.2⟩
      · unfold CPb3 at b4 ⊢
        simp only [ei, gi 311 _ (by decide), gi 1000 _ (by decide), A.gi B (by decide) (f := 311) (by decide), A.gi M (by decide) (f := 1000) (by decide), A.eiM hM (o := 18) (by decide) (by decide) (by decide)]
        exact b4
  · intro i hi
    obtain ⟨x1, x2, x3, x4⟩ := H.px i hi
    obtain ⟨q1, q2, q3, q4, q5, q6, q7, q8, q9, q10, q11, q12⟩ := x1
    obtain ⟨w1, w2⟩ := bb i hi
    unfold CPw1 CPw0
    simp only [ei, eC, gi 1000 _ (by decide), A.gi M (by decide) (f := 1000) (by decide), A.eiM hM (o := 9) (by decide) (by decide) (by decide), A.eiM hM (o := 10) (by decide) (by decide) (by decide), A.eiM hM (o := 11) (by decide) (by decide) (by decide), A.eiM hM (o := 7) (by decide) (by decide) (by decide), A.eiM hM (o := 12) (by decide) (by decide) (by decide), A.eiM hM (o := 13) (by decide) (by decide) (by decide), A.eiM hM (o := 14) (by decide) (by decide) (by decide), A.eiM hM (o := 16) (by decide) (by decide) (by decide), A.eiM hM (o := 17) (by decide) (by decide) (by decide), A.eiM hM (o := 8) (by decide) (by decide) (by decide), A.eiM hM (o := 18) (by decide) (by decide) (by decide), A.eiM hM (o := 6) (by decide) (by decide) (by decide)]
    exact ⟨⟨q1, q2, q3, q4, q5, q6, q7, q8, w1, q10, q11, q12⟩, fun z => by obtain ⟨y1, y2, y3, y4, y5⟩ := x2 z; exact ⟨y1, y2, y3, w2 z, y5⟩, x3, x4⟩
  · intro i hi
    rw [eR] at hi
    rw [ee, e3 i hi]
    obtain ⟨h1, h2⟩ := H.pr i hi
    have C := h1.1
    obtain ⟨r1, r2⟩ := rs i hi
    refine ⟨?_, ?_⟩
    · unfold CPr1 at h1 ⊢
      refine ⟨by rw [ek]; exact A.kd' C (by decide), ?_⟩
      simp only [ei, er, ee, gi 200 _ (by decide), gi 201 _ (by decide), gi 202 _ (by decide), gi 203 _ (by decide), gi 205 _ (by decide), gi 206 _ (by decide), A.gi C (by decide) (f := 200) (by decide), A.gi C (by decide) (f := 201) (by decide), A.gi C (by decide) (f := 202) (by decide), A.gi C (by decide) (f := 203) (by decide), A.gi C (by decide) (f := 206) (by decide), A.gr C (by decide) (f := 204) (by decide), A.eiM hM (o := 19) (by decide) (by decide) (by decide), A.eiM hM (o := 20) (by decide) (by decide) (by decide), A.eiM hM (o := 21) (by decide) (by decide) (by decide), A.eiM hM (o := 22) (by decide) (by decide) (by decide), A.eiM hM (o := 24) (by decide) (by decide) (by decide), e2 _ h2.1.2]
      obtain ⟨-, y1, y2, y3, y4, y5, y6, y7⟩ := h1
      exact ⟨y1, y2, y3, y4, y5, r1, y7⟩
    · unfold CPr2 at h2 ⊢
      simp only [ei, eC, A.eiM hM (o := 19) (by decide) (by decide) (by decide), A.eiM hM (o := 20) (by decide) (by decide) (by decide), A.eiM hM (o := 21) (by decide) (by decide) (by decide), A.eiM hM (o := 22) (by decide) (by decide) (by decide), A.eiM hM (o := 24) (by decide) (by decide) (by decide)]
      exact ⟨h2.1, h2.2.1, h2.2.2.1, h2.2.2.2.1, r2, h2.2.2.2.2.2⟩
  · have h1 := CPq_ag3 A H
    rw [← hF]
    exact CPq_1102 (by omega) h1
  · intro i hi
    rw [eS] at hi
    rw [ee]
    unfold CPs1
    rw [ek, ei, ej, egj, gi 700 _ (by decide), gi 703 _ (by decide), gi 704 _ (by decide)]
    by_cases c : i = m
    · subst c
      rw [l5]
      exact ⟨ks, sn⟩
    · have h1 := H.ps i (by omega)
      have C := h1.1
      obtain ⟨o1, o2, o3, o4, o5⟩ := so i (by omega)
      rw [l4 i (by omega), o1, o2, o3, o4, o5]
      unfold CPs1 at h1
      refine ⟨A.kd' C (by decide), ?_⟩
      simp only [A.gi C (by decide) (f := 700) (by decide), A.gi C (by decide) (f := 703) (by decide), A.gi C (by decide) (f := 704) (by decide), A.gj C (by decide) (f := 701) (by decide), A.gj C (by decide) (f := 702) (by decide)]
      exact h1.2
  · have h1 := CPp_ag3 A H
    rw [← hF]
    with_reducible exact CPp_pI (by decide) h1
  · obtain ⟨a1, a2, a3, a4, a5, a6, a7⟩ := H.pa
    have hx := H.xw
    have n1 : eI V (x + 1) = eI h (x + 1) := A.eiX (xwk_drinks hx) (by decide) (by decide)
    have n9 : eI V (x + 9) = eI h (x + 9) := A.eiX (xwk_tape hx) (by decide) (by decide)
    have n10 : eI V (x + 10) = eI h (x + 10) := A.eiX (xwk_owed hx) (by decide) (by decide)
    have n11 : eI V (x + 11) = eI h (x + 11) := A.eiX (xwk_kept hx) (by decide) (by decide)
    have n12 : eI V (x + 12) = eI h (x + 12) := A.eiX (xwk_minutes hx) (by decide) (by decide)
    unfold CPa
    simp only [ei, ej, n1, n9, n10, n11, n12, gi 1000 _ (by decide), gi 1001 _ (by decide), gi 1002 _ (by decide), A.gi M (by decide) (f := 1000) (by decide), A.gi M (by decide) (f := 1001) (by decide), A.gi M (by decide) (f := 1002) (by decide), A.eiM hM (o := 25) (by decide) (by decide) (by decide), A.eiM hM (o := 27) (by decide) (by decide) (by decide), A.eiM hM (o := 28) (by decide) (by decide) (by decide), A.eiM hM (o := 26) (by decide) (by decide) (by decide), A.eiM hM (o := 57) (by decide) (by decide) (by decide), A.eiM hM (o := 24) (by decide) (by decide) (by decide)]
    refine ⟨a1, a2, a3, a4, a5, fun i hi hi2 => ?_, fun i hi hi2 => ?_⟩
    · obtain ⟨y1, y2, y3⟩ := cb i hi hi2
      rw [y1, y2, y3]; exact a6 i hi hi2
    · rw [rb i hi hi2]; exact a7 i hi hi2
  · have h1 := CPu_ag3 A H
    rw [← hF]
    refine CPu_1102 (by omega) (fun r hr => ?_) h1
    have hr : r < nU h x := by rw [A.qU M] at hr; exact hr
    rw [(A.lst H.pl.2.2.1 (by omega)).2 r hr, A.gr (H.pu.2 r hr).1.1 (by decide) (by decide)]
    have := (H.pu.2 r hr).2.2.2.2.2.2.2
    omega
end
