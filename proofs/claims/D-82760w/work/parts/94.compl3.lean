/-! complain: the component -/
set_option maxRecDepth 100000
def dfI : List Nat := [9, 10, 11, 12, 13, 507, 512, 513, 1052, 1078, 1079, 1081, 1100, 305, 306, 307, 308, 309, 311, 312, 205, 804, 805, 1102]
theorem dfI_sc : ∀ f ∈ scI, f ∈ dfI := by decide
/-- what the days leave of the component -/
def Frm (h h' : Hp) (x : Nat) : Prop := (kc h' = kc h ∧ nx h ≤ nx h' ∧ ∀ a, kd h a ≠ 0 → kd h' a = kd h a ∧ ln h' a = ln h a ∧ (∀ f, f ∉ dfI → gI h' f a = gI h f a) ∧ (∀ f, f ≠ 14 → f ≠ 1101 → gR h' f a = gR h f a)) ∧ ∀ a m, a ≠ x + 22 → ALk h a m → ALk h' a m ∧ ∀ i, i < m → el h' a i = el h a i
section
variable {h g a : Hp} {x : Nat} {E : Nat → Hp → Prop} {k n : Nat} {Q : Int32 → Hp → Prop} {R : Hp → Prop}
theorem Frm.refl : Frm h h x := ⟨⟨rfl, Nat.le_refl _, fun _ _ => ⟨rfl, rfl, fun _ _ => rfl, fun _ _ _ => rfl⟩⟩, fun _ _ _ H => ⟨H, fun _ _ => rfl⟩⟩
theorem Frm.trans {h1 : Hp} (A : Frm h h1 x) (B : Frm h1 g x) : Frm h g x := by
  obtain ⟨⟨p1, p2, p3⟩, p4⟩ := A
  obtain ⟨⟨q1, q2, q3⟩, q4⟩ := B
  refine ⟨⟨q1.trans p1, Nat.le_trans p2 q2, fun a ha => ?_⟩, fun a m hne L => ?_⟩
  · obtain ⟨b1, b2, b3, b4⟩ := p3 a ha
    obtain ⟨c1, c2, c3, c4⟩ := q3 a (by rw [b1]; exact ha)
    exact ⟨c1.trans b1, c2.trans b2, fun f z => (c3 f z).trans (b3 f z), fun f z1 z2 => (c4 f z1 z2).trans (b4 f z1 z2)⟩
  · obtain ⟨b1, b2⟩ := p4 a m hne L
    obtain ⟨c1, c2⟩ := q4 a m hne b1
    exact ⟨c1, fun i hi => (c2 i hi).trans (b2 i hi)⟩
theorem Frm.vI (A : Frm h g x) {f b : Nat} {v : Int32} (hf : f ∈ dfI) (hf2 : f ≠ 1102) : Frm h (pI g f b v) x := by
  obtain ⟨⟨p1, p2, p3⟩, p4⟩ := A
  refine ⟨⟨by rw [kc_pI]; exact p1, by rw [nx_pI]; exact p2, fun a ha => ?_⟩, fun a m hne L => ?_⟩
  · obtain ⟨b1, b2, b3, b4⟩ := p3 a ha
    exact ⟨by rw [kd_pI]; exact b1, by rw [ln_pI]; exact b2, fun q z => by rw [gI_pI, if_neg (fun y => z (by rw [y.1]; exact hf))]; exact b3 q z, fun q z1 z2 => by rw [gR_pI]; exact b4 q z1 z2⟩
  · obtain ⟨b1, b2⟩ := p4 a m hne L
    refine ⟨?_, fun i hi => by rw [el_pI]; exact b2 i hi⟩
    unfold ALk at b1 ⊢
    rw [kd_pI, gI_pI, if_neg (fun y => hf2 y.1.symm), ln_pI, gR_pI, kc_pI]
    exact b1
theorem Frm.vJ (A : Frm h g x) {f b : Nat} {v : Int64} : Frm h (pJ g f b v) x := by
  obtain ⟨⟨p1, p2, p3⟩, p4⟩ := A
  refine ⟨⟨by rw [kc_pJ]; exact p1, by rw [nx_pJ]; exact p2, fun a ha => ?_⟩, fun a m hne L => ?_⟩
  · obtain ⟨b1, b2, b3, b4⟩ := p3 a ha
    exact ⟨by rw [kd_pJ]; exact b1, by rw [ln_pJ]; exact b2, fun q z => by rw [gI_pJ]; exact b3 q z, fun q z1 z2 => by rw [gR_pJ]; exact b4 q z1 z2⟩
  · obtain ⟨b1, b2⟩ := p4 a m hne L
    refine ⟨?_, fun i hi => by rw [el_pJ]; exact b2 i hi⟩
    unfold ALk at b1 ⊢
    rw [kd_pJ, gI_pJ, ln_pJ, gR_pJ, kc_pJ]
    exact b1
theorem Frm_add {hA h' : Hp} {m : Nat} (A : Ag2 h hA x) (B : Ag2 hA (pI h' 1102 (x + 22) (nI m)) x) : Frm h h' x := by
  obtain ⟨⟨p1, p2, p3⟩, p4⟩ := A
  obtain ⟨⟨q1, q2, q3⟩, q4⟩ := B
  rw [kc_pI] at q1
  rw [nx_pI] at q2
  refine ⟨⟨q1.trans p1, Nat.le_trans p2 q2, fun a ha => ?_⟩, fun a m hne L => ?_⟩
  · obtain ⟨b1, b2, b3, b4, -⟩ := p3 a ha
    obtain ⟨c1, c2, c3, c4, c5, -⟩ := q3 a (by rw [b1]; exact ha)
    rw [kd_pI] at c1
    rw [ln_pI] at c2
    refine ⟨c1.trans b1, c2.trans b2, fun f z => ?_, fun f z1 z2 => ?_⟩
    · have h1 := c3 f (fun y => z (dfI_sc f y))
      rw [gI_pI, if_neg (fun y => z (by rw [y.1]; decide))] at h1
      exact h1.trans (b3 f (fun y => z (dfI_sc f y)))
    · have h1 := c5 f z1 z2
      rw [gR_pI] at h1
      exact h1.trans ((p3 a ha).2.2.2.2.1 f z1 z2)
  · obtain ⟨b1, b2⟩ := p4 a m L
    obtain ⟨c1, c2⟩ := q4 a m b1
    refine ⟨?_, fun i hi => ?_⟩
    · unfold ALk at c1 ⊢
      rw [kd_pI, gI_pI, if_neg (fun y => hne y.2), ln_pI, gR_pI, kc_pI] at c1
      exact c1
    · have := c2 i hi
      rw [el_pI] at this
      exact this.trans (b2 i hi)
theorem hit_mx (c kd : Int32) : hit (mx a g x) x c kd = hit g x c kd := by
  funext j
  unfold hit
  rw [gI_mM, eI_mM (by decide) (by decide), eI_mM (by decide) (by decide), eI_mM (by decide) (by decide), eI_mM (by decide) (by decide)]
theorem nP_mx : nP (mx a g x) x = nP g x := by unfold nP; rw [gI_mM]
theorem nC_mx : nC (mx a g x) x = nC g x := by unfold nC; rw [gI_mM]
theorem nR_mx : nR (mx a g x) x = nR g x := by unfold nR; rw [gI_mM]
theorem cmJ_mx (j : Nat) : cmJ (mx a g x) x j = mx a (cmJ g x j) x := by
  unfold cmJ
  rw [mxM_sI (by decide) (by decide), mxM_sI (by decide) (by decide), gI_mM, eI_mM (by decide) (by decide)]
theorem cmN_mx (m : Nat) (c kd : Int32) : cmN (mx a g x) x m c kd = mx a (cmN g x m c kd) x := by
  unfold cmN
  rw [mxM_pI, mxM_sI (by decide) (by decide), mxM_sI (by decide) (by decide), mxM_sI (by decide) (by decide), mxM_sI (by decide) (by decide), mxM_sI (by decide) (by decide), mxM_sI (by decide) (by decide), gI_mM]
theorem cmM_mx (c kd : Int32) : cmM (mx a g x) x c kd = mx a (cmM g x c kd) x := by
  unfold cmM
  rw [hit_mx, nP_mx]
  cases fdn (hit g x c kd) (nP g x) with
  | none =>
    show (if nP g x = 60 then mx a g x else cmN (mx a g x) x (nP g x) c kd) = mx a (if nP g x = 60 then g else cmN g x (nP g x) c kd) x
    by_cases e : nP g x = 60
    · rw [if_pos e, if_pos e]
    · rw [if_neg e, if_neg e]; exact cmN_mx _ _ _
  | some j => exact cmJ_mx j
theorem cmA_mx (c kd : Int32) : cmA (mx a g x) x c kd = cmA g x c kd := by
  unfold cmA
  rw [hit_mx, nP_mx]
theorem nP_cmM (hP : nP g x ≤ 60) (c kd : Int32) : (nP (cmM g x c kd) x = nP g x ∨ (nP (cmM g x c kd) x = nP g x + 1 ∧ nP g x < 60)) := by
  unfold cmM
  cases fdn (hit g x c kd) (nP g x) with
  | none =>
    show nP (if nP g x = 60 then g else cmN g x (nP g x) c kd) x = nP g x ∨ (nP (if nP g x = 60 then g else cmN g x (nP g x) c kd) x = nP g x + 1 ∧ nP g x < 60)
    by_cases e : nP g x = 60
    · rw [if_pos e]; exact Or.inl rfl
    · rw [if_neg e]
      refine Or.inr ⟨?_, by omega⟩
      unfold cmN
      show ix (gI (pI _ _ _ _) _ _) = _
      rw [gI_pI, if_pos ⟨rfl, rfl⟩, ix_nI (by omega)]
  | some j => exact Or.inl rfl
def hCmA (h : Hp) (v : Int32) (r2 : Nat) (kd td : Int32) : Hp := pI (pI (pI (pR (pI (pI (pI (nO h 8) 805 (nx h) 1) 806 (nx h) 1) 801 (nx h) v) 800 (nx h) r2) 802 (nx h) kd) 803 (nx h) td) 804 (nx h) td
theorem hcm_ag (wf : wfH h) {v kk td : Int32} {r2 : Nat} : Ag h (hCmA h v r2 kk td) x := by
  have z : kd h (nx h) = 0 := wf.2 _ (Nat.le_refl _)
  exact ((((((((Ag.refl h x).wnO wf).wpI z).wpI z).wpI z).wpR z).wpI z).wpI z).wpI z
theorem hcm_kd {v kk td : Int32} {r2 : Nat} (y : Nat) : kd (hCmA h v r2 kk td) y = if y = nx h then 9 else kd h y := by
  unfold hCmA
  simp only [kd_pI, kd_pR, kd_nO_at]
theorem hcm_at {v kk td : Int32} {r2 : Nat} : gI (hCmA h v r2 kk td) 801 (nx h) = v ∧ gR (hCmA h v r2 kk td) 800 (nx h) = r2 ∧ gI (hCmA h v r2 kk td) 802 (nx h) = kk ∧ gI (hCmA h v r2 kk td) 803 (nx h) = td ∧ gI (hCmA h v r2 kk td) 804 (nx h) = td ∧ gI (hCmA h v r2 kk td) 805 (nx h) = 1 ∧ gI (hCmA h v r2 kk td) 806 (nx h) = 1 := by
  refine ⟨?_, ?_, ?_, ?_, ?_, ?_, ?_⟩ <;> simp [hCmA, nx_pI, kd_pI, ln_pI, gI_pI, gJ_pI, gR_pI, eI_pI, eJ_pI, eR_pI, kc_pI, nx_pJ, kd_pJ, ln_pJ, gI_pJ, gJ_pJ, gR_pJ, eI_pJ, eJ_pJ, eR_pJ, kc_pJ, nx_pR, kd_pR, ln_pR, gI_pR, gJ_pR, gR_pR, eI_pR, eJ_pR, eR_pR, kc_pR, nx_sI, kd_sI, ln_sI, gI_sI, gJ_sI, gR_sI, eI_sI, eJ_sI, eR_sI, kc_sI, nx_sJ, kd_sJ, ln_sJ, gI_sJ, gJ_sJ, gR_sJ, eI_sJ, eJ_sJ, eR_sJ, kc_sJ, nx_sR, kd_sR, ln_sR, gI_sR, gJ_sR, gR_sR, eI_sR, eJ_sR, eR_sR, kc_sR, ln_nO, eI_nO, eJ_nO, eR_nO, kc_nO, gI_nO, gI_nA, gJ_nO, gJ_nA, gR_nO, gR_nA, eI_nA, eJ_nA, eR_nA, kc_nA, nx_nO, nx_nA, kd_nO_at, kd_nA_at, ln_nA_at]
theorem hcm_mx (hx : x + 82 ≤ nx h) {v kk td : Int32} {r2 : Nat} : mx (hCmA h v r2 kk td) g x = hCmA (mx h g x) v r2 kk td := by
  have z : nx h ≠ x + 23 := by omega
  unfold hCmA
  rw [mx_pI z, mx_pI z, mx_pI z, mx_pR, mx_pI z, mx_pI z, mx_pI z, mx_nO hx, nx_mx]
/-- a new complaint on the list: the coupling -/
theorem cp_newC (H : CP g x) {m i : Nat} (em : nP g x = m) (hm : m < 60) (hi : i < nC g x) {kk : Int32} (nohit : ∀ j, j < m → hit g x (nI i) kk j = false) {r : Nat} {gA g' : Hp} (wf : wfH g) (er : r = nx g) (eA : gA = hCmA g (nI m) (el g (x + 2) i) kk (gI g 1000 (x + 23))) (wfA : wfH gA) (D : AddR gA g' (x + 22) r m) : CP (cmN g' x m (nI i) kk) x := by
  have h75 := H.pw.2.2.2.1
  have Xn := H.xw.2.2.1
  have M0 := mw_k H.mw
  have A : Ag g gA x := by rw [eA]; exact hcm_ag wf
  have kA : ∀ y, kd gA y = if y = nx g then 9 else kd g y := fun y => by rw [eA]; exact hcm_kd y
  have ks : kd gA r = 9 := by rw [kA, if_pos er]
  have iA : ALinj gA := ALinj_kd A H.pw.2.2.1 wf h75 (fun y hy => by
    rw [kA] at hy
    by_cases z : y = nx g
    · rw [if_pos z] at hy; exact absurd hy (by decide)
    · rw [if_neg z] at hy; exact hy)
  have HA : CP gA x := CP_ag A iA H
  have tA : gI gA 1000 (x + 23) = gI g 1000 (x + 23) := A.gi M0 (by decide) (by decide)
  have eP : nP gA x = m := ((A.to2 h75).qP M0).trans em
  have eC : nC gA x = nC g x := (A.to2 h75).qC M0
  have L22 : ALk gA (x + 22) m := by have := HA.pl.2.2.2.2; rw [eP] at this; exact this
  have MA := mw_k HA.mw
  obtain ⟨A2, i2⟩ := D.ag2 (x := x) L22 wfA iA
  have HV := CP_ag2 A2 i2 HA
  obtain ⟨⟨d1, d2, d3⟩, d4, d5, d6, d7, ⟨e1, e2, e3, e4, e5⟩, d8, d9, d10⟩ := D
  have back := pI_back (h := g') (f := 1102) (a := x + 22) (u := nI m) (v := nI (m + 1)) e1
  have f := hcm_at (h := g) (v := nI m) (r2 := el g (x + 2) i) (kk := kk) (td := gI g 1000 (x + 23))
  rw [← eA, ← er] at f
  generalize hV : pI g' 1102 (x + 22) (nI m) = V at A2 HV back
  have vI : ∀ f a, f ≠ 1102 → gI V f a = gI g' f a := fun f a z => by rw [← hV, gI_pI, if_neg (fun y => z y.1)]
  have vR : gR V = gR g' := by rw [← hV, gR_pI]
  have vk : kd V = kd g' := by rw [← hV, kd_pI]
  have vl : ln V = ln g' := by rw [← hV, ln_pI]
  have vE : el V = el g' := by rw [← hV, el_pI]
  have ki : kd g (el g (x + 2) i) = 2 := (H.pc i hi).1.1
  have eli : el V (x + 2) i = el g (x + 2) i := by
    rw [(A2.lst HA.pl.1).2 i (by rw [eC]; exact hi), ((A.to2 h75).2 _ _ H.pl.1).2 i hi]
  have tV : gI V 1000 (x + 23) = gI g 1000 (x + 23) := (A2.gi MA (by decide) (by decide)).trans tA
  have gin : ∀ f, f ≠ 1102 → gI V f r = gI gA f r := fun f z => by rw [vI f r z, d4 f r (fun y => by rw [er] at y; omega)]
  have K := cp_cmN HV (m := m) (i := i) ((A2.qP MA).trans eP) hm (by rw [A2.qC MA, eC]; exact hi) (kd0 := kk) (fun j hj => by
      rw [← nohit j hj]
      unfold hit
      rw [tV, A2.eiM HA.mw (o := 49) (by decide) (by decide) (by decide), A2.eiM HA.mw (o := 44) (by decide) (by decide) (by decide), A2.eiM HA.mw (o := 45) (by decide) (by decide) (by decide), A2.eiM HA.mw (o := 47) (by decide) (by decide) (by decide), A.eiM H.mw (o := 49) (by decide) (by decide) (by decide), A.eiM H.mw (o := 44) (by decide) (by decide) (by decide), A.eiM H.mw (o := 45) (by decide) (by decide) (by decide), A.eiM H.mw (o := 47) (by decide) (by decide) (by decide)])
    (by rw [vl, vR]; exact e4) (by rw [vk, vR]; exact e3) (by rw [vl, vR]; exact e5) (r := r) (by rw [vE]; exact d9) (by rw [vk, (d3 _ (by rw [ks]; decide)).1]; exact ks)
    (by
      rw [gin 801 (by decide), gin 802 (by decide), gin 803 (by decide), gin 804 (by decide), gin 805 (by decide), gin 806 (by decide), vR, d6 800 r (fun y => absurd y.2 (by decide)), tV, eli]
      exact ⟨f.1, f.2.1, f.2.2.1, f.2.2.2.1, f.2.2.2.2.1, f.2.2.2.2.2.1, f.2.2.2.2.2.2⟩)
  rw [back] at K
  exact K
theorem cx_complains (H : CP (mx h g x) x) {i : Nat} (hi : i < nC g x) {kk : Int32} (hk : 2 * (nP (cmM g x (nI i) kk) x - nP g x) ≤ k) (hn : 250 * (nP (cmM g x (nI i) kk) x - nP g x) ≤ n) (hq : ∀ h', CP (mx h' (cmM g x (nI i) kk) x) x → mx h' h x = h' → Frm h h' x → Q (cmA g x (nI i) kk) h') : CtI M_X0_complains [rV x, rV (el h (x + 2) i), iV kk] h k n Q E := by
  refine r_wfH fun wf => ?_
  have X := XW_mx H.xw
  have M := MW_mx H.mw
  have hP := H.nP_le
  have eP : gI h 1102 (x + 22) = nI (nP g x) := by
    have := H.size22.trans hP.1
    rw [gI_mX (by omega), nP_mx] at this
    exact this
  have hP60 : nP g x ≤ 60 := by have := hP.2; rw [nP_mx] at this; exact this
  have hiG : i < nC (mx h g x) x := by rw [nC_mx]; exact hi
  have hC12 := H.nC_le.2
  have t60 : (60 : Int32) = nI 60 := by decide
  have tdX : gI h 0 x = gI g 1000 (x + 23) := by
    have := H.pn.1
    rw [gI_mX (by omega), gI_mM] at this
    exact this
  have loop : ∀ u : Unit, (∀ j, j < 0 → hit g x (nI i) kk j = false) → Rn M_X0_complains 2 [(0, rV x), (1, rV (el h (x + 2) i)), (2, iV kk), (3, iV (nI 0))] [] h k n (qI Q) E := by
    intro u
    refine itr_loop (α := Unit) (inv := fun m _ => (∀ j, j < m → hit g x (nI i) kk j = false) → Rn M_X0_complains 2 [(0, rV x), (1, rV (el h (x + 2) i)), (2, iV kk), (3, iV (nI m))] [] h k n (qI Q) E) (f := fun _ u => u) (m := nP g x) (s := u) (fun m _ hm ih no => ?_) (fun no => ?_)
    · obtain ⟨c1, c2, c3, c4⟩ := H.comI (i := m) (by rw [nP_mx]; exact hm)
      obtain ⟨q1, q2, q3, q4, q5, q6, q7, q8, q9, q10, q11, q12⟩ := H.pp.1 m (by rw [nP_mx]; exact hm)
      rw [el_mx] at q1 q2 q3 q5 q6 q7 q8 q9
      have rne : el h (x + 22) m ≠ x + 23 := fun e => by
        have k1 : kd h (el h (x + 22) m) = 9 := q1
        rw [e, mw_k M] at k1
        exact absurd k1 (by decide)
      have ag : ALg h (x + 22) (nI m) := by unfold ALg at c2 ⊢; rw [gI_mX (by omega)] at c2; exact c2
      rw [gI_mX rne, eI_mM (by decide) (by decide)] at q5 q7 q8 q9
      rw [gR_mx, eI_mM (by decide) (by decide)] at q3
      rw [eI_mM (by decide) (by decide), nC_mx] at q4
      refine b_X0_complains_2 X ?_
      rw [eP, c3]
      refine ⟨fun z => ?_, fun _ => ⟨ag, q1, ?_⟩⟩
      · rw [nIle (by omega) (by omega)] at z; omega
      rintro _ rfl
      rw [q9, q3, q5, q7, tdX]
      have hat : el h (x + 2) (ix (eI g (x + 23 + 44) m)) = el h (x + 2) i ↔ eI g (x + 23 + 44) m = nI i := by
        constructor
        · intro e
          have := H.cor_inj (i := ix (eI g (x + 23 + 44) m)) (j := i) (by rw [nC_mx]; exact q4.2) hiG (by rw [el_mx]; exact e)
          rw [← this, nI_ix q4.1.1]
        · intro e; rw [e, ix_nI (by omega)]
      have skip : hit g x (nI i) kk m = false → ∀ y : Int32, y = nI m + 1 → Rn M_X0_complains 2 [(0, rV x), (1, rV (el h (x + 2) i)), (2, iV kk), (3, iV y)] [] h k n (qI Q) E := fun hh y ey => by
        rw [ey, nI_add1]
        refine ih fun j hj => ?_
        by_cases e : j = m
        · rw [e]; exact hh
        · exact no j (by omega)
      have nh : ∀ {P : Prop}, (hit g x (nI i) kk m = true → P) → ¬ P → hit g x (nI i) kk m = false := fun f z => by
        cases e : hit g x (nI i) kk m
        · rfl
        · exact absurd (f e) z
      refine ⟨fun z1 => skip (nh (fun z => (hit_t.mp z).1) (fun z => z z1)), fun z1 => ⟨fun z2 => skip (nh (fun z => (hit_t.mp z).2.1) (fun z => z2 (hat.mpr z))), fun z2 => ⟨fun z3 => skip (nh (fun z => (hit_t.mp z).2.2.1) z3), fun z3 => ⟨fun z4 => ?_, fun z4 => skip (nh (fun z => (hit_t.mp z).2.2.2) z4)⟩⟩⟩⟩
      have hh : hit g x (nI i) kk m = true := hit_t.mpr ⟨z1, hat.mp z2, z3, z4⟩
      have hf : fdn (hit g x (nI i) kk) (nP g x) = some m := fdn_uniq hh hm (fun j hj hj2 => hit_one H (c := nI i) (kd := kk) (by rw [nP_mx]; exact hj) (by rw [nP_mx]; exact hm) (by rw [hit_mx]; exact hj2) (by rw [hit_mx]; exact hh))
      unfold cmM cmA at hq
      rw [hf] at hq
      rintro _ rfl h2 e2
      rw [gI_pI, if_neg (fun z => absurd z.1 (by decide)), q8] at e2
      have K := cp_join H (c := nI i) (kd := kk) (i := m) (by rw [nP_mx]; exact hm) (by rw [hit_mx]; exact hh)
      rw [gI_mM, el_mx, eI_mM (by decide) (by decide), ← mx_pI rne, ← mx_pI rne, cmJ_mx, ← e2] at K
      refine hq h2 K ?_ ?_
      · rw [e2, mx_pI rne, mx_pI rne, mx_self]
      · rw [e2]; exact (Frm.refl.vI (by decide) (by decide)).vI (by decide) (by decide)
    · have hf : fdn (hit g x (nI i) kk) (nP g x) = none := fdn_none no
      refine b_X0_complains_2 X ?_
      rw [eP]
      refine ⟨fun _ => ⟨fun z => ?_, fun z => ?_⟩, fun z => absurd (Int32.le_refl _) z⟩
      rotate_left
      · have e : nP g x = 60 := nI_inj (by omega) (by decide) (z.trans t60)
        unfold cmM cmA at hq
        rw [hf] at hq
        simp only [if_pos e] at hq
        exact hq h H mx_self Frm.refl
      have hne : ¬ nP g x = 60 := fun e => z (by rw [e, t60])
      have hlt : nP g x < 60 := by omega
      have ecm : cmM g x (nI i) kk = cmN g x (nP g x) (nI i) kk := by unfold cmM; rw [hf]; exact if_neg hne
      have eca : cmA g x (nI i) kk = nI (nP g x) := by unfold cmA; rw [hf]; exact if_neg hne
      have enp : nP (cmM g x (nI i) kk) x = nP g x + 1 := by
        rw [ecm]
        unfold cmN
        show ix (gI (pI _ _ _ _) _ _) = _
        rw [gI_pI, if_pos ⟨rfl, rfl⟩, ix_nI (by omega)]
      rw [enp] at hk hn
      rw [ecm, eca] at hq
      have Xn : x + 82 ≤ nx h := X.2.2.1
      refine ⟨⟨by omega, by omega⟩, ?_⟩
      rintro r er hB eB
      have w1 : gI hB 1102 (x + 22) = nI (nP g x) := by rw [eB, gI_nO, if_neg (by omega)]; exact eP
      have w2 : gI hB 0 x = gI g 1000 (x + 23) := by rw [eB, gI_nO, if_neg (by omega)]; exact tdX
      have kn : kd hB r = 9 := by rw [eB, er]; exact kd_nO _ _
      rw [w1, w2]
      refine b_X7_init_0 ⟨by rw [kn]; decide, kn, ?_⟩
      intro c1 f1 c2 f2 c3 f3 c4 f4 c5 f5 c6 f6 hA f7
      have eA : hA = hCmA h (nI (nP g x)) (el h (x + 2) i) kk (gI g 1000 (x + 23)) := by rw [f7, f6, f5, f4, f3, f2, f1, eB, er]; rfl
      clear f1 f2 f3 f4 f5 f6 f7 w1 w2 kn eB
      have AA : Ag h hA x := by rw [eA]; exact hcm_ag wf
      have kA : ∀ y, kd hA y = if y = nx h then 9 else kd h y := fun y => by rw [eA]; exact hcm_kd y
      have h75 : kd h (kc h 0) = 75 := H.pw.2.2.2.1
      have h0 : ln h (kc h 0) = 0 := H.pw.2.2.2.2
      have Lh : ALk h (x + 22) (nP g x) := by
        have := H.pl.2.2.2.2
        unfold ALk at this ⊢
        rw [gI_mX (by omega), nP_mx] at this
        exact this
      obtain ⟨LA, LE⟩ := (AA.to2 h75).2 (x + 22) _ Lh
      have ks : kd hA r = 9 := by rw [kA, if_pos er]
      refine ⟨AA.xw X, k - 1, n - 7, 0, 0, by omega, by omega, ?_⟩
      refine r_wfH fun wfA => ?_
      refine ct_add (c0 := 8) LA (by rw [AA.1]; exact AA.kd' h75 (by decide)) (by rw [AA.1, AA.ln' h75 (by decide)]; exact h0) (ok_c (c0 := 8) rfl q1923 ks) (fun j hj => ?_) rfl q1923 (by omega) (by omega) (by omega) (fun h' D => ?_)
      · rw [LE j hj]
        exact AA.kd' (c := 9) ((H.pp.1 j (by rw [nP_mx]; exact hj)).1) (by decide)
      have eG : mx hA g x = hCmA (mx h g x) (nI (nP g x)) (el (mx h g x) (x + 2) i) kk (gI (mx h g x) 1000 (x + 23)) := by rw [eA, hcm_mx Xn, el_mx, gI_mM]
      have K := cp_newC H (m := nP g x) (i := i) nP_mx hlt hiG (kk := kk) (fun j hj => by rw [hit_mx]; exact no j hj) (r := r) (gA := mx hA g x) (g' := mx h' g x) wf er eG wfA (mx_add D (by omega))
      rw [cmN_mx] at K
      have fr : mx hA h x = hA := by rw [eA, hcm_mx Xn, mx_self]
      have hx : XW h' x := XW_mx K.xw
      refine ⟨hx, ?_⟩
      rw [D.2.2.2.2.2.1.1, nI_pm]
      have iA : ALinj hA := ALinj_kd AA (by have := H.pw.2.2.1; unfold ALinj at this ⊢; rw [kd_mx, gR_mx] at this; exact this) wf h75 (fun y hy => by
        rw [kA] at hy
        by_cases w : y = nx h
        · rw [if_pos w] at hy; exact absurd hy (by decide)
        · rw [if_neg w] at hy; exact hy)
      exact hq h' K (mx_fr_add fr (AA.mw M) D (by omega)) (Frm_add (AA.to2 h75) (D.ag2 (x := x) LA wfA iA).1)
  have := loop () (fun j hj => absurd hj (by omega))
  rw [nI0] at this
  exact b_X0_complains_0 X this
end
