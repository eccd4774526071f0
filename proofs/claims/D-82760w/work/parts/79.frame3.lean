/-! THE FRAME for a storm that came: what it writes, and the list of storms, may be others -/
set_option maxRecDepth 100000
section
variable {h0 h : Hp} {x : Nat}

def scI3 : List Nat := [9, 10, 11, 12, 13, 507, 512, 513, 1052, 1078, 1079, 1081, 1100, 106, 107, 108, 308, 205, 1004]
def scJ3 : List Nat := [508, 509, 510, 511, 1047, 1048, 1049, 1050, 1051, 17, 18, 19, 20, 1035, 1036, 1037, 1038]
def scA3 : List Nat := [14, 15, 16, 17, 18, 19, 20, 52, 53, 58, 81, 38, 46, 66, 64, 65]
def scB3 : List Nat := [54, 55, 56, 57, 59, 60, 61, 62, 63]
def Ag3 (h0 h : Hp) (x : Nat) : Prop := (kc h = kc h0 ∧ nx h0 ≤ nx h ∧ ∀ a, kd h0 a ≠ 0 → kd h a = kd h0 a ∧ ln h a = ln h0 a ∧ (∀ f, f ∉ scI3 → gI h f a = gI h0 f a) ∧ (∀ f, f ∉ scJ3 → gJ h f a = gJ h0 f a) ∧ (∀ f, f ≠ 14 → f ≠ 1101 → gR h f a = gR h0 f a) ∧ ((∀ o ∈ scA3, a ≠ x + o) → ∀ i, eI h a i = eI h0 a i) ∧ ((∀ o ∈ scB3, a ≠ x + o) → ∀ i, eJ h a i = eJ h0 a i)) ∧ ∀ a m, a ≠ x + 21 → ALk h0 a m → ALk h a m ∧ ∀ i, i < m → el h a i = el h0 a i
theorem Ag3.kd' (A : Ag3 h0 h x) {a c : Nat} (hk : kd h0 a = c) (hc : c ≠ 0) : kd h a = c := ((A.1.2.2 a (by rw [hk]; exact hc)).1).trans hk
theorem Ag3.ln' (A : Ag3 h0 h x) {a c : Nat} (hk : kd h0 a = c) (hc : c ≠ 0) : ln h a = ln h0 a := (A.1.2.2 a (by rw [hk]; exact hc)).2.1
theorem Ag3.gi (A : Ag3 h0 h x) {a c f : Nat} (hk : kd h0 a = c) (hc : c ≠ 0) (hf : f ∉ scI3) : gI h f a = gI h0 f a := (A.1.2.2 a (by rw [hk]; exact hc)).2.2.1 f hf
theorem Ag3.gj (A : Ag3 h0 h x) {a c f : Nat} (hk : kd h0 a = c) (hc : c ≠ 0) (hf : f ∉ scJ3) : gJ h f a = gJ h0 f a := (A.1.2.2 a (by rw [hk]; exact hc)).2.2.2.1 f hf
theorem Ag3.gr (A : Ag3 h0 h x) {a c f : Nat} (hk : kd h0 a = c) (hc : c ≠ 0) (hf : f ≠ 14 ∧ f ≠ 1101) : gR h f a = gR h0 f a := (A.1.2.2 a (by rw [hk]; exact hc)).2.2.2.2.1 f hf.1 hf.2
theorem Ag3.ei (A : Ag3 h0 h x) {a c : Nat} (hk : kd h0 a = c) (hc : c ≠ 0) (ho : ∀ o ∈ scA3, a ≠ x + o) : eI h a = eI h0 a := funext ((A.1.2.2 a (by rw [hk]; exact hc)).2.2.2.2.2.1 ho)
theorem Ag3.ej (A : Ag3 h0 h x) {a c : Nat} (hk : kd h0 a = c) (hc : c ≠ 0) (ho : ∀ o ∈ scB3, a ≠ x + o) : eJ h a = eJ h0 a := funext ((A.1.2.2 a (by rw [hk]; exact hc)).2.2.2.2.2.2 ho)
theorem Ag3.eiX (A : Ag3 h0 h x) {o c : Nat} (hk : kd h0 (x + o) = c) (hc : c ≠ 0) (ho : o ∉ scA3) : eI h (x + o) = eI h0 (x + o) := A.ei hk hc fun p hp e => ho (by rw [show o = p by omega]; exact hp)
theorem Ag3.eiM (A : Ag3 h0 h x) (hM : MW h0 (x + 23)) {o : Nat} (h1 : 1 ≤ o) (h2 : o < 59) (ho : 23 + o ∉ scA3) : eI h (x + 23 + o) = eI h0 (x + 23 + o) :=
  A.ei rfl (hM.nz h1 h2) (fun p hp e => ho (by rw [show 23 + o = p by omega]; exact hp))
theorem Ag3.ejM (A : Ag3 h0 h x) (hM : MW h0 (x + 23)) {o : Nat} (h1 : 1 ≤ o) (h2 : o < 59) (ho : 23 + o ∉ scB3) : eJ h (x + 23 + o) = eJ h0 (x + 23 + o) :=
  A.ej rfl (hM.nz h1 h2) (fun p hp e => ho (by rw [show 23 + o = p by omega]; exact hp))
theorem Ag3.lst (A : Ag3 h0 h x) {a m : Nat} (H : ALk h0 a m) (hne : a ≠ x + 21) : ALk h a m ∧ ∀ i, i < m → el h a i = el h0 a i := A.2 a m hne H
theorem Ag3.xw (A : Ag3 h0 h x) (H : XW h0 x) : XW h x := by
  have h1 := xw_k H
  have h13 := xwk_run H
  refine ⟨A.kd' h1 (by decide), (A.gr h13 (by decide) (by decide)).trans (xwr_this H), Nat.le_trans H.2.2.1 A.1.2.1, fun q hq => ?_, fun q hq => ?_⟩
  · obtain ⟨a1, a2, a3⟩ := xsT_f.1 q hq
    have a4 := xsT_g q hq
    obtain ⟨b1, b2⟩ := H.2.2.2.1 q hq
    refine ⟨?_, A.kd' b2 a3⟩
    rcases a1 with e | e
    · rw [e] at b1 ⊢; exact (A.gr h1 (by decide) ⟨a2, a4⟩).trans b1
    · rw [e] at b1 ⊢; exact (A.gr h13 (by decide) ⟨a2, a4⟩).trans b1
  · obtain ⟨p, hp, e⟩ := xsT_f.2 q hq
    have b2 := (H.2.2.2.1 p hp).2
    rw [e] at b2
    exact (A.ln' b2 (xsT_f.1 p hp).2.2).trans (H.2.2.2.2 q hq)
theorem Ag3.mw (A : Ag3 h0 h x) {mo : Nat} (H : MW h0 mo) : MW h mo := by
  refine ⟨A.kd' H.1 (by decide), fun q hq => ?_⟩
  obtain ⟨b1, b2, b3⟩ := H.2 q hq
  obtain ⟨a1, a2⟩ := mdT_f q hq
  exact ⟨(A.gr H.1 (by decide) ⟨a1, mdT_g q hq⟩).trans b1, A.kd' b2 a2, (A.ln' b2 a2).trans b3⟩
theorem Ag3.qC (A : Ag3 h0 h x) (M : kd h0 (x + 23) = 11) : nC h x = nC h0 x := by unfold nC; rw [A.gi M (by decide) (by decide)]
theorem Ag3.qR (A : Ag3 h0 h x) (M : kd h0 (x + 23) = 11) : nR h x = nR h0 x := by unfold nR; rw [A.gi M (by decide) (by decide)]
theorem Ag3.qU (A : Ag3 h0 h x) (M : kd h0 (x + 23) = 11) : nU h x = nU h0 x := by unfold nU; rw [A.gi M (by decide) (by decide)]
theorem Ag3.qP (A : Ag3 h0 h x) (M : kd h0 (x + 23) = 11) : nP h x = nP h0 x := by unfold nP; rw [A.gi M (by decide) (by decide)]
theorem CPv_ag3 (A : Ag3 h0 h x) (H : CP h0 x) : CPv h x := by
  have M := mw_k H.mw
  have hM := H.mw
  intro i hi
  rw [A.qC M] at hi
  have h1 := H.pv i hi
  unfold CPv1 at h1 ⊢
  simp only [A.qC M, A.eiM hM (o := 1) (by decide) (by decide) (by decide), A.eiM hM (o := 2) (by decide) (by decide) (by decide), A.eiM hM (o := 3) (by decide) (by decide) (by decide), A.eiM hM (o := 4) (by decide) (by decide) (by decide), A.eiM hM (o := 5) (by decide) (by decide) (by decide)]
  exact h1
theorem CPq_ag3 (A : Ag3 h0 h x) (H : CP h0 x) : CPq h x := by
  have M := mw_k H.mw
  have hM := H.mw
  have hn := H.nR_le.2
  intro i hi
  rw [A.qC M] at hi
  have C := (H.pc i hi).1.1
  obtain ⟨q1, q2, q3, q4, q5⟩ := H.pq i hi
  simp only [A.qC M, A.qR M, A.qU M, (A.lst H.pl.1 (by omega)).2 i hi, A.gr C (by decide) (f := 110) (by decide), A.eiM hM (o := 19) (by decide) (by decide) (by decide)]
  refine ⟨q1, (A.lst q2 (by omega)).1, fun j hj => ?_, fun j hj c => ?_, fun r hr => ?_⟩
  · have hm : (rfs (eI h0 (x + 23 + 19)) (nR h0 x) i).getD j 0 < nR h0 x := by
      have h1 : (rfs (eI h0 (x + 23 + 19)) (nR h0 x) i).getD j 0 ∈ rfs (eI h0 (x + 23 + 19)) (nR h0 x) i := by
        rw [List.getD_eq_getElem?_getD, List.getElem?_eq_getElem hj]
        exact List.getElem_mem hj
      have h2 : (rfs (eI h0 (x + 23 + 19)) (nR h0 x) i).getD j 0 ∈ List.range (nR h0 x) := (List.mem_filter.mp h1).1
      exact List.mem_range.mp h2
    rw [(A.lst q2 (by omega)).2 j hj, (A.lst H.pl.2.1 (by omega)).2 _ hm]
    exact q3 j hj
  · rw [(A.lst H.pl.1 (by omega)).2 j hj, A.gr (H.pc j hj).1.1 (by decide) (by decide)]
    exact q4 j hj c
  · rw [(A.lst H.pl.2.2.1 (by omega)).2 r hr, A.gr (H.pu.2 r hr).1.1 (by decide) (by decide)]
    exact q5 r hr
theorem CPp_ag3 (A : Ag3 h0 h x) (H : CP h0 x) : CPp h x := by
  have M := mw_k H.mw
  have hM := H.mw
  obtain ⟨p1, p2⟩ := H.pp
  refine ⟨fun i hi => ?_, ?_⟩
  · rw [A.qP M] at hi
    rw [(A.lst H.pl.2.2.2.2 (by omega)).2 i hi]
    have h1 := p1 i hi
    have hcl := h1.2.2.2.1.2
    have C := h1.1
    unfold CPp1 at h1 ⊢
    refine ⟨A.kd' C (by decide), ?_⟩
    simp only [A.qC M, A.gi C (by decide) (f := 801) (by decide), A.gi C (by decide) (f := 802) (by decide), A.gi C (by decide) (f := 803) (by decide), A.gi C (by decide) (f := 804) (by decide), A.gi C (by decide) (f := 805) (by decide), A.gi C (by decide) (f := 806) (by decide), A.gr C (by decide) (f := 800) (by decide), A.gi M (by decide) (f := 1000) (by decide), A.eiM hM (o := 44) (by decide) (by decide) (by decide), A.eiM hM (o := 45) (by decide) (by decide) (by decide), A.eiM hM (o := 46) (by decide) (by decide) (by decide), A.eiM hM (o := 47) (by decide) (by decide) (by decide), A.eiM hM (o := 48) (by decide) (by decide) (by decide), A.eiM hM (o := 49) (by decide) (by decide) (by decide), (A.lst H.pl.1 (by omega)).2 _ hcl]
    exact h1.2
  · simp only [A.qP M, A.gi M (by decide) (f := 1000) (by decide), A.eiM hM (o := 44) (by decide) (by decide) (by decide), A.eiM hM (o := 45) (by decide) (by decide) (by decide), A.eiM hM (o := 46) (by decide) (by decide) (by decide), A.eiM hM (o := 47) (by decide) (by decide) (by decide), A.eiM hM (o := 48) (by decide) (by decide) (by decide), A.eiM hM (o := 49) (by decide) (by decide) (by decide)]
    exact p2
theorem scA3_lt : ∀ o ∈ scA3, o < 82 ∧ o ≠ 7 ∧ o ≠ 8 := by decide
theorem CPu1_ag3 (A : Ag3 h0 h x) {a : Nat} {f : Int32 → Int32} (hf : ∀ o ∈ scA3, gR h0 416 a ≠ x + o) (ht : ∀ o ∈ scA3, gR h0 417 a ≠ x + o) (H : CPu1 h0 a f) : CPu1 h a f := by
  have C := H.1
  have L := H.2.2.2.2.2.2.2.2.2.2.2.2.2.2.1
  unfold CPu1 at H ⊢
  refine ⟨A.kd' C (by decide), ?_⟩
  simp only [A.gi C (by decide) (f := 402) (by decide), A.gi C (by decide) (f := 403) (by decide), A.gi C (by decide) (f := 404) (by decide), A.gi C (by decide) (f := 405) (by decide), A.gi C (by decide) (f := 406) (by decide), A.gi C (by decide) (f := 407) (by decide), A.gi C (by decide) (f := 408) (by decide), A.gi C (by decide) (f := 409) (by decide), A.gi C (by decide) (f := 410) (by decide), A.gi C (by decide) (f := 411) (by decide), A.gi C (by decide) (f := 412) (by decide), A.gi C (by decide) (f := 413) (by decide), A.gi C (by decide) (f := 414) (by decide), A.gr C (by decide) (f := 416) (by decide), A.gr C (by decide) (f := 417) (by decide)]
  obtain ⟨-, u1, u2, u3, u4, u5, u6, u7, u8, u9, u10, u11, u12, u13, u14, u15⟩ := H
  refine ⟨u1, u2, u3, u4, u5, u6, u7, u8, u9, u10, u11, u12, u13, ⟨A.kd' L.1 (by decide), (A.ln' L.1 (by decide)).trans L.2.1, A.kd' L.2.2.1 (by decide), (A.ln' L.2.2.1 (by decide)).trans L.2.2.2⟩, fun g hg => ?_⟩
  rw [A.ei L.1 (by decide) hf, A.ei L.2.2.1 (by decide) ht]
  exact u15 g hg
theorem CPu2_ag3 (A : Ag3 h0 h x) (H : CP h0 x) {a : Nat} {l : List Nat} (hne : gR h0 401 a ≠ x + 21) (hk : kd h0 a = 5) (U : CPu2 h0 x a l) : CPu2 h x a l := by
  have hM := H.mw
  obtain ⟨u1, u2⟩ := U
  have e1 : gR h 401 a = gR h0 401 a := A.gr hk (by decide) (by decide)
  have e2 := A.lst u1 hne
  refine ⟨by rw [e1]; exact e2.1, fun j hj => ?_⟩
  rw [e1, e2.2 j hj]
  have h1 := u2 j hj
  have C := h1.1
  unfold CPt1 at h1 ⊢
  refine ⟨A.kd' C (by decide), ?_⟩
  simp only [A.gi C (by decide) (f := 600) (by decide), A.gi C (by decide) (f := 601) (by decide), A.gi C (by decide) (f := 602) (by decide), A.gi C (by decide) (f := 603) (by decide), A.eiM hM (o := 53) (by decide) (by decide) (by decide), A.eiM hM (o := 54) (by decide) (by decide) (by decide), A.eiM hM (o := 55) (by decide) (by decide) (by decide), A.eiM hM (o := 56) (by decide) (by decide) (by decide)]
  exact h1.2
theorem CPu_ag3 (A : Ag3 h0 h x) (H : CP h0 x) : CPu h x := by
  have M := mw_k H.mw
  have hM := H.mw
  obtain ⟨⟨u1, u2, u3, u4, u5⟩, u6⟩ := H.pu
  have C := u1.1
  refine ⟨⟨CPu1_ag3 A (fun o ho e => ?_) (fun o ho e => ?_) u1, CPu2_ag3 A H (by omega) C u2, (A.gr C (by decide) (by decide)).trans u3, (A.gr C (by decide) (by decide)).trans u4, (A.gr C (by decide) (by decide)).trans u5⟩, fun r hr => ?_⟩
  · have := scA3_lt o ho; omega
  · have := scA3_lt o ho; omega
  · rw [A.qU M] at hr
    obtain ⟨v1, v2, v3, v4, v5, v6⟩ := u6 r hr
    have C := v1.1
    simp only [(A.lst H.pl.2.2.1 (by omega)).2 r hr, A.gi C (by decide) (f := 400) (by decide), A.gr C (by decide) (f := 416) (by decide), A.gr C (by decide) (f := 417) (by decide), A.gr C (by decide) (f := 401) (by decide), A.eiM hM (o := 50) (by decide) (by decide) (by decide), A.eiM hM (o := 51) (by decide) (by decide) (by decide), A.eiM hM (o := 52) (by decide) (by decide) (by decide), A.eiM hM (o := 53) (by decide) (by decide) (by decide), A.eiM hM (o := 54) (by decide) (by decide) (by decide), A.eiM hM (o := 55) (by decide) (by decide) (by decide)]
    refine ⟨CPu1_ag3 A (fun o ho e => ?_) (fun o ho e => ?_) v1, CPu2_ag3 A H (by omega) C v2, v3, v4, v5, v6⟩
    · have := scA3_lt o ho; omega
    · have := scA3_lt o ho; omega
end
