/-! THE FRAME: what the coupling does not read may change, and cells may be added -/
set_option maxRecDepth 100000
def scI : List Nat := [9, 10, 11, 12, 13, 507, 512, 513, 1052, 1078, 1079, 1081, 1100]
def scJ : List Nat := [508, 509, 510, 511, 1047, 1048, 1049, 1050, 1051]
def scA : List Nat := [14, 15, 16, 17, 18, 19, 20, 52, 53, 58, 81]
def scB : List Nat := [54, 55, 56, 57]
def Ag (h0 h : Hp) (x : Nat) : Prop := kc h = kc h0 ∧ nx h0 ≤ nx h ∧ ∀ a, kd h0 a ≠ 0 → kd h a = kd h0 a ∧ ln h a = ln h0 a ∧ (∀ f, f ∉ scI → gI h f a = gI h0 f a) ∧ (∀ f, f ∉ scJ → gJ h f a = gJ h0 f a) ∧ (∀ f, f ≠ 14 → gR h f a = gR h0 f a) ∧ (∀ i, eR h a i = eR h0 a i) ∧ ((∀ o ∈ scA, a ≠ x + o) → ∀ i, eI h a i = eI h0 a i) ∧ ((∀ o ∈ scB, a ≠ x + o) → ∀ i, eJ h a i = eJ h0 a i)
section
variable {h0 h : Hp} {x : Nat}
theorem Ag.kd' (A : Ag h0 h x) {a c : Nat} (hk : kd h0 a = c) (hc : c ≠ 0) : kd h a = c := ((A.2.2 a (by rw [hk]; exact hc)).1).trans hk
theorem Ag.ln' (A : Ag h0 h x) {a c : Nat} (hk : kd h0 a = c) (hc : c ≠ 0) : ln h a = ln h0 a := (A.2.2 a (by rw [hk]; exact hc)).2.1
theorem Ag.gi (A : Ag h0 h x) {a c f : Nat} (hk : kd h0 a = c) (hc : c ≠ 0) (hf : f ∉ scI) : gI h f a = gI h0 f a := (A.2.2 a (by rw [hk]; exact hc)).2.2.1 f hf
theorem Ag.gj (A : Ag h0 h x) {a c f : Nat} (hk : kd h0 a = c) (hc : c ≠ 0) (hf : f ∉ scJ) : gJ h f a = gJ h0 f a := (A.2.2 a (by rw [hk]; exact hc)).2.2.2.1 f hf
theorem Ag.gr (A : Ag h0 h x) {a c f : Nat} (hk : kd h0 a = c) (hc : c ≠ 0) (hf : f ≠ 14) : gR h f a = gR h0 f a := (A.2.2 a (by rw [hk]; exact hc)).2.2.2.2.1 f hf
theorem Ag.er (A : Ag h0 h x) {a c : Nat} (hk : kd h0 a = c) (hc : c ≠ 0) : eR h a = eR h0 a := funext (A.2.2 a (by rw [hk]; exact hc)).2.2.2.2.2.1
theorem Ag.ei (A : Ag h0 h x) {a c : Nat} (hk : kd h0 a = c) (hc : c ≠ 0) (ho : ∀ o ∈ scA, a ≠ x + o) : eI h a = eI h0 a := funext ((A.2.2 a (by rw [hk]; exact hc)).2.2.2.2.2.2.1 ho)
theorem Ag.ej (A : Ag h0 h x) {a c : Nat} (hk : kd h0 a = c) (hc : c ≠ 0) (ho : ∀ o ∈ scB, a ≠ x + o) : eJ h a = eJ h0 a := funext ((A.2.2 a (by rw [hk]; exact hc)).2.2.2.2.2.2.2 ho)
theorem Ag.eiX (A : Ag h0 h x) {o c : Nat} (hk : kd h0 (x + o) = c) (hc : c ≠ 0) (ho : o ∉ scA) : eI h (x + o) = eI h0 (x + o) := A.ei hk hc fun p hp e => ho (by rw [show o = p by omega]; exact hp)
theorem mdT_all : ∀ o, o < 59 → 1 ≤ o → ∃ q, q ∈ mdT ∧ q.2.1 = o ∧ q.2.2.1 ≠ 0 := by decide +kernel
theorem MW.nz {h : Hp} {mo : Nat} (hm : MW h mo) {o : Nat} (h1 : 1 ≤ o) (h2 : o < 59) : kd h (mo + o) ≠ 0 := by
  obtain ⟨q, hq, e1, e2⟩ := mdT_all o h2 h1
  have := (hm.2 q hq).2.1
  rw [e1] at this
  rw [this]; exact e2
theorem Ag.eiM (A : Ag h0 h x) (hM : MW h0 (x + 23)) {o : Nat} (h1 : 1 ≤ o) (h2 : o < 59) (ho : 23 + o ∉ scA) : eI h (x + 23 + o) = eI h0 (x + 23 + o) :=
  A.ei rfl (hM.nz h1 h2) (fun p hp e => ho (by rw [show 23 + o = p by omega]; exact hp))
theorem Ag.ejM (A : Ag h0 h x) (hM : MW h0 (x + 23)) {o : Nat} (h1 : 1 ≤ o) (h2 : o < 59) (ho : 23 + o ∉ scB) : eJ h (x + 23 + o) = eJ h0 (x + 23 + o) :=
  A.ej rfl (hM.nz h1 h2) (fun p hp e => ho (by rw [show 23 + o = p by omega]; exact hp))
theorem Ag.alk (A : Ag h0 h x) (hw : kd h0 (kc h0 0) = 75) {a m : Nat} (H : ALk h0 a m) : ALk h a m ∧ el h a = el h0 a := by
  obtain ⟨g1, g2, g3, g4, g5⟩ := H
  have hk : kd h0 (gR h0 1101 a) ≠ 0 := by
    rcases g4 with z | ⟨z, -⟩
    · rw [z]; decide
    · rw [z, hw]; decide
  have e1 : gR h 1101 a = gR h0 1101 a := A.gr g1 (by decide) (by decide)
  have e2 : ln h (gR h0 1101 a) = ln h0 (gR h0 1101 a) := A.ln' rfl hk
  have e3 : eR h (gR h0 1101 a) = eR h0 (gR h0 1101 a) := A.er rfl hk
  refine ⟨⟨A.kd' g1 (by decide), (A.gi g1 (by decide) (by decide)).trans g2, ?_, ?_, ?_⟩, ?_⟩
  · rw [e1, e2]; exact g3
  · rw [e1, A.1]
    rcases g4 with z | z
    · exact Or.inl (A.kd' z (by decide))
    · exact Or.inr z
  · rw [e1, e2]; exact g5
  · funext i; unfold el; rw [e1, e3]
theorem xsT_f : (∀ q ∈ xsT, (q.2.1 = 0 ∨ q.2.1 = 13) ∧ q.1 ≠ 14 ∧ q.2.2.2 ≠ 0) ∧ ∀ q ∈ xsL, ∃ p, p ∈ xsT ∧ p.2.2.1 = q.1 := by decide +kernel
theorem mdT_f : ∀ q ∈ mdT, q.1 ≠ 14 ∧ q.2.2.1 ≠ 0 := by decide +kernel
theorem Ag.xw (A : Ag h0 h x) (H : XW h0 x) : XW h x := by
  have h1 := xw_k H
  have h13 := xwk_run H
  refine ⟨A.kd' h1 (by decide), (A.gr h13 (by decide) (by decide)).trans (xwr_this H), Nat.le_trans H.2.2.1 A.2.1, fun q hq => ?_, fun q hq => ?_⟩
  · obtain ⟨a1, a2, a3⟩ := xsT_f.1 q hq
    obtain ⟨b1, b2⟩ := H.2.2.2.1 q hq
    refine ⟨?_, A.kd' b2 a3⟩
    rcases a1 with e | e
    · rw [e] at b1 ⊢; exact (A.gr h1 (by decide) a2).trans b1
    · rw [e] at b1 ⊢; exact (A.gr h13 (by decide) a2).trans b1
  · obtain ⟨p, hp, e⟩ := xsT_f.2 q hq
    have b2 := (H.2.2.2.1 p hp).2
    rw [e] at b2
    exact (A.ln' b2 (xsT_f.1 p hp).2.2).trans (H.2.2.2.2 q hq)
theorem Ag.mw (A : Ag h0 h x) {mo : Nat} (H : MW h0 mo) : MW h mo := by
  refine ⟨A.kd' H.1 (by decide), fun q hq => ?_⟩
  obtain ⟨b1, b2, b3⟩ := H.2 q hq
  obtain ⟨a1, a2⟩ := mdT_f q hq
  exact ⟨(A.gr H.1 (by decide) a1).trans b1, A.kd' b2 a2, (A.ln' b2 a2).trans b3⟩
/-- .. and lists may have moved into other arrays -/
def Ag2 (h0 h : Hp) (x : Nat) : Prop := (kc h = kc h0 ∧ nx h0 ≤ nx h ∧ ∀ a, kd h0 a ≠ 0 → kd h a = kd h0 a ∧ ln h a = ln h0 a ∧ (∀ f, f ∉ scI → gI h f a = gI h0 f a) ∧ (∀ f, f ∉ scJ → gJ h f a = gJ h0 f a) ∧ (∀ f, f ≠ 14 → f ≠ 1101 → gR h f a = gR h0 f a) ∧ ((∀ o ∈ scA, a ≠ x + o) → ∀ i, eI h a i = eI h0 a i) ∧ ((∀ o ∈ scB, a ≠ x + o) → ∀ i, eJ h a i = eJ h0 a i)) ∧ ∀ a m, ALk h0 a m → ALk h a m ∧ ∀ i, i < m → el h a i = el h0 a i
theorem Ag.to2 (A : Ag h0 h x) (hw : kd h0 (kc h0 0) = 75) : Ag2 h0 h x := ⟨⟨A.1, A.2.1, fun a ha => by obtain ⟨q1, q2, q3, q4, q5, q6, q7, q8⟩ := A.2.2 a ha; exact ⟨q1, q2, q3, q4, fun f h1 _ => q5 f h1, q7, q8⟩⟩, fun a m H => ⟨(A.alk hw H).1, fun i _ => by rw [(A.alk hw H).2]⟩⟩
theorem Ag2.kd' (A : Ag2 h0 h x) {a c : Nat} (hk : kd h0 a = c) (hc : c ≠ 0) : kd h a = c := ((A.1.2.2 a (by rw [hk]; exact hc)).1).trans hk
theorem Ag2.ln' (A : Ag2 h0 h x) {a c : Nat} (hk : kd h0 a = c) (hc : c ≠ 0) : ln h a = ln h0 a := (A.1.2.2 a (by rw [hk]; exact hc)).2.1
theorem Ag2.gi (A : Ag2 h0 h x) {a c f : Nat} (hk : kd h0 a = c) (hc : c ≠ 0) (hf : f ∉ scI) : gI h f a = gI h0 f a := (A.1.2.2 a (by rw [hk]; exact hc)).2.2.1 f hf
theorem Ag2.gj (A : Ag2 h0 h x) {a c f : Nat} (hk : kd h0 a = c) (hc : c ≠ 0) (hf : f ∉ scJ) : gJ h f a = gJ h0 f a := (A.1.2.2 a (by rw [hk]; exact hc)).2.2.2.1 f hf
theorem Ag2.gr (A : Ag2 h0 h x) {a c f : Nat} (hk : kd h0 a = c) (hc : c ≠ 0) (hf : f ≠ 14 ∧ f ≠ 1101) : gR h f a = gR h0 f a := (A.1.2.2 a (by rw [hk]; exact hc)).2.2.2.2.1 f hf.1 hf.2
theorem Ag2.ei (A : Ag2 h0 h x) {a c : Nat} (hk : kd h0 a = c) (hc : c ≠ 0) (ho : ∀ o ∈ scA, a ≠ x + o) : eI h a = eI h0 a := funext ((A.1.2.2 a (by rw [hk]; exact hc)).2.2.2.2.2.1 ho)
theorem Ag2.ej (A : Ag2 h0 h x) {a c : Nat} (hk : kd h0 a = c) (hc : c ≠ 0) (ho : ∀ o ∈ scB, a ≠ x + o) : eJ h a = eJ h0 a := funext ((A.1.2.2 a (by rw [hk]; exact hc)).2.2.2.2.2.2 ho)
theorem Ag2.eiX (A : Ag2 h0 h x) {o c : Nat} (hk : kd h0 (x + o) = c) (hc : c ≠ 0) (ho : o ∉ scA) : eI h (x + o) = eI h0 (x + o) := A.ei hk hc fun p hp e => ho (by rw [show o = p by omega]; exact hp)
theorem Ag2.eiM (A : Ag2 h0 h x) (hM : MW h0 (x + 23)) {o : Nat} (h1 : 1 ≤ o) (h2 : o < 59) (ho : 23 + o ∉ scA) : eI h (x + 23 + o) = eI h0 (x + 23 + o) :=
  A.ei rfl (hM.nz h1 h2) (fun p hp e => ho (by rw [show 23 + o = p by omega]; exact hp))
theorem Ag2.ejM (A : Ag2 h0 h x) (hM : MW h0 (x + 23)) {o : Nat} (h1 : 1 ≤ o) (h2 : o < 59) (ho : 23 + o ∉ scB) : eJ h (x + 23 + o) = eJ h0 (x + 23 + o) :=
  A.ej rfl (hM.nz h1 h2) (fun p hp e => ho (by rw [show 23 + o = p by omega]; exact hp))
theorem Ag2.lst (A : Ag2 h0 h x) {a m : Nat} (H : ALk h0 a m) : ALk h a m ∧ ∀ i, i < m → el h a i = el h0 a i := A.2 a m H
theorem xsT_g : ∀ q ∈ xsT, q.1 ≠ 1101 := by decide +kernel
theorem mdT_g : ∀ q ∈ mdT, q.1 ≠ 1101 := by decide +kernel
theorem Ag2.xw (A : Ag2 h0 h x) (H : XW h0 x) : XW h x := by
  have h1 := xw_k H
  have h13 := xwk_run H
  refine ⟨A.kd' h1 (by decide), (A.gr h13 (by decide) (by decide)).trans (xwr_this H), Nat.le_trans H.2.2.1 A.1.2.1, fun q hq => ?_, fun q hq => ?_⟩
  · obtain ⟨a1, a2, a3⟩ := xsT_f.1 q hq
    have a4 := xsT_g q hq
    obtain ⟨b1, b2⟩ := H.2.2.2.1 q hq
    refine ⟨?_, A.kd' b2 a3⟩
    rcases a1 with e | e
    · rw [e] at b1 ⊢; exact (A.gr h1 (by decide) ⟨a2, a4⟩).trans b1
    · rw [e] at b1 ⊢; exact (A.gr h13 (by decide) ⟨a2, a4⟩).trans b1
  · obtain ⟨p, hp, e⟩ := xsT_f.2 q hq
    have b2 := (H.2.2.2.1 p hp).2
    rw [e] at b2
    exact (A.ln' b2 (xsT_f.1 p hp).2.2).trans (H.2.2.2.2 q hq)
theorem Ag2.mw (A : Ag2 h0 h x) {mo : Nat} (H : MW h0 mo) : MW h mo := by
  refine ⟨A.kd' H.1 (by decide), fun q hq => ?_⟩
  obtain ⟨b1, b2, b3⟩ := H.2 q hq
  obtain ⟨a1, a2⟩ := mdT_f q hq
  exact ⟨(A.gr H.1 (by decide) ⟨a1, mdT_g q hq⟩).trans b1, A.kd' b2 a2, (A.ln' b2 a2).trans b3⟩
theorem Ag2.qC (A : Ag2 h0 h x) (M : kd h0 (x + 23) = 11) : nC h x = nC h0 x := by unfold nC; rw [A.gi M (by decide) (by decide)]
theorem Ag2.qR (A : Ag2 h0 h x) (M : kd h0 (x + 23) = 11) : nR h x = nR h0 x := by unfold nR; rw [A.gi M (by decide) (by decide)]
theorem Ag2.qU (A : Ag2 h0 h x) (M : kd h0 (x + 23) = 11) : nU h x = nU h0 x := by unfold nU; rw [A.gi M (by decide) (by decide)]
theorem Ag2.qS (A : Ag2 h0 h x) (M : kd h0 (x + 23) = 11) : nS h x = nS h0 x := by unfold nS; rw [A.gi M (by decide) (by decide)]
theorem Ag2.qP (A : Ag2 h0 h x) (M : kd h0 (x + 23) = 11) : nP h x = nP h0 x := by unfold nP; rw [A.gi M (by decide) (by decide)]
theorem CPn_ag (A : Ag2 h0 h x) (H : CP h0 x) : CPn h x := by
  have X := xw_k H.xw
  have M := mw_k H.mw
  have h := H.pn
  unfold CPn at h ⊢
  simp only [A.gi X (by decide) (f := 0) (by decide), A.gi X (by decide) (f := 23) (by decide), A.gi X (by decide) (f := 26) (by decide), A.gi X (by decide) (f := 7) (by decide), A.gi X (by decide) (f := 8) (by decide), A.gi M (by decide) (f := 1000) (by decide), A.gi M (by decide) (f := 1003) (by decide), A.gi M (by decide) (f := 1005) (by decide), A.gi M (by decide) (f := 1077) (by decide), A.gi M (by decide) (f := 1080) (by decide), A.gj X (by decide) (f := 17) (by decide), A.gj X (by decide) (f := 18) (by decide), A.gj X (by decide) (f := 19) (by decide), A.gj X (by decide) (f := 20) (by decide), A.gj X (by decide) (f := 21) (by decide), A.gj M (by decide) (f := 1035) (by decide), A.gj M (by decide) (f := 1036) (by decide), A.gj M (by decide) (f := 1037) (by decide), A.gj M (by decide) (f := 1038) (by decide), A.gj M (by decide) (f := 1039) (by decide)]
  exact h
theorem CPo_ag (A : Ag2 h0 h x) (H : CP h0 x) : CPo h x := by
  have M := mw_k H.mw
  have h := H.po
  unfold CPo at h ⊢
  simp only [A.gi M (by decide) (f := 1000) (by decide), A.gi M (by decide) (f := 1003) (by decide), A.gi M (by decide) (f := 1077) (by decide), A.gi M (by decide) (f := 1001) (by decide), A.gi M (by decide) (f := 1002) (by decide), A.gi M (by decide) (f := 1004) (by decide), A.gi M (by decide) (f := 1006) (by decide), A.gi M (by decide) (f := 1067) (by decide)]
  exact h
theorem CPl_ag (A : Ag2 h0 h x) (H : CP h0 x) : CPl h x := by
  have M := mw_k H.mw
  obtain ⟨l1, l2, l3, l4, l5⟩ := H.pl
  unfold CPl
  rw [A.qC M, A.qR M, A.qU M, A.qS M, A.qP M]
  exact ⟨(A.lst l1).1, (A.lst l2).1, (A.lst l3).1, (A.lst l4).1, (A.lst l5).1⟩
theorem CPc_ag (A : Ag2 h0 h x) (H : CP h0 x) : CPc h x := by
  have M := mw_k H.mw
  have hM := H.mw
  intro i hi
  rw [A.qC M] at hi
  rw [(A.lst H.pl.1).2 i hi]
  have h1 := H.pc i hi
  have C := h1.1.1
  refine ⟨?_, ?_⟩
  · have h1 := h1.1
    unfold CPc1 at h1 ⊢
    refine ⟨A.kd' C (by decide), ?_⟩
    simp only [A.gi C (by decide) (f := 100) (by decide), A.gi C (by decide) (f := 101) (by decide), A.gi C (by decide) (f := 102) (by decide), A.gi C (by decide) (f := 103) (by decide), A.gi C (by decide) (f := 104) (by decide), A.gi C (by decide) (f := 105) (by decide), A.eiM hM (o := 1) (by decide) (by decide) (by decide), A.eiM hM (o := 2) (by decide) (by decide) (by decide), A.eiM hM (o := 3) (by decide) (by decide) (by decide), A.eiM hM (o := 4) (by decide) (by decide) (by decide), A.eiM hM (o := 5) (by decide) (by decide) (by decide)]
    exact h1.2
  · have h1 := h1.2
    unfold CPc2 at h1 ⊢
    simp only [A.gi C (by decide) (f := 106) (by decide), A.gi C (by decide) (f := 107) (by decide), A.gi C (by decide) (f := 108) (by decide), A.eiM hM (o := 43) (by decide) (by decide) (by decide), A.ejM hM (o := 39) (by decide) (by decide) (by decide), A.ejM hM (o := 40) (by decide) (by decide) (by decide)]
    exact h1
theorem CPv_ag (A : Ag2 h0 h x) (H : CP h0 x) : CPv h x := by
  have M := mw_k H.mw
  have hM := H.mw
  intro i hi
  rw [A.qC M] at hi
  have h1 := H.pv i hi
  unfold CPv1 at h1 ⊢
  simp only [A.qC M, A.eiM hM (o := 1) (by decide) (by decide) (by decide), A.eiM hM (o := 2) (by decide) (by decide) (by decide), A.eiM hM (o := 3) (by decide) (by decide) (by decide), A.eiM hM (o := 4) (by decide) (by decide) (by decide), A.eiM hM (o := 5) (by decide) (by decide) (by decide)]
  exact h1
theorem CPb_ag (A : Ag2 h0 h x) (H : CP h0 x) : CPb h x := by
  have M := mw_k H.mw
  have hM := H.mw
  intro i hi
  rw [A.qC M] at hi
  have C := (H.pc i hi).1.1
  rw [(A.lst H.pl.1).2 i hi, A.gr C (by decide) (by decide)]
  rcases H.pb i hi with ⟨e1, e2⟩ | ⟨e1, e2, e3, e4⟩
  · left
    simp only [A.eiM hM (o := 6) (by decide) (by decide) (by decide)]
    exact ⟨e1, e2⟩
  · right
    have B := e2.1
    refine ⟨?_, ?_, ?_, ?_⟩
    · simp only [A.eiM hM (o := 6) (by decide) (by decide) (by decide)]
      exact e1
    · unfold CPb1 at e2 ⊢
      refine ⟨A.kd' B (by decide), ?_⟩
      simp only [A.gi B (by decide) (f := 301) (by decide), A.gi B (by decide) (f := 302) (by decide), A.gi B (by decide) (f := 303) (by decide), A.gi B (by decide) (f := 304) (by decide), A.gr B (by decide) (f := 313) (by decide), A.gr B (by decide) (f := 300) (by decide), A.eiM hM (o := 9) (by decide) (by decide) (by decide), A.eiM hM (o := 10) (by decide) (by decide) (by decide), A.eiM hM (o := 11) (by decide) (by decide) (by decide), A.eiM hM (o := 7) (by decide) (by decide) (by decide)]
      exact e2.2
    · unfold CPb2 at e3 ⊢
      simp only [A.gi B (by decide) (f := 305) (by decide), A.gi B (by decide) (f := 306) (by decide), A.gi B (by decide) (f := 307) (by decide), A.gi B (by decide) (f := 308) (by decide), A.gi B (by decide) (f := 309) (by decide), A.gi B (by decide) (f := 310) (by decide), A.gi B (by decide) (f := 312) (by decide), A.eiM hM (o := 12) (by decide) (by decide) (by decide), A.eiM hM (o := 13) (by decide) (by decide) (by decide), A.eiM hM (o := 14) (by decide) (by decide) (by decide), A.eiM hM (o := 15) (by decide) (by decide) (by decide), A.eiM hM (o := 16) (by decide) (by decide) (by decide), A.eiM hM (o := 17) (by decide) (by decide) (by decide), A.eiM hM (o := 8) (by decide) (by decide) (by decide)]
      exact e3
    · unfold CPb3 at e4 ⊢
      simp only [A.gi B (by decide) (f := 311) (by decide), A.gi M (by decide) (f := 1000) (by decide), A.eiM hM (o := 18) (by decide) (by decide) (by decide)]
      exact e4
theorem CPx_ag (A : Ag2 h0 h x) (H : CP h0 x) : CPx h x := by
  have M := mw_k H.mw
  have hM := H.mw
  have h1 := H.px
  unfold CPx CPw1 CPw0 at h1 ⊢
  simp only [A.qC M, A.gi M (by decide) (f := 1000) (by decide), A.eiM hM (o := 9) (by decide) (by decide) (by decide), A.eiM hM (o := 10) (by decide) (by decide) (by decide), A.eiM hM (o := 11) (by decide) (by decide) (by decide), A.eiM hM (o := 7) (by decide) (by decide) (by decide), A.eiM hM (o := 12) (by decide) (by decide) (by decide), A.eiM hM (o := 13) (by decide) (by decide) (by decide), A.eiM hM (o := 14) (by decide) (by decide) (by decide), A.eiM hM (o := 15) (by decide) (by decide) (by decide), A.eiM hM (o := 16) (by decide) (by decide) (by decide), A.eiM hM (o := 17) (by decide) (by decide) (by decide), A.eiM hM (o := 8) (by decide) (by decide) (by decide), A.eiM hM (o := 18) (by decide) (by decide) (by decide), A.eiM hM (o := 6) (by decide) (by decide) (by decide)]
  exact h1
theorem CPr_ag (A : Ag2 h0 h x) (H : CP h0 x) : CPr h x := by
  have M := mw_k H.mw
  have hM := H.mw
  intro i hi
  rw [A.qR M] at hi
  rw [(A.lst H.pl.2.1).2 i hi]
  obtain ⟨h1, h2⟩ := H.pr i hi
  have C := h1.1
  refine ⟨?_, ?_⟩
  · unfold CPr1 at h1 ⊢
    refine ⟨A.kd' C (by decide), ?_⟩
    simp only [A.gi C (by decide) (f := 200) (by decide), A.gi C (by decide) (f := 201) (by decide), A.gi C (by decide) (f := 202) (by decide), A.gi C (by decide) (f := 203) (by decide), A.gi C (by decide) (f := 205) (by decide), A.gi C (by decide) (f := 206) (by decide), A.gr C (by decide) (f := 204) (by decide), A.eiM hM (o := 19) (by decide) (by decide) (by decide), A.eiM hM (o := 20) (by decide) (by decide) (by decide), A.eiM hM (o := 21) (by decide) (by decide) (by decide), A.eiM hM (o := 22) (by decide) (by decide) (by decide), A.eiM hM (o := 23) (by decide) (by decide) (by decide), A.eiM hM (o := 24) (by decide) (by decide) (by decide), (A.lst H.pl.1).2 _ h2.1.2]
    exact h1.2
  · unfold CPr2 at h2 ⊢
    simp only [A.qC M, A.eiM hM (o := 19) (by decide) (by decide) (by decide), A.eiM hM (o := 20) (by decide) (by decide) (by decide), A.eiM hM (o := 21) (by decide) (by decide) (by decide), A.eiM hM (o := 22) (by decide) (by decide) (by decide), A.eiM hM (o := 23) (by decide) (by decide) (by decide), A.eiM hM (o := 24) (by decide) (by decide) (by decide)]
    exact h2
theorem CPq_ag (A : Ag2 h0 h x) (H : CP h0 x) : CPq h x := by
  have M := mw_k H.mw
  have hM := H.mw
  have hn := H.nR_le.2
  intro i hi
  rw [A.qC M] at hi
  have C := (H.pc i hi).1.1
  obtain ⟨q1, q2, q3, q4, q5⟩ := H.pq i hi
  simp only [A.qC M, A.qR M, A.qU M, (A.lst H.pl.1).2 i hi, A.gr C (by decide) (f := 110) (by decide), A.eiM hM (o := 19) (by decide) (by decide) (by decide)]
  refine ⟨q1, (A.lst q2).1, fun j hj => ?_, fun j hj c => ?_, fun r hr => ?_⟩
  · have hm : (rfs (eI h0 (x + 23 + 19)) (nR h0 x) i).getD j 0 < nR h0 x := by
      have h1 : (rfs (eI h0 (x + 23 + 19)) (nR h0 x) i).getD j 0 ∈ rfs (eI h0 (x + 23 + 19)) (nR h0 x) i := by
        rw [List.getD_eq_getElem?_getD, List.getElem?_eq_getElem hj]
        exact List.getElem_mem hj
      have h2 : (rfs (eI h0 (x + 23 + 19)) (nR h0 x) i).getD j 0 ∈ List.range (nR h0 x) := (List.mem_filter.mp h1).1
      exact List.mem_range.mp h2
    rw [(A.lst q2).2 j hj, (A.lst H.pl.2.1).2 _ hm]
    exact q3 j hj
  · rw [(A.lst H.pl.1).2 j hj, A.gr (H.pc j hj).1.1 (by decide) (by decide)]
    exact q4 j hj c
  · rw [(A.lst H.pl.2.2.1).2 r hr, A.gr (H.pu.2 r hr).1.1 (by decide) (by decide)]
    exact q5 r hr
theorem CPs_ag (A : Ag2 h0 h x) (H : CP h0 x) : CPs h x := by
  have M := mw_k H.mw
  have hM := H.mw
  intro i hi
  rw [A.qS M] at hi
  rw [(A.lst H.pl.2.2.2.1).2 i hi]
  have h1 := H.ps i hi
  have C := h1.1
  unfold CPs1 at h1 ⊢
  refine ⟨A.kd' C (by decide), ?_⟩
  simp only [A.gi C (by decide) (f := 700) (by decide), A.gi C (by decide) (f := 703) (by decide), A.gi C (by decide) (f := 704) (by decide), A.gj C (by decide) (f := 701) (by decide), A.gj C (by decide) (f := 702) (by decide), A.eiM hM (o := 41) (by decide) (by decide) (by decide), A.eiM hM (o := 42) (by decide) (by decide) (by decide), A.ejM hM (o := 36) (by decide) (by decide) (by decide), A.ejM hM (o := 37) (by decide) (by decide) (by decide), A.ejM hM (o := 38) (by decide) (by decide) (by decide)]
  exact h1.2
theorem CPp_ag (A : Ag2 h0 h x) (H : CP h0 x) : CPp h x := by
  have M := mw_k H.mw
  have hM := H.mw
  obtain ⟨p1, p2⟩ := H.pp
  refine ⟨fun i hi => ?_, ?_⟩
  · rw [A.qP M] at hi
    rw [(A.lst H.pl.2.2.2.2).2 i hi]
    have h1 := p1 i hi
    have hcl := h1.2.2.2.1.2
    have C := h1.1
    unfold CPp1 at h1 ⊢
    refine ⟨A.kd' C (by decide), ?_⟩
    simp only [A.qC M, A.gi C (by decide) (f := 801) (by decide), A.gi C (by decide) (f := 802) (by decide), A.gi C (by decide) (f := 803) (by decide), A.gi C (by decide) (f := 804) (by decide), A.gi C (by decide) (f := 805) (by decide), A.gi C (by decide) (f := 806) (by decide), A.gr C (by decide) (f := 800) (by decide), A.gi M (by decide) (f := 1000) (by decide), A.eiM hM (o := 44) (by decide) (by decide) (by decide), A.eiM hM (o := 45) (by decide) (by decide) (by decide), A.eiM hM (o := 46) (by decide) (by decide) (by decide), A.eiM hM (o := 47) (by decide) (by decide) (by decide), A.eiM hM (o := 48) (by decide) (by decide) (by decide), A.eiM hM (o := 49) (by decide) (by decide) (by decide), (A.lst H.pl.1).2 _ hcl]
    exact h1.2
  · simp only [A.qP M, A.gi M (by decide) (f := 1000) (by decide), A.eiM hM (o := 44) (by decide) (by decide) (by decide), A.eiM hM (o := 45) (by decide) (by decide) (by decide), A.eiM hM (o := 46) (by decide) (by decide) (by decide), A.eiM hM (o := 47) (by decide) (by decide) (by decide), A.eiM hM (o := 48) (by decide) (by decide) (by decide), A.eiM hM (o := 49) (by decide) (by decide) (by decide)]
    exact p2
theorem CPa_ag (A : Ag2 h0 h x) (H : CP h0 x) : CPa h x := by
  have M := mw_k H.mw
  have hM := H.mw
  have hx := H.xw
  have n1 : eI h (x + 1) = eI h0 (x + 1) := A.eiX (xwk_drinks hx) (by decide) (by decide)
  have n9 : eI h (x + 9) = eI h0 (x + 9) := A.eiX (xwk_tape hx) (by decide) (by decide)
  have n10 : eI h (x + 10) = eI h0 (x + 10) := A.eiX (xwk_owed hx) (by decide) (by decide)
  have n11 : eI h (x + 11) = eI h0 (x + 11) := A.eiX (xwk_kept hx) (by decide) (by decide)
  have n12 : eI h (x + 12) = eI h0 (x + 12) := A.eiX (xwk_minutes hx) (by decide) (by decide)
  have h1 := H.pa
  unfold CPa at h1 ⊢
  simp only [n1, n9, n10, n11, n12, A.gi M (by decide) (f := 1000) (by decide), A.gi M (by decide) (f := 1001) (by decide), A.gi M (by decide) (f := 1002) (by decide), A.eiM hM (o := 25) (by decide) (by decide) (by decide), A.eiM hM (o := 27) (by decide) (by decide) (by decide), A.eiM hM (o := 28) (by decide) (by decide) (by decide), A.eiM hM (o := 26) (by decide) (by decide) (by decide), A.eiM hM (o := 57) (by decide) (by decide) (by decide), A.eiM hM (o := 43) (by decide) (by decide) (by decide), A.eiM hM (o := 23) (by decide) (by decide) (by decide), A.eiM hM (o := 24) (by decide) (by decide) (by decide), A.ejM hM (o := 39) (by decide) (by decide) (by decide), A.ejM hM (o := 40) (by decide) (by decide) (by decide)]
  exact h1
theorem scA_lt : ∀ o ∈ scA, o < 82 ∧ o ≠ 7 ∧ o ≠ 8 := by decide
theorem CPu1_ag (A : Ag2 h0 h x) {a : Nat} {f : Int32 → Int32} (hf : ∀ o ∈ scA, gR h0 416 a ≠ x + o) (ht : ∀ o ∈ scA, gR h0 417 a ≠ x + o) (H : CPu1 h0 a f) : CPu1 h a f := by
  have C := H.1
  have L := H.2.2.2.2.2.2.2.2.2.2.2.2.2.2.1
  unfold CPu1 at H ⊢
  refine ⟨A.kd' C (by decide), ?_⟩
  simp only [A.gi C (by decide) (f := 402) (by decide), A.gi C (by decide) (f := 403) (by decide), A.gi C (by decide) (f := 404) (by decide), A.gi C (by decide) (f := 405) (by decide), A.gi C (by decide) (f := 406) (by decide), A.gi C (by decide) (f := 407) (by decide), A.gi C (by decide) (f := 408) (by decide), A.gi C (by decide) (f := 409) (by decide), A.gi C (by decide) (f := 410) (by decide), A.gi C (by decide) (f := 411) (by decide), A.gi C (by decide) (f := 412) (by decide), A.gi C (by decide) (f := 413) (by decide), A.gi C (by decide) (f := 414) (by decide), A.gr C (by decide) (f := 416) (by decide), A.gr C (by decide) (f := 417) (by decide)]
  obtain ⟨-, u1, u2, u3, u4, u5, u6, u7, u8, u9, u10, u11, u12, u13, u14, u15⟩ := H
  refine ⟨u1, u2, u3, u4, u5, u6, u7, u8, u9, u10, u11, u12, u13, ⟨A.kd' L.1 (by decide), (A.ln' L.1 (by decide)).trans L.2.1, A.kd' L.2.2.1 (by decide), (A.ln' L.2.2.1 (by decide)).trans L.2.2.2⟩, fun g hg => ?_⟩
  rw [A.ei L.1 (by decide) hf, A.ei L.2.2.1 (by decide) ht]
  exact u15 g hg
theorem CPu2_ag (A : Ag2 h0 h x) (H : CP h0 x) {a : Nat} {l : List Nat} (hk : kd h0 a = 5) (U : CPu2 h0 x a l) : CPu2 h x a l := by
  have hM := H.mw
  obtain ⟨u1, u2⟩ := U
  have e1 : gR h 401 a = gR h0 401 a := A.gr hk (by decide) (by decide)
  have e2 := A.lst u1
  refine ⟨by rw [e1]; exact e2.1, fun j hj => ?_⟩
  rw [e1, e2.2 j hj]
  have h1 := u2 j hj
  have C := h1.1
  unfold CPt1 at h1 ⊢
  refine ⟨A.kd' C (by decide), ?_⟩
  simp only [A.gi C (by decide) (f := 600) (by decide), A.gi C (by decide) (f := 601) (by decide), A.gi C (by decide) (f := 602) (by decide), A.gi C (by decide) (f := 603) (by decide), A.eiM hM (o := 53) (by decide) (by decide) (by decide), A.eiM hM (o := 54) (by decide) (by decide) (by decide), A.eiM hM (o := 55) (by decide) (by decide) (by decide), A.eiM hM (o := 56) (by decide) (by decide) (by decide)]
  exact h1.2
theorem CPu_ag (A : Ag2 h0 h x) (H : CP h0 x) : CPu h x := by
  have M := mw_k H.mw
  have hM := H.mw
  obtain ⟨⟨u1, u2, u3, u4, u5⟩, u6⟩ := H.pu
  have C := u1.1
  refine ⟨⟨CPu1_ag A (fun o ho e => ?_) (fun o ho e => ?_) u1, CPu2_ag A H C u2, (A.gr C (by decide) (by decide)).trans u3, (A.gr C (by decide) (by decide)).trans u4, (A.gr C (by decide) (by decide)).trans u5⟩, fun r hr => ?_⟩
  · have := scA_lt o ho; omega
  · have := scA_lt o ho; omega
  · rw [A.qU M] at hr
    obtain ⟨v1, v2, v3, v4, v5, v6⟩ := u6 r hr
    have C := v1.1
    simp only [(A.lst H.pl.2.2.1).2 r hr, A.gi C (by decide) (f := 400) (by decide), A.gr C (by decide) (f := 416) (by decide), A.gr C (by decide) (f := 417) (by decide), A.gr C (by decide) (f := 401) (by decide), A.eiM hM (o := 50) (by decide) (by decide) (by decide), A.eiM hM (o := 51) (by decide) (by decide) (by decide), A.eiM hM (o := 52) (by decide) (by decide) (by decide), A.eiM hM (o := 53) (by decide) (by decide) (by decide), A.eiM hM (o := 54) (by decide) (by decide) (by decide), A.eiM hM (o := 55) (by decide) (by decide) (by decide)]
    refine ⟨CPu1_ag A (fun o ho e => ?_) (fun o ho e => ?_) v1, CPu2_ag A H C v2, v3, v4, v5, v6⟩
    · have := scA_lt o ho; omega
    · have := scA_lt o ho; omega
theorem CP_ag2 (A : Ag2 h0 h x) (hi : ALinj h) (H : CP h0 x) : CP h x :=
  ⟨⟨A.xw H.xw, A.mw H.mw, hi, by rw [A.1.1]; exact A.kd' H.pw.2.2.2.1 (by decide), by rw [A.1.1, A.ln' H.pw.2.2.2.1 (by decide)]; exact H.pw.2.2.2.2⟩, CPn_ag A H, CPo_ag A H, CPl_ag A H, CPc_ag A H, CPv_ag A H, CPb_ag A H, CPx_ag A H, CPr_ag A H, CPq_ag A H, CPs_ag A H, CPp_ag A H, CPa_ag A H, CPu_ag A H⟩
theorem CP_ag (A : Ag h0 h x) (hi : ALinj h) (H : CP h0 x) : CP h x := CP_ag2 (A.to2 H.pw.2.2.2.1) hi H
end
