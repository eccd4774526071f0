/-! storm: the pair, end -/
set_option maxRecDepth 100000
section
variable {h h' h2 g F : Hp} {x : Nat} {E : Nat → Hp → Prop} {k n : Nat} {R : Hp → Prop}
theorem SC3.vC {a b : Hp} (C : SC3 a b x) {f c : Nat} {v : Int32} : SC3 (pI a f c v) (pI b f c v) x := by
  obtain ⟨a1, a2, a3, a4, a5, a6, a7, a8, a9, a10⟩ := C
  refine ⟨a1, a2, a3, a4, a5, a6, fun q hq => ?_, a8, a9, a10⟩
  funext y
  rw [gI_pI, gI_pI, a7 q hq]
theorem MSt.sc3 {i r : Nat} (S : MSt h2 g x i r) : SC3 h2 g x := by
  obtain ⟨⟨a1, a2, a3, a4, a5, a6, a7, a8⟩, b1, b2, -⟩ := S
  refine ⟨a1, a2, a3, a4, a5, a6, fun f _ => by rw [a7], fun f _ => by rw [a8], fun a ha => b1 a ?_ ?_ ?_, fun a ha => b2 a ?_ ?_⟩
  · have := ha 46 (by decide); omega
  · have := ha 38 (by decide); omega
  · have := ha 66 (by decide); omega
  · have := ha 62 (by decide); omega
  · have := ha 63 (by decide); omega
theorem cp_stormE (H : CP h x) {m s : Nat} (em : nS h x = m) (hm : m < 40) (X : XD h h' x m s (rnS h x 0)) (C : SC h' h2 x) (W : RMz h2 x (nC h x) (nR h x) (b0S h x) (rnS h x 0)) (S : MSt h2 g x (nC h x) (nR h x)) (T : MF g F x m) : CP F x := by
  have hC := H.nC_le.2
  have hR := H.nR_le.2
  have M := mw_k H.mw
  have bnd := rnS_bd H.mdb 0
  have hN : ix (gI h 1003 (x + 23)) * nC h x ≤ 360 := Nat.le_trans (Nat.mul_le_mul (bd_nI (hi := 30) H.mdb.1.2.2.1).2 hC) (by decide)
  have hnew : ∀ i, i < 12 → newS 0 i = false := by decide
  have r14 : ∀ i, i < 12 → eI h (x + 23 + 6) i = 0 → rnS h x 0 14 i = 0 := fun i hi hb => rn_14 (by unfold tkH; rw [hnew i hi, hb]; decide)
  have tkb : ∀ i, i < nC h x → tkC h x 0 i ≤ 500 := fun i hi => (tkC_bd H.mdb 0 hi).2
  generalize rnS h x 0 = R0 at *
  generalize ix (gI h 1003 (x + 23)) * nC h x = N at bnd hN
  obtain ⟨bn1, bn2, -⟩ := bnd
  obtain ⟨⟨A, iV0, D, xj, xe⟩, ⟨l0, l1, l2, l3, l4, l5, ks⟩, ⟨s0, s1, s2, s3, s4⟩, cs, rs, va, vb, vc, vd, w1, w2, w3, w4, q1, q2, q3, q4⟩ := X
  have S3 : SC3 h' F x := C.to3.trans (S.sc3.trans T.1)
  obtain ⟨T0, ti, t4, tj, ⟨tj1, tj2, tj3, tj4⟩, te, tJ, r1, r2, r3, r4, r5⟩ := T
  obtain ⟨⟨-, -, -, -, -, -, gi2, gj2⟩, ge, gJe, gh, gm⟩ := S
  have gif : ∀ f a, f ∉ scI → f ≠ 1004 → gI F f a = gI h' f a := fun f a z1 z2 => by rw [ti f a (fun z => z2 z.1), gi2, C.gi z1]
  have gjf : ∀ f a, f ∉ scJ → ¬ (a = x + 23 ∧ (f = 1035 ∨ f = 1036 ∨ f = 1037 ∨ f = 1038)) → gJ F f a = gJ h' f a := fun f a z1 z2 => by rw [tj f a z2, gj2, C.gj z1]
  have m14 : ∀ i, i < nC h x → (eI h2 (x + 23 + 30) i).toInt = R0 14 i := fun i hi => W 14 i (Or.inl ⟨Or.inl rfl, hi⟩) (by decide) (by decide)
  have m15 : ∀ i, i < nR h x → (eI h2 (x + 23 + 29) i).toInt = R0 15 i := fun i hi => W 15 i (Or.inr (Or.inl ⟨rfl, hi⟩)) (by decide) (by decide)
  have m16 : ∀ i, i < nC h x → (eJ h2 (x + 23 + 33) i).toInt = R0 16 i := fun i hi => W 16 i (Or.inl ⟨Or.inr (Or.inl rfl), hi⟩) (by decide) (by decide)
  have m17 : ∀ i, i < nC h x → (eI h2 (x + 23 + 35) i).toInt = R0 17 i := fun i hi => W 17 i (Or.inl ⟨Or.inr (Or.inr (Or.inl rfl)), hi⟩) (by decide) (by decide)
  have m18 : ∀ i, i < nC h x → (eJ h2 (x + 23 + 34) i).toInt = R0 18 i := fun i hi => W 18 i (Or.inl ⟨Or.inr (Or.inr (Or.inr rfl)), hi⟩) (by decide) (by decide)
  have m508 : (gJ h2 1047 (x + 23)).toInt = R0 508 0 := W 508 0 (Or.inr (Or.inr (Or.inr ⟨Or.inl rfl, rfl⟩))) (by decide) (by decide)
  have m509 : (gJ h2 1048 (x + 23)).toInt - b0S h x = R0 509 0 := W 509 0 (Or.inr (Or.inr (Or.inr ⟨Or.inr (Or.inl rfl), rfl⟩))) (by decide) (by decide)
  have m510 : (gJ h2 1049 (x + 23)).toInt = R0 510 0 := W 510 0 (Or.inr (Or.inr (Or.inr ⟨Or.inr (Or.inr (Or.inl rfl)), rfl⟩))) (by decide) (by decide)
  have m511 : (gJ h2 1050 (x + 23)).toInt = R0 511 0 := W 511 0 (Or.inr (Or.inr (Or.inr ⟨Or.inr (Or.inr (Or.inr (Or.inl rfl))), rfl⟩))) (by decide) (by decide)
  have m512 : (gI h2 1052 (x + 23)).toInt = R0 512 0 := W 512 0 (Or.inr (Or.inr (Or.inr ⟨Or.inr (Or.inr (Or.inr (Or.inr (Or.inl rfl)))), rfl⟩))) (by decide) (by decide)
  have m513 : (gJ h2 1051 (x + 23)).toInt = R0 513 0 := W 513 0 (Or.inr (Or.inr (Or.inr ⟨Or.inr (Or.inr (Or.inr (Or.inr (Or.inr (rfl))))), rfl⟩))) (by decide) (by decide)
  have o15 : eI h2 (x + 23 + 15) = eI h (x + 23 + 15) := by rw [C.eiM (o := 15) (by decide), D.e (by decide) (by decide) (by decide)]
  have o23 : eI h2 (x + 23 + 23) = eI h (x + 23 + 23) := by rw [C.eiM (o := 23) (by decide), D.e (by decide) (by decide) (by decide)]
  have o43 : eI h2 (x + 23 + 43) = eI h (x + 23 + 43) := by rw [C.eiM (o := 43) (by decide), D.e (by decide) (by decide) (by decide)]
  have o39 : eJ h2 (x + 23 + 39) = eJ h (x + 23 + 39) := by rw [C.ejM (o := 39) (by decide), xe 39 (by decide) (by decide) (by decide)]
  have o40 : eJ h2 (x + 23 + 40) = eJ h (x + 23 + 40) := by rw [C.ejM (o := 40) (by decide), xe 40 (by decide) (by decide) (by decide)]
  have f15 : ∀ i, eI F (x + 23 + 15) i = if i < nC h x then eI h2 (x + 23 + 30) i else eI h (x + 23 + 15) i := fun i => by rw [te _ _ (fun z => by omega), (gm i).1, o15]
  have f39 : ∀ i, eJ F (x + 23 + 39) i = if i < nC h x then eJ h2 (x + 23 + 33) i else eJ h (x + 23 + 39) i := fun i => by rw [tJ _ _ (fun z => by omega), (gm i).2.1, o39]
  have f40 : ∀ i, eJ F (x + 23 + 40) i = if i < nC h x then eJ h2 (x + 23 + 34) i else eJ h (x + 23 + 40) i := fun i => by rw [tJ _ _ (fun z => by omega), (gm i).2.2.1, o40]
  have f43 : ∀ i, eI F (x + 23 + 43) i = if i < nC h x then eI h2 (x + 23 + 35) i else eI h (x + 23 + 43) i := fun i => by rw [te _ _ (fun z => by omega), (gm i).2.2.2, o43]
  have f23 : ∀ i, eI F (x + 23 + 23) i = if i < nR h x then eI h2 (x + 23 + 29) i else eI h (x + 23 + 23) i := fun i => by rw [te _ _ (fun z => by omega), gh i, o23]
  have k1 := H.pn
  have back := pI_back (h := F) (f := 1102) (a := x + 21) (u := nI m) (v := nI (m + 1)) (by rw [gif _ _ (by decide) (by decide)]; exact l0)
  have AV := A.sc (S3.vC (f := 1102) (c := x + 21) (v := nI m))
  have iV1 := (S3.vC (f := 1102) (c := x + 21) (v := nI m)).inj iV0
  generalize hV : pI F 1102 (x + 21) (nI m) = V at AV iV1 back
  have vi : eI V = eI F := by rw [← hV]; rfl
  have vj : eJ V = eJ F := by rw [← hV]; rfl
  have vgj : gJ V = gJ F := by rw [← hV]; rfl
  have vr : gR V = gR F := by rw [← hV]; rfl
  have vk : kd V = kd F := by rw [← hV]; rfl
  have vl : ln V = ln F := by rw [← hV]; rfl
  have ve : el V = el F := by rw [← hV]; rfl
  have vg : ∀ f a, f ≠ 1102 → gI V f a = gI F f a := fun f a z => by rw [← hV, gI_pI, if_neg (fun y => z y.1)]
  rw [← back]
  refine cp_stormF AV H iV1 em hm ?_ ?_ ?_ ?_ ?_ ?_ (s := s) ?_ ?_ ?_ ?_ ?_ ?_ ?_ ?_ ?_ ?_ ?_ ?_ ?_
  · rw [vg _ _ (by decide)]; exact t4
  · rw [vk, vr, S3.k, S3.r]; exact l1
  · rw [vl, vr, S3.l, S3.r]; exact l2
  · rw [vl, vr, S3.l, S3.r]; exact l3
  · intro i hi; rw [ve, S3.e]; exact l4 i hi
  · rw [ve, S3.e]; exact l5
  · rw [vk, S3.k]; exact ks
  · rw [vi, vj, vgj, vg _ _ (by decide), vg _ _ (by decide), vg _ _ (by decide), gif _ _ (by decide) (by decide), gif _ _ (by decide) (by decide), gif _ _ (by decide) (by decide), gjf _ _ (by decide) (fun z => by omega), gjf _ _ (by decide) (fun z => by omega), r1, r2, r3, r4, r5, gi2, gj2, C.gi (f := 1000) (by decide), D.g (by decide), s0]
    refine ⟨k1.1, i64_ext (by rw [s1, m508]), i64_ext (by rw [s2, m510]), i32_ext (by rw [s3, m512]), i64_ext (by rw [to64, s4, m513])⟩
  · intro j hj
    rw [vi, vj, te _ _ (fun z => by omega), te _ _ (fun z => by omega), tJ _ _ (fun z => by omega), tJ _ _ (fun z => by omega), tJ _ _ (fun z => by omega), ge _ (by omega) (by omega) (by omega), ge _ (by omega) (by omega) (by omega), gJe _ (by omega) (by omega), gJe _ (by omega) (by omega), gJe _ (by omega) (by omega), C.eiM (o := 41) (by decide), C.eiM (o := 42) (by decide), C.ejM (o := 36) (by decide), C.ejM (o := 37) (by decide), C.ejM (o := 38) (by decide), D.e (o := 41) (by decide) (by decide) (by decide), D.e (o := 42) (by decide) (by decide) (by decide), xe 36 (by decide) (by decide) (by decide), xe 37 (by decide) (by decide) (by decide), xe 38 (by decide) (by decide) (by decide)]
    exact ⟨rfl, rfl, rfl, rfl, rfl⟩
  · intro i hi
    obtain ⟨c1, c2, c3, c4⟩ := cs i hi
    obtain ⟨-, b2, b3, b4, b5⟩ := bn1 i hi
    have e1 := m16 i hi
    have e2 := m18 i hi
    rw [vi, vj, vg _ _ (by decide), vg _ _ (by decide), vg _ _ (by decide), gif _ _ (by decide) (by decide), gif _ _ (by decide) (by decide), gif _ _ (by decide) (by decide), f39, f40, f43, if_pos hi, if_pos hi, if_pos hi]
    exact ⟨i32_ext (by rw [to32 (by omega) (by omega), c1, e1]), i32_ext (by rw [to32 (by omega) (by omega), c2, e2]), i32_ext (by rw [c3, m17 i hi])⟩
  · intro i hi hi2
    rw [vi, vj, f39, f40, f43, if_neg (by omega), if_neg (by omega), if_neg (by omega)]
    exact ⟨rfl, rfl, rfl⟩
  · intro i hi hb
    rw [vi, vg _ _ (by decide), gif _ _ (by decide) (by decide), f15, if_pos hi]
    exact i32_ext (by rw [(cs i hi).2.2.2 hb, m14 i hi])
  · intro i hi
    rw [vi, f15]
    by_cases c : i < nC h x
    · rw [if_pos c]
      obtain ⟨⟨b1, b2⟩, -⟩ := bn1 i c
      have := tkb i c
      have e1 := m14 i c
      refine ⟨⟨by omega, by omega⟩, fun hb => i32_ext (by rw [e1, r14 i hi hb, toI_0])⟩
    · rw [if_neg c]
      have := H.px i hi
      exact ⟨this.1.2.2.2.2.2.2.2.2.1, fun hb => (this.2.1 hb).2.2.2.1⟩
  · intro j hj
    rw [vi, vg _ _ (by decide), gif _ _ (by decide) (by decide), f23, if_pos hj]
    have e1 := m15 j hj
    have := bn2 j hj
    exact ⟨i32_ext (by rw [rs j hj, e1]), by unfold bd; omega⟩
  · intro j hj hj2
    rw [vi, f23, if_neg (by omega)]
  · rw [vgj, gjf _ _ (by decide) (fun z => by omega), tj1, q1, gj2, C.gj (f := 1035) (by decide), xj _ (by decide), k1.2.2.2.2.2.1, i64_ext (show va.toInt = (gJ h2 1047 (x + 23)).toInt by rw [w1, m508])]
  · have e : Int64.ofInt (b0S h x) + vb = gJ h2 1048 (x + 23) := by
      have e0 : b0S h x + vb.toInt = (gJ h2 1048 (x + 23)).toInt := by rw [w2, ← m509]; omega
      have e1 := Int64.ofInt_toInt (gJ h2 1048 (x + 23))
      rw [← e0, Int64.ofInt_add, Int64.ofInt_toInt] at e1
      exact e1
    rw [vgj, gjf _ _ (by decide) (fun z => by omega), tj2, q2, gj2, C.gj (f := 1036) (by decide), xj _ (by decide), k1.2.2.2.2.2.2.1, Int64.add_assoc, e]
  · rw [vgj, gjf _ _ (by decide) (fun z => by omega), tj3, q3, gj2, C.gj (f := 1037) (by decide), xj _ (by decide), k1.2.2.2.2.2.2.2.1, i64_ext (show vc.toInt = (gJ h2 1049 (x + 23)).toInt by rw [w3, m510])]
  · rw [vgj, gjf _ _ (by decide) (fun z => by omega), tj4, q4, gj2, C.gj (f := 1038) (by decide), xj _ (by decide), k1.2.2.2.2.2.2.2.2.1, i64_ext (show vd.toInt = (gJ h2 1050 (x + 23)).toInt by rw [w4, m511])]
theorem pr_storm (H : CP h x) (hk : 3 ≤ k) (hn : 300 ≤ n) (hR : ∀ h', CP h' x → R h') : CtI M_X0_storm [rV x] h k n (fun r h1 => CtI M_X3_storm [rV (x + 23)] h1 0 0 (fun r2 h2 => r = r2 ∧ R h2) E) E := by
  have hs := bd_nI (hi := 40) H.po.2.2.2.2.1
  have hsz : gI h 1102 (x + 21) = nI (nS h x) := H.pl.2.2.2.1.2.1
  have hsm : gI h 1004 (x + 23) = nI (nS h x) := hs.1
  by_cases c : nS h x < 40
  · refine ct_X0_storm H c hk hn (fun h' s hx X => ?_)
    have D := X.1.2.2.1
    have mw' : MW h' (x + 23) := by have := X.1.1.mw H.mw; exact this
    have es : gI h' 1004 (x + 23) = nI (nS h x) := by rw [D.g (by decide)]; exact hsm
    refine b_X3_storm_0 mw' ⟨fun _ => ct_falls mw' (D.mdb H.mdb) (fun h2 W => ⟨W.1.mw mw', ?_⟩), fun z => ?_⟩
    · obtain ⟨C, W⟩ := W
      rw [D.rn, D.b0, D.qC, D.qR] at W
      refine ms_loops (C.mw mw') (nc := nC h x) (nr := nR h x) ?_ ?_ H.nC_le.2 H.nR_le.2 (fun g S => ?_)
      · rw [C.gi (by decide), D.g (by decide)]; exact H.nC_le.1
      · rw [C.gi (by decide), D.g (by decide)]; exact H.nR_le.1
      refine ms_end (S.mw (C.mw mw')) (m := nS h x) ?_ ?_ c (fun F T => ⟨rfl, hR F (cp_stormE H rfl c X C W S T)⟩)
      · rw [S.1.2.2.2.2.2.2.1, C.gi (by decide), D.g (by decide)]; exact H.nC_le.1
      · rw [S.1.2.2.2.2.2.2.1, C.gi (by decide)]; exact es
    · rw [es, show (40 : Int32) = nI 40 by decide] at z
      exact absurd (nI_inj (by omega) (by decide) z) (by omega)
  · have e : nS h x = 40 := by have : nS h x ≤ 40 := hs.2
                               omega
    refine b_X0_storm_0 H.xw ⟨fun z => absurd (by rw [hsz, e]; decide) z, fun _ => ?_⟩
    exact b_X3_storm_0 H.mw ⟨fun z => absurd (by rw [hsm, e]; decide) z, fun _ => ⟨rfl, hR h H⟩⟩
end
