/-! storm: the component's half, whole -/
set_option maxRecDepth 100000
/-- the component's storm is written; the reference's is not -/
def XD (h h' : Hp) (x m s : Nat) (S : St) : Prop :=
  (Ag3 h (pI h' 1102 (x + 21) (nI m)) x ∧ ALinj (pI h' 1102 (x + 21) (nI m)) ∧ DM h h' x ∧ (∀ f, f ∉ scJ → gJ h' f (x + 23) = gJ h f (x + 23)) ∧ ∀ o, 23 + o ∉ scB → 1 ≤ o → o < 59 → eJ h' (x + 23 + o) = eJ h (x + 23 + o)) ∧
  (gI h' 1102 (x + 21) = nI (m + 1) ∧ kd h' (gR h' 1101 (x + 21)) = 65 ∧ m + 1 ≤ ln h' (gR h' 1101 (x + 21)) ∧ ln h' (gR h' 1101 (x + 21)) ≤ 60000 ∧ (∀ i, i < m → el h' (x + 21) i = el h (x + 21) i) ∧ el h' (x + 21) m = s ∧ kd h' s = 8) ∧
  (gI h' 700 s = gI h 0 x ∧ (gJ h' 701 s).toInt = S 508 0 ∧ (gJ h' 702 s).toInt = S 510 0 ∧ (gI h' 703 s).toInt = S 512 0 ∧ (gI h' 704 s).toInt = S 513 0) ∧
  (∀ i, i < nC h x → (gI h' 106 (el h (x + 2) i)).toInt = S 16 i ∧ (gI h' 107 (el h (x + 2) i)).toInt = S 18 i ∧ (gI h' 108 (el h (x + 2) i)).toInt = S 17 i ∧ (¬ eI h (x + 23 + 6) i = 0 → (gI h' 308 (gR h 109 (el h (x + 2) i))).toInt = S 14 i)) ∧
  (∀ j, j < nR h x → (gI h' 205 (el h (x + 3) j)).toInt = S 15 j) ∧
  ∃ a b c d : Int64, a.toInt = S 508 0 ∧ b.toInt = S 509 0 ∧ c.toInt = S 510 0 ∧ d.toInt = S 511 0 ∧ gJ h' 17 x = gJ h 17 x + a ∧ gJ h' 18 x = gJ h 18 x + Int64.ofInt (b0S h x) + b ∧ gJ h' 19 x = gJ h 19 x + c ∧ gJ h' 20 x = gJ h 20 x + d
section
variable {h h1 : Hp} {x : Nat} {E : Nat → Hp → Prop} {k n : Nat} {Q : Int32 → Hp → Prop}
def hStm (g : Hp) (v0 : Int32) (v1 v2 : Int64) (v3 v4 : Int32) : Hp := pI (pI (pJ (pJ (pI (nO g 7) 700 (nx g) v0) 701 (nx g) v1) 702 (nx g) v2) 703 (nx g) v3) 704 (nx g) v4
theorem stm_ag {g : Hp} {v0 : Int32} {v1 v2 : Int64} {v3 v4 : Int32} (wf : wfH g) : Ag g (hStm g v0 v1 v2 v3 v4) x := by
  have z1 : kd g (nx g) = 0 := wf.2 _ (Nat.le_refl _)
  exact ((((((Ag.refl g x).wnO wf).wpI z1).wpJ z1).wpJ z1).wpI z1).wpI z1
theorem stm_kd {g : Hp} {v0 : Int32} {v1 v2 : Int64} {v3 v4 : Int32} (y : Nat) : kd (hStm g v0 v1 v2 v3 v4) y = if y = nx g then 8 else kd g y := by
  unfold hStm
  simp only [kd_pI, kd_pJ, kd_nO_at]
theorem stm_gI {g : Hp} {v0 : Int32} {v1 v2 : Int64} {v3 v4 : Int32} {f y : Nat} (hy : y ≠ nx g) : gI (hStm g v0 v1 v2 v3 v4) f y = gI g f y := by
  unfold hStm
  simp only [gI_pI, gI_pJ, gI_nO]
  rw [if_neg (fun z => hy z.2), if_neg (fun z => hy z.2), if_neg (fun z => hy z.2), if_neg hy]
theorem stm_gJ {g : Hp} {v0 : Int32} {v1 v2 : Int64} {v3 v4 : Int32} {f y : Nat} (hy : y ≠ nx g) : gJ (hStm g v0 v1 v2 v3 v4) f y = gJ g f y := by
  unfold hStm
  simp only [gJ_pI, gJ_pJ, gJ_nO]
  rw [if_neg (fun z => hy z.2), if_neg (fun z => hy z.2), if_neg hy]
theorem stm_at {g : Hp} {v0 : Int32} {v1 v2 : Int64} {v3 v4 : Int32} : gI (hStm g v0 v1 v2 v3 v4) 700 (nx g) = v0 ∧ gJ (hStm g v0 v1 v2 v3 v4) 701 (nx g) = v1 ∧ gJ (hStm g v0 v1 v2 v3 v4) 702 (nx g) = v2 ∧ gI (hStm g v0 v1 v2 v3 v4) 703 (nx g) = v3 ∧ gI (hStm g v0 v1 v2 v3 v4) 704 (nx g) = v4 := by
  refine ⟨?_, ?_, ?_, ?_, ?_⟩ <;> simp [hStm, nx_pI, kd_pI, ln_pI, gI_pI, gJ_pI, gR_pI, eI_pI, eJ_pI, eR_pI, kc_pI, nx_pJ, kd_pJ, ln_pJ, gI_pJ, gJ_pJ, gR_pJ, eI_pJ, eJ_pJ, eR_pJ, kc_pJ, nx_pR, kd_pR, ln_pR, gI_pR, gJ_pR, gR_pR, eI_pR, eJ_pR, eR_pR, kc_pR, nx_sI, kd_sI, ln_sI, gI_sI, gJ_sI, gR_sI, eI_sI, eJ_sI, eR_sI, kc_sI, nx_sJ, kd_sJ, ln_sJ, gI_sJ, gJ_sJ, gR_sJ, eI_sJ, eJ_sJ, eR_sJ, kc_sJ, nx_sR, kd_sR, ln_sR, gI_sR, gJ_sR, gR_sR, eI_sR, eJ_sR, eR_sR, kc_sR, ln_nO, eI_nO, eJ_nO, eR_nO, kc_nO, gI_nO, gI_nA, gJ_nO, gJ_nA, gR_nO, gR_nA, eI_nA, eJ_nA, eR_nA, kc_nA, nx_nO, nx_nA, kd_nO_at, kd_nA_at, ln_nA_at]
theorem stm_eR {g : Hp} {v0 : Int32} {v1 v2 : Int64} {v3 v4 : Int32} : eI (hStm g v0 v1 v2 v3 v4) = eI g ∧ eJ (hStm g v0 v1 v2 v3 v4) = eJ g := ⟨rfl, rfl⟩
/-- what the heap is when the new Storm is put on the list: g has all numbers, hA the new Storm -/
theorem xd_mk (H : CP h x) (C : SC h h1 x) {g g4 h' : Hp} (W : RXz h1 x (nC h x) (nR h x) (rnS h x 0)) (S : XSt h h1 g x (nC h x) (nR h x)) (T : SC3 h g4 x)
    (t1 : ∀ f, gI g4 f = gI g f) (t2 : eI g4 = eI h1 ∧ eJ g4 = eJ h1) (t3 : ∀ f a, ¬ (a = x ∧ (f = 17 ∨ f = 18 ∨ f = 19 ∨ f = 20)) → gJ g4 f a = gJ g f a)
    (t4 : gJ g4 17 x = gJ g 17 x + gJ h1 508 (x + 13) ∧ gJ g4 18 x = gJ g 18 x + gJ h1 509 (x + 13) ∧ gJ g4 19 x = gJ g 19 x + gJ h1 510 (x + 13) ∧ gJ g4 20 x = gJ g 20 x + gJ h1 511 (x + 13))
    (wf4 : wfH g4) {hA : Hp} (eA : hA = hStm g4 (gI h 0 x) (gJ h1 508 (x + 13)) (gJ h1 510 (x + 13)) (gI h1 512 (x + 13)) (gI h1 513 (x + 13))) (wfA : wfH hA) (D : AddR hA h' (x + 21) (nx g4) (nS h x)) (LA : ALk hA (x + 21) (nS h x)) (iA : ALinj hA) : XD h h' x (nS h x) (nx g4) (rnS h x 0) := by
  have hm := xw_k H.xw
  have h75 := H.pw.2.2.2.1
  have M := mw_k H.mw
  have Xn : x + 82 ≤ nx g4 := by rw [T.1]; exact H.xw.2.2.1
  have k75 : kd g4 (kc g4 0) = 75 := by rw [T.k, T.2.2.2.2.2.1]; exact h75
  have AA : Ag g4 hA x := by rw [eA]; exact stm_ag wf4
  obtain ⟨A2, i2⟩ := D.ag2 (x := x) LA wfA iA
  have A3 := Ag3_comp T (AA.to2 k75) A2
  obtain ⟨⟨d1, d2, d3⟩, d4, d5, d6, d7, ⟨e1, e2, e3, e4, e5⟩, d8, d9, d10⟩ := D
  have wlt : ∀ a, kd h a ≠ 0 → a ≠ nx g4 := fun a ha => Nat.ne_of_lt (wf4.lt rfl (by rw [T.k]; exact ha)).2
  have gI' : ∀ f a, kd h a ≠ 0 → ¬ (a = x + 21 ∧ (f = 1100 ∨ f = 1102)) → gI h' f a = gI g f a := fun f a ha hf => by rw [d4 f a hf, eA, stm_gI (wlt a ha), t1]
  have gJ' : ∀ f a, kd h a ≠ 0 → gJ h' f a = gJ g4 f a := fun f a ha => by rw [d5, eA, stm_gJ (wlt a ha)]
  have nz : ∀ {a c : Nat}, kd h a = c → c ≠ 0 → kd h a ≠ 0 := fun e z => by rw [e]; exact z
  have v508 : (gJ h1 508 (x + 13)).toInt = rnS h x 0 508 0 := W 508 0 (by unfold vld; omega) (by decide) (by decide)
  have v509 : (gJ h1 509 (x + 13)).toInt = rnS h x 0 509 0 := W 509 0 (by unfold vld; omega) (by decide) (by decide)
  have v510 : (gJ h1 510 (x + 13)).toInt = rnS h x 0 510 0 := W 510 0 (by unfold vld; omega) (by decide) (by decide)
  have v511 : (gJ h1 511 (x + 13)).toInt = rnS h x 0 511 0 := W 511 0 (by unfold vld; omega) (by decide) (by decide)
  have v512 : (gI h1 512 (x + 13)).toInt = rnS h x 0 512 0 := W 512 0 (by unfold vld; omega) (by decide) (by decide)
  have v513 : (gI h1 513 (x + 13)).toInt = rnS h x 0 513 0 := W 513 0 (by unfold vld; omega) (by decide) (by decide)
  obtain ⟨s1, s2, s3, s4, s5, s6, s7, s8⟩ := S
  have old : ∀ a, kd h a ≠ 0 → kd hA a ≠ 0 := fun a ha => by rw [eA, stm_kd, if_neg (wlt a ha), T.k]; exact ha
  refine ⟨⟨A3, i2, ⟨fun o ho o1 o2 => ?_, fun f hf => ?_⟩, fun f hf => ?_, fun o ho o1 o2 => ?_⟩, ⟨e1, e3, e4, e5, fun i hi => ?_, d9, ?_⟩, ?_, fun i hi => ?_, fun j hj => ?_, ?_⟩
  · have hz := H.mw.nz o1 o2
    rw [(d3 _ (old _ hz)).2.2.1, eA, stm_eR.1, t2.1, C.eiM ho]
  · rw [gI' f _ (nz M (by decide)) (fun z => by omega)]
    rw [s8 f, C.gi hf]
  · rw [gJ' f _ (nz M (by decide)), t3 f _ (fun z => by omega), s3 f _ (fun z => by omega), C.gj hf]
  · have hz := H.mw.nz o1 o2
    rw [(d3 _ (old _ hz)).2.2.2, eA, stm_eR.2, t2.2, C.ejM ho]
  · rw [d8 i hi, ((AA.to2 k75).2 (x + 21) _ (T.alk H.pl.2.2.2.1)).2 i hi, T.e]
  · have : kd hA (nx g4) = 8 := by rw [eA, stm_kd, if_pos rfl]
    rw [(d3 _ (by rw [this]; decide)).1]; exact this
  · obtain ⟨y1, y2, y3, y4, y5⟩ := stm_at (g := g4) (v0 := gI h 0 x) (v1 := gJ h1 508 (x + 13)) (v2 := gJ h1 510 (x + 13)) (v3 := gI h1 512 (x + 13)) (v4 := gI h1 513 (x + 13))
    rw [d4 _ _ (fun z => by omega), d4 _ _ (fun z => by omega), d4 _ _ (fun z => by omega), d5, eA, y1, y2, y3, y4, y5]
    exact ⟨rfl, v508, v510, v512, v513⟩
  · have C1 := (H.pc i hi).1.1
    obtain ⟨y1, y2, y3, y4⟩ := s4 i hi
    rw [gI' 106 _ (nz C1 (by decide)) (fun z => absurd z.2 (by decide)), gI' 107 _ (nz C1 (by decide)) (fun z => absurd z.2 (by decide)), gI' 108 _ (nz C1 (by decide)) (fun z => absurd z.2 (by decide)), y1, y2, y3]
    refine ⟨W 16 i (by unfold vld; omega) (by decide) (by decide), W 18 i (by unfold vld; omega) (by decide) (by decide), W 17 i (by unfold vld; omega) (by decide) (by decide), fun hb => ?_⟩
    rcases H.pb i hi with ⟨b1, -⟩ | ⟨-, b2, -, -⟩
    · exact absurd b1 hb
    · rw [gI' 308 _ (nz b2.1 (by decide)) (fun z => absurd z.2 (by decide)), y4 hb]
      exact W 14 i (by unfold vld; omega) (by decide) (by decide)
  · have C1 := (H.pr j hj).1.1
    rw [gI' 205 _ (nz C1 (by decide)) (fun z => absurd z.2 (by decide)), s6 j hj]
    exact W 15 j (by unfold vld; omega) (by decide) (by decide)
  · refine ⟨_, _, _, _, v508, v509, v510, v511, ?_, ?_, ?_, ?_⟩
    · rw [gJ' _ _ (nz hm (by decide)), t4.1, s3 17 x (fun z => absurd z.1 (by decide)), C.gj (f := 17) (by decide)]
    · rw [gJ' _ _ (nz hm (by decide)), t4.2.1, s7]; rfl
    · rw [gJ' _ _ (nz hm (by decide)), t4.2.2.1, s3 19 x (fun z => absurd z.1 (by decide)), C.gj (f := 19) (by decide)]
    · rw [gJ' _ _ (nz hm (by decide)), t4.2.2.2, s3 20 x (fun z => absurd z.1 (by decide)), C.gj (f := 20) (by decide)]
theorem ct_X0_storm (H : CP h x) (hS : nS h x < 40) (hk : 3 ≤ k) (hn : 300 ≤ n) (hq : ∀ h' s, XW h' x → XD h h' x (nS h x) s (rnS h x 0) → Q (nI (nS h x)) h') : CtI M_X0_storm [rV x] h k n Q E := by
  have hsz : gI h 1102 (x + 21) = nI (nS h x) := H.pl.2.2.2.1.2.1
  refine r_wfH fun wf => ?_
  refine b_X0_storm_0 H.xw ⟨fun _ => ct_runs H (fun h1 W => ⟨(W.1.cp H).xw, ?_⟩), fun c => ?_⟩
  rotate_left
  · rw [hsz, show (40 : Int32) = nI 40 by decide] at c
    exact absurd (nI_inj (by omega) (by decide) c) (by omega)
  refine xs_corners H wf W.1 (fun g0 S0 => xs_roofs H W.1 S0 (fun g S => ?_))
  obtain ⟨C, -, W⟩ := W
  have Tg := C.to3.trans S.sc3
  refine b_X0_storm_137 (Tg.xw H.xw) ⟨fun _ => ?_, fun c => absurd (by rw [Tg.gi (f := 1102) (by decide)]; exact H.rofE) c⟩
  intro g1 e1 g2 e2 g3 e3 g4 e4
  have hg := S.2.2.1
  have T : SC3 h g4 x := by rw [e4, e3, e2, e1]; exact (((Tg.vJ (by decide)).vJ (by decide)).vJ (by decide)).vJ (by decide)
  have t1 : ∀ f, gI g4 f = gI g f := fun f => by rw [e4, e3, e2, e1]; rfl
  have t2 : eI g4 = eI h1 ∧ eJ g4 = eJ h1 := by rw [e4, e3, e2, e1]; exact ⟨S.1.2.2.2.2.2.2.1, S.1.2.2.2.2.2.2.2⟩
  have t3 : ∀ f a, ¬ (a = x ∧ (f = 17 ∨ f = 18 ∨ f = 19 ∨ f = 20)) → gJ g4 f a = gJ g f a := fun f a z => by
    rw [e4, gJ_pJ, if_neg (fun y => z ⟨y.2, by omega⟩), e3, gJ_pJ, if_neg (fun y => z ⟨y.2, by omega⟩), e2, gJ_pJ, if_neg (fun y => z ⟨y.2, by omega⟩), e1, gJ_pJ, if_neg (fun y => z ⟨y.2, by omega⟩)]
  have u1 : ∀ f a, f ≠ 17 → gJ g1 f a = gJ g f a := fun f a z => by rw [e1, gJ_pJ, if_neg (fun y => z y.1)]
  have u2 : ∀ f a, f ≠ 18 → gJ g2 f a = gJ g1 f a := fun f a z => by rw [e2, gJ_pJ, if_neg (fun y => z y.1)]
  have u3 : ∀ f a, f ≠ 19 → gJ g3 f a = gJ g2 f a := fun f a z => by rw [e3, gJ_pJ, if_neg (fun y => z y.1)]
  have u4 : ∀ f a, f ≠ 20 → gJ g4 f a = gJ g3 f a := fun f a z => by rw [e4, gJ_pJ, if_neg (fun y => z y.1)]
  have t4 : gJ g4 17 x = gJ g 17 x + gJ h1 508 (x + 13) ∧ gJ g4 18 x = gJ g 18 x + gJ h1 509 (x + 13) ∧ gJ g4 19 x = gJ g 19 x + gJ h1 510 (x + 13) ∧ gJ g4 20 x = gJ g 20 x + gJ h1 511 (x + 13) := by
    refine ⟨?_, ?_, ?_, ?_⟩
    · rw [u4 _ _ (by decide), u3 _ _ (by decide), u2 _ _ (by decide), e1, gJ_pJ, if_pos ⟨rfl, rfl⟩, hg 508 _ (fun z => absurd z.1 (by decide))]
    · rw [u4 _ _ (by decide), u3 _ _ (by decide), e2, gJ_pJ, if_pos ⟨rfl, rfl⟩, u1 _ _ (by decide), u1 _ _ (by decide), hg 509 _ (fun z => absurd z.1 (by decide))]
    · rw [u4 _ _ (by decide), e3, gJ_pJ, if_pos ⟨rfl, rfl⟩, u2 _ _ (by decide), u2 _ _ (by decide), u1 _ _ (by decide), u1 _ _ (by decide), hg 510 _ (fun z => absurd z.1 (by decide))]
    · rw [e4, gJ_pJ, if_pos ⟨rfl, rfl⟩, u3 _ _ (by decide), u3 _ _ (by decide), u2 _ _ (by decide), u2 _ _ (by decide), u1 _ _ (by decide), u1 _ _ (by decide), hg 511 _ (fun z => absurd z.1 (by decide))]
  have w508 : gJ g4 508 (x + 13) = gJ h1 508 (x + 13) := by rw [u4 _ _ (by decide), u3 _ _ (by decide), u2 _ _ (by decide), u1 _ _ (by decide), hg 508 _ (fun z => absurd z.1 (by decide))]
  have w510 : gJ g4 510 (x + 13) = gJ h1 510 (x + 13) := by rw [u4 _ _ (by decide), u3 _ _ (by decide), u2 _ _ (by decide), u1 _ _ (by decide), hg 510 _ (fun z => absurd z.1 (by decide))]
  have w512 : gI g4 512 (x + 13) = gI h1 512 (x + 13) := by rw [t1, S.2.1 512 (by decide)]
  have w513 : gI g4 513 (x + 13) = gI h1 513 (x + 13) := by rw [t1, S.2.1 513 (by decide)]
  have w0 : gI g4 0 x = gI h 0 x := by rw [t1, S.2.1 0 (by decide), C.gi (f := 0) (by decide)]
  clear e1 e2 e3 e4 u1 u2 u3 u4
  have Xn : x + 82 ≤ nx g4 := by rw [T.1]; exact H.xw.2.2.1
  refine ⟨⟨by omega, by omega⟩, ?_⟩
  rintro s es hB eB
  have kn : kd hB s = 8 := by rw [eB, es]; exact kd_nO _ _
  have wB : gI hB 0 x = gI h 0 x ∧ gJ hB 508 (x + 13) = gJ h1 508 (x + 13) ∧ gJ hB 510 (x + 13) = gJ h1 510 (x + 13) ∧ gI hB 512 (x + 13) = gI h1 512 (x + 13) ∧ gI hB 513 (x + 13) = gI h1 513 (x + 13) := by
    rw [eB, gI_nO, if_neg (by omega), gJ_nO, if_neg (by omega), gJ_nO, if_neg (by omega), gI_nO, if_neg (by omega), gI_nO, if_neg (by omega)]
    exact ⟨w0, w508, w510, w512, w513⟩
  rw [wB.1, wB.2.1, wB.2.2.1, wB.2.2.2.1, wB.2.2.2.2]
  refine b_X8_init_0 ⟨by rw [kn]; decide, b_J8_init_0 ⟨by rw [kn]; decide, kn, ?_⟩⟩
  intro c1 f1 c2 f2 c3 f3 c4 f4 hA f5
  have eA : hA = hStm g4 (gI h 0 x) (gJ h1 508 (x + 13)) (gJ h1 510 (x + 13)) (gI h1 512 (x + 13)) (gI h1 513 (x + 13)) := by rw [f5, f4, f3, f2, f1, eB, es]; rfl
  clear f1 f2 f3 f4 f5 wB kn eB
  subst es
  have wf4 : wfH g4 := ⟨by rw [T.k]; exact wf.1, fun a ha => by rw [T.k]; exact wf.2 a (by rw [← T.1]; exact ha)⟩
  have h75 : kd g4 (kc g4 0) = 75 := by rw [T.k, T.2.2.2.2.2.1]; exact H.pw.2.2.2.1
  have h0 : ln g4 (kc g4 0) = 0 := by rw [T.l, T.2.2.2.2.2.1]; exact H.pw.2.2.2.2
  have AA : Ag g4 hA x := by rw [eA]; exact stm_ag wf4
  have kA : ∀ y, kd hA y = if y = nx g4 then 8 else kd g4 y := fun y => by rw [eA, stm_kd]
  have ks : kd hA (nx g4) = 8 := by rw [kA, if_pos rfl]
  have iA : ALinj hA := ALinj_kd AA (T.inj H.pw.2.2.1) wf4 h75 (fun a ha => by
    rw [kA] at ha
    by_cases z : a = nx g4
    · rw [if_pos z] at ha; exact absurd ha (by decide)
    · rw [if_neg z] at ha; exact ha)
  obtain ⟨LA, LE⟩ := (AA.to2 h75).2 (x + 21) _ (T.alk H.pl.2.2.2.1)
  refine ⟨AA.xw (T.xw H.xw), k - 1, n - 5, 0, 0, by omega, by omega, ?_⟩
  refine r_wfH fun wfA => ?_
  refine ct_add (c0 := 7) LA (by rw [AA.1]; exact AA.kd' h75 (by decide)) (by rw [AA.1, AA.ln' h75 (by decide)]; exact h0) (ok_c (c0 := 7) rfl q1924 ks) (fun i hi => ?_) rfl q1924 (by omega) (by omega) (by omega) (fun h' D => ?_)
  · rw [LE i hi, T.e]
    exact AA.kd' (by rw [T.k]; exact (H.ps i hi).1) (by decide)
  have K := xd_mk H C W S T t1 t2 t3 t4 wf4 eA wfA D LA iA
  have hx : XW h' x := by have := K.1.1.xw H.xw; exact this
  refine ⟨hx, ?_⟩
  have hm1 : nI (nS h x + 1) - 1 = nI (nS h x) := i32_ext (by rw [nI_m1 (by omega), nI_toInt (by omega)]; omega)
  rw [D.2.2.2.2.2.1.1, hm1]
  exact hq h' _ hx K
end
