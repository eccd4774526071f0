/-! storm: the component's loops -/
set_option maxRecDepth 100000
section
variable {h h1 : Hp} {x : Nat} {E : Nat → Hp → Prop} {k n : Nat} {Q : Int32 → Hp → Prop}
theorem XSt.e {g : Hp} {i r : Nat} (S : XSt h h1 g x i r) : el g = el h1 := S.sc3.e
theorem xs_bed (H : CP h x) (wf : wfH h) {g3 : Hp} {i : Nat} (hi : i < nC h x) (w1 : eI h (x + 23 + 6) i = 1)
    (c3 : nx g3 = nx h1 ∧ kd g3 = kd h1 ∧ ln g3 = ln h1 ∧ gR g3 = gR h1 ∧ eR g3 = eR h1 ∧ kc g3 = kc h1 ∧ eI g3 = eI h1 ∧ eJ g3 = eJ h1)
    (b1 : ∀ f, f ∉ [106, 107, 108, 308, 205] → gI g3 f = gI h1 f) (b2 : ∀ f a, ¬ (f = 18 ∧ a = x) → gJ g3 f a = gJ h1 f a)
    (g3c : ∀ j, j < i + 1 → gI g3 106 (el h (x + 2) j) = eI h1 (x + 16) j ∧ gI g3 107 (el h (x + 2) j) = eI h1 (x + 18) j ∧ gI g3 108 (el h (x + 2) j) = eI h1 (x + 17) j)
    (b3 : ∀ j, j < i → ¬ eI h (x + 23 + 6) j = 0 → gI g3 308 (gR h 109 (el h (x + 2) j)) = eI h1 (x + 14) j)
    (b4 : ∀ j, i < j → j < nC h x → ¬ eI h (x + 23 + 6) j = 0 → gI g3 308 (gR h 109 (el h (x + 2) j)) = eI h (x + 23 + 15) j)
    (b7 : ∀ f, gI g3 f (x + 23) = gI h1 f (x + 23)) :
    XSt h h1 (pI (pJ g3 18 x (gJ h 18 x + Int64.ofInt (itr (b0F h x) 0 i 0) + Int32.toInt64 (eI h (x + 23 + 15) i))) 308 (bedp h x i) (eI h1 (x + 14) i)) x (i + 1) 0 := by
  have hb' : ¬ eI h (x + 23 + 6) i = 0 := by rw [w1]; decide
  have isx : itr (b0F h x) 0 (i + 1) 0 = b0F h x i (itr (b0F h x) 0 i 0) := by rw [itr_succ, Nat.zero_add]
  have hbp : ∀ j, gR h 109 (el h (x + 2) j) = bedp h x j := fun _ => rfl
  generalize hD : gJ h 18 x + Int64.ofInt (itr (b0F h x) 0 i 0) + Int32.toInt64 (eI h (x + 23 + 15) i) = D
  generalize hg4 : pI (pJ g3 18 x D) 308 (bedp h x i) (eI h1 (x + 14) i) = g4
  have c4 : nx g4 = nx h1 ∧ kd g4 = kd h1 ∧ ln g4 = ln h1 ∧ gR g4 = gR h1 ∧ eR g4 = eR h1 ∧ kc g4 = kc h1 ∧ eI g4 = eI h1 ∧ eJ g4 = eJ h1 := by rw [← hg4]; exact c3
  have gf : ∀ f a, ¬ (f = 308 ∧ a = bedp h x i) → gI g4 f a = gI g3 f a := fun f a z => by rw [← hg4, gI_pI, if_neg z, gI_pJ]
  have gb : gI g4 308 (bedp h x i) = eI h1 (x + 14) i := by rw [← hg4, gI_pI, if_pos ⟨rfl, rfl⟩]
  have gj : ∀ f a, ¬ (f = 18 ∧ a = x) → gJ g4 f a = gJ g3 f a := fun f a z => by rw [← hg4, gJ_pI, gJ_pJ, if_neg z]
  have gd : gJ g4 18 x = D := by rw [← hg4, gJ_pI, gJ_pJ, if_pos ⟨rfl, rfl⟩]
  have hne : ∀ j, j < nC h x → ¬ eI h (x + 23 + 6) j = 0 → j ≠ i → ¬ bedp h x j = bedp h x i := fun j hj hb c e => c (H.bed_inj hj hi ((H.bedI wf hj).2 hb).1 w1 e)
  have hmd : x + 23 ≠ bedp h x i := fun e => by
    have k1 := ((H.bedI wf hi).2 hb').2.1
    have k2 := mw_k H.mw
    rw [hbp, ← e, k2] at k1
    exact absurd k1 (by decide)
  refine ⟨c4, fun f hf => ?_, fun f a hf => (gj f a hf).trans (b2 f a hf), fun j hj => ?_, fun j hj1 hj2 hbj => ?_, fun j hj => absurd hj (by omega), ?_, fun f => (gf f _ (fun z => hmd z.2)).trans (b7 f)⟩
  · have hf' := hf
    simp only [List.mem_cons, List.not_mem_nil, or_false, not_or] at hf'
    rw [← b1 f hf]
    funext a
    exact gf f a (fun z => hf'.2.2.2.1 z.1)
  · obtain ⟨y1, y2, y3⟩ := g3c j hj
    refine ⟨(gf _ _ (fun z => absurd z.1 (by decide))).trans y1, (gf _ _ (fun z => absurd z.1 (by decide))).trans y2, (gf _ _ (fun z => absurd z.1 (by decide))).trans y3, fun hbj => ?_⟩
    rw [hbp]
    by_cases c : j = i
    · rw [c]; exact gb
    · rw [gf _ _ (fun z => hne j (by omega) hbj c z.2), ← hbp]
      exact b3 j (by omega) hbj
  · rw [hbp, gf _ _ (fun z => hne j hj2 hbj (by omega) z.2), ← hbp]
    exact b4 j (by omega) hj2 hbj
  · rw [gd, isx, ← hD, to64o]
    unfold b0F
    rw [if_neg hb', Int64.ofInt_add, Int64.add_assoc]
/-- the corners -/
theorem xs_corners (H : CP h x) (wf : wfH h) (C : SC h h1 x) (hq : ∀ g, XSt h h1 g x (nC h x) 0 → Rn M_X0_storm 137 [(0, rV x), (1, iV 0)] [] g k n (qI Q) E) : Rn M_X0_storm 24 [(0, rV x), (1, iV 0)] [] h1 k n (qI Q) E := by
  have hn := H.nC_le
  have X := H.xw
  have M0 := xw_k H.xw
  have start : XSt h h1 h1 x 0 0 := by
    refine ⟨⟨rfl, rfl, rfl, rfl, rfl, rfl, rfl, rfl⟩, fun _ _ => rfl, fun _ _ _ => rfl, fun j hj => absurd hj (by omega), fun j _ hj hb => ?_, fun j hj => absurd hj (by omega), ?_, fun _ => rfl⟩
    · rw [C.gi (f := 308) (by decide)]
      rcases H.pb j hj with ⟨b1, -⟩ | ⟨-, -, b3, -⟩
      · exact absurd b1 hb
      · exact b3.2.2.2.1
    · rw [C.gj (f := 18) (by decide)]
      show gJ h 18 x = gJ h 18 x + Int64.ofInt 0
      rw [show Int64.ofInt 0 = 0 from rfl, Int64.add_zero]
  have all : ∀ g, XSt h h1 g x 0 0 → Rn M_X0_storm 24 [(0, rV x), (1, iV (nI 0))] [] g k n (qI Q) E := by
    refine itr_loop (α := Unit) (inv := fun i _ => ∀ g, XSt h h1 g x i 0 → Rn M_X0_storm 24 [(0, rV x), (1, iV (nI i))] [] g k n (qI Q) E) (f := fun _ u => u) (m := nC h x) (s := ()) (fun i _ hi ih g S => ?_) (fun g S => ?_)
    · obtain ⟨k1, k2, k3, k4, k5⟩ := H.corI hi
      have T := C.to3.trans S.sc3
      have ek : kd g = kd h := T.k
      have er : gR g = gR h := T.r
      have e' : el g = el h := T.e
      have ell : ln g = ln h := T.l
      obtain ⟨⟨a1, a2, a3, a4, a5, a6, a7, a8⟩, b1, b2, b3, b4, b5, b6, b7⟩ := S
      have ag : ALg g (x + 2) (nI i) = ALg h (x + 2) (nI i) := by unfold ALg; rw [ek, er, ell, T.gi (f := 1102) (by decide)]
      have cbed := H.bedI wf hi
      refine b_X0_storm_24 (T.xw X) ?_
      rw [ek, er, ell, e', ag, T.gi (f := 1102) (by decide), k3]
      refine ⟨fun c => absurd c k1, fun _ => ⟨k2, k4, ?_⟩⟩
      rintro _ rfl
      rw [xwr_spills_r X, xwk_spills_r X, xwl_spills_r X]
      refine ⟨rfl, k5, ?_⟩
      rintro _ rfl
      rw [kd_pI, gR_pI, eI_pI, ln_pI, ek, er, ell, xwr_most_r X, xwk_most_r X, xwl_most_r X]
      refine ⟨rfl, k5, ?_⟩
      rintro _ rfl
      rw [kd_pI, gR_pI, eI_pI, ln_pI, kd_pI, gR_pI, eI_pI, ln_pI, ek, er, ell, xwr_wet_r X, xwk_wet_r X, xwl_wet_r X]
      refine ⟨rfl, k5, ?_⟩
      rintro _ rfl
      rw [gR_pI, gR_pI, gR_pI, er]
      generalize hg3 : pI (pI (pI g 106 (el h (x + 2) i) (eI g (x + 16) i)) 107 (el h (x + 2) i) (eI g (x + 18) i)) 108 (el h (x + 2) i) (eI g (x + 17) i) = g3
      have c3 : nx g3 = nx h1 ∧ kd g3 = kd h1 ∧ ln g3 = ln h1 ∧ gR g3 = gR h1 ∧ eR g3 = eR h1 ∧ kc g3 = kc h1 ∧ eI g3 = eI h1 ∧ eJ g3 = eJ h1 := by
        rw [← hg3]; exact ⟨a1, a2, a3, a4, a5, a6, a7, a8⟩
      have g3f : ∀ f, f ≠ 106 → f ≠ 107 → f ≠ 108 → gI g3 f = gI g f := fun f z1 z2 z3 => by
        funext a
        rw [← hg3, gI_pI, gI_pI, gI_pI, if_neg (fun z => z3 z.1), if_neg (fun z => z2 z.1), if_neg (fun z => z1 z.1)]
      have g3j : gJ g3 = gJ g := by rw [← hg3]; rfl
      have g3c : ∀ j, j < i + 1 → gI g3 106 (el h (x + 2) j) = eI h1 (x + 16) j ∧ gI g3 107 (el h (x + 2) j) = eI h1 (x + 18) j ∧ gI g3 108 (el h (x + 2) j) = eI h1 (x + 17) j := fun j hj => by
        rw [← hg3]
        simp only [gI_pI, a7]
        by_cases c : j = i
        · subst c
          simp
        · have hne : el h (x + 2) j ≠ el h (x + 2) i := fun z => c (H.cor_inj (by omega) hi z)
          have := b3 j (by omega)
          simp [hne]
          exact ⟨this.1, this.2.1, this.2.2.1⟩
      have g3m : ∀ f, gI g3 f (x + 23) = gI h1 f (x + 23) := fun f => by
        have hne : x + 23 ≠ el h (x + 2) i := fun e => by rw [← e, mw_k H.mw] at k4; exact absurd k4 (by decide)
        rw [← hg3, gI_pI, gI_pI, gI_pI, if_neg (fun z => hne z.2), if_neg (fun z => hne z.2), if_neg (fun z => hne z.2)]
        exact b7 f
      have c3k : kd g3 = kd h := c3.2.1.trans C.k
      have c3r : gR g3 = gR h := c3.2.2.2.1.trans C.r
      have c3l : ln g3 = ln h := c3.2.2.1.trans C.l
      have isx : itr (b0F h x) 0 (i + 1) 0 = b0F h x i (itr (b0F h x) 0 i 0) := by rw [itr_succ, Nat.zero_add]
      refine ⟨fun hb => ?_, fun hb => ?_⟩
      · have hb' : ¬ eI h (x + 23 + 6) i = 0 := fun z => hb (cbed.1.mpr z)
        obtain ⟨w1, w2, w3, w4, w5⟩ := cbed.2 hb'
        rw [c3k]
        refine ⟨w2, ?_⟩
        rintro _ rfl
        rw [kd_pJ, gR_pJ, ln_pJ, eI_pJ, c3k, c3r, c3l, xwr_bowls_r X, xwk_bowls_r X, xwl_bowls_r X]
        refine ⟨rfl, k5, w2, ?_⟩
        rintro _ rfl _ rfl
        rw [nI_add1]
        have hg4 : ∀ D w, XSt h h1 (pI (pJ g3 18 x D) 308 (gR h 109 (el h (x + 2) i)) w) x (i + 1) 0 ↔ XSt h h1 (pI (pJ g3 18 x D) 308 (bedp h x i) w) x (i + 1) 0 := fun _ _ => Iff.rfl
        refine ih _ ((hg4 _ _).mpr ?_)
        rw [g3j, b6, g3f 308 (by decide) (by decide) (by decide), b4 i (Nat.le_refl _) hi hb', c3.2.2.2.2.2.2.1]
        exact xs_bed H wf hi w1 c3 (fun f hf => by
          have hf' := hf
          simp only [List.mem_cons, List.not_mem_nil, or_false, not_or] at hf'
          rw [g3f f hf'.1 hf'.2.1 hf'.2.2.1, b1 f hf]) (fun f a hf => by rw [g3j]; exact b2 f a hf) g3c (fun j hj hbj => by rw [g3f 308 (by decide) (by decide) (by decide)]; exact (b3 j hj).2.2.2 hbj) (fun j hj1 hj2 hbj => by rw [g3f 308 (by decide) (by decide) (by decide)]; exact b4 j (by omega) hj2 hbj) g3m
      · have hb' : eI h (x + 23 + 6) i = 0 := cbed.1.mp hb
        rintro _ rfl
        rw [nI_add1]
        refine ih _ ⟨c3, fun f hf => ?_, fun f a hf => ?_, fun j hj => ?_, fun j hj1 hj2 hbj => ?_, fun j hj => absurd hj (by omega), ?_, g3m⟩
        · have hf' := hf
          simp only [List.mem_cons, List.not_mem_nil, or_false, not_or] at hf'
          rw [g3f f hf'.1 hf'.2.1 hf'.2.2.1, b1 f hf]
        · rw [g3j]; exact b2 f a hf
        · obtain ⟨y1, y2, y3⟩ := g3c j hj
          refine ⟨y1, y2, y3, fun hbj => ?_⟩
          by_cases c : j = i
          · exact absurd (by rw [c]; exact hb') hbj
          · rw [g3f 308 (by decide) (by decide) (by decide)]
            exact (b3 j (by omega)).2.2.2 hbj
        · rw [g3f 308 (by decide) (by decide) (by decide)]
          exact b4 j (by omega) hj2 hbj
        · rw [g3j, b6, isx]
          unfold b0F
          rw [if_pos hb', Int.add_zero]
    · have T := C.to3.trans S.sc3
      refine b_X0_storm_24 (T.xw X) ?_
      rw [T.gi (f := 1102) (by decide)]
      exact ⟨fun _ => hq g S, fun c => absurd H.corE c⟩
  have := all h1 start
  rw [nI0] at this
  exact this
/-- the roofs -/
theorem xs_roofs (H : CP h x) (C : SC h h1 x) {g : Hp} (S : XSt h h1 g x (nC h x) 0) (hq : ∀ g, XSt h h1 g x (nC h x) (nR h x) → Rn M_X0_storm 137 [(0, rV x), (1, iV (nI (nR h x)))] [] g k n (qI Q) E) : Rn M_X0_storm 137 [(0, rV x), (1, iV 0)] [] g k n (qI Q) E := by
  have X := H.xw
  have all : ∀ g, XSt h h1 g x (nC h x) 0 → Rn M_X0_storm 137 [(0, rV x), (1, iV (nI 0))] [] g k n (qI Q) E := by
    refine itr_loop (α := Unit) (inv := fun i _ => ∀ g, XSt h h1 g x (nC h x) i → Rn M_X0_storm 137 [(0, rV x), (1, iV (nI i))] [] g k n (qI Q) E) (f := fun _ u => u) (m := nR h x) (s := ()) (fun i _ hi ih g S => ?_) (fun g S => hq g S)
    obtain ⟨k1, k2, k3, k4, k5⟩ := H.rofI hi
    have T := C.to3.trans S.sc3
    have ag : ALg g (x + 3) (nI i) = ALg h (x + 3) (nI i) := by unfold ALg; rw [T.k, T.r, T.l, T.gi (f := 1102) (by decide)]
    obtain ⟨a, b1, b2, b3, b4, b5, b6, b7⟩ := S
    refine b_X0_storm_137 (T.xw X) ?_
    rw [T.k, T.r, T.l, T.e, ag, T.gi (f := 1102) (by decide), k3, xwr_barrels_r X, xwk_barrels_r X, xwl_barrels_r X]
    refine ⟨fun c => absurd c k1, fun _ => ⟨k2, k4, rfl, k5, ?_⟩⟩
    rintro _ rfl _ rfl
    rw [nI_add1]
    refine ih _ ⟨a, fun f hf => ?_, b2, fun j hj => ?_, fun j hj1 hj2 hbj => ?_, fun j hj => ?_, b6, fun f => ?_⟩
    · have hf' := hf
      simp only [List.mem_cons, List.not_mem_nil, or_false, not_or] at hf'
      funext a
      rw [gI_pI, if_neg (fun z => hf'.2.2.2.2 z.1)]
      rw [b1 f hf]
    · obtain ⟨y1, y2, y3, y4⟩ := b3 j hj
      refine ⟨by rw [gI_pI, if_neg (fun z => absurd z.1 (by decide))]; exact y1, by rw [gI_pI, if_neg (fun z => absurd z.1 (by decide))]; exact y2, by rw [gI_pI, if_neg (fun z => absurd z.1 (by decide))]; exact y3, fun hbj => by rw [gI_pI, if_neg (fun z => absurd z.1 (by decide))]; exact y4 hbj⟩
    · rw [gI_pI, if_neg (fun z => absurd z.1 (by decide))]; exact b4 j hj1 hj2 hbj
    · rw [gI_pI]
      by_cases c : j = i
      · subst c; rw [if_pos ⟨rfl, rfl⟩, a.2.2.2.2.2.2.1]
      · rw [if_neg (fun z => c (H.rof_inj (by omega) hi z.2))]; exact b5 j (by omega)
    · have hne : x + 23 ≠ el h (x + 3) i := fun e => by rw [← e, mw_k H.mw] at k4; exact absurd k4 (by decide)
      rw [gI_pI, if_neg (fun z => hne z.2)]; exact b7 f
  have := all g S
  rw [nI0] at this
  exact this
end
