/-! storms tried: what they read is the same on scratch heaps; pairs tried, helps -/
set_option maxRecDepth 100000
/-- the reference's own numbers are the same -/
def DM (h0 h : Hp) (x : Nat) : Prop := (∀ o, 23 + o ∉ scA → 1 ≤ o → o < 59 → eI h (x + 23 + o) = eI h0 (x + 23 + o)) ∧ ∀ f, f ∉ scI → gI h f (x + 23) = gI h0 f (x + 23)
section
variable {h0 h : Hp} {x : Nat}
theorem SC.dm (C : SC h0 h x) : DM h0 h x := ⟨fun o ho _ _ => C.eiM ho, fun f hf => by rw [C.gi hf]⟩
theorem DM.e (C : DM h0 h x) {o : Nat} (ho : 23 + o ∉ scA) (h1 : 1 ≤ o) (h2 : o < 59) : eI h (x + 23 + o) = eI h0 (x + 23 + o) := C.1 o ho h1 h2
theorem DM.g (C : DM h0 h x) {f : Nat} (hf : f ∉ scI) : gI h f (x + 23) = gI h0 f (x + 23) := C.2 f hf
theorem DM.qC (C : DM h0 h x) : nC h x = nC h0 x := by unfold nC; rw [C.g (by decide)]
theorem DM.qR (C : DM h0 h x) : nR h x = nR h0 x := by unfold nR; rw [C.g (by decide)]
theorem DM.drk (C : DM h0 h x) (c : Int32) : V_X3_drink h (x + 23) c = V_X3_drink h0 (x + 23) c := by unfold V_X3_drink; rw [C.e (o := 25) (by decide) (by decide) (by decide), C.e (o := 9) (by decide) (by decide) (by decide), C.e (o := 12) (by decide) (by decide) (by decide)]
theorem DM.x_rfI (C : DM h0 h x) : rfI h x = rfI h0 x := by funext a0 a1 a2; unfold rfI; simp only [C.e (o := 21) (by decide) (by decide) (by decide), C.e (o := 22) (by decide) (by decide) (by decide)]
theorem DM.x_rfN (C : DM h0 h x) : rfN h x = rfN h0 x := by funext a0 a1 a2; unfold rfN; simp only [C.e (o := 21) (by decide) (by decide) (by decide), C.x_rfI]
theorem DM.x_rfF (C : DM h0 h x) : rfF h x = rfF h0 x := by funext a0 a1 a2 a3; unfold rfF; simp only [C.e (o := 19) (by decide) (by decide) (by decide), C.x_rfN]
theorem DM.x_rfA (C : DM h0 h x) : rfA h x = rfA h0 x := by funext a0 a1 a2; unfold rfA; simp only [C.x_rfF, C.qR]
theorem DM.x_tkH (C : DM h0 h x) : tkH h x = tkH h0 x := by funext a0 a1; unfold tkH; simp only [C.e (o := 6) (by decide) (by decide) (by decide)]
theorem DM.x_tkC (C : DM h0 h x) : tkC h x = tkC h0 x := by funext a0 a1; unfold tkC; simp only [C.e (o := 10) (by decide) (by decide) (by decide)]
theorem DM.x_tkL (C : DM h0 h x) : tkL h x = tkL h0 x := by funext a0 a1 a2; unfold tkL; simp only [C.e (o := 13) (by decide) (by decide) (by decide)]
theorem DM.x_tkD (C : DM h0 h x) : tkD h x = tkD h0 x := by funext a0 a1; unfold tkD; simp only [C.e (o := 25) (by decide) (by decide) (by decide), C.drk]
theorem DM.x_tkI (C : DM h0 h x) : tkI h x = tkI h0 x := by funext a0 a1 a2 a3; unfold tkI; simp only [C.x_tkH, C.x_tkL, C.x_tkC]
theorem DM.x_tkV (C : DM h0 h x) : tkV h x = tkV h0 x := by funext a0 a1 a2 a3; unfold tkV; simp only [C.x_tkI, C.x_tkD]
theorem DM.x_tkS (C : DM h0 h x) : tkS h x = tkS h0 x := by funext a0 a1 a2 a3; unfold tkS; simp only [C.x_tkH, C.x_tkI, C.x_tkV]
theorem DM.x_cmS (C : DM h0 h x) : cmS h x = cmS h0 x := by funext a0 a1 a2; unfold cmS; simp only [C.e (o := 1) (by decide) (by decide) (by decide), C.x_rfA]
theorem DM.x_s2S (C : DM h0 h x) : s2S h x = s2S h0 x := by funext a0 a1 a2; unfold s2S; simp only [C.e (o := 1) (by decide) (by decide) (by decide), C.x_rfA]
theorem DM.x_ppS (C : DM h0 h x) : ppS h x = ppS h0 x := by funext a0 a1 a2 a3; unfold ppS; simp only [C.x_cmS, C.x_tkI, C.x_s2S]
theorem DM.x_bbS (C : DM h0 h x) : bbS h x = bbS h0 x := by funext a0 a1 a2 a3; unfold bbS; simp only [C.e (o := 2) (by decide) (by decide) (by decide), C.x_ppS]
theorem DM.x_toS (C : DM h0 h x) : toS h x = toS h0 x := by funext a0; unfold toS; simp only [C.e (o := 5) (by decide) (by decide) (by decide), C.qC]
theorem DM.x_onS (C : DM h0 h x) : onS h x = onS h0 x := by funext a0 a1 a2 a3; unfold onS; simp only [C.e (o := 5) (by decide) (by decide) (by decide), C.x_bbS]
theorem DM.x_s3S (C : DM h0 h x) : s3S h x = s3S h0 x := by funext a0 a1 a2 a3; unfold s3S; simp only [C.x_tkS, C.x_s2S, C.x_cmS]
theorem DM.x_s5S (C : DM h0 h x) : s5S h x = s5S h0 x := by funext a0 a1 a2 a3; unfold s5S; simp only [C.x_s3S, C.x_toS, C.x_ppS, C.x_bbS, C.x_onS]
theorem DM.x_s8S (C : DM h0 h x) : s8S h x = s8S h0 x := by funext a0 a1 a2 a3; unfold s8S; simp only [C.x_s5S, C.x_bbS, C.x_onS, C.x_ppS]
theorem DM.x_stc (C : DM h0 h x) : stc h x = stc h0 x := by funext a0 a1 a2 a3; unfold stc; simp only [C.e (o := 4) (by decide) (by decide) (by decide), C.x_bbS, C.x_s8S]
theorem DM.x_mnT (C : DM h0 h x) : mnT h x = mnT h0 x := by funext a0 a1 a2; unfold mnT; simp only [C.x_stc, C.qC]
theorem DM.x_mnS (C : DM h0 h x) : mnS h x = mnS h0 x := by funext a0 a1 a2; unfold mnS; simp only [C.x_mnT, C.qC]
theorem DM.x_i0S (C : DM h0 h x) : i0S h x = i0S h0 x := by funext a0 a1; unfold i0S; simp only [C.e (o := 23) (by decide) (by decide) (by decide)]
theorem DM.rn (C : DM h0 h x) (s : Int32) : rnS h x s = rnS h0 x s := by unfold rnS; simp only [C.x_mnS, C.x_i0S, C.e (o := 26) (by decide) (by decide) (by decide), C.g (f := 1003) (by decide)]
theorem DM.b0 (C : DM h0 h x) : b0S h x = b0S h0 x := by unfold b0S b0F; simp only [C.qC, C.e (o := 6) (by decide) (by decide) (by decide), C.e (o := 15) (by decide) (by decide) (by decide)]
theorem DM.mdb (C : DM h0 h x) (D : MDB h0 x) : MDB h x := by
  unfold MDB CPv1 CPw1 CPr2 at D ⊢
  simp only [C.qC, C.qR, C.e (o := 1) (by decide) (by decide) (by decide), C.e (o := 2) (by decide) (by decide) (by decide), C.e (o := 3) (by decide) (by decide) (by decide), C.e (o := 4) (by decide) (by decide) (by decide), C.e (o := 5) (by decide) (by decide) (by decide), C.e (o := 6) (by decide) (by decide) (by decide), C.e (o := 7) (by decide) (by decide) (by decide), C.e (o := 8) (by decide) (by decide) (by decide), C.e (o := 9) (by decide) (by decide) (by decide), C.e (o := 10) (by decide) (by decide) (by decide), C.e (o := 11) (by decide) (by decide) (by decide), C.e (o := 12) (by decide) (by decide) (by decide), C.e (o := 13) (by decide) (by decide) (by decide), C.e (o := 14) (by decide) (by decide) (by decide), C.e (o := 15) (by decide) (by decide) (by decide), C.e (o := 16) (by decide) (by decide) (by decide), C.e (o := 17) (by decide) (by decide) (by decide), C.e (o := 18) (by decide) (by decide) (by decide), C.e (o := 19) (by decide) (by decide) (by decide), C.e (o := 20) (by decide) (by decide) (by decide), C.e (o := 21) (by decide) (by decide) (by decide), C.e (o := 22) (by decide) (by decide) (by decide), C.e (o := 23) (by decide) (by decide) (by decide), C.e (o := 24) (by decide) (by decide) (by decide), C.e (o := 25) (by decide) (by decide) (by decide), C.e (o := 26) (by decide) (by decide) (by decide), C.g (f := 1003) (by decide), C.g (f := 1001) (by decide), C.g (f := 1002) (by decide), C.g (f := 1000) (by decide)]
  exact D
theorem DM.qlw (C : DM h0 h x) (d w : Int32) : lawn h (x + 23) d w = lawn h0 (x + 23) d w := by
  unfold lawn lawv
  simp only [C.g (f := 1067) (by decide), C.e (o := 50) (by decide) (by decide) (by decide), C.e (o := 51) (by decide) (by decide) (by decide), C.e (o := 52) (by decide) (by decide) (by decide), C.e (o := 53) (by decide) (by decide) (by decide), C.e (o := 54) (by decide) (by decide) (by decide), C.e (o := 55) (by decide) (by decide) (by decide)]
theorem DM.qpk (C : DM h0 h x) (s : Int32) : prks h (x + 23) s = prks h0 (x + 23) s := by
  unfold prks parkS
  simp only [C.g (f := 1001) (by decide), C.e (o := 3) (by decide) (by decide) (by decide), C.e (o := 6) (by decide) (by decide) (by decide)]
/-- which sets may be tried -/
def tryS (h : Hp) (x : Nat) (a : Int32) : Prop := ∃ s, s < 2 ^ nC h x ∧ a = nI s ∧ frS h x s
theorem DM.qts (C : DM h0 h x) (a : Int32) : tryS h x a = tryS h0 x a := by unfold tryS frS; simp only [C.qC, C.e (o := 6) (by decide) (by decide) (by decide)]
theorem free_ok (H : CP h x) {a : Int32} : (¬ a < 0 ∧ a &&& (frx h x ^^^ (-1)) = 0) ↔ tryS h x a := by
  have hn := H.nC_le.2
  have h12 := pow12 hn
  constructor
  · rintro ⟨h1, h2⟩
    rw [i32_lt, toI_0] at h1
    have h3 := nI_ix (x := a) (by omega)
    have h4 := Int32.toInt_lt a
    have h5 := ix_toInt (x := a) (by omega)
    rw [and_zero] at h2
    have key : ∀ y, y < 32 → (ix a).testBit y = true → y < nC h x ∧ eI h (x + 23 + 6) y = 0 := by
      intro y hy ht
      have := h2 y hy (by rw [← h3, bt_nI (by omega) hy]; exact ht)
      rw [bt_xor1 _ hy, frx_bt H hy] at this
      simpa using this
    refine ⟨ix a, ?_, h3.symm, fun y hy ht => (key y (by omega) ht).2⟩
    refine Nat.lt_pow_two_of_testBit (ix a) (fun y hy => ?_)
    by_cases hy2 : y < 32
    · by_cases c : (ix a).testBit y = true
      · have := (key y hy2 c).1; omega
      · simpa using c
    · refine Nat.testBit_lt_two_pow ?_
      have : 2 ^ 32 ≤ 2 ^ y := Nat.pow_le_pow_right (by decide) (by omega)
      omega
  · rintro ⟨s, hs, rfl, hf⟩
    refine ⟨by rw [i32_lt, toI_0, nI_toInt (by omega)]; omega, ?_⟩
    rw [and_zero]
    intro y hy ht
    rw [bt_nI (by omega) hy] at ht
    have hy2 := tb_lt hs ht
    rw [bt_xor1 _ hy, frx_bt H hy]
    simp [hy2, hf y hy2 ht]
variable {E : Nat → Hp → Prop} {k n : Nat}
theorem pow_m1 {m : Nat} (hm : m ≤ 12) : shl 1 (nI m) - 1 = nI (2 ^ m - 1) := by
  have : ∀ m, m ≤ 12 → shl 1 (nI m) - 1 = nI (2 ^ m - 1) := by decide +kernel
  exact this m hm
theorem ct_isNew (hM : MW h (x + 23)) (D : MDB h x) {a : Int32} {Q : Int32 → Hp → Prop} (hq : ∀ r, (r = 0 ∨ r = 1) → (r = 1 ↔ tryS h x a) → Q r h) : CtI M_X3_isNew [rV (x + 23), iV a] h k n Q E := by
  have hn := D.1.1
  have hcs := D.1.2.2.2.1
  have h12 := pow12 hn
  have p0 : 1 ≤ 2 ^ nC h x := Nat.one_le_two_pow
  refine b_X3_isNew_0 hM ?_
  rw [hcs, pow_m1 hn]
  refine ⟨fun c => ?_, fun c => hq 0 (Or.inl rfl) ⟨fun z => absurd z (by decide), fun z => ?_⟩⟩
  · obtain ⟨d1, d2⟩ := isin_nI (m := 2 ^ nC h x - 1) (by omega) c
    obtain ⟨s, hs, rfl⟩ : ∃ s, s < 2 ^ nC h x ∧ a = nI s := ⟨ix a, by omega, d1⟩
    have iff : tryS h x (nI s) ↔ frS h x s := ⟨fun ⟨t, ht, e, hf⟩ => by rw [nI_inj (by omega) (by omega) e]; exact hf, fun hf => ⟨s, hs, rfl, hf⟩⟩
    rw [← nI0]
    refine itr_loop (f := fun i (v : Int32) => if bt (nI s) i = true ∧ ¬ eI h (x + 23 + 6) i = 0 then 0 else v) (inv := fun i v => (v = 0 ∨ v = 1) → (v = 1 ↔ ∀ y, y < i → s.testBit y = true → eI h (x + 23 + 6) y = 0) → Rn M_X3_isNew 22 [(0, rV (x + 23)), (1, iV (nI s)), (2, iV v), (3, iV (nI i))] [] h k n (qI Q) E) (m := nC h x) (s := 1) (fun i v hi ih hv hf => ?_) (fun hv hf => ?_) (Or.inr rfl) ⟨fun _ y hy => absurd hy (by omega), fun _ => rfl⟩
    · have vi : vp_in (nI i) 12 := vin_nI (by omega) (by decide)
      have ei : ix (nI i) = i := ix_nI (by omega)
      have tb : bt (nI s) i = s.testBit i := bt_nI (by omega) (by omega)
      have nx : ∀ w : Int32, w = (if bt (nI s) i = true ∧ ¬ eI h (x + 23 + 6) i = 0 then 0 else v) → Rn M_X3_isNew 22 [(0, rV (x + 23)), (1, iV (nI s)), (2, iV w), (3, iV (nI (i + 1)))] [] h k n (qI Q) E := by
        rintro w rfl
        refine ih ?_ ?_
        · by_cases c : bt (nI s) i = true ∧ ¬ eI h (x + 23 + 6) i = 0
          · rw [if_pos c]; exact Or.inl rfl
          · rw [if_neg c]; exact hv
        · by_cases c : bt (nI s) i = true ∧ ¬ eI h (x + 23 + 6) i = 0
          · rw [if_pos c]
            exact ⟨fun z => absurd z (by decide), fun z => absurd (z i (by omega) (by rw [← tb]; exact c.1)) c.2⟩
          · rw [if_neg c, hf]
            constructor
            · intro z y hy ht
              by_cases e : y = i
              · subst e
                by_cases d : eI h (x + 23 + 6) y = 0
                · exact d
                · exact absurd ⟨by rw [tb]; exact ht, d⟩ c
              · exact z y (by omega) ht
            · intro z y hy ht; exact z y (by omega) ht
      refine b_X3_isNew_22 hM ?_
      rw [hcs, shr_bit0 (by omega), ei]
      refine ⟨fun c => ?_, fun _ => ⟨fun c => ?_, fun c => ⟨fun d => ?_, fun d => ⟨vi, fun f => ?_, fun f => ?_⟩⟩⟩⟩
      · rw [nIle (by omega) (by omega)] at c; omega
      · rintro _ rfl; rw [nI_add1]
        refine nx 0 ?_
        rw [c]
        by_cases z : bt (nI s) i = true ∧ ¬ eI h (x + 23 + 6) i = 0
        · rw [if_pos z]
        · rw [if_neg z]
      · have c1 : v = 1 := by
          rcases hv with z | z
          · exact absurd z c
          · exact z
        rintro _ rfl; rw [nI_add1]
        refine nx 1 ?_
        rw [if_neg (fun z => by rw [d] at z; exact absurd z.1 (by decide)), c1]
      · rintro _ rfl; rw [nI_add1]
        refine nx 0 ?_
        rw [if_pos ⟨by simpa using d, f⟩]
      · have c1 : v = 1 := by
          rcases hv with z | z
          · exact absurd z c
          · exact z
        rintro _ rfl; rw [nI_add1]
        refine nx 1 ?_
        rw [if_neg (fun z => z.2 f), c1]
    · refine b_X3_isNew_22 hM ⟨fun _ => ⟨hv, hq _ hv ?_⟩, fun c => absurd (by rw [hcs]; exact Int32.le_refl _) c⟩
      rw [iff, hf]
      exact ⟨fun z => z, fun z => z⟩
  · obtain ⟨s, hs, rfl, -⟩ := z
    rw [isin_f, i32_le, i32_le, toI_0, nI_toInt (by omega), nI_toInt (by omega)] at c
    omega
variable {R : Hp → Prop}
theorem rnS_bd (D : MDB h x) (s : Int32) : Iv h x s (ix (gI h 1003 (x + 23)) * nC h x) (ix (gI h 1003 (x + 23))) (rnS h x s) := rnM_inv D s _ (bd_nI (hi := 30) D.1.2.2.1).2
theorem pr_tried (H : CP h x) {a b : Int32} (hR : ∀ h', CP h' x → R h') : CtJ M_X0_tried [rV x, iV a, iV b] h k n (fun r h1 => CtJ M_X3_tried [rV (x + 23), iV a, iV b] h1 0 0 (fun r2 h2 => r = r2 ∧ R h2) E) E := by
  have hf := free_ok (a := a) H
  have fin : ∀ h1 (v0 : Int64), SC h h1 x → (¬ (tryS h x a ∧ isin b 0 1 = true) → v0 = -1) → ((tryS h x a ∧ isin b 0 1 = true) → (b = 0 → v0.toInt = rnS h x a 510 0) ∧ (¬ b = 0 → v0.toInt = rnS h x a 512 0)) → CtJ M_X3_tried [rV (x + 23), iV a, iV b] h1 0 0 (fun r2 h2 => v0 = r2 ∧ R h2) E := by
    intro h1 v0 C e1 e2
    have hM := C.mw H.mw
    have D := C.dm.mdb H.mdb
    refine b_X3_tried_0 hM (ct_isNew hM D (fun r hr hi => ⟨hM, fun c => ?_, fun c => ⟨fun d => ?_, fun d => ?_⟩⟩))
    · rw [C.dm.qts] at hi
      exact ⟨e1 (fun z => by rw [hi.mpr z.1] at c; exact absurd c (by decide)), hR _ (C.cp H)⟩
    · have ht : tryS h x a := by
        rw [C.dm.qts] at hi
        rcases hr with z | z
        · exact absurd z c
        · exact hi.mp z
      obtain ⟨q1, q2⟩ := e2 ⟨ht, d⟩
      refine ct_falls hM D (fun h2 W => ⟨W.1.mw hM, fun y => ⟨i64_ext ?_, hR _ (W.1.cp (C.cp H))⟩, fun y => ⟨i64_ext ?_, hR _ (W.1.cp (C.cp H))⟩⟩)
      · rw [q2 y, to64, ← C.dm.rn]
        exact (W.2 512 0 (Or.inr (Or.inr (Or.inr ⟨by decide, rfl⟩))) (by decide) (by decide)).symm
      · rw [q1 y, ← C.dm.rn]
        exact (W.2 510 0 (Or.inr (Or.inr (Or.inr ⟨by decide, rfl⟩))) (by decide) (by decide)).symm
    · exact ⟨e1 (fun z => by rw [z.2] at d; exact absurd d (by decide)), hR _ (C.cp H)⟩
  have C0 := SC.refl h x
  refine b_X0_tried_0 H.xw ⟨fun c => ?_, fun c => ⟨H, fun d => ?_, fun d => ⟨fun f => ?_, fun f => ?_⟩⟩⟩
  · exact fin h _ C0 (fun _ => rfl) (fun z => absurd c (hf.mpr z.1).1)
  · exact fin h _ C0 (fun _ => rfl) (fun z => absurd (hf.mpr z.1).2 d)
  · refine ct_runs H (fun h1 W => ⟨(W.1.cp H).xw, fun y => ?_, fun y => ?_⟩)
    · refine fin h1 _ W.1 (fun z => absurd ⟨hf.mp ⟨c, d⟩, f⟩ z) (fun _ => ⟨fun z => absurd z y, fun _ => ?_⟩)
      rw [to64]
      exact W.2.2 512 0 (Or.inr (Or.inr (Or.inr ⟨by decide, rfl⟩))) (by decide) (by decide)
    · refine fin h1 _ W.1 (fun z => absurd ⟨hf.mp ⟨c, d⟩, f⟩ z) (fun _ => ⟨fun _ => ?_, fun z => absurd y z⟩)
      exact W.2.2 510 0 (Or.inr (Or.inr (Or.inr ⟨by decide, rfl⟩))) (by decide) (by decide)
  · exact fin h _ C0 (fun _ => rfl) (fun z => by rw [z.2] at f; exact absurd f (by decide))
theorem pr_helps (H : CP h x) {a b : Int32} (hR : ∀ h', CP h' x → R h') : CtJ M_X0_helps [rV x, iV a, iV b] h k n (fun r h1 => CtJ M_X3_helps [rV (x + 23), iV a, iV b] h1 0 0 (fun r2 h2 => r = r2 ∧ R h2) E) E := by
  refine r_wfH fun wf => ?_
  have g := hR _ H
  have hn := H.nC_le
  obtain ⟨pa, ⟨z1, z2⟩ | ⟨i, hi, rfl, z0, z1, z2, z3, z4, z5⟩⟩ := H.cor wf a
  · exact b_X0_helps_0 H.xw ⟨pa, fun _ => b_X3_helps_0 H.mw ⟨fun _ => ⟨rfl, g⟩, fun c => absurd (z1.symm.trans c) (by decide)⟩, fun c => absurd z2 c⟩
  obtain ⟨pb, hb⟩ := H.cor wf b
  obtain ⟨bz, -⟩ := H.bedI wf hi
  have hk := (H.pc i hi).1.1
  refine b_X0_helps_0 H.xw ?_
  rw [z2, z0]
  refine ⟨pa, fun c => absurd c z4, fun _ => ⟨z5, hk, fun c => ?_, fun c => ⟨pb, fun d => ?_, fun d => ?_⟩⟩⟩
  · refine b_X3_helps_0 H.mw ⟨fun y => absurd (z1.symm.trans y) (by decide), fun _ => ⟨z3, ?_⟩⟩
    rw [z0]
    exact ⟨fun _ => ⟨rfl, g⟩, fun y => absurd (bz.mpr y) c⟩
  · rcases hb with ⟨y1, y2⟩ | ⟨j, hj, rfl, y0, y1, y2, y3, y4, y5⟩
    · exact absurd y2 d
    have vj : vp_in (nI j) 12 := y3
    have D := H.mdb
    refine ct_runs H (fun h1 W1 => ⟨(W1.1.cp H).xw, ?_⟩)
    have C1 := W1.1
    have H1 := C1.cp H
    rw [xwr_spills_r H1.xw, xwk_spills_r H1.xw, xwl_spills_r H1.xw, y0]
    refine ⟨rfl, vj, ?_⟩
    have e1 : (eI h1 (x + 16) j).toInt = rnS h x 0 16 j := W1.2.2 16 j (Or.inl ⟨Or.inr (Or.inl rfl), hj⟩) (by decide) (by decide)
    generalize eI h1 (x + 16) j = w1 at e1 ⊢
    rintro w1 rfl
    refine ct_runs H1 (fun h2 W2 => ⟨(W2.1.cp H1).xw, ?_⟩)
    have C2 := C1.trans W2.1
    have H2 := C2.cp H
    rw [xwr_spills_r H2.xw, xwk_spills_r H2.xw, xwl_spills_r H2.xw]
    refine ⟨rfl, vj, ?_⟩
    have e2 : (eI h2 (x + 16) j).toInt = rnS h x (shl 1 (nI i)) 16 j := by
      refine (W2.2.2 16 j (Or.inl ⟨Or.inr (Or.inl rfl), by rw [C1.qC]; exact hj⟩) (by decide) (by decide)).trans ?_
      show rnS h1 x (shl 1 (nI i)) 16 j = _
      rw [C1.dm.rn]
    generalize eI h2 (x + 16) j = w2 at e2 ⊢
    have hM := C2.mw H.mw
    have D2 := C2.dm.mdb D
    refine b_X3_helps_0 hM ?_
    rw [C2.gi (f := 1001) (by decide), C2.eiM (o := 6) (by decide), z0]
    refine ⟨fun y => absurd (z1.symm.trans y) (by decide), fun _ => ⟨z3, fun y => absurd (bz.mp c) y, fun _ => ⟨fun _ => ?_, fun y => absurd (y1.symm.trans y) (by decide)⟩⟩⟩
    refine ct_falls hM D2 (fun h3 W3 => ⟨W3.1.mw hM, vj, ?_⟩)
    rw [y0]
    have e3 : (eJ h3 (x + 23 + 33) j).toInt = rnS h x 0 16 j := by
      refine (W3.2 16 j (Or.inl ⟨Or.inr (Or.inl rfl), by rw [C2.qC]; exact hj⟩) (by decide) (by decide)).trans ?_
      rw [C2.dm.rn]
    generalize eJ h3 (x + 23 + 33) j = w3 at e3 ⊢
    rintro w3 rfl
    have C3 := C2.trans W3.1
    have hM3 := C3.mw H.mw
    have D3 := C3.dm.mdb D
    refine ct_falls hM3 D3 (fun h4 W4 => ⟨W4.1.mw hM3, vj, ?_⟩)
    have e4 : (eJ h4 (x + 23 + 33) j).toInt = rnS h x (shl 1 (nI i)) 16 j := by
      refine (W4.2 16 j (Or.inl ⟨Or.inr (Or.inl rfl), by rw [C3.qC]; exact hj⟩) (by decide) (by decide)).trans ?_
      rw [C3.dm.rn]
    generalize eJ h4 (x + 23 + 33) j = w4 at e4 ⊢
    have hm : ix (gI h 1003 (x + 23)) ≤ 30 := (bd_nI (hi := 30) D.1.2.2.1).2
    have hmn : ix (gI h 1003 (x + 23)) * nC h x ≤ 30 * 12 := Nat.mul_le_mul hm hn.2
    have b1 := ((rnS_bd D 0).1 j hj).2.1
    have b2 := ((rnS_bd D (shl 1 (nI i))).1 j hj).2.1
    have hmn' : ((ix (gI h 1003 (x + 23)) * nC h x : Nat) : Int) ≤ 360 := by exact_mod_cast hmn
    refine ⟨i64_ext ?_, hR _ (W4.1.cp (C3.cp H))⟩
    rw [to64, i32_sub (by omega) (by omega), i64_sub (by omega) (by omega), e1, e2, e3, e4]
  · rcases hb with ⟨y1, y2⟩ | ⟨j, hj, rfl, y0, y1, y2, y3, y4, y5⟩
    · refine b_X3_helps_0 H.mw ⟨fun y => absurd (z1.symm.trans y) (by decide), fun _ => ⟨z3, ?_⟩⟩
      rw [z0]
      exact ⟨fun y => absurd (bz.mp c) y, fun _ => ⟨fun y => absurd (y1.symm.trans y) (by decide), fun _ => ⟨rfl, g⟩⟩⟩
    · exact absurd (y2.symm.trans d) y4
end
