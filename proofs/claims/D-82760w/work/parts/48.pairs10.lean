/-! pairs: law -/
set_option maxRecDepth 100000
/-- turns among the first j statements -/
def trc (so : Nat → Int32) (r j : Nat) : Nat := ((List.range j).filter (fun k => decide (so (24 * r + k) = 30))).length
theorem trc_succ (so : Nat → Int32) (r j : Nat) : trc so r (j + 1) = trc so r j + (if so (24 * r + j) = 30 then 1 else 0) := by
  unfold trc
  rw [List.range_succ, List.filter_append, List.length_append]
  by_cases c : so (24 * r + j) = 30 <;> simp [c]
theorem trc_le (so : Nat → Int32) (r j : Nat) : trc so r j ≤ j := by
  unfold trc
  exact Nat.le_trans (List.length_filter_le _ _) (by rw [List.length_range]; exact Nat.le_refl _)
theorem trs_len (sn so : Nat → Int32) (r : Nat) : (trs sn so r).length = trc so r (ix (sn r)) := by unfold trs trc; rw [List.length_map]
section
variable {h : Hp} {x mo : Nat} {E : Nat → Hp → Prop} {k n : Nat} {R : Hp → Prop} {Q : Int32 → Hp → Prop}
theorem CP.sn (H : CP h x) {r : Nat} (hr : r < nU h x) : ∃ m, m ≤ 24 ∧ eI h (x + 23 + 50) r = nI m ∧ ix (eI h (x + 23 + 50) r) = m := by
  obtain ⟨z1, z2⟩ := bd_nI (hi := 24) (H.pu.2 r hr).2.2.2.1
  exact ⟨_, z2, z1, rfl⟩
theorem e24 (r : Nat) : (24 : Int32) * nI r = nI (24 * r) := by unfold nI; rw [Int32.ofNat_mul]; rfl
theorem nI_nm1 {r : Nat} (hr : r < 2 ^ 31) : ¬ nI r = -1 := fun e => by
  have := congrArg Int32.toInt e
  rw [nI_toInt hr, toI_m1] at this; omega
theorem X3_law_21 (H : CP h x) {d : Int32} (hq : Q (nI (trsn h x d).length) h) : Rn M_X3_law 59 [(0, rV (x + 23)), (3, iV (frcx h x d)), (4, iV 0), (5, iV (24 * frcx h x d))] [] h k n (qI Q) E := by
  have hn := H.nU_le.2
  unfold trsn at hq
  rcases frc_cases (eI h (x + 23 + 51)) d (nU h x) with z | ⟨r, hr, z⟩
  · have z : frcx h x d = -1 := z
    rw [z] at hq ⊢
    exact b_X3_law_59 H.mw ⟨fun _ => hq, fun c => absurd rfl c⟩
  · have z : frcx h x d = nI r := z
    have zr := nI_nm1 (show r < 2 ^ 31 by omega)
    obtain ⟨m, m1, m2, m3⟩ := H.sn hr
    rw [z, if_neg zr, ix_nI (by omega), trs_len, m3] at hq
    rw [z, e24]
    have hx : ix (nI r) = r := ix_nI (by omega)
    have key : ∀ t j, j + t = m → Rn M_X3_law 59 [(0, rV (x + 23)), (3, iV (nI r)), (4, iV (nI (trc (eI h (x + 23 + 52)) r j))), (5, iV (nI (24 * r + j)))] [] h k n (qI Q) E := by
      intro t
      induction t with
      | zero =>
        intro j hj
        have : j = m := by omega
        subst this
        refine b_X3_law_59 H.mw ⟨fun c => absurd c zr, fun _ => ⟨vin_nI (by omega) (by decide), ?_⟩⟩
        rw [hx, m2, e24, nIadd]
        exact ⟨fun _ => hq, fun c => absurd (Int32.le_refl _) c⟩
      | succ t ih =>
        intro j hj
        have ih := ih (j + 1) (by omega)
        rw [trc_succ, show 24 * r + (j + 1) = 24 * r + j + 1 by omega] at ih
        refine b_X3_law_59 H.mw ⟨fun c => absurd c zr, fun _ => ⟨vin_nI (by omega) (by decide), ?_⟩⟩
        rw [hx, m2, e24, nIadd]
        refine ⟨fun c => absurd c (by rw [nIle (by omega) (by omega)]; omega), fun _ => ⟨vin_nI (by omega) (by decide), ?_⟩⟩
        rw [ix_nI (by omega)]
        refine ⟨fun c => ?_, fun c => ?_⟩
        · refine b_X3_law_99 H.mw ?_
          rintro _ rfl _ rfl
          rw [if_neg c] at ih
          rw [nI_add1, show b1 (nz 0) = nI 0 by decide, nIadd]; exact ih
        · refine b_X3_law_99 H.mw ?_
          rintro _ rfl _ rfl
          rw [if_pos c] at ih
          rw [nI_add1, show b1 (nz 1) = nI 1 by decide, nIadd]; exact ih
    exact key m 0 (by omega)
theorem pr_law (H : CP h x) {a b : Int32} (hR : ∀ h', CP h' x → R h') : CtI M_X0_law [rV x, iV a, iV b] h k n (fun r h1 => CtI M_X3_law [rV (x + 23), iV a, iV b] h1 0 0 (fun r2 h2 => r = r2 ∧ R h2) E) E := by
  have g := hR _ H
  by_cases c1 : isin a 0 3649 = true
  rotate_left
  · have c1 : isin a 0 3649 = false := by simpa using c1
    refine ct_X0_law H.xw (by simp [P_X0_law, c1]) ?_
    exact b_X3_law_0 H.mw ⟨fun _ => ⟨by simp [V_X0_law, c1], g⟩, fun c => absurd (c1.symm.trans c) (by decide)⟩
  obtain ⟨o1, ⟨ho, f0, f1, f2, f3, f4, f5, f6, f7, f8, f9, f10, f11, f12, ⟨l1, l2, l3, l4⟩, lk⟩, ⟨o3, -⟩, o4⟩ := H.on a
  have hlt := o3.1
  have hls := o3.2.1
  by_cases c2 : isin b 13 20 = true
  · have hb : b = 13 ∨ b = 14 ∨ b = 15 ∨ b = 16 ∨ b = 17 ∨ b = 18 ∨ b = 19 ∨ b = 20 := by
      have := isin_bd c2
      have h1 := this.1
      have h2 := this.2
      have h3 : (13 : Int32).toInt = 13 := by decide
      have h4 : (20 : Int32).toInt = 20 := by decide
      rw [h3] at h1
      rw [h4] at h2
      have h5 : b.toInt = 13 ∨ b.toInt = 14 ∨ b.toInt = 15 ∨ b.toInt = 16 ∨ b.toInt = 17 ∨ b.toInt = 18 ∨ b.toInt = 19 ∨ b.toInt = 20 := by omega
      rcases h5 with e | e | e | e | e | e | e | e
      · exact Or.inl (i32_ext (e.trans (by decide)))
      · exact Or.inr (Or.inl (i32_ext (e.trans (by decide))))
      · exact Or.inr (Or.inr (Or.inl (i32_ext (e.trans (by decide)))))
      · exact Or.inr (Or.inr (Or.inr (Or.inl (i32_ext (e.trans (by decide))))))
      · exact Or.inr (Or.inr (Or.inr (Or.inr (Or.inl (i32_ext (e.trans (by decide)))))))
      · exact Or.inr (Or.inr (Or.inr (Or.inr (Or.inr (Or.inl (i32_ext (e.trans (by decide))))))))
      · exact Or.inr (Or.inr (Or.inr (Or.inr (Or.inr (Or.inr (Or.inl (i32_ext (e.trans (by decide)))))))))
      · exact Or.inr (Or.inr (Or.inr (Or.inr (Or.inr (Or.inr (Or.inr (i32_ext (e.trans (by decide)))))))))
    have w1 : ∀ g, g < 4 → eI h (gR h 416 (V_X0_on h x a)) g = lawn h (x + 23) a (13 + 2 * nI g) := fun g hg => (lk g hg).1
    have w2 : ∀ g, g < 4 → eI h (gR h 417 (V_X0_on h x a)) g = lawn h (x + 23) a (14 + 2 * nI g) := fun g hg => (lk g hg).2
    have v0 : vp_in 0 4 := vp_lit (by decide)
    have v1 : vp_in 1 4 := vp_lit (by decide)
    have v2 : vp_in 2 4 := vp_lit (by decide)
    have v3 : vp_in 3 4 := vp_lit (by decide)
    have x0 : ix 0 = 0 := by decide
    have x1 : ix 1 = 1 := by decide
    have x2 : ix 2 = 2 := by decide
    have x3 : ix 3 = 3 := by decide
    have key : P_X0_law h x a b ∧ V_X0_law h x a b = lawn h (x + 23) a b := by
      rcases hb with e | e | e | e | e | e | e | e <;> subst e
      · have i1 : irm 13 2 = 1 := by decide
        have i2 : ix (((13 : Int32) - 13) / 2) = 0 := by decide
        have i3 : vp_in (((13 : Int32) - 13) / 2) 4 := vp_lit (by decide)
        refine ⟨by simp [P_X0_law, c1, c2, o1, ho, i1, l1, l2, i3, v0, v1, v2, v3], ?_⟩
        have e := w1 0 (by decide)
        rw [show (13 : Int32) + 2 * nI 0 = 13 by decide] at e
        rw [← e]; simp [V_X0_law, c1, c2, i1, i2, x0, x1, x2, x3]
      · have i1 : ¬ irm 14 2 = 1 := by decide
        have i2 : ix (((14 : Int32) - 14) / 2) = 0 := by decide
        have i3 : vp_in (((14 : Int32) - 14) / 2) 4 := vp_lit (by decide)
        refine ⟨by simp [P_X0_law, c1, c2, o1, ho, i1, l3, l4, i3, v0, v1, v2, v3], ?_⟩
        have e := w2 0 (by decide)
        rw [show (14 : Int32) + 2 * nI 0 = 14 by decide] at e
        rw [← e]; simp [V_X0_law, c1, c2, i1, i2, x0, x1, x2, x3]
      · have i1 : irm 15 2 = 1 := by decide
        have i2 : ix (((15 : Int32) - 13) / 2) = 1 := by decide
        have i3 : vp_in (((15 : Int32) - 13) / 2) 4 := vp_lit (by decide)
        refine ⟨by simp [P_X0_law, c1, c2, o1, ho, i1, l1, l2, i3, v0, v1, v2, v3], ?_⟩
        have e := w1 1 (by decide)
        rw [show (13 : Int32) + 2 * nI 1 = 15 by decide] at e
        rw [← e]; simp [V_X0_law, c1, c2, i1, i2, x0, x1, x2, x3]
      · have i1 : ¬ irm 16 2 = 1 := by decide
        have i2 : ix (((16 : Int32) - 14) / 2) = 1 := by decide
        have i3 : vp_in (((16 : Int32) - 14) / 2) 4 := vp_lit (by decide)
        refine ⟨by simp [P_X0_law, c1, c2, o1, ho, i1, l3, l4, i3, v0, v1, v2, v3], ?_⟩
        have e := w2 1 (by decide)
        rw [show (14 : Int32) + 2 * nI 1 = 16 by decide] at e
        rw [← e]; simp [V_X0_law, c1, c2, i1, i2, x0, x1, x2, x3]
      · have i1 : irm 17 2 = 1 := by decide
        have i2 : ix (((17 : Int32) - 13) / 2) = 2 := by decide
        have i3 : vp_in (((17 : Int32) - 13) / 2) 4 := vp_lit (by decide)
        refine ⟨by simp [P_X0_law, c1, c2, o1, ho, i1, l1, l2, i3, v0, v1, v2, v3], ?_⟩
        have e := w1 2 (by decide)
        rw [show (13 : Int32) + 2 * nI 2 = 17 by decide] at e
        rw [← e]; simp [V_X0_law, c1, c2, i1, i2, x0, x1, x2, x3]
      · have i1 : ¬ irm 18 2 = 1 := by decide
        have i2 : ix (((18 : Int32) - 14) / 2) = 2 := by decide
        have i3 : vp_in (((18 : Int32) - 14) / 2) 4 := vp_lit (by decide)
        refine ⟨by simp [P_X0_law, c1, c2, o1, ho, i1, l3, l4, i3, v0, v1, v2, v3], ?_⟩
        have e := w2 2 (by decide)
        rw [show (14 : Int32) + 2 * nI 2 = 18 by decide] at e
        rw [← e]; simp [V_X0_law, c1, c2, i1, i2, x0, x1, x2, x3]
      · have i1 : irm 19 2 = 1 := by decide
        have i2 : ix (((19 : Int32) - 13) / 2) = 3 := by decide
        have i3 : vp_in (((19 : Int32) - 13) / 2) 4 := vp_lit (by decide)
        refine ⟨by simp [P_X0_law, c1, c2, o1, ho, i1, l1, l2, i3, v0, v1, v2, v3], ?_⟩
        have e := w1 3 (by decide)
        rw [show (13 : Int32) + 2 * nI 3 = 19 by decide] at e
        rw [← e]; simp [V_X0_law, c1, c2, i1, i2, x0, x1, x2, x3]
      · have i1 : ¬ irm 20 2 = 1 := by decide
        have i2 : ix (((20 : Int32) - 14) / 2) = 3 := by decide
        have i3 : vp_in (((20 : Int32) - 14) / 2) 4 := vp_lit (by decide)
        refine ⟨by simp [P_X0_law, c1, c2, o1, ho, i1, l3, l4, i3, v0, v1, v2, v3], ?_⟩
        have e := w2 3 (by decide)
        rw [show (14 : Int32) + 2 * nI 3 = 20 by decide] at e
        rw [← e]; simp [V_X0_law, c1, c2, i1, i2, x0, x1, x2, x3]
    refine ct_X0_law H.xw key.1 ?_
    rw [key.2]
    have c3 : isin b 0 22 = true ∧ ¬ b = 22 ∧ ¬ 21 ≤ b := by
      rcases hb with e | e | e | e | e | e | e | e <;> subst e <;> exact ⟨by decide, by decide, by decide⟩
    refine b_X3_law_0 H.mw ⟨fun c => absurd (c1.symm.trans c) (by decide), fun _ => ⟨fun _ => ⟨H.lwp, ?_⟩, fun c => absurd (c3.1.symm.trans c) (by decide)⟩⟩
    rintro _ rfl
    exact ⟨fun _ => ⟨fun c => absurd c c3.2.2, fun _ => ⟨H.lwp, rfl, g⟩⟩, fun c => absurd c c3.2.1⟩
  · have c2 : isin b 13 20 = false := by simpa using c2
    refine ct_X0_law H.xw (by simp [P_X0_law, c1, c2, o1, ho, hlt, H]) ?_
    refine b_X3_law_0 H.mw ⟨fun c => absurd (c1.symm.trans c) (by decide), fun _ => ⟨fun c3 => ⟨H.lwp, ?_⟩, fun c3 => ⟨?_, g⟩⟩⟩
    · rintro _ rfl
      rw [frcx_m]
      refine ⟨fun c22 => ⟨fun c21 => ?_, fun c21 => ⟨H.lwp, ?_, g⟩⟩, fun c22 => ⟨?_, g⟩⟩
      · rintro _ rfl
        refine X3_law_21 H ⟨?_, g⟩
        have : b = 21 := by
          have h1 := (isin_bd c3).2
          have h3 : (22 : Int32).toInt = 22 := by decide
          have h4 : (21 : Int32).toInt = 21 := by decide
          rw [h3] at h1
          rw [i32_le, h4] at c21
          have h5 : b.toInt ≠ 22 := fun e => c22 (i32_ext (e.trans h3.symm))
          exact i32_ext (by omega)
        subst this
        simp [V_X0_law, c1, c2, hls]
      · have hb : b = 0 ∨ b = 1 ∨ b = 2 ∨ b = 3 ∨ b = 4 ∨ b = 5 ∨ b = 6 ∨ b = 7 ∨ b = 8 ∨ b = 9 ∨ b = 10 ∨ b = 11 ∨ b = 12 := by
          have h1 := (isin_bd c3).1
          have h4 : (21 : Int32).toInt = 21 := by decide
          rw [i32_le, h4] at c21
          rw [isin_f, i32_le, i32_le, show (13 : Int32).toInt = 13 by decide, show (20 : Int32).toInt = 20 by decide] at c2
          rw [toI_0] at h1
          obtain ⟨m, hm, em⟩ : ∃ m, m < 13 ∧ b = nI m := ⟨ix b, by have := ix_toInt h1; omega, (nI_ix h1).symm⟩
          subst em
          have : ∀ m, m < 13 → (nI m = 0 ∨ nI m = 1 ∨ nI m = 2 ∨ nI m = 3 ∨ nI m = 4 ∨ nI m = 5 ∨ nI m = 6 ∨ nI m = 7 ∨ nI m = 8 ∨ nI m = 9 ∨ nI m = 10 ∨ nI m = 11 ∨ nI m = 12) := by decide
          exact this m hm
        rcases hb with e | e | e | e | e | e | e | e | e | e | e | e | e <;> subst e <;> simp [V_X0_law, c1, c2, f0, f1, f2, f3, f4, f5, f6, f7, f8, f9, f10, f11, f12]
      · subst c22
        simp [V_X0_law, c1, c2]
    · have : ∀ w : Int32, (isin w 0 22 = true) → b ≠ w := fun w hw e => by rw [e] at c3; exact absurd (c3.symm.trans hw) (by decide)
      simp [V_X0_law, c1, c2, this 0 (by decide), this 1 (by decide), this 2 (by decide), this 3 (by decide), this 4 (by decide), this 5 (by decide), this 6 (by decide), this 7 (by decide), this 8 (by decide), this 9 (by decide), this 10 (by decide), this 11 (by decide), this 12 (by decide), this 21 (by decide), this 22 (by decide)]
end
