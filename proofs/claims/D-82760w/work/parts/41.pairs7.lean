/-! pairs: bedOf, neighbour -/
set_option maxRecDepth 100000
section
variable {h : Hp} {x : Nat} {E : Nat → Hp → Prop} {k n : Nat} {R : Hp → Prop}
theorem pln_bd (w : Int32) : bd (pln w) 0 9999 := by
  have hi : ∀ {c : Prop} [Decidable c] {a b : Int32}, bd a 0 9999 → bd b 0 9999 → bd (if c then a else b) 0 9999 := fun {c} _ {a b} ha hb => by by_cases z : c <;> simp [z, ha, hb]
  have hb : ∀ v : Int32, decide (0 ≤ v.toInt ∧ v.toInt ≤ 9999) = true → bd v 0 9999 := fun v z => show 0 ≤ v.toInt ∧ v.toInt ≤ 9999 from of_decide_eq_true z
  unfold pln
  exact hi (hb 2 rfl) (hi (hb 250 rfl) (hi (hb 320 rfl) (hi (hb 3 rfl) (hi (hb 20 rfl) (hi (hb 30 rfl) (hi (hb 3 rfl) (hi (hb 5 rfl) (hi (hb 2 rfl) (hi (hb 10 rfl) (hi (hb 50 rfl) (hi (hb 1 rfl) (hi (hb 10 rfl) (hi (hb 80 rfl) (hi (hb 100 rfl) (hi (hb 50 rfl) (hi (hb 80 rfl) (hi (hb 20 rfl) (hi (hb 50 rfl) (hi (hb 0 rfl) (hb 20 rfl))))))))))))))))))))
def trsn (h : Hp) (x : Nat) (d : Int32) : List Nat := if frcx h x d = -1 then [] else trs (eI h (x + 23 + 50)) (eI h (x + 23 + 52)) (ix (frcx h x d))
theorem frcx_m (h : Hp) (x : Nat) (d : Int32) : frcm h (x + 23) d = frcx h x d := rfl
/-- the rules that are on, on both sides -/
theorem CP.on (H : CP h x) (d : Int32) : P_X0_on h x d ∧ CPu1 h (V_X0_on h x d) (fun w => lawn h (x + 23) d w) ∧ CPu2 h x (V_X0_on h x d) (trsn h x d) ∧ ∀ w, bd (lawn h (x + 23) d w) 0 9999 := by
  have hn := H.nU_le.2
  have hl : ∀ w, lawn h (x + 23) d w = if frcx h x d = -1 then pln w else lwR (eI h (x + 23 + 50)) (eI h (x + 23 + 52)) (eI h (x + 23 + 53)) (eI h (x + 23 + 54)) (eI h (x + 23 + 55)) w (ix (frcx h x d)) := fun w => rfl
  unfold trsn P_X0_on V_X0_on
  simp only [hl]
  rcases frc_cases (eI h (x + 23 + 51)) d (nU h x) with z | ⟨r, hr, z⟩
  · have z : frcx h x d = -1 := z
    have z0 : ¬ (0 : Int32) ≤ -1 := by decide
    simp only [z, z0, if_true, if_false]
    exact ⟨⟨H, fun c => c.elim, fun _ => trivial⟩, H.pu.1.1, H.pu.1.2.1, fun w => pln_bd w⟩
  · have z : frcx h x d = nI r := z
    have z0 : (0 : Int32) ≤ nI r := by rw [i32_le, toI_0, nI_toInt (by omega)]; omega
    have zr : ¬ nI r = -1 := fun e => by
      have := congrArg Int32.toInt e
      rw [nI_toInt (by omega), toI_m1] at this; omega
    have z1 : ix (nI r) = r := ix_nI (by omega)
    obtain ⟨a1, a2, a3, a4⟩ := H.rulI hr
    obtain ⟨u1, u2, u3, u4, u5, u6⟩ := H.pu.2 r hr
    rw [z]
    simp only [z0, zr, z1, if_true, if_false]
    exact ⟨⟨H, fun _ => ⟨H, a2, a4⟩, fun c => absurd trivial c⟩, u1, u2, u5⟩
theorem pr_bedOf (H : CP h x) {a b : Int32} (hR : ∀ h', CP h' x → R h') : CtI M_X0_bedOf [rV x, iV a, iV b] h k n (fun r h1 => CtI M_X3_bedOf [rV (x + 23), iV a, iV b] h1 0 0 (fun r2 h2 => r = r2 ∧ R h2) E) E := by
  refine r_wfH fun wf => ?_
  obtain ⟨p1, p2, ⟨z1, z2⟩ | ⟨i, hi, rfl, z0, z1, z2, z3, z4, z5, z6, z7, z8, z9⟩⟩ := H.bedc wf a
  · refine ct_X0_bedOf H.xw (by simp [P_X0_bedOf, p1, z1]) (ct_X3_bedOf H.mw (by simp [P_X3_bedOf, p2, z2]) ⟨?_, hR _ H⟩)
    simp [V_X0_bedOf, V_X3_bedOf, z1, z2]
  · have hn := H.nC_le.2
    obtain ⟨o1, o2, o3, o4⟩ := H.on (gI h 0 x)
    obtain ⟨w1, w2, w3, w4, w5, w6, w7, w8, w9, w10, w11, w12⟩ := (H.px i (by omega)).1
    obtain ⟨b1, b2, b3, b4, b5, b6, b7⟩ := z7
    obtain ⟨c1, c2, c3, c4, c5, c6, c7⟩ := z8
    obtain ⟨ho, -, -, -, -, -, -, -, -, -, -, -, -, -, ⟨l1, l2, l3, l4⟩, lk⟩ := o2
    have vl : vp_in (eI h (x + 23 + 9) i) 10 := by rw [vin_iff]; exact ⟨w1.1, by have := w1.2; omega⟩
    have hx0 := xw_k H.xw
    have hx1 := xwr_drinks H.xw
    have hx2 := xwk_drinks H.xw
    have hx3 := xwl_drinks H.xw
    have hd : ∀ j, j < 10 → eI h (x + 1) j = eI h (x + 23 + 25) j := fun j hj => (H.pa.1 j hj).1
    have ed : eI h (x + 1) (ix (eI h (x + 23 + 9) i)) = eI h (x + 23 + 25) (ix (eI h (x + 23 + 9) i)) := hd _ (by have := (bd_nI (hi := 9) w1).2; omega)
    have et := H.pn.1
    have e1 : ∀ v : Int32, (0 ≤ v) ↔ 0 ≤ v.toInt := fun v => by rw [i32_le, toI_0]
    have look : eI h (x + 23 + 17) i = -1 ∨ ∃ g, g < 4 ∧ eI h (x + 23 + 17) i = nI g := by
      by_cases c : 0 ≤ (eI h (x + 23 + 17) i).toInt
      · obtain ⟨y1, y2⟩ := bd_nI (hi := 3) (v := eI h (x + 23 + 17) i) ⟨c, w11.2⟩
        exact Or.inr ⟨_, by omega, y1⟩
      · left
        apply i32_ext
        have := w11.1
        rw [toI_m1]; omega
    have hx : P_X0_bedOf h x (nI i) b := by
      have q1 : ∀ g, g < 4 → vp_in (nI g) 4 := fun g hg => vin_nI hg (by decide)
      rcases look with e | ⟨g, hg, e⟩
      · have q2 : ¬ (0 : Int32) ≤ -1 := by decide
        simp [P_X0_bedOf, p1, z2, z5, P_X6_drink, P_X6_drinkBy, b2, b4, hx0, hx1, hx2, hx3, vl, c6, e, q2]
      · simp [P_X0_bedOf, p1, z2, z5, P_X6_drink, P_X6_drinkBy, b2, b4, hx0, hx1, hx2, hx3, vl, c6, e, o1, ho, l1, l2, l3, l4, q1 g hg]
    have hy : P_X3_bedOf h (x + 23) (nI i) b := by
      simp [P_X3_bedOf, p2, z1, z0, P_X3_drink, P_X3_now, vl, H.lwp]
    refine ct_X0_bedOf H.xw hx (ct_X3_bedOf H.mw hy ⟨?_, hR _ H⟩)
    rcases look with e | ⟨g, hg, e⟩
    · have q2 : ¬ (0 : Int32) ≤ -1 := by decide
      simp [V_X0_bedOf, V_X3_bedOf, z2, z3, z4, z0, V_X6_drink, V_X6_drinkBy, V_X3_drink, b2, b4, b5, b6, b7, c1, c2, c3, c4, c5, c6, c7, hx1, e, q2, if_nz, ed]
    · have q2 : (0 : Int32) ≤ nI g := by rw [i32_le, toI_0, nI_toInt (by omega)]; omega
      have q3 : ¬ nI g = -1 := fun e => by
        have := congrArg Int32.toInt e
        rw [nI_toInt (by omega), toI_m1] at this; omega
      have q4 := lk g hg
      rw [et] at q4
      simp [V_X0_bedOf, V_X3_bedOf, z2, z3, z4, z0, V_X6_drink, V_X6_drinkBy, V_X3_drink, V_X3_now, b2, b4, b5, b6, b7, c1, c2, c3, c4, c5, c6, c7, hx1, e, q2, q3, q4.1, q4.2, if_nz, ed, et, ix_nI (show g < 2 ^ 31 by omega)]
theorem pr_neighbour (H : CP h x) {a b : Int32} (hR : ∀ h', CP h' x → R h') : CtI M_X0_neighbour [rV x, iV a, iV b] h k n (fun r h1 => CtI M_X3_neighbour [rV (x + 23), iV a, iV b] h1 0 0 (fun r2 h2 => r = r2 ∧ R h2) E) E := by
  refine b_X0_neighbour_0 H.xw ⟨fun c => ?_, fun c => ?_⟩
  rotate_left
  · exact b_X3_neighbour_0 H.mw ⟨fun _ => ⟨rfl, hR _ H⟩, fun d => absurd (c.symm.trans d) (by decide)⟩
  obtain ⟨d1, d2⟩ := isin_nI (m := 9) (by decide) c
  obtain ⟨y, hy, rfl⟩ : ∃ y, y < 10 ∧ a = nI y := ⟨ix a, by omega, d1⟩
  have hix : ix (nI y) = y := ix_nI (by omega)
  have vy : vp_in (nI y) 10 := vin_nI hy (by decide)
  have ta := H.pa.2.2.1
  have tb := H.pa.2.1 y hy
  have m1 : ∀ p q : Nat, (10 : Int32) * nI p + nI q = nI (10 * p + q) := fun p q => by unfold nI; rw [Int32.ofNat_add, Int32.ofNat_mul]; rfl
  have t10 : (10 : Int32) = nI 10 := by decide
  let f : Nat → Int32 → Int32 := fun j v => v + eI h (x + 23 + 28) (10 * j + y)
  rw [← nI0]
  refine itr_loop (inv := fun i v => Rn M_X0_neighbour 17 [(0, rV x), (1, iV (nI y)), (2, iV b), (3, iV v), (4, iV (nI i))] [] h k n _ E) (f := f) (m := 10) (fun i v hi hw => ?_) ?_
  · refine b_X0_neighbour_17 H.xw ⟨fun z => absurd z (by rw [t10, nIle (by omega) (by omega)]; omega), fun _ => ?_⟩
    rw [m1, ix_nI (by omega), (ta i y hi hy).1]
    refine ⟨vin_nI (by omega) (by decide), ?_⟩
    rintro _ rfl _ rfl
    rw [nI_add1]; exact hw
  · refine b_X0_neighbour_17 H.xw ⟨fun _ => ?_, fun z => absurd (by decide) z⟩
    have fin : ∀ v0 : Int32, (¬ b = 0 → b = 1 → v0 = itr f 0 10 0) → (b = 0 → v0 = eI h (x + 10) y) → (¬ b = 0 → ¬ b = 1 → v0 = -1) → CtI M_X3_neighbour [rV (x + 23), iV (nI y), iV b] h 0 0 (fun r2 h2 => v0 = r2 ∧ R h2) E := by
      intro v0 e1 e2 e3
      refine b_X3_neighbour_0 H.mw ⟨fun d => absurd (c.symm.trans d) (by decide), fun _ => ⟨fun d => ?_, fun d => ?_⟩⟩
      · rw [← nI0]
        refine itr_loop (inv := fun i v => Rn M_X3_neighbour 26 [(0, rV (x + 23)), (1, iV (nI y)), (2, iV b), (3, iV v), (4, iV (nI i))] [] h 0 0 _ E) (f := f) (m := 10) (fun i v hi hw => ?_) ?_
        · refine b_X3_neighbour_26 H.mw ⟨fun z => absurd z (by rw [t10, nIle (by omega) (by omega)]; omega), fun _ => ?_⟩
          rw [m1, ix_nI (by omega)]
          refine ⟨vin_nI (by omega) (by decide), ?_⟩
          rintro _ rfl _ rfl
          rw [nI_add1]; exact hw
        · refine b_X3_neighbour_26 H.mw ⟨fun _ => ⟨fun z => ⟨?_, hR _ H⟩, fun z => ⟨vy, ?_, hR _ H⟩⟩, fun z => absurd (by decide) z⟩
          · rw [nI0]
            refine e1 z ?_
            obtain ⟨g1, g2⟩ := isin_nI (m := 1) (by decide) d
            have : ix b = 0 ∨ ix b = 1 := by omega
            rcases this with u | u
            · rw [u] at g1; exact absurd (g1.trans nI0) z
            · rw [g1, u]; decide
          · rw [hix, e2 z, tb]
      · refine ⟨e3 (fun z => ?_) (fun z => ?_), hR _ H⟩
        · rw [z] at d; exact absurd d (by decide)
        · rw [z] at d; exact absurd d (by decide)
    rw [hix]
    refine ⟨fun z => ⟨fun z' => fin _ (fun _ u => absurd u z') (fun u => absurd u z) (fun _ _ => rfl), fun z' => ?_⟩, fun z => ⟨vy, ?_⟩⟩
    · rw [nI0]; exact fin _ (fun _ _ => rfl) (fun u => absurd u z) (fun _ u => absurd z' u)
    · exact fin _ (fun u => absurd z u) (fun _ => rfl) (fun u => absurd z u)
end
