/-! pairs: turn -/
set_option maxRecDepth 100000
/-- a statement's turn is one of a neighbour, at a corner, on a day -/
def tmF (fi se th fo : Nat → Int32) (a b d : Int32) (s : Nat) : Bool := decide (fi s = a) && (decide (se s = b) && (!decide (d < fo s) && decide (irm (d - fo s) (th s) = 0)))
theorem any_getD {l : List Nat} {f : Nat → Bool} : l.any f = true ↔ ∃ j, j < l.length ∧ f (l.getD j 0) = true := by
  rw [List.any_eq_true]
  constructor
  · rintro ⟨s, hs, hf⟩
    obtain ⟨j, hj, e⟩ := List.getElem_of_mem hs
    exact ⟨j, hj, by rw [List.getD_eq_getElem?_getD, List.getElem?_eq_getElem hj, e]; exact hf⟩
  · rintro ⟨j, hj, hf⟩
    refine ⟨l.getD j 0, ?_, hf⟩
    rw [List.getD_eq_getElem?_getD, List.getElem?_eq_getElem hj]
    exact List.getElem_mem hj
section
variable {h : Hp} {x mo : Nat} {E : Nat → Hp → Prop} {k n : Nat} {R : Hp → Prop} {Q : Int32 → Hp → Prop}
theorem X0_turn_L (H : CP h x) {r : Nat} {l : List Nat} (hk : kd h r = 5) (hl : CPu2 h x r l) (hll : l.length ≤ 24) {a b d : Int32} (hq : Q (b1 (l.any (tmF (eI h (x + 23 + 53)) (eI h (x + 23 + 54)) (eI h (x + 23 + 55)) (eI h (x + 23 + 56)) a b d))) h) : ∀ t j, j + t = l.length → (∀ i, i < j → tmF (eI h (x + 23 + 53)) (eI h (x + 23 + 54)) (eI h (x + 23 + 55)) (eI h (x + 23 + 56)) a b d (l.getD i 0) = false) → Rn M_X0_turn_2 37 [(0, rV x), (1, iV a), (2, iV b), (3, iV d), (4, rV r), (5, iV (nI j))] [] h k n (qI Q) E := by
  obtain ⟨hA, hB⟩ := hl
  intro t
  induction t with
  | zero =>
    intro j hj hf
    have : j = l.length := by omega
    subst this
    refine b_X0_turn_2_37 H.xw ⟨hk, hA.1, ?_⟩
    rw [hA.2.1]
    refine ⟨fun _ => ?_, fun c => absurd (Int32.le_refl _) c⟩
    have : l.any (tmF (eI h (x + 23 + 53)) (eI h (x + 23 + 54)) (eI h (x + 23 + 55)) (eI h (x + 23 + 56)) a b d) = false := by
      rw [Bool.eq_false_iff]
      intro z
      obtain ⟨j, hj, e⟩ := any_getD.mp z
      rw [hf j hj] at e
      exact absurd e (by decide)
    rw [this] at hq
    exact hq
  | succ t ih =>
    intro j hj hf
    have hg : ALg h (gR h 401 r) (nI j) := hA.g (by rw [nI_toInt (by omega)]; omega) (by rw [nI_toInt (by omega)]; omega)
    obtain ⟨t1, t2, t3, t4, t5, t6, t7, t8, t9⟩ := hB j (by omega)
    have step : tmF (eI h (x + 23 + 53)) (eI h (x + 23 + 54)) (eI h (x + 23 + 55)) (eI h (x + 23 + 56)) a b d (l.getD j 0) = false → ∀ v, v = nI j + 1 → Rn M_X0_turn_2 37 [(0, rV x), (1, iV a), (2, iV b), (3, iV d), (4, rV r), (5, iV v)] [] h k n (qI Q) E := by
      rintro e _ rfl
      rw [nI_add1]
      refine ih (j + 1) (by omega) fun i hi => ?_
      by_cases c : i = j
      · rw [c]; exact e
      · exact hf i (by omega)
    refine b_X0_turn_2_37 H.xw ⟨hk, hA.1, ?_⟩
    rw [hA.2.1]
    refine ⟨fun c => absurd c (by rw [nIle (by omega) (by omega)]; omega), fun _ => ⟨hg, ?_⟩⟩
    rw [ix_nI (by omega)]
    refine ⟨t1, ?_⟩
    rintro _ rfl
    have any1 : tmF (eI h (x + 23 + 53)) (eI h (x + 23 + 54)) (eI h (x + 23 + 55)) (eI h (x + 23 + 56)) a b d (l.getD j 0) = true → l.any (tmF (eI h (x + 23 + 53)) (eI h (x + 23 + 54)) (eI h (x + 23 + 55)) (eI h (x + 23 + 56)) a b d) = true := fun z => any_getD.mpr ⟨j, by omega, z⟩
    generalize l.getD j 0 = s at t2 t3 t4 t5 t6 t7 t8 t9 step any1
    have hz : ¬ eI h (x + 23 + 55) s = 0 := fun e => by
      have := t8.1
      rw [e, toI_0] at this; omega
    unfold P_X10_neighbour P_X10_corner P_X10_isOn V_X10_neighbour V_X10_corner V_X10_isOn
    rw [t2, t3, t4, t5]
    refine ⟨t1, fun c => step (by simp [tmF, c]), fun c1 => ⟨t1, fun c => step (by simp [tmF, c]), fun c2 => ⟨⟨t1, fun _ => trivial, fun _ => hz⟩, fun c => step ?_, fun c => ?_⟩⟩⟩
    · by_cases c3 : d < eI h (x + 23 + 56) s
      · simp [tmF, c3]
      · by_cases c4 : irm (d - eI h (x + 23 + 56) s) (eI h (x + 23 + 55) s) = 0
        · simp [c3, c4] at c
        · simp [tmF, c4]
    · have : l.any (tmF (eI h (x + 23 + 53)) (eI h (x + 23 + 54)) (eI h (x + 23 + 55)) (eI h (x + 23 + 56)) a b d) = true := by
        refine any1 ?_
        by_cases c3 : d < eI h (x + 23 + 56) s
        · simp [c3] at c
        · by_cases c4 : irm (d - eI h (x + 23 + 56) s) (eI h (x + 23 + 55) s) = 0
          · simp only [tmF, c1, c2, c3, c4, decide_true, decide_false, Bool.not_false, Bool.and_true]
          · simp [c3, c4] at c
      rw [this] at hq
      exact hq
/-- a match among the first j statements -/
def tmR (h : Hp) (x r : Nat) (a b d : Int32) (j : Nat) : Bool := (List.range j).any (fun k => decide (eI h (x + 23 + 52) (24 * r + k) = 30) && tmF (eI h (x + 23 + 53)) (eI h (x + 23 + 54)) (eI h (x + 23 + 55)) (eI h (x + 23 + 56)) a b d (24 * r + k))
theorem tmR_trs (h : Hp) (x r : Nat) (a b d : Int32) : (trs (eI h (x + 23 + 50)) (eI h (x + 23 + 52)) r).any (tmF (eI h (x + 23 + 53)) (eI h (x + 23 + 54)) (eI h (x + 23 + 55)) (eI h (x + 23 + 56)) a b d) = tmR h x r a b d (ix (eI h (x + 23 + 50) r)) := by
  unfold trs tmR
  rw [List.any_map, List.any_filter]
  rfl
theorem tmR_succ (h : Hp) (x r : Nat) (a b d : Int32) (j : Nat) : tmR h x r a b d (j + 1) = (tmR h x r a b d j || (decide (eI h (x + 23 + 52) (24 * r + j) = 30) && tmF (eI h (x + 23 + 53)) (eI h (x + 23 + 54)) (eI h (x + 23 + 55)) (eI h (x + 23 + 56)) a b d (24 * r + j))) := by
  unfold tmR
  rw [List.range_succ, List.any_append]
  simp
theorem X3_turn_L (H : CP h x) {r m : Nat} (hr : r < nU h x) (hm : m ≤ 24) (em : eI h (x + 23 + 50) r = nI m) {i y : Nat} (hi : i < nC h x) (hy : y < 10) {d : Int32} (hq : Q (b1 (tmR h x r (nI y) (nI i) d m)) h) : ∀ t j, j + t = m → Rn M_X3_turn 48 [(0, rV (x + 23)), (1, iV (nI y)), (2, iV (nI i)), (3, iV d), (4, iV (nI r)), (5, iV (b1 (tmR h x r (nI y) (nI i) d j))), (6, iV (nI (24 * r + j)))] [] h k n (qI Q) E := by
  have hu := H.nU_le.2
  have hn := H.nC_le
  have zr := nI_nm1 (show r < 2 ^ 31 by omega)
  have hx : ix (nI r) = r := ix_nI (by omega)
  have t10 : (10 : Int32) = nI 10 := by decide
  intro t
  induction t with
  | zero =>
    intro j hj
    have : j = m := by omega
    subst this
    refine b_X3_turn_48 H.mw ⟨fun c => absurd c zr, fun _ => ⟨vin_nI (by omega) (by decide), ?_⟩⟩
    rw [hx, em, e24, nIadd]
    refine ⟨fun _ => b_X3_turn_122 H.mw ?_, fun c => absurd (Int32.le_refl _) c⟩
    rw [nz_b1]; exact hq
  | succ t ih =>
    intro j hj
    have ih := ih (j + 1) (by omega)
    rw [tmR_succ, show 24 * r + (j + 1) = 24 * r + j + 1 by omega] at ih
    have hv : vp_in (nI (24 * r + j)) 264 := vin_nI (by omega) (by decide)
    have hs : ix (nI (24 * r + j)) = 24 * r + j := ix_nI (by omega)
    have third : eI h (x + 23 + 52) (24 * r + j) = 30 → ¬ eI h (x + 23 + 55) (24 * r + j) = 0 := fun c => by
      obtain ⟨u1, u2, -⟩ := H.pu.2 r hr
      have hmem : 24 * r + j ∈ trs (eI h (x + 23 + 50)) (eI h (x + 23 + 52)) r := by
        unfold trs
        refine List.mem_map.mpr ⟨j, List.mem_filter.mpr ⟨List.mem_range.mpr ?_, by simp [c]⟩, rfl⟩
        rw [em, ix_nI (by omega)]; omega
      obtain ⟨q, hq, e⟩ := List.getElem_of_mem hmem
      have := (u2.2 q hq).2.2.2.2.2.2.2.1
      rw [List.getD_eq_getElem?_getD, List.getElem?_eq_getElem hq] at this
      rw [Option.getD_some, e] at this
      intro z
      have := this.1
      rw [z, toI_0] at this; omega
    refine b_X3_turn_48 H.mw ⟨fun c => absurd c zr, fun _ => ⟨vin_nI (by omega) (by decide), ?_⟩⟩
    rw [hx, em, e24, nIadd]
    refine ⟨fun c => absurd c (by rw [nIle (by omega) (by omega)]; omega), fun _ => ⟨fun c => ?_, fun c => ?_⟩⟩
    · rintro _ rfl
      have : tmR h x r (nI y) (nI i) d j = true := b1_ne0.mp c
      rw [this] at ih
      rw [nI_add1]; exact ih
    · have : tmR h x r (nI y) (nI i) d j = false := b1_eq0.mp c
      rw [this, Bool.false_or] at ih
      refine ct_X3_isTurn H.mw ?_ ⟨H.mw, ?_⟩
      · unfold P_X3_isTurn
        rw [hs]
        exact ⟨hv, fun _ => trivial, fun c => ⟨hv, fun _ => trivial, fun _ => ⟨hv, fun _ => trivial, fun _ => ⟨hv, fun _ => trivial, fun _ => ⟨hv, hv, third c⟩⟩⟩⟩⟩
      · unfold V_X3_isTurn
        rw [hs]
        have no : tmF (eI h (x + 23 + 53)) (eI h (x + 23 + 54)) (eI h (x + 23 + 55)) (eI h (x + 23 + 56)) (nI y) (nI i) d (24 * r + j) = false ∨ ¬ eI h (x + 23 + 52) (24 * r + j) = 30 → ∀ v, v = nI (24 * r + j) + 1 → Rn M_X3_turn 48 [(0, rV (x + 23)), (1, iV (nI y)), (2, iV (nI i)), (3, iV d), (4, iV (nI r)), (5, iV 0), (6, iV v)] [] h k n (qI Q) E := by
          rintro z _ rfl
          rw [nI_add1]
          rcases z with z | z
          · rw [z, Bool.and_false] at ih; exact ih
          · rw [decide_eq_false z, Bool.false_and] at ih; exact ih
        refine ⟨fun c => no ?_, fun c => ⟨hv, fun c1 => no ?_, fun c1 => ⟨hv, fun c2 => no ?_, fun c2 => ?_⟩⟩⟩
        · by_cases d1 : eI h (x + 23 + 52) (24 * r + j) = 30
          · left
            unfold tmF
            by_cases d2 : eI h (x + 23 + 53) (24 * r + j) = nI y
            · by_cases d3 : eI h (x + 23 + 54) (24 * r + j) = nI i
              · have g2 : ¬ (10 : Int32) ≤ nI y := by rw [t10, nIle (by omega) (by omega)]; omega
                have g3 : ¬ gI h 1001 (x + 23) ≤ nI i := by rw [hn.1, nIle (by omega) (by omega)]; omega
                rw [d2, d3] at c
                by_cases d4 : d < eI h (x + 23 + 56) (24 * r + j)
                · simp [d4]
                · by_cases d5 : irm (d - eI h (x + 23 + 56) (24 * r + j)) (eI h (x + 23 + 55) (24 * r + j)) = 0
                  · simp [d1, g2, g3, d4, d5] at c
                  · simp [d5]
              · simp [d3]
            · simp [d2]
          · exact Or.inr d1
        · left; simp [tmF, c1]
        · left; simp [tmF, c2]
        · rintro _ rfl
          have d1 : eI h (x + 23 + 52) (24 * r + j) = 30 := by
            by_cases d1 : eI h (x + 23 + 52) (24 * r + j) = 30
            · exact d1
            · simp [d1] at c
          have d4 : ¬ d < eI h (x + 23 + 56) (24 * r + j) := fun d4 => by simp [d4] at c
          have d5 : irm (d - eI h (x + 23 + 56) (24 * r + j)) (eI h (x + 23 + 55) (24 * r + j)) = 0 := by
            by_cases d5 : irm (d - eI h (x + 23 + 56) (24 * r + j)) (eI h (x + 23 + 55) (24 * r + j)) = 0
            · exact d5
            · simp [d5] at c
          have : tmF (eI h (x + 23 + 53)) (eI h (x + 23 + 54)) (eI h (x + 23 + 55)) (eI h (x + 23 + 56)) (nI y) (nI i) d (24 * r + j) = true := by
            simp only [tmF, c1, c2, d4, d5, decide_true, decide_false, Bool.not_false, Bool.and_true]
          rw [this, Bool.and_true, decide_eq_true d1] at ih
          rw [nI_add1]; exact ih
theorem pr_turn (H : CP h x) {a b d : Int32} (hR : ∀ h', CP h' x → R h') : CtI M_X0_turn_2 [rV x, iV a, iV b, iV d] h k n (fun r h1 => CtI M_X3_turn [rV (x + 23), iV a, iV b, iV d] h1 0 0 (fun r2 h2 => r = r2 ∧ R h2) E) E := by
  refine r_wfH fun wf => ?_
  have g := hR _ H
  have hu := H.nU_le.2
  refine b_X0_turn_2_0 H.xw ⟨fun c => ?_, fun c => ?_⟩
  · exact b_X3_turn_0 H.mw ⟨fun _ => ⟨rfl, g⟩, fun c2 => absurd (c.symm.trans c2) (by decide)⟩
  obtain ⟨d1, d2⟩ := isin_nI (m := 9) (by decide) c
  obtain ⟨y, hy, rfl⟩ : ∃ y, y < 10 ∧ a = nI y := ⟨ix a, by omega, d1⟩
  obtain ⟨hp, ⟨z1, z2⟩ | ⟨i, hi, rfl, z0, z1, z2, z3, z4, z5⟩⟩ := H.cor wf b
  · refine ⟨hp, fun _ => ?_, fun c3 => absurd z2 c3⟩
    exact b_X3_turn_0 H.mw ⟨fun c2 => absurd (c.symm.trans c2) (by decide), fun _ => ⟨fun _ => ⟨rfl, g⟩, fun c3 => absurd (z1.symm.trans c3) (by decide)⟩⟩
  · refine ⟨hp, fun c3 => absurd (z2.symm.trans c3) z4, fun _ => ⟨fun c4 => ?_, fun c4 => ?_⟩⟩
    rotate_left
    · exact b_X3_turn_0 H.mw ⟨fun c2 => absurd (c.symm.trans c2) (by decide), fun _ => ⟨fun c3 => absurd (z1.symm.trans c3) (by decide), fun _ => ⟨fun c5 => absurd (c4.symm.trans c5) (by decide), fun _ => ⟨rfl, g⟩⟩⟩⟩
    · obtain ⟨o1, o2, o3, o4⟩ := H.on d
      refine ⟨o1, ?_⟩
      rintro _ rfl
      have len24 : (trsn h x d).length ≤ 24 := by
        unfold trsn
        by_cases z : frcx h x d = -1
        · rw [if_pos z]; decide
        · rw [if_neg z, trs_len]
          rcases frc_cases (eI h (x + 23 + 51)) d (nU h x) with w | ⟨r, hr, w⟩
          · exact absurd w z
          · have w : frcx h x d = nI r := w
            rw [w, ix_nI (by omega)]
            obtain ⟨m, m1, m2, m3⟩ := H.sn hr
            have := trc_le (eI h (x + 23 + 52)) r (ix (eI h (x + 23 + 50) r))
            omega
      have main := X0_turn_L (k := k) (n := n) (E := E) (Q := fun r h1 => CtI M_X3_turn [rV (x + 23), iV (nI y), iV (nI i), iV d] h1 0 0 (fun r2 h2 => r = r2 ∧ R h2) E) H o2.1 o3 len24 (a := nI y) (b := nI i) (d := d) ?_ (trsn h x d).length 0 (by omega) (fun i hi => absurd hi (by omega))
      · rw [nI0] at main; exact main
      refine b_X3_turn_0 H.mw ⟨fun c2 => absurd (c.symm.trans c2) (by decide), fun _ => ⟨fun c3 => absurd (z1.symm.trans c3) (by decide), fun _ => ⟨fun _ => ⟨H.lwp, ?_⟩, fun c5 => absurd (c4.symm.trans c5) (by decide)⟩⟩⟩
      rintro _ rfl _ rfl
      rw [frcx_m]
      unfold trsn
      rcases frc_cases (eI h (x + 23 + 51)) d (nU h x) with w | ⟨r, hr, w⟩
      · have w : frcx h x d = -1 := w
        rw [w, if_pos rfl]
        refine b_X3_turn_48 H.mw ⟨fun _ => b_X3_turn_122 H.mw ⟨?_, g⟩, fun c => absurd rfl c⟩
        rfl
      · have w : frcx h x d = nI r := w
        obtain ⟨m, m1, m2, m3⟩ := H.sn hr
        rw [w, if_neg (nI_nm1 (by omega)), ix_nI (by omega), tmR_trs, m3, e24]
        exact X3_turn_L H hr m1 m2 hi hy ⟨rfl, g⟩ m 0 (by omega)
end
