/-! pairs: worst -/
set_option maxRecDepth 100000
section
variable {h : Hp} {x mo : Nat} {E : Nat → Hp → Prop} {k n : Nat} {R : Hp → Prop} {Q : Int32 → Hp → Prop}
def wsF (h : Hp) (x : Nat) (l : Int32) (i : Nat) (v : Int32 × Int32) : Int32 × Int32 := if eI h (x + 23 + 6) i = 0 then v else if ¬ eI h (x + 23 + 9) i = l then v else if eI h (x + 23 + 17) i = -1 then v else (v.1 + eI h (x + 23 + 17) i, v.2 + 1)
def wosS (h : Hp) (x : Nat) (l : Nat) : Int32 × Int32 := itr (wsF h x (nI l)) 0 (nC h x) (0, 0)
def woF (h : Hp) (x : Nat) (l : Nat) (v : Int32 × Int32 × Int32) : Int32 × Int32 × Int32 := if (wosS h x l).2 < 2 then v else if v.1 = -1 then (nI l, wosS h x l) else if v.2.1 * (wosS h x l).2 < (wosS h x l).1 * v.2.2 then (nI l, wosS h x l) else v
theorem look_cases {v : Int32} (hv : bd v (-1) 3) : (0 ≤ v ∧ ¬ v = -1) ∨ (¬ 0 ≤ v ∧ v = -1) := by
  by_cases c : 0 ≤ v.toInt
  · left
    refine ⟨by rw [i32_le, toI_0]; exact c, fun e => ?_⟩
    rw [e, toI_m1] at c; omega
  · right
    refine ⟨by rw [i32_le, toI_0]; exact c, i32_ext ?_⟩
    have := hv.1
    rw [toI_m1]; omega
theorem best_cases {l : Nat} {b : Int32} (hl : l ≤ 10) (hb : b = -1 ∨ ∃ j, j < l ∧ b = nI j) : (b < 0 ↔ b = -1) ∧ (0 ≤ b ↔ ¬ b = -1) := by
  rcases hb with e | ⟨j, hj, e⟩
  · rw [e]; decide
  · have h1 := nI_nm1 (show j < 2 ^ 31 by omega)
    rw [e, i32_lt, i32_le, toI_0, nI_toInt (by omega)]
    exact ⟨⟨fun z => absurd z (by omega), fun z => absurd z h1⟩, ⟨fun _ => h1, fun _ => by omega⟩⟩
theorem woF_b {l : Nat} {v : Int32 × Int32 × Int32} (hb : v.1 = -1 ∨ ∃ j, j < l ∧ v.1 = nI j) : (woF h x l v).1 = -1 ∨ ∃ j, j < l + 1 ∧ (woF h x l v).1 = nI j := by
  have hv : v.1 = -1 ∨ ∃ j, j < l + 1 ∧ v.1 = nI j := by
    rcases hb with e | ⟨j, hj, e⟩
    · exact Or.inl e
    · exact Or.inr ⟨j, by omega, e⟩
  unfold woF
  by_cases c1 : (wosS h x l).2 < 2
  · rw [if_pos c1]; exact hv
  · rw [if_neg c1]
    by_cases c2 : v.1 = -1
    · rw [if_pos c2]; exact Or.inr ⟨l, by omega, rfl⟩
    · rw [if_neg c2]
      by_cases c3 : v.2.1 * (wosS h x l).2 < (wosS h x l).1 * v.2.2
      · rw [if_pos c3]; exact Or.inr ⟨l, by omega, rfl⟩
      · rw [if_neg c3]; exact hv
theorem wo_rel {m : Nat} : (itr (woF h x) 0 m (-1, 0, 1)).1 = (itr (woF h x) 0 m (-1, 0, 0)).1 ∧ ((itr (woF h x) 0 m (-1, 0, 0)).1 = -1 ∨ itr (woF h x) 0 m (-1, 0, 1) = itr (woF h x) 0 m (-1, 0, 0)) := by
  have := itr_rel (f := woF h x) (g := woF h x) (P := fun j v w => v.1 = w.1 ∧ (w.1 = -1 ∨ v = w)) (t := m) (i := 0) (a := (-1, 0, 1)) (b := (-1, 0, 0)) (fun j v w _ hj hP => ?_) ⟨rfl, Or.inl rfl⟩
  · exact this
  · obtain ⟨p1, p2⟩ := hP
    rcases p2 with e | e
    · unfold woF
      by_cases c1 : (wosS h x j).2 < 2
      · rw [if_pos c1, if_pos c1]; exact ⟨p1, Or.inl e⟩
      · rw [if_neg c1, if_neg c1, if_pos (p1.trans e), if_pos e]; exact ⟨rfl, Or.inr rfl⟩
    · rw [e]; exact ⟨rfl, Or.inr rfl⟩
theorem pr_worst (H : CP h x) {a : Int32} (hR : ∀ h', CP h' x → R h') : CtI M_X0_worst [rV x, iV a] h k n (fun r h1 => CtI M_X3_worst [rV (x + 23), iV a] h1 0 0 (fun r2 h2 => r = r2 ∧ R h2) E) E := by
  refine r_wfH fun wf => ?_
  have g := hR _ H
  have hn := H.nC_le
  have t10 : (10 : Int32) = nI 10 := by decide
  refine b_X0_worst_0 H.xw ?_
  rw [← nI0]
  have bst : ∀ m v, (v.1 = -1) → ((itr (woF h x) 0 m v).1 = -1 ∨ ∃ j, j < m ∧ (itr (woF h x) 0 m v).1 = nI j) := fun m v hv => by
    have := itr_inv (f := woF h x) (P := fun i v => v.1 = -1 ∨ ∃ j, j < i ∧ v.1 = nI j) (t := m) (i := 0) (v := v) (fun j w _ _ hw => woF_b hw) (Or.inl hv)
    rw [Nat.zero_add] at this; exact this
  have X0L : ∀ t l v, l + t = 10 → (v.1 = -1 ∨ ∃ j, j < l ∧ v.1 = nI j) → Rn M_X0_worst 10 [(0, rV x), (1, iV a), (2, iV (itr (woF h x) l t v).1), (3, iV (itr (woF h x) l t v).2.1), (4, iV (itr (woF h x) l t v).2.2), (5, iV (nI 10))] [] h k n (qI (fun r h1 => CtI M_X3_worst [rV (x + 23), iV a] h1 0 0 (fun r2 h2 => r = r2 ∧ R h2) E)) E → Rn M_X0_worst 10 [(0, rV x), (1, iV a), (2, iV v.1), (3, iV v.2.1), (4, iV v.2.2), (5, iV (nI l))] [] h k n (qI (fun r h1 => CtI M_X3_worst [rV (x + 23), iV a] h1 0 0 (fun r2 h2 => r = r2 ∧ R h2) E)) E := by
    intro t
    induction t with
    | zero =>
      intro l v hl hb hw
      have : l = 10 := by omega
      subst this
      exact hw
    | succ t ih =>
      intro l v hl hb hw
      have ih := ih (l + 1) (woF h x l v) (by omega) (woF_b hb) hw
      obtain ⟨b1, b2⟩ := best_cases (by omega) hb
      refine b_X0_worst_10 H.xw ⟨fun c => absurd c (by rw [t10, nIle (by omega) (by omega)]; omega), fun _ => ?_⟩
      rw [← nI0]
      refine itr_loop (inv := fun i u => Rn M_X0_worst 26 [(0, rV x), (1, iV a), (2, iV v.1), (3, iV v.2.1), (4, iV v.2.2), (5, iV (nI l)), (6, iV u.1), (7, iV u.2), (8, iV (nI i))] [] h k n _ E) (f := wsF h x (nI l)) (m := nC h x) (s := (nI 0, nI 0)) (fun i u hi hw => ?_) ?_
      · obtain ⟨a1, a2, a3, a4, a5⟩ := H.corI hi
        obtain ⟨q1, q2⟩ := H.bedI wf hi
        refine b_X0_worst_26 H.xw ⟨fun c => absurd c a1, fun _ => ?_⟩
        rw [a3]
        refine ⟨a2, a4, ?_⟩
        rintro _ rfl
        rw [q1]
        unfold wsF at hw
        refine ⟨fun c => ?_, fun c => ⟨(q2 c).2.1, ?_⟩⟩
        · rintro _ rfl; rw [nI_add1]; rw [if_pos c] at hw; exact hw
        · rw [(q2 c).2.2.1.2.2.2.1, (q2 c).2.2.2.1.2.2.2.2.2.1]
          rw [if_neg c] at hw
          refine ⟨fun d => ?_, fun d => ⟨fun e => ?_, fun e => ?_⟩⟩
          · rintro _ rfl; rw [nI_add1]; rw [if_pos d] at hw; exact hw
          · rintro _ rfl _ rfl _ rfl; rw [nI_add1]
            rcases look_cases ((H.px i (by omega)).1.2.2.2.2.2.2.2.2.2.2.1) with z | z
            · rw [if_neg (fun y => y d), if_neg z.2] at hw; exact hw
            · exact absurd e z.1
          · rintro _ rfl; rw [nI_add1]
            rcases look_cases ((H.px i (by omega)).1.2.2.2.2.2.2.2.2.2.2.1) with z | z
            · exact absurd z.1 e
            · rw [if_neg (fun y => y d), if_pos z.2] at hw; exact hw
      · refine b_X0_worst_26 H.xw ⟨fun _ => ?_, fun c => absurd H.corE c⟩
        rw [nI0]
        show _ ∧ _
        have ih : Rn M_X0_worst 10 [(0, rV x), (1, iV a), (2, iV (woF h x l v).1), (3, iV (woF h x l v).2.1), (4, iV (woF h x l v).2.2), (5, iV (nI l + 1))] [] h k n (qI (fun r h1 => CtI M_X3_worst [rV (x + 23), iV a] h1 0 0 (fun r2 h2 => r = r2 ∧ R h2) E)) E := by rw [nI_add1]; exact ih
        unfold woF wosS at ih
        refine ⟨fun c => ?_, fun c => ⟨fun d => ?_, fun d => ⟨fun e => ?_, fun e => ?_⟩⟩⟩
        · rintro _ rfl; rw [if_pos c] at ih; exact ih
        · refine b_X0_worst_125 H.xw ?_
          rintro _ rfl; rw [if_neg c, if_pos (b1.mp d)] at ih; exact ih
        · refine b_X0_worst_125 H.xw ?_
          rintro _ rfl; rw [if_neg c, if_neg (fun z => d (b1.mpr z)), if_pos e] at ih; exact ih
        · rintro _ rfl; rw [if_neg c, if_neg (fun z => d (b1.mpr z)), if_neg e] at ih; exact ih
  have X3L : ∀ (Q : Int32 → Hp → Prop) t l v, l + t = 10 → (v.1 = -1 ∨ ∃ j, j < l ∧ v.1 = nI j) → Rn M_X3_worst 10 [(0, rV (x + 23)), (1, iV a), (2, iV (itr (woF h x) l t v).1), (3, iV (itr (woF h x) l t v).2.1), (4, iV (itr (woF h x) l t v).2.2), (5, iV (nI 10))] [] h 0 0 (qI Q) E → Rn M_X3_worst 10 [(0, rV (x + 23)), (1, iV a), (2, iV v.1), (3, iV v.2.1), (4, iV v.2.2), (5, iV (nI l))] [] h 0 0 (qI Q) E := by
    intro Q t
    induction t with
    | zero =>
      intro l v hl hb hw
      have : l = 10 := by omega
      subst this
      exact hw
    | succ t ih =>
      intro l v hl hb hw
      have ih := ih (l + 1) (woF h x l v) (by omega) (woF_b hb) hw
      obtain ⟨b1, b2⟩ := best_cases (by omega) hb
      refine b_X3_worst_10 H.mw ⟨fun c => absurd c (by rw [t10, nIle (by omega) (by omega)]; omega), fun _ => ?_⟩
      rw [← nI0]
      refine itr_loop (inv := fun i u => Rn M_X3_worst 26 [(0, rV (x + 23)), (1, iV a), (2, iV v.1), (3, iV v.2.1), (4, iV v.2.2), (5, iV (nI l)), (6, iV u.1), (7, iV u.2), (8, iV (nI i))] [] h 0 0 _ E) (f := wsF h x (nI l)) (m := nC h x) (s := (nI 0, nI 0)) (fun i u hi hw => ?_) ?_
      · have vi : vp_in (nI i) 12 := vin_nI (by omega) (by decide)
        refine b_X3_worst_26 H.mw ⟨fun c => absurd c (by rw [hn.1, nIle (by omega) (by omega)]; omega), fun _ => ⟨vi, ?_⟩⟩
        rw [ix_nI (by omega)]
        unfold wsF at hw
        refine ⟨fun c => ?_, fun c => ⟨vi, fun d => ?_, fun d => ⟨vi, fun e => ⟨vi, ?_⟩, fun e => ?_⟩⟩⟩
        · rintro _ rfl; rw [nI_add1]; rw [if_pos c] at hw; exact hw
        · rintro _ rfl; rw [nI_add1]; rw [if_neg c, if_pos d] at hw; exact hw
        · rintro _ rfl _ rfl _ rfl; rw [nI_add1]; rw [if_neg c, if_neg (fun y => y d), if_neg e] at hw; exact hw
        · rintro _ rfl; rw [nI_add1]; rw [if_neg c, if_neg (fun y => y d), if_pos e] at hw; exact hw
      · refine b_X3_worst_26 H.mw ⟨fun _ => ?_, fun c => absurd (by rw [hn.1]; exact Int32.le_refl _) c⟩
        rw [nI0]
        show _ ∧ _
        have ih : Rn M_X3_worst 10 [(0, rV (x + 23)), (1, iV a), (2, iV (woF h x l v).1), (3, iV (woF h x l v).2.1), (4, iV (woF h x l v).2.2), (5, iV (nI l + 1))] [] h 0 0 (qI Q) E := by rw [nI_add1]; exact ih
        unfold woF wosS at ih
        refine ⟨fun c => ?_, fun c => ⟨fun d => ?_, fun d => ⟨fun e => ?_, fun e => ?_⟩⟩⟩
        · rintro _ rfl; rw [if_pos c] at ih; exact ih
        · refine b_X3_worst_118 H.mw ?_
          rintro _ rfl; rw [if_neg c, if_pos d] at ih; exact ih
        · refine b_X3_worst_118 H.mw ?_
          rintro _ rfl; rw [if_neg c, if_neg d, if_pos e] at ih; exact ih
        · rintro _ rfl; rw [if_neg c, if_neg d, if_neg e] at ih; exact ih
  obtain ⟨w1, w2⟩ := wo_rel (h := h) (x := x) (m := 10)
  have fin : ∀ v0 : Int32, ((itr (woF h x) 0 10 (-1, 0, 0)).1 = -1 → v0 = -1) → (¬ (itr (woF h x) 0 10 (-1, 0, 0)).1 = -1 → (a = 0 → v0 = (itr (woF h x) 0 10 (-1, 0, 0)).1) ∧ (a = 1 → v0 = (itr (woF h x) 0 10 (-1, 0, 0)).2.1) ∧ (a = 2 → v0 = (itr (woF h x) 0 10 (-1, 0, 0)).2.2) ∧ (¬ a = 0 → ¬ a = 1 → ¬ a = 2 → v0 = -1)) → CtI M_X3_worst [rV (x + 23), iV a] h 0 0 (fun r2 h2 => v0 = r2 ∧ R h2) E := by
    intro v0 e1 e2
    refine b_X3_worst_0 H.mw ?_
    rw [← nI0]
    refine X3L _ 10 0 (-1, nI 0, nI 0) (by omega) (Or.inl rfl) ?_
    rw [nI0]
    refine b_X3_worst_10 H.mw ⟨fun _ => ⟨fun c => ?_, fun c => ⟨e1 c, g⟩⟩, fun c => absurd (by decide) c⟩
    obtain ⟨q0, q1, q2, q3⟩ := e2 c
    exact ⟨fun c0 => ⟨fun c1 => ⟨fun c2 => ⟨q3 c0 c1 c2, g⟩, fun c2 => ⟨q2 c2, g⟩⟩, fun c1 => ⟨q1 c1, g⟩⟩, fun c0 => ⟨q0 c0, g⟩⟩
  refine X0L 10 0 (-1, nI 0, 1) (by omega) (Or.inl rfl) ?_
  rw [nI0]
  obtain ⟨b1, b2⟩ := best_cases (l := 10) (by omega) (bst 10 (-1, 0, 1) rfl)
  refine b_X0_worst_10 H.xw ⟨fun _ => ⟨fun c => ?_, fun c => ?_⟩, fun c => absurd (by decide) c⟩
  · have c := b2.mp c
    have w3 : itr (woF h x) 0 10 (-1, 0, 1) = itr (woF h x) 0 10 (-1, 0, 0) := by
      rcases w2 with z | z
      · exact absurd (w1.trans z) c
      · exact z
    rw [w3] at c ⊢
    refine ⟨fun c0 => ⟨fun c1 => ⟨fun c2 => ?_, fun c2 => ?_⟩, fun c1 => ?_⟩, fun c0 => ?_⟩
    · exact fin _ (fun z => absurd z c) (fun _ => ⟨fun z => absurd z c0, fun z => absurd z c1, fun z => absurd z c2, fun _ _ _ => rfl⟩)
    · exact fin _ (fun z => absurd z c) (fun _ => ⟨fun z => absurd z c0, fun z => absurd z c1, fun _ => rfl, fun _ _ z => absurd c2 z⟩)
    · exact fin _ (fun z => absurd z c) (fun _ => ⟨fun z => absurd z c0, fun _ => rfl, fun z => absurd (c1.symm.trans z) (by decide), fun _ z => absurd c1 z⟩)
    · exact fin _ (fun z => absurd z c) (fun _ => ⟨fun _ => rfl, fun z => absurd (c0.symm.trans z) (by decide), fun z => absurd (c0.symm.trans z) (by decide), fun z => absurd c0 z⟩)
  · have c : (itr (woF h x) 0 10 (-1, 0, 1)).1 = -1 := by
      by_cases z : (itr (woF h x) 0 10 (-1, 0, 1)).1 = -1
      · exact z
      · exact absurd (b2.mpr z) c
    exact fin _ (fun _ => rfl) (fun z => absurd (w1.symm.trans c) z)
end
