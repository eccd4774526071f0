/-! THE FRAME: new cells, lists that grew -/
set_option maxRecDepth 100000
section
variable {h0 h : Hp} {x : Nat}
theorem Ag.refl (h : Hp) (x : Nat) : Ag h h x := ⟨rfl, Nat.le_refl _, fun a _ => ⟨rfl, rfl, fun _ _ => rfl, fun _ _ => rfl, fun _ _ => rfl, fun _ => rfl, fun _ _ => rfl, fun _ _ => rfl⟩⟩
theorem Ag.wnO (A : Ag h0 h x) (wf : wfH h0) {c : Nat} : Ag h0 (nO h c) x := by
  refine ⟨A.1, Nat.le_succ_of_le A.2.1, fun a ha => ?_⟩
  have hne : a ≠ nx h := Nat.ne_of_lt (Nat.lt_of_lt_of_le (wf.lt rfl ha).2 A.2.1)
  obtain ⟨q1, q2, q3, q4, q5, q6, q7, q8⟩ := A.2.2 a ha
  refine ⟨?_, q2, fun f hf => ?_, fun f hf => ?_, fun f hf => ?_, q6, q7, q8⟩
  · rw [kd_nO_at, if_neg hne]; exact q1
  · rw [gI_nO, if_neg hne]; exact q3 f hf
  · rw [gJ_nO, if_neg hne]; exact q4 f hf
  · rw [gR_nO, if_neg hne]; exact q5 f hf
theorem Ag.wnA (A : Ag h0 h x) (wf : wfH h0) {t m : Nat} : Ag h0 (nA h t m) x := by
  refine ⟨A.1, Nat.le_succ_of_le A.2.1, fun a ha => ?_⟩
  have hne : a ≠ nx h := Nat.ne_of_lt (Nat.lt_of_lt_of_le (wf.lt rfl ha).2 A.2.1)
  obtain ⟨q1, q2, q3, q4, q5, q6, q7, q8⟩ := A.2.2 a ha
  refine ⟨?_, ?_, q3, q4, q5, fun i => ?_, fun ho i => ?_, fun ho i => ?_⟩
  · rw [kd_nA_at, if_neg hne]; exact q1
  · rw [ln_nA_at, if_neg hne]; exact q2
  · rw [eR_nA, if_neg hne]; exact q6 i
  · rw [eI_nA, if_neg hne]; exact q7 ho i
  · rw [eJ_nA, if_neg hne]; exact q8 ho i
/-- writes into new cells -/
theorem Ag.wpI (A : Ag h0 h x) {f a : Nat} {v : Int32} (hz : kd h0 a = 0) : Ag h0 (pI h f a v) x := by
  refine ⟨A.1, A.2.1, fun b hb => ?_⟩
  obtain ⟨q1, q2, q3, q4, q5, q6, q7, q8⟩ := A.2.2 b hb
  refine ⟨q1, q2, fun g hg => ?_, q4, q5, q6, q7, q8⟩
  rw [gI_pI, if_neg (fun e => hb (by rw [e.2]; exact hz))]; exact q3 g hg
theorem Ag.wpJ (A : Ag h0 h x) {f a : Nat} {v : Int64} (hz : kd h0 a = 0) : Ag h0 (pJ h f a v) x := by
  refine ⟨A.1, A.2.1, fun b hb => ?_⟩
  obtain ⟨q1, q2, q3, q4, q5, q6, q7, q8⟩ := A.2.2 b hb
  refine ⟨q1, q2, q3, fun g hg => ?_, q5, q6, q7, q8⟩
  rw [gJ_pJ, if_neg (fun e => hb (by rw [e.2]; exact hz))]; exact q4 g hg
theorem Ag.wpR (A : Ag h0 h x) {f a v : Nat} (hz : kd h0 a = 0) : Ag h0 (pR h f a v) x := by
  refine ⟨A.1, A.2.1, fun b hb => ?_⟩
  obtain ⟨q1, q2, q3, q4, q5, q6, q7, q8⟩ := A.2.2 b hb
  refine ⟨q1, q2, q3, q4, fun g hg => ?_, q6, q7, q8⟩
  rw [gR_pR, if_neg (fun e => hb (by rw [e.2]; exact hz))]; exact q5 g hg
theorem Ag.wsI (A : Ag h0 h x) {a i : Nat} {v : Int32} (hz : kd h0 a = 0) : Ag h0 (sI h a i v) x := by
  refine ⟨A.1, A.2.1, fun b hb => ?_⟩
  obtain ⟨q1, q2, q3, q4, q5, q6, q7, q8⟩ := A.2.2 b hb
  refine ⟨q1, q2, q3, q4, q5, q6, fun ho j => ?_, q8⟩
  rw [eI_sI, if_neg (fun e => hb (by rw [e.1]; exact hz))]; exact q7 ho j
/-- writes of what the coupling does not read -/
theorem Ag.wpIs (A : Ag h0 h x) {f a : Nat} {v : Int32} (hf : f ∈ scI) : Ag h0 (pI h f a v) x := by
  refine ⟨A.1, A.2.1, fun b hb => ?_⟩
  obtain ⟨q1, q2, q3, q4, q5, q6, q7, q8⟩ := A.2.2 b hb
  refine ⟨q1, q2, fun g hg => ?_, q4, q5, q6, q7, q8⟩
  rw [gI_pI, if_neg (fun e => hg (by rw [e.1]; exact hf))]; exact q3 g hg
/-- no lists are new but q, which is empty -/
theorem ALinj_new (A : Ag h0 h x) (hi : ALinj h0) (h75 : kd h0 (kc h0 0) = 75) {q : Nat} (hq : ∀ a, kd h a = 12 → kd h0 a = 12 ∨ a = q) (hz : kd h0 q = 0) (he : gR h 1101 q = kc h 0 ∨ kd h q ≠ 12) : ALinj h := by
  have k75 : kd h (kc h 0) = 75 := by rw [A.1]; exact A.kd' h75 (by decide)
  have old : ∀ a, kd h0 a = 12 → gR h 1101 a = gR h0 1101 a ∧ (kd h0 (gR h0 1101 a) = 65 ∨ kd h0 (gR h0 1101 a) = 75) := fun a ha => ⟨A.gr ha (by decide) (by decide), hi.1 a ha⟩
  have kold : ∀ a, kd h0 a = 12 → kd h (gR h 1101 a) = kd h0 (gR h0 1101 a) := fun a ha => by
    obtain ⟨e1, e2⟩ := old a ha
    rw [e1]
    rcases e2 with z | z
    · rw [z]; exact A.kd' z (by decide)
    · rw [z]; exact A.kd' z (by decide)
  have new : ∀ a, kd h a = 12 → kd h0 a = 12 ∨ (a = q ∧ gR h 1101 a = kc h 0) := fun a ha => by
    rcases hq a ha with z | z
    · exact Or.inl z
    · subst z
      rcases he with y | y
      · exact Or.inr ⟨rfl, y⟩
      · exact absurd ha y
  refine ⟨fun a ha => ?_, fun a b ha hb hne e => ?_⟩
  · rcases new a ha with z | ⟨z, y⟩
    · rw [kold a z]; exact hi.1 a z
    · rw [y]; exact Or.inr k75
  · rcases new a ha with z | ⟨z, y⟩
    · rcases new b hb with z2 | ⟨z2, y2⟩
      · rw [kold a z]
        exact hi.2 a b z z2 hne (by rw [← (old a z).1, ← (old b z2).1]; exact e)
      · rw [e, y2]; exact k75
    · rw [y]; exact k75
theorem ALinj_kd (A : Ag h0 h x) (hi : ALinj h0) (wf : wfH h0) (h75 : kd h0 (kc h0 0) = 75) (hq : ∀ a, kd h a = 12 → kd h0 a = 12) : ALinj h :=
  ALinj_new A hi h75 (q := 0) (fun a ha => Or.inl (hq a ha)) wf.1 (Or.inr (fun y => by have := hq 0 y; rw [wf.1] at this; exact absurd this (by decide)))
/-- a list that grew, its size put back: nothing has changed -/
theorem AddR.ag2 {a b m : Nat} (D : AddR h0 h a b m) (H : ALk h0 a m) (wf : wfH h0) (hi : ALinj h0) : Ag2 h0 (pI h 1102 a (nI m)) x ∧ ALinj (pI h 1102 a (nI m)) := by
  obtain ⟨⟨d1, d2, d3⟩, d4, d5, d6, d7, ⟨e1, e2, e3, e4, e5⟩, d8, d9, d10⟩ := D
  have g := H
  obtain ⟨g1, g2, g3, g4, g5⟩ := H
  have lst : ∀ c, kd h0 c = 12 → kd h0 (gR h0 1101 c) ≠ 0 := fun c hc => by
    rcases hi.1 c hc with z | z <;> rw [z] <;> decide
  refine ⟨⟨⟨d1, d2, fun c hc => ?_⟩, fun c m' Hc => ?_⟩, fun c hc => ?_, fun c d hc hd hne e => ?_⟩
  · obtain ⟨k1, k2, k3, k4⟩ := d3 c hc
    refine ⟨k1, k2, fun f hf => ?_, fun f _ => by rw [gJ_pI, d5], fun f _ hf => ?_, fun _ i => by rw [eI_pI, k3], fun _ i => by rw [eJ_pI, k4]⟩
    · rw [gI_pI]
      by_cases z : f = 1102 ∧ c = a
      · rw [if_pos z, z.1, z.2, g2]
      · rw [if_neg z]
        refine d4 f c (fun y => ?_)
        rcases y.2 with w | w
        · exact hf (by rw [w]; decide)
        · exact z ⟨w, y.1⟩
    · rw [gR_pI]; exact d6 f c (fun y => hf y.2)
  · by_cases ca : c = a
    · subst ca
      have em : m' = m := by
        have := Hc.2.1.symm.trans g2
        exact nI_inj (by have := Hc.2.2.1; have := Hc.2.2.2.2; omega) (by omega) this
      subst em
      refine ⟨⟨by rw [kd_pI]; exact ((d3 c (by rw [g1]; decide)).1).trans g1, by rw [gI_pI, if_pos ⟨rfl, rfl⟩], by rw [ln_pI, gR_pI]; omega, Or.inl (by rw [kd_pI, gR_pI]; exact e3), by rw [ln_pI, gR_pI]; exact e5⟩, fun i hi2 => ?_⟩
      have : el (pI h 1102 c (nI m')) c i = el h c i := rfl
      rw [this]; exact d8 i hi2
    · obtain ⟨q1, q2, q3, q4, q5⟩ := Hc
      have ez : kd h0 (gR h0 1101 c) ≠ 0 := lst c q1
      have er : gR h 1101 c = gR h0 1101 c := d6 1101 c (fun y => ca y.1)
      obtain ⟨k1, k2, k3, k4⟩ := d3 _ ez
      obtain ⟨j1, -⟩ := d3 c (by rw [q1]; decide)
      refine ⟨⟨by rw [kd_pI, j1]; exact q1, ?_, by rw [ln_pI, gR_pI, er, k2]; exact q3, ?_, by rw [ln_pI, gR_pI, er, k2]; exact q5⟩, fun i hi2 => ?_⟩
      · rw [gI_pI, if_neg (fun y => ca y.2), d4 1102 c (fun y => ca y.1)]; exact q2
      · rw [kd_pI, gR_pI, kc_pI, er, k1, d1]; exact q4
      · show eR h (gR h 1101 c) i = eR h0 (gR h0 1101 c) i
        rw [er]
        refine d7 _ i ez (fun y => ?_)
        have := hi.2 c a q1 g1 ca y.1
        rw [y.2.2] at this
        exact absurd this (by decide)
  · rw [kd_pI] at hc
    have hc0 : kd h0 c = 12 := by
      by_cases z : kd h0 c = 0
      · rcases d10 c z with y | y
        · rw [y] at hc; exact absurd hc (by decide)
        · rw [y.2] at hc; exact absurd hc (by decide)
      · rw [(d3 c z).1] at hc; exact hc
    rw [kd_pI, gR_pI]
    by_cases ca : c = a
    · subst ca; exact Or.inl e3
    · have er : gR h 1101 c = gR h0 1101 c := d6 1101 c (fun y => ca y.1)
      rw [er, (d3 _ (lst c hc0)).1]
      exact hi.1 c hc0
  · rw [kd_pI] at hc hd
    rw [gR_pI] at e
    rw [kd_pI, gR_pI]
    have old : ∀ c, kd h c = 12 → kd h0 c = 12 := fun c hc => by
      by_cases z : kd h0 c = 0
      · rcases d10 c z with y | y
        · rw [y] at hc; exact absurd hc (by decide)
        · rw [y.2] at hc; exact absurd hc (by decide)
      · rw [(d3 c z).1] at hc; exact hc
    have hc0 := old c hc
    have hd0 := old d hd
    have er : ∀ c, c ≠ a → gR h 1101 c = gR h0 1101 c := fun c ca => d6 1101 c (fun y => ca y.1)
    have noa : ∀ c, kd h0 c = 12 → c ≠ a → gR h 1101 a = gR h 1101 c → kd h (gR h 1101 c) = 75 := fun c hc ca ee => by
      rw [er c ca] at ee ⊢
      rcases e2 with ⟨y1, y2⟩ | y1
      · rw [y1] at ee
        rw [(d3 _ (lst c hc)).1]
        exact hi.2 c a hc g1 ca ee.symm
      · rw [y1] at ee
        have := (wf.lt (a := gR h0 1101 c) rfl (lst c hc)).2
        omega
    by_cases ca : c = a
    · subst ca
      rw [e]
      exact noa d hd0 (Ne.symm hne) e
    · by_cases da : d = a
      · subst da
        exact noa c hc0 ca e.symm
      · rw [er c ca, (d3 _ (lst c hc0)).1]
        exact hi.2 c d hc0 hd0 hne (by rw [← er c ca, ← er d da]; exact e)
end
