/-! pairs: what only tells -/
set_option maxRecDepth 100000
section
variable {h : Hp} {x : Nat} {E : Nat → Hp → Prop} {k n : Nat} {R : Hp → Prop}
theorem pr_told (H : CP h x) {a b : Int32} (hR : R h) : CtI M_X0_told [rV x, iV a, iV b] h k n (fun r h1 => CtI M_X3_told [rV (x + 23), iV a, iV b] h1 0 0 (fun r2 h2 => r = r2 ∧ R h2) E) E := by
  refine r_wfH fun wf => ?_
  obtain ⟨hp, ⟨z1, z2⟩ | ⟨i, hi, rfl, z0, z1, z2, z3, z4, z5⟩⟩ := H.cor wf a
  · refine ct_X0_told H.xw ⟨hp, ?_⟩ (ct_X3_told H.mw ⟨?_, ?_⟩ ⟨?_, hR⟩)
    all_goals simp [V_X0_told, V_X3_told, z1, z2]
  · obtain ⟨⟨c1, c2, c3, c4, c5, c6, c7⟩, c8, c9, c10⟩ := H.2.2.2.2.1 i hi
    rcases H.2.2.2.2.2.2.1 i hi with ⟨e1, e2⟩ | ⟨e1, ⟨e2, -⟩, -⟩
    · refine ct_X0_told H.xw ⟨hp, ?_⟩ (ct_X3_told H.mw ⟨?_, ?_⟩ ⟨?_, hR⟩)
      all_goals simp [V_X0_told, V_X3_told, z0, z1, z2, z3, z4, c1, c3, c4, c5, c6, c7, c8, c9, c10, e1, e2, nz, b1]
    · have e3 := Nat.ne_of_gt (wf.lt e2 (by decide)).1
      refine ct_X0_told H.xw ⟨hp, ?_⟩ (ct_X3_told H.mw ⟨?_, ?_⟩ ⟨?_, hR⟩)
      all_goals simp [V_X0_told, V_X3_told, z0, z1, z2, z3, z4, c1, c3, c4, c5, c6, c7, c8, c9, c10, e1, e3, nz, b1]
end
