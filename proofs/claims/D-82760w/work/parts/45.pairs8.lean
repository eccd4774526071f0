/-! pairs: count, law -/
set_option maxRecDepth 100000
section
variable {h : Hp} {x mo : Nat} {E : Nat → Hp → Prop} {k n : Nat} {R : Hp → Prop}
theorem pr_count (H : CP h x) {a : Int32} (hR : ∀ h', CP h' x → R h') : CtI M_X0_count [rV x, iV a] h k n (fun r h1 => CtI M_X3_count [rV (x + 23), iV a] h1 0 0 (fun r2 h2 => r = r2 ∧ R h2) E) E := by
  have g := hR _ H
  obtain ⟨n1, n2, n3, n4, n5, -⟩ := H.pn
  refine ct_X0_count H.xw (by simp [P_X0_count, H]) ?_
  refine b_X3_count_0 H.mw ⟨fun c => ⟨?_, g⟩, fun c0 => ⟨fun c => ⟨?_, g⟩, fun c1 => ⟨fun c => ⟨?_, g⟩, fun c2 => ⟨fun c => X3_count_3 H ⟨?_, g⟩, fun c3 => ⟨fun c => ⟨H.cnp, ?_, g⟩, fun c4 => ⟨fun c => ⟨?_, g⟩, fun c5 => ⟨fun c => ⟨?_, g⟩, fun c6 => ⟨fun c => ⟨?_, g⟩, fun c7 => ⟨fun c => ⟨?_, g⟩, fun c8 => ⟨fun c => ⟨?_, g⟩, fun c9 => ⟨fun c => X3_count_10 H ⟨?_, g⟩, fun c10 => ⟨fun c => X3_count_11 H ⟨?_, g⟩, fun c11 => ⟨fun c => ⟨?_, g⟩, fun c12 => ⟨?_, g⟩⟩⟩⟩⟩⟩⟩⟩⟩⟩⟩⟩⟩⟩
  all_goals simp [V_X0_count, n1, n2, n3, n4, H.size2, H.size3, H.size4, H.size21, H.size22, prks_0 H, *]
end
