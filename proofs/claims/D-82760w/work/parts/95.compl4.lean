/-! complain: the pair -/
set_option maxRecDepth 100000
section
variable {h h' g : Hp} {x : Nat} {E : Nat → Hp → Prop} {k n : Nat} {R : Hp → Prop}
theorem fr_gM (e : mx h' h x = h') (f : Nat) : gI h' f (x + 23) = gI h f (x + 23) := by rw [← e, gI_mM]
theorem fr_eM (e : mx h' h x = h') {o : Nat} (h1 : 1 ≤ o) (h2 : o < 59) : eI h' (x + 23 + o) = eI h (x + 23 + o) := by rw [← e, eI_mM h1 h2]
theorem pr_complain (H : CP h x) {a b : Int32} (hk : 2 ≤ k) (hn : 250 ≤ n) (hR : ∀ h', CP h' x → R h') : CtI M_X0_complain [rV x, iV a, iV b] h k n (fun r h1 => CtI M_X3_complain [rV (x + 23), iV a, iV b] h1 0 0 (fun r2 h2 => r = r2 ∧ R h2) E) E := by
  refine r_wfH fun wf => ?_
  obtain ⟨p1, p2⟩ := H.cor wf a
  rcases p2 with ⟨z1, z2⟩ | ⟨i, hi, ei, ej, z1, z2, z3, z4, z5⟩
  · refine b_X0_complain_0 H.xw ⟨p1, fun _ => ?_, fun z => absurd z2 z⟩
    exact b_X3_complain_0 H.mw ⟨fun _ => ⟨rfl, hR h H⟩, fun z => absurd z (by rw [z1]; decide)⟩
  have z1f : ¬ isin a 0 (gI h 1001 (x + 23) - 1) = false := by rw [z1]; decide
  refine b_X0_complain_0 H.xw ⟨p1, fun z => absurd (z2.symm.trans z) z4, fun _ => ⟨fun c => ?_, fun c => ?_⟩⟩
  rotate_left
  · exact b_X3_complain_0 H.mw ⟨fun z => absurd z z1f, fun _ => ⟨fun z => absurd (z.symm.trans c) (by decide), fun _ => ⟨rfl, hR h H⟩⟩⟩
  refine ⟨z5, by rw [ej]; exact (H.pc i hi).1.1, k, n, 0, 0, Nat.le_refl _, Nat.le_refl _, ?_⟩
  rw [ej, ei]
  have hc := nP_cmM H.nP_le.2 (nI i) b
  refine cx_complains (g := h) (by rw [mx_self]; exact H) hi (by omega) (by omega) (fun h1 K fr _ => ⟨XW_mx K.xw, ?_⟩)
  refine ct_cmM (MW_mx K.mw) (by rw [fr_gM fr]; exact H.po.2.2.2.2.2.1) (by rw [fr_gM fr, ← ei]; exact z1) c ?_
  have e1 : cmA h1 x (nI i) b = cmA h x (nI i) b := by rw [← fr, cmA_mx]
  have e2 : cmM h1 x (nI i) b = mx h1 (cmM h x (nI i) b) x := by
    have := cmM_mx (a := h1) (g := h) (x := x) (nI i) b
    rw [fr] at this
    exact this
  rw [e1, e2]
  exact ⟨rfl, hR _ K⟩
end
