/-! pairs: roofOf, law -/
set_option maxRecDepth 100000
def h00 : Hp := (0, fun _ => 0, fun _ => 0, fun _ _ => 0, fun _ _ => 0, fun _ _ => 0, fun _ _ => 0, fun _ _ => 0, fun _ _ => 0, fun _ => 0)
theorem nlz_h (h : Hp) (v : Int32) : V_J9_numberOfLeadingZeros h v = V_J9_numberOfLeadingZeros h00 v := rfl
/-- the last year with a bit, as the reference looks for it -/
def lastF (p : Int32) (i : Nat) (v : Int32) : Int32 := if shr p (nI i) &&& 1 = 1 then nI i else v
theorem nlz_last : ∀ m, m < 1024 → 31 - V_J9_numberOfLeadingZeros h00 (nI m) = itr (lastF (nI m)) 0 10 (-1) := by decide +kernel
section
variable {h : Hp} {x mo : Nat} {E : Nat → Hp → Prop} {k n : Nat} {R : Hp → Prop}
theorem pr_roofOf (H : CP h x) {a b : Int32} (hR : ∀ h', CP h' x → R h') : CtI M_X0_roofOf [rV x, iV a, iV b] h k n (fun r h1 => CtI M_X3_roofOf [rV (x + 23), iV a, iV b] h1 0 0 (fun r2 h2 => r = r2 ∧ R h2) E) E := by
  refine r_wfH fun wf => ?_
  have g := hR _ H
  obtain ⟨hp, ⟨z1, z2⟩ | ⟨i, hi, rfl, z0, z1, z2, z3, z4, z5⟩⟩ := H.rof wf a
  · refine b_X0_roofOf_0 H.xw ⟨hp, ?_⟩
    rintro _ rfl
    rw [z2]
    exact ⟨fun c => absurd rfl c, fun _ => b_X3_roofOf_0 H.mw ⟨fun c => absurd (z1.symm.trans c) (by decide), fun _ => ⟨rfl, g⟩⟩⟩
  · obtain ⟨⟨r1, r2, r3, r4, r5, r6, r7, r8⟩, s1, s2, s3, s4, s5, s6⟩ := H.pr i hi
    have ck := (H.pc _ s1.2).1.1
    have cn : gI h 100 (gR h 204 (el h (x + 3) i)) = eI h (x + 23 + 19) i := by rw [r3, (H.pc _ s1.2).1.2.1, nI_ix s1.1.1]
    obtain ⟨p1, p2⟩ := bd_nI (hi := 1023) s6
    have fin : ∀ v0 : Int32, (b = 0 → v0 = eI h (x + 23 + 19) i) → (b = 1 → v0 = eI h (x + 23 + 20) i) → (b = 2 → v0 = eI h (x + 23 + 21) i) → (b = 3 → v0 = eI h (x + 23 + 22) i) → (b = 4 → v0 = eI h (x + 23 + 23) i) → (b = 5 → v0 = itr (lastF (eI h (x + 23 + 24) i)) 0 10 (-1)) → (b ≠ 0 → b ≠ 1 → b ≠ 2 → b ≠ 3 → b ≠ 4 → b ≠ 5 → v0 = -1) → CtI M_X3_roofOf [rV (x + 23), iV (nI i), iV b] h 0 0 (fun r2 h2 => v0 = r2 ∧ R h2) E := by
      intro v0 e0 e1 e2 e3 e4 e5 e6
      refine b_X3_roofOf_0 H.mw ⟨fun _ => ?_, fun c => absurd (z1.symm.trans c) (by decide)⟩
      rw [z0]
      refine ⟨fun c => ⟨z3, e0 c, g⟩, fun c0 => ⟨fun c => ⟨z3, e1 c, g⟩, fun c1 => ⟨fun c => ⟨z3, e2 c, g⟩, fun c2 => ⟨fun c => ⟨z3, e3 c, g⟩, fun c3 => ⟨fun c => ⟨z3, e4 c, g⟩, fun c4 => ⟨fun c => ?_, fun c5 => ⟨e6 c0 c1 c2 c3 c4 c5, g⟩⟩⟩⟩⟩⟩⟩
      have t10 : (10 : Int32) = nI 10 := by decide
      rw [← nI0]
      refine itr_loop (inv := fun j v => Rn M_X3_roofOf 96 [(0, rV (x + 23)), (1, iV (nI i)), (3, iV v), (4, iV (nI j))] [] h 0 0 _ E) (f := lastF (eI h (x + 23 + 24) i)) (m := 10) (fun j v hj hw => ?_) ?_
      · refine b_X3_roofOf_96 H.mw ⟨fun c => absurd c (by rw [t10, nIle (by omega) (by omega)]; omega), fun _ => ⟨z3, ?_⟩⟩
        rw [z0]
        refine ⟨fun d => ?_, fun d => ?_⟩
        all_goals (rintro _ rfl; rw [nI_add1]; simpa [lastF, d] using hw)
      · exact b_X3_roofOf_96 H.mw ⟨fun _ => ⟨e5 c, g⟩, fun c => absurd (by decide) c⟩
    refine b_X0_roofOf_0 H.xw ⟨hp, ?_⟩
    rintro _ rfl
    rw [z2]
    refine ⟨fun _ => ?_, fun c => absurd c z4⟩
    rw [cn, r3, r4, r5, r6, r7, r8]
    refine ⟨fun c => ⟨r1, ck, ?_⟩, fun c0 => ⟨fun c => ⟨r1, ?_⟩, fun c1 => ⟨fun c => ⟨r1, ?_⟩, fun c2 => ⟨fun c => ⟨r1, ?_⟩, fun c3 => ⟨fun c => ⟨r1, ?_⟩, fun c4 => ⟨fun c => ⟨r1, ?_⟩, fun c5 => ?_⟩⟩⟩⟩⟩⟩
    · exact fin _ (fun _ => rfl) (fun z => absurd (c.symm.trans z) (by decide)) (fun z => absurd (c.symm.trans z) (by decide)) (fun z => absurd (c.symm.trans z) (by decide)) (fun z => absurd (c.symm.trans z) (by decide)) (fun z => absurd (c.symm.trans z) (by decide)) (fun z => absurd c z)
    · exact fin _ (fun z => absurd z c0) (fun _ => rfl) (fun z => absurd (c.symm.trans z) (by decide)) (fun z => absurd (c.symm.trans z) (by decide)) (fun z => absurd (c.symm.trans z) (by decide)) (fun z => absurd (c.symm.trans z) (by decide)) (fun _ z => absurd c z)
    · exact fin _ (fun z => absurd z c0) (fun z => absurd z c1) (fun _ => rfl) (fun z => absurd (c.symm.trans z) (by decide)) (fun z => absurd (c.symm.trans z) (by decide)) (fun z => absurd (c.symm.trans z) (by decide)) (fun _ _ z => absurd c z)
    · exact fin _ (fun z => absurd z c0) (fun z => absurd z c1) (fun z => absurd z c2) (fun _ => rfl) (fun z => absurd (c.symm.trans z) (by decide)) (fun z => absurd (c.symm.trans z) (by decide)) (fun _ _ _ z => absurd c z)
    · exact fin _ (fun z => absurd z c0) (fun z => absurd z c1) (fun z => absurd z c2) (fun z => absurd z c3) (fun _ => rfl) (fun z => absurd (c.symm.trans z) (by decide)) (fun _ _ _ _ z => absurd c z)
    · refine ct_J9_numberOfLeadingZeros ⟨H.xw, ?_⟩
      refine fin _ (fun z => absurd z c0) (fun z => absurd z c1) (fun z => absurd z c2) (fun z => absurd z c3) (fun z => absurd z c4) (fun _ => ?_) (fun _ _ _ _ _ z => absurd c z)
      rw [nlz_h, p1]
      exact nlz_last _ (by omega)
    · exact fin _ (fun z => absurd z c0) (fun z => absurd z c1) (fun z => absurd z c2) (fun z => absurd z c3) (fun z => absurd z c4) (fun z => absurd z c5) (fun _ _ _ _ _ _ => rfl)
end
