/-! a day: the component's bed, spring; one bed whole -/
set_option maxRecDepth 100000
section
variable {h g h' g' : Hp} {x i r : Nat} {E : Nat → Hp → Prop} {k n : Nat}
theorem cx_spring (H : CP (mx h g x) x) (hi : i < nC g x) (hb : eI g (x + 23 + 6) i = 1) (U : RU h g x r) (h60 : irm (gI g 1000 (x + 23)) 365 = 60) {Q : Hp → Prop} (hq : ∀ h', CP (mx h' (ag6 g x i) x) x → mx h' h x = h' → Frm h h' x → Q h') : CtV M_X6_spring [rV (bedp h x i), rV r] h k n Q E := by
  obtain ⟨k4, gm, ne, t1, t2, t3, t4, t5, t6, t7, t8, t9, t10⟩ := bed_mx H hi hb
  have L16 : ∀ h1 g1, CP (mx h1 g1 x) x → i < nC g1 x → eI g1 (x + 23 + 6) i = 1 → bedp h1 x i = bedp h x i → mx h1 h x = h1 → Frm h h1 x → ag6 g x i = sI g1 (x + 23 + 14) i 0 → Rn M_X6_spring 16 [(0, rV (bedp h x i))] [] h1 k n (qV Q) E := by
    intro h1 g1 H1 hi1 hb1 eb fr F eg
    have k1 : kd h1 (bedp h x i) = 4 := by rw [← eb]; exact (bed_mx H1 hi1 hb1).1
    refine b_X6_spring_16 ⟨k1, ?_⟩
    intro h2 e2
    have K := cp_salt H1 (i := i) (v := 0) (by rw [nC_mx]; exact hi1) (by rw [eI_mM (by decide) (by decide)]; exact hb1) ⟨by decide, by decide⟩
    rw [bedp_mx, eb, ← mx_pI ne, ← mxM_sI (by decide) (by decide), ← e2, ← eg] at K
    refine hq h2 K ?_ ?_
    · rw [e2, mx_pI ne, fr]
    · rw [e2]; exact F.vI (by decide) (by decide)
  refine b_X6_spring_0 ?_
  rw [t7, U.2.2.2.2.2.1]
  refine ⟨k4, U.1, fun c => ?_, fun c => ?_⟩
  · refine L16 h g H hi hb rfl mx_self Frm.refl ?_
    unfold ag6; rw [if_pos h60, if_pos c]
  · intro h1 e1
    have K := cp_plants H (i := i) (v := 0) (by rw [nC_mx]; exact hi) (by rw [eI_mM (by decide) (by decide)]; exact hb) ⟨by decide, by decide⟩
    rw [bedp_mx, ← mx_pI ne, ← mxM_sI (by decide) (by decide), ← e1] at K
    refine L16 h1 (sI g (x + 23 + 8) i 0) K (by unfold nC; rw [gI_sI]; exact hi) (by rw [eI_sI_ne (by omega)]; exact hb) (by rw [e1]; unfold bedp; rw [gR_pI, el_pI]) (by rw [e1, mx_pI ne, mx_self]) (by rw [e1]; exact Frm.refl.vI (by decide) (by decide)) ?_
    unfold ag6; rw [if_pos h60, if_neg c]
theorem Frm.bed (A : Frm h h' x) {b : Nat} (L : ALk h (x + 2) b) (hi : i < b) (kc2 : kd h (el h (x + 2) i) = 2) : bedp h' x i = bedp h x i := by
  unfold bedp
  have e := (A.2 (x + 2) b (by omega) L).2 i hi
  rw [e, (A.1.2.2 _ (by rw [kc2]; decide)).2.2.2 109 (by decide) (by decide)]
theorem CP.lc (H : CP (mx h g x) x) : ALk h (x + 2) (nC g x) ∧ ∀ i, i < nC g x → kd h (el h (x + 2) i) = 2 := by
  have h1 := H.pl.1
  unfold ALk at h1 ⊢
  rw [gI_mX (by omega), nC_mx, kd_mx, ln_mx, gR_mx, kc_mx] at h1
  refine ⟨h1, fun i hi => ?_⟩
  have := (H.pc i (by rw [nC_mx]; exact hi)).1.1
  rw [kd_mx, el_mx] at this
  exact this
/-- what stays while beds age -/
def Bd (h0 g0 h g : Hp) (x r : Nat) : Prop := CP (mx h g x) x ∧ mx h h0 x = h ∧ Frm h0 h x ∧ Kp g0 g x ∧ RU h g x r
theorem Bd.step {h0 g0 : Hp} (B : Bd h0 g0 h g x r) (K : CP (mx h' g' x) x) (fr : mx h' h x = h') (F : Frm h h' x) (A : Kp g g' x) : Bd h0 g0 h' g' x r :=
  ⟨K, mx_fr B.2.1 fr, B.2.2.1.trans F, B.2.2.2.1.trans A, B.2.2.2.2.fr F A⟩
end
