/-! a day: the component's roofs -/
set_option maxRecDepth 100000
def rfD (x j : Nat) (g : Hp) : Hp := pJ (sI g (x + 23 + 23) j (eI g (x + 23 + 23) j - imin 5 (eI g (x + 23 + 23) j))) 1039 (x + 23) (gJ g 1039 (x + 23) + Int32.toInt64 (imin 5 (eI g (x + 23 + 23) j)))
def roofsM (g : Hp) (x : Nat) : Hp := itr (rfD x) 0 (nR g x) g
def dyR : List Nat := [1, 2, 3, 4, 5, 6, 7, 9, 10, 11, 17, 18, 19, 20, 21, 22, 24, 25, 26, 27, 28, 41, 42, 43, 50, 51, 52, 53, 54, 55, 56, 57]
theorem dyR_L : ∀ o ∈ dyR, o ∈ dyL := by decide
/-- what a day leaves, but for its end -/
def Kr (g g' : Hp) (x : Nat) : Prop := (nx g' = nx g ∧ kd g' = kd g ∧ ln g' = ln g ∧ gR g' = gR g) ∧ (∀ f, f ≠ 1006 → gI g' f = gI g f) ∧ ∀ o, o ∈ dyR → eI g' (x + 23 + o) = eI g (x + 23 + o)
section
variable {h g h' g' a h0 g0 : Hp} {x i r : Nat} {E : Nat → Hp → Prop} {k n : Nat}
theorem Kp.kr (A : Kp g g' x) : Kr g g' x := ⟨⟨A.1, A.2.1, A.2.2.1, A.2.2.2.1⟩, A.2.2.2.2.1, fun o ho => A.2.2.2.2.2 o (dyR_L o ho)⟩
theorem Kr.refl : Kr g g x := ⟨⟨rfl, rfl, rfl, rfl⟩, fun _ _ => rfl, fun _ _ => rfl⟩
theorem Kr.trans {g1 : Hp} (A : Kr g g1 x) (B : Kr g1 g' x) : Kr g g' x := by
  obtain ⟨⟨a1, a2, a3, a4⟩, a5, a6⟩ := A
  obtain ⟨⟨b1, b2, b3, b4⟩, b5, b6⟩ := B
  exact ⟨⟨b1.trans a1, b2.trans a2, b3.trans a3, b4.trans a4⟩, fun f z => (b5 f z).trans (a5 f z), fun o z => (b6 o z).trans (a6 o z)⟩
theorem Kr.gi (A : Kr g g' x) {f : Nat} (hf : f ≠ 1006) : gI g' f (x + 23) = gI g f (x + 23) := by rw [A.2.1 f hf]
theorem Kr.ei (A : Kr g g' x) {o : Nat} (ho : o ∈ dyR) : eI g' (x + 23 + o) = eI g (x + 23 + o) := A.2.2 o ho
theorem Kr.mw (A : Kr g g' x) {mo : Nat} (H : MW g mo) : MW g' mo := ⟨by rw [A.1.2.1]; exact H.1, fun q hq => by rw [A.1.2.2.2, A.1.2.1, A.1.2.2.1]; exact H.2 q hq⟩
theorem kr_rfD : Kr g (rfD x i g) x := by
  unfold rfD
  refine ⟨⟨by rw [nx_pJ, nx_sI], by rw [kd_pJ, kd_sI], by rw [ln_pJ, ln_sI], by rw [gR_pJ, gR_sI]⟩, fun f _ => by rw [gI_pJ, gI_sI], fun o ho => ?_⟩
  rw [eI_pJ, eI_sI_ne (fun e => ?_)]
  have : o = 23 := by omega
  rw [this] at ho
  exact absurd ho (by decide)
theorem kr_roofs : ∀ t i, Kr g (itr (rfD x) i t g) x := by
  intro t
  induction t generalizing g with
  | zero => intro i; exact Kr.refl
  | succ t ih => intro i; exact kr_rfD.trans (ih (g := rfD x i g) (i + 1))
theorem rfD_mx : rfD x i (mx a g x) = mx a (rfD x i g) x := by
  unfold rfD
  rw [mxM_pJ, mxM_sI (by decide) (by decide), gJ_mM, eI_mM (by decide) (by decide)]
theorem roofsM_mx : roofsM (mx a g x) x = mx a (roofsM g x) x := by
  have : ∀ t i g, itr (rfD x) i t (mx a g x) = mx a (itr (rfD x) i t g) x := by
    intro t
    induction t with
    | zero => intro i g; rfl
    | succ t ih =>
      intro i g
      show itr (rfD x) (i + 1) t (rfD x i (mx a g x)) = mx a (itr (rfD x) (i + 1) t (rfD x i g)) x
      rw [rfD_mx, ih]
  unfold roofsM
  rw [nR_mx, this]
theorem nP_roofs : nP (roofsM g x) x = nP g x := by
  have : ∀ t i g, gI (itr (rfD x) i t g) = gI g := by
    intro t
    induction t with
    | zero => intro i g; rfl
    | succ t ih =>
      intro i g
      show gI (itr (rfD x) (i + 1) t (rfD x i g)) = gI g
      rw [ih]; unfold rfD; rw [gI_pJ, gI_sI]
  unfold roofsM
  show ix (gI (itr (rfD x) 0 (nR g x) g) _ _) = _
  rw [this]; rfl
theorem cx_roofs (H0 : CP (mx h0 g0 x) x) {Q : Hp → Prop} (hq : ∀ h', CP (mx h' (roofsM g0 x) x) x → mx h' h0 x = h' → Frm h0 h' x → CtV M_X0_turns [rV x, rV r] h' 0 0 (fun h101 => XW h101 x ∧ (Rn M_X0_day 98 [(0, rV x), (2, iV 0)] [] h101 k n (qV Q) E)) E) : Rn M_X0_day 24 [(0, rV x), (1, rV r), (2, iV 0)] [] h0 k n (qV Q) E := by
  have hR0 : nR g0 x ≤ 30 := by have := H0.nR_le.2; rw [nR_mx] at this; exact this
  have loop : ∀ h, (CP (mx h g0 x) x ∧ mx h h0 x = h ∧ Frm h0 h x ∧ Kr g0 g0 x) → Rn M_X0_day 24 [(0, rV x), (1, rV r), (2, iV (nI 0))] [] h k n (qV Q) E := by
    refine itr_loop (inv := fun i g => ∀ h, (CP (mx h g x) x ∧ mx h h0 x = h ∧ Frm h0 h x ∧ Kr g0 g x) → Rn M_X0_day 24 [(0, rV x), (1, rV r), (2, iV (nI i))] [] h k n (qV Q) E) (f := rfD x) (m := nR g0 x) (s := g0) (fun i g hi ih h B => ?_) (fun h B => ?_)
    · obtain ⟨H, fr, F, A⟩ := B
      have X := XW_mx H.xw
      have M : kd h (x + 23) = 11 := mw_k (MW_mx H.mw)
      have eR : nR g x = nR g0 x := by unfold nR; rw [A.gi (by decide)]
      have hiG : i < nR (mx h g x) x := by rw [nR_mx, eR]; exact hi
      obtain ⟨c1, c2, c3, c4, c5⟩ := H.rofI hiG
      have sz : gI (mx h g x) 1102 (x + 3) = gI h 1102 (x + 3) := gI_mX (by omega)
      rw [sz] at c1
      rw [kd_mx, el_mx] at c4
      have ne : el h (x + 3) i ≠ x + 23 := fun e => by rw [e, M] at c4; exact absurd c4 (by decide)
      have r7 := (H.pr i hiG).1.2.2.2.2.2.2.1
      rw [el_mx, gI_mX ne, eI_mM (by decide) (by decide)] at r7
      have hb := (H.pr i hiG).2.2.2.2.2.1
      rw [eI_mM (by decide) (by decide)] at hb
      have hu : gJ h 21 x = gJ g 1039 (x + 23) := by
        have := H.pn.2.2.2.2.2.2.2.2.2
        rw [gJ_mX (by omega), gJ_mM] at this
        exact this
      have al := ALg_mx (by omega) c2
      refine b_X0_day_24 X ?_
      rw [c3, r7]
      refine ⟨fun z => absurd z c1, fun _ => ⟨al, c4, ?_⟩⟩
      intro v ev
      refine ⟨al, ?_⟩
      intro h1 e1 h2 e2
      rw [e1, gJ_pI, hu, ev] at e2
      have hv : bd (eI g (x + 23 + 23) i - imin 5 (eI g (x + 23 + 23) i)) 0 200 := by
        have a1 := hb.1
        have a2 := hb.2
        have t5 : (5 : Int32).toInt = 5 := by decide
        unfold bd
        rw [i32_sub (by rw [imin_toInt, t5]; omega) (by rw [imin_toInt, t5]; omega), imin_toInt, t5]
        omega
      have K1 := cp_has H (i := i) (v := eI g (x + 23 + 23) i - imin 5 (eI g (x + 23 + 23) i)) hiG hv
      rw [el_mx, ← mx_pI ne, ← mxM_sI (by decide) (by decide)] at K1
      have K2 := cp_used K1 (v := gJ g 1039 (x + 23) + Int32.toInt64 (imin 5 (eI g (x + 23 + 23) i)))
      rw [← mx_pJ (by omega), ← mxM_pJ, ← e2] at K2
      rintro _ rfl
      rw [nI_add1]
      refine ih h2 ⟨K2, mx_fr fr ?_, F.trans ?_, A.trans kr_rfD⟩
      · rw [e2, mx_pJ (by omega), mx_pI ne, mx_self]
      · rw [e2]; exact (Frm.refl.vI (by decide) (by decide)).vJ
    · obtain ⟨H, fr, F, A⟩ := B
      have z := H.rofE
      have eR : nR (itr (rfD x) 0 (nR g0 x) g0) x = nR g0 x := by
        have := A.gi (f := 1002) (by decide)
        show ix (gI _ 1002 (x + 23)) = ix (gI g0 1002 (x + 23))
        rw [this]
      rw [gI_mX (by omega), nR_mx, eR] at z
      exact b_X0_day_24 (XW_mx H.xw) ⟨fun _ => hq h H fr F, fun c => absurd z c⟩
  have := loop h0 ⟨H0, mx_self, Frm.refl, Kr.refl⟩
  rw [nI0] at this
  exact this
end
