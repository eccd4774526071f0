/-! the component's storm: a whole run -/
set_option maxRecDepth 100000
section
variable {h0 h : Hp} {x : Nat} {E : Nat → Hp → Prop} {k n : Nat}
def ZX (h0 h : Hp) (x : Nat) (s : Int32) (i r : Nat) : Prop := SC h0 h x ∧ gI h 507 (x + 13) = s ∧ (gJ h 508 (x + 13) = 0 ∧ gJ h 509 (x + 13) = 0 ∧ gJ h 510 (x + 13) = 0 ∧ gJ h 511 (x + 13) = 0 ∧ gI h 512 (x + 13) = 0 ∧ gI h 513 (x + 13) = 0) ∧ (∀ j, j < i → eI h (x + 14) j = 0 ∧ eI h (x + 16) j = 0 ∧ eI h (x + 17) j = 0 ∧ eI h (x + 18) j = 0) ∧ ∀ j, j < r → eI h (x + 15) j = eI h0 (x + 23 + 23) j
theorem ZX.full {s : Int32} (Z : ZX h0 h x s (nC h0 x) (nR h0 x)) : WXz h0 h x s (i0S h0 x) := by
  obtain ⟨z1, z2, ⟨y1, y2, y3, y4, y5, y6⟩, z4, z5⟩ := Z
  refine ⟨z1, z2, fun a j v n1 n2 => ?_⟩
  unfold val i0S
  rcases v with ⟨c, hj⟩ | ⟨c, hj⟩ | ⟨c, hj⟩ | ⟨c, hj⟩
  · obtain ⟨w1, w2, w3, w4⟩ := z4 j hj
    rw [if_pos (by omega), if_neg (by omega)]
    rcases c with e | e | e | e <;> rw [e]
    · rw [w1]; exact toI_0
    · rw [w2]; exact toI_0
    · rw [w3]; exact toI_0
    · rw [w4]; exact toI_0
  · rw [if_pos (by omega), if_pos c, c, z5 j hj]
  · exact absurd c (by omega)
  · rw [if_neg (by omega)]
    have : a = 508 ∨ a = 509 ∨ a = 510 ∨ a = 511 ∨ a = 512 ∨ a = 513 := by omega
    rcases this with e | e | e | e | e | e <;> subst e
    · simp [y1]
    · simp [y2]
    · simp [y3]
    · simp [y4]
    · simp [y5]
    · simp [y6]
theorem ct_runs (H : CP h x) {s : Int32} {Q : Hp → Prop} (hq : ∀ h', WXz h h' x s (rnS h x s) → Q h') : CtV M_X2_runs [rV (x + 13), iV s] h k n Q E := by
  have D := H.mdb
  have hn := D.1.1
  have hr := D.1.2.1
  have hcs : gI h 1102 (x + 2) = nI (nC h x) := H.size2.trans H.nC_le.1
  have hrs : gI h 1102 (x + 3) = nI (nR h x) := H.size3.trans H.nR_le.1
  have hk12 := xwk_corners H.xw
  have hk13 := xwk_roofs H.xw
  obtain ⟨hm1, hm2⟩ := bd_nI (hi := 30) D.1.2.2.1
  have L132 : ∀ h1, WXz h h1 x s (i0S h x) → Rn M_X2_runs 132 [(0, rV (x + 13)), (2, iV (nI 0))] [] h1 k n (qV Q) E := by
    intro h1 W
    refine itr_loop (inv := fun m S => ∀ h1, WXz h h1 x s S → (S = rnM h x s m) → Rn M_X2_runs 132 [(0, rV (x + 13)), (2, iV (nI m))] [] h1 k n (qV Q) E) (f := fun m S => mnS h x (eI h (x + 23 + 26) m).toInt s S) (m := ix (gI h 1003 (x + 23))) (s := i0S h x) (fun m S hm ih h1 W hS => ?_) (fun h1 W hS => ?_) h1 W rfl
    · have C := W.1
      have hrn := H.pa.2.2.2.1 m (by omega)
      have I := rnM_inv D s m (by omega)
      rw [← hS] at I
      have hmul : m * nC h x + nC h x ≤ 360 := by
        have : (m + 1) * nC h x ≤ 30 * 12 := Nat.mul_le_mul (by omega) hn
        rw [Nat.succ_mul] at this
        exact this
      refine b_X2_runs_132 (C.cp H).xw ?_
      rw [C.k, C.r, C.l, C.gi (f := 23) (by decide), xwr_minutes H.xw, xwk_minutes H.xw, xwl_minutes H.xw, H.pn.2.1, hm1, C.eiX (o := 12) (by decide), ix_nI (show m < 2 ^ 31 by omega), hrn.1]
      refine ⟨fun c => ?_, fun _ => ⟨rfl, vin_nI (by omega) (by decide), ?_⟩⟩
      · rw [nIle (by omega) (by omega)] at c; omega
      refine ct_minute H W hrn.2 hmul (by omega) I (fun h2 W2 => ⟨(W2.1.cp H).xw, ?_⟩)
      rintro _ rfl
      rw [nI_add1]
      refine ih h2 W2 ?_
      rw [hS]
      unfold rnM
      rw [itr_succ, Nat.zero_add]
    · have C := W.1
      refine b_X2_runs_132 (C.cp H).xw ⟨fun _ => hq h1 W, fun c => absurd ?_ c⟩
      rw [C.gi (f := 23) (by decide), H.pn.2.1, hm1, ix_nI (by omega)]
      exact Int32.le_refl _
  have L87 : ∀ h1, ZX h h1 x s (nC h x) 0 → Rn M_X2_runs 87 [(0, rV (x + 13)), (2, iV (nI 0))] [] h1 k n (qV Q) E := by
    intro h1 Z
    refine itr_loop (α := Unit) (inv := fun j _ => ∀ h1, ZX h h1 x s (nC h x) j → Rn M_X2_runs 87 [(0, rV (x + 13)), (2, iV (nI j))] [] h1 k n (qV Q) E) (f := fun _ u => u) (m := nR h x) (s := ()) (fun j _ hj ih h1 Z => ?_) (fun h1 Z => ?_) h1 Z
    · obtain ⟨C, z2, z3, z4, z5⟩ := Z
      obtain ⟨a1, a2, a3, a4, a5⟩ := H.rofI hj
      have r7 := (H.pr j hj).1.2.2.2.2.2.2.1
      refine b_X2_runs_87 (C.cp H).xw ?_
      rw [C.k, C.r, C.gi (f := 1102) (by decide), C.alg, C.e, C.gi (f := 205) (by decide), xwr_roofs H.xw, a3, r7]
      refine ⟨hk13, fun c => absurd c a1, fun _ => ⟨a2, a4, a5, ?_⟩⟩
      rintro _ rfl _ rfl
      rw [nI_add1]
      refine ih _ ⟨C.wI (o := 15) (by decide), z2, z3, fun i hi => ?_, fun i hi => ?_⟩
      · rw [eI_sI, eI_sI, eI_sI, eI_sI, if_neg (by omega), if_neg (by omega), if_neg (by omega), if_neg (by omega)]
        exact z4 i hi
      · rw [eI_sI]
        by_cases e : i = j
        · rw [if_pos ⟨rfl, e⟩, e]
        · rw [if_neg (fun z => e z.2)]; exact z5 i (by omega)
    · have C := Z.1
      refine b_X2_runs_87 (C.cp H).xw ?_
      rw [C.k, C.r, C.gi (f := 1102) (by decide), xwr_roofs H.xw, hrs]
      refine ⟨hk13, fun _ => ?_, fun c => absurd (Int32.le_refl _) c⟩
      rw [← nI0]
      exact L132 h1 Z.full
  have L37 : ∀ h1, ZX h h1 x s 0 0 → Rn M_X2_runs 37 [(0, rV (x + 13)), (2, iV (nI 0))] [] h1 k n (qV Q) E := by
    intro h1 Z
    refine itr_loop (α := Unit) (inv := fun j _ => ∀ h1, ZX h h1 x s j 0 → Rn M_X2_runs 37 [(0, rV (x + 13)), (2, iV (nI j))] [] h1 k n (qV Q) E) (f := fun _ u => u) (m := nC h x) (s := ()) (fun j _ hj ih h1 Z => ?_) (fun h1 Z => ?_) h1 Z
    · obtain ⟨C, z2, z3, z4, z5⟩ := Z
      have vj : vp_in (nI j) 12 := vin_nI (by omega) (by decide)
      refine b_X2_runs_37 (C.cp H).xw ?_
      rw [C.k, C.r, C.gi (f := 1102) (by decide), xwr_corners H.xw, hcs, ix_nI (show j < 2 ^ 31 by omega)]
      refine ⟨hk12, fun c => ?_, fun _ => ⟨vj, ?_⟩⟩
      · rw [nIle (by omega) (by omega)] at c; omega
      rintro _ rfl
      refine ⟨vj, ?_⟩
      rintro _ rfl
      refine ⟨vj, ?_⟩
      rintro _ rfl
      refine ⟨vj, ?_⟩
      rintro _ rfl _ rfl
      rw [nI_add1]
      refine ih _ ⟨(((C.wI (o := 14) (by decide)).wI (o := 16) (by decide)).wI (o := 17) (by decide)).wI (o := 18) (by decide), z2, z3, fun i hi => ?_, fun i hi => absurd hi (by omega)⟩
      simp only [eI_sI]
      by_cases e : i = j
      · subst e
        refine ⟨?_, ?_, ?_, ?_⟩
        · rw [if_neg (by omega), if_neg (by omega), if_neg (by omega), if_pos ⟨trivial, rfl⟩]
        · rw [if_neg (by omega), if_neg (by omega), if_pos ⟨trivial, rfl⟩]
        · rw [if_neg (by omega), if_pos ⟨trivial, rfl⟩]
        · rw [if_pos ⟨trivial, rfl⟩]
      · obtain ⟨w1, w2, w3, w4⟩ := z4 i (by omega)
        refine ⟨?_, ?_, ?_, ?_⟩
        · rw [if_neg (by omega), if_neg (by omega), if_neg (by omega), if_neg (by omega)]; exact w1
        · rw [if_neg (by omega), if_neg (by omega), if_neg (by omega), if_neg (by omega)]; exact w2
        · rw [if_neg (by omega), if_neg (by omega), if_neg (by omega), if_neg (by omega)]; exact w3
        · rw [if_neg (by omega), if_neg (by omega), if_neg (by omega), if_neg (by omega)]; exact w4
    · have C := Z.1
      refine b_X2_runs_37 (C.cp H).xw ?_
      rw [C.k, C.r, C.gi (f := 1102) (by decide), xwr_corners H.xw, hcs]
      refine ⟨hk12, fun _ => ?_, fun c => absurd (Int32.le_refl _) c⟩
      rw [← nI0]
      exact L87 h1 Z
  refine b_X2_runs_0 H.xw ?_
  rintro _ rfl _ rfl _ rfl _ rfl _ rfl _ rfl _ rfl
  rw [← nI0]
  refine L37 _ ⟨((((((((SC.refl h x).vI (by decide)).vJ (by decide)).vJ (by decide)).vJ (by decide)).vJ (by decide)).vI (by decide)).vI (by decide)), ?_, ?_, fun i hi => absurd hi (by omega), fun i hi => absurd hi (by omega)⟩
  · simp [nx_pI, kd_pI, ln_pI, gI_pI, gJ_pI, gR_pI, eI_pI, eJ_pI, eR_pI, kc_pI, nx_pJ, kd_pJ, ln_pJ, gI_pJ, gJ_pJ, gR_pJ, eI_pJ, eJ_pJ, eR_pJ, kc_pJ, nx_pR, kd_pR, ln_pR, gI_pR, gJ_pR, gR_pR, eI_pR, eJ_pR, eR_pR, kc_pR, nx_sI, kd_sI, ln_sI, gI_sI, gJ_sI, gR_sI, eI_sI, eJ_sI, eR_sI, kc_sI, nx_sJ, kd_sJ, ln_sJ, gI_sJ, gJ_sJ, gR_sJ, eI_sJ, eJ_sJ, eR_sJ, kc_sJ, nx_sR, kd_sR, ln_sR, gI_sR, gJ_sR, gR_sR, eI_sR, eJ_sR, eR_sR, kc_sR, ln_nO, eI_nO, eJ_nO, eR_nO, kc_nO, gI_nO, gI_nA, gJ_nO, gJ_nA, gR_nO, gR_nA, eI_nA, eJ_nA, eR_nA, kc_nA, nx_nO, nx_nA, kd_nO_at, kd_nA_at, ln_nA_at]
  · simp [nx_pI, kd_pI, ln_pI, gI_pI, gJ_pI, gR_pI, eI_pI, eJ_pI, eR_pI, kc_pI, nx_pJ, kd_pJ, ln_pJ, gI_pJ, gJ_pJ, gR_pJ, eI_pJ, eJ_pJ, eR_pJ, kc_pJ, nx_pR, kd_pR, ln_pR, gI_pR, gJ_pR, gR_pR, eI_pR, eJ_pR, eR_pR, kc_pR, nx_sI, kd_sI, ln_sI, gI_sI, gJ_sI, gR_sI, eI_sI, eJ_sI, eR_sI, kc_sI, nx_sJ, kd_sJ, ln_sJ, gI_sJ, gJ_sJ, gR_sJ, eI_sJ, eJ_sJ, eR_sJ, kc_sJ, nx_sR, kd_sR, ln_sR, gI_sR, gJ_sR, gR_sR, eI_sR, eJ_sR, eR_sR, kc_sR, ln_nO, eI_nO, eJ_nO, eR_nO, kc_nO, gI_nO, gI_nA, gJ_nO, gJ_nA, gR_nO, gR_nA, eI_nA, eJ_nA, eR_nA, kc_nA, nx_nO, nx_nA, kd_nO_at, kd_nA_at, ln_nA_at, nI0]
end
