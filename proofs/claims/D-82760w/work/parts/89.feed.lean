/-! feed: bytes on the tape -/
set_option maxRecDepth 100000
section
variable {h h0 h1 : Hp} {x : Nat} {E : Nat → Hp → Prop} {k n : Nat} {R : Hp → Prop}
theorem cp_byte (H : CP h x) {v : Int32} {m : Nat} (hm : m < 700) (e : gI h 1077 (x + 23) = nI m) : CP (pI (sI (pI (sI h (x + 9) m v) 7 x (nI (m + 1))) (x + 23 + 57) m v) 1077 (x + 23) (nI (m + 1))) x := by
  obtain ⟨Kw, Kn, Ko, Kl, Kc, Kv, Kb, Kx, Kr, Kq, Ks, Kp, Ka, Ku⟩ := H; refine ⟨(by with_reducible (repeat (first | assumption | refine CPw_pI ?_ | refine CPw_pJ ?_ | refine CPw_pR (by decide) ?_ | refine CPw_sJ ?_ | refine CPw_sM ?_))), ?_, ?_, (by with_reducible (repeat (first | assumption | refine CPl_pI (by decide) ?_ | refine CPl_pJ ?_ | refine CPl_pR (by decide) ?_ | refine CPl_sJ ?_ | refine CPl_sM ?_))), (by with_reducible (repeat (first | assumption | refine CPc_pI (by decide) ?_ | refine CPc_pJ ?_ | refine CPc_pR (by decide) ?_ | refine CPc_sJ (by decide) ?_ | refine CPc_sM (by decide) ?_ | refine CPc_sX (by decide) ?_))), (by with_reducible (repeat (first | assumption | refine CPv_pI (by decide) ?_ | refine CPv_pJ ?_ | refine CPv_pR ?_ | refine CPv_sJ ?_ | refine CPv_sM (by decide) ?_ | refine CPv_sX (by decide) ?_))), (by with_reducible (repeat (first | assumption | refine CPb_pI (by decide) ?_ | refine CPb_pJ ?_ | refine CPb_pR (by decide) ?_ | refine CPb_sJ ?_ | refine CPb_sM (by decide) ?_ | refine CPb_sX (by decide) ?_))), (by with_reducible (repeat (first | assumption | refine CPx_pI (by decide) ?_ | refine CPx_pJ ?_ | refine CPx_pR ?_ | refine CPx_sJ ?_ | refine CPx_sM (by decide) ?_ | refine CPx_sX (by decide) ?_))), (by with_reducible (repeat (first | assumption | refine CPr_pI (by decide) ?_ | refine CPr_pJ ?_ | refine CPr_pR (by decide) ?_ | refine CPr_sJ ?_ | refine CPr_sM (by decide) ?_ | refine CPr_sX (by decide) ?_))), (by with_reducible (repeat (first | assumption | refine CPq_pI (by decide) ?_ | refine CPq_pJ ?_ | refine CPq_pR (by decide) ?_ | refine CPq_sJ ?_ | refine CPq_sM (by decide) ?_ | refine CPq_sX (by decide) ?_))), (by with_reducible (repeat (first | assumption | refine CPs_pI (by decide) ?_ | refine CPs_pJ (by decide) ?_ | refine CPs_pR (by decide) ?_ | refine CPs_sJ (by decide) ?_ | refine CPs_sM (by decide) ?_ | refine CPs_sX (by decide) ?_))), (by with_reducible (repeat (first | assumption | refine CPp_pI (by decide) ?_ | refine CPp_pJ ?_ | refine CPp_pR (by decide) ?_ | refine CPp_sJ ?_ | refine CPp_sM (by decide) ?_ | refine CPp_sX (by decide) ?_))), ?_, (by with_reducible (repeat (first | assumption | refine CPu_pI (by decide) ?_ | refine CPu_pJ ?_ | refine CPu_pR (by decide) ?_ | refine CPu_sJ ?_ | refine CPu_sM (by decide) (by decide) ?_ | refine CPu_sX (by decide) (by decide) (by decide) ?_)))⟩
  · obtain ⟨n1, n2, n3, n4, n5, n6, n7, n8, n9, n10⟩ := Kn
    simp [CPn, nx_pI, kd_pI, ln_pI, gI_pI, gJ_pI, gR_pI, eI_pI, eJ_pI, eR_pI, kc_pI, nx_pJ, kd_pJ, ln_pJ, gI_pJ, gJ_pJ, gR_pJ, eI_pJ, eJ_pJ, eR_pJ, kc_pJ, nx_pR, kd_pR, ln_pR, gI_pR, gJ_pR, gR_pR, eI_pR, eJ_pR, eR_pR, kc_pR, nx_sI, kd_sI, ln_sI, gI_sI, gJ_sI, gR_sI, eI_sI, eJ_sI, eR_sI, kc_sI, nx_sJ, kd_sJ, ln_sJ, gI_sJ, gJ_sJ, gR_sJ, eI_sJ, eJ_sJ, eR_sJ, kc_sJ, nx_sR, kd_sR, ln_sR, gI_sR, gJ_sR, gR_sR, eI_sR, eJ_sR, eR_sR, kc_sR, ln_nO, eI_nO, eJ_nO, eR_nO, kc_nO, gI_nO, gI_nA, gJ_nO, gJ_nA, gR_nO, gR_nA, eI_nA, eJ_nA, eR_nA, kc_nA, nx_nO, nx_nA, kd_nO_at, kd_nA_at, ln_nA_at, n1, n2, n3, n5, n6, n7, n8, n9, n10]
  · obtain ⟨n1, n2, n3, n4, n5, n6, n7, n8⟩ := Ko
    refine ⟨?_, ?_, ?_, ?_, ?_, ?_, ?_, ?_⟩
    all_goals simp [nx_pI, kd_pI, ln_pI, gI_pI, gJ_pI, gR_pI, eI_pI, eJ_pI, eR_pI, kc_pI, nx_pJ, kd_pJ, ln_pJ, gI_pJ, gJ_pJ, gR_pJ, eI_pJ, eJ_pJ, eR_pJ, kc_pJ, nx_pR, kd_pR, ln_pR, gI_pR, gJ_pR, gR_pR, eI_pR, eJ_pR, eR_pR, kc_pR, nx_sI, kd_sI, ln_sI, gI_sI, gJ_sI, gR_sI, eI_sI, eJ_sI, eR_sI, kc_sI, nx_sJ, kd_sJ, ln_sJ, gI_sJ, gJ_sJ, gR_sJ, eI_sJ, eJ_sJ, eR_sJ, kc_sJ, nx_sR, kd_sR, ln_sR, gI_sR, gJ_sR, gR_sR, eI_sR, eJ_sR, eR_sR, kc_sR, ln_nO, eI_nO, eJ_nO, eR_nO, kc_nO, gI_nO, gI_nA, gJ_nO, gJ_nA, gR_nO, gR_nA, eI_nA, eJ_nA, eR_nA, kc_nA, nx_nO, nx_nA, kd_nO_at, kd_nA_at, ln_nA_at, n1, n2, n3, n4, n5, n6, n7]
    unfold bd
    rw [nI_toInt (by omega)]
    omega
  · obtain ⟨a1, a2, a3, a4, a5, a6, a7⟩ := Ka
    refine ⟨?_, ?_, ?_, ?_, ?_, ?_, ?_⟩
    · simp [nx_pI, kd_pI, ln_pI, gI_pI, gJ_pI, gR_pI, eI_pI, eJ_pI, eR_pI, kc_pI, nx_pJ, kd_pJ, ln_pJ, gI_pJ, gJ_pJ, gR_pJ, eI_pJ, eJ_pJ, eR_pJ, kc_pJ, nx_pR, kd_pR, ln_pR, gI_pR, gJ_pR, gR_pR, eI_pR, eJ_pR, eR_pR, kc_pR, nx_sI, kd_sI, ln_sI, gI_sI, gJ_sI, gR_sI, eI_sI, eJ_sI, eR_sI, kc_sI, nx_sJ, kd_sJ, ln_sJ, gI_sJ, gJ_sJ, gR_sJ, eI_sJ, eJ_sJ, eR_sJ, kc_sJ, nx_sR, kd_sR, ln_sR, gI_sR, gJ_sR, gR_sR, eI_sR, eJ_sR, eR_sR, kc_sR, ln_nO, eI_nO, eJ_nO, eR_nO, kc_nO, gI_nO, gI_nA, gJ_nO, gJ_nA, gR_nO, gR_nA, eI_nA, eJ_nA, eR_nA, kc_nA, nx_nO, nx_nA, kd_nO_at, kd_nA_at, ln_nA_at]; exact a1
    · simp [nx_pI, kd_pI, ln_pI, gI_pI, gJ_pI, gR_pI, eI_pI, eJ_pI, eR_pI, kc_pI, nx_pJ, kd_pJ, ln_pJ, gI_pJ, gJ_pJ, gR_pJ, eI_pJ, eJ_pJ, eR_pJ, kc_pJ, nx_pR, kd_pR, ln_pR, gI_pR, gJ_pR, gR_pR, eI_pR, eJ_pR, eR_pR, kc_pR, nx_sI, kd_sI, ln_sI, gI_sI, gJ_sI, gR_sI, eI_sI, eJ_sI, eR_sI, kc_sI, nx_sJ, kd_sJ, ln_sJ, gI_sJ, gJ_sJ, gR_sJ, eI_sJ, eJ_sJ, eR_sJ, kc_sJ, nx_sR, kd_sR, ln_sR, gI_sR, gJ_sR, gR_sR, eI_sR, eJ_sR, eR_sR, kc_sR, ln_nO, eI_nO, eJ_nO, eR_nO, kc_nO, gI_nO, gI_nA, gJ_nO, gJ_nA, gR_nO, gR_nA, eI_nA, eJ_nA, eR_nA, kc_nA, nx_nO, nx_nA, kd_nO_at, kd_nA_at, ln_nA_at]; exact a2
    · simp [nx_pI, kd_pI, ln_pI, gI_pI, gJ_pI, gR_pI, eI_pI, eJ_pI, eR_pI, kc_pI, nx_pJ, kd_pJ, ln_pJ, gI_pJ, gJ_pJ, gR_pJ, eI_pJ, eJ_pJ, eR_pJ, kc_pJ, nx_pR, kd_pR, ln_pR, gI_pR, gJ_pR, gR_pR, eI_pR, eJ_pR, eR_pR, kc_pR, nx_sI, kd_sI, ln_sI, gI_sI, gJ_sI, gR_sI, eI_sI, eJ_sI, eR_sI, kc_sI, nx_sJ, kd_sJ, ln_sJ, gI_sJ, gJ_sJ, gR_sJ, eI_sJ, eJ_sJ, eR_sJ, kc_sJ, nx_sR, kd_sR, ln_sR, gI_sR, gJ_sR, gR_sR, eI_sR, eJ_sR, eR_sR, kc_sR, ln_nO, eI_nO, eJ_nO, eR_nO, kc_nO, gI_nO, gI_nA, gJ_nO, gJ_nA, gR_nO, gR_nA, eI_nA, eJ_nA, eR_nA, kc_nA, nx_nO, nx_nA, kd_nO_at, kd_nA_at, ln_nA_at]; exact a3
    · simp [nx_pI, kd_pI, ln_pI, gI_pI, gJ_pI, gR_pI, eI_pI, eJ_pI, eR_pI, kc_pI, nx_pJ, kd_pJ, ln_pJ, gI_pJ, gJ_pJ, gR_pJ, eI_pJ, eJ_pJ, eR_pJ, kc_pJ, nx_pR, kd_pR, ln_pR, gI_pR, gJ_pR, gR_pR, eI_pR, eJ_pR, eR_pR, kc_pR, nx_sI, kd_sI, ln_sI, gI_sI, gJ_sI, gR_sI, eI_sI, eJ_sI, eR_sI, kc_sI, nx_sJ, kd_sJ, ln_sJ, gI_sJ, gJ_sJ, gR_sJ, eI_sJ, eJ_sJ, eR_sJ, kc_sJ, nx_sR, kd_sR, ln_sR, gI_sR, gJ_sR, gR_sR, eI_sR, eJ_sR, eR_sR, kc_sR, ln_nO, eI_nO, eJ_nO, eR_nO, kc_nO, gI_nO, gI_nA, gJ_nO, gJ_nA, gR_nO, gR_nA, eI_nA, eJ_nA, eR_nA, kc_nA, nx_nO, nx_nA, kd_nO_at, kd_nA_at, ln_nA_at]; exact a4
    · intro j hj
      have := a5 j hj
      by_cases c : j = m
      · simp [nx_pI, kd_pI, ln_pI, gI_pI, gJ_pI, gR_pI, eI_pI, eJ_pI, eR_pI, kc_pI, nx_pJ, kd_pJ, ln_pJ, gI_pJ, gJ_pJ, gR_pJ, eI_pJ, eJ_pJ, eR_pJ, kc_pJ, nx_pR, kd_pR, ln_pR, gI_pR, gJ_pR, gR_pR, eI_pR, eJ_pR, eR_pR, kc_pR, nx_sI, kd_sI, ln_sI, gI_sI, gJ_sI, gR_sI, eI_sI, eJ_sI, eR_sI, kc_sI, nx_sJ, kd_sJ, ln_sJ, gI_sJ, gJ_sJ, gR_sJ, eI_sJ, eJ_sJ, eR_sJ, kc_sJ, nx_sR, kd_sR, ln_sR, gI_sR, gJ_sR, gR_sR, eI_sR, eJ_sR, eR_sR, kc_sR, ln_nO, eI_nO, eJ_nO, eR_nO, kc_nO, gI_nO, gI_nA, gJ_nO, gJ_nA, gR_nO, gR_nA, eI_nA, eJ_nA, eR_nA, kc_nA, nx_nO, nx_nA, kd_nO_at, kd_nA_at, ln_nA_at, c]
      · simp [nx_pI, kd_pI, ln_pI, gI_pI, gJ_pI, gR_pI, eI_pI, eJ_pI, eR_pI, kc_pI, nx_pJ, kd_pJ, ln_pJ, gI_pJ, gJ_pJ, gR_pJ, eI_pJ, eJ_pJ, eR_pJ, kc_pJ, nx_pR, kd_pR, ln_pR, gI_pR, gJ_pR, gR_pR, eI_pR, eJ_pR, eR_pR, kc_pR, nx_sI, kd_sI, ln_sI, gI_sI, gJ_sI, gR_sI, eI_sI, eJ_sI, eR_sI, kc_sI, nx_sJ, kd_sJ, ln_sJ, gI_sJ, gJ_sJ, gR_sJ, eI_sJ, eJ_sJ, eR_sJ, kc_sJ, nx_sR, kd_sR, ln_sR, gI_sR, gJ_sR, gR_sR, eI_sR, eJ_sR, eR_sR, kc_sR, ln_nO, eI_nO, eJ_nO, eR_nO, kc_nO, gI_nO, gI_nA, gJ_nO, gJ_nA, gR_nO, gR_nA, eI_nA, eJ_nA, eR_nA, kc_nA, nx_nO, nx_nA, kd_nO_at, kd_nA_at, ln_nA_at, c, this]
    · simp [nx_pI, kd_pI, ln_pI, gI_pI, gJ_pI, gR_pI, eI_pI, eJ_pI, eR_pI, kc_pI, nx_pJ, kd_pJ, ln_pJ, gI_pJ, gJ_pJ, gR_pJ, eI_pJ, eJ_pJ, eR_pJ, kc_pJ, nx_pR, kd_pR, ln_pR, gI_pR, gJ_pR, gR_pR, eI_pR, eJ_pR, eR_pR, kc_pR, nx_sI, kd_sI, ln_sI, gI_sI, gJ_sI, gR_sI, eI_sI, eJ_sI, eR_sI, kc_sI, nx_sJ, kd_sJ, ln_sJ, gI_sJ, gJ_sJ, gR_sJ, eI_sJ, eJ_sJ, eR_sJ, kc_sJ, nx_sR, kd_sR, ln_sR, gI_sR, gJ_sR, gR_sR, eI_sR, eJ_sR, eR_sR, kc_sR, ln_nO, eI_nO, eJ_nO, eR_nO, kc_nO, gI_nO, gI_nA, gJ_nO, gJ_nA, gR_nO, gR_nA, eI_nA, eJ_nA, eR_nA, kc_nA, nx_nO, nx_nA, kd_nO_at, kd_nA_at, ln_nA_at]; exact a6
    · simp [nx_pI, kd_pI, ln_pI, gI_pI, gJ_pI, gR_pI, eI_pI, eJ_pI, eR_pI, kc_pI, nx_pJ, kd_pJ, ln_pJ, gI_pJ, gJ_pJ, gR_pJ, eI_pJ, eJ_pJ, eR_pJ, kc_pJ, nx_pR, kd_pR, ln_pR, gI_pR, gJ_pR, gR_pR, eI_pR, eJ_pR, eR_pR, kc_pR, nx_sI, kd_sI, ln_sI, gI_sI, gJ_sI, gR_sI, eI_sI, eJ_sI, eR_sI, kc_sI, nx_sJ, kd_sJ, ln_sJ, gI_sJ, gJ_sJ, gR_sJ, eI_sJ, eJ_sJ, eR_sJ, kc_sJ, nx_sR, kd_sR, ln_sR, gI_sR, gJ_sR, gR_sR, eI_sR, eJ_sR, eR_sR, kc_sR, ln_nO, eI_nO, eJ_nO, eR_nO, kc_nO, gI_nO, gI_nA, gJ_nO, gJ_nA, gR_nO, gR_nA, eI_nA, eJ_nA, eR_nA, kc_nA, nx_nO, nx_nA, kd_nO_at, kd_nA_at, ln_nA_at]; exact a7
/-- p bytes W are on the tape a behind its t-th; the field f of o counts them -/
def Tp (h0 h : Hp) (f o a t p : Nat) (W : Nat → Int32) : Prop := (nx h = nx h0 ∧ kd h = kd h0 ∧ ln h = ln h0 ∧ gR h = gR h0 ∧ gJ h = gJ h0 ∧ eR h = eR h0 ∧ eJ h = eJ h0 ∧ kc h = kc h0) ∧ (∀ g b, ¬ (g = f ∧ b = o) → gI h g b = gI h0 g b) ∧ gI h f o = nI (t + p) ∧ (∀ b, b ≠ a → eI h b = eI h0 b) ∧ ∀ j, eI h a j = if t ≤ j ∧ j < t + p then W (j - t) else eI h0 a j
theorem Tp.step {f o a t p : Nat} {W : Nat → Int32} (T : Tp h0 h f o a t p W) {v : Int32} (hv : v = W p) : Tp h0 (sI (pI h f o (nI (t + p + 1))) a (t + p) v) f o a t (p + 1) W := by
  obtain ⟨a1, a2, a3, a4, a5⟩ := T
  refine ⟨a1, fun g b z => ?_, ?_, fun b z => ?_, fun j => ?_⟩
  · rw [gI_sI, gI_pI, if_neg z]; exact a2 g b z
  · rw [gI_sI, gI_pI, if_pos ⟨rfl, rfl⟩]; rfl
  · rw [eI_sI_ne z, eI_pI]; exact a4 b z
  · rw [eI_sI, eI_pI]
    by_cases c : j = t + p
    · rw [if_pos ⟨rfl, c⟩, if_pos (by omega), hv, c]
      congr 1; omega
    · rw [if_neg (fun z => c z.2), a5 j]
      by_cases d : t ≤ j ∧ j < t + p
      · rw [if_pos d, if_pos (by omega)]
      · rw [if_neg d, if_neg (by omega)]
def shB (q : Nat) : Int32 := if q = 0 then 24 else if q = 1 then 16 else if q = 2 then 8 else 0
def wdB (w : Nat → Int32) (q : Nat) : Int32 := tby (tby (shr (w (q / 4)) (shB (q % 4))))
theorem Tp.xw {a t p : Nat} {W : Nat → Int32} {f o : Nat} (T : Tp h0 h f o a t p W) (H : XW h0 x) : XW h x := by
  obtain ⟨⟨b1, b2, b3, b4, -⟩, -⟩ := T
  obtain ⟨a1, a2, a3, a4, a5⟩ := H
  refine ⟨by rw [b2]; exact a1, by rw [b4]; exact a2, by rw [b1]; exact a3, fun q hq => by rw [b4, b2]; exact a4 q hq, fun q hq => by rw [b3]; exact a5 q hq⟩
theorem Tp.mw {a t p : Nat} {W : Nat → Int32} {f o mo : Nat} (T : Tp h0 h f o a t p W) (H : MW h0 mo) : MW h mo := by
  obtain ⟨⟨b1, b2, b3, b4, -⟩, -⟩ := T
  exact ⟨by rw [b2]; exact H.1, fun q hq => by rw [b4, b2, b3]; exact H.2 q hq⟩
/-- the component: one byte -/
theorem tpx_1 (X : XW h0 x) {t p : Nat} {W : Nat → Int32} (T : Tp h0 h 7 x (x + 9) t p W) (hp : t + p < 700) {x3 x4 x5 s s' : Int32} {r2 : Nat} (hs : ¬ s < 0) (es : s + (-8) = s') (hv : tby (tby (shr x5 s)) = W p) {Q : Int32 → Hp → Prop}
    (nxt : ∀ h', Tp h0 h' 7 x (x + 9) t (p + 1) W → Rn M_X0_tapes 24 [(0, rV x), (2, rV r2), (3, iV x3), (4, iV x4), (5, iV x5), (6, iV s')] [] h' k n (qI Q) E) : Rn M_X0_tapes 24 [(0, rV x), (2, rV r2), (3, iV x3), (4, iV x4), (5, iV x5), (6, iV s)] [] h k n (qI Q) E := by
  have e := T.2.2.1
  refine b_X0_tapes_24 (T.xw X) ⟨fun c => absurd c hs, fun _ => ?_⟩
  rw [e, ix_nI (by omega), nI_add1]
  rintro _ rfl
  refine ⟨vin_nI hp (by decide), ?_⟩
  rintro _ rfl _ rfl
  rw [es]
  exact nxt _ (T.step hv)
theorem tpx_4 (X : XW h0 x) {t i : Nat} {w : Nat → Int32} (T : Tp h0 h 7 x (x + 9) t (4 * i) (wdB w)) (hp : t + 4 * i + 4 ≤ 700) {x3 x4 x5 : Int32} {r2 : Nat} (hv : x5 = w i) {Q : Int32 → Hp → Prop}
    (nxt : ∀ h', Tp h0 h' 7 x (x + 9) t (4 * (i + 1)) (wdB w) → Rn M_X0_tapes 8 [(0, rV x), (2, rV r2), (3, iV x3), (4, iV (x4 + 1))] [] h' k n (qI Q) E) : Rn M_X0_tapes 24 [(0, rV x), (2, rV r2), (3, iV x3), (4, iV x4), (5, iV x5), (6, iV 24)] [] h k n (qI Q) E := by
  have q0 : 4 * i / 4 = i ∧ 4 * i % 4 = 0 ∧ (4 * i + 1) / 4 = i ∧ (4 * i + 1) % 4 = 1 ∧ (4 * i + 2) / 4 = i ∧ (4 * i + 2) % 4 = 2 ∧ (4 * i + 3) / 4 = i ∧ (4 * i + 3) % 4 = 3 := by omega
  obtain ⟨d0, m0, d1, m1, d2, m2, d3, m3⟩ := q0
  refine tpx_1 X T (by omega) (s' := 16) (by decide) (by decide) (by unfold wdB; rw [d0, m0, hv]; rfl) (fun h1 T1 => ?_)
  refine tpx_1 X T1 (by omega) (s' := 8) (by decide) (by decide) (by unfold wdB; rw [d1, m1, hv]; rfl) (fun h2 T2 => ?_)
  refine tpx_1 X T2 (by omega) (s' := 0) (by decide) (by decide) (by unfold wdB; rw [d2, m2, hv]; rfl) (fun h3 T3 => ?_)
  refine tpx_1 X T3 (by omega) (s' := -8) (by decide) (by decide) (by unfold wdB; rw [d3, m3, hv]; rfl) (fun h4 T4 => ?_)
  refine b_X0_tapes_24 (T4.xw X) ⟨fun _ => ?_, fun c => absurd (by decide) c⟩
  rintro _ rfl
  exact nxt h4 T4
theorem ct_tapes (X : XW h0 x) {t r2 : Nat} (et : gI h0 7 x = nI t) (ht : t + 20 ≤ 700) (hk : kd h0 r2 = 61) (hl : ln h0 r2 = 5) (hr : r2 ≠ x + 9) {Q : Int32 → Hp → Prop} (hq : ∀ h', Tp h0 h' 7 x (x + 9) t 20 (wdB (eI h0 r2)) → Q (nI (t + 20)) h') : CtI M_X0_tapes [rV x, rV r2] h0 k n Q E := by
  have t0 : Tp h0 h0 7 x (x + 9) t 0 (wdB (eI h0 r2)) := ⟨⟨rfl, rfl, rfl, rfl, rfl, rfl, rfl, rfl⟩, fun _ _ _ => rfl, et, fun _ _ => rfl, fun j => by rw [if_neg (by omega)]⟩
  refine b_X0_tapes_0 X ⟨hk, ?_⟩
  rintro _ rfl
  rw [hl, ← nI0]
  have all : ∀ h, Tp h0 h 7 x (x + 9) t (4 * 0) (wdB (eI h0 r2)) → Rn M_X0_tapes 8 [(0, rV x), (2, rV r2), (3, iV (nI 5)), (4, iV (nI 0))] [] h k n (qI Q) E := by
    refine itr_loop (α := Unit) (inv := fun i _ => ∀ h, Tp h0 h 7 x (x + 9) t (4 * i) (wdB (eI h0 r2)) → Rn M_X0_tapes 8 [(0, rV x), (2, rV r2), (3, iV (nI 5)), (4, iV (nI i))] [] h k n (qI Q) E) (f := fun _ u => u) (m := 5) (s := ()) (fun i _ hi ih h T => ?_) (fun h T => ?_)
    · refine b_X0_tapes_8 (T.xw X) ?_
      rw [T.1.2.1, T.1.2.2.1, T.2.2.2.1 r2 hr, ix_nI (by omega), hl]
      refine ⟨fun c => ?_, fun _ => ⟨hk, vin_nI hi (by decide), ?_⟩⟩
      · rw [nIle (by omega) (by omega)] at c; omega
      rintro _ rfl
      refine tpx_4 X T (by omega) rfl (fun h' T' => ?_)
      rw [nI_add1]
      exact ih h' T'
    · refine b_X0_tapes_8 (T.xw X) ⟨fun _ => ?_, fun c => absurd (Int32.le_refl _) c⟩
      rw [T.2.2.1]
      exact hq h T
  exact all h0 t0
/-- the reference: one byte -/
theorem tpm_1 (X : MW h0 (x + 23)) {t p : Nat} {W : Nat → Int32} (T : Tp h0 h 1077 (x + 23) (x + 23 + 57) t p W) (hp : t + p < 700) {x1 s s' : Int32} (hs : ¬ s < 0) (es : s + (-8) = s') (hv : tby (tby (shr x1 s)) = W p) {Q : Hp → Prop}
    (nxt : ∀ h', Tp h0 h' 1077 (x + 23) (x + 23 + 57) t (p + 1) W → Rn M_X3_four 3 [(0, rV (x + 23)), (1, iV x1), (2, iV s')] [] h' k n (qV Q) E) : Rn M_X3_four 3 [(0, rV (x + 23)), (1, iV x1), (2, iV s)] [] h k n (qV Q) E := by
  have e := T.2.2.1
  refine b_X3_four_3 (T.mw X) ⟨fun c => absurd c hs, fun _ => ?_⟩
  rw [e, ix_nI (by omega)]
  refine ⟨vin_nI hp (by decide), ?_⟩
  rintro _ rfl _ rfl _ rfl
  rw [es, gI_sI, e, nI_add1]
  exact nxt _ (T.step hv)
theorem ct_four (X : MW h0 (x + 23)) {t i : Nat} {w : Nat → Int32} (T : Tp h0 h 1077 (x + 23) (x + 23 + 57) t (4 * i) (wdB w)) (hp : t + 4 * i + 4 ≤ 700) {x1 : Int32} (hv : x1 = w i) {Q : Hp → Prop}
    (nxt : ∀ h', Tp h0 h' 1077 (x + 23) (x + 23 + 57) t (4 * (i + 1)) (wdB w) → Q h') : CtV M_X3_four [rV (x + 23), iV x1] h k n Q E := by
  have q0 : 4 * i / 4 = i ∧ 4 * i % 4 = 0 ∧ (4 * i + 1) / 4 = i ∧ (4 * i + 1) % 4 = 1 ∧ (4 * i + 2) / 4 = i ∧ (4 * i + 2) % 4 = 2 ∧ (4 * i + 3) / 4 = i ∧ (4 * i + 3) % 4 = 3 := by omega
  obtain ⟨d0, m0, d1, m1, d2, m2, d3, m3⟩ := q0
  refine b_X3_four_0 (T.mw X) ?_
  refine tpm_1 X T (by omega) (s' := 16) (by decide) (by decide) (by unfold wdB; rw [d0, m0, hv]; rfl) (fun h1 T1 => ?_)
  refine tpm_1 X T1 (by omega) (s' := 8) (by decide) (by decide) (by unfold wdB; rw [d1, m1, hv]; rfl) (fun h2 T2 => ?_)
  refine tpm_1 X T2 (by omega) (s' := 0) (by decide) (by decide) (by unfold wdB; rw [d2, m2, hv]; rfl) (fun h3 T3 => ?_)
  refine tpm_1 X T3 (by omega) (s' := -8) (by decide) (by decide) (by unfold wdB; rw [d3, m3, hv]; rfl) (fun h4 T4 => ?_)
  exact b_X3_four_3 (T4.mw X) ⟨fun _ => nxt h4 T4, fun c => absurd (by decide) c⟩
end
