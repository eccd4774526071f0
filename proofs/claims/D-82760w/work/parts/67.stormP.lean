/-! the reference's storm: a whole run -/
set_option maxRecDepth 100000
section
variable {h0 h : Hp} {x : Nat} {E : Nat → Hp → Prop} {k n : Nat}
def b0F (h : Hp) (x : Nat) (j : Nat) (v : Int) : Int := v + (if eI h (x + 23 + 6) j = 0 then 0 else (eI h (x + 23 + 15) j).toInt)
def b0S (h : Hp) (x : Nat) : Int := itr (b0F h x) 0 (nC h x) 0
theorem b0_bd (D : MDB h x) : ∀ m, m ≤ nC h x → 0 ≤ itr (b0F h x) 0 m 0 ∧ itr (b0F h x) 0 m 0 ≤ 500 * (m : Int) := by
  intro m hm
  have hn := D.1.1
  have := itr_inv (f := b0F h x) (P := fun j v => 0 ≤ v ∧ v ≤ 500 * (j : Int)) (t := m) (i := 0) (v := 0) (fun j w _ hj hw => ?_) ⟨Int.le_refl _, by simp⟩
  · rw [Nat.zero_add] at this; exact this
  · have := (D.2.2.1 j (by omega)).1.2.2.2.2.2.2.2.2.1
    have g1 := this.1
    have g2 := this.2
    unfold b0F
    by_cases c : eI h (x + 23 + 6) j = 0
    · rw [if_pos c]; push_cast; omega
    · rw [if_neg c]; push_cast; omega
def ZM (h0 h : Hp) (x : Nat) (B : Int) (i r : Nat) : Prop := SC h0 h x ∧ (gJ h 1047 (x + 23) = 0 ∧ (gJ h 1048 (x + 23)).toInt = B ∧ gJ h 1049 (x + 23) = 0 ∧ gJ h 1050 (x + 23) = 0 ∧ gJ h 1051 (x + 23) = 0 ∧ gI h 1052 (x + 23) = 0) ∧ (∀ j, j < i → eI h (x + 23 + 30) j = 0 ∧ eJ h (x + 23 + 33) j = 0 ∧ eJ h (x + 23 + 34) j = 0 ∧ eI h (x + 23 + 35) j = 0) ∧ ∀ j, j < r → eI h (x + 23 + 29) j = eI h0 (x + 23 + 23) j
theorem ZM.full {B : Int} (Z : ZM h0 h x B (nC h0 x) (nR h0 x)) : WMz h0 h x B (i0S h0 x) := by
  obtain ⟨z1, ⟨y1, y2, y3, y4, y5, y6⟩, z4, z5⟩ := Z
  refine ⟨z1, fun a j v n1 n2 => ?_⟩
  unfold i0S
  rcases v with ⟨c, hj⟩ | ⟨c, hj⟩ | ⟨c, hj⟩ | ⟨c, hj⟩
  · obtain ⟨w1, w2, w3, w4⟩ := z4 j hj
    rcases c with rfl | rfl | rfl | rfl
    · simp [vam, w1]
    · simp [vam, w2]
    · simp [vam, w4]
    · simp [vam, w3]
  · subst c; simp [vam, z5 j hj]
  · exact absurd c (by omega)
  · rcases c with rfl | rfl | rfl | rfl | rfl | rfl
    · simp [vam, y1]
    · simp [vam, y2]
    · simp [vam, y3]
    · simp [vam, y4]
    · simp [vam, y6]
    · simp [vam, y5]
theorem ct_falls (hM : MW h (x + 23)) (D : MDB h x) {s : Int32} {Q : Hp → Prop} (hq : ∀ h', WMz h h' x (b0S h x) (rnS h x s) → Q h') : CtV M_X3_falls [rV (x + 23), iV s] h k n Q E := by
  have hn := D.1.1
  have hr := D.1.2.1
  have hcs := D.1.2.2.2.1
  have hrs := D.1.2.2.2.2
  obtain ⟨hm1, hm2⟩ := bd_nI (hi := 30) D.1.2.2.1
  have hB := b0_bd D (nC h x) (Nat.le_refl _)
  have L133 : ∀ h1, WMz h h1 x (b0S h x) (i0S h x) → Rn M_X3_falls 133 [(0, rV (x + 23)), (1, iV s), (2, iV (nI 0))] [] h1 k n (qV Q) E := by
    intro h1 W
    refine itr_loop (inv := fun m S => ∀ h1, WMz h h1 x (b0S h x) S → (S = rnM h x s m) → Rn M_X3_falls 133 [(0, rV (x + 23)), (1, iV s), (2, iV (nI m))] [] h1 k n (qV Q) E) (f := fun m S => mnS h x (eI h (x + 23 + 26) m).toInt s S) (m := ix (gI h 1003 (x + 23))) (s := i0S h x) (fun m S hm ih h1 W hS => ?_) (fun h1 W hS => ?_) h1 W rfl
    · have C := W.1
      have hrn := D.2.2.2.2.2 m (by omega)
      have I := rnM_inv D s m (by omega)
      rw [← hS] at I
      have hmul : m * nC h x + nC h x ≤ 360 := by
        have : (m + 1) * nC h x ≤ 30 * 12 := Nat.mul_le_mul (by omega) hn
        rw [Nat.succ_mul] at this
        exact this
      refine b_X3_falls_133 (C.mw hM) ?_
      rw [C.gi (f := 1003) (by decide), hm1, C.eiM (o := 26) (by decide), ix_nI (show m < 2 ^ 31 by omega)]
      refine ⟨fun c => ?_, fun _ => ⟨vin_nI (by omega) (by decide), ?_⟩⟩
      · rw [nIle (by omega) (by omega)] at c; omega
      refine ct_minuteM hM D (B := b0S h x) ⟨hB.1, by unfold b0S; omega⟩ W hrn hmul (by omega) I (fun h2 W2 => ⟨W2.1.mw hM, ?_⟩)
      rintro _ rfl
      rw [nI_add1]
      refine ih h2 W2 ?_
      rw [hS]
      unfold rnM
      rw [itr_succ, Nat.zero_add]
    · have C := W.1
      refine b_X3_falls_133 (C.mw hM) ⟨fun _ => hq h1 W, fun c => absurd ?_ c⟩
      rw [C.gi (f := 1003) (by decide), hm1, ix_nI (by omega)]
      exact Int32.le_refl _
  have L60 : ∀ h1, ZM h h1 x 0 0 (nR h x) → Rn M_X3_falls 60 [(0, rV (x + 23)), (1, iV s), (2, iV (nI 0))] [] h1 k n (qV Q) E := by
    intro h1 Z
    refine itr_loop (inv := fun j v => ∀ h1, ZM h h1 x v j (nR h x) → (v = itr (b0F h x) 0 j 0) → Rn M_X3_falls 60 [(0, rV (x + 23)), (1, iV s), (2, iV (nI j))] [] h1 k n (qV Q) E) (f := b0F h x) (m := nC h x) (s := 0) (fun j v hj ih h1 Z hv => ?_) (fun h1 Z hv => ?_) h1 Z rfl
    · obtain ⟨C, ⟨y1, y2, y3, y4, y5, y6⟩, z4, z5⟩ := Z
      have vj : vp_in (nI j) 12 := vin_nI (by omega) (by decide)
      have ej : ix (nI j) = j := ix_nI (by omega)
      have bv := b0_bd D j (by omega)
      rw [← hv] at bv
      have hh := (D.2.2.1 j (by omega)).1.2.2.2.2.2.2.2.2.1
      have g1 := hh.1
      have g2 := hh.2
      have k93 : ∀ b : Int64, b.toInt = (if eI h (x + 23 + 6) j = 0 then 0 else (eI h (x + 23 + 15) j).toInt) → Rn M_X3_falls 93 [(0, rV (x + 23)), (1, iV s), (2, iV (nI j))] [jV b, jV (gJ h1 1048 (x + 23)), rV (x + 23)] h1 k n (qV Q) E := by
        intro b hb
        have hb2 : 0 ≤ b.toInt ∧ b.toInt ≤ 500 := by
          rw [hb]
          by_cases c : eI h (x + 23 + 6) j = 0
          · rw [if_pos c]; omega
          · rw [if_neg c]; omega
        refine b_X3_falls_93 (C.mw hM) ⟨mw_k (C.mw hM), ?_⟩
        rw [ej]
        rintro _ rfl
        refine ⟨vj, ?_⟩
        rintro _ rfl
        refine ⟨vj, ?_⟩
        rintro _ rfl
        refine ⟨vj, ?_⟩
        rintro _ rfl
        refine ⟨vj, ?_⟩
        rintro _ rfl _ rfl
        rw [nI_add1]
        refine ih _ ⟨((((C.vJ (by decide)).wM (by decide)).wN (by decide)).wN (by decide)).wM (by decide), ?_, fun i hi => ?_, fun i hi => ?_⟩ ?_
        · refine ⟨by simp [nx_pI, kd_pI, ln_pI, gI_pI, gJ_pI, gR_pI, eI_pI, eJ_pI, eR_pI, kc_pI, nx_pJ, kd_pJ, ln_pJ, gI_pJ, gJ_pJ, gR_pJ, eI_pJ, eJ_pJ, eR_pJ, kc_pJ, nx_pR, kd_pR, ln_pR, gI_pR, gJ_pR, gR_pR, eI_pR, eJ_pR, eR_pR, kc_pR, nx_sI, kd_sI, ln_sI, gI_sI, gJ_sI, gR_sI, eI_sI, eJ_sI, eR_sI, kc_sI, nx_sJ, kd_sJ, ln_sJ, gI_sJ, gJ_sJ, gR_sJ, eI_sJ, eJ_sJ, eR_sJ, kc_sJ, nx_sR, kd_sR, ln_sR, gI_sR, gJ_sR, gR_sR, eI_sR, eJ_sR, eR_sR, kc_sR, ln_nO, eI_nO, eJ_nO, eR_nO, kc_nO, gI_nO, gI_nA, gJ_nO, gJ_nA, gR_nO, gR_nA, eI_nA, eJ_nA, eR_nA, kc_nA, nx_nO, nx_nA, kd_nO_at, kd_nA_at, ln_nA_at, y1], ?_, by simp [nx_pI, kd_pI, ln_pI, gI_pI, gJ_pI, gR_pI, eI_pI, eJ_pI, eR_pI, kc_pI, nx_pJ, kd_pJ, ln_pJ, gI_pJ, gJ_pJ, gR_pJ, eI_pJ, eJ_pJ, eR_pJ, kc_pJ, nx_pR, kd_pR, ln_pR, gI_pR, gJ_pR, gR_pR, eI_pR, eJ_pR, eR_pR, kc_pR, nx_sI, kd_sI, ln_sI, gI_sI, gJ_sI, gR_sI, eI_sI, eJ_sI, eR_sI, kc_sI, nx_sJ, kd_sJ, ln_sJ, gI_sJ, gJ_sJ, gR_sJ, eI_sJ, eJ_sJ, eR_sJ, kc_sJ, nx_sR, kd_sR, ln_sR, gI_sR, gJ_sR, gR_sR, eI_sR, eJ_sR, eR_sR, kc_sR, ln_nO, eI_nO, eJ_nO, eR_nO, kc_nO, gI_nO, gI_nA, gJ_nO, gJ_nA, gR_nO, gR_nA, eI_nA, eJ_nA, eR_nA, kc_nA, nx_nO, nx_nA, kd_nO_at, kd_nA_at, ln_nA_at, y3], by simp [nx_pI, kd_pI, ln_pI, gI_pI, gJ_pI, gR_pI, eI_pI, eJ_pI, eR_pI, kc_pI, nx_pJ, kd_pJ, ln_pJ, gI_pJ, gJ_pJ, gR_pJ, eI_pJ, eJ_pJ, eR_pJ, kc_pJ, nx_pR, kd_pR, ln_pR, gI_pR, gJ_pR, gR_pR, eI_pR, eJ_pR, eR_pR, kc_pR, nx_sI, kd_sI, ln_sI, gI_sI, gJ_sI, gR_sI, eI_sI, eJ_sI, eR_sI, kc_sI, nx_sJ, kd_sJ, ln_sJ, gI_sJ, gJ_sJ, gR_sJ, eI_sJ, eJ_sJ, eR_sJ, kc_sJ, nx_sR, kd_sR, ln_sR, gI_sR, gJ_sR, gR_sR, eI_sR, eJ_sR, eR_sR, kc_sR, ln_nO, eI_nO, eJ_nO, eR_nO, kc_nO, gI_nO, gI_nA, gJ_nO, gJ_nA, gR_nO, gR_nA, eI_nA, eJ_nA, eR_nA, kc_nA, nx_nO, nx_nA, kd_nO_at, kd_nA_at, ln_nA_at, y4], by simp [nx_pI, kd_pI, ln_pI, gI_pI, gJ_pI, gR_pI, eI_pI, eJ_pI, eR_pI, kc_pI, nx_pJ, kd_pJ, ln_pJ, gI_pJ, gJ_pJ, gR_pJ, eI_pJ, eJ_pJ, eR_pJ, kc_pJ, nx_pR, kd_pR, ln_pR, gI_pR, gJ_pR, gR_pR, eI_pR, eJ_pR, eR_pR, kc_pR, nx_sI, kd_sI, ln_sI, gI_sI, gJ_sI, gR_sI, eI_sI, eJ_sI, eR_sI, kc_sI, nx_sJ, kd_sJ, ln_sJ, gI_sJ, gJ_sJ, gR_sJ, eI_sJ, eJ_sJ, eR_sJ, kc_sJ, nx_sR, kd_sR, ln_sR, gI_sR, gJ_sR, gR_sR, eI_sR, eJ_sR, eR_sR, kc_sR, ln_nO, eI_nO, eJ_nO, eR_nO, kc_nO, gI_nO, gI_nA, gJ_nO, gJ_nA, gR_nO, gR_nA, eI_nA, eJ_nA, eR_nA, kc_nA, nx_nO, nx_nA, kd_nO_at, kd_nA_at, ln_nA_at, y5], by simp [nx_pI, kd_pI, ln_pI, gI_pI, gJ_pI, gR_pI, eI_pI, eJ_pI, eR_pI, kc_pI, nx_pJ, kd_pJ, ln_pJ, gI_pJ, gJ_pJ, gR_pJ, eI_pJ, eJ_pJ, eR_pJ, kc_pJ, nx_pR, kd_pR, ln_pR, gI_pR, gJ_pR, gR_pR, eI_pR, eJ_pR, eR_pR, kc_pR, nx_sI, kd_sI, ln_sI, gI_sI, gJ_sI, gR_sI, eI_sI, eJ_sI, eR_sI, kc_sI, nx_sJ, kd_sJ, ln_sJ, gI_sJ, gJ_sJ, gR_sJ, eI_sJ, eJ_sJ, eR_sJ, kc_sJ, nx_sR, kd_sR, ln_sR, gI_sR, gJ_sR, gR_sR, eI_sR, eJ_sR, eR_sR, kc_sR, ln_nO, eI_nO, eJ_nO, eR_nO, kc_nO, gI_nO, gI_nA, gJ_nO, gJ_nA, gR_nO, gR_nA, eI_nA, eJ_nA, eR_nA, kc_nA, nx_nO, nx_nA, kd_nO_at, kd_nA_at, ln_nA_at, y6]⟩
          rw [gJ_sI, gJ_sJ, gJ_sJ, gJ_sI, gJ_pJ, if_pos ⟨rfl, rfl⟩, i64_add (by rw [y2]; omega) (by rw [y2]; omega), y2, hb]
          rfl
        · by_cases e : i = j
          · subst e; simp [nx_pI, kd_pI, ln_pI, gI_pI, gJ_pI, gR_pI, eI_pI, eJ_pI, eR_pI, kc_pI, nx_pJ, kd_pJ, ln_pJ, gI_pJ, gJ_pJ, gR_pJ, eI_pJ, eJ_pJ, eR_pJ, kc_pJ, nx_pR, kd_pR, ln_pR, gI_pR, gJ_pR, gR_pR, eI_pR, eJ_pR, eR_pR, kc_pR, nx_sI, kd_sI, ln_sI, gI_sI, gJ_sI, gR_sI, eI_sI, eJ_sI, eR_sI, kc_sI, nx_sJ, kd_sJ, ln_sJ, gI_sJ, gJ_sJ, gR_sJ, eI_sJ, eJ_sJ, eR_sJ, kc_sJ, nx_sR, kd_sR, ln_sR, gI_sR, gJ_sR, gR_sR, eI_sR, eJ_sR, eR_sR, kc_sR, ln_nO, eI_nO, eJ_nO, eR_nO, kc_nO, gI_nO, gI_nA, gJ_nO, gJ_nA, gR_nO, gR_nA, eI_nA, eJ_nA, eR_nA, kc_nA, nx_nO, nx_nA, kd_nO_at, kd_nA_at, ln_nA_at]
          · obtain ⟨w1, w2, w3, w4⟩ := z4 i (by omega)
            simp [nx_pI, kd_pI, ln_pI, gI_pI, gJ_pI, gR_pI, eI_pI, eJ_pI, eR_pI, kc_pI, nx_pJ, kd_pJ, ln_pJ, gI_pJ, gJ_pJ, gR_pJ, eI_pJ, eJ_pJ, eR_pJ, kc_pJ, nx_pR, kd_pR, ln_pR, gI_pR, gJ_pR, gR_pR, eI_pR, eJ_pR, eR_pR, kc_pR, nx_sI, kd_sI, ln_sI, gI_sI, gJ_sI, gR_sI, eI_sI, eJ_sI, eR_sI, kc_sI, nx_sJ, kd_sJ, ln_sJ, gI_sJ, gJ_sJ, gR_sJ, eI_sJ, eJ_sJ, eR_sJ, kc_sJ, nx_sR, kd_sR, ln_sR, gI_sR, gJ_sR, gR_sR, eI_sR, eJ_sR, eR_sR, kc_sR, ln_nO, eI_nO, eJ_nO, eR_nO, kc_nO, gI_nO, gI_nA, gJ_nO, gJ_nA, gR_nO, gR_nA, eI_nA, eJ_nA, eR_nA, kc_nA, nx_nO, nx_nA, kd_nO_at, kd_nA_at, ln_nA_at, e, w1, w2, w3, w4]
        · simp [nx_pI, kd_pI, ln_pI, gI_pI, gJ_pI, gR_pI, eI_pI, eJ_pI, eR_pI, kc_pI, nx_pJ, kd_pJ, ln_pJ, gI_pJ, gJ_pJ, gR_pJ, eI_pJ, eJ_pJ, eR_pJ, kc_pJ, nx_pR, kd_pR, ln_pR, gI_pR, gJ_pR, gR_pR, eI_pR, eJ_pR, eR_pR, kc_pR, nx_sI, kd_sI, ln_sI, gI_sI, gJ_sI, gR_sI, eI_sI, eJ_sI, eR_sI, kc_sI, nx_sJ, kd_sJ, ln_sJ, gI_sJ, gJ_sJ, gR_sJ, eI_sJ, eJ_sJ, eR_sJ, kc_sJ, nx_sR, kd_sR, ln_sR, gI_sR, gJ_sR, gR_sR, eI_sR, eJ_sR, eR_sR, kc_sR, ln_nO, eI_nO, eJ_nO, eR_nO, kc_nO, gI_nO, gI_nA, gJ_nO, gJ_nA, gR_nO, gR_nA, eI_nA, eJ_nA, eR_nA, kc_nA, nx_nO, nx_nA, kd_nO_at, kd_nA_at, ln_nA_at]; exact z5 i hi
        · rw [itr_succ, Nat.zero_add, ← hv]
      refine b_X3_falls_60 (C.mw hM) ?_
      rw [C.gi (f := 1001) (by decide), hcs, ej, C.eiM (o := 6) (by decide), C.eiM (o := 15) (by decide)]
      refine ⟨fun c => ?_, fun _ => ⟨vj, fun c => k93 _ ?_, fun c => ⟨vj, k93 _ ?_⟩⟩⟩
      · rw [nIle (by omega) (by omega)] at c; omega
      · rw [if_pos c]; exact toL_0
      · rw [if_neg c, to64]
    · have C := Z.1
      refine b_X3_falls_60 (C.mw hM) ⟨fun _ => ?_, fun c => absurd ?_ c⟩
      · rw [← nI0]
        exact L133 h1 Z.full
      · rw [C.gi (f := 1001) (by decide), hcs]
        exact Int32.le_refl _
  have L32 : ∀ h1, ZM h h1 x 0 0 0 → Rn M_X3_falls 32 [(0, rV (x + 23)), (1, iV s), (2, iV (nI 0))] [] h1 k n (qV Q) E := by
    intro h1 Z
    refine itr_loop (α := Unit) (inv := fun j _ => ∀ h1, ZM h h1 x 0 0 j → Rn M_X3_falls 32 [(0, rV (x + 23)), (1, iV s), (2, iV (nI j))] [] h1 k n (qV Q) E) (f := fun _ u => u) (m := nR h x) (s := ()) (fun j _ hj ih h1 Z => ?_) (fun h1 Z => ?_) h1 Z
    · obtain ⟨C, y, z4, z5⟩ := Z
      have vj : vp_in (nI j) 30 := vin_nI (by omega) (by decide)
      have ej : ix (nI j) = j := ix_nI (by omega)
      refine b_X3_falls_32 (C.mw hM) ?_
      rw [C.gi (f := 1002) (by decide), hrs, ej, C.eiM (o := 23) (by decide)]
      refine ⟨fun c => ?_, fun _ => ⟨vj, vj, ?_⟩⟩
      · rw [nIle (by omega) (by omega)] at c; omega
      rintro _ rfl _ rfl
      rw [nI_add1]
      refine ih _ ⟨C.wM (by decide), ?_, fun i hi => absurd hi (by omega), fun i hi => ?_⟩
      · simp only [gJ_sI, gI_sI]; exact y
      · by_cases e : i = j
        · subst e; simp [nx_pI, kd_pI, ln_pI, gI_pI, gJ_pI, gR_pI, eI_pI, eJ_pI, eR_pI, kc_pI, nx_pJ, kd_pJ, ln_pJ, gI_pJ, gJ_pJ, gR_pJ, eI_pJ, eJ_pJ, eR_pJ, kc_pJ, nx_pR, kd_pR, ln_pR, gI_pR, gJ_pR, gR_pR, eI_pR, eJ_pR, eR_pR, kc_pR, nx_sI, kd_sI, ln_sI, gI_sI, gJ_sI, gR_sI, eI_sI, eJ_sI, eR_sI, kc_sI, nx_sJ, kd_sJ, ln_sJ, gI_sJ, gJ_sJ, gR_sJ, eI_sJ, eJ_sJ, eR_sJ, kc_sJ, nx_sR, kd_sR, ln_sR, gI_sR, gJ_sR, gR_sR, eI_sR, eJ_sR, eR_sR, kc_sR, ln_nO, eI_nO, eJ_nO, eR_nO, kc_nO, gI_nO, gI_nA, gJ_nO, gJ_nA, gR_nO, gR_nA, eI_nA, eJ_nA, eR_nA, kc_nA, nx_nO, nx_nA, kd_nO_at, kd_nA_at, ln_nA_at]
        · simp [nx_pI, kd_pI, ln_pI, gI_pI, gJ_pI, gR_pI, eI_pI, eJ_pI, eR_pI, kc_pI, nx_pJ, kd_pJ, ln_pJ, gI_pJ, gJ_pJ, gR_pJ, eI_pJ, eJ_pJ, eR_pJ, kc_pJ, nx_pR, kd_pR, ln_pR, gI_pR, gJ_pR, gR_pR, eI_pR, eJ_pR, eR_pR, kc_pR, nx_sI, kd_sI, ln_sI, gI_sI, gJ_sI, gR_sI, eI_sI, eJ_sI, eR_sI, kc_sI, nx_sJ, kd_sJ, ln_sJ, gI_sJ, gJ_sJ, gR_sJ, eI_sJ, eJ_sJ, eR_sJ, kc_sJ, nx_sR, kd_sR, ln_sR, gI_sR, gJ_sR, gR_sR, eI_sR, eJ_sR, eR_sR, kc_sR, ln_nO, eI_nO, eJ_nO, eR_nO, kc_nO, gI_nO, gI_nA, gJ_nO, gJ_nA, gR_nO, gR_nA, eI_nA, eJ_nA, eR_nA, kc_nA, nx_nO, nx_nA, kd_nO_at, kd_nA_at, ln_nA_at, e]; exact z5 i (by omega)
    · have C := Z.1
      refine b_X3_falls_32 (C.mw hM) ⟨fun _ => ?_, fun c => absurd ?_ c⟩
      · rw [← nI0]
        exact L60 h1 Z
      · rw [C.gi (f := 1002) (by decide), hrs]
        exact Int32.le_refl _
  refine b_X3_falls_0 hM ?_
  rintro _ rfl _ rfl _ rfl _ rfl _ rfl _ rfl
  rw [← nI0]
  refine L32 _ ⟨((((((SC.refl h x).vJ (by decide)).vJ (by decide)).vJ (by decide)).vJ (by decide)).vJ (by decide)).vI (by decide), ?_, fun i hi => absurd hi (by omega), fun i hi => absurd hi (by omega)⟩
  refine ⟨by simp [nx_pI, kd_pI, ln_pI, gI_pI, gJ_pI, gR_pI, eI_pI, eJ_pI, eR_pI, kc_pI, nx_pJ, kd_pJ, ln_pJ, gI_pJ, gJ_pJ, gR_pJ, eI_pJ, eJ_pJ, eR_pJ, kc_pJ, nx_pR, kd_pR, ln_pR, gI_pR, gJ_pR, gR_pR, eI_pR, eJ_pR, eR_pR, kc_pR, nx_sI, kd_sI, ln_sI, gI_sI, gJ_sI, gR_sI, eI_sI, eJ_sI, eR_sI, kc_sI, nx_sJ, kd_sJ, ln_sJ, gI_sJ, gJ_sJ, gR_sJ, eI_sJ, eJ_sJ, eR_sJ, kc_sJ, nx_sR, kd_sR, ln_sR, gI_sR, gJ_sR, gR_sR, eI_sR, eJ_sR, eR_sR, kc_sR, ln_nO, eI_nO, eJ_nO, eR_nO, kc_nO, gI_nO, gI_nA, gJ_nO, gJ_nA, gR_nO, gR_nA, eI_nA, eJ_nA, eR_nA, kc_nA, nx_nO, nx_nA, kd_nO_at, kd_nA_at, ln_nA_at], by simp [nx_pI, kd_pI, ln_pI, gI_pI, gJ_pI, gR_pI, eI_pI, eJ_pI, eR_pI, kc_pI, nx_pJ, kd_pJ, ln_pJ, gI_pJ, gJ_pJ, gR_pJ, eI_pJ, eJ_pJ, eR_pJ, kc_pJ, nx_pR, kd_pR, ln_pR, gI_pR, gJ_pR, gR_pR, eI_pR, eJ_pR, eR_pR, kc_pR, nx_sI, kd_sI, ln_sI, gI_sI, gJ_sI, gR_sI, eI_sI, eJ_sI, eR_sI, kc_sI, nx_sJ, kd_sJ, ln_sJ, gI_sJ, gJ_sJ, gR_sJ, eI_sJ, eJ_sJ, eR_sJ, kc_sJ, nx_sR, kd_sR, ln_sR, gI_sR, gJ_sR, gR_sR, eI_sR, eJ_sR, eR_sR, kc_sR, ln_nO, eI_nO, eJ_nO, eR_nO, kc_nO, gI_nO, gI_nA, gJ_nO, gJ_nA, gR_nO, gR_nA, eI_nA, eJ_nA, eR_nA, kc_nA, nx_nO, nx_nA, kd_nO_at, kd_nA_at, ln_nA_at], by simp [nx_pI, kd_pI, ln_pI, gI_pI, gJ_pI, gR_pI, eI_pI, eJ_pI, eR_pI, kc_pI, nx_pJ, kd_pJ, ln_pJ, gI_pJ, gJ_pJ, gR_pJ, eI_pJ, eJ_pJ, eR_pJ, kc_pJ, nx_pR, kd_pR, ln_pR, gI_pR, gJ_pR, gR_pR, eI_pR, eJ_pR, eR_pR, kc_pR, nx_sI, kd_sI, ln_sI, gI_sI, gJ_sI, gR_sI, eI_sI, eJ_sI, eR_sI, kc_sI, nx_sJ, kd_sJ, ln_sJ, gI_sJ, gJ_sJ, gR_sJ, eI_sJ, eJ_sJ, eR_sJ, kc_sJ, nx_sR, kd_sR, ln_sR, gI_sR, gJ_sR, gR_sR, eI_sR, eJ_sR, eR_sR, kc_sR, ln_nO, eI_nO, eJ_nO, eR_nO, kc_nO, gI_nO, gI_nA, gJ_nO, gJ_nA, gR_nO, gR_nA, eI_nA, eJ_nA, eR_nA, kc_nA, nx_nO, nx_nA, kd_nO_at, kd_nA_at, ln_nA_at], by simp [nx_pI, kd_pI, ln_pI, gI_pI, gJ_pI, gR_pI, eI_pI, eJ_pI, eR_pI, kc_pI, nx_pJ, kd_pJ, ln_pJ, gI_pJ, gJ_pJ, gR_pJ, eI_pJ, eJ_pJ, eR_pJ, kc_pJ, nx_pR, kd_pR, ln_pR, gI_pR, gJ_pR, gR_pR, eI_pR, eJ_pR, eR_pR, kc_pR, nx_sI, kd_sI, ln_sI, gI_sI, gJ_sI, gR_sI, eI_sI, eJ_sI, eR_sI, kc_sI, nx_sJ, kd_sJ, ln_sJ, gI_sJ, gJ_sJ, gR_sJ, eI_sJ, eJ_sJ, eR_sJ, kc_sJ, nx_sR, kd_sR, ln_sR, gI_sR, gJ_sR, gR_sR, eI_sR, eJ_sR, eR_sR, kc_sR, ln_nO, eI_nO, eJ_nO, eR_nO, kc_nO, gI_nO, gI_nA, gJ_nO, gJ_nA, gR_nO, gR_nA, eI_nA, eJ_nA, eR_nA, kc_nA, nx_nO, nx_nA, kd_nO_at, kd_nA_at, ln_nA_at], by simp [nx_pI, kd_pI, ln_pI, gI_pI, gJ_pI, gR_pI, eI_pI, eJ_pI, eR_pI, kc_pI, nx_pJ, kd_pJ, ln_pJ, gI_pJ, gJ_pJ, gR_pJ, eI_pJ, eJ_pJ, eR_pJ, kc_pJ, nx_pR, kd_pR, ln_pR, gI_pR, gJ_pR, gR_pR, eI_pR, eJ_pR, eR_pR, kc_pR, nx_sI, kd_sI, ln_sI, gI_sI, gJ_sI, gR_sI, eI_sI, eJ_sI, eR_sI, kc_sI, nx_sJ, kd_sJ, ln_sJ, gI_sJ, gJ_sJ, gR_sJ, eI_sJ, eJ_sJ, eR_sJ, kc_sJ, nx_sR, kd_sR, ln_sR, gI_sR, gJ_sR, gR_sR, eI_sR, eJ_sR, eR_sR, kc_sR, ln_nO, eI_nO, eJ_nO, eR_nO, kc_nO, gI_nO, gI_nA, gJ_nO, gJ_nA, gR_nO, gR_nA, eI_nA, eJ_nA, eR_nA, kc_nA, nx_nO, nx_nA, kd_nO_at, kd_nA_at, ln_nA_at], by simp [nx_pI, kd_pI, ln_pI, gI_pI, gJ_pI, gR_pI, eI_pI, eJ_pI, eR_pI, kc_pI, nx_pJ, kd_pJ, ln_pJ, gI_pJ, gJ_pJ, gR_pJ, eI_pJ, eJ_pJ, eR_pJ, kc_pJ, nx_pR, kd_pR, ln_pR, gI_pR, gJ_pR, gR_pR, eI_pR, eJ_pR, eR_pR, kc_pR, nx_sI, kd_sI, ln_sI, gI_sI, gJ_sI, gR_sI, eI_sI, eJ_sI, eR_sI, kc_sI, nx_sJ, kd_sJ, ln_sJ, gI_sJ, gJ_sJ, gR_sJ, eI_sJ, eJ_sJ, eR_sJ, kc_sJ, nx_sR, kd_sR, ln_sR, gI_sR, gJ_sR, gR_sR, eI_sR, eJ_sR, eR_sR, kc_sR, ln_nO, eI_nO, eJ_nO, eR_nO, kc_nO, gI_nO, gI_nA, gJ_nO, gJ_nA, gR_nO, gR_nA, eI_nA, eJ_nA, eR_nA, kc_nA, nx_nO, nx_nA, kd_nO_at, kd_nA_at, ln_nA_at, nI0]⟩
end
