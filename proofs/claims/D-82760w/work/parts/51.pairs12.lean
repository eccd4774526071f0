/-! pairs: fee -/
set_option maxRecDepth 100000
theorem itr_rel {α β : Type} {f : Nat → α → α} {g : Nat → β → β} {P : Nat → α → β → Prop} : ∀ {t i : Nat} {a : α} {b : β}, (∀ j a b, i ≤ j → j < i + t → P j a b → P (j + 1) (f j a) (g j b)) → P i a b → P (i + t) (itr f i t a) (itr g i t b)
  | 0, _, _, _, _, h => h
  | t + 1, i, a, b, h, h0 => by
    have := itr_rel (t := t) (i := i + 1) (a := f i a) (b := g i b) (P := P) (fun j a b h1 h2 h3 => h j a b (by omega) (by omega) h3) (h i a b (by omega) (by omega) h0)
    rw [show i + 1 + t = i + (t + 1) by omega] at this
    exact this
theorem mul_bd {a b A B : Int} (h1 : 0 ≤ a) (h2 : a ≤ A) (h3 : 0 ≤ b) (h4 : b ≤ B) : 0 ≤ a * b ∧ a * b ≤ A * B := ⟨Int.mul_nonneg h1 h3, Int.mul_le_mul h2 h4 h3 (by omega)⟩
theorem i64m {a b : Int32} {A B : Int} (h1 : bd a 0 A) (h3 : bd b 0 B) (hA : A ≤ 100000) (hB : B ≤ 100000) : (a.toInt64 * b.toInt64).toInt = a.toInt * b.toInt ∧ 0 ≤ a.toInt * b.toInt ∧ a.toInt * b.toInt ≤ A * B := by
  have h := mul_bd h1.1 h1.2 h3.1 h3.2
  have h' := mul_bd h1.1 (Int.le_trans h1.2 hA) h3.1 (Int.le_trans h3.2 hB)
  refine ⟨?_, h⟩
  rw [i64_mul (by rw [to64, to64]; omega) (by rw [to64, to64]; omega), to64, to64]
theorem i32m {a b : Int32} {A B : Int} (h1 : bd a 0 A) (h3 : bd b 0 B) (hAB : A * B < 2147483648) : (a * b).toInt = a.toInt * b.toInt ∧ 0 ≤ a.toInt * b.toInt ∧ a.toInt * b.toInt ≤ A * B := by
  have h := mul_bd h1.1 h1.2 h3.1 h3.2
  exact ⟨i32_mul (by omega) (by omega), h⟩
section
variable {h : Hp} {x mo : Nat} {E : Nat → Hp → Prop} {k n : Nat} {R : Hp → Prop} {Q : Int32 → Hp → Prop}
def feeJ (h : Hp) (x : Nat) (d a y : Int32) (j : Nat) (v : Int64) : Int64 := if eI h (x + 23 + 20) j = a then v + (Int32.toInt64 (lawn h (x + 23) d 7) * Int32.toInt64 (eI h (x + 23 + 21) j) - (if shr (eI h (x + 23 + 24) j) y &&& 1 = 1 then Int32.toInt64 (lawn h (x + 23) d 8) * Int32.toInt64 (eI h (x + 23 + 22) j) else 0)) else v
def feeI (h : Hp) (x : Nat) (d a y : Int32) (j : Nat) (v : Int32) : Int32 := if eI h (x + 23 + 20) j = a then v + (lawn h (x + 23) d 7 * eI h (x + 23 + 21) j - (if shr (eI h (x + 23 + 24) j) y &&& 1 = 1 then lawn h (x + 23) d 8 * eI h (x + 23 + 22) j else 0)) else v
theorem fee_rel (H : CP h x) {d a y : Int32} : (itr (feeJ h x d a y) 0 (nR h x) 0).toInt = (itr (feeI h x d a y) 0 (nR h x) 0).toInt ∧ -2500000 * ((nR h x : Nat) : Int) ≤ (itr (feeI h x d a y) 0 (nR h x) 0).toInt ∧ (itr (feeI h x d a y) 0 (nR h x) 0).toInt ≤ 2500000 * ((nR h x : Nat) : Int) := by
  have hr := H.nR_le.2
  have o4 := (H.on d).2.2.2
  have := itr_rel (f := feeJ h x d a y) (g := feeI h x d a y) (P := fun j v w => v.toInt = w.toInt ∧ -2500000 * (j : Int) ≤ w.toInt ∧ w.toInt ≤ 2500000 * (j : Int)) (t := nR h x) (i := 0) (a := 0) (b := 0) (fun j v w _ hj hP => ?_) ⟨by decide, by decide, by decide⟩
  · rw [Nat.zero_add] at this; exact this
  · obtain ⟨p1, p2, p3⟩ := hP
    obtain ⟨s1, s2, s3, s4, s5, s6⟩ := (H.pr j (by omega)).2
    have s3 : bd (eI h (x + 23 + 21) j) 0 50 := ⟨by have := s3.1; omega, s3.2⟩
    obtain ⟨m1, m2, m3⟩ := i64m (o4 7) s3 (by decide) (by decide)
    obtain ⟨m4, m5, m6⟩ := i64m (o4 8) s4 (by decide) (by decide)
    obtain ⟨n1, n2, n3⟩ := i32m (o4 7) s3 (by decide)
    obtain ⟨n4, n5, n6⟩ := i32m (o4 8) s4 (by decide)
    unfold feeJ feeI
    by_cases c : eI h (x + 23 + 20) j = a
    · rw [if_pos c, if_pos c]
      by_cases c2 : shr (eI h (x + 23 + 24) j) y &&& 1 = 1
      · rw [if_pos c2, if_pos c2]
        generalize Int32.toInt64 (lawn h (x + 23) d 7) * Int32.toInt64 (eI h (x + 23 + 21) j) = A at m1 ⊢
        generalize Int32.toInt64 (lawn h (x + 23) d 8) * Int32.toInt64 (eI h (x + 23 + 22) j) = B at m4 ⊢
        generalize lawn h (x + 23) d 7 * eI h (x + 23 + 21) j = C at n1 ⊢
        generalize lawn h (x + 23) d 8 * eI h (x + 23 + 22) j = D at n4 ⊢
        have e1 : (A - B).toInt = A.toInt - B.toInt := i64_sub (by omega) (by omega)
        have e2 : (C - D).toInt = C.toInt - D.toInt := i32_sub (by omega) (by omega)
        have e3 : (v + (A - B)).toInt = v.toInt + (A - B).toInt := i64_add (by omega) (by omega)
        have e4 : (w + (C - D)).toInt = w.toInt + (C - D).toInt := i32_add (by omega) (by omega)
        omega
      · rw [if_neg c2, if_neg c2]
        generalize Int32.toInt64 (lawn h (x + 23) d 7) * Int32.toInt64 (eI h (x + 23 + 21) j) = A at m1 ⊢
        generalize lawn h (x + 23) d 7 * eI h (x + 23 + 21) j = C at n1 ⊢
        have e1 : (A - 0).toInt = A.toInt - (0 : Int64).toInt := i64_sub (by rw [toL_0]; omega) (by rw [toL_0]; omega)
        have e2 : (C - 0).toInt = C.toInt - (0 : Int32).toInt := i32_sub (by rw [toI_0]; omega) (by rw [toI_0]; omega)
        rw [toL_0] at e1
        rw [toI_0] at e2
        have e3 : (v + (A - 0)).toInt = v.toInt + (A - 0).toInt := i64_add (by omega) (by omega)
        have e4 : (w + (C - 0)).toInt = w.toInt + (C - 0).toInt := i32_add (by omega) (by omega)
        omega
    · rw [if_neg c, if_neg c]
      exact ⟨p1, by omega, by omega⟩
theorem fee_end {v : Int64} {w : Int32} (e : v.toInt = w.toInt) : (lmax 0 v).toInt32 = imax 0 w := by
  have h1 := Int32.toInt_lt w
  have h2 := Int32.le_toInt w
  have e1 := lmax_toInt 0 v
  have e2 := imax_toInt 0 w
  rw [toL_0] at e1
  rw [toI_0] at e2
  apply i32_ext
  rw [to32 (by omega) (by omega), e1, e2, e]
theorem pr_fee (H : CP h x) {a b : Int32} (hR : ∀ h', CP h' x → R h') : CtI M_X0_fee [rV x, iV a, iV b] h k n (fun r h1 => CtI M_X3_fee [rV (x + 23), iV a, iV b] h1 0 0 (fun r2 h2 => r = r2 ∧ R h2) E) E := by
  have g := hR _ H
  have hr := H.nR_le
  refine b_X0_fee_0 H.xw ⟨fun c => ?_, fun c1 => ⟨fun c2 => ?_, fun c2 => ?_⟩⟩
  · exact b_X3_fee_0 H.mw ⟨fun _ => ⟨rfl, g⟩, fun c2 => absurd (c.symm.trans c2) (by decide)⟩
  rotate_left
  · exact b_X3_fee_0 H.mw ⟨fun c => absurd (c1.symm.trans c) (by decide), fun _ => ⟨fun c => absurd (c2.symm.trans c) (by decide), fun _ => ⟨rfl, g⟩⟩⟩
  generalize hd : ((365 : Int32) * b + 365) - 1 = d
  obtain ⟨o1, o2, o3, o4⟩ := H.on d
  obtain ⟨ho, -, -, -, -, -, -, -, f7, f8, f9, -⟩ := o2
  obtain ⟨d1, d2⟩ := isin_nI (m := 19) (by decide) c1
  obtain ⟨p, hp, rfl⟩ : ∃ p, p < 20 ∧ a = nI p := ⟨ix a, by omega, d1⟩
  obtain ⟨d3, d4⟩ := isin_nI (m := 9) (by decide) c2
  obtain ⟨y, hy, rfl⟩ : ∃ y, y < 10 ∧ b = nI y := ⟨ix b, by omega, d3⟩
  have t10 : (10 : Int32) = nI 10 := by decide
  have m1 : ∀ p q : Nat, (10 : Int32) * nI p + nI q = nI (10 * p + q) := fun p q => by unfold nI; rw [Int32.ofNat_add, Int32.ofNat_mul]; rfl
  refine ⟨o1, ?_⟩
  rintro _ rfl
  rw [← nI0]
  obtain ⟨r1, r2, r3⟩ := fee_rel H (d := d) (a := nI p) (y := nI y)
  refine itr_loop (inv := fun i v => Rn M_X0_fee 44 [(0, rV x), (1, iV (nI p)), (2, iV (nI y)), (3, rV (V_X0_on h x d)), (4, jV v), (6, iV (nI i))] [] h k n _ E) (f := feeJ h x d (nI p) (nI y)) (m := nR h x) (fun i v hi hw => ?_) ?_
  · obtain ⟨a1, a2, a3, a4, a5⟩ := H.rofI hi
    obtain ⟨q1, q2, q3, q4, q5, q6, q7, q8⟩ := (H.pr i hi).1
    refine b_X0_fee_44 H.xw ⟨fun c => absurd c a1, fun _ => ?_⟩
    rw [a3]
    refine ⟨a2, a4, ?_⟩
    rintro _ rfl
    rw [q4, q5, q6, q8, f7, f8]
    unfold feeJ at hw
    refine ⟨fun c => ⟨ho, fun e => ?_, fun e => ?_⟩, fun c => ?_⟩
    · rintro _ rfl _ rfl; rw [nI_add1]; rw [if_pos c, if_neg e] at hw; exact hw
    · rintro _ rfl _ rfl; rw [nI_add1]; rw [if_pos c, if_pos e] at hw; exact hw
    · rintro _ rfl; rw [nI_add1]; rw [if_neg c] at hw; exact hw
  have fin : ∀ v : Int64, (∀ w, (10 ≤ nI p → w = itr (feeI h x d (nI p) (nI y)) 0 (nR h x) 0) → (¬ 10 ≤ nI p → w = itr (feeI h x d (nI p) (nI y)) 0 (nR h x) 0 - lawn h (x + 23) d 9 * eI h (x + 23 + 28) (10 * y + p)) → v.toInt = w.toInt) → CtI M_X3_fee [rV (x + 23), iV (nI p), iV (nI y)] h 0 0 (fun r2 h2 => (lmax 0 v).toInt32 = r2 ∧ R h2) E := by
    intro v hv
    refine b_X3_fee_0 H.mw ⟨fun c => absurd (c1.symm.trans c) (by decide), fun _ => ⟨fun _ => ?_, fun c => absurd (c2.symm.trans c) (by decide)⟩⟩
    rintro _ rfl
    rw [hd, ← nI0]
    refine itr_loop (inv := fun i v => Rn M_X3_fee 40 [(0, rV (x + 23)), (1, iV (nI p)), (2, iV (nI y)), (3, iV d), (4, iV v), (5, iV (nI i))] [] h 0 0 _ E) (f := feeI h x d (nI p) (nI y)) (m := nR h x) (fun i v hi hw => ?_) ?_
    · have vi : vp_in (nI i) 30 := vin_nI (by omega) (by decide)
      refine b_X3_fee_40 H.mw ⟨fun c => absurd c (by rw [hr.1, nIle (by omega) (by omega)]; omega), fun _ => ⟨vi, ?_⟩⟩
      rw [ix_nI (by omega)]
      unfold feeI at hw
      refine ⟨fun c => ⟨H.lwp, vi, vi, fun e => ?_, fun e => ⟨H.lwp, vi, ?_⟩⟩, fun c => ?_⟩
      · rintro _ rfl _ rfl; rw [nI_add1]; rw [if_pos c, if_neg e] at hw; exact hw
      · rintro _ rfl _ rfl; rw [nI_add1]; rw [if_pos c, if_pos e] at hw; exact hw
      · rintro _ rfl; rw [nI_add1]; rw [if_neg c] at hw; exact hw
    · refine b_X3_fee_40 H.mw ⟨fun _ => ⟨fun c => ?_, fun c => ⟨H.lwp, ?_⟩⟩, fun c => absurd (by rw [hr.1]; exact Int32.le_refl _) c⟩
      · exact b_X3_fee_154 H.mw ⟨fee_end (hv _ (fun _ => by rw [nI0]) (fun z => absurd c z)), g⟩
      · have hp10 : p < 10 := by rw [t10, nIle (by omega) (by omega)] at c; omega
        rw [m1, ix_nI (by omega)]
        refine ⟨vin_nI (by omega) (by decide), ?_⟩
        rintro _ rfl
        exact b_X3_fee_154 H.mw ⟨fee_end (hv _ (fun z => absurd z c) (fun _ => by rw [nI0])), g⟩
  refine b_X0_fee_44 H.xw ⟨fun _ => ⟨fun c => ?_, fun c => ⟨ho, ?_⟩⟩, fun c => absurd H.rofE c⟩
  · refine b_X0_fee_164 H.xw (fin _ fun w e1 e2 => ?_)
    rw [e1 c]; exact r1
  · have hp10 : p < 10 := by rw [t10, nIle (by omega) (by omega)] at c; omega
    obtain ⟨k1, k2, k3⟩ := H.pa.2.2.1 y p hy hp10
    have td := H.po.1.2
    rw [m1, ix_nI (by omega), f9, k1]
    refine ⟨vin_nI (by omega) (by decide), ?_⟩
    rintro _ rfl
    refine b_X0_fee_164 H.xw (fin _ fun w e1 e2 => ?_)
    have kb : bd (eI h (x + 23 + 28) (10 * y + p)) 0 87600 := ⟨k2.1, by omega⟩
    obtain ⟨u1, u2, u3⟩ := i64m (o4 9) kb (by decide) (by decide)
    obtain ⟨v1, v2, v3⟩ := i32m (o4 9) kb (by decide)
    rw [e2 c]
    generalize itr (feeJ h x d (nI p) (nI y)) 0 (nR h x) 0 = S at r1 ⊢
    generalize itr (feeI h x d (nI p) (nI y)) 0 (nR h x) 0 = T at r1 r2 r3 ⊢
    generalize Int32.toInt64 (lawn h (x + 23) d 9) * Int32.toInt64 (eI h (x + 23 + 28) (10 * y + p)) = A at u1 ⊢
    generalize lawn h (x + 23) d 9 * eI h (x + 23 + 28) (10 * y + p) = B at v1 ⊢
    rw [i64_sub (by omega) (by omega), i32_sub (by omega) (by omega)]
    omega
end
