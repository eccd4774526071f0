/-! the component's storm: a minute, a run -/
set_option maxRecDepth 100000
section
variable {h0 h : Hp} {x : Nat} {E : Nat → Hp → Prop} {k n : Nat}
theorem WX.z {s : Int32} {S : St} (W : WX h0 h x s S) : WXz h0 h x s S := ⟨W.1, W.2.1, fun a j v _ _ => W.2.2 a j v⟩
theorem WXz.wI {s : Int32} {S : St} (R : WXz h0 h x s S) {o j : Nat} {v : Int32} (ho : o ∈ scA) (h1 : o = 19 ∨ o = 20) : WXz h0 (sI h (x + o) j v) x s S := by
  refine ⟨R.1.wI ho, R.2.1, fun a i va n1 n2 => ?_⟩
  have := R.2.2 a i va n1 n2
  unfold val at this ⊢
  rw [eI_sI, if_neg (show ¬ (x + a = x + o ∧ i = j) by omega), gJ_sI, gI_sI]
  exact this
theorem WXz.full {s : Int32} {S : St} (R : WXz h0 h x s S) (hz : ∀ j, j ≤ nC h0 x → eI h (x + 19) j = 0 ∧ eI h (x + 20) j = 0) : WX h0 h x s (zrS S) := by
  refine ⟨R.1, R.2.1, fun a j va => ?_⟩
  unfold zrS
  by_cases c : a = 19 ∨ a = 20
  · rw [if_pos c]
    have hj : j ≤ nC h0 x := by unfold vld at va; omega
    unfold val
    rw [if_pos (by omega)]
    rcases c with e | e
    · rw [e, (hz j hj).1]; exact toI_0
    · rw [e, (hz j hj).2]; exact toI_0
  · rw [if_neg c]
    exact R.2.2 a j va (fun e => c (Or.inl e)) (fun e => c (Or.inr e))
theorem ct_minute (H : CP h0 x) {s : Int32} {S : St} (W : WXz h0 h x s S) {u : Int32} (hu : bd u 0 50) {N m : Nat} (hN : N + nC h0 x ≤ 360) (hm : m ≤ 30) (I : Iv h0 x s N m S) {Q : Hp → Prop} (hq : ∀ h', WXz h0 h' x s (mnS h0 x u.toInt s S) → Q h') : CtV M_X2_minute [rV (x + 13), iV u] h k n Q E := by
  have D := H.mdb
  have hn := D.1.1
  have hcs : gI h0 1102 (x + 2) = nI (nC h0 x) := H.size2.trans H.nC_le.1
  have hk12 := xwk_corners H.xw
  have C := W.1
  refine b_X2_minute_0 (C.cp H).xw ?_
  rw [C.k, C.r, C.gi (f := 1102) (by decide), xwr_corners H.xw, hcs]
  refine ⟨hk12, ?_⟩
  rintro _ rfl
  -- the corners, one behind the other
  have L40 : ∀ h, WX h0 h x s (zrS S) → Rn M_X2_minute 40 [(0, rV (x + 13)), (1, iV u), (2, iV (nI (nC h0 x))), (3, iV (nI 0))] [] h k n (qV Q) E := by
    intro h W
    refine itr_loop (inv := fun j T => ∀ h, WX h0 h x s T → Iv h0 x s (N + j) m T → Ip (nC h0 x) j T → Rn M_X2_minute 40 [(0, rV (x + 13)), (1, iV u), (2, iV (nI (nC h0 x))), (3, iV (nI j))] [] h k n (qV Q) E) (f := stc h0 x u.toInt s) (m := nC h0 x) (s := zrS S) (fun j T hj ih h W I P => ?_) (fun h W I P => ?_) h W (Iv_zr I) Ip_zr
    · obtain ⟨R, am, cm, tl, ti, tv, pp, bb, on, tt, ps, e14⟩ := stc_bd D (u := u.toInt) ⟨hu.1, hu.2⟩ (s := s) hj I P
      obtain ⟨ih1, ih2⟩ := stc_inv D (u := u.toInt) ⟨hu.1, hu.2⟩ (s := s) hj I P
      obtain ⟨v1, v2, v3, v4, v5⟩ := D.2.1 j hj
      have C := W.1
      obtain ⟨a1, a2, a3, a4, a5⟩ := H.corI hj
      obtain ⟨-, c2, c3, c4, c5, c6, c7⟩ := (H.pc j hj).1
      have vj : vp_in (nI j) 13 := vin_nI (by omega) (by decide)
      have vj2 : vp_in (nI j) 12 := vin_nI (by omega) (by decide)
      have hN' : ((N + j : Nat) : Int) ≤ 360 := by exact_mod_cast (show N + j ≤ 360 by omega)
      have p19 := P.1 j (by omega)
      have pto := P.1 (toS h0 x j) tt.2
      refine b_X2_minute_40 (C.cp H).xw ?_
      rw [C.k, C.r, C.alg, C.e, xwr_corners H.xw, a3]
      refine ⟨fun c => ?_, fun _ => ⟨hk12, a2, a4, ?_⟩⟩
      · rw [nIle (by omega) (by omega)] at c; omega
      rintro _ rfl
      refine ⟨vj, ?_⟩
      refine ct_roofsOf H W hj hu (by omega) I (fun h1 v W1 hv => ?_)
      have C1 := W1.1
      refine ⟨(C1.cp H).xw, ?_⟩
      have e20 : (eI h (x + 20) j).toInt = T 20 j := W.2.2.e (Or.inr (Or.inr (Or.inl ⟨Or.inr rfl, by omega⟩))) (by decide)
      have ea : (u * eI h0 (x + 23 + 1) j).toInt = u.toInt * (eI h0 (x + 23 + 1) j).toInt := i32_mul (by omega) (by omega)
      have r5 := R.2.2.2.2.1
      have r6 := R.2.2.2.2.2
      have ecm : (eI h (x + 20) j + u * gI h 101 (el h0 (x + 2) j) + v).toInt = cmS h0 x u.toInt j T := by
        rw [C.gi (f := 101) (by decide), c3]
        have w1 : (eI h (x + 20) j + u * eI h0 (x + 23 + 1) j).toInt = T 20 j + u.toInt * (eI h0 (x + 23 + 1) j).toInt := by rw [i32_add (by omega) (by omega), e20, ea]
        have hcm : cmS h0 x u.toInt j T = T 20 j + u.toInt * (eI h0 (x + 23 + 1) j).toInt + (rfA h0 x u.toInt j T).2 := rfl
        rw [hcm, ← w1, ← hv]
        exact i32_add (by rw [w1, hv, ← hcm]; omega) (by rw [w1, hv, ← hcm]; omega)
      generalize eI h (x + 20) j + u * gI h 101 (el h0 (x + 2) j) + v = cc at ecm ⊢
      rintro cc rfl
      rw [C1.k, C1.gi (f := 101) (by decide), c3]
      refine ⟨a4, ?_⟩
      have j508 : (gJ h1 508 (x + 13)).toInt = (rfA h0 x u.toInt j T).1 508 0 := W1.2.2.j (by decide) (by decide)
      have r3 := R.2.2.1
      have r4 := R.2.2.2.1
      have i3 := I.2.2.1
      have hr30 : (nR h0 x : Int) ≤ 30 := by exact_mod_cast D.1.2.1
      have W2 := W1.vJ (f := 508) (v := gJ h1 508 (x + 13) + Int32.toInt64 (u * eI h0 (x + 23 + 1) j)) (v' := (rfA h0 x u.toInt j T).1 508 0 + u.toInt * (eI h0 (x + 23 + 1) j).toInt) (by decide) (by decide) (by decide) (by rw [i64_add (by rw [j508, to64, ea]; omega) (by rw [j508, to64, ea]; omega), j508, to64, ea])
      have W2 : WX h0 (pJ h1 508 (x + 13) (gJ h1 508 (x + 13) + Int32.toInt64 (u * eI h0 (x + 23 + 1) j))) x s (s2S h0 x u.toInt j T) := W2
      generalize pJ h1 508 (x + 13) (gJ h1 508 (x + 13) + Int32.toInt64 (u * eI h0 (x + 23 + 1) j)) = h2 at W2 ⊢
      rintro h2 rfl
      refine ⟨vj, ?_⟩
      have i14 := (I.1 j hj).1
      have i4 := I.2.2.2.1
      have e509 : s2S h0 x u.toInt j T 509 0 = T 509 0 := by
        unfold s2S
        rw [up2_ne (Or.inl (by decide))]
        exact R.1 509 0 (by decide) (by decide)
      refine ct_takes H W2 hj (c := cc) ⟨by rw [ecm]; exact cm.1, by rw [ecm]; omega⟩ (by rw [e14]; exact i14) (by rw [ecm]; exact ⟨tl.2, tl.1⟩) (by rw [e509]; omega) (fun h3 w W3 hw => ?_)
      rw [ecm] at W3 hw
      have W3 : WX h0 h3 x s (s3S h0 x u.toInt s j T) := W3
      have C3 := W3.1
      refine ⟨(C3.cp H).xw, ?_⟩
      have o : ∀ a i, a ≠ 15 → a ≠ 508 → a ≠ 14 → a ≠ 509 → s3S h0 x u.toInt s j T a i = T a i := fun a i => s3S_o R
      have e19 : (eI h2 (x + 19) j).toInt = T 19 j := by
        refine (W2.2.2.e (Or.inr (Or.inr (Or.inl ⟨Or.inl rfl, by omega⟩))) (by decide)).trans ?_
        unfold s2S
        rw [up2_ne (Or.inl (by decide))]
        exact R.1 19 j (by decide) (by decide)
      have epp : (eI h2 (x + 19) j + cc - w).toInt = ppS h0 x u.toInt s j T := by
        have w1 : (eI h2 (x + 19) j + cc).toInt = T 19 j + cmS h0 x u.toInt j T := by rw [i32_add (by omega) (by omega), e19, ecm]
        unfold ppS
        rw [i32_sub (by rw [w1, hw]; omega) (by rw [w1, hw]; omega), w1, hw]
      generalize eI h2 (x + 19) j + cc - w = p at epp ⊢
      rintro p rfl
      rw [C3.k, C3.gi (f := 102) (by decide), C3.gi (f := 105) (by decide), c4, c7]
      refine ⟨a4, ?_⟩
      have ebb : (imax 0 (p - eI h0 (x + 23 + 2) j)).toInt = bbS h0 x u.toInt s j T := by
        have := v2.1
        have := v2.2
        unfold bbS
        rw [imax_toInt, i32_sub (by omega) (by omega), toI_0, epp]
      generalize imax 0 (p - eI h0 (x + 23 + 2) j) = b at ebb ⊢
      rintro b rfl
      -- the writes behind it
      have k169 : ∀ (t : Nat) (o0 : Int32), t = toS h0 x j → o0.toInt = onS h0 x u.toInt s j T → Rn M_X2_minute 169 [(0, rV (x + 13)), (1, iV u), (2, iV (nI (nC h0 x))), (3, iV (nI j)), (4, rV (el h0 (x + 2) j)), (6, iV p), (7, iV b), (8, iV (nI t))] [iV o0] h3 k n (qV Q) E := by
        intro t o0 ht ho
        subst ht
        have vt : vp_in (nI (toS h0 x j)) 13 := vin_nI (by omega) (by decide)
        have et : ix (nI (toS h0 x j)) = toS h0 x j := ix_nI (by omega)
        have ej : ix (nI j) = j := ix_nI (by omega)
        have epb : (p - b).toInt = ppS h0 x u.toInt s j T - bbS h0 x u.toInt s j T := by rw [i32_sub (by omega) (by omega), epp, ebb]
        have ebo : (b - o0).toInt = bbS h0 x u.toInt s j T - onS h0 x u.toInt s j T := by rw [i32_sub (by omega) (by omega), ebb, ho]
        have hto : T 19 (toS h0 x j) + T 20 (toS h0 x j) ≤ 86000 * (j : Int) := by
          have h1 := P.2
          have h2 : ∀ f : Nat → Int, (∀ i, i ≤ nC h0 x → 0 ≤ f i) → ∀ t j, j + t = nC h0 x + 1 → ∀ i, j ≤ i → i ≤ nC h0 x → f i ≤ sm f j t := by
            intro f hf t
            induction t with
            | zero => intro j hj i h1 h2; omega
            | succ t ih =>
              intro j hj i h1 h2
              rw [sm_head]
              by_cases e : i = j
              · subst e
                have := sm_nn (f := f) (k := i + 1) (t := t) (fun q a b => hf q (by omega))
                omega
              · have := ih (j + 1) (by omega) i (by omega) h2
                have := hf j (by omega)
                omega
          have := h2 (fun i => T 19 i + T 20 i) (fun i hi => by have := P.1 i hi; show 0 ≤ T 19 i + T 20 i; omega) (nC h0 x + 1 - j) j (by omega) (toS h0 x j) (by omega) tt.2
          have : T 19 (toS h0 x j) + T 20 (toS h0 x j) ≤ sm (fun i => T 19 i + T 20 i) j (nC h0 x + 1 - j) := this
          omega
        refine b_X2_minute_169 (C3.cp H).xw ?_
        rw [et, ej]
        refine ⟨vt, vt, ?_⟩
        have e1 : (eI h3 (x + 19) (toS h0 x j)).toInt = T 19 (toS h0 x j) := (W3.2.2.e (Or.inr (Or.inr (Or.inl ⟨Or.inl rfl, tt.2⟩))) (by decide)).trans (o 19 _ (by decide) (by decide) (by decide) (by decide))
        have W4 := W3.wI (o := 19) (j := toS h0 x j) (v := eI h3 (x + 19) (toS h0 x j) + (p - b)) (v' := T 19 (toS h0 x j) + (ppS h0 x u.toInt s j T - bbS h0 x u.toInt s j T)) (by decide) (by decide) (by rw [i32_add (by rw [e1, epb]; omega) (by rw [e1, epb]; omega), e1, epb])
        generalize sI h3 (x + 19) (toS h0 x j) (eI h3 (x + 19) (toS h0 x j) + (p - b)) = h4 at W4 ⊢
        rintro h4 rfl
        refine ⟨vt, vt, ?_⟩
        have e2 : (eI h4 (x + 20) (toS h0 x j)).toInt = T 20 (toS h0 x j) := by
          refine (W4.2.2.e (Or.inr (Or.inr (Or.inl ⟨Or.inr rfl, tt.2⟩))) (by decide)).trans ?_
          rw [up2_ne (Or.inl (by decide))]
          exact o 20 _ (by decide) (by decide) (by decide) (by decide)
        have W5 := W4.wI (o := 20) (j := toS h0 x j) (v := eI h4 (x + 20) (toS h0 x j) + o0) (v' := T 20 (toS h0 x j) + onS h0 x u.toInt s j T) (by decide) (by decide) (by rw [i32_add (by rw [e2, ho]; omega) (by rw [e2, ho]; omega), e2, ho])
        have W5 : WX h0 _ x s (s5S h0 x u.toInt s j T) := W5
        have o5 : ∀ a i, a ≠ 15 → a ≠ 508 → a ≠ 14 → a ≠ 509 → a ≠ 19 → a ≠ 20 → s5S h0 x u.toInt s j T a i = T a i := fun a i n1 n2 n3 n4 n5 n6 => by
          unfold s5S
          rw [up2_ne (Or.inl n6), up2_ne (Or.inl n5)]
          exact o a i n1 n2 n3 n4
        generalize sI h4 (x + 20) (toS h0 x j) (eI h4 (x + 20) (toS h0 x j) + o0) = h5 at W5 ⊢
        rintro h5 rfl
        refine ⟨vj2, vj2, ?_⟩
        obtain ⟨i1, i2, i3', i4'⟩ := I.1 j hj
        have e3 : (eI h5 (x + 16) j).toInt = T 16 j := (W5.2.2.e (Or.inl ⟨Or.inr (Or.inl rfl), hj⟩) (by decide)).trans (o5 16 j (by decide) (by decide) (by decide) (by decide) (by decide) (by decide))
        have W6 := W5.wI (o := 16) (j := j) (v := eI h5 (x + 16) j + (b - o0)) (v' := T 16 j + (bbS h0 x u.toInt s j T - onS h0 x u.toInt s j T)) (by decide) (by decide) (by rw [i32_add (by rw [e3, ebo]; omega) (by rw [e3, ebo]; omega), e3, ebo])
        generalize sI h5 (x + 16) j (eI h5 (x + 16) j + (b - o0)) = h6 at W6 ⊢
        rintro h6 rfl
        have i5 := I.2.2.2.2.1
        have e4 : (gJ h6 510 (x + 13)).toInt = T 510 0 := by
          refine (W6.2.2.j (by decide) (by decide)).trans ?_
          rw [up2_ne (Or.inl (by decide))]
          exact o5 510 0 (by decide) (by decide) (by decide) (by decide) (by decide) (by decide)
        have W7 := W6.vJ (f := 510) (v := gJ h6 510 (x + 13) + Int32.toInt64 (b - o0)) (v' := T 510 0 + (bbS h0 x u.toInt s j T - onS h0 x u.toInt s j T)) (by decide) (by decide) (by decide) (by rw [i64_add (by rw [e4, to64, ebo]; omega) (by rw [e4, to64, ebo]; omega), e4, to64, ebo])
        generalize pJ h6 510 (x + 13) (gJ h6 510 (x + 13) + Int32.toInt64 (b - o0)) = h7 at W7 ⊢
        rintro h7 rfl
        refine ⟨vj2, vj2, ?_⟩
        have e5 : (eI h7 (x + 18) j).toInt = T 18 j := by
          refine (W7.2.2.e (Or.inl ⟨Or.inr (Or.inr (Or.inr rfl)), hj⟩) (by decide)).trans ?_
          rw [up2_ne (Or.inl (by decide)), up2_ne (Or.inl (by decide))]
          exact o5 18 j (by decide) (by decide) (by decide) (by decide) (by decide) (by decide)
        have W8 := W7.wI (o := 18) (j := j) (v := imax (eI h7 (x + 18) j) (p - b)) (v' := max (T 18 j) (ppS h0 x u.toInt s j T - bbS h0 x u.toInt s j T)) (by decide) (by decide) (by rw [imax_toInt, e5, epb])
        have W8 : WX h0 _ x s (s8S h0 x u.toInt s j T) := W8
        generalize sI h7 (x + 18) j (imax (eI h7 (x + 18) j) (p - b)) = h8 at W8 ⊢
        rintro h8 rfl
        have C8 := W8.1
        rw [C8.k, C8.gi (f := 104) (by decide), c6]
        refine ⟨a4, fun c => ?_, fun c => ⟨fun d => ?_, fun d => ⟨vj2, vj2, ?_⟩⟩⟩
        · rintro _ rfl
          rw [nI_add1]
          refine ih h8 (W8.to ?_) (by rw [Nat.add_assoc] at ih1; exact ih1) ih2
          unfold stc
          rw [if_neg (fun z => by rw [i32_le, toI_0] at c; omega)]
        · rintro _ rfl
          rw [nI_add1]
          refine ih h8 (W8.to ?_) (by rw [Nat.add_assoc] at ih1; exact ih1) ih2
          unfold stc
          rw [if_neg (fun z => by rw [i32_le, ebb] at d; omega)]
        · have o8 : ∀ a i, a ≠ 15 → a ≠ 508 → a ≠ 14 → a ≠ 509 → a ≠ 19 → a ≠ 20 → a ≠ 16 → a ≠ 510 → a ≠ 18 → s8S h0 x u.toInt s j T a i = T a i := fun a i n1 n2 n3 n4 n5 n6 n7 n8 n9 => by
            unfold s8S
            rw [up2_ne (Or.inl n9), up2_ne (Or.inl n8), up2_ne (Or.inl n7)]
            exact o5 a i n1 n2 n3 n4 n5 n6
          have e6 : (eI h8 (x + 17) j).toInt = T 17 j := (W8.2.2.e (Or.inl ⟨Or.inr (Or.inr (Or.inl rfl)), hj⟩) (by decide)).trans (o8 17 j (by decide) (by decide) (by decide) (by decide) (by decide) (by decide) (by decide) (by decide) (by decide))
          have W9 := W8.wI (o := 17) (j := j) (v := eI h8 (x + 17) j + 1) (v' := T 17 j + 1) (by decide) (by decide) (by rw [i32_add (by rw [e6, toI_1]; omega) (by rw [e6, toI_1]; omega), e6, toI_1])
          generalize sI h8 (x + 17) j (eI h8 (x + 17) j + 1) = h9 at W9 ⊢
          rintro h9 rfl
          have i7 := I.2.2.2.2.2.2.1
          have e7 : (gI h9 512 (x + 13)).toInt = T 512 0 := by
            refine (W9.2.2.i (by decide) (by decide)).trans ?_
            rw [up2_ne (Or.inl (by decide))]
            exact o8 512 0 (by decide) (by decide) (by decide) (by decide) (by decide) (by decide) (by decide) (by decide) (by decide)
          have W10 := W9.vI (f := 512) (v := gI h9 512 (x + 13) + 1) (v' := T 512 0 + 1) (by decide) (by decide) (by rw [i32_add (by rw [e7, toI_1]; omega) (by rw [e7, toI_1]; omega), e7, toI_1])
          rintro _ rfl _ rfl
          rw [nI_add1]
          refine ih _ (W10.to ?_) (by rw [Nat.add_assoc] at ih1; exact ih1) ih2
          unfold stc
          rw [if_pos]
          rw [i32_le, toI_0] at c
          rw [i32_le, ebb] at d
          omega
      have hcase : (eI h0 (x + 23 + 5) j = -1 ∧ ¬ 0 ≤ eI h0 (x + 23 + 5) j) ∨ (¬ eI h0 (x + 23 + 5) j = -1 ∧ 0 ≤ eI h0 (x + 23 + 5) j ∧ eI h0 (x + 23 + 5) j = nI (toS h0 x j) ∧ toS h0 x j < nC h0 x) := by
        rcases v5 with c | ⟨c1, c2⟩
        · left; rw [c]; decide
        · right
          have c3 : ¬ eI h0 (x + 23 + 5) j = -1 := fun e => by rw [e, toI_m1] at c1; omega
          have c4 : toS h0 x j = ix (eI h0 (x + 23 + 5) j) := by unfold toS; rw [if_neg c3]
          have c5 := ix_toInt (x := eI h0 (x + 23 + 5) j) (by omega)
          refine ⟨c3, by rw [i32_le, toI_0]; omega, by rw [c4, nI_ix (by omega)], by omega⟩
      refine ⟨fun c => ?_, fun c => ?_⟩
      · rcases hcase with ⟨z1, z2⟩ | ⟨z1, z2, z3, z4⟩
        · exact absurd c z2
        · refine b_X2_minute_153 (C3.cp H).xw ⟨fun _ => ?_, fun d => ?_⟩
          · rw [z3]
            refine k169 _ _ rfl ?_
            unfold onS
            rw [if_neg z1, i32_div2 (by omega), ebb]
          · rw [z3] at d
            have := nI_inj (by omega) (by omega) d
            omega
      · rcases hcase with ⟨z1, z2⟩ | ⟨z1, z2, z3, z4⟩
        · refine b_X2_minute_153 (C3.cp H).xw ⟨fun d => absurd rfl d, fun _ => ?_⟩
          refine k169 _ _ (by unfold toS; rw [if_pos z1]) ?_
          unfold onS
          rw [if_pos z1]
          exact toI_0
        · exact absurd z2 c
    · -- behind the last corner
      have C := W.1
      have vn : vp_in (nI (nC h0 x)) 13 := vin_nI (by omega) (by decide)
      have en : ix (nI (nC h0 x)) = nC h0 x := ix_nI (by omega)
      have W : WX h0 h x s (mnT h0 x u.toInt s S) := W
      obtain ⟨M1, M2⟩ := mnS_inv D (u := u.toInt) ⟨hu.1, hu.2⟩ (s := s) ‹Iv h0 x s N m S›
      have I : Iv h0 x s (N + nC h0 x) m (mnT h0 x u.toInt s S) := I
      have i6 := I.2.2.2.2.2.1
      have e1 : (eI h (x + 19) (nC h0 x)).toInt = mnT h0 x u.toInt s S 19 (nC h0 x) := W.2.2.e (Or.inr (Or.inr (Or.inl ⟨Or.inl rfl, Nat.le_refl _⟩))) (by decide)
      have e2 : (gJ h 511 (x + 13)).toInt = mnT h0 x u.toInt s S 511 0 := W.2.2.j (by decide) (by decide)
      have hm' : (m : Int) ≤ 30 := by exact_mod_cast hm
      have W1 := W.vJ (f := 511) (v := gJ h 511 (x + 13) + Int32.toInt64 (eI h (x + 19) (nC h0 x))) (v' := mnT h0 x u.toInt s S 511 0 + mnT h0 x u.toInt s S 19 (nC h0 x)) (by decide) (by decide) (by decide) (by rw [i64_add (by rw [e2, to64, e1]; omega) (by rw [e2, to64, e1]; omega), e2, to64, e1])
      refine b_X2_minute_40 (C.cp H).xw ⟨fun _ => ?_, fun c => absurd (Int32.le_refl _) c⟩
      rw [en]
      refine ⟨vn, ?_⟩
      have e3 : eI (pJ h 511 (x + 13) (gJ h 511 (x + 13) + Int32.toInt64 (eI h (x + 19) (nC h0 x)))) (x + 19) (nC h0 x) = eI h (x + 19) (nC h0 x) := by rw [eI_pJ]
      generalize pJ h 511 (x + 13) (gJ h 511 (x + 13) + Int32.toInt64 (eI h (x + 19) (nC h0 x))) = h1 at W1 e3 ⊢
      rintro h1 rfl
      refine ⟨vn, ?_⟩
      rintro _ rfl
      have e4 : (gI h1 513 (x + 13)).toInt = mnT h0 x u.toInt s S 513 0 := by
        refine (W1.2.2.i (by decide) (by decide)).trans ?_
        rw [up2_ne (Or.inl (by decide))]
      have W2 := W1.vI (f := 513) (v := imax (gI h1 513 (x + 13)) (eI h1 (x + 19) (nC h0 x))) (v' := max (mnT h0 x u.toInt s S 513 0) (mnT h0 x u.toInt s S 19 (nC h0 x))) (by decide) (by decide) (by rw [imax_toInt, e4, e3, e1])
      exact hq _ W2.z
  -- nought into pipes and streets
  rw [← nI0]
  refine itr_loop (α := Unit) (inv := fun j _ => ∀ h, WXz h0 h x s S → (∀ i, i < j → eI h (x + 19) i = 0 ∧ eI h (x + 20) i = 0) → Rn M_X2_minute 13 [(0, rV (x + 13)), (1, iV u), (2, iV (nI (nC h0 x))), (3, iV (nI j))] [] h k n (qV Q) E) (f := fun _ u => u) (m := nC h0 x + 1) (s := ()) (fun j _ hj ih h W hz => ?_) (fun h W hz => ?_) h W (fun i hi => absurd hi (by omega))
  · have vj : vp_in (nI j) 13 := vin_nI (by omega) (by decide)
    have ej : ix (nI j) = j := ix_nI (by omega)
    refine b_X2_minute_13 (W.1.cp H).xw ⟨fun c => ?_, fun _ => ⟨vj, ?_⟩⟩
    · rw [nIlt (by omega) (by omega)] at c; omega
    rw [ej]
    rintro _ rfl
    refine ⟨vj, ?_⟩
    rintro _ rfl _ rfl
    rw [nI_add1]
    refine ih _ ((W.wI (o := 19) (by decide) (Or.inl rfl)).wI (o := 20) (by decide) (Or.inr rfl)) (fun i hi => ?_)
    rw [eI_sI, eI_sI, eI_sI, eI_sI]
    by_cases e : i = j
    · subst e
      refine ⟨?_, ?_⟩
      · rw [if_neg (by omega), if_pos ⟨rfl, rfl⟩]
      · rw [if_pos ⟨rfl, rfl⟩]
    · have := hz i (by omega)
      refine ⟨?_, ?_⟩
      · rw [if_neg (by omega), if_neg (by omega)]; exact this.1
      · rw [if_neg (by omega), if_neg (by omega)]; exact this.2
  · refine b_X2_minute_13 (W.1.cp H).xw ⟨fun _ => ?_, fun c => ?_⟩
    · rw [← nI0]
      exact L40 h (W.full (fun j hj => hz j (by omega)))
    · rw [nIlt (by omega) (by omega)] at c; omega
end
