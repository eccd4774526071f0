/-! the reference's storm: a minute -/
set_option maxRecDepth 100000
section
variable {h0 h : Hp} {x : Nat} {E : Nat → Hp → Prop} {k n : Nat}
theorem WMz.w20 {B : Int} {S : St} (R : WMz h0 h x B S) {j : Nat} {v : Int64} : WMz h0 (sJ h (x + 23 + 31) j v) x B S := by
  refine ⟨R.1.wN (by decide), fun a i va n1 n2 => ?_⟩
  have z := R.2 a i va n1 n2
  rcases va.cases with (rfl | rfl | rfl | rfl | rfl | rfl | rfl) | ⟨rfl | rfl | rfl | rfl | rfl | rfl, rfl⟩
  all_goals first | exact absurd rfl n1 | exact absurd rfl n2 | (simp [vam, nx_pI, kd_pI, ln_pI, gI_pI, gJ_pI, gR_pI, eI_pI, eJ_pI, eR_pI, kc_pI, nx_pJ, kd_pJ, ln_pJ, gI_pJ, gJ_pJ, gR_pJ, eI_pJ, eJ_pJ, eR_pJ, kc_pJ, nx_pR, kd_pR, ln_pR, gI_pR, gJ_pR, gR_pR, eI_pR, eJ_pR, eR_pR, kc_pR, nx_sI, kd_sI, ln_sI, gI_sI, gJ_sI, gR_sI, eI_sI, eJ_sI, eR_sI, kc_sI, nx_sJ, kd_sJ, ln_sJ, gI_sJ, gJ_sJ, gR_sJ, eI_sJ, eJ_sJ, eR_sJ, kc_sJ, nx_sR, kd_sR, ln_sR, gI_sR, gJ_sR, gR_sR, eI_sR, eJ_sR, eR_sR, kc_sR, ln_nO, eI_nO, eJ_nO, eR_nO, kc_nO, gI_nO, gI_nA, gJ_nO, gJ_nA, gR_nO, gR_nA, eI_nA, eJ_nA, eR_nA, kc_nA, nx_nO, nx_nA, kd_nO_at, kd_nA_at, ln_nA_at] at z ⊢; exact z)
theorem WMz.w19 {B : Int} {S : St} (R : WMz h0 h x B S) {j : Nat} {v : Int64} : WMz h0 (sJ h (x + 23 + 32) j v) x B S := by
  refine ⟨R.1.wN (by decide), fun a i va n1 n2 => ?_⟩
  have z := R.2 a i va n1 n2
  rcases va.cases with (rfl | rfl | rfl | rfl | rfl | rfl | rfl) | ⟨rfl | rfl | rfl | rfl | rfl | rfl, rfl⟩
  all_goals first | exact absurd rfl n1 | exact absurd rfl n2 | (simp [vam, nx_pI, kd_pI, ln_pI, gI_pI, gJ_pI, gR_pI, eI_pI, eJ_pI, eR_pI, kc_pI, nx_pJ, kd_pJ, ln_pJ, gI_pJ, gJ_pJ, gR_pJ, eI_pJ, eJ_pJ, eR_pJ, kc_pJ, nx_pR, kd_pR, ln_pR, gI_pR, gJ_pR, gR_pR, eI_pR, eJ_pR, eR_pR, kc_pR, nx_sI, kd_sI, ln_sI, gI_sI, gJ_sI, gR_sI, eI_sI, eJ_sI, eR_sI, kc_sI, nx_sJ, kd_sJ, ln_sJ, gI_sJ, gJ_sJ, gR_sJ, eI_sJ, eJ_sJ, eR_sJ, kc_sJ, nx_sR, kd_sR, ln_sR, gI_sR, gJ_sR, gR_sR, eI_sR, eJ_sR, eR_sR, kc_sR, ln_nO, eI_nO, eJ_nO, eR_nO, kc_nO, gI_nO, gI_nA, gJ_nO, gJ_nA, gR_nO, gR_nA, eI_nA, eJ_nA, eR_nA, kc_nA, nx_nO, nx_nA, kd_nO_at, kd_nA_at, ln_nA_at] at z ⊢; exact z)
theorem WMz.full {B : Int} {S : St} (R : WMz h0 h x B S) (hz : ∀ j, j < nC h0 x → eJ h (x + 23 + 31) j = 0 ∧ eJ h (x + 23 + 32) j = 0) : WM h0 h x B (zrS S) := by
  refine ⟨R.1, fun a j va => ?_⟩
  unfold zrS
  by_cases c : a = 19 ∨ a = 20
  · rw [if_pos c]
    have hj : j < nC h0 x := by unfold vlm at va; omega
    rcases c with rfl | rfl
    · simp [vam, (hz j hj).2]
    · simp [vam, (hz j hj).1]
  · rw [if_neg c]
    exact R.2 a j va (fun e => c (Or.inl e)) (fun e => c (Or.inr e))
theorem i64_div2 {a : Int64} (ha : 0 ≤ a.toInt) : (a / 2).toInt = a.toInt / 2 := by rw [i64_div ha (by decide), toL_2]
theorem i64_div10 {a : Int64} (ha : 0 ≤ a.toInt) : (a / 10).toInt = a.toInt / 10 := by rw [i64_div ha (by decide), toL_10]
theorem ct_minuteM (hM : MW h0 (x + 23)) (D : MDB h0 x) {B : Int} (hB : 0 ≤ B ∧ B ≤ 10000) {s : Int32} {S : St} (W : WMz h0 h x B S) {u : Int32} (hu : bd u 0 50) {N m : Nat} (hN : N + nC h0 x ≤ 360) (hm : m ≤ 30) (I : Iv h0 x s N m S) {Q : Hp → Prop} (hq : ∀ h', WMz h0 h' x B (mnS h0 x u.toInt s S) → Q h') : CtV M_X3_minute [rV (x + 23), iV u, iV s] h k n Q E := by
  have hn := D.1.1
  have hcs := D.1.2.2.2.1
  -- the corners, one behind the other
  have L39 : ∀ h, WM h0 h x B (zrS S) → Rn M_X3_minute 39 [(0, rV (x + 23)), (1, iV u), (2, iV s), (3, jV 0), (5, iV (nI 0))] [] h k n (qV Q) E := by
    intro h W
    refine itr_loop (inv := fun j T => ∀ h y, WM h0 h x B T → y.toInt = T 19 (nC h0 x) → Iv h0 x s (N + j) m T → Ip (nC h0 x) j T → Rn M_X3_minute 39 [(0, rV (x + 23)), (1, iV u), (2, iV s), (3, jV y), (5, iV (nI j))] [] h k n (qV Q) E) (f := stc h0 x u.toInt s) (m := nC h0 x) (s := zrS S) (fun j T hj ih h y W hy I P => ?_) (fun h y W hy I P => ?_) h 0 W toL_0 (Iv_zr I) Ip_zr
    · obtain ⟨R, am, cm, tl, ti, tv, pp, bb, on, tt, ps, e14⟩ := stc_bd D (u := u.toInt) ⟨hu.1, hu.2⟩ (s := s) hj I P
      obtain ⟨ih1, ih2⟩ := stc_inv D (u := u.toInt) ⟨hu.1, hu.2⟩ (s := s) hj I P
      obtain ⟨v1, v2, v3, v4, v5⟩ := D.2.1 j hj
      have AT := stc_at (h := h0) (x := x) (s := s) R
      have C := W.1
      have vj : vp_in (nI j) 12 := vin_nI (by omega) (by decide)
      have ej : ix (nI j) = j := ix_nI (by omega)
      have hN' : ((N + j : Nat) : Int) ≤ 360 := by exact_mod_cast (show N + j ≤ 360 by omega)
      have hr30 : (nR h0 x : Int) ≤ 30 := by exact_mod_cast D.1.2.1
      have p19 := P.1 j (by omega)
      have pto := P.1 (toS h0 x j) tt.2
      have hto : T 19 (toS h0 x j) + T 20 (toS h0 x j) ≤ 86000 * (j : Int) := by
        have h1 := P.2
        have h2 : ∀ f : Nat → Int, (∀ i, i ≤ nC h0 x → 0 ≤ f i) → ∀ t j, j + t = nC h0 x + 1 → ∀ i, j ≤ i → i ≤ nC h0 x → f i ≤ sm f j t := by
          intro f hf t
          induction t with
          | zero => intro j hj i h1 h2; omega
          | succ t ih =>
            intro j hj i h1 h2
            rw [sm_head]
            by_cases e : i = j
            · subst e
              have := sm_nn (f := f) (k := i + 1) (t := t) (fun q a b => hf q (by omega))
              omega
            · have := ih (j + 1) (by omega) i (by omega) h2
              have := hf j (by omega)
              omega
        have := h2 (fun i => T 19 i + T 20 i) (fun i hi => by have := P.1 i hi; show 0 ≤ T 19 i + T 20 i; omega) (nC h0 x + 1 - j) j (by omega) (toS h0 x j) (by omega) tt.2
        have : T 19 (toS h0 x j) + T 20 (toS h0 x j) ≤ sm (fun i => T 19 i + T 20 i) j (nC h0 x + 1 - j) := this
        omega
      refine b_X3_minute_39 (C.mw hM) ?_
      rw [C.gi (f := 1001) (by decide), hcs, ej, C.eiM (o := 1) (by decide)]
      refine ⟨fun c => ?_, fun _ => ⟨vj, vj, ?_⟩⟩
      · rw [nIle (by omega) (by omega)] at c; omega
      refine ct_roofsGive hM D W (s := s) hu (by omega) I (fun h1 v W1 hv => ?_)
      have C1 := W1.1
      refine ⟨C1.mw hM, ?_⟩
      have e20 : (eJ h (x + 23 + 31) j).toInt = T 20 j := W.2.e20 hj
      have ea : (Int32.toInt64 u * Int32.toInt64 (eI h0 (x + 23 + 1) j)).toInt = u.toInt * (eI h0 (x + 23 + 1) j).toInt := by rw [i64_mul (by rw [to64, to64]; omega) (by rw [to64, to64]; omega), to64, to64]
      have r5 := R.2.2.2.2.1
      have r6 := R.2.2.2.2.2
      have ecm : (eJ h (x + 23 + 31) j + Int32.toInt64 u * Int32.toInt64 (eI h0 (x + 23 + 1) j) + v).toInt = cmS h0 x u.toInt j T := by
        have w1 : (eJ h (x + 23 + 31) j + Int32.toInt64 u * Int32.toInt64 (eI h0 (x + 23 + 1) j)).toInt = T 20 j + u.toInt * (eI h0 (x + 23 + 1) j).toInt := by rw [i64_add (by omega) (by omega), e20, ea]
        have hcm : cmS h0 x u.toInt j T = T 20 j + u.toInt * (eI h0 (x + 23 + 1) j).toInt + (rfA h0 x u.toInt j T).2 := rfl
        rw [hcm, ← w1, ← hv]
        exact i64_add (by rw [w1, hv, ← hcm]; omega) (by rw [w1, hv, ← hcm]; omega)
      generalize eJ h (x + 23 + 31) j + Int32.toInt64 u * Int32.toInt64 (eI h0 (x + 23 + 1) j) + v = cc at ecm ⊢
      rintro cc rfl
      refine ⟨vj, ?_⟩
      rw [C1.eiM (o := 1) (by decide)]
      have j508 : (gJ h1 1047 (x + 23)).toInt = (rfA h0 x u.toInt j T).1 508 0 := W1.2.g508
      have r3 := R.2.2.1
      have r4 := R.2.2.2.1
      have i3 := I.2.2.1
      have W2 := W1.v508 (v := gJ h1 1047 (x + 23) + Int32.toInt64 u * Int32.toInt64 (eI h0 (x + 23 + 1) j)) (v' := (rfA h0 x u.toInt j T).1 508 0 + u.toInt * (eI h0 (x + 23 + 1) j).toInt) (by rw [i64_add (by rw [j508, ea]; omega) (by rw [j508, ea]; omega), j508, ea])
      have W2 : WM h0 (pJ h1 1047 (x + 23) (gJ h1 1047 (x + 23) + Int32.toInt64 u * Int32.toInt64 (eI h0 (x + 23 + 1) j))) x B (s2S h0 x u.toInt j T) := W2
      generalize pJ h1 1047 (x + 23) (gJ h1 1047 (x + 23) + Int32.toInt64 u * Int32.toInt64 (eI h0 (x + 23 + 1) j)) = h2 at W2 ⊢
      rintro h2 rfl
      have C2 := W2.1
      have o : ∀ a i, a ≠ 15 → a ≠ 508 → a ≠ 14 → a ≠ 509 → s3S h0 x u.toInt s j T a i = T a i := fun a i => s3S_o R
      obtain ⟨i1, i2, i3', i4'⟩ := I.1 j hj
      -- behind the bed
      have k263 : ∀ h3 (y6 : Int64), WM h0 h3 x B (s3S h0 x u.toInt s j T) → y6.toInt = cmS h0 x u.toInt j T - tkI h0 x s j (s2S h0 x u.toInt j T) (cmS h0 x u.toInt j T) → Rn M_X3_minute 263 [(0, rV (x + 23)), (1, iV u), (2, iV s), (3, jV y), (5, iV (nI j)), (6, jV y6)] [] h3 k n (qV Q) E := by
        intro h3 y6 W3 hy6
        have C3 := W3.1
        have e19 : (eJ h3 (x + 23 + 32) j).toInt = T 19 j := (W3.2.e19 hj).trans (o 19 j (by decide) (by decide) (by decide) (by decide))
        refine b_X3_minute_263 (C3.mw hM) ?_
        rw [ej, C3.eiM (o := 2) (by decide), C3.eiM (o := 5) (by decide)]
        refine ⟨vj, ?_⟩
        have epp : (y6 + eJ h3 (x + 23 + 32) j).toInt = ppS h0 x u.toInt s j T := by
          rw [i64_add (by rw [hy6, e19]; omega) (by rw [hy6, e19]; omega), hy6, e19]
          unfold ppS
          omega
        generalize y6 + eJ h3 (x + 23 + 32) j = p at epp ⊢
        rintro p rfl
        refine ⟨vj, ?_⟩
        have q1 := v2.1
        have ebb0 : bbS h0 x u.toInt s j T = max 0 (ppS h0 x u.toInt s j T - (eI h0 (x + 23 + 2) j).toInt) := rfl
        have ec : (lmin p (Int32.toInt64 (eI h0 (x + 23 + 2) j))).toInt = ppS h0 x u.toInt s j T - bbS h0 x u.toInt s j T := by rw [lmin_toInt, to64, epp]; omega
        generalize lmin p (Int32.toInt64 (eI h0 (x + 23 + 2) j)) = ca at ec ⊢
        rintro ca rfl
        have eb : (p - ca).toInt = bbS h0 x u.toInt s j T := by rw [i64_sub (by rw [epp, ec]; omega) (by rw [epp, ec]; omega), epp, ec]; omega
        generalize p - ca = b at eb ⊢
        rintro b rfl
        refine ⟨vj, ?_⟩
        have k318 : ∀ (o0 : Int64), o0.toInt = onS h0 x u.toInt s j T → Rn M_X3_minute 318 [(0, rV (x + 23)), (1, iV u), (2, iV s), (3, jV y), (5, iV (nI j)), (9, jV ca), (11, jV b)] [jV o0] h3 k n (qV Q) E := by
          intro o0 ho
          have ebo : (b - o0).toInt = bbS h0 x u.toInt s j T - onS h0 x u.toInt s j T := by rw [i64_sub (by omega) (by omega), eb, ho]
          refine b_X3_minute_318 (C3.mw hM) ?_
          rw [ej]
          refine ⟨vj, vj, ?_⟩
          have e1 : (eJ h3 (x + 23 + 34) j).toInt = T 18 j := (W3.2.e18 hj).trans (o 18 j (by decide) (by decide) (by decide) (by decide))
          have W4 := W3.w18 (j := j) (v := lmax (eJ h3 (x + 23 + 34) j) ca) (v' := max (T 18 j) (ppS h0 x u.toInt s j T - bbS h0 x u.toInt s j T)) (by rw [lmax_toInt, e1, ec])
          generalize sJ h3 (x + 23 + 34) j (lmax (eJ h3 (x + 23 + 34) j) ca) = h4 at W4 ⊢
          rintro h4 rfl
          refine ⟨vj, vj, ?_⟩
          have e2 : (eJ h4 (x + 23 + 33) j).toInt = T 16 j := by
            refine (W4.2.e16 hj).trans ?_
            rw [up2_ne (Or.inl (by decide))]
            exact o 16 j (by decide) (by decide) (by decide) (by decide)
          have W5 := W4.w16 (j := j) (v := eJ h4 (x + 23 + 33) j + (b - o0)) (v' := T 16 j + (bbS h0 x u.toInt s j T - onS h0 x u.toInt s j T)) (by rw [i64_add (by rw [e2, ebo]; omega) (by rw [e2, ebo]; omega), e2, ebo])
          generalize sJ h4 (x + 23 + 33) j (eJ h4 (x + 23 + 33) j + (b - o0)) = h5 at W5 ⊢
          rintro h5 rfl
          have i5 := I.2.2.2.2.1
          have e3 : (gJ h5 1049 (x + 23)).toInt = T 510 0 := by
            refine W5.2.g510.trans ?_
            rw [up2_ne (Or.inl (by decide)), up2_ne (Or.inl (by decide))]
            exact o 510 0 (by decide) (by decide) (by decide) (by decide)
          have W6 := W5.v510 (v := gJ h5 1049 (x + 23) + (b - o0)) (v' := T 510 0 + (bbS h0 x u.toInt s j T - onS h0 x u.toInt s j T)) (by rw [i64_add (by rw [e3, ebo]; omega) (by rw [e3, ebo]; omega), e3, ebo])
          generalize pJ h5 1049 (x + 23) (gJ h5 1049 (x + 23) + (b - o0)) = h6 at W6 ⊢
          rintro h6 rfl
          have C6 := W6.1
          rw [C6.eiM (o := 4) (by decide)]
          -- the last writes
          have k413 : ∀ h7 (T7 : St), WM h0 h7 x B T7 → T7 19 = T 19 → T7 20 = T 20 → (∀ a i, vlm (nC h0 x) (nR h0 x) a i → a ≠ 19 → a ≠ 20 → T7 a i = stc h0 x u.toInt s j T a i) → Rn M_X3_minute 413 [(0, rV (x + 23)), (1, iV u), (2, iV s), (3, jV y), (5, iV (nI j)), (9, jV ca), (13, jV o0)] [] h7 k n (qV Q) E := by
            intro h7 T7 W7 t19 t20 tall
            have C7 := W7.1
            refine b_X3_minute_413 (C7.mw hM) ?_
            rw [ej, C7.eiM (o := 5) (by decide)]
            refine ⟨vj, fun c => ⟨vj, ?_⟩, fun c => ?_⟩
            · have hb : eI h0 (x + 23 + 5) j = nI (toS h0 x j) ∧ toS h0 x j < nC h0 x := by
                rcases v5 with z | ⟨z1, z2⟩
                · exact absurd z c
                · have c4 : toS h0 x j = ix (eI h0 (x + 23 + 5) j) := by unfold toS; rw [if_neg c]
                  have c5 := ix_toInt (x := eI h0 (x + 23 + 5) j) (by omega)
                  exact ⟨by rw [c4, nI_ix (by omega)], by omega⟩
              have et : ix (eI h0 (x + 23 + 5) j) = toS h0 x j := by rw [hb.1]; exact ix_nI (by omega)
              have vt : vp_in (eI h0 (x + 23 + 5) j) 12 := by rw [hb.1]; exact vin_nI (by omega) (by decide)
              rw [et]
              refine ⟨vt, vt, ?_⟩
              have f1 : (eJ h7 (x + 23 + 32) (toS h0 x j)).toInt = T 19 (toS h0 x j) := (W7.2.e19 hb.2).trans (by rw [t19])
              have W8 := W7.w19 (j := toS h0 x j) (v := eJ h7 (x + 23 + 32) (toS h0 x j) + ca) (v' := T 19 (toS h0 x j) + (ppS h0 x u.toInt s j T - bbS h0 x u.toInt s j T)) (by rw [i64_add (by rw [f1, ec]; omega) (by rw [f1, ec]; omega), f1, ec])
              generalize sJ h7 (x + 23 + 32) (toS h0 x j) (eJ h7 (x + 23 + 32) (toS h0 x j) + ca) = h8 at W8 ⊢
              rintro h8 rfl
              have C8 := W8.1
              rw [C8.eiM (o := 5) (by decide), et]
              refine ⟨vj, vt, vt, ?_⟩
              have f2 : (eJ h8 (x + 23 + 31) (toS h0 x j)).toInt = T 20 (toS h0 x j) := by
                refine (W8.2.e20 hb.2).trans ?_
                rw [up2_ne (Or.inl (by decide)), t20]
              have W9 := W8.w20 (j := toS h0 x j) (v := eJ h8 (x + 23 + 31) (toS h0 x j) + o0) (v' := T 20 (toS h0 x j) + onS h0 x u.toInt s j T) (by rw [i64_add (by rw [f2, ho]; omega) (by rw [f2, ho]; omega), f2, ho])
              rintro _ rfl _ rfl
              rw [nI_add1]
              refine ih _ _ (W9.congr fun a i va => ?_) ?_ (by rw [Nat.add_assoc] at ih1; exact ih1) ih2
              · by_cases c1 : a = 20
                · subst c1
                  rw [AT]
                  by_cases e : i = toS h0 x j
                  · subst e; rw [up2_at]; simp
                  · rw [up2_ne (Or.inr e), up2_ne (Or.inl (by decide)), t20]
                    simp [e, o 20 i]
                · by_cases c2 : a = 19
                  · subst c2
                    rw [AT, up2_ne (Or.inl (by decide))]
                    by_cases e : i = toS h0 x j
                    · subst e; rw [up2_at]; simp
                    · rw [up2_ne (Or.inr e), t19]
                      simp [e, o 19 i]
                  · rw [up2_ne (Or.inl c1), up2_ne (Or.inl c2)]
                    exact tall a i va c2 c1
              · rw [hy, AT]
                have e : ¬ nC h0 x = toS h0 x j := by omega
                simp [e, o 19 (nC h0 x)]
            · have et : toS h0 x j = nC h0 x := by unfold toS; rw [if_pos c]
              rintro _ rfl _ rfl
              rw [nI_add1]
              refine ih _ _ (W7.congr fun a i va => ?_) ?_ (by rw [Nat.add_assoc] at ih1; exact ih1) ih2
              · by_cases c1 : a = 20
                · subst c1
                  have e : ¬ i = toS h0 x j := by unfold vlm at va; omega
                  rw [AT, t20]
                  simp [e, o 20 i]
                · by_cases c2 : a = 19
                  · subst c2
                    have e : ¬ i = toS h0 x j := by unfold vlm at va; omega
                    rw [AT, t19]
                    simp [e, o 19 i]
                  · exact tall a i va c2 c1
              · rw [et] at pto hto
                rw [AT, i64_add (by rw [hy, ec]; omega) (by rw [hy, ec]; omega), hy, ec]
                simp [et]
          have t19 : (up2 (up2 (up2 (s3S h0 x u.toInt s j T) 18 j (max (T 18 j) (ppS h0 x u.toInt s j T - bbS h0 x u.toInt s j T))) 16 j (T 16 j + (bbS h0 x u.toInt s j T - onS h0 x u.toInt s j T))) 510 0 (T 510 0 + (bbS h0 x u.toInt s j T - onS h0 x u.toInt s j T))) 19 = T 19 := by
            funext i
            rw [up2_ne (Or.inl (by decide)), up2_ne (Or.inl (by decide)), up2_ne (Or.inl (by decide))]
            exact o 19 i (by decide) (by decide) (by decide) (by decide)
          have t20 : (up2 (up2 (up2 (s3S h0 x u.toInt s j T) 18 j (max (T 18 j) (ppS h0 x u.toInt s j T - bbS h0 x u.toInt s j T))) 16 j (T 16 j + (bbS h0 x u.toInt s j T - onS h0 x u.toInt s j T))) 510 0 (T 510 0 + (bbS h0 x u.toInt s j T - onS h0 x u.toInt s j T))) 20 = T 20 := by
            funext i
            rw [up2_ne (Or.inl (by decide)), up2_ne (Or.inl (by decide)), up2_ne (Or.inl (by decide))]
            exact o 20 i (by decide) (by decide) (by decide) (by decide)
          have dry : ¬ (0 < (eI h0 (x + 23 + 4) j).toInt ∧ (eI h0 (x + 23 + 4) j).toInt < bbS h0 x u.toInt s j T) → Rn M_X3_minute 413 [(0, rV (x + 23)), (1, iV u), (2, iV s), (3, jV y), (5, iV (nI j)), (9, jV ca), (13, jV o0)] [] h6 k n (qV Q) E := by
            intro nw
            refine k413 h6 _ W6 t19 t20 (fun a i va n1 n2 => ?_)
            rw [AT, if_neg nw, if_neg nw]
            unfold up2
            by_cases c1 : a = 17 ∧ i = j
            · obtain ⟨rfl, rfl⟩ := c1; simp; exact o 17 i (by decide) (by decide) (by decide) (by decide)
            by_cases c2 : a = 512 ∧ i = 0
            · obtain ⟨rfl, rfl⟩ := c2; simp; exact o 512 0 (by decide) (by decide) (by decide) (by decide)
            rw [if_neg c1, if_neg c2]
            by_cases c3 : a = 18 ∧ i = j
            · obtain ⟨rfl, rfl⟩ := c3; simp
            by_cases c4 : a = 510 ∧ i = 0
            · obtain ⟨rfl, rfl⟩ := c4; simp
            by_cases c5 : a = 16 ∧ i = j
            · obtain ⟨rfl, rfl⟩ := c5; simp
            rw [if_neg c3, if_neg c4, if_neg c5, if_neg c3, if_neg c4, if_neg c5, if_neg (fun z => n2 z.1), if_neg (fun z => n1 z.1)]
          refine ⟨vj, fun c => dry (fun z => ?_), fun c => ⟨vj, fun d => dry (fun z => ?_), fun d => ⟨vj, vj, ?_⟩⟩⟩
          · rw [i32_le, toI_0] at c; omega
          · rw [lg_cmp_le, i64_le, to64, eb] at d; omega
          · have wet : 0 < (eI h0 (x + 23 + 4) j).toInt ∧ (eI h0 (x + 23 + 4) j).toInt < bbS h0 x u.toInt s j T := by
              rw [i32_le, toI_0] at c
              rw [lg_cmp_le, i64_le, to64, eb] at d
              omega
            have e6 : (eI h6 (x + 23 + 35) j).toInt = T 17 j := by
              refine (W6.2.e17 hj).trans ?_
              rw [up2_ne (Or.inl (by decide)), up2_ne (Or.inl (by decide)), up2_ne (Or.inl (by decide))]
              exact o 17 j (by decide) (by decide) (by decide) (by decide)
            have W7 := W6.w17 (j := j) (v := eI h6 (x + 23 + 35) j + 1) (v' := T 17 j + 1) (by rw [i32_add (by rw [e6, toI_1]; omega) (by rw [e6, toI_1]; omega), e6, toI_1])
            generalize sI h6 (x + 23 + 35) j (eI h6 (x + 23 + 35) j + 1) = h7 at W7 ⊢
            rintro h7 rfl
            have i7 := I.2.2.2.2.2.2.1
            have e7 : (gI h7 1052 (x + 23)).toInt = T 512 0 := by
              refine W7.2.g512.trans ?_
              rw [up2_ne (Or.inl (by decide)), up2_ne (Or.inl (by decide)), up2_ne (Or.inl (by decide)), up2_ne (Or.inl (by decide))]
              exact o 512 0 (by decide) (by decide) (by decide) (by decide)
            have W8 := W7.v512 (v := gI h7 1052 (x + 23) + 1) (v' := T 512 0 + 1) (by rw [i32_add (by rw [e7, toI_1]; omega) (by rw [e7, toI_1]; omega), e7, toI_1])
            rintro _ rfl
            refine k413 _ _ W8 ?_ ?_ (fun a i va n1 n2 => ?_)
            · funext i
              rw [up2_ne (Or.inl (by decide)), up2_ne (Or.inl (by decide)), t19]
            · funext i
              rw [up2_ne (Or.inl (by decide)), up2_ne (Or.inl (by decide)), t20]
            · rw [AT, if_pos wet, if_pos wet]
              unfold up2
              by_cases c1 : a = 17 ∧ i = j
              · obtain ⟨rfl, rfl⟩ := c1; simp
              by_cases c2 : a = 512 ∧ i = 0
              · obtain ⟨rfl, rfl⟩ := c2; simp
              rw [if_neg c1, if_neg c2, if_neg c2, if_neg c1]
              by_cases c3 : a = 18 ∧ i = j
              · obtain ⟨rfl, rfl⟩ := c3; simp
              by_cases c4 : a = 510 ∧ i = 0
              · obtain ⟨rfl, rfl⟩ := c4; simp
              by_cases c5 : a = 16 ∧ i = j
              · obtain ⟨rfl, rfl⟩ := c5; simp
              rw [if_neg c3, if_neg c4, if_neg c5, if_neg c3, if_neg c4, if_neg c5, if_neg (fun z => n2 z.1), if_neg (fun z => n1 z.1)]
        refine ⟨fun c => k318 _ ?_, fun c => k318 _ ?_⟩
        · unfold onS; rw [if_neg c, i64_div2 (by omega), eb]
        · unfold onS; rw [if_pos c]; exact toL_0
      -- a bed, or none
      have k112 : ∀ z : Int32, z = b1 (newS s j) → Rn M_X3_minute 112 [(0, rV (x + 23)), (1, iV u), (2, iV s), (3, jV y), (5, iV (nI j)), (6, jV cc)] [iV z] h2 k n (qV Q) E := by
        rintro _ rfl
        have k129 : tkH h0 x s j = true → Rn M_X3_minute 129 [(0, rV (x + 23)), (1, iV u), (2, iV s), (3, jV y), (5, iV (nI j)), (6, jV cc), (8, iV (b1 (newS s j)))] [] h2 k n (qV Q) E := by
          intro th
          have eI1 : tkI h0 x s j (s2S h0 x u.toInt j T) (cmS h0 x u.toInt j T) = min (tkL h0 x s j (cmS h0 x u.toInt j T)) (tkC h0 x s j - T 14 j) := by unfold tkI; rw [if_pos th, e14]
          have eS1 : s3S h0 x u.toInt s j T = up2 (up2 (s2S h0 x u.toInt j T) 14 j (T 14 j + tkI h0 x s j (s2S h0 x u.toInt j T) (cmS h0 x u.toInt j T) - tkV h0 x s j (s2S h0 x u.toInt j T) (cmS h0 x u.toInt j T))) 509 0 (T 509 0 + tkV h0 x s j (s2S h0 x u.toInt j T) (cmS h0 x u.toInt j T)) := by
            have e509 : s2S h0 x u.toInt j T 509 0 = T 509 0 := by
              unfold s2S
              rw [up2_ne (Or.inl (by decide))]
              exact R.1 509 0 (by decide) (by decide)
            unfold s3S tkS
            rw [if_pos th, e14, e509]
          have eV1 : tkV h0 x s j (s2S h0 x u.toInt j T) (cmS h0 x u.toInt j T) = min (T 14 j + tkI h0 x s j (s2S h0 x u.toInt j T) (cmS h0 x u.toInt j T)) (tkD h0 x s j) := by unfold tkV; rw [e14]
          have cc0 := tkC_bd D s hj
          have dd := tkD_bd D s hj
          have e30 : (eI h2 (x + 23 + 30) j).toInt = T 14 j := (W2.2.e14 hj).trans e14
          have g509 : (gJ h2 1048 (x + 23)).toInt - B = T 509 0 := by
            refine W2.2.g509.trans ?_
            unfold s2S
            rw [up2_ne (Or.inl (by decide))]
            exact R.1 509 0 (by decide) (by decide)
          have i4 := I.2.2.2.1
          have k223 : ∀ (inn d b : Int32), inn.toInt = tkI h0 x s j (s2S h0 x u.toInt j T) (cmS h0 x u.toInt j T) → d.toInt = tkD h0 x s j → b.toInt = T 14 j + tkI h0 x s j (s2S h0 x u.toInt j T) (cmS h0 x u.toInt j T) → Rn M_X3_minute 223 [(0, rV (x + 23)), (1, iV u), (2, iV s), (3, jV y), (5, iV (nI j)), (6, jV cc), (11, iV inn)] [iV d, iV b] h2 k n (qV Q) E := by
            intro inn d b g1 g2 g3
            refine b_X3_minute_223 (C2.mw hM) ?_
            have m1 : (imin b d).toInt = tkV h0 x s j (s2S h0 x u.toInt j T) (cmS h0 x u.toInt j T) := by rw [imin_toInt, g2, g3, eV1]
            generalize imin b d = v at m1 ⊢
            rintro v rfl
            rw [ej]
            refine ⟨vj, vj, ?_⟩
            have m2 : (inn - v).toInt = tkI h0 x s j (s2S h0 x u.toInt j T) (cmS h0 x u.toInt j T) - tkV h0 x s j (s2S h0 x u.toInt j T) (cmS h0 x u.toInt j T) := by rw [i32_sub (by rw [g1, m1]; omega) (by rw [g1, m1]; omega), g1, m1]
            have W3 := W2.w14 (j := j) (v := eI h2 (x + 23 + 30) j + (inn - v)) (v' := T 14 j + tkI h0 x s j (s2S h0 x u.toInt j T) (cmS h0 x u.toInt j T) - tkV h0 x s j (s2S h0 x u.toInt j T) (cmS h0 x u.toInt j T)) (by rw [i32_add (by rw [e30, m2]; omega) (by rw [e30, m2]; omega), e30, m2]; omega)
            have g509' : gJ (sI h2 (x + 23 + 30) j (eI h2 (x + 23 + 30) j + (inn - v))) 1048 (x + 23) = gJ h2 1048 (x + 23) := by rw [gJ_sI]
            generalize sI h2 (x + 23 + 30) j (eI h2 (x + 23 + 30) j + (inn - v)) = h3 at W3 g509' ⊢
            rintro h3 rfl
            have W4 := W3.v509 (v := gJ h3 1048 (x + 23) + Int32.toInt64 v) (v' := T 509 0 + tkV h0 x s j (s2S h0 x u.toInt j T) (cmS h0 x u.toInt j T)) (by rw [g509', i64_add (by rw [to64, m1]; omega) (by rw [to64, m1]; omega), to64, m1]; omega)
            rw [← eS1] at W4
            rintro _ rfl _ rfl
            refine k263 _ _ W4 ?_
            rw [i64_sub (by rw [to64, g1, ecm]; omega) (by rw [to64, g1, ecm]; omega), to64, g1, ecm]
          have k178 : ∀ (cap : Int32) (lets : Int64), cap.toInt = tkC h0 x s j → lets.toInt = tkL h0 x s j (cmS h0 x u.toInt j T) → Rn M_X3_minute 178 [(0, rV (x + 23)), (1, iV u), (2, iV s), (3, jV y), (5, iV (nI j)), (6, jV cc), (8, iV (b1 (newS s j)))] [iV cap, jV lets] h2 k n (qV Q) E := by
            intro cap lets g1 g2
            refine b_X3_minute_178 (C2.mw hM) ?_
            rw [ej]
            have s1 : (cap - eI h2 (x + 23 + 30) j).toInt = tkC h0 x s j - T 14 j := by rw [i32_sub (by omega) (by omega), g1, e30]
            have m1 : (Int64.toInt32 (lmin lets (Int32.toInt64 (cap - eI h2 (x + 23 + 30) j)))).toInt = tkI h0 x s j (s2S h0 x u.toInt j T) (cmS h0 x u.toInt j T) := by
              have l1 : (lmin lets (Int32.toInt64 (cap - eI h2 (x + 23 + 30) j))).toInt = tkI h0 x s j (s2S h0 x u.toInt j T) (cmS h0 x u.toInt j T) := by rw [lmin_toInt, to64, s1, g2, eI1]
              rw [to32 (by rw [l1]; omega) (by rw [l1]; omega), l1]
            generalize Int64.toInt32 (lmin lets (Int32.toInt64 (cap - eI h2 (x + 23 + 30) j))) = inn at m1 ⊢
            refine ⟨vj, ?_⟩
            rintro inn rfl
            have m2 : (eI h2 (x + 23 + 30) j + inn).toInt = T 14 j + tkI h0 x s j (s2S h0 x u.toInt j T) (cmS h0 x u.toInt j T) := by rw [i32_add (by rw [e30, m1]; omega) (by rw [e30, m1]; omega), e30, m1]
            refine ⟨vj, fun z => ?_, fun z => ?_⟩
            · have nw : newS s j = false := b1_eq0.mp z
              refine ⟨?_, k223 _ _ _ m1 ?_ m2⟩
              · have w1 := (D.2.2.1 j (by omega)).1.1
                unfold P_X3_drink
                rw [ej, C2.eiM (o := 9) (by decide)]
                exact ⟨vj, vj, by rw [vin_iff]; exact ⟨w1.1, by have := w1.2; omega⟩⟩
              · unfold tkD
                rw [if_neg (by rw [nw]; decide), C2.drk]
            · have nw : newS s j = true := b1_ne0.mp z
              refine k223 _ _ _ m1 ?_ m2
              unfold tkD
              rw [if_pos nw, C2.eiM (o := 25) (by decide), show ix 0 = 0 by decide]
          have k157 : ∀ (lets : Int64), lets.toInt = tkL h0 x s j (cmS h0 x u.toInt j T) → Rn M_X3_minute 157 [(0, rV (x + 23)), (1, iV u), (2, iV s), (3, jV y), (5, iV (nI j)), (6, jV cc), (8, iV (b1 (newS s j)))] [jV lets] h2 k n (qV Q) E := by
            intro lets g2
            refine b_X3_minute_157 (C2.mw hM) ?_
            rw [ej, C2.eiM (o := 10) (by decide)]
            refine ⟨fun z => ⟨vj, k178 _ _ ?_ g2⟩, fun z => k178 _ _ ?_ g2⟩
            · have nw : newS s j = false := b1_eq0.mp z
              unfold tkC
              rw [if_neg (by rw [nw]; decide)]
            · have nw : newS s j = true := b1_ne0.mp z
              unfold tkC
              rw [if_pos nw]
              exact toI_100
          refine b_X3_minute_129 (C2.mw hM) ?_
          rw [ej, C2.eiM (o := 13) (by decide)]
          refine ⟨fun z => ⟨vj, k157 _ ?_⟩, fun z => k157 _ ?_⟩
          · have nw : newS s j = false := b1_eq0.mp z
            have lv := (D.2.2.1 j (by omega)).1.2.2.2.2.2.2.1
            have l1 := lv.1
            have l2 := lv.2
            have s1 : ((10 : Int32) - eI h0 (x + 23 + 13) j).toInt = 10 - (eI h0 (x + 23 + 13) j).toInt := by rw [i32_sub (by rw [toI_10]; omega) (by rw [toI_10]; omega), toI_10]
            have mm := mul_bd (a := cmS h0 x u.toInt j T) (b := 10 - (eI h0 (x + 23 + 13) j).toInt) (A := 1032000) (B := 10) cm.1 (by omega) (by omega) (by omega)
            have m1 : (cc * Int32.toInt64 (10 - eI h0 (x + 23 + 13) j)).toInt = cmS h0 x u.toInt j T * (10 - (eI h0 (x + 23 + 13) j).toInt) := by
              rw [i64_mul (by rw [to64, s1, ecm]; omega) (by rw [to64, s1, ecm]; omega), to64, s1, ecm]
            unfold tkL
            rw [if_neg (by rw [nw]; decide), i64_div10 (by rw [m1]; exact mm.1), m1]
          · have nw : newS s j = true := b1_ne0.mp z
            unfold tkL
            rw [if_pos nw, ecm]
        refine b_X3_minute_112 (C2.mw hM) ?_
        rw [ej, C2.eiM (o := 6) (by decide)]
        refine ⟨vj, fun c => k129 (by unfold tkH; simp [c]), fun c => ⟨fun d => ?_, fun d => k129 (by unfold tkH; simp [b1_ne0.mp d])⟩⟩
        have th : ¬ tkH h0 x s j = true := by unfold tkH; simp [c, b1_eq0.mp d]
        refine k263 h2 cc ?_ ?_
        · have e1 : s3S h0 x u.toInt s j T = s2S h0 x u.toInt j T := by unfold s3S tkS; rw [if_neg th]
          rw [e1]; exact W2
        · have e2 : tkI h0 x s j (s2S h0 x u.toInt j T) (cmS h0 x u.toInt j T) = 0 := by unfold tkI; rw [if_neg th]
          rw [e2, ecm]; omega
      refine ⟨fun z => k112 0 ?_, fun z => k112 1 ?_⟩
      · unfold newS; simp [z, b1]
      · unfold newS; simp [z, b1]
    · -- behind the last corner
      have C := W.1
      have W : WM h0 h x B (mnT h0 x u.toInt s S) := W
      have hy : y.toInt = mnT h0 x u.toInt s S 19 (nC h0 x) := hy
      obtain ⟨M1, M2⟩ := mnS_inv D (u := u.toInt) ⟨hu.1, hu.2⟩ (s := s) ‹Iv h0 x s N m S›
      have I : Iv h0 x s (N + nC h0 x) m (mnT h0 x u.toInt s S) := I
      have i6 := I.2.2.2.2.2.1
      have hm' : (m : Int) ≤ 30 := by exact_mod_cast hm
      have e2 : (gJ h 1050 (x + 23)).toInt = mnT h0 x u.toInt s S 511 0 := W.2.g511
      have W1 := W.v511 (v := gJ h 1050 (x + 23) + y) (v' := mnT h0 x u.toInt s S 511 0 + mnT h0 x u.toInt s S 19 (nC h0 x)) (by rw [i64_add (by rw [e2, hy]; omega) (by rw [e2, hy]; omega), e2, hy])
      refine b_X3_minute_39 (C.mw hM) ⟨fun _ => ?_, fun c => absurd ?_ c⟩
      · generalize pJ h 1050 (x + 23) (gJ h 1050 (x + 23) + y) = h1 at W1 ⊢
        rintro h1 rfl _ rfl
        have e4 : (gJ h1 1051 (x + 23)).toInt = mnT h0 x u.toInt s S 513 0 := by
          refine W1.2.g513.trans ?_
          rw [up2_ne (Or.inl (by decide))]
        have W2 := W1.v513 (v := lmax (gJ h1 1051 (x + 23)) y) (v' := max (mnT h0 x u.toInt s S 513 0) (mnT h0 x u.toInt s S 19 (nC h0 x))) (by rw [lmax_toInt, e4, hy])
        exact hq _ W2.z
      · rw [C.gi (f := 1001) (by decide), hcs]
        exact Int32.le_refl _
  -- nought into pipes and streets
  refine b_X3_minute_0 (W.1.mw hM) ?_
  rw [← nI0]
  refine itr_loop (α := Unit) (inv := fun j _ => ∀ h, WMz h0 h x B S → (∀ i, i < j → eJ h (x + 23 + 31) i = 0 ∧ eJ h (x + 23 + 32) i = 0) → Rn M_X3_minute 5 [(0, rV (x + 23)), (1, iV u), (2, iV s), (3, jV 0), (5, iV (nI j))] [] h k n (qV Q) E) (f := fun _ u => u) (m := nC h0 x) (s := ()) (fun j _ hj ih h W hz => ?_) (fun h W hz => ?_) h W (fun i hi => absurd hi (by omega))
  · have vj : vp_in (nI j) 12 := vin_nI (by omega) (by decide)
    have ej : ix (nI j) = j := ix_nI (by omega)
    refine b_X3_minute_5 (W.1.mw hM) ?_
    rw [W.1.gi (f := 1001) (by decide), hcs, ej]
    refine ⟨fun c => ?_, fun _ => ⟨vj, ?_⟩⟩
    · rw [nIle (by omega) (by omega)] at c; omega
    rintro _ rfl
    refine ⟨vj, ?_⟩
    rintro _ rfl _ rfl
    rw [nI_add1]
    refine ih _ (W.w20.w19) (fun i hi => ?_)
    simp only [eJ_sJ]
    by_cases e : i = j
    · subst e
      refine ⟨?_, ?_⟩
      · rw [if_neg (by omega), if_pos ⟨trivial, rfl⟩]
      · rw [if_pos ⟨trivial, rfl⟩]
    · have := hz i (by omega)
      refine ⟨?_, ?_⟩
      · rw [if_neg (by omega), if_neg (by omega)]; exact this.1
      · rw [if_neg (by omega), if_neg (by omega)]; exact this.2
  · refine b_X3_minute_5 (W.1.mw hM) ⟨fun _ => ?_, fun c => absurd ?_ c⟩
    · rw [← nI0]
      exact L39 h (W.full hz)
    · rw [W.1.gi (f := 1001) (by decide), hcs]
      exact Int32.le_refl _
end
