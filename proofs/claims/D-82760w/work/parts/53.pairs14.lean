/-! pairs: compare -/
set_option maxRecDepth 100000
section
variable {h : Hp} {x mo : Nat} {E : Nat → Hp → Prop} {k n : Nat} {R : Hp → Prop} {Q : Int32 → Hp → Prop} {QR : Nat → Hp → Prop}
def lko (h : Hp) (x i j : Nat) : Int64 := labs (eJ h (x + 23 + 36) j - eJ h (x + 23 + 36) i)
def lkF (h : Hp) (x : Nat) (d dt : Int32) (i j : Nat) (v : Int32 × Int64) : Int32 × Int64 := if d ≤ eI h (x + 23 + 41) j then v else if 0 < lg_cmp (lko h x i j * 100) (Int32.toInt64 dt * eJ h (x + 23 + 36) i) then v else if v.1 = -1 then (nI j, lko h x i j) else if lg_cmp (lko h x i j) v.2 ≤ 0 then (nI j, lko h x i j) else v
def lk (h : Hp) (x : Nat) (d dt : Int32) (i : Nat) : Int32 × Int64 := itr (lkF h x d dt i) 0 (nS h x) (-1, 0)
def lkI (h : Hp) (x i j : Nat) (v : Int32 × Int64) : Prop := v.1 = -1 ∨ ∃ b, b < j ∧ v = (nI b, lko h x i b)
def lkr (h : Hp) (x : Nat) (v : Int32) : Nat := if v = -1 then 0 else el h (x + 21) (ix v)
theorem lkI_step {d dt : Int32} {i j : Nat} {v : Int32 × Int64} (hv : lkI h x i j v) : lkI h x i (j + 1) (lkF h x d dt i j v) := by
  have hv' : lkI h x i (j + 1) v := by
    rcases hv with e | ⟨b, hb, e⟩
    · exact Or.inl e
    · exact Or.inr ⟨b, by omega, e⟩
  have new : lkI h x i (j + 1) (nI j, lko h x i j) := Or.inr ⟨j, by omega, rfl⟩
  unfold lkF
  by_cases c1 : d ≤ eI h (x + 23 + 41) j
  · rw [if_pos c1]; exact hv'
  · rw [if_neg c1]
    by_cases c2 : 0 < lg_cmp (lko h x i j * 100) (Int32.toInt64 dt * eJ h (x + 23 + 36) i)
    · rw [if_pos c2]; exact hv'
    · rw [if_neg c2]
      by_cases c3 : v.1 = -1
      · rw [if_pos c3]; exact new
      · rw [if_neg c3]
        by_cases c4 : lg_cmp (lko h x i j) v.2 ≤ 0
        · rw [if_pos c4]; exact new
        · rw [if_neg c4]; exact hv'
theorem CP.stoI (H : CP h x) {i : Nat} (hi : i < nS h x) : ¬ gI h 1102 (x + 21) ≤ nI i ∧ ALg h (x + 21) (nI i) ∧ ix (nI i) = i ∧ kd h (el h (x + 21) i) = 8 ∧ vp_in (nI i) 40 := by
  have hn := H.nS_le
  have hal := H.pl.2.2.2.1.g (i := nI i) (by rw [nI_toInt (by omega)]; omega) (by rw [nI_toInt (by omega)]; omega)
  refine ⟨?_, hal, ix_nI (by omega), (H.ps i hi).1, vin_nI (by omega) (by decide)⟩
  rw [H.size21, hn.1, nIle (by omega) (by omega)]; omega
theorem CP.stoE (H : CP h x) : gI h 1102 (x + 21) ≤ nI (nS h x) := by rw [H.size21, H.nS_le.1]; exact Int32.le_refl _
theorem ct_X0_like (H : CP h x) {i : Nat} (hi : i < nS h x) {d dt : Int32} (hq : QR (lkr h x (lk h x d dt i).1) h) : CtR M_X0_like [rV x, rV (el h (x + 21) i), iV d, iV dt] h k n QR E := by
  refine r_wfH fun wf => ?_
  have hn := H.nS_le.2
  obtain ⟨si1, si2, si3, si4, si5, si6⟩ := H.ps i hi
  refine b_X0_like_0 H.xw ?_
  have key : ∀ t j v, j + t = nS h x → lkI h x i j v → itr (lkF h x d dt i) j t v = lk h x d dt i → Rn M_X0_like 6 [(0, rV x), (1, rV (el h (x + 21) i)), (2, iV d), (3, iV dt), (4, rV (lkr h x v.1)), (5, iV (nI j))] [] h k n (qR QR) E := by
    intro t
    induction t with
    | zero =>
      intro j v hj hv he
      have hev : v = lk h x d dt i := he
      have : j = nS h x := by omega
      subst this
      exact b_X0_like_6 H.xw ⟨fun _ => by rw [hev]; exact hq, fun c => absurd H.stoE c⟩
    | succ t ih =>
      intro j v hj hv he
      have ih := ih (j + 1) (lkF h x d dt i j v) (by omega) (lkI_step hv) he
      rw [← nI_add1] at ih
      obtain ⟨a1, a2, a3, a4, a5⟩ := H.stoI (show j < nS h x by omega)
      obtain ⟨s1, s2, s3, s4, s5, s6⟩ := H.ps j (by omega)
      have new : lkr h x (nI j) = el h (x + 21) j := by unfold lkr; rw [if_neg (nI_nm1 (by omega)), ix_nI (by omega)]
      refine b_X0_like_6 H.xw ⟨fun c => absurd c a1, fun _ => ?_⟩
      rw [a3]
      refine ⟨a2, a4, ?_⟩
      rintro _ rfl
      unfold P_X8_rained P_X8_day V_X8_rained V_X8_day
      rw [s2, s3, si3]
      refine ⟨s1, si1, si1, ?_⟩
      rintro _ rfl
      unfold lkF lko at ih
      refine ⟨s1, fun c => ?_, fun c => ⟨si1, fun e => ?_, fun e => ?_⟩⟩
      · rintro _ rfl; rw [if_pos c] at ih; exact ih
      · rw [if_neg c, if_neg (i32_not_lt.mpr e)] at ih
        refine ⟨fun z => ?_, fun z => ?_⟩
        · rintro _ rfl
          have zv : v.1 = -1 := by
            rcases hv with u | ⟨b, hb, u⟩
            · exact u
            · exfalso
              have hk := (H.ps b (by omega)).1
              have e5 := Nat.ne_of_gt (wf.lt hk (by decide)).1
              rw [u] at z
              have : lkr h x (nI b) = el h (x + 21) b := by unfold lkr; rw [if_neg (nI_nm1 (by omega)), ix_nI (by omega)]
              exact e5 (this.symm.trans z)
          rw [if_pos zv, new] at ih; exact ih
        · obtain ⟨b, hb, u⟩ : ∃ b, b < j ∧ v = (nI b, lko h x i b) := by
            rcases hv with u | u
            · exact absurd (by unfold lkr; rw [if_pos u]) z
            · exact u
          subst u
          have eb : lkr h x (nI b) = el h (x + 21) b := by unfold lkr; rw [if_neg (nI_nm1 (by omega)), ix_nI (by omega)]
          obtain ⟨b1, b2, b3, -⟩ := H.ps b (by omega)
          rw [if_neg (nI_nm1 (by omega))] at ih
          show kd h (lkr h x (nI b)) = _ ∧ _
          rw [eb, b3]
          refine ⟨b1, b1, si1, fun y => ?_, fun y => ?_⟩
          · rintro _ rfl; rw [if_neg (show ¬ lg_cmp (labs (eJ h (x + 23 + 36) j - eJ h (x + 23 + 36) i)) ((nI b, lko h x i b) : Int32 × Int64).2 ≤ 0 from i32_not_le.mpr y)] at ih
            have ih : Rn M_X0_like 6 [(0, rV x), (1, rV (el h (x + 21) i)), (2, iV d), (3, iV dt), (4, rV (lkr h x (nI b))), (5, iV (nI j + 1))] [] h k n (qR QR) E := ih
            rw [eb] at ih; exact ih
          · rintro _ rfl; rw [if_pos (show lg_cmp (labs (eJ h (x + 23 + 36) j - eJ h (x + 23 + 36) i)) ((nI b, lko h x i b) : Int32 × Int64).2 ≤ 0 from i32_not_lt.mp y)] at ih
            have ih : Rn M_X0_like 6 [(0, rV x), (1, rV (el h (x + 21) i)), (2, iV d), (3, iV dt), (4, rV (lkr h x (nI j))), (5, iV (nI j + 1))] [] h k n (qR QR) E := ih
            rw [new] at ih; exact ih
      · rw [if_neg c, if_pos (i32_not_le.mp e)] at ih
        rintro _ rfl; exact ih
  have := key (nS h x) 0 (-1, 0) (by omega) (Or.inl rfl) rfl
  rw [nI0] at this
  exact this
theorem ct_X3_like (H : CP h x) {i : Nat} (hi : i < nS h x) {d : Int32} (hq : Q (lk h x d (lawn h (x + 23) (gI h 1000 (x + 23)) 12) i).1 h) : CtI M_X3_like [rV (x + 23), iV (nI i), iV d] h k n Q E := by
  have hn := H.nS_le
  have vi : vp_in (nI i) 40 := vin_nI (by omega) (by decide)
  refine b_X3_like_0 H.mw ?_
  rw [← nI0]
  refine itr_loop (inv := fun j v => Rn M_X3_like 8 [(0, rV (x + 23)), (1, iV (nI i)), (2, iV d), (3, iV v.1), (4, jV v.2), (6, iV (nI j))] [] h k n (qI Q) E) (f := lkF h x d (lawn h (x + 23) (gI h 1000 (x + 23)) 12) i) (m := nS h x) (s := (-1, 0)) (fun j v hj hw => ?_) ?_
  · have vj : vp_in (nI j) 40 := vin_nI (by omega) (by decide)
    refine b_X3_like_8 H.mw ⟨fun c => absurd c (by rw [hn.1, nIle (by omega) (by omega)]; omega), fun _ => ⟨vj, vi, ?_⟩⟩
    rw [ix_nI (by omega), ix_nI (by omega)]
    rintro _ rfl
    unfold lkF lko at hw
    rw [← nI_add1] at hw
    unfold P_X3_now V_X3_now
    refine ⟨vj, fun c => ?_, fun c => ⟨H.lwp, vi, fun e => ?_, fun e => ⟨fun z => ?_, fun z => ⟨fun y => ?_, fun y => ?_⟩⟩⟩⟩
    · rintro _ rfl; rw [if_pos c] at hw; exact hw
    · rintro _ rfl; rw [if_neg c, if_pos e] at hw; exact hw
    · rintro _ rfl; rw [if_neg c, if_neg e, if_pos z] at hw; exact hw
    · rintro _ rfl; rw [if_neg c, if_neg e, if_neg z, if_pos y] at hw; exact hw
    · rintro _ rfl; rw [if_neg c, if_neg e, if_neg z, if_neg y] at hw; exact hw
  · exact b_X3_like_8 H.mw ⟨fun _ => hq, fun c => absurd (by rw [hn.1]; exact Int32.le_refl _) c⟩
/-- what compare gathers: how many, ahead, behind -/
def cmF (h : Hp) (x : Nat) (d dt : Int32) (i : Nat) (v : Nat × Int64 × Int64) : Nat × Int64 × Int64 := if eI h (x + 23 + 41) i < d then v else if (lk h x d dt i).1 = -1 then v else (v.1 + 1, v.2.1 + eJ h (x + 23 + 37) (ix (lk h x d dt i).1), v.2.2 + eJ h (x + 23 + 37) i)
theorem lk_cases (h : Hp) (x : Nat) (d dt : Int32) (i : Nat) : (lk h x d dt i).1 = -1 ∨ ∃ b, b < nS h x ∧ (lk h x d dt i).1 = nI b := by
  have := itr_inv (f := lkF h x d dt i) (P := fun j v => lkI h x i j v) (t := nS h x) (i := 0) (v := (-1, 0)) (fun j w _ _ hw => lkI_step hw) (Or.inl rfl)
  rw [Nat.zero_add] at this
  rcases this with e | ⟨b, hb, e⟩
  · exact Or.inl e
  · exact Or.inr ⟨b, hb, by show (itr (lkF h x d dt i) 0 (nS h x) (-1, 0)).1 = _; rw [e]⟩
theorem nL_succ (m : Nat) : Int64.ofNat m + 1 = Int64.ofNat (m + 1) := (Int64.ofNat_add m 1).symm
theorem to64_nI {m : Nat} (hm : m < 2 ^ 31) : (nI m).toInt64 = Int64.ofNat m := by
  apply i64_ext
  rw [to64, nI_toInt hm, Int64.toInt_ofNat_of_lt (by omega)]
theorem pr_compare (H : CP h x) {d b : Int32} (hR : ∀ h', CP h' x → R h') : CtJ M_X0_compare [rV x, iV d, iV b] h k n (fun r h1 => CtJ M_X3_compare [rV (x + 23), iV d, iV b] h1 0 0 (fun r2 h2 => r = r2 ∧ R h2) E) E := by
  refine r_wfH fun wf => ?_
  have g := hR _ H
  have hn := H.nS_le
  refine b_X0_compare_0 H.xw ⟨fun c => ?_, fun c1 => ⟨fun c2 => ?_, fun c2 => ?_⟩⟩
  · exact b_X3_compare_0 H.mw ⟨fun _ => ⟨rfl, g⟩, fun c2 => absurd (c.symm.trans c2) (by decide)⟩
  rotate_left
  · exact b_X3_compare_0 H.mw ⟨fun c => absurd (c1.symm.trans c) (by decide), fun _ => ⟨fun c => absurd (c2.symm.trans c) (by decide), fun _ => ⟨rfl, g⟩⟩⟩
  obtain ⟨o1, o2, o3, o4⟩ := H.on (gI h 0 x)
  obtain ⟨ho, -, -, -, -, -, -, -, -, -, -, -, -, f12, -⟩ := o2
  have et := H.pn.1
  have f12 : gI h 414 (V_X0_on h x (gI h 0 x)) = lawn h (x + 23) (gI h 1000 (x + 23)) 12 := by rw [← et]; exact f12
  refine ⟨o1, ho, ?_⟩
  rintro _ rfl
  rw [f12]
  have hd : lawn h (x + 23) (gI h 1000 (x + 23)) 12 = lawn h (x + 23) (gI h 1000 (x + 23)) 12 := rfl
  revert hd
  generalize hdt : lawn h (x + 23) (gI h 1000 (x + 23)) 12 = dt
  intro _
  have lt1 : ∀ u w : Int32, ¬ u ≤ w ↔ w < u := fun u w => i32_not_le
  have cnt : ∀ m v, (itr (cmF h x d dt) 0 m v).1 ≤ v.1 + m := fun m v => by
    have := itr_inv (f := cmF h x d dt) (P := fun i w => w.1 ≤ v.1 + i) (t := m) (i := 0) (v := v) (fun j w _ _ hw => ?_) (by show v.1 ≤ v.1 + 0; omega)
    · rw [Nat.zero_add] at this; exact this
    · unfold cmF
      by_cases c1 : eI h (x + 23 + 41) j < d
      · rw [if_pos c1]; omega
      · rw [if_neg c1]
        by_cases c2 : (lk h x d dt j).1 = -1
        · rw [if_pos c2]; omega
        · rw [if_neg c2]; show w.1 + 1 ≤ _; omega
  have z0 : (0 : Int64) = Int64.ofNat 0 := by decide
  rw [← nI0]
  have s0 : ((0, 0, 0) : Nat × Int64 × Int64).1 = 0 := rfl
  refine itr_loop (inv := fun i v => Rn M_X0_compare 44 [(0, rV x), (1, iV d), (2, iV b), (3, iV dt), (4, jV (Int64.ofNat v.1)), (6, jV v.2.1), (8, jV v.2.2), (10, iV (nI i))] [] h k n _ E) (f := cmF h x d dt) (m := nS h x) (s := ((0, 0, 0) : Nat × Int64 × Int64)) (fun i v hi hw => ?_) ?_
  · obtain ⟨a1, a2, a3, a4, a5⟩ := H.stoI hi
    obtain ⟨s1, s2, s3, s4, s5, s6⟩ := H.ps i hi
    refine b_X0_compare_44 H.xw ⟨fun c => absurd c a1, fun _ => ?_⟩
    rw [a3]
    refine ⟨a2, a4, ?_⟩
    rintro _ rfl
    unfold P_X8_day V_X8_day
    rw [s2]
    unfold cmF at hw
    rw [← nI_add1] at hw
    refine ⟨s1, fun c => ?_, fun c => ?_⟩
    · rw [if_neg (fun z => absurd c ((lt1 _ _).mpr z))] at hw
      refine ct_X0_like H hi ⟨H.xw, ?_⟩
      unfold lkr
      rcases lk_cases h x d dt i with e | ⟨q, hq, e⟩
      · rw [if_pos e] at hw ⊢
        refine b_X0_compare_91 H.xw ⟨fun c => absurd rfl c, fun _ => ?_⟩
        rintro _ rfl; exact hw
      · have nm := nI_nm1 (show q < 2 ^ 31 by omega)
        rw [e] at hw ⊢
        rw [if_neg nm] at hw ⊢
        rw [ix_nI (by omega)] at hw ⊢
        obtain ⟨t1, t2, t3, t4, -⟩ := H.ps q hq
        have e5 := Nat.ne_of_gt (wf.lt t1 (by decide)).1
        refine b_X0_compare_91 H.xw ⟨fun _ => ?_, fun c => absurd c e5⟩
        unfold P_X8_spilt V_X8_spilt
        rw [t4, s4]
        rintro _ rfl
        refine ⟨t1, t1, ?_⟩
        rintro _ rfl
        refine ⟨s1, s1, ?_⟩
        rintro _ rfl _ rfl
        rw [nL_succ]; exact hw
    · rw [if_pos ((lt1 _ _).mp c)] at hw
      refine b_X0_compare_91 H.xw ⟨fun c => absurd rfl c, fun _ => ?_⟩
      rintro _ rfl; exact hw
  have c40 := cnt (nS h x) (0, 0, 0)
  have fin : ∀ v0 : Int64, (b = 0 → v0 = Int64.ofNat (itr (cmF h x d dt) 0 (nS h x) (0, 0, 0)).1) → (b = 1 → v0 = (itr (cmF h x d dt) 0 (nS h x) (0, 0, 0)).2.1) → (b = 2 → v0 = (itr (cmF h x d dt) 0 (nS h x) (0, 0, 0)).2.2) → (¬ b = 0 → ¬ b = 1 → ¬ b = 2 → v0 = if lg_cmp (((itr (cmF h x d dt) 0 (nS h x) (0, 0, 0)).2.1 - (itr (cmF h x d dt) 0 (nS h x) (0, 0, 0)).2.2) * 100) (Int32.toInt64 dt * (itr (cmF h x d dt) 0 (nS h x) (0, 0, 0)).2.1) ≤ 0 then 0 else 1) → CtJ M_X3_compare [rV (x + 23), iV d, iV b] h 0 0 (fun r2 h2 => v0 = r2 ∧ R h2) E := by
    intro v0 e0 e1 e2 e3
    refine b_X3_compare_0 H.mw ⟨fun c => absurd (c1.symm.trans c) (by decide), fun _ => ⟨fun _ => ?_, fun c => absurd (c2.symm.trans c) (by decide)⟩⟩
    rw [← nI0]
    refine itr_loop (inv := fun i v => Rn M_X3_compare 35 [(0, rV (x + 23)), (1, iV d), (2, iV b), (3, iV (nI v.1)), (4, jV v.2.1), (6, jV v.2.2), (8, iV (nI i))] [] h 0 0 _ E) (f := cmF h x d dt) (m := nS h x) (s := ((0, 0, 0) : Nat × Int64 × Int64)) (fun i v hi hw => ?_) ?_
    · have vi : vp_in (nI i) 40 := vin_nI (by omega) (by decide)
      refine b_X3_compare_35 H.mw ⟨fun c => absurd c (by rw [hn.1, nIle (by omega) (by omega)]; omega), fun _ => ⟨vi, ?_⟩⟩
      rw [ix_nI (by omega)]
      unfold cmF at hw
      rw [← nI_add1 (m := i)] at hw
      refine ⟨fun c => ?_, fun c => ?_⟩
      · rw [if_neg (fun z => absurd c ((lt1 _ _).mpr z))] at hw
        refine ct_X3_like H hi ⟨H.mw, ?_⟩
        rw [hdt]
        rcases lk_cases h x d dt i with e | ⟨q, hq, e⟩
        · rw [if_pos e] at hw
          rw [e]
          refine b_X3_compare_66 H.mw ⟨fun c => absurd rfl c, fun _ => ?_⟩
          rintro _ rfl; exact hw
        · have nm := nI_nm1 (show q < 2 ^ 31 by omega)
          rw [e] at hw ⊢
          rw [if_neg nm] at hw
          rw [ix_nI (by omega)] at hw
          refine b_X3_compare_66 H.mw ⟨fun _ => ?_, fun c => absurd c nm⟩
          rw [ix_nI (by omega), ix_nI (by omega)]
          rintro _ rfl
          refine ⟨vin_nI (by omega) (by decide), ?_⟩
          rintro _ rfl
          refine ⟨vi, ?_⟩
          rintro _ rfl _ rfl
          rw [nI_add1]; exact hw
      · rw [if_pos ((lt1 _ _).mp c)] at hw
        refine b_X3_compare_66 H.mw ⟨fun c => absurd rfl c, fun _ => ?_⟩
        rintro _ rfl; exact hw
    · refine b_X3_compare_35 H.mw ⟨fun _ => ⟨fun c0 => ⟨fun c1 => ⟨fun c2 => ⟨H.lwp, ?_⟩, fun c2 => ⟨e2 c2, g⟩⟩, fun c1 => ⟨e1 c1, g⟩⟩, fun c0 => ⟨?_, g⟩⟩, fun c => absurd (by rw [hn.1]; exact Int32.le_refl _) c⟩
      · unfold V_X3_now
        rw [hdt]
        have e3 := e3 c0 c1 c2
        refine ⟨fun z => b_X3_compare_167 H.mw ⟨?_, g⟩, fun z => b_X3_compare_167 H.mw ⟨?_, g⟩⟩
        · rw [e3, if_pos z]; decide
        · rw [e3, if_neg z]; decide
      · rw [e0 c0, to64_nI (by omega)]
  refine b_X0_compare_44 H.xw ⟨fun _ => ⟨fun c0 => ⟨fun c1 => ⟨fun c2 => ⟨fun z => ?_, fun z => ?_⟩, fun c2 => ?_⟩, fun c1 => ?_⟩, fun c0 => ?_⟩, fun c => absurd H.stoE c⟩
  · exact fin _ (fun u => absurd u c0) (fun u => absurd u c1) (fun u => absurd u c2) (fun _ _ _ => by rw [if_pos z])
  · exact fin _ (fun u => absurd u c0) (fun u => absurd u c1) (fun u => absurd u c2) (fun _ _ _ => by rw [if_neg z])
  · exact fin _ (fun u => absurd u c0) (fun u => absurd u c1) (fun _ => rfl) (fun _ _ u => absurd c2 u)
  · exact fin _ (fun u => absurd u c0) (fun _ => rfl) (fun u => absurd (c1.symm.trans u) (by decide)) (fun _ u => absurd c1 u)
  · exact fin _ (fun _ => rfl) (fun u => absurd (c0.symm.trans u) (by decide)) (fun u => absurd (c0.symm.trans u) (by decide)) (fun u => absurd c0 u)
end
