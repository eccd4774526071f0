/-! walks -/
set_option maxRecDepth 100000
theorem b_J0_init_0 {this : Nat} {h : Hp} {k n : Nat} {Q : Hp → Prop} {E : Nat → Hp → Prop} (hw : kd h this ≠ 0 ∧ (Q h)) : Rn M_J0_init 0 [(0, rV this)] [] h k n (qV Q) E := by
  refine r_aload_n (q := 1) dJ0_init_0 rfl 0 rfl ?_
  obtain ⟨g101, hw⟩ := hw
  refine r_objInit (q := 4) q108 q95 q96 dJ0_init_1 rfl g101 (Nat.le_of_ble_eq_true rfl) (Nat.le_of_ble_eq_true rfl) ?_
  exact r_vret dJ0_init_4 rfl hw
theorem b_J1_init_0 {this : Nat} {h : Hp} {k n : Nat} {Q : Hp → Prop} {E : Nat → Hp → Prop} (hw : kd h this ≠ 0 ∧ (CtV M_J0_init [rV this] h 0 0 (fun h102 => kd h102 this = 12 ∧ (∀ h104 : Hp, h104 = pI h102 1100 this 0 → Q h104)) E)) : Rn M_J1_init 0 [(0, rV this)] [] h k n (qV Q) E := by
  refine r_aload_n (q := 1) dJ1_init_0 rfl 0 rfl ?_
  obtain ⟨g101, hw⟩ := hw
  refine r_cIV0 (q := 4) _ [] N_J1_1 rfl rfl dJ1_init_1 rfl rfl rfl g101 ?_
  refine r_monoCV (fun h102 hw => ?_) hw
  refine r_aload_n (q := 5) dJ1_init_4 rfl 0 rfl ?_
  refine r_iconst (q := 6) dJ1_init_5 rfl kI_0 ?_
  obtain ⟨g103, hw⟩ := hw
  refine r_putI (q := 9) L_J1_7 dJ1_init_6 rfl g103 ?_
  refine r_kpI g103 (fun g103 => ?_)
  have hw := hw _ rfl
  exact r_vret dJ1_init_9 rfl hw
theorem b_J2_init_0 {this : Nat} {h : Hp} {k n : Nat} {Q : Hp → Prop} {E : Nat → Hp → Prop} (hw : kd h this ≠ 0 ∧ (CtV M_J1_init [rV this] h 0 0 (fun h102 => kd h102 this = 12 ∧ (∀ h104 : Hp, h104 = pR h102 1101 this (kc h102 0) → Q h104)) E)) : Rn M_J2_init 0 [(0, rV this)] [] h k n (qV Q) E := by
  refine r_aload_n (q := 1) dJ2_init_0 rfl 0 rfl ?_
  obtain ⟨g101, hw⟩ := hw
  refine r_cIV0 (q := 4) _ [] N_J2_1 rfl rfl dJ2_init_1 rfl rfl rfl g101 ?_
  refine r_monoCV (fun h102 hw => ?_) hw
  refine r_aload_n (q := 5) dJ2_init_4 rfl 0 rfl ?_
  refine r_gets (q := 8) z_empty q109 dJ2_init_5 rfl ?_
  obtain ⟨g103, hw⟩ := hw
  refine r_putR (q := 11) L_J2_9 (Or.inr ⟨_, rfl⟩) dJ2_init_8 rfl g103 ?_
  refine r_kpR g103 (fun g103 => ?_)
  have hw := hw _ rfl
  exact r_vret dJ2_init_11 rfl hw
theorem b_J3_newLength_0 {x0 x1 x2 : Int32} {h : Hp} {k n : Nat} {Q : Int32 → Hp → Prop} {E : Nat → Hp → Prop} (hw : ∀ x101 : Int32, x101 = x0 + (imax x1 x2) → (x101 ≤ 0 → False) ∧ (¬ x101 ≤ 0 → (2147483639 < x101 → False) ∧ (¬ 2147483639 < x101 → Q x101 h))) : Rn M_J3_newLength 0 [(0, iV x0), (1, iV x1), (2, iV x2)] [] h k n (qI Q) E := by
  refine r_iload_n (q := 1) dJ3_newLength_0 rfl 0 rfl ?_
  refine r_iload_n (q := 2) dJ3_newLength_1 rfl 1 rfl ?_
  refine r_iload_n (q := 3) dJ3_newLength_2 rfl 2 rfl ?_
  refine r_mmax (q := 6) q449 dJ3_newLength_3 rfl rfl ?_
  refine r_iadd (q := 7) dJ3_newLength_6 rfl ?_
  have hw := hw _ rfl
  refine r_istore_n (q := 8) (lv' := [(0, _), (1, _), (2, _), (3, _)]) dJ3_newLength_7 rfl (Nat.le_of_ble_eq_true rfl) rfl ?_
  refine r_iconst (q := 9) dJ3_newLength_8 rfl kI_0 ?_
  refine r_iload_n (q := 10) dJ3_newLength_9 rfl 3 rfl ?_
  refine r_icmp_ge (tg := 21) (q := 13) dJ3_newLength_10 (by decide) rfl (fun c => ?_) (fun c => ?_)
  · have hw := hw.1 c
    exact hw.elim
  · have hw := hw.2 c
    refine r_iload_n (q := 14) dJ3_newLength_13 rfl 3 rfl ?_
    refine r_ldc (q := 16) dJ3_newLength_14 rfl q452 ?_
    refine r_icmp_gt (tg := 21) (q := 19) dJ3_newLength_16 (by decide) rfl (fun c => ?_) (fun c => ?_)
    · have hw := hw.1 c
      exact hw.elim
    · have hw := hw.2 c
      refine r_iload_n (q := 20) dJ3_newLength_19 rfl 3 rfl ?_
      exact r_iret dJ3_newLength_20 rfl hw
theorem b_J5_copyOf_0 {x1 : Int32} {r0 : Nat} {h : Hp} {k n : Nat} {Q : Nat → Hp → Prop} {E : Nat → Hp → Prop} (hw : (kd h r0 = 65 ∨ kd h r0 = 75) ∧ (∃ k103 n104 k105 n106 : Nat, k103 + k105 ≤ k ∧ n104 + n106 ≤ n ∧ CtR M_J5_copyOf_2 [rV r0, iV x1, rV (kc h 20)] h k103 n104 (fun r107 h102 => Q r107 h102) E)) : Rn M_J5_copyOf 0 [(0, rV r0), (1, iV x1)] [] h k n (qR Q) E := by
  refine r_aload_n (q := 1) dJ5_copyOf_0 rfl 0 rfl ?_
  refine r_iload_n (q := 2) dJ5_copyOf_1 rfl 1 rfl ?_
  refine r_aload_n (q := 3) dJ5_copyOf_2 rfl 0 rfl ?_
  obtain ⟨g101, hw⟩ := hw
  refine r_getC (q := 6) q459 dJ5_copyOf_3 rfl g101 rfl ?_
  obtain ⟨k103, n104, k105, n106, hk, hn, hw⟩ := hw
  refine r_cSR (q := 9) [_, _, _] N_J5_300 dJ5_copyOf_6 rfl rfl rfl rfl hk hn ?_
  refine r_monoCR (fun r107 h102 hw => ?_) hw
  exact r_aret dJ5_copyOf_9 rfl (Or.inr ⟨_, rfl⟩) hw
theorem b_J5_copyOf_2_0 {x1 : Int32} {r0 r2 : Nat} {h : Hp} {k n : Nat} {Q : Nat → Hp → Prop} {E : Nat → Hp → Prop} (hw : (¬ r2 = (kc h 20) → False) ∧ (r2 = (kc h 20) → (1 ≤ k ∧ (ix x1) ≤ n ∧ ¬ x1 < 0 ∧ (ix x1) ≤ 65536) ∧ (∀ r102 : Nat, r102 = nx h → ∀ h103 : Hp, h103 = nA h 4 (ix x1) → (kd h103 r0 = 65 ∨ kd h103 r0 = 75) ∧ (CpR h103 r0 r102 0 0 (imin (nI (ln h103 r0)) x1) ∧ (∀ h106 : Hp, h106 = cpR h103 r0 (ix 0) r102 (ix 0) (ix (imin (nI (ln h103 r0)) x1)) → Q r102 h106))))) : Rn M_J5_copyOf_2 0 [(0, rV r0), (1, iV x1), (2, rV r2)] [] h k n (qR Q) E := by
  refine r_aload_n (q := 1) dJ5_copyOf_2_0 rfl 2 rfl ?_
  refine r_ldcM (q := 3) q481 dJ5_copyOf_2_1 rfl ?_
  refine r_acmp_ne (tg := 13) (q := 6) dJ5_copyOf_2_3 (by decide) rfl (fun c => ?_) (fun c => ?_)
  · have hw := hw.1 c
    exact hw.elim
  · have hw := hw.2 c
    refine r_iload_n (q := 7) dJ5_copyOf_2_6 rfl 1 rfl ?_
    refine r_wfH (fun wf => ?_)
    obtain ⟨g101, hw⟩ := hw
    refine r_newq (q := 10) (N := (ix x1)) (k' := (k - 1)) (n' := (n - (ix x1))) q483 dJ5_copyOf_2_7 rfl g101.2.2.1 rfl g101.2.2.2 (by omega) (by omega) ?_
    have hw := hw _ rfl
    have hw := hw _ rfl
    refine r_goto (tg := 24) dJ5_copyOf_2_10 (by decide) ?_
    refine r_astore_n (q := 25) (lv' := [(0, _), (1, _), (2, _), (3, _)]) dJ5_copyOf_2_24 rfl (Nat.le_of_ble_eq_true rfl) rfl ?_
    refine r_aload_n (q := 26) dJ5_copyOf_2_25 rfl 0 rfl ?_
    refine r_iconst (q := 27) dJ5_copyOf_2_26 rfl kI_0 ?_
    refine r_aload_n (q := 28) dJ5_copyOf_2_27 rfl 3 rfl ?_
    refine r_iconst (q := 29) dJ5_copyOf_2_28 rfl kI_0 ?_
    refine r_aload_n (q := 30) dJ5_copyOf_2_29 rfl 0 rfl ?_
    obtain ⟨g104, hw⟩ := hw
    refine r_alen2 (t := 4) (q := 31) dJ5_copyOf_2_30 rfl (by decide) g104 ?_
    refine r_iload_n (q := 32) dJ5_copyOf_2_31 rfl 1 rfl ?_
    refine r_mmin (q := 35) q484 dJ5_copyOf_2_32 rfl rfl ?_
    obtain ⟨g105, hw⟩ := hw
    refine r_copyRG (q := 38) q487 dJ5_copyOf_2_35 rfl rfl g105 ?_
    have hw := hw _ rfl
    refine r_aload_n (q := 39) dJ5_copyOf_2_38 rfl 3 rfl ?_
    exact r_aret dJ5_copyOf_2_39 rfl (Or.inr ⟨_, rfl⟩) hw
theorem b_J2_grow_0 {this : Nat} {h : Hp} {k n : Nat} {Q : Nat → Hp → Prop} {E : Nat → Hp → Prop} (hw : kd h this = 12 ∧ (∃ k103 n104 k105 n106 : Nat, k103 + k105 ≤ k ∧ n104 + n106 ≤ n ∧ CtR M_J2_grow_2 [rV this, iV ((gI h 1102 this) + 1)] h k103 n104 (fun r107 h102 => Q r107 h102) E)) : Rn M_J2_grow 0 [(0, rV this)] [] h k n (qR Q) E := by
  refine r_aload_n (q := 1) dJ2_grow_0 rfl 0 rfl ?_
  refine r_aload_n (q := 2) dJ2_grow_1 rfl 0 rfl ?_
  obtain ⟨g101, hw⟩ := hw
  refine r_getI (q := 5) L_J2_48 dJ2_grow_2 rfl g101 ?_
  refine r_iconst (q := 6) dJ2_grow_5 rfl kI_1 ?_
  refine r_iadd (q := 7) dJ2_grow_6 rfl ?_
  obtain ⟨k103, n104, k105, n106, hk, hn, hw⟩ := hw
  refine r_cVR (q := 10) _ [_] N_J2_69 rfl dJ2_grow_7 rfl rfl rfl g101 rfl hk hn ?_
  refine r_monoCR (fun r107 h102 hw => ?_) hw
  exact r_aret dJ2_grow_10 rfl (Or.inr ⟨_, rfl⟩) hw
theorem b_J2_grow_2_0 {x1 : Int32} {this : Nat} {h : Hp} {k n : Nat} {Q : Nat → Hp → Prop} {E : Nat → Hp → Prop} (hw : kd h this = 12 ∧ ((kd h (gR h 1101 this) = 65 ∨ kd h (gR h 1101 this) = 75) ∧ (∀ x103 : Int32, x103 = nI (ln h (gR h 1101 this)) → (0 < x103 → Rn M_J2_grow_2 20 [(0, rV this), (1, iV x1), (2, iV x103)] [] h k n (qR Q) E) ∧ (¬ 0 < x103 → ((gR h 1101 this) = (kc h 0) → (1 ≤ k ∧ (ix (imax 10 x1)) ≤ n ∧ ¬ (imax 10 x1) < 0 ∧ (ix (imax 10 x1)) ≤ 65536) ∧ (∀ r105 : Nat, r105 = nx h → ∀ h106 : Hp, h106 = nA h 4 (ix (imax 10 x1)) → ∀ h107 : Hp, h107 = pR h106 1101 this r105 → Q r105 h107)) ∧ (¬ (gR h 1101 this) = (kc h 0) → Rn M_J2_grow_2 20 [(0, rV this), (1, iV x1), (2, iV x103)] [] h k n (qR Q) E))))) : Rn M_J2_grow_2 0 [(0, rV this), (1, iV x1)] [] h k n (qR Q) E := by
  refine r_aload_n (q := 1) dJ2_grow_2_0 rfl 0 rfl ?_
  obtain ⟨g101, hw⟩ := hw
  refine r_getR (q := 4) L_J2_9 dJ2_grow_2_1 rfl g101 rfl ?_
  obtain ⟨g102, hw⟩ := hw
  refine r_alen2 (t := 4) (q := 5) dJ2_grow_2_4 rfl (by decide) g102 ?_
  have hw := hw _ rfl
  refine r_istore_n (q := 6) (lv' := [(0, _), (1, _), (2, _)]) dJ2_grow_2_5 rfl (Nat.le_of_ble_eq_true rfl) rfl ?_
  refine r_iload_n (q := 7) dJ2_grow_2_6 rfl 2 rfl ?_
  refine r_if_gt (tg := 20) (q := 10) dJ2_grow_2_7 (by decide) rfl (fun c => ?_) (fun c => ?_)
  · have hw := hw.1 c
    exact hw
  · have hw := hw.2 c
    refine r_aload_n (q := 11) dJ2_grow_2_10 rfl 0 rfl ?_
    refine r_getR (q := 14) L_J2_9 dJ2_grow_2_11 rfl g101 rfl ?_
    refine r_gets (q := 17) z_empty q109 dJ2_grow_2_14 rfl ?_
    refine r_acmp_eq (tg := 45) (q := 20) dJ2_grow_2_17 (by decide) rfl (fun c => ?_) (fun c => ?_)
    · have hw := hw.1 c
      refine r_aload_n (q := 46) dJ2_grow_2_45 rfl 0 rfl ?_
      refine r_bipush (q := 48) dJ2_grow_2_46 rfl kB_10 ?_
      refine r_iload_n (q := 49) dJ2_grow_2_48 rfl 1 rfl ?_
      refine r_mmax (q := 52) q490 dJ2_grow_2_49 rfl rfl ?_
      refine r_wfH (fun wf => ?_)
      obtain ⟨g104, hw⟩ := hw
      refine r_newq (q := 55) (N := (ix (imax 10 x1))) (k' := (k - 1)) (n' := (n - (ix (imax 10 x1)))) q491 dJ2_grow_2_52 rfl g104.2.2.1 rfl g104.2.2.2 (by omega) (by omega) ?_
      have hw := hw _ rfl
      refine r_knA wf g101 (by decide) (fun g101 => ?_)
      have hw := hw _ rfl
      refine r_dup_x1 (q := 56) dJ2_grow_2_55 rfl rfl rfl ?_
      refine r_putR (q := 59) L_J2_9 (Or.inr ⟨_, rfl⟩) dJ2_grow_2_56 rfl g101 ?_
      refine r_kpR g101 (fun g101 => ?_)
      refine r_kpR (kd_nA _ _ _) (fun g108 => ?_)
      have hw := hw _ rfl
      exact r_aret dJ2_grow_2_59 rfl (Or.inr ⟨_, rfl⟩) hw
    · have hw := hw.2 c
      exact hw
theorem b_J2_grow_2_20 {x1 x2 : Int32} {this : Nat} {h : Hp} {k n : Nat} {Q : Nat → Hp → Prop} {E : Nat → Hp → Prop} (hw : CtI M_J3_newLength [iV x2, iV (x1 - x2), iV (shr x2 1)] h 0 0 (fun x102 h101 => kd h101 this = 12 ∧ (∃ k105 n106 k107 n108 : Nat, k105 + k107 ≤ k ∧ n106 + n108 ≤ n ∧ CtR M_J5_copyOf [rV (gR h101 1101 this), iV x102] h101 k105 n106 (fun r109 h104 => kd h104 this = 12 ∧ (∀ h111 : Hp, h111 = pR h104 1101 this r109 → Q r109 h111)) E)) E) : Rn M_J2_grow_2 20 [(0, rV this), (1, iV x1), (2, iV x2)] [] h k n (qR Q) E := by
  refine r_iload_n (q := 21) dJ2_grow_2_20 rfl 2 rfl ?_
  refine r_iload_n (q := 22) dJ2_grow_2_21 rfl 1 rfl ?_
  refine r_iload_n (q := 23) dJ2_grow_2_22 rfl 2 rfl ?_
  refine r_isub (q := 24) dJ2_grow_2_23 rfl ?_
  refine r_iload_n (q := 25) dJ2_grow_2_24 rfl 2 rfl ?_
  refine r_iconst (q := 26) dJ2_grow_2_25 rfl kI_1 ?_
  refine r_ishr (q := 27) dJ2_grow_2_26 rfl ?_
  refine r_cSI0 (q := 30) [_, _, _] N_J2_73 dJ2_grow_2_27 rfl rfl rfl rfl ?_
  refine r_monoCI (fun x102 h101 hw => ?_) hw
  refine r_istore_n (q := 31) (lv' := [(0, _), (1, _), (2, _), (3, _)]) dJ2_grow_2_30 rfl (Nat.le_of_ble_eq_true rfl) rfl ?_
  refine r_aload_n (q := 32) dJ2_grow_2_31 rfl 0 rfl ?_
  refine r_aload_n (q := 33) dJ2_grow_2_32 rfl 0 rfl ?_
  obtain ⟨g103, hw⟩ := hw
  refine r_getR (q := 36) L_J2_9 dJ2_grow_2_33 rfl g103 rfl ?_
  refine r_iload_n (q := 37) dJ2_grow_2_36 rfl 3 rfl ?_
  obtain ⟨k105, n106, k107, n108, hk, hn, hw⟩ := hw
  refine r_cSR (q := 40) [_, _] N_J2_66 dJ2_grow_2_37 rfl rfl rfl rfl hk hn ?_
  refine r_monoCR (fun r109 h104 hw => ?_) hw
  refine r_dup_x1 (q := 41) dJ2_grow_2_40 rfl rfl rfl ?_
  obtain ⟨g110, hw⟩ := hw
  refine r_putR (q := 44) L_J2_9 (Or.inr ⟨_, rfl⟩) dJ2_grow_2_41 rfl g110 ?_
  refine r_kpR g110 (fun g110 => ?_)
  have hw := hw _ rfl
  exact r_aret dJ2_grow_2_44 rfl (Or.inr ⟨_, rfl⟩) hw
theorem b_J2_add_0 {this r1 : Nat} {h : Hp} {k n : Nat} {Q : Int32 → Hp → Prop} {E : Nat → Hp → Prop} (hw : kd h this = 12 ∧ (∀ h102 : Hp, h102 = pI h 1100 this ((gI h 1100 this) + 1) → ∃ k104 n105 k106 n107 : Nat, k104 + k106 ≤ k ∧ n105 + n107 ≤ n ∧ CtV M_J2_add_2 [rV this, rV r1, rV (gR h102 1101 this), iV (gI h102 1102 this)] h102 k104 n105 (fun h103 => Q 1 h103) E)) : Rn M_J2_add 0 [(0, rV this), (1, rV r1)] [] h k n (qI Q) E := by
  refine r_aload_n (q := 1) dJ2_add_0 rfl 0 rfl ?_
  refine r_dup (q := 2) dJ2_add_1 rfl rfl ?_
  obtain ⟨g101, hw⟩ := hw
  refine r_getI (q := 5) L_J2_63 dJ2_add_2 rfl g101 ?_
  refine r_iconst (q := 6) dJ2_add_5 rfl kI_1 ?_
  refine r_iadd (q := 7) dJ2_add_6 rfl ?_
  refine r_putI (q := 10) L_J2_63 dJ2_add_7 rfl g101 ?_
  refine r_kpI g101 (fun g101 => ?_)
  have hw := hw _ rfl
  refine r_aload_n (q := 11) dJ2_add_10 rfl 0 rfl ?_
  refine r_aload_n (q := 12) dJ2_add_11 rfl 1 rfl ?_
  refine r_aload_n (q := 13) dJ2_add_12 rfl 0 rfl ?_
  refine r_getR (q := 16) L_J2_9 dJ2_add_13 rfl g101 rfl ?_
  refine r_aload_n (q := 17) dJ2_add_16 rfl 0 rfl ?_
  refine r_getI (q := 20) L_J2_48 dJ2_add_17 rfl g101 ?_
  obtain ⟨k104, n105, k106, n107, hk, hn, hw⟩ := hw
  refine r_cVV (q := 23) _ [_, _, _] N_J2_131 rfl dJ2_add_20 rfl rfl rfl g101 rfl hk hn ?_
  refine r_monoCV (fun h103 hw => ?_) hw
  refine r_iconst (q := 24) dJ2_add_23 rfl kI_1 ?_
  exact r_zret dJ2_add_24 rfl (Or.inr rfl) hw
theorem b_J2_add_2_0 {x3 : Int32} {this r1 r2 : Nat} {h : Hp} {k n : Nat} {Q : Hp → Prop} {E : Nat → Hp → Prop} (hw : (kd h r2 = 65 ∨ kd h r2 = 75) ∧ ((¬ x3 = (nI (ln h r2)) → Rn M_J2_add_2 11 [(0, rV this), (1, rV r1), (2, rV r2), (3, iV x3)] [] h k n (qV Q) E) ∧ (x3 = (nI (ln h r2)) → kd h this = 12 ∧ (∃ k104 n105 k106 n107 : Nat, k104 + k106 ≤ k ∧ n105 + n107 ≤ n ∧ CtR M_J2_grow [rV this] h k104 n105 (fun r108 h103 => Rn M_J2_add_2 11 [(0, rV this), (1, rV r1), (2, rV r108), (3, iV x3)] [] h103 k106 n107 (qV Q) E) E)))) : Rn M_J2_add_2 0 [(0, rV this), (1, rV r1), (2, rV r2), (3, iV x3)] [] h k n (qV Q) E := by
  refine r_iload_n (q := 1) dJ2_add_2_0 rfl 3 rfl ?_
  refine r_aload_n (q := 2) dJ2_add_2_1 rfl 2 rfl ?_
  obtain ⟨g101, hw⟩ := hw
  refine r_alen2 (t := 4) (q := 3) dJ2_add_2_2 rfl (by decide) g101 ?_
  refine r_icmp_ne (tg := 11) (q := 6) dJ2_add_2_3 (by decide) rfl (fun c => ?_) (fun c => ?_)
  · have hw := hw.1 c
    exact hw
  · have hw := hw.2 c
    refine r_aload_n (q := 7) dJ2_add_2_6 rfl 0 rfl ?_
    obtain ⟨g102, hw⟩ := hw
    obtain ⟨k104, n105, k106, n107, hk, hn, hw⟩ := hw
    refine r_cVR (q := 10) _ [] N_J2_129 rfl dJ2_add_2_7 rfl rfl rfl g102 rfl hk hn ?_
    refine r_monoCR (fun r108 h103 hw => ?_) hw
    refine r_astore_n (q := 11) (lv' := [(0, _), (1, _), (2, _), (3, _)]) dJ2_add_2_10 rfl (Nat.le_of_ble_eq_true rfl) rfl ?_
    exact hw
theorem b_J2_add_2_11 {x3 : Int32} {this r1 r2 : Nat} {h : Hp} {k n : Nat} {Q : Hp → Prop} {E : Nat → Hp → Prop} (hw : kd h r2 = 65 ∧ (vp_in x3 (ln h r2) ∧ (OkR h r1 ∧ (∀ h104 : Hp, h104 = sR h r2 (ix x3) r1 → kd h104 this = 12 ∧ (∀ h106 : Hp, h106 = pI h104 1102 this (x3 + 1) → Q h106))))) : Rn M_J2_add_2 11 [(0, rV this), (1, rV r1), (2, rV r2), (3, iV x3)] [] h k n (qV Q) E := by
  refine r_aload_n (q := 12) dJ2_add_2_11 rfl 2 rfl ?_
  refine r_iload_n (q := 13) dJ2_add_2_12 rfl 3 rfl ?_
  refine r_aload_n (q := 14) dJ2_add_2_13 rfl 1 rfl ?_
  obtain ⟨g101, hw⟩ := hw
  obtain ⟨g102, hw⟩ := hw
  obtain ⟨g103, hw⟩ := hw
  refine r_aastG (q := 15) dJ2_add_2_14 rfl g101 g102 g103 ?_
  refine r_ksR g101 (fun g101 => ?_)
  have hw := hw _ rfl
  refine r_aload_n (q := 16) dJ2_add_2_15 rfl 0 rfl ?_
  refine r_iload_n (q := 17) dJ2_add_2_16 rfl 3 rfl ?_
  refine r_iconst (q := 18) dJ2_add_2_17 rfl kI_1 ?_
  refine r_iadd (q := 19) dJ2_add_2_18 rfl ?_
  obtain ⟨g105, hw⟩ := hw
  refine r_putI (q := 22) L_J2_48 dJ2_add_2_19 rfl g105 ?_
  refine r_kpI g101 (fun g101 => ?_)
  refine r_kpI g105 (fun g105 => ?_)
  have hw := hw _ rfl
  exact r_vret dJ2_add_2_22 rfl hw
