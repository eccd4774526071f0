/-! walks -/
set_option maxRecDepth 100000
theorem b_J8_init_0 {this : Nat} {h : Hp} {k n : Nat} {Q : Hp → Prop} {E : Nat → Hp → Prop} (hw : kd h this ≠ 0 ∧ (Q h)) : Rn M_J8_init 0 [(0, rV this)] [] h k n (qV Q) E := by
  refine r_aload_n (q := 1) dJ8_init_0 rfl 0 rfl ?_
  obtain ⟨g101, hw⟩ := hw
  refine r_objInit (q := 4) q1034 q95 q96 dJ8_init_1 rfl g101 (Nat.le_of_ble_eq_true rfl) (Nat.le_of_ble_eq_true rfl) ?_
  exact r_vret dJ8_init_4 rfl hw
theorem b_X4_init_0 {x1 x2 x3 x4 x5 : Int32} {this : Nat} {h : Hp} {k n : Nat} {Q : Hp → Prop} {E : Nat → Hp → Prop} (hw : kd h this ≠ 0 ∧ (kd h this = 2 ∧ (∀ h103 : Hp, h103 = pI h 105 this (-1) → (1 ≤ k ∧ 3 ≤ n) ∧ (∀ r105 : Nat, r105 = nx h103 → ∀ h106 : Hp, h106 = nO h103 11 → CtV M_J2_init [rV r105] h106 0 0 (fun h107 => kd h107 this = 2 ∧ (∀ h109 : Hp, h109 = pR h107 110 this r105 → ∀ h110 : Hp, h110 = pI h109 100 this x1 → ∀ h111 : Hp, h111 = pI h110 101 this x2 → ∀ h112 : Hp, h112 = pI h111 102 this x3 → ∀ h113 : Hp, h113 = pI h112 103 this x4 → ∀ h114 : Hp, h114 = pI h113 104 this x5 → Q h114)) E)))) : Rn M_X4_init 0 [(0, rV this), (1, iV x1), (2, iV x2), (3, iV x3), (4, iV x4), (5, iV x5)] [] h k n (qV Q) E := by
  refine r_aload_n (q := 1) dX4_init_0 rfl 0 rfl ?_
  obtain ⟨g101, hw⟩ := hw
  refine r_objInit (q := 4) q379 q95 q96 dX4_init_1 rfl g101 (Nat.le_of_ble_eq_true rfl) (Nat.le_of_ble_eq_true rfl) ?_
  refine r_aload_n (q := 5) dX4_init_4 rfl 0 rfl ?_
  refine r_iconst (q := 6) dX4_init_5 rfl kI_m1 ?_
  obtain ⟨g102, hw⟩ := hw
  refine r_putI (q := 9) L_X4_9 dX4_init_6 rfl g102 ?_
  refine r_kpI g102 (fun g102 => ?_)
  have hw := hw _ rfl
  refine r_aload_n (q := 10) dX4_init_9 rfl 0 rfl ?_
  refine r_wfH (fun wf => ?_)
  obtain ⟨g104, hw⟩ := hw
  refine r_new (q := 13) (k' := (k - 1)) (n' := (n - 3)) K_X4_15 dX4_init_10 rfl (by omega) (by omega) ?_
  have hw := hw _ rfl
  refine r_knO wf g102 (by decide) (fun g102 => ?_)
  have hw := hw _ rfl
  refine r_dup (q := 14) dX4_init_13 rfl rfl ?_
  refine r_cIV0 (q := 17) _ [] N_X4_17 rfl rfl dX4_init_14 rfl rfl rfl (by rw [(kd_nO _ _)]; decide) ?_
  refine r_monoCV (fun h107 hw => ?_) hw
  obtain ⟨g108, hw⟩ := hw
  refine r_putRF (q := 20) L_X4_18 (Or.inl ⟨_, rfl⟩) ⟨rfl, fun q hq => by cases hq; rfl⟩ dX4_init_17 rfl g108 ?_
  refine r_kpR g108 (fun g108 => ?_)
  have hw := hw _ rfl
  refine r_aload_n (q := 21) dX4_init_20 rfl 0 rfl ?_
  refine r_iload_n (q := 22) dX4_init_21 rfl 1 rfl ?_
  refine r_putIF (q := 25) L_X4_22 ⟨rfl, fun q hq => by cases hq; rfl⟩ dX4_init_22 rfl g108 ?_
  refine r_kpI g108 (fun g108 => ?_)
  have hw := hw _ rfl
  refine r_aload_n (q := 26) dX4_init_25 rfl 0 rfl ?_
  refine r_iload_n (q := 27) dX4_init_26 rfl 2 rfl ?_
  refine r_putIF (q := 30) L_X4_25 ⟨rfl, fun q hq => by cases hq; rfl⟩ dX4_init_27 rfl g108 ?_
  refine r_kpI g108 (fun g108 => ?_)
  have hw := hw _ rfl
  refine r_aload_n (q := 31) dX4_init_30 rfl 0 rfl ?_
  refine r_iload_n (q := 32) dX4_init_31 rfl 3 rfl ?_
  refine r_putIF (q := 35) L_X4_28 ⟨rfl, fun q hq => by cases hq; rfl⟩ dX4_init_32 rfl g108 ?_
  refine r_kpI g108 (fun g108 => ?_)
  have hw := hw _ rfl
  refine r_aload_n (q := 36) dX4_init_35 rfl 0 rfl ?_
  refine r_iload (q := 38) dX4_init_36 rfl 4 rfl ?_
  refine r_putIF (q := 41) L_X4_31 ⟨rfl, fun q hq => by cases hq; rfl⟩ dX4_init_38 rfl g108 ?_
  refine r_kpI g108 (fun g108 => ?_)
  have hw := hw _ rfl
  refine r_aload_n (q := 42) dX4_init_41 rfl 0 rfl ?_
  refine r_iload (q := 44) dX4_init_42 rfl 5 rfl ?_
  refine r_putIF (q := 47) L_X4_34 ⟨rfl, fun q hq => by cases hq; rfl⟩ dX4_init_44 rfl g108 ?_
  refine r_kpI g108 (fun g108 => ?_)
  have hw := hw _ rfl
  exact r_vret dX4_init_47 rfl hw
theorem b_X5_init_0 {x1 x3 x4 x5 : Int32} {this r2 : Nat} {h : Hp} {k n : Nat} {Q : Hp → Prop} {E : Nat → Hp → Prop} (hw : kd h this ≠ 0 ∧ (kd h this = 3 ∧ (∀ h103 : Hp, h103 = pI h 200 this x1 → ∀ h104 : Hp, h104 = pR h103 204 this r2 → ∀ h105 : Hp, h105 = pI h104 201 this x3 → ∀ h106 : Hp, h106 = pI h105 202 this x4 → ∀ h107 : Hp, h107 = pI h106 203 this x5 → Q h107))) : Rn M_X5_init 0 [(0, rV this), (1, iV x1), (2, rV r2), (3, iV x3), (4, iV x4), (5, iV x5)] [] h k n (qV Q) E := by
  refine r_aload_n (q := 1) dX5_init_0 rfl 0 rfl ?_
  obtain ⟨g101, hw⟩ := hw
  refine r_objInit (q := 4) q523 q95 q96 dX5_init_1 rfl g101 (Nat.le_of_ble_eq_true rfl) (Nat.le_of_ble_eq_true rfl) ?_
  refine r_aload_n (q := 5) dX5_init_4 rfl 0 rfl ?_
  refine r_iload_n (q := 6) dX5_init_5 rfl 1 rfl ?_
  obtain ⟨g102, hw⟩ := hw
  refine r_putIF (q := 9) L_X5_7 ⟨rfl, fun q hq => by cases hq; rfl⟩ dX5_init_6 rfl g102 ?_
  refine r_kpI g102 (fun g102 => ?_)
  have hw := hw _ rfl
  refine r_aload_n (q := 10) dX5_init_9 rfl 0 rfl ?_
  refine r_aload_n (q := 11) dX5_init_10 rfl 2 rfl ?_
  refine r_putRF (q := 14) L_X5_13 (Or.inl ⟨_, rfl⟩) ⟨rfl, fun q hq => by cases hq; rfl⟩ dX5_init_11 rfl g102 ?_
  refine r_kpR g102 (fun g102 => ?_)
  have hw := hw _ rfl
  refine r_aload_n (q := 15) dX5_init_14 rfl 0 rfl ?_
  refine r_iload_n (q := 16) dX5_init_15 rfl 3 rfl ?_
  refine r_putIF (q := 19) L_X5_17 ⟨rfl, fun q hq => by cases hq; rfl⟩ dX5_init_16 rfl g102 ?_
  refine r_kpI g102 (fun g102 => ?_)
  have hw := hw _ rfl
  refine r_aload_n (q := 20) dX5_init_19 rfl 0 rfl ?_
  refine r_iload (q := 22) dX5_init_20 rfl 4 rfl ?_
  refine r_putIF (q := 25) L_X5_20 ⟨rfl, fun q hq => by cases hq; rfl⟩ dX5_init_22 rfl g102 ?_
  refine r_kpI g102 (fun g102 => ?_)
  have hw := hw _ rfl
  refine r_aload_n (q := 26) dX5_init_25 rfl 0 rfl ?_
  refine r_iload (q := 28) dX5_init_26 rfl 5 rfl ?_
  refine r_putIF (q := 31) L_X5_23 ⟨rfl, fun q hq => by cases hq; rfl⟩ dX5_init_28 rfl g102 ?_
  refine r_kpI g102 (fun g102 => ?_)
  have hw := hw _ rfl
  exact r_vret dX5_init_31 rfl hw
theorem b_X6_init_0 {x3 x4 x5 : Int32} {this r1 r2 : Nat} {h : Hp} {k n : Nat} {Q : Hp → Prop} {E : Nat → Hp → Prop} (hw : kd h this = 4 ∧ (∀ h102 : Hp, h102 = pR h 313 this r1 → ∀ h103 : Hp, h103 = pI h102 310 this (-1) → ∀ h104 : Hp, h104 = pI h103 312 this 1 → ∀ h105 : Hp, h105 = pR h104 300 this r2 → ∀ h106 : Hp, h106 = pI h105 301 this x3 → ∀ h107 : Hp, h107 = pI h106 302 this x4 → (x5 = 0 ∨ x5 = 1) ∧ (∀ h109 : Hp, h109 = pI h107 304 this x5 → kd h109 r1 = 1 ∧ (∀ h111 : Hp, h111 = pI h109 303 this (gI h109 0 r1) → Q h111)))) : Rn M_X6_init 0 [(0, rV this), (1, rV r1), (2, rV r2), (3, iV x3), (4, iV x4), (5, iV x5)] [] h k n (qV Q) E := by
  refine r_aload_n (q := 1) dX6_init_0 rfl 0 rfl ?_
  refine r_aload_n (q := 2) dX6_init_1 rfl 1 rfl ?_
  obtain ⟨g101, hw⟩ := hw
  refine r_putRF (q := 5) L_X6_3 (Or.inl ⟨_, rfl⟩) ⟨rfl, fun q hq => by cases hq; rfl⟩ dX6_init_2 rfl g101 ?_
  refine r_kpR g101 (fun g101 => ?_)
  have hw := hw _ rfl
  refine r_aload_n (q := 6) dX6_init_5 rfl 0 rfl ?_
  refine r_objInit (q := 9) q580 q95 q96 dX6_init_6 rfl (by rw [g101]; decide) (Nat.le_of_ble_eq_true rfl) (Nat.le_of_ble_eq_true rfl) ?_
  refine r_aload_n (q := 10) dX6_init_9 rfl 0 rfl ?_
  refine r_iconst (q := 11) dX6_init_10 rfl kI_m1 ?_
  refine r_putI (q := 14) L_X6_15 dX6_init_11 rfl g101 ?_
  refine r_kpI g101 (fun g101 => ?_)
  have hw := hw _ rfl
  refine r_aload_n (q := 15) dX6_init_14 rfl 0 rfl ?_
  refine r_iconst (q := 16) dX6_init_15 rfl kI_1 ?_
  refine r_putZ (q := 19) L_X6_19 dX6_init_16 rfl g101 (Or.inr rfl) ?_
  refine r_kpI g101 (fun g101 => ?_)
  have hw := hw _ rfl
  refine r_aload_n (q := 20) dX6_init_19 rfl 0 rfl ?_
  refine r_aload_n (q := 21) dX6_init_20 rfl 2 rfl ?_
  refine r_putRF (q := 24) L_X6_23 (Or.inl ⟨_, rfl⟩) ⟨rfl, fun q hq => by cases hq; rfl⟩ dX6_init_21 rfl g101 ?_
  refine r_kpR g101 (fun g101 => ?_)
  have hw := hw _ rfl
  refine r_aload_n (q := 25) dX6_init_24 rfl 0 rfl ?_
  refine r_iload_n (q := 26) dX6_init_25 rfl 3 rfl ?_
  refine r_putIF (q := 29) L_X6_27 ⟨rfl, fun q hq => by cases hq; rfl⟩ dX6_init_26 rfl g101 ?_
  refine r_kpI g101 (fun g101 => ?_)
  have hw := hw _ rfl
  refine r_aload_n (q := 30) dX6_init_29 rfl 0 rfl ?_
  refine r_iload (q := 32) dX6_init_30 rfl 4 rfl ?_
  refine r_putIF (q := 35) L_X6_30 ⟨rfl, fun q hq => by cases hq; rfl⟩ dX6_init_32 rfl g101 ?_
  refine r_kpI g101 (fun g101 => ?_)
  have hw := hw _ rfl
  refine r_aload_n (q := 36) dX6_init_35 rfl 0 rfl ?_
  refine r_iload (q := 38) dX6_init_36 rfl 5 rfl ?_
  obtain ⟨g108, hw⟩ := hw
  refine r_putZF (q := 41) L_X6_33 ⟨rfl, fun q hq => by cases hq; rfl⟩ dX6_init_38 rfl g101 g108 ?_
  refine r_kpI g101 (fun g101 => ?_)
  have hw := hw _ rfl
  refine r_aload_n (q := 42) dX6_init_41 rfl 0 rfl ?_
  refine r_aload_n (q := 43) dX6_init_42 rfl 1 rfl ?_
  obtain ⟨g110, hw⟩ := hw
  refine r_getI (q := 46) L_X6_36 dX6_init_43 rfl g110 ?_
  refine r_putIF (q := 49) L_X6_39 ⟨rfl, fun q hq => by cases hq; rfl⟩ dX6_init_46 rfl g101 ?_
  refine r_kpI g101 (fun g101 => ?_)
  refine r_kpI g110 (fun g110 => ?_)
  have hw := hw _ rfl
  exact r_vret dX6_init_49 rfl hw
theorem b_X7_init_0 {x1 x3 x4 : Int32} {this r2 : Nat} {h : Hp} {k n : Nat} {Q : Hp → Prop} {E : Nat → Hp → Prop} (hw : kd h this ≠ 0 ∧ (kd h this = 9 ∧ (∀ h103 : Hp, h103 = pI h 805 this 1 → ∀ h104 : Hp, h104 = pI h103 806 this 1 → ∀ h105 : Hp, h105 = pI h104 801 this x1 → ∀ h106 : Hp, h106 = pR h105 800 this r2 → ∀ h107 : Hp, h107 = pI h106 802 this x3 → ∀ h108 : Hp, h108 = pI h107 803 this x4 → ∀ h109 : Hp, h109 = pI h108 804 this x4 → Q h109))) : Rn M_X7_init 0 [(0, rV this), (1, iV x1), (2, rV r2), (3, iV x3), (4, iV x4)] [] h k n (qV Q) E := by
  refine r_aload_n (q := 1) dX7_init_0 rfl 0 rfl ?_
  obtain ⟨g101, hw⟩ := hw
  refine r_objInit (q := 4) q1129 q95 q96 dX7_init_1 rfl g101 (Nat.le_of_ble_eq_true rfl) (Nat.le_of_ble_eq_true rfl) ?_
  refine r_aload_n (q := 5) dX7_init_4 rfl 0 rfl ?_
  refine r_iconst (q := 6) dX7_init_5 rfl kI_1 ?_
  obtain ⟨g102, hw⟩ := hw
  refine r_putI (q := 9) L_X7_7 dX7_init_6 rfl g102 ?_
  refine r_kpI g102 (fun g102 => ?_)
  have hw := hw _ rfl
  refine r_aload_n (q := 10) dX7_init_9 rfl 0 rfl ?_
  refine r_iconst (q := 11) dX7_init_10 rfl kI_1 ?_
  refine r_putZ (q := 14) L_X7_13 dX7_init_11 rfl g102 (Or.inr rfl) ?_
  refine r_kpI g102 (fun g102 => ?_)
  have hw := hw _ rfl
  refine r_aload_n (q := 15) dX7_init_14 rfl 0 rfl ?_
  refine r_iload_n (q := 16) dX7_init_15 rfl 1 rfl ?_
  refine r_putIF (q := 19) L_X7_17 ⟨rfl, fun q hq => by cases hq; rfl⟩ dX7_init_16 rfl g102 ?_
  refine r_kpI g102 (fun g102 => ?_)
  have hw := hw _ rfl
  refine r_aload_n (q := 20) dX7_init_19 rfl 0 rfl ?_
  refine r_aload_n (q := 21) dX7_init_20 rfl 2 rfl ?_
  refine r_putRF (q := 24) L_X7_20 (Or.inl ⟨_, rfl⟩) ⟨rfl, fun q hq => by cases hq; rfl⟩ dX7_init_21 rfl g102 ?_
  refine r_kpR g102 (fun g102 => ?_)
  have hw := hw _ rfl
  refine r_aload_n (q := 25) dX7_init_24 rfl 0 rfl ?_
  refine r_iload_n (q := 26) dX7_init_25 rfl 3 rfl ?_
  refine r_putIF (q := 29) L_X7_24 ⟨rfl, fun q hq => by cases hq; rfl⟩ dX7_init_26 rfl g102 ?_
  refine r_kpI g102 (fun g102 => ?_)
  have hw := hw _ rfl
  refine r_aload_n (q := 30) dX7_init_29 rfl 0 rfl ?_
  refine r_iload (q := 32) dX7_init_30 rfl 4 rfl ?_
  refine r_putIF (q := 35) L_X7_27 ⟨rfl, fun q hq => by cases hq; rfl⟩ dX7_init_32 rfl g102 ?_
  refine r_kpI g102 (fun g102 => ?_)
  have hw := hw _ rfl
  refine r_aload_n (q := 36) dX7_init_35 rfl 0 rfl ?_
  refine r_iload (q := 38) dX7_init_36 rfl 4 rfl ?_
  refine r_putI (q := 41) L_X7_30 dX7_init_38 rfl g102 ?_
  refine r_kpI g102 (fun g102 => ?_)
  have hw := hw _ rfl
  exact r_vret dX7_init_41 rfl hw
theorem b_X8_init_0 {x1 x6 x7 : Int32} {y2 y4 : Int64} {this : Nat} {h : Hp} {k n : Nat} {Q : Hp → Prop} {E : Nat → Hp → Prop} (hw : kd h this ≠ 0 ∧ (CtV M_J8_init [rV this] h 0 0 (fun h102 => kd h102 this = 8 ∧ (∀ h104 : Hp, h104 = pI h102 700 this x1 → ∀ h105 : Hp, h105 = pJ h104 701 this y2 → ∀ h106 : Hp, h106 = pJ h105 702 this y4 → ∀ h107 : Hp, h107 = pI h106 703 this x6 → ∀ h108 : Hp, h108 = pI h107 704 this x7 → Q h108)) E)) : Rn M_X8_init 0 [(0, rV this), (1, iV x1), (2, jV y2), (4, jV y4), (6, iV x6), (7, iV x7)] [] h k n (qV Q) E := by
  refine r_aload_n (q := 1) dX8_init_0 rfl 0 rfl ?_
  obtain ⟨g101, hw⟩ := hw
  refine r_cIV0 (q := 4) _ [] N_X8_1 rfl rfl dX8_init_1 rfl rfl rfl g101 ?_
  refine r_monoCV (fun h102 hw => ?_) hw
  refine r_aload_n (q := 5) dX8_init_4 rfl 0 rfl ?_
  refine r_iload_n (q := 6) dX8_init_5 rfl 1 rfl ?_
  obtain ⟨g103, hw⟩ := hw
  refine r_putIF (q := 9) L_X8_7 ⟨rfl, fun q hq => by cases hq; rfl⟩ dX8_init_6 rfl g103 ?_
  refine r_kpI g103 (fun g103 => ?_)
  have hw := hw _ rfl
  refine r_aload_n (q := 10) dX8_init_9 rfl 0 rfl ?_
  refine r_lload_n (q := 11) dX8_init_10 rfl 2 rfl ?_
  refine r_putJF (q := 14) L_X8_13 ⟨rfl, fun q hq => by cases hq; rfl⟩ dX8_init_11 rfl g103 ?_
  refine r_kpJ g103 (fun g103 => ?_)
  have hw := hw _ rfl
  refine r_aload_n (q := 15) dX8_init_14 rfl 0 rfl ?_
  refine r_lload (q := 17) dX8_init_15 rfl 3 rfl ?_
  refine r_putJF (q := 20) L_X8_17 ⟨rfl, fun q hq => by cases hq; rfl⟩ dX8_init_17 rfl g103 ?_
  refine r_kpJ g103 (fun g103 => ?_)
  have hw := hw _ rfl
  refine r_aload_n (q := 21) dX8_init_20 rfl 0 rfl ?_
  refine r_iload (q := 23) dX8_init_21 rfl 4 rfl ?_
  refine r_putIF (q := 26) L_X8_20 ⟨rfl, fun q hq => by cases hq; rfl⟩ dX8_init_23 rfl g103 ?_
  refine r_kpI g103 (fun g103 => ?_)
  have hw := hw _ rfl
  refine r_aload_n (q := 27) dX8_init_26 rfl 0 rfl ?_
  refine r_iload (q := 29) dX8_init_27 rfl 5 rfl ?_
  refine r_putIF (q := 32) L_X8_23 ⟨rfl, fun q hq => by cases hq; rfl⟩ dX8_init_29 rfl g103 ?_
  refine r_kpI g103 (fun g103 => ?_)
  have hw := hw _ rfl
  exact r_vret dX8_init_32 rfl hw
theorem b_X10_init_0 {x1 x2 x3 x4 : Int32} {this : Nat} {h : Hp} {k n : Nat} {Q : Hp → Prop} {E : Nat → Hp → Prop} (hw : kd h this ≠ 0 ∧ (CtV M_J8_init [rV this] h 0 0 (fun h102 => kd h102 this = 7 ∧ (∀ h104 : Hp, h104 = pI h102 600 this x1 → ∀ h105 : Hp, h105 = pI h104 601 this x2 → ∀ h106 : Hp, h106 = pI h105 602 this x3 → ∀ h107 : Hp, h107 = pI h106 603 this x4 → Q h107)) E)) : Rn M_X10_init 0 [(0, rV this), (1, iV x1), (2, iV x2), (3, iV x3), (4, iV x4)] [] h k n (qV Q) E := by
  refine r_aload_n (q := 1) dX10_init_0 rfl 0 rfl ?_
  obtain ⟨g101, hw⟩ := hw
  refine r_cIV0 (q := 4) _ [] N_X10_1 rfl rfl dX10_init_1 rfl rfl rfl g101 ?_
  refine r_monoCV (fun h102 hw => ?_) hw
  refine r_aload_n (q := 5) dX10_init_4 rfl 0 rfl ?_
  refine r_iload_n (q := 6) dX10_init_5 rfl 1 rfl ?_
  obtain ⟨g103, hw⟩ := hw
  refine r_putIF (q := 9) L_X10_7 ⟨rfl, fun q hq => by cases hq; rfl⟩ dX10_init_6 rfl g103 ?_
  refine r_kpI g103 (fun g103 => ?_)
  have hw := hw _ rfl
  refine r_aload_n (q := 10) dX10_init_9 rfl 0 rfl ?_
  refine r_iload_n (q := 11) dX10_init_10 rfl 2 rfl ?_
  refine r_putIF (q := 14) L_X10_13 ⟨rfl, fun q hq => by cases hq; rfl⟩ dX10_init_11 rfl g103 ?_
  refine r_kpI g103 (fun g103 => ?_)
  have hw := hw _ rfl
  refine r_aload_n (q := 15) dX10_init_14 rfl 0 rfl ?_
  refine r_iload_n (q := 16) dX10_init_15 rfl 3 rfl ?_
  refine r_putIF (q := 19) L_X10_16 ⟨rfl, fun q hq => by cases hq; rfl⟩ dX10_init_16 rfl g103 ?_
  refine r_kpI g103 (fun g103 => ?_)
  have hw := hw _ rfl
  refine r_aload_n (q := 20) dX10_init_19 rfl 0 rfl ?_
  refine r_iload (q := 22) dX10_init_20 rfl 4 rfl ?_
  refine r_putIF (q := 25) L_X10_19 ⟨rfl, fun q hq => by cases hq; rfl⟩ dX10_init_22 rfl g103 ?_
  refine r_kpI g103 (fun g103 => ?_)
  have hw := hw _ rfl
  exact r_vret dX10_init_25 rfl hw
theorem b_X0_corner_0 {x1 x2 x3 x4 : Int32} {xo : Nat} {h : Hp} {k n : Nat} {Q : Int32 → Hp → Prop} {E : Nat → Hp → Prop} (hm : XW h xo) (hw : ((isin x1 1 100) = false → Q (-1) h) ∧ ((isin x1 1 100) = true → ((isin x2 1 500) = false → Q (-1) h) ∧ ((isin x2 1 500) = true → ((isin x3 0 9) = false → Q (-1) h) ∧ ((isin x3 0 9) = true → ((isin x4 0 500) = false → Q (-1) h) ∧ ((isin x4 0 500) = true → (¬ (gI h 1102 (xo + 2)) = 12 → (1 ≤ k ∧ 11 ≤ n) ∧ (∀ r102 : Nat, r102 = nx h → ∀ h103 : Hp, h103 = nO h 1 → ∃ k105 n106 k107 n108 : Nat, k105 + k107 ≤ (k - 1) ∧ n106 + n108 ≤ (n - 11) ∧ CtV M_X4_init [rV r102, iV (gI h103 1102 (xo + 2)), iV x1, iV x2, iV x3, iV x4] h103 k105 n106 (fun h104 => XW h104 xo ∧ (∃ k110 n111 k112 n113 : Nat, k110 + k112 ≤ k107 ∧ n111 + n113 ≤ n108 ∧ CtI M_J2_add [rV (xo + 2), rV r102] h104 k110 n111 (fun x114 h109 => XW h109 xo ∧ (Q ((gI h109 1102 (xo + 2)) - 1) h109)) E)) E)) ∧ ((gI h 1102 (xo + 2)) = 12 → Q (-1) h)))))) : Rn M_X0_corner 0 [(0, rV xo), (1, iV x1), (2, iV x2), (3, iV x3), (4, iV x4)] [] h k n (qI Q) E := by
  refine r_iload_n (q := 1) dX0_corner_0 rfl 1 rfl ?_
  refine r_iconst (q := 2) dX0_corner_1 rfl kI_1 ?_
  refine r_bipush (q := 4) dX0_corner_2 rfl kB_100 ?_
  refine r_cSI0 (q := 7) [_, _, _] N_X0_3 dX0_corner_4 rfl rfl rfl rfl ?_
  refine ct_X0_isIn  ?_
  refine r_ifb_eq (tg := 55) (q := 10) dX0_corner_7 (by decide) rfl (fun c => ?_) (fun c => ?_)
  · have hw := hw.1 c
    refine r_iconst (q := 56) dX0_corner_55 rfl kI_m1 ?_
    exact r_iret dX0_corner_56 rfl hw
  · have hw := hw.2 c
    refine r_iload_n (q := 11) dX0_corner_10 rfl 2 rfl ?_
    refine r_iconst (q := 12) dX0_corner_11 rfl kI_1 ?_
    refine r_sipush (q := 15) dX0_corner_12 rfl kS_500 ?_
    refine r_cSI0 (q := 18) [_, _, _] N_X0_3 dX0_corner_15 rfl rfl rfl rfl ?_
    refine ct_X0_isIn  ?_
    refine r_ifb_eq (tg := 55) (q := 21) dX0_corner_18 (by decide) rfl (fun c => ?_) (fun c => ?_)
    · have hw := hw.1 c
      refine r_iconst (q := 56) dX0_corner_55 rfl kI_m1 ?_
      exact r_iret dX0_corner_56 rfl hw
    · have hw := hw.2 c
      refine r_iload_n (q := 22) dX0_corner_21 rfl 3 rfl ?_
      refine r_iconst (q := 23) dX0_corner_22 rfl kI_0 ?_
      refine r_bipush (q := 25) dX0_corner_23 rfl kB_9 ?_
      refine r_cSI0 (q := 28) [_, _, _] N_X0_3 dX0_corner_25 rfl rfl rfl rfl ?_
      refine ct_X0_isIn  ?_
      refine r_ifb_eq (tg := 55) (q := 31) dX0_corner_28 (by decide) rfl (fun c => ?_) (fun c => ?_)
      · have hw := hw.1 c
        refine r_iconst (q := 56) dX0_corner_55 rfl kI_m1 ?_
        exact r_iret dX0_corner_56 rfl hw
      · have hw := hw.2 c
        refine r_iload (q := 33) dX0_corner_31 rfl 4 rfl ?_
        refine r_iconst (q := 34) dX0_corner_33 rfl kI_0 ?_
        refine r_sipush (q := 37) dX0_corner_34 rfl kS_500 ?_
        refine r_cSI0 (q := 40) [_, _, _] N_X0_3 dX0_corner_37 rfl rfl rfl rfl ?_
        refine ct_X0_isIn  ?_
        refine r_ifb_eq (tg := 55) (q := 43) dX0_corner_40 (by decide) rfl (fun c => ?_) (fun c => ?_)
        · have hw := hw.1 c
          refine r_iconst (q := 56) dX0_corner_55 rfl kI_m1 ?_
          exact r_iret dX0_corner_56 rfl hw
        · have hw := hw.2 c
          refine r_aload_n (q := 44) dX0_corner_43 rfl 0 rfl ?_
          refine r_getR (q := 47) L_X0_20 dX0_corner_44 rfl (xw_k hm) (xwr_corners hm) ?_
          refine r_cVI0 (q := 50) _ [] N_X0_77 rfl dX0_corner_47 rfl rfl rfl (xwk_corners hm) rfl ?_
          refine ct_J2_size (xwk_corners hm) ?_
          refine r_bipush (q := 52) dX0_corner_50 rfl kB_12 ?_
          refine r_icmp_ne (tg := 57) (q := 55) dX0_corner_52 (by decide) rfl (fun c => ?_) (fun c => ?_)
          · have hw := hw.1 c
            refine r_aload_n (q := 58) dX0_corner_57 rfl 0 rfl ?_
            refine r_getR (q := 61) L_X0_20 dX0_corner_58 rfl (xw_k hm) (xwr_corners hm) ?_
            refine r_wfH (fun wf => ?_)
            obtain ⟨g101, hw⟩ := hw
            refine r_new (q := 64) (k' := (k - 1)) (n' := (n - 11)) K_X0_85 dX0_corner_61 rfl (by omega) (by omega) ?_
            have hw := hw _ rfl
            refine r_xw_nO hm (fun hm => ?_)
            have hw := hw _ rfl
            refine r_dup (q := 65) dX0_corner_64 rfl rfl ?_
            refine r_aload_n (q := 66) dX0_corner_65 rfl 0 rfl ?_
            refine r_getR (q := 69) L_X0_20 dX0_corner_66 rfl (xw_k hm) (xwr_corners hm) ?_
            refine r_cVI0 (q := 72) _ [] N_X0_77 rfl dX0_corner_69 rfl rfl rfl (xwk_corners hm) rfl ?_
            refine ct_J2_size (xwk_corners hm) ?_
            refine r_iload_n (q := 73) dX0_corner_72 rfl 1 rfl ?_
            refine r_iload_n (q := 74) dX0_corner_73 rfl 2 rfl ?_
            refine r_iload_n (q := 75) dX0_corner_74 rfl 3 rfl ?_
            refine r_iload (q := 77) dX0_corner_75 rfl 4 rfl ?_
            obtain ⟨k105, n106, k107, n108, hk, hn, hw⟩ := hw
            refine r_cIV (q := 80) _ [_, _, _, _, _] N_X0_97 rfl rfl dX0_corner_77 rfl rfl rfl (by rw [(kd_nO _ _)]; decide) hk hn ?_
            refine r_monoCV (fun h104 hw => ?_) hw
            obtain ⟨hm, hw⟩ := hw
            obtain ⟨k110, n111, k112, n113, hk, hn, hw⟩ := hw
            refine r_cVI (q := 83) _ [_] N_X0_100 rfl dX0_corner_80 rfl rfl rfl (xwk_corners hm) rfl hk hn ?_
            refine r_monoCI (fun x114 h109 hw => ?_) hw
            obtain ⟨hm, hw⟩ := hw
            refine r_pop (q := 84) dX0_corner_83 rfl rfl ?_
            refine r_aload_n (q := 85) dX0_corner_84 rfl 0 rfl ?_
            refine r_getR (q := 88) L_X0_20 dX0_corner_85 rfl (xw_k hm) (xwr_corners hm) ?_
            refine r_cVI0 (q := 91) _ [] N_X0_77 rfl dX0_corner_88 rfl rfl rfl (xwk_corners hm) rfl ?_
            refine ct_J2_size (xwk_corners hm) ?_
            refine r_iconst (q := 92) dX0_corner_91 rfl kI_1 ?_
            refine r_isub (q := 93) dX0_corner_92 rfl ?_
            exact r_iret dX0_corner_93 rfl hw
          · have hw := hw.2 c
            refine r_iconst (q := 56) dX0_corner_55 rfl kI_m1 ?_
            exact r_iret dX0_corner_56 rfl hw
theorem b_X3_corner_0 {x1 x2 x3 x4 : Int32} {mo : Nat} {h : Hp} {k n : Nat} {Q : Int32 → Hp → Prop} {E : Nat → Hp → Prop} (hm : MW h mo) (hw : ((isin x1 1 100) = false → Q (-1) h) ∧ ((isin x1 1 100) = true → ((isin x2 1 500) = false → Q (-1) h) ∧ ((isin x2 1 500) = true → ((isin x3 0 9) = false → Q (-1) h) ∧ ((isin x3 0 9) = true → ((isin x4 0 500) = false → Q (-1) h) ∧ ((isin x4 0 500) = true → (¬ (gI h 1001 mo) = 12 → vp_in (gI h 1001 mo) 12 ∧ (∀ h102 : Hp, h102 = sI h (mo + 1) (ix (gI h 1001 mo)) x1 → vp_in (gI h102 1001 mo) 12 ∧ (∀ h104 : Hp, h104 = sI h102 (mo + 2) (ix (gI h102 1001 mo)) x2 → vp_in (gI h104 1001 mo) 12 ∧ (∀ h106 : Hp, h106 = sI h104 (mo + 3) (ix (gI h104 1001 mo)) x3 → vp_in (gI h106 1001 mo) 12 ∧ (∀ h108 : Hp, h108 = sI h106 (mo + 4) (ix (gI h106 1001 mo)) x4 → vp_in (gI h108 1001 mo) 12 ∧ (∀ h110 : Hp, h110 = sI h108 (mo + 5) (ix (gI h108 1001 mo)) (-1) → ∀ h111 : Hp, h111 = pI h110 1001 mo ((gI h110 1001 mo) + 1) → Q ((gI h111 1001 mo) - 1) h111)))))) ∧ ((gI h 1001 mo) = 12 → Q (-1) h)))))) : Rn M_X3_corner 0 [(0, rV mo), (1, iV x1), (2, iV x2), (3, iV x3), (4, iV x4)] [] h k n (qI Q) E := by
  refine r_iload_n (q := 1) dX3_corner_0 rfl 1 rfl ?_
  refine r_iconst (q := 2) dX3_corner_1 rfl kI_1 ?_
  refine r_bipush (q := 4) dX3_corner_2 rfl kB_100 ?_
  refine r_cSI0 (q := 7) [_, _, _] N_X3_194 dX3_corner_4 rfl rfl rfl rfl ?_
  refine ct_X3_isIn  ?_
  refine r_ifb_eq (tg := 52) (q := 10) dX3_corner_7 (by decide) rfl (fun c => ?_) (fun c => ?_)
  · have hw := hw.1 c
    refine r_iconst (q := 53) dX3_corner_52 rfl kI_m1 ?_
    exact r_iret dX3_corner_53 rfl hw
  · have hw := hw.2 c
    refine r_iload_n (q := 11) dX3_corner_10 rfl 2 rfl ?_
    refine r_iconst (q := 12) dX3_corner_11 rfl kI_1 ?_
    refine r_sipush (q := 15) dX3_corner_12 rfl kS_500 ?_
    refine r_cSI0 (q := 18) [_, _, _] N_X3_194 dX3_corner_15 rfl rfl rfl rfl ?_
    refine ct_X3_isIn  ?_
    refine r_ifb_eq (tg := 52) (q := 21) dX3_corner_18 (by decide) rfl (fun c => ?_) (fun c => ?_)
    · have hw := hw.1 c
      refine r_iconst (q := 53) dX3_corner_52 rfl kI_m1 ?_
      exact r_iret dX3_corner_53 rfl hw
    · have hw := hw.2 c
      refine r_iload_n (q := 22) dX3_corner_21 rfl 3 rfl ?_
      refine r_iconst (q := 23) dX3_corner_22 rfl kI_0 ?_
      refine r_bipush (q := 25) dX3_corner_23 rfl kB_9 ?_
      refine r_cSI0 (q := 28) [_, _, _] N_X3_194 dX3_corner_25 rfl rfl rfl rfl ?_
      refine ct_X3_isIn  ?_
      refine r_ifb_eq (tg := 52) (q := 31) dX3_corner_28 (by decide) rfl (fun c => ?_) (fun c => ?_)
      · have hw := hw.1 c
        refine r_iconst (q := 53) dX3_corner_52 rfl kI_m1 ?_
        exact r_iret dX3_corner_53 rfl hw
      · have hw := hw.2 c
        refine r_iload (q := 33) dX3_corner_31 rfl 4 rfl ?_
        refine r_iconst (q := 34) dX3_corner_33 rfl kI_0 ?_
        refine r_sipush (q := 37) dX3_corner_34 rfl kS_500 ?_
        refine r_cSI0 (q := 40) [_, _, _] N_X3_194 dX3_corner_37 rfl rfl rfl rfl ?_
        refine ct_X3_isIn  ?_
        refine r_ifb_eq (tg := 52) (q := 43) dX3_corner_40 (by decide) rfl (fun c => ?_) (fun c => ?_)
        · have hw := hw.1 c
          refine r_iconst (q := 53) dX3_corner_52 rfl kI_m1 ?_
          exact r_iret dX3_corner_53 rfl hw
        · have hw := hw.2 c
          refine r_aload_n (q := 44) dX3_corner_43 rfl 0 rfl ?_
          refine r_getI (q := 47) L_X3_191 dX3_corner_44 rfl (mw_k hm) ?_
          refine r_bipush (q := 49) dX3_corner_47 rfl kB_12 ?_
          refine r_icmp_ne (tg := 54) (q := 52) dX3_corner_49 (by decide) rfl (fun c => ?_) (fun c => ?_)
          · have hw := hw.1 c
            refine r_aload_n (q := 55) dX3_corner_54 rfl 0 rfl ?_
            refine r_getR (q := 58) L_X3_7 dX3_corner_55 rfl (mw_k hm) (mwr_area hm) ?_
            refine r_aload_n (q := 59) dX3_corner_58 rfl 0 rfl ?_
            refine r_getI (q := 62) L_X3_191 dX3_corner_59 rfl (mw_k hm) ?_
            refine r_iload_n (q := 63) dX3_corner_62 rfl 1 rfl ?_
            obtain ⟨g101, hw⟩ := hw
            refine r_iastL (q := 64) dX3_corner_63 rfl (mwk_area hm) (mwl_area hm) g101 ?_
            refine r_mw_sI hm (fun hm => ?_)
            have hw := hw _ rfl
            refine r_aload_n (q := 65) dX3_corner_64 rfl 0 rfl ?_
            refine r_getR (q := 68) L_X3_13 dX3_corner_65 rfl (mw_k hm) (mwr_pipe hm) ?_
            refine r_aload_n (q := 69) dX3_corner_68 rfl 0 rfl ?_
            refine r_getI (q := 72) L_X3_191 dX3_corner_69 rfl (mw_k hm) ?_
            refine r_iload_n (q := 73) dX3_corner_72 rfl 2 rfl ?_
            obtain ⟨g103, hw⟩ := hw
            refine r_iastL (q := 74) dX3_corner_73 rfl (mwk_pipe hm) (mwl_pipe hm) g103 ?_
            refine r_mw_sI hm (fun hm => ?_)
            have hw := hw _ rfl
            refine r_aload_n (q := 75) dX3_corner_74 rfl 0 rfl ?_
            refine r_getR (q := 78) L_X3_16 dX3_corner_75 rfl (mw_k hm) (mwr_parking hm) ?_
            refine r_aload_n (q := 79) dX3_corner_78 rfl 0 rfl ?_
            refine r_getI (q := 82) L_X3_191 dX3_corner_79 rfl (mw_k hm) ?_
            refine r_iload_n (q := 83) dX3_corner_82 rfl 3 rfl ?_
            obtain ⟨g105, hw⟩ := hw
            refine r_iastL (q := 84) dX3_corner_83 rfl (mwk_parking hm) (mwl_parking hm) g105 ?_
            refine r_mw_sI hm (fun hm => ?_)
            have hw := hw _ rfl
            refine r_aload_n (q := 85) dX3_corner_84 rfl 0 rfl ?_
            refine r_getR (q := 88) L_X3_19 dX3_corner_85 rfl (mw_k hm) (mwr_cellar hm) ?_
            refine r_aload_n (q := 89) dX3_corner_88 rfl 0 rfl ?_
            refine r_getI (q := 92) L_X3_191 dX3_corner_89 rfl (mw_k hm) ?_
            refine r_iload (q := 94) dX3_corner_92 rfl 4 rfl ?_
            obtain ⟨g107, hw⟩ := hw
            refine r_iastL (q := 95) dX3_corner_94 rfl (mwk_cellar hm) (mwl_cellar hm) g107 ?_
            refine r_mw_sI hm (fun hm => ?_)
            have hw := hw _ rfl
            refine r_aload_n (q := 96) dX3_corner_95 rfl 0 rfl ?_
            refine r_getR (q := 99) L_X3_22 dX3_corner_96 rfl (mw_k hm) (mwr_below hm) ?_
            refine r_aload_n (q := 100) dX3_corner_99 rfl 0 rfl ?_
            refine r_getI (q := 103) L_X3_191 dX3_corner_100 rfl (mw_k hm) ?_
            refine r_iconst (q := 104) dX3_corner_103 rfl kI_m1 ?_
            obtain ⟨g109, hw⟩ := hw
            refine r_iastL (q := 105) dX3_corner_104 rfl (mwk_below hm) (mwl_below hm) g109 ?_
            refine r_mw_sI hm (fun hm => ?_)
            have hw := hw _ rfl
            refine r_aload_n (q := 106) dX3_corner_105 rfl 0 rfl ?_
            refine r_dup (q := 107) dX3_corner_106 rfl rfl ?_
            refine r_getI (q := 110) L_X3_191 dX3_corner_107 rfl (mw_k hm) ?_
            refine r_iconst (q := 111) dX3_corner_110 rfl kI_1 ?_
            refine r_iadd (q := 112) dX3_corner_111 rfl ?_
            refine r_putI (q := 115) L_X3_191 dX3_corner_112 rfl (mw_k hm) ?_
            refine r_mw_pI hm (fun hm => ?_)
            have hw := hw _ rfl
            refine r_aload_n (q := 116) dX3_corner_115 rfl 0 rfl ?_
            refine r_getI (q := 119) L_X3_191 dX3_corner_116 rfl (mw_k hm) ?_
            refine r_iconst (q := 120) dX3_corner_119 rfl kI_1 ?_
            refine r_isub (q := 121) dX3_corner_120 rfl ?_
            exact r_iret dX3_corner_121 rfl hw
          · have hw := hw.2 c
            refine r_iconst (q := 53) dX3_corner_52 rfl kI_m1 ?_
            exact r_iret dX3_corner_53 rfl hw
theorem b_X0_roof_0 {x1 x2 x3 x4 : Int32} {xo : Nat} {h : Hp} {k n : Nat} {Q : Int32 → Hp → Prop} {E : Nat → Hp → Prop} (hm : XW h xo) (hw : (atp h xo x1) ∧ (∀ r102 : Nat, r102 = atv h xo x1 → (r102 = 0 → Q (-1) h) ∧ (¬ r102 = 0 → ((isin x2 0 19) = false → Q (-1) h) ∧ ((isin x2 0 19) = true → ((isin x3 1 50) = false → Q (-1) h) ∧ ((isin x3 1 50) = true → ((isin x4 0 200) = false → Q (-1) h) ∧ ((isin x4 0 200) = true → (¬ (gI h 1102 (xo + 3)) = 30 → (1 ≤ k ∧ 7 ≤ n) ∧ (∀ r104 : Nat, r104 = nx h → ∀ h105 : Hp, h105 = nO h 2 → CtV M_X5_init [rV r104, iV (gI h105 1102 (xo + 3)), rV r102, iV x2, iV x3, iV x4] h105 0 0 (fun h106 => XW h106 xo ∧ (∃ k108 n109 k110 n111 : Nat, k108 + k110 ≤ (k - 1) ∧ n109 + n111 ≤ (n - 7) ∧ CtI M_J2_add [rV (xo + 3), rV r104] h106 k108 n109 (fun x112 h107 => XW h107 xo ∧ (kd h107 r102 = 2 ∧ (kd h107 (gR h107 110 r102) = 12 ∧ (∃ k116 n117 k118 n119 : Nat, k116 + k118 ≤ k110 ∧ n117 + n119 ≤ n111 ∧ CtI M_J2_add [rV (gR h107 110 r102), rV r104] h107 k116 n117 (fun x120 h115 => XW h115 xo ∧ (kd h115 r104 = 3 ∧ (Q (gI h115 200 r104) h115))) E)))) E)) E)) ∧ ((gI h 1102 (xo + 3)) = 30 → Q (-1) h))))))) : Rn M_X0_roof 0 [(0, rV xo), (1, iV x1), (2, iV x2), (3, iV x3), (4, iV x4)] [] h k n (qI Q) E := by
  refine r_aload_n (q := 1) dX0_roof_0 rfl 0 rfl ?_
  refine r_iload_n (q := 2) dX0_roof_1 rfl 1 rfl ?_
  obtain ⟨g101, hw⟩ := hw
  refine r_cVR0 (q := 5) _ [_] N_X0_87 rfl dX0_roof_2 rfl rfl rfl (xw_k hm) rfl ?_
  refine ct_X0_at hm g101 ?_
  have hw := hw _ rfl
  refine r_astore (q := 7) (lv' := [(0, _), (1, _), (2, _), (3, _), (4, _), (5, _)]) dX0_roof_5 rfl (Nat.le_of_ble_eq_true rfl) rfl ?_
  refine r_aload (q := 9) dX0_roof_7 rfl 5 rfl ?_
  refine r_ifnull (tg := 56) (q := 12) dX0_roof_9 (by decide) rfl (fun c => ?_) (fun c => ?_)
  · have hw := hw.1 c
    refine r_iconst (q := 57) dX0_roof_56 rfl kI_m1 ?_
    exact r_iret dX0_roof_57 rfl hw
  · have hw := hw.2 c
    refine r_iload_n (q := 13) dX0_roof_12 rfl 2 rfl ?_
    refine r_iconst (q := 14) dX0_roof_13 rfl kI_0 ?_
    refine r_bipush (q := 16) dX0_roof_14 rfl kB_19 ?_
    refine r_cSI0 (q := 19) [_, _, _] N_X0_3 dX0_roof_16 rfl rfl rfl rfl ?_
    refine ct_X0_isIn  ?_
    refine r_ifb_eq (tg := 56) (q := 22) dX0_roof_19 (by decide) rfl (fun c => ?_) (fun c => ?_)
    · have hw := hw.1 c
      refine r_iconst (q := 57) dX0_roof_56 rfl kI_m1 ?_
      exact r_iret dX0_roof_57 rfl hw
    · have hw := hw.2 c
      refine r_iload_n (q := 23) dX0_roof_22 rfl 3 rfl ?_
      refine r_iconst (q := 24) dX0_roof_23 rfl kI_1 ?_
      refine r_bipush (q := 26) dX0_roof_24 rfl kB_50 ?_
      refine r_cSI0 (q := 29) [_, _, _] N_X0_3 dX0_roof_26 rfl rfl rfl rfl ?_
      refine ct_X0_isIn  ?_
      refine r_ifb_eq (tg := 56) (q := 32) dX0_roof_29 (by decide) rfl (fun c => ?_) (fun c => ?_)
      · have hw := hw.1 c
        refine r_iconst (q := 57) dX0_roof_56 rfl kI_m1 ?_
        exact r_iret dX0_roof_57 rfl hw
      · have hw := hw.2 c
        refine r_iload (q := 34) dX0_roof_32 rfl 4 rfl ?_
        refine r_iconst (q := 35) dX0_roof_34 rfl kI_0 ?_
        refine r_sipush (q := 38) dX0_roof_35 rfl kS_200 ?_
        refine r_cSI0 (q := 41) [_, _, _] N_X0_3 dX0_roof_38 rfl rfl rfl rfl ?_
        refine ct_X0_isIn  ?_
        refine r_ifb_eq (tg := 56) (q := 44) dX0_roof_41 (by decide) rfl (fun c => ?_) (fun c => ?_)
        · have hw := hw.1 c
          refine r_iconst (q := 57) dX0_roof_56 rfl kI_m1 ?_
          exact r_iret dX0_roof_57 rfl hw
        · have hw := hw.2 c
          refine r_aload_n (q := 45) dX0_roof_44 rfl 0 rfl ?_
          refine r_getR (q := 48) L_X0_24 dX0_roof_45 rfl (xw_k hm) (xwr_roofs hm) ?_
          refine r_cVI0 (q := 51) _ [] N_X0_77 rfl dX0_roof_48 rfl rfl rfl (xwk_roofs hm) rfl ?_
          refine ct_J2_size (xwk_roofs hm) ?_
          refine r_bipush (q := 53) dX0_roof_51 rfl kB_30 ?_
          refine r_icmp_ne (tg := 58) (q := 56) dX0_roof_53 (by decide) rfl (fun c => ?_) (fun c => ?_)
          · have hw := hw.1 c
            refine r_wfH (fun wf => ?_)
            obtain ⟨g103, hw⟩ := hw
            refine r_new (q := 61) (k' := (k - 1)) (n' := (n - 7)) K_X0_95 dX0_roof_58 rfl (by omega) (by omega) ?_
            have hw := hw _ rfl
            refine r_xw_nO hm (fun hm => ?_)
            have hw := hw _ rfl
            refine r_dup (q := 62) dX0_roof_61 rfl rfl ?_
            refine r_aload_n (q := 63) dX0_roof_62 rfl 0 rfl ?_
            refine r_getR (q := 66) L_X0_24 dX0_roof_63 rfl (xw_k hm) (xwr_roofs hm) ?_
            refine r_cVI0 (q := 69) _ [] N_X0_77 rfl dX0_roof_66 rfl rfl rfl (xwk_roofs hm) rfl ?_
            refine ct_J2_size (xwk_roofs hm) ?_
            refine r_aload (q := 71) dX0_roof_69 rfl 5 rfl ?_
            refine r_iload_n (q := 72) dX0_roof_71 rfl 2 rfl ?_
            refine r_iload_n (q := 73) dX0_roof_72 rfl 3 rfl ?_
            refine r_iload (q := 75) dX0_roof_73 rfl 4 rfl ?_
            refine r_cIV0 (q := 78) _ [_, _, _, _, _] N_X0_107 rfl rfl dX0_roof_75 rfl rfl rfl (by rw [(kd_nO _ _)]; decide) ?_
            refine r_monoCV (fun h106 hw => ?_) hw
            obtain ⟨hm, hw⟩ := hw
            refine r_astore (q := 80) (lv' := [(0, _), (1, _), (2, _), (3, _), (4, _), (5, _), (6, _)]) dX0_roof_78 rfl (Nat.le_of_ble_eq_true rfl) rfl ?_
            refine r_aload_n (q := 81) dX0_roof_80 rfl 0 rfl ?_
            refine r_getR (q := 84) L_X0_24 dX0_roof_81 rfl (xw_k hm) (xwr_roofs hm) ?_
            refine r_aload (q := 86) dX0_roof_84 rfl 6 rfl ?_
            obtain ⟨k108, n109, k110, n111, hk, hn, hw⟩ := hw
            refine r_cVI (q := 89) _ [_] N_X0_100 rfl dX0_roof_86 rfl rfl rfl (xwk_roofs hm) rfl hk hn ?_
            refine r_monoCI (fun x112 h107 hw => ?_) hw
            obtain ⟨hm, hw⟩ := hw
            refine r_pop (q := 90) dX0_roof_89 rfl rfl ?_
            refine r_aload (q := 92) dX0_roof_90 rfl 5 rfl ?_
            obtain ⟨g113, hw⟩ := hw
            refine r_getR (q := 95) L_X0_110 dX0_roof_92 rfl g113 rfl ?_
            refine r_aload (q := 97) dX0_roof_95 rfl 6 rfl ?_
            obtain ⟨g114, hw⟩ := hw
            obtain ⟨k116, n117, k118, n119, hk, hn, hw⟩ := hw
            refine r_cVI (q := 100) _ [_] N_X0_100 rfl dX0_roof_97 rfl rfl rfl g114 rfl hk hn ?_
            refine r_monoCI (fun x120 h115 hw => ?_) hw
            obtain ⟨hm, hw⟩ := hw
            refine r_pop (q := 101) dX0_roof_100 rfl rfl ?_
            refine r_aload (q := 103) dX0_roof_101 rfl 6 rfl ?_
            obtain ⟨g121, hw⟩ := hw
            refine r_getI (q := 106) L_X0_111 dX0_roof_103 rfl g121 ?_
            exact r_iret dX0_roof_106 rfl hw
          · have hw := hw.2 c
            refine r_iconst (q := 57) dX0_roof_56 rfl kI_m1 ?_
            exact r_iret dX0_roof_57 rfl hw
theorem b_X3_roof_0 {x1 x2 x3 x4 : Int32} {mo : Nat} {h : Hp} {k n : Nat} {Q : Int32 → Hp → Prop} {E : Nat → Hp → Prop} (hm : MW h mo) (hw : ((isin x1 0 (gI h 1001 mo - 1)) = false → Q (-1) h) ∧ ((isin x1 0 (gI h 1001 mo - 1)) = true → ((isin x2 0 19) = false → Q (-1) h) ∧ ((isin x2 0 19) = true → ((isin x3 1 50) = false → Q (-1) h) ∧ ((isin x3 1 50) = true → ((isin x4 0 200) = false → Q (-1) h) ∧ ((isin x4 0 200) = true → (¬ (gI h 1002 mo) = 30 → vp_in (gI h 1002 mo) 30 ∧ (∀ h102 : Hp, h102 = sI h (mo + 19) (ix (gI h 1002 mo)) x1 → vp_in (gI h102 1002 mo) 30 ∧ (∀ h104 : Hp, h104 = sI h102 (mo + 20) (ix (gI h102 1002 mo)) x2 → vp_in (gI h104 1002 mo) 30 ∧ (∀ h106 : Hp, h106 = sI h104 (mo + 21) (ix (gI h104 1002 mo)) x3 → vp_in (gI h106 1002 mo) 30 ∧ (∀ h108 : Hp, h108 = sI h106 (mo + 22) (ix (gI h106 1002 mo)) x4 → ∀ h109 : Hp, h109 = pI h108 1002 mo ((gI h108 1002 mo) + 1) → Q ((gI h109 1002 mo) - 1) h109))))) ∧ ((gI h 1002 mo) = 30 → Q (-1) h)))))) : Rn M_X3_roof 0 [(0, rV mo), (1, iV x1), (2, iV x2), (3, iV x3), (4, iV x4)] [] h k n (qI Q) E := by
  refine r_aload_n (q := 1) dX3_roof_0 rfl 0 rfl ?_
  refine r_iload_n (q := 2) dX3_roof_1 rfl 1 rfl ?_
  refine r_cVI0 (q := 5) _ [_] N_X3_198 rfl dX3_roof_2 rfl rfl rfl (mw_k hm) rfl ?_
  refine ct_X3_isCorner hm ?_
  refine r_ifb_eq (tg := 49) (q := 8) dX3_roof_5 (by decide) rfl (fun c => ?_) (fun c => ?_)
  · have hw := hw.1 c
    refine r_iconst (q := 50) dX3_roof_49 rfl kI_m1 ?_
    exact r_iret dX3_roof_50 rfl hw
  · have hw := hw.2 c
    refine r_iload_n (q := 9) dX3_roof_8 rfl 2 rfl ?_
    refine r_iconst (q := 10) dX3_roof_9 rfl kI_0 ?_
    refine r_bipush (q := 12) dX3_roof_10 rfl kB_19 ?_
    refine r_cSI0 (q := 15) [_, _, _] N_X3_194 dX3_roof_12 rfl rfl rfl rfl ?_
    refine ct_X3_isIn  ?_
    refine r_ifb_eq (tg := 49) (q := 18) dX3_roof_15 (by decide) rfl (fun c => ?_) (fun c => ?_)
    · have hw := hw.1 c
      refine r_iconst (q := 50) dX3_roof_49 rfl kI_m1 ?_
      exact r_iret dX3_roof_50 rfl hw
    · have hw := hw.2 c
      refine r_iload_n (q := 19) dX3_roof_18 rfl 3 rfl ?_
      refine r_iconst (q := 20) dX3_roof_19 rfl kI_1 ?_
      refine r_bipush (q := 22) dX3_roof_20 rfl kB_50 ?_
      refine r_cSI0 (q := 25) [_, _, _] N_X3_194 dX3_roof_22 rfl rfl rfl rfl ?_
      refine ct_X3_isIn  ?_
      refine r_ifb_eq (tg := 49) (q := 28) dX3_roof_25 (by decide) rfl (fun c => ?_) (fun c => ?_)
      · have hw := hw.1 c
        refine r_iconst (q := 50) dX3_roof_49 rfl kI_m1 ?_
        exact r_iret dX3_roof_50 rfl hw
      · have hw := hw.2 c
        refine r_iload (q := 30) dX3_roof_28 rfl 4 rfl ?_
        refine r_iconst (q := 31) dX3_roof_30 rfl kI_0 ?_
        refine r_sipush (q := 34) dX3_roof_31 rfl kS_200 ?_
        refine r_cSI0 (q := 37) [_, _, _] N_X3_194 dX3_roof_34 rfl rfl rfl rfl ?_
        refine ct_X3_isIn  ?_
        refine r_ifb_eq (tg := 49) (q := 40) dX3_roof_37 (by decide) rfl (fun c => ?_) (fun c => ?_)
        · have hw := hw.1 c
          refine r_iconst (q := 50) dX3_roof_49 rfl kI_m1 ?_
          exact r_iret dX3_roof_50 rfl hw
        · have hw := hw.2 c
          refine r_aload_n (q := 41) dX3_roof_40 rfl 0 rfl ?_
          refine r_getI (q := 44) L_X3_202 dX3_roof_41 rfl (mw_k hm) ?_
          refine r_bipush (q := 46) dX3_roof_44 rfl kB_30 ?_
          refine r_icmp_ne (tg := 51) (q := 49) dX3_roof_46 (by decide) rfl (fun c => ?_) (fun c => ?_)
          · have hw := hw.1 c
            refine r_aload_n (q := 52) dX3_roof_51 rfl 0 rfl ?_
            refine r_getR (q := 55) L_X3_65 dX3_roof_52 rfl (mw_k hm) (mwr_roofAt hm) ?_
            refine r_aload_n (q := 56) dX3_roof_55 rfl 0 rfl ?_
            refine r_getI (q := 59) L_X3_202 dX3_roof_56 rfl (mw_k hm) ?_
            refine r_iload_n (q := 60) dX3_roof_59 rfl 1 rfl ?_
            obtain ⟨g101, hw⟩ := hw
            refine r_iastL (q := 61) dX3_roof_60 rfl (mwk_roofAt hm) (mwl_roofAt hm) g101 ?_
            refine r_mw_sI hm (fun hm => ?_)
            have hw := hw _ rfl
            refine r_aload_n (q := 62) dX3_roof_61 rfl 0 rfl ?_
            refine r_getR (q := 65) L_X3_68 dX3_roof_62 rfl (mw_k hm) (mwr_owner hm) ?_
            refine r_aload_n (q := 66) dX3_roof_65 rfl 0 rfl ?_
            refine r_getI (q := 69) L_X3_202 dX3_roof_66 rfl (mw_k hm) ?_
            refine r_iload_n (q := 70) dX3_roof_69 rfl 2 rfl ?_
            obtain ⟨g103, hw⟩ := hw
            refine r_iastL (q := 71) dX3_roof_70 rfl (mwk_owner hm) (mwl_owner hm) g103 ?_
            refine r_mw_sI hm (fun hm => ?_)
            have hw := hw _ rfl
            refine r_aload_n (q := 72) dX3_roof_71 rfl 0 rfl ?_
            refine r_getR (q := 75) L_X3_71 dX3_roof_72 rfl (mw_k hm) (mwr_roofArea hm) ?_
            refine r_aload_n (q := 76) dX3_roof_75 rfl 0 rfl ?_
            refine r_getI (q := 79) L_X3_202 dX3_roof_76 rfl (mw_k hm) ?_
            refine r_iload_n (q := 80) dX3_roof_79 rfl 3 rfl ?_
            obtain ⟨g105, hw⟩ := hw
            refine r_iastL (q := 81) dX3_roof_80 rfl (mwk_roofArea hm) (mwl_roofArea hm) g105 ?_
            refine r_mw_sI hm (fun hm => ?_)
            have hw := hw _ rfl
            refine r_aload_n (q := 82) dX3_roof_81 rfl 0 rfl ?_
            refine r_getR (q := 85) L_X3_74 dX3_roof_82 rfl (mw_k hm) (mwr_barrel hm) ?_
            refine r_aload_n (q := 86) dX3_roof_85 rfl 0 rfl ?_
            refine r_getI (q := 89) L_X3_202 dX3_roof_86 rfl (mw_k hm) ?_
            refine r_iload (q := 91) dX3_roof_89 rfl 4 rfl ?_
            obtain ⟨g107, hw⟩ := hw
            refine r_iastL (q := 92) dX3_roof_91 rfl (mwk_barrel hm) (mwl_barrel hm) g107 ?_
            refine r_mw_sI hm (fun hm => ?_)
            have hw := hw _ rfl
            refine r_aload_n (q := 93) dX3_roof_92 rfl 0 rfl ?_
            refine r_dup (q := 94) dX3_roof_93 rfl rfl ?_
            refine r_getI (q := 97) L_X3_202 dX3_roof_94 rfl (mw_k hm) ?_
            refine r_iconst (q := 98) dX3_roof_97 rfl kI_1 ?_
            refine r_iadd (q := 99) dX3_roof_98 rfl ?_
            refine r_putI (q := 102) L_X3_202 dX3_roof_99 rfl (mw_k hm) ?_
            refine r_mw_pI hm (fun hm => ?_)
            have hw := hw _ rfl
            refine r_aload_n (q := 103) dX3_roof_102 rfl 0 rfl ?_
            refine r_getI (q := 106) L_X3_202 dX3_roof_103 rfl (mw_k hm) ?_
            refine r_iconst (q := 107) dX3_roof_106 rfl kI_1 ?_
            refine r_isub (q := 108) dX3_roof_107 rfl ?_
            exact r_iret dX3_roof_108 rfl hw
          · have hw := hw.2 c
            refine r_iconst (q := 50) dX3_roof_49 rfl kI_m1 ?_
            exact r_iret dX3_roof_50 rfl hw
theorem b_X0_bed_0 {x1 x2 x3 x4 : Int32} {xo : Nat} {h : Hp} {k n : Nat} {Q : Int32 → Hp → Prop} {E : Nat → Hp → Prop} (hm : XW h xo) (hw : (atp h xo x1) ∧ (∀ r102 : Nat, r102 = atv h xo x1 → (r102 = 0 → Q 0 h) ∧ (¬ r102 = 0 → ((isin x2 0 9) = false → Q 0 h) ∧ ((isin x2 0 9) = true → ((isin x3 1 500) = false → Q 0 h) ∧ ((isin x3 1 500) = true → kd h r102 = 2 ∧ ((¬ (gR h 109 r102) = 0 → Q 0 h) ∧ ((gR h 109 r102) = 0 → (CP h xo) ∧ ((P_X0_on h xo (gI h 0 xo)) ∧ (kd h (V_X0_on h xo (gI h 0 xo)) = 5 ∧ ((((prkx h xo) + (gI h 103 r102)) ≤ (gI h 406 (V_X0_on h xo (gI h 0 xo))) → (1 ≤ k ∧ 14 ≤ n) ∧ (∀ r108 : Nat, r108 = nx h → ∀ h109 : Hp, h109 = nO h 3 → CtV M_X6_init [rV r108, rV xo, rV r102, iV x2, iV x3, iV x4] h109 0 0 (fun h110 => XW h110 xo ∧ (kd h110 r102 = 2 ∧ (∀ h112 : Hp, h112 = pR h110 109 r102 r108 → Q 1 h112))) E)) ∧ (¬ ((prkx h xo) + (gI h 103 r102)) ≤ (gI h 406 (V_X0_on h xo (gI h 0 xo))) → Q 0 h))))))))))) : Rn M_X0_bed 0 [(0, rV xo), (1, iV x1), (2, iV x2), (3, iV x3), (4, iV x4)] [] h k n (qI Q) E := by
  refine r_aload_n (q := 1) dX0_bed_0 rfl 0 rfl ?_
  refine r_iload_n (q := 2) dX0_bed_1 rfl 1 rfl ?_
  obtain ⟨g101, hw⟩ := hw
  refine r_cVR0 (q := 5) _ [_] N_X0_87 rfl dX0_bed_2 rfl rfl rfl (xw_k hm) rfl ?_
  refine ct_X0_at hm g101 ?_
  have hw := hw _ rfl
  refine r_astore (q := 7) (lv' := [(0, _), (1, _), (2, _), (3, _), (4, _), (5, _)]) dX0_bed_5 rfl (Nat.le_of_ble_eq_true rfl) rfl ?_
  refine r_aload (q := 9) dX0_bed_7 rfl 5 rfl ?_
  refine r_ifnull (tg := 65) (q := 12) dX0_bed_9 (by decide) rfl (fun c => ?_) (fun c => ?_)
  · have hw := hw.1 c
    refine r_iconst (q := 66) dX0_bed_65 rfl kI_0 ?_
    exact r_zret dX0_bed_66 rfl (Or.inl rfl) hw
  · have hw := hw.2 c
    refine r_iload_n (q := 13) dX0_bed_12 rfl 2 rfl ?_
    refine r_iconst (q := 14) dX0_bed_13 rfl kI_0 ?_
    refine r_bipush (q := 16) dX0_bed_14 rfl kB_9 ?_
    refine r_cSI0 (q := 19) [_, _, _] N_X0_3 dX0_bed_16 rfl rfl rfl rfl ?_
    refine ct_X0_isIn  ?_
    refine r_ifb_eq (tg := 65) (q := 22) dX0_bed_19 (by decide) rfl (fun c => ?_) (fun c => ?_)
    · have hw := hw.1 c
      refine r_iconst (q := 66) dX0_bed_65 rfl kI_0 ?_
      exact r_zret dX0_bed_66 rfl (Or.inl rfl) hw
    · have hw := hw.2 c
      refine r_iload_n (q := 23) dX0_bed_22 rfl 3 rfl ?_
      refine r_iconst (q := 24) dX0_bed_23 rfl kI_1 ?_
      refine r_sipush (q := 27) dX0_bed_24 rfl kS_500 ?_
      refine r_cSI0 (q := 30) [_, _, _] N_X0_3 dX0_bed_27 rfl rfl rfl rfl ?_
      refine ct_X0_isIn  ?_
      refine r_ifb_eq (tg := 65) (q := 33) dX0_bed_30 (by decide) rfl (fun c => ?_) (fun c => ?_)
      · have hw := hw.1 c
        refine r_iconst (q := 66) dX0_bed_65 rfl kI_0 ?_
        exact r_zret dX0_bed_66 rfl (Or.inl rfl) hw
      · have hw := hw.2 c
        refine r_aload (q := 35) dX0_bed_33 rfl 5 rfl ?_
        obtain ⟨g103, hw⟩ := hw
        refine r_getR (q := 38) L_X0_91 dX0_bed_35 rfl g103 rfl ?_
        refine r_ifnonnull (tg := 65) (q := 41) dX0_bed_38 (by decide) rfl (fun c => ?_) (fun c => ?_)
        · have hw := hw.1 c
          refine r_iconst (q := 66) dX0_bed_65 rfl kI_0 ?_
          exact r_zret dX0_bed_66 rfl (Or.inl rfl) hw
        · have hw := hw.2 c
          refine r_aload_n (q := 42) dX0_bed_41 rfl 0 rfl ?_
          obtain ⟨g104, hw⟩ := hw
          refine r_cVI0 (q := 45) _ [] N_X0_117 rfl dX0_bed_42 rfl rfl rfl (xw_k hm) rfl ?_
          refine cs_X0_parking hm g104 ?_
          refine r_aload (q := 47) dX0_bed_45 rfl 5 rfl ?_
          refine r_getI (q := 50) L_X0_114 dX0_bed_47 rfl g103 ?_
          refine r_iadd (q := 51) dX0_bed_50 rfl ?_
          refine r_aload_n (q := 52) dX0_bed_51 rfl 0 rfl ?_
          refine r_aload_n (q := 53) dX0_bed_52 rfl 0 rfl ?_
          refine r_getI (q := 56) L_X0_119 dX0_bed_53 rfl (xw_k hm) ?_
          obtain ⟨g105, hw⟩ := hw
          refine r_cVR0 (q := 59) _ [_] N_X0_122 rfl dX0_bed_56 rfl rfl rfl (xw_k hm) rfl ?_
          refine ct_X0_on hm g105 ?_
          obtain ⟨g106, hw⟩ := hw
          refine r_getI (q := 62) L_X0_126 dX0_bed_59 rfl g106 ?_
          refine r_icmp_le (tg := 67) (q := 65) dX0_bed_62 (by decide) rfl (fun c => ?_) (fun c => ?_)
          · have hw := hw.1 c
            refine r_aload (q := 69) dX0_bed_67 rfl 5 rfl ?_
            refine r_wfH (fun wf => ?_)
            obtain ⟨g107, hw⟩ := hw
            refine r_new (q := 72) (k' := (k - 1)) (n' := (n - 14)) K_X0_127 dX0_bed_69 rfl (by omega) (by omega) ?_
            have hw := hw _ rfl
            refine r_xw_nO hm (fun hm => ?_)
            refine r_knO wf g103 (by decide) (fun g103 => ?_)
            refine r_knO wf g106 (by decide) (fun g106 => ?_)
            have hw := hw _ rfl
            refine r_dup (q := 73) dX0_bed_72 rfl rfl ?_
            refine r_aload_n (q := 74) dX0_bed_73 rfl 0 rfl ?_
            refine r_aload (q := 76) dX0_bed_74 rfl 5 rfl ?_
            refine r_iload_n (q := 77) dX0_bed_76 rfl 2 rfl ?_
            refine r_iload_n (q := 78) dX0_bed_77 rfl 3 rfl ?_
            refine r_iload (q := 80) dX0_bed_78 rfl 4 rfl ?_
            refine r_cIV0 (q := 83) _ [_, _, _, _, _] N_X0_129 rfl rfl dX0_bed_80 rfl rfl rfl (by rw [(kd_nO _ _)]; decide) ?_
            refine r_monoCV (fun h110 hw => ?_) hw
            obtain ⟨hm, hw⟩ := hw
            obtain ⟨g111, hw⟩ := hw
            refine r_putR (q := 86) L_X0_91 (Or.inl ⟨_, rfl⟩) dX0_bed_83 rfl g111 ?_
            refine r_xw_pR hm (by decide) (fun hm => ?_)
            refine r_kpR g111 (fun g111 => ?_)
            have hw := hw _ rfl
            refine r_iconst (q := 87) dX0_bed_86 rfl kI_1 ?_
            exact r_zret dX0_bed_87 rfl (Or.inr rfl) hw
          · have hw := hw.2 c
            refine r_iconst (q := 66) dX0_bed_65 rfl kI_0 ?_
            exact r_zret dX0_bed_66 rfl (Or.inl rfl) hw
theorem b_X3_bed_0 {x1 x2 x3 x4 : Int32} {mo : Nat} {h : Hp} {k n : Nat} {Q : Int32 → Hp → Prop} {E : Nat → Hp → Prop} (hm : MW h mo) (hw : ((isin x1 0 (gI h 1001 mo - 1)) = false → Q 0 h) ∧ ((isin x1 0 (gI h 1001 mo - 1)) = true → vp_in x1 12 ∧ ((¬ (eI h (mo + 6) (ix x1)) = 0 → Q 0 h) ∧ ((eI h (mo + 6) (ix x1)) = 0 → ((isin x2 0 9) = false → Q 0 h) ∧ ((isin x2 0 9) = true → ((isin x3 1 500) = false → Q 0 h) ∧ ((isin x3 1 500) = true → (CNp h mo) ∧ ((P_X3_now h mo 4) ∧ (((prks h mo (shl 1 x1)) ≤ (V_X3_now h mo 4) → vp_in x1 12 ∧ (∀ h105 : Hp, h105 = sI h (mo + 6) (ix x1) 1 → vp_in x1 12 ∧ ((x4 = 0 ∨ x4 = 1) ∧ (∀ h108 : Hp, h108 = sI h105 (mo + 7) (ix x1) x4 → vp_in x1 12 ∧ (∀ h110 : Hp, h110 = sI h108 (mo + 8) (ix x1) 1 → vp_in x1 12 ∧ (∀ h112 : Hp, h112 = sI h110 (mo + 9) (ix x1) x2 → vp_in x1 12 ∧ (∀ h114 : Hp, h114 = sI h112 (mo + 10) (ix x1) x3 → vp_in x1 12 ∧ (∀ h116 : Hp, h116 = sI h114 (mo + 11) (ix x1) (gI h114 1000 mo) → vp_in x1 12 ∧ (∀ h118 : Hp, h118 = sI h116 (mo + 17) (ix x1) (-1) → Rn M_X3_bed 111 [(0, rV mo), (1, iV x1), (5, iV 0)] [] h118 k n (qI Q) E))))))))) ∧ (¬ (prks h mo (shl 1 x1)) ≤ (V_X3_now h mo 4) → Q 0 h))))))))) : Rn M_X3_bed 0 [(0, rV mo), (1, iV x1), (2, iV x2), (3, iV x3), (4, iV x4)] [] h k n (qI Q) E := by
  refine r_aload_n (q := 1) dX3_bed_0 rfl 0 rfl ?_
  refine r_iload_n (q := 2) dX3_bed_1 rfl 1 rfl ?_
  refine r_cVI0 (q := 5) _ [_] N_X3_198 rfl dX3_bed_2 rfl rfl rfl (mw_k hm) rfl ?_
  refine ct_X3_isCorner hm ?_
  refine r_ifb_eq (tg := 53) (q := 8) dX3_bed_5 (by decide) rfl (fun c => ?_) (fun c => ?_)
  · have hw := hw.1 c
    refine r_iconst (q := 54) dX3_bed_53 rfl kI_0 ?_
    exact r_zret dX3_bed_54 rfl (Or.inl rfl) hw
  · have hw := hw.2 c
    refine r_aload_n (q := 9) dX3_bed_8 rfl 0 rfl ?_
    refine r_getR (q := 12) L_X3_25 dX3_bed_9 rfl (mw_k hm) (mwr_hasBed hm) ?_
    refine r_iload_n (q := 13) dX3_bed_12 rfl 1 rfl ?_
    obtain ⟨g101, hw⟩ := hw
    refine r_zaldL (q := 14) dX3_bed_13 rfl (mwk_hasBed hm) (mwl_hasBed hm) g101 ?_
    refine r_if_ne (tg := 53) (q := 17) dX3_bed_14 (by decide) rfl (fun c => ?_) (fun c => ?_)
    · have hw := hw.1 c
      refine r_iconst (q := 54) dX3_bed_53 rfl kI_0 ?_
      exact r_zret dX3_bed_54 rfl (Or.inl rfl) hw
    · have hw := hw.2 c
      refine r_iload_n (q := 18) dX3_bed_17 rfl 2 rfl ?_
      refine r_iconst (q := 19) dX3_bed_18 rfl kI_0 ?_
      refine r_bipush (q := 21) dX3_bed_19 rfl kB_9 ?_
      refine r_cSI0 (q := 24) [_, _, _] N_X3_194 dX3_bed_21 rfl rfl rfl rfl ?_
      refine ct_X3_isIn  ?_
      refine r_ifb_eq (tg := 53) (q := 27) dX3_bed_24 (by decide) rfl (fun c => ?_) (fun c => ?_)
      · have hw := hw.1 c
        refine r_iconst (q := 54) dX3_bed_53 rfl kI_0 ?_
        exact r_zret dX3_bed_54 rfl (Or.inl rfl) hw
      · have hw := hw.2 c
        refine r_iload_n (q := 28) dX3_bed_27 rfl 3 rfl ?_
        refine r_iconst (q := 29) dX3_bed_28 rfl kI_1 ?_
        refine r_sipush (q := 32) dX3_bed_29 rfl kS_500 ?_
        refine r_cSI0 (q := 35) [_, _, _] N_X3_194 dX3_bed_32 rfl rfl rfl rfl ?_
        refine ct_X3_isIn  ?_
        refine r_ifb_eq (tg := 53) (q := 38) dX3_bed_35 (by decide) rfl (fun c => ?_) (fun c => ?_)
        · have hw := hw.1 c
          refine r_iconst (q := 54) dX3_bed_53 rfl kI_0 ?_
          exact r_zret dX3_bed_54 rfl (Or.inl rfl) hw
        · have hw := hw.2 c
          refine r_aload_n (q := 39) dX3_bed_38 rfl 0 rfl ?_
          refine r_iconst (q := 40) dX3_bed_39 rfl kI_1 ?_
          refine r_iload_n (q := 41) dX3_bed_40 rfl 1 rfl ?_
          refine r_ishl (q := 42) dX3_bed_41 rfl ?_
          obtain ⟨g102, hw⟩ := hw
          refine r_cVI0 (q := 45) _ [_] N_X3_205 rfl dX3_bed_42 rfl rfl rfl (mw_k hm) rfl ?_
          refine cs_X3_parked hm g102 ?_
          refine r_aload_n (q := 46) dX3_bed_45 rfl 0 rfl ?_
          refine r_iconst (q := 47) dX3_bed_46 rfl kI_4 ?_
          obtain ⟨g103, hw⟩ := hw
          refine r_cVI0 (q := 50) _ [_] N_X3_209 rfl dX3_bed_47 rfl rfl rfl (mw_k hm) rfl ?_
          refine ct_X3_now hm g103 ?_
          refine r_icmp_le (tg := 55) (q := 53) dX3_bed_50 (by decide) rfl (fun c => ?_) (fun c => ?_)
          · have hw := hw.1 c
            refine r_aload_n (q := 56) dX3_bed_55 rfl 0 rfl ?_
            refine r_getR (q := 59) L_X3_25 dX3_bed_56 rfl (mw_k hm) (mwr_hasBed hm) ?_
            refine r_iload_n (q := 60) dX3_bed_59 rfl 1 rfl ?_
            refine r_iconst (q := 61) dX3_bed_60 rfl kI_1 ?_
            obtain ⟨g104, hw⟩ := hw
            refine r_zastL (q := 62) dX3_bed_61 rfl (mwk_hasBed hm) (mwl_hasBed hm) g104 (Or.inr rfl) ?_
            refine r_mw_sI hm (fun hm => ?_)
            have hw := hw _ rfl
            refine r_aload_n (q := 63) dX3_bed_62 rfl 0 rfl ?_
            refine r_getR (q := 66) L_X3_29 dX3_bed_63 rfl (mw_k hm) (mwr_hasTree hm) ?_
            refine r_iload_n (q := 67) dX3_bed_66 rfl 1 rfl ?_
            refine r_iload (q := 69) dX3_bed_67 rfl 4 rfl ?_
            obtain ⟨g106, hw⟩ := hw
            obtain ⟨g107, hw⟩ := hw
            refine r_zastL (q := 70) dX3_bed_69 rfl (mwk_hasTree hm) (mwl_hasTree hm) g106 g107 ?_
            refine r_mw_sI hm (fun hm => ?_)
            have hw := hw _ rfl
            refine r_aload_n (q := 71) dX3_bed_70 rfl 0 rfl ?_
            refine r_getR (q := 74) L_X3_32 dX3_bed_71 rfl (mw_k hm) (mwr_hasPlants hm) ?_
            refine r_iload_n (q := 75) dX3_bed_74 rfl 1 rfl ?_
            refine r_iconst (q := 76) dX3_bed_75 rfl kI_1 ?_
            obtain ⟨g109, hw⟩ := hw
            refine r_zastL (q := 77) dX3_bed_76 rfl (mwk_hasPlants hm) (mwl_hasPlants hm) g109 (Or.inr rfl) ?_
            refine r_mw_sI hm (fun hm => ?_)
            have hw := hw _ rfl
            refine r_aload_n (q := 78) dX3_bed_77 rfl 0 rfl ?_
            refine r_getR (q := 81) L_X3_35 dX3_bed_78 rfl (mw_k hm) (mwr_lot hm) ?_
            refine r_iload_n (q := 82) dX3_bed_81 rfl 1 rfl ?_
            refine r_iload_n (q := 83) dX3_bed_82 rfl 2 rfl ?_
            obtain ⟨g111, hw⟩ := hw
            refine r_iastL (q := 84) dX3_bed_83 rfl (mwk_lot hm) (mwl_lot hm) g111 ?_
            refine r_mw_sI hm (fun hm => ?_)
            have hw := hw _ rfl
            refine r_aload_n (q := 85) dX3_bed_84 rfl 0 rfl ?_
            refine r_getR (q := 88) L_X3_38 dX3_bed_85 rfl (mw_k hm) (mwr_bowl hm) ?_
            refine r_iload_n (q := 89) dX3_bed_88 rfl 1 rfl ?_
            refine r_iload_n (q := 90) dX3_bed_89 rfl 3 rfl ?_
            obtain ⟨g113, hw⟩ := hw
            refine r_iastL (q := 91) dX3_bed_90 rfl (mwk_bowl hm) (mwl_bowl hm) g113 ?_
            refine r_mw_sI hm (fun hm => ?_)
            have hw := hw _ rfl
            refine r_aload_n (q := 92) dX3_bed_91 rfl 0 rfl ?_
            refine r_getR (q := 95) L_X3_41 dX3_bed_92 rfl (mw_k hm) (mwr_made hm) ?_
            refine r_iload_n (q := 96) dX3_bed_95 rfl 1 rfl ?_
            refine r_aload_n (q := 97) dX3_bed_96 rfl 0 rfl ?_
            refine r_getI (q := 100) L_X3_212 dX3_bed_97 rfl (mw_k hm) ?_
            obtain ⟨g115, hw⟩ := hw
            refine r_iastL (q := 101) dX3_bed_100 rfl (mwk_made hm) (mwl_made hm) g115 ?_
            refine r_mw_sI hm (fun hm => ?_)
            have hw := hw _ rfl
            refine r_aload_n (q := 102) dX3_bed_101 rfl 0 rfl ?_
            refine r_getR (q := 105) L_X3_59 dX3_bed_102 rfl (mw_k hm) (mwr_looked hm) ?_
            refine r_iload_n (q := 106) dX3_bed_105 rfl 1 rfl ?_
            refine r_iconst (q := 107) dX3_bed_106 rfl kI_m1 ?_
            obtain ⟨g117, hw⟩ := hw
            refine r_iastL (q := 108) dX3_bed_107 rfl (mwk_looked hm) (mwl_looked hm) g117 ?_
            refine r_mw_sI hm (fun hm => ?_)
            have hw := hw _ rfl
            refine r_iconst (q := 109) dX3_bed_108 rfl kI_0 ?_
            refine r_istore (q := 111) (lv' := [(0, _), (1, _), (2, _), (3, _), (4, _), (5, _)]) dX3_bed_109 rfl (Nat.le_of_ble_eq_true rfl) rfl ?_
            exact r_sub [0, 1, 5] rfl hw
          · have hw := hw.2 c
            refine r_iconst (q := 54) dX3_bed_53 rfl kI_0 ?_
            exact r_zret dX3_bed_54 rfl (Or.inl rfl) hw
theorem b_X3_bed_111 {x1 x5 : Int32} {mo : Nat} {h : Hp} {k n : Nat} {Q : Int32 → Hp → Prop} {E : Nat → Hp → Prop} (hm : MW h mo) (hw : (10 < x5 → Q 1 h) ∧ (¬ 10 < x5 → vp_in ((11 * x1) + x5) 132 ∧ (∀ h102 : Hp, h102 = sI h (mo + 18) (ix ((11 * x1) + x5)) (-1) → ∀ x103 : Int32, x103 = x5 + 1 → Rn M_X3_bed 111 [(0, rV mo), (1, iV x1), (5, iV x103)] [] h102 k n (qI Q) E))) : Rn M_X3_bed 111 [(0, rV mo), (1, iV x1), (5, iV x5)] [] h k n (qI Q) E := by
  refine r_iload (q := 113) dX3_bed_111 rfl 2 rfl ?_
  refine r_bipush (q := 115) dX3_bed_113 rfl kB_10 ?_
  refine r_icmp_gt (tg := 137) (q := 118) dX3_bed_115 (by decide) rfl (fun c => ?_) (fun c => ?_)
  · have hw := hw.1 c
    refine r_iconst (q := 138) dX3_bed_137 rfl kI_1 ?_
    exact r_zret dX3_bed_138 rfl (Or.inr rfl) hw
  · have hw := hw.2 c
    refine r_aload_n (q := 119) dX3_bed_118 rfl 0 rfl ?_
    refine r_getR (q := 122) L_X3_62 dX3_bed_119 rfl (mw_k hm) (mwr_caredOn hm) ?_
    refine r_bipush (q := 124) dX3_bed_122 rfl kB_11 ?_
    refine r_iload_n (q := 125) dX3_bed_124 rfl 1 rfl ?_
    refine r_imul (q := 126) dX3_bed_125 rfl ?_
    refine r_iload (q := 128) dX3_bed_126 rfl 2 rfl ?_
    refine r_iadd (q := 129) dX3_bed_128 rfl ?_
    refine r_iconst (q := 130) dX3_bed_129 rfl kI_m1 ?_
    obtain ⟨g101, hw⟩ := hw
    refine r_iastL (q := 131) dX3_bed_130 rfl (mwk_caredOn hm) (mwl_caredOn hm) g101 ?_
    refine r_mw_sI hm (fun hm => ?_)
    have hw := hw _ rfl
    have hw := hw _ rfl
    refine r_iincW (q := 134) (lv' := [(0, _), (1, _), (5, _)]) dX3_bed_131 rfl 2 rfl kI_1 (Nat.le_of_ble_eq_true rfl) rfl ?_
    refine r_goto (tg := 111) dX3_bed_134 (by decide) ?_
    exact hw
theorem b_X0_complains_0 {x2 : Int32} {xo r1 : Nat} {h : Hp} {k n : Nat} {Q : Int32 → Hp → Prop} {E : Nat → Hp → Prop} (hm : XW h xo) (hw : Rn M_X0_complains 2 [(0, rV xo), (1, rV r1), (2, iV x2), (3, iV 0)] [] h k n (qI Q) E) : Rn M_X0_complains 0 [(0, rV xo), (1, rV r1), (2, iV x2)] [] h k n (qI Q) E := by
  refine r_iconst (q := 1) dX0_complains_0 rfl kI_0 ?_
  refine r_istore_n (q := 2) (lv' := [(0, _), (1, _), (2, _), (3, _)]) dX0_complains_1 rfl (Nat.le_of_ble_eq_true rfl) rfl ?_
  exact hw
theorem b_X0_complains_2 {x2 x3 : Int32} {xo r1 : Nat} {h : Hp} {k n : Nat} {Q : Int32 → Hp → Prop} {E : Nat → Hp → Prop} (hm : XW h xo) (hw : ((gI h 1102 (xo + 22)) ≤ x3 → (¬ (gI h 1102 (xo + 22)) = 60 → (1 ≤ k ∧ 7 ≤ n) ∧ (∀ r102 : Nat, r102 = nx h → ∀ h103 : Hp, h103 = nO h 8 → CtV M_X7_init [rV r102, iV (gI h103 1102 (xo + 22)), rV r1, iV x2, iV (gI h103 0 xo)] h103 0 0 (fun h104 => XW h104 xo ∧ (∃ k106 n107 k108 n109 : Nat, k106 + k108 ≤ (k - 1) ∧ n107 + n109 ≤ (n - 7) ∧ CtI M_J2_add [rV (xo + 22), rV r102] h104 k106 n107 (fun x110 h105 => XW h105 xo ∧ (Q ((gI h105 1102 (xo + 22)) - 1) h105)) E)) E)) ∧ ((gI h 1102 (xo + 22)) = 60 → Q (-1) h)) ∧ (¬ (gI h 1102 (xo + 22)) ≤ x3 → (ALg h (xo + 22) x3) ∧ (kd h (el h (xo + 22) (ix x3)) = 9 ∧ (∀ r113 : Nat, r113 = el h (xo + 22) (ix x3) → ((gI h 806 r113) = 0 → ∀ x114 : Int32, x114 = x3 + 1 → Rn M_X0_complains 2 [(0, rV xo), (1, rV r1), (2, iV x2), (3, iV x114)] [] h k n (qI Q) E) ∧ (¬ (gI h 806 r113) = 0 → (¬ (gR h 800 r113) = r1 → ∀ x115 : Int32, x115 = x3 + 1 → Rn M_X0_complains 2 [(0, rV xo), (1, rV r1), (2, iV x2), (3, iV x115)] [] h k n (qI Q) E) ∧ ((gR h 800 r113) = r1 → (¬ (gI h 802 r113) = x2 → ∀ x116 : Int32, x116 = x3 + 1 → Rn M_X0_complains 2 [(0, rV xo), (1, rV r1), (2, iV x2), (3, iV x116)] [] h k n (qI Q) E) ∧ ((gI h 802 r113) = x2 → (((gI h 0 xo) - (gI h 804 r113)) ≤ 7 → ∀ h117 : Hp, h117 = pI h 804 r113 (gI h 0 xo) → ∀ h118 : Hp, h118 = pI h117 805 r113 ((gI h117 805 r113) + 1) → Q x3 h118) ∧ (¬ ((gI h 0 xo) - (gI h 804 r113)) ≤ 7 → ∀ x119 : Int32, x119 = x3 + 1 → Rn M_X0_complains 2 [(0, rV xo), (1, rV r1), (2, iV x2), (3, iV x119)] [] h k n (qI Q) E)))))))) : Rn M_X0_complains 2 [(0, rV xo), (1, rV r1), (2, iV x2), (3, iV x3)] [] h k n (qI Q) E := by
  refine r_iload_n (q := 3) dX0_complains_2 rfl 3 rfl ?_
  refine r_aload_n (q := 4) dX0_complains_3 rfl 0 rfl ?_
  refine r_getR (q := 7) L_X0_74 dX0_complains_4 rfl (xw_k hm) (xwr_complaints hm) ?_
  refine r_cVI0 (q := 10) _ [] N_X0_77 rfl dX0_complains_7 rfl rfl rfl (xwk_complaints hm) rfl ?_
  refine ct_J2_size (xwk_complaints hm) ?_
  refine r_icmp_ge (tg := 98) (q := 13) dX0_complains_10 (by decide) rfl (fun c => ?_) (fun c => ?_)
  · have hw := hw.1 c
    refine r_aload_n (q := 99) dX0_complains_98 rfl 0 rfl ?_
    refine r_getR (q := 102) L_X0_74 dX0_complains_99 rfl (xw_k hm) (xwr_complaints hm) ?_
    refine r_cVI0 (q := 105) _ [] N_X0_77 rfl dX0_complains_102 rfl rfl rfl (xwk_complaints hm) rfl ?_
    refine ct_J2_size (xwk_complaints hm) ?_
    refine r_bipush (q := 107) dX0_complains_105 rfl kB_60 ?_
    refine r_icmp_ne (tg := 112) (q := 110) dX0_complains_107 (by decide) rfl (fun c => ?_) (fun c => ?_)
    · have hw := hw.1 c
      refine r_aload_n (q := 113) dX0_complains_112 rfl 0 rfl ?_
      refine r_getR (q := 116) L_X0_74 dX0_complains_113 rfl (xw_k hm) (xwr_complaints hm) ?_
      refine r_wfH (fun wf => ?_)
      obtain ⟨g101, hw⟩ := hw
      refine r_new (q := 119) (k' := (k - 1)) (n' := (n - 7)) K_X0_508 dX0_complains_116 rfl (by omega) (by omega) ?_
      have hw := hw _ rfl
      refine r_xw_nO hm (fun hm => ?_)
      have hw := hw _ rfl
      refine r_dup (q := 120) dX0_complains_119 rfl rfl ?_
      refine r_aload_n (q := 121) dX0_complains_120 rfl 0 rfl ?_
      refine r_getR (q := 124) L_X0_74 dX0_complains_121 rfl (xw_k hm) (xwr_complaints hm) ?_
      refine r_cVI0 (q := 127) _ [] N_X0_77 rfl dX0_complains_124 rfl rfl rfl (xwk_complaints hm) rfl ?_
      refine ct_J2_size (xwk_complaints hm) ?_
      refine r_aload_n (q := 128) dX0_complains_127 rfl 1 rfl ?_
      refine r_iload_n (q := 129) dX0_complains_128 rfl 2 rfl ?_
      refine r_aload_n (q := 130) dX0_complains_129 rfl 0 rfl ?_
      refine r_getI (q := 133) L_X0_119 dX0_complains_130 rfl (xw_k hm) ?_
      refine r_cIV0 (q := 136) _ [_, _, _, _] N_X0_523 rfl rfl dX0_complains_133 rfl rfl rfl (by rw [(kd_nO _ _)]; decide) ?_
      refine r_monoCV (fun h104 hw => ?_) hw
      obtain ⟨hm, hw⟩ := hw
      obtain ⟨k106, n107, k108, n109, hk, hn, hw⟩ := hw
      refine r_cVI (q := 139) _ [_] N_X0_100 rfl dX0_complains_136 rfl rfl rfl (xwk_complaints hm) rfl hk hn ?_
      refine r_monoCI (fun x110 h105 hw => ?_) hw
      obtain ⟨hm, hw⟩ := hw
      refine r_pop (q := 140) dX0_complains_139 rfl rfl ?_
      refine r_aload_n (q := 141) dX0_complains_140 rfl 0 rfl ?_
      refine r_getR (q := 144) L_X0_74 dX0_complains_141 rfl (xw_k hm) (xwr_complaints hm) ?_
      refine r_cVI0 (q := 147) _ [] N_X0_77 rfl dX0_complains_144 rfl rfl rfl (xwk_complaints hm) rfl ?_
      refine ct_J2_size (xwk_complaints hm) ?_
      refine r_iconst (q := 148) dX0_complains_147 rfl kI_1 ?_
      refine r_isub (q := 149) dX0_complains_148 rfl ?_
      exact r_iret dX0_complains_149 rfl hw
    · have hw := hw.2 c
      refine r_iconst (q := 111) dX0_complains_110 rfl kI_m1 ?_
      exact r_iret dX0_complains_111 rfl hw
  · have hw := hw.2 c
    refine r_aload_n (q := 14) dX0_complains_13 rfl 0 rfl ?_
    refine r_getR (q := 17) L_X0_74 dX0_complains_14 rfl (xw_k hm) (xwr_complaints hm) ?_
    refine r_iload_n (q := 18) dX0_complains_17 rfl 3 rfl ?_
    obtain ⟨g111, hw⟩ := hw
    refine r_cVR0 (q := 21) _ [_] N_X0_81 rfl dX0_complains_18 rfl rfl rfl (xwk_complaints hm) rfl ?_
    refine ct_J2_get (xwk_complaints hm) g111 ?_
    obtain ⟨g112, hw⟩ := hw
    refine r_cast (q := 24) q1124 rfl dX0_complains_21 rfl g112 ?_
    have hw := hw _ rfl
    refine r_astore (q := 26) (lv' := [(0, _), (1, _), (2, _), (3, _), (4, _)]) dX0_complains_24 rfl (Nat.le_of_ble_eq_true rfl) rfl ?_
    refine r_aload (q := 28) dX0_complains_26 rfl 4 rfl ?_
    refine r_getI (q := 31) L_X0_510 dX0_complains_28 rfl g112 ?_
    refine r_if_eq (tg := 92) (q := 34) dX0_complains_31 (by decide) rfl (fun c => ?_) (fun c => ?_)
    · have hw := hw.1 c
      have hw := hw _ rfl
      refine r_iincW (q := 95) (lv' := [(0, _), (1, _), (2, _), (3, _), (4, _)]) dX0_complains_92 rfl 3 rfl kI_1 (Nat.le_of_ble_eq_true rfl) rfl ?_
      refine r_goto (tg := 2) dX0_complains_95 (by decide) ?_
      exact r_sub [0, 1, 2, 3] rfl hw
    · have hw := hw.2 c
      refine r_aload (q := 36) dX0_complains_34 rfl 4 rfl ?_
      refine r_getR (q := 39) L_X0_513 dX0_complains_36 rfl g112 rfl ?_
      refine r_aload_n (q := 40) dX0_complains_39 rfl 1 rfl ?_
      refine r_acmp_ne (tg := 92) (q := 43) dX0_complains_40 (by decide) rfl (fun c => ?_) (fun c => ?_)
      · have hw := hw.1 c
        have hw := hw _ rfl
        refine r_iincW (q := 95) (lv' := [(0, _), (1, _), (2, _), (3, _), (4, _)]) dX0_complains_92 rfl 3 rfl kI_1 (Nat.le_of_ble_eq_true rfl) rfl ?_
        refine r_goto (tg := 2) dX0_complains_95 (by decide) ?_
        exact r_sub [0, 1, 2, 3] rfl hw
      · have hw := hw.2 c
        refine r_aload (q := 45) dX0_complains_43 rfl 4 rfl ?_
        refine r_getI (q := 48) L_X0_514 dX0_complains_45 rfl g112 ?_
        refine r_iload_n (q := 49) dX0_complains_48 rfl 2 rfl ?_
        refine r_icmp_ne (tg := 92) (q := 52) dX0_complains_49 (by decide) rfl (fun c => ?_) (fun c => ?_)
        · have hw := hw.1 c
          have hw := hw _ rfl
          refine r_iincW (q := 95) (lv' := [(0, _), (1, _), (2, _), (3, _), (4, _)]) dX0_complains_92 rfl 3 rfl kI_1 (Nat.le_of_ble_eq_true rfl) rfl ?_
          refine r_goto (tg := 2) dX0_complains_95 (by decide) ?_
          exact r_sub [0, 1, 2, 3] rfl hw
        · have hw := hw.2 c
          refine r_aload_n (q := 53) dX0_complains_52 rfl 0 rfl ?_
          refine r_getI (q := 56) L_X0_119 dX0_complains_53 rfl (xw_k hm) ?_
          refine r_aload (q := 58) dX0_complains_56 rfl 4 rfl ?_
          refine r_getI (q := 61) L_X0_517 dX0_complains_58 rfl g112 ?_
          refine r_isub (q := 62) dX0_complains_61 rfl ?_
          refine r_bipush (q := 64) dX0_complains_62 rfl kB_7 ?_
          refine r_icmp_le (tg := 70) (q := 67) dX0_complains_64 (by decide) rfl (fun c => ?_) (fun c => ?_)
          · have hw := hw.1 c
            refine r_aload (q := 72) dX0_complains_70 rfl 4 rfl ?_
            refine r_aload_n (q := 73) dX0_complains_72 rfl 0 rfl ?_
            refine r_getI (q := 76) L_X0_119 dX0_complains_73 rfl (xw_k hm) ?_
            refine r_putI (q := 79) L_X0_517 dX0_complains_76 rfl g112 ?_
            refine r_xw_pI hm (fun hm => ?_)
            refine r_kpI g112 (fun g112 => ?_)
            have hw := hw _ rfl
            refine r_aload (q := 81) dX0_complains_79 rfl 4 rfl ?_
            refine r_dup (q := 82) dX0_complains_81 rfl rfl ?_
            refine r_getI (q := 85) L_X0_520 dX0_complains_82 rfl g112 ?_
            refine r_iconst (q := 86) dX0_complains_85 rfl kI_1 ?_
            refine r_iadd (q := 87) dX0_complains_86 rfl ?_
            refine r_putI (q := 90) L_X0_520 dX0_complains_87 rfl g112 ?_
            refine r_xw_pI hm (fun hm => ?_)
            refine r_kpI g112 (fun g112 => ?_)
            have hw := hw _ rfl
            refine r_iload_n (q := 91) dX0_complains_90 rfl 3 rfl ?_
            exact r_iret dX0_complains_91 rfl hw
          · have hw := hw.2 c
            refine r_goto (tg := 92) dX0_complains_67 (by decide) ?_
            have hw := hw _ rfl
            refine r_iincW (q := 95) (lv' := [(0, _), (1, _), (2, _), (3, _), (4, _)]) dX0_complains_92 rfl 3 rfl kI_1 (Nat.le_of_ble_eq_true rfl) rfl ?_
            refine r_goto (tg := 2) dX0_complains_95 (by decide) ?_
            exact r_sub [0, 1, 2, 3] rfl hw
theorem b_X0_complain_0 {x1 x2 : Int32} {xo : Nat} {h : Hp} {k n : Nat} {Q : Int32 → Hp → Prop} {E : Nat → Hp → Prop} (hm : XW h xo) (hw : (atp h xo x1) ∧ (((atv h xo x1) = 0 → Q (-1) h) ∧ (¬ (atv h xo x1) = 0 → ((isin x2 0 3) = true → (ALg h (xo + 2) x1) ∧ (kd h (el h (xo + 2) (ix x1)) = 2 ∧ (∃ k105 n106 k107 n108 : Nat, k105 + k107 ≤ k ∧ n106 + n108 ≤ n ∧ CtI M_X0_complains [rV xo, rV (el h (xo + 2) (ix x1)), iV x2] h k105 n106 (fun x109 h104 => XW h104 xo ∧ (Q x109 h104)) E))) ∧ ((isin x2 0 3) = false → Q (-1) h)))) : Rn M_X0_complain 0 [(0, rV xo), (1, iV x1), (2, iV x2)] [] h k n (qI Q) E := by
  refine r_aload_n (q := 1) dX0_complain_0 rfl 0 rfl ?_
  refine r_iload_n (q := 2) dX0_complain_1 rfl 1 rfl ?_
  obtain ⟨g101, hw⟩ := hw
  refine r_cVR0 (q := 5) _ [_] N_X0_87 rfl dX0_complain_2 rfl rfl rfl (xw_k hm) rfl ?_
  refine ct_X0_at hm g101 ?_
  refine r_ifnull (tg := 17) (q := 8) dX0_complain_5 (by decide) rfl (fun c => ?_) (fun c => ?_)
  · have hw := hw.1 c
    refine r_iconst (q := 18) dX0_complain_17 rfl kI_m1 ?_
    refine r_goto (tg := 37) dX0_complain_18 (by decide) ?_
    exact r_iret dX0_complain_37 rfl hw
  · have hw := hw.2 c
    refine r_iload_n (q := 9) dX0_complain_8 rfl 2 rfl ?_
    refine r_iconst (q := 10) dX0_complain_9 rfl kI_0 ?_
    refine r_iconst (q := 11) dX0_complain_10 rfl kI_3 ?_
    refine r_cSI0 (q := 14) [_, _, _] N_X0_3 dX0_complain_11 rfl rfl rfl rfl ?_
    refine ct_X0_isIn  ?_
    refine r_ifb_ne (tg := 21) (q := 17) dX0_complain_14 (by decide) rfl (fun c => ?_) (fun c => ?_)
    · have hw := hw.1 c
      refine r_aload_n (q := 22) dX0_complain_21 rfl 0 rfl ?_
      refine r_aload_n (q := 23) dX0_complain_22 rfl 0 rfl ?_
      refine r_getR (q := 26) L_X0_20 dX0_complain_23 rfl (xw_k hm) (xwr_corners hm) ?_
      refine r_iload_n (q := 27) dX0_complain_26 rfl 1 rfl ?_
      obtain ⟨g102, hw⟩ := hw
      refine r_cVR0 (q := 30) _ [_] N_X0_81 rfl dX0_complain_27 rfl rfl rfl (xwk_corners hm) rfl ?_
      refine ct_J2_get (xwk_corners hm) g102 ?_
      obtain ⟨g103, hw⟩ := hw
      refine r_cast (q := 33) q374 rfl dX0_complain_30 rfl g103 ?_
      refine r_iload_n (q := 34) dX0_complain_33 rfl 2 rfl ?_
      obtain ⟨k105, n106, k107, n108, hk, hn, hw⟩ := hw
      refine r_cVI (q := 37) _ [_, _] N_X0_358 rfl dX0_complain_34 rfl rfl rfl (xw_k hm) rfl hk hn ?_
      refine r_monoCI (fun x109 h104 hw => ?_) hw
      obtain ⟨hm, hw⟩ := hw
      exact r_iret dX0_complain_37 rfl hw
    · have hw := hw.2 c
      refine r_iconst (q := 18) dX0_complain_17 rfl kI_m1 ?_
      refine r_goto (tg := 37) dX0_complain_18 (by decide) ?_
      exact r_iret dX0_complain_37 rfl hw
theorem b_X3_complain_0 {x1 x2 : Int32} {mo : Nat} {h : Hp} {k n : Nat} {Q : Int32 → Hp → Prop} {E : Nat → Hp → Prop} (hm : MW h mo) (hw : ((isin x1 0 (gI h 1001 mo - 1)) = false → Q (-1) h) ∧ ((isin x1 0 (gI h 1001 mo - 1)) = true → ((isin x2 0 3) = true → ∀ x101 : Int32, x101 = (gI h 1006 mo) - 1 → Rn M_X3_complain 26 [(0, rV mo), (1, iV x1), (2, iV x2), (3, iV x101)] [] h k n (qI Q) E) ∧ ((isin x2 0 3) = false → Q (-1) h))) : Rn M_X3_complain 0 [(0, rV mo), (1, iV x1), (2, iV x2)] [] h k n (qI Q) E := by
  refine r_aload_n (q := 1) dX3_complain_0 rfl 0 rfl ?_
  refine r_iload_n (q := 2) dX3_complain_1 rfl 1 rfl ?_
  refine r_cVI0 (q := 5) _ [_] N_X3_198 rfl dX3_complain_2 rfl rfl rfl (mw_k hm) rfl ?_
  refine ct_X3_isCorner hm ?_
  refine r_ifb_eq (tg := 17) (q := 8) dX3_complain_5 (by decide) rfl (fun c => ?_) (fun c => ?_)
  · have hw := hw.1 c
    refine r_iconst (q := 18) dX3_complain_17 rfl kI_m1 ?_
    exact r_iret dX3_complain_18 rfl hw
  · have hw := hw.2 c
    refine r_iload_n (q := 9) dX3_complain_8 rfl 2 rfl ?_
    refine r_iconst (q := 10) dX3_complain_9 rfl kI_0 ?_
    refine r_iconst (q := 11) dX3_complain_10 rfl kI_3 ?_
    refine r_cSI0 (q := 14) [_, _, _] N_X3_194 dX3_complain_11 rfl rfl rfl rfl ?_
    refine ct_X3_isIn  ?_
    refine r_ifb_ne (tg := 19) (q := 17) dX3_complain_14 (by decide) rfl (fun c => ?_) (fun c => ?_)
    · have hw := hw.1 c
      refine r_aload_n (q := 20) dX3_complain_19 rfl 0 rfl ?_
      refine r_getI (q := 23) L_X3_338 dX3_complain_20 rfl (mw_k hm) ?_
      refine r_iconst (q := 24) dX3_complain_23 rfl kI_1 ?_
      refine r_isub (q := 25) dX3_complain_24 rfl ?_
      have hw := hw _ rfl
      refine r_istore_n (q := 26) (lv' := [(0, _), (1, _), (2, _), (3, _)]) dX3_complain_25 rfl (Nat.le_of_ble_eq_true rfl) rfl ?_
      exact hw
    · have hw := hw.2 c
      refine r_iconst (q := 18) dX3_complain_17 rfl kI_m1 ?_
      exact r_iret dX3_complain_18 rfl hw
theorem b_X3_complain_26 {x1 x2 x3 : Int32} {mo : Nat} {h : Hp} {k n : Nat} {Q : Int32 → Hp → Prop} {E : Nat → Hp → Prop} (hm : MW h mo) (hw : (x3 < 0 → (¬ (gI h 1006 mo) = 60 → vp_in (gI h 1006 mo) 60 ∧ (∀ h102 : Hp, h102 = sI h (mo + 44) (ix (gI h 1006 mo)) x1 → vp_in (gI h102 1006 mo) 60 ∧ (∀ h104 : Hp, h104 = sI h102 (mo + 45) (ix (gI h102 1006 mo)) x2 → vp_in (gI h104 1006 mo) 60 ∧ (∀ h106 : Hp, h106 = sI h104 (mo + 46) (ix (gI h104 1006 mo)) (gI h104 1000 mo) → vp_in (gI h106 1006 mo) 60 ∧ (∀ h108 : Hp, h108 = sI h106 (mo + 47) (ix (gI h106 1006 mo)) (gI h106 1000 mo) → vp_in (gI h108 1006 mo) 60 ∧ (∀ h110 : Hp, h110 = sI h108 (mo + 48) (ix (gI h108 1006 mo)) 1 → vp_in (gI h110 1006 mo) 60 ∧ (∀ h112 : Hp, h112 = sI h110 (mo + 49) (ix (gI h110 1006 mo)) 1 → ∀ h113 : Hp, h113 = pI h112 1006 mo ((gI h112 1006 mo) + 1) → Q ((gI h113 1006 mo) - 1) h113))))))) ∧ ((gI h 1006 mo) = 60 → Q (-1) h)) ∧ (¬ x3 < 0 → vp_in x3 60 ∧ (((eI h (mo + 49) (ix x3)) = 0 → ∀ x115 : Int32, x115 = x3 + (-1) → Rn M_X3_complain 26 [(0, rV mo), (1, iV x1), (2, iV x2), (3, iV x115)] [] h k n (qI Q) E) ∧ (¬ (eI h (mo + 49) (ix x3)) = 0 → vp_in x3 60 ∧ ((¬ (eI h (mo + 44) (ix x3)) = x1 → ∀ x117 : Int32, x117 = x3 + (-1) → Rn M_X3_complain 26 [(0, rV mo), (1, iV x1), (2, iV x2), (3, iV x117)] [] h k n (qI Q) E) ∧ ((eI h (mo + 44) (ix x3)) = x1 → vp_in x3 60 ∧ ((¬ (eI h (mo + 45) (ix x3)) = x2 → ∀ x119 : Int32, x119 = x3 + (-1) → Rn M_X3_complain 26 [(0, rV mo), (1, iV x1), (2, iV x2), (3, iV x119)] [] h k n (qI Q) E) ∧ ((eI h (mo + 45) (ix x3)) = x2 → vp_in x3 60 ∧ ((((gI h 1000 mo) - (eI h (mo + 47) (ix x3))) ≤ 7 → vp_in x3 60 ∧ (∀ h122 : Hp, h122 = sI h (mo + 47) (ix x3) (gI h 1000 mo) → vp_in x3 60 ∧ (vp_in x3 60 ∧ (∀ h125 : Hp, h125 = sI h122 (mo + 48) (ix x3) ((eI h122 (mo + 48) (ix x3)) + 1) → Q x3 h125)))) ∧ (¬ ((gI h 1000 mo) - (eI h (mo + 47) (ix x3))) ≤ 7 → ∀ x126 : Int32, x126 = x3 + (-1) → Rn M_X3_complain 26 [(0, rV mo), (1, iV x1), (2, iV x2), (3, iV x126)] [] h k n (qI Q) E)))))))))) : Rn M_X3_complain 26 [(0, rV mo), (1, iV x1), (2, iV x2), (3, iV x3)] [] h k n (qI Q) E := by
  refine r_iload_n (q := 27) dX3_complain_26 rfl 3 rfl ?_
  refine r_if_lt (tg := 106) (q := 30) dX3_complain_27 (by decide) rfl (fun c => ?_) (fun c => ?_)
  · have hw := hw.1 c
    refine r_aload_n (q := 107) dX3_complain_106 rfl 0 rfl ?_
    refine r_getI (q := 110) L_X3_338 dX3_complain_107 rfl (mw_k hm) ?_
    refine r_bipush (q := 112) dX3_complain_110 rfl kB_60 ?_
    refine r_icmp_ne (tg := 117) (q := 115) dX3_complain_112 (by decide) rfl (fun c => ?_) (fun c => ?_)
    · have hw := hw.1 c
      refine r_aload_n (q := 118) dX3_complain_117 rfl 0 rfl ?_
      refine r_getR (q := 121) L_X3_141 dX3_complain_118 rfl (mw_k hm) (mwr_atCorner hm) ?_
      refine r_aload_n (q := 122) dX3_complain_121 rfl 0 rfl ?_
      refine r_getI (q := 125) L_X3_338 dX3_complain_122 rfl (mw_k hm) ?_
      refine r_iload_n (q := 126) dX3_complain_125 rfl 1 rfl ?_
      obtain ⟨g101, hw⟩ := hw
      refine r_iastL (q := 127) dX3_complain_126 rfl (mwk_atCorner hm) (mwl_atCorner hm) g101 ?_
      refine r_mw_sI hm (fun hm => ?_)
      have hw := hw _ rfl
      refine r_aload_n (q := 128) dX3_complain_127 rfl 0 rfl ?_
      refine r_getR (q := 131) L_X3_144 dX3_complain_128 rfl (mw_k hm) (mwr_ofKind hm) ?_
      refine r_aload_n (q := 132) dX3_complain_131 rfl 0 rfl ?_
      refine r_getI (q := 135) L_X3_338 dX3_complain_132 rfl (mw_k hm) ?_
      refine r_iload_n (q := 136) dX3_complain_135 rfl 2 rfl ?_
      obtain ⟨g103, hw⟩ := hw
      refine r_iastL (q := 137) dX3_complain_136 rfl (mwk_ofKind hm) (mwl_ofKind hm) g103 ?_
      refine r_mw_sI hm (fun hm => ?_)
      have hw := hw _ rfl
      refine r_aload_n (q := 138) dX3_complain_137 rfl 0 rfl ?_
      refine r_getR (q := 141) L_X3_147 dX3_complain_138 rfl (mw_k hm) (mwr_toldOn hm) ?_
      refine r_aload_n (q := 142) dX3_complain_141 rfl 0 rfl ?_
      refine r_getI (q := 145) L_X3_338 dX3_complain_142 rfl (mw_k hm) ?_
      refine r_aload_n (q := 146) dX3_complain_145 rfl 0 rfl ?_
      refine r_getI (q := 149) L_X3_212 dX3_complain_146 rfl (mw_k hm) ?_
      obtain ⟨g105, hw⟩ := hw
      refine r_iastL (q := 150) dX3_complain_149 rfl (mwk_toldOn hm) (mwl_toldOn hm) g105 ?_
      refine r_mw_sI hm (fun hm => ?_)
      have hw := hw _ rfl
      refine r_aload_n (q := 151) dX3_complain_150 rfl 0 rfl ?_
      refine r_getR (q := 154) L_X3_150 dX3_complain_151 rfl (mw_k hm) (mwr_joinedOn hm) ?_
      refine r_aload_n (q := 155) dX3_complain_154 rfl 0 rfl ?_
      refine r_getI (q := 158) L_X3_338 dX3_complain_155 rfl (mw_k hm) ?_
      refine r_aload_n (q := 159) dX3_complain_158 rfl 0 rfl ?_
      refine r_getI (q := 162) L_X3_212 dX3_complain_159 rfl (mw_k hm) ?_
      obtain ⟨g107, hw⟩ := hw
      refine r_iastL (q := 163) dX3_complain_162 rfl (mwk_joinedOn hm) (mwl_joinedOn hm) g107 ?_
      refine r_mw_sI hm (fun hm => ?_)
      have hw := hw _ rfl
      refine r_aload_n (q := 164) dX3_complain_163 rfl 0 rfl ?_
      refine r_getR (q := 167) L_X3_153 dX3_complain_164 rfl (mw_k hm) (mwr_often hm) ?_
      refine r_aload_n (q := 168) dX3_complain_167 rfl 0 rfl ?_
      refine r_getI (q := 171) L_X3_338 dX3_complain_168 rfl (mw_k hm) ?_
      refine r_iconst (q := 172) dX3_complain_171 rfl kI_1 ?_
      obtain ⟨g109, hw⟩ := hw
      refine r_iastL (q := 173) dX3_complain_172 rfl (mwk_often hm) (mwl_often hm) g109 ?_
      refine r_mw_sI hm (fun hm => ?_)
      have hw := hw _ rfl
      refine r_aload_n (q := 174) dX3_complain_173 rfl 0 rfl ?_
      refine r_getR (q := 177) L_X3_156 dX3_complain_174 rfl (mw_k hm) (mwr_isOpen hm) ?_
      refine r_aload_n (q := 178) dX3_complain_177 rfl 0 rfl ?_
      refine r_getI (q := 181) L_X3_338 dX3_complain_178 rfl (mw_k hm) ?_
      refine r_iconst (q := 182) dX3_complain_181 rfl kI_1 ?_
      obtain ⟨g111, hw⟩ := hw
      refine r_zastL (q := 183) dX3_complain_182 rfl (mwk_isOpen hm) (mwl_isOpen hm) g111 (Or.inr rfl) ?_
      refine r_mw_sI hm (fun hm => ?_)
      have hw := hw _ rfl
      refine r_aload_n (q := 184) dX3_complain_183 rfl 0 rfl ?_
      refine r_dup (q := 185) dX3_complain_184 rfl rfl ?_
      refine r_getI (q := 188) L_X3_338 dX3_complain_185 rfl (mw_k hm) ?_
      refine r_iconst (q := 189) dX3_complain_188 rfl kI_1 ?_
      refine r_iadd (q := 190) dX3_complain_189 rfl ?_
      refine r_putI (q := 193) L_X3_338 dX3_complain_190 rfl (mw_k hm) ?_
      refine r_mw_pI hm (fun hm => ?_)
      have hw := hw _ rfl
      refine r_aload_n (q := 194) dX3_complain_193 rfl 0 rfl ?_
      refine r_getI (q := 197) L_X3_338 dX3_complain_194 rfl (mw_k hm) ?_
      refine r_iconst (q := 198) dX3_complain_197 rfl kI_1 ?_
      refine r_isub (q := 199) dX3_complain_198 rfl ?_
      exact r_iret dX3_complain_199 rfl hw
    · have hw := hw.2 c
      refine r_iconst (q := 116) dX3_complain_115 rfl kI_m1 ?_
      exact r_iret dX3_complain_116 rfl hw
  · have hw := hw.2 c
    refine r_aload_n (q := 31) dX3_complain_30 rfl 0 rfl ?_
    refine r_getR (q := 34) L_X3_156 dX3_complain_31 rfl (mw_k hm) (mwr_isOpen hm) ?_
    refine r_iload_n (q := 35) dX3_complain_34 rfl 3 rfl ?_
    obtain ⟨g114, hw⟩ := hw
    refine r_zaldL (q := 36) dX3_complain_35 rfl (mwk_isOpen hm) (mwl_isOpen hm) g114 ?_
    refine r_if_eq (tg := 100) (q := 39) dX3_complain_36 (by decide) rfl (fun c => ?_) (fun c => ?_)
    · have hw := hw.1 c
      have hw := hw _ rfl
      refine r_iincW (q := 103) (lv' := [(0, _), (1, _), (2, _), (3, _)]) dX3_complain_100 rfl 3 rfl kI_m1 (Nat.le_of_ble_eq_true rfl) rfl ?_
      refine r_goto (tg := 26) dX3_complain_103 (by decide) ?_
      exact hw
    · have hw := hw.2 c
      refine r_aload_n (q := 40) dX3_complain_39 rfl 0 rfl ?_
      refine r_getR (q := 43) L_X3_141 dX3_complain_40 rfl (mw_k hm) (mwr_atCorner hm) ?_
      refine r_iload_n (q := 44) dX3_complain_43 rfl 3 rfl ?_
      obtain ⟨g116, hw⟩ := hw
      refine r_ialdL (q := 45) dX3_complain_44 rfl (mwk_atCorner hm) (mwl_atCorner hm) g116 ?_
      refine r_iload_n (q := 46) dX3_complain_45 rfl 1 rfl ?_
      refine r_icmp_ne (tg := 100) (q := 49) dX3_complain_46 (by decide) rfl (fun c => ?_) (fun c => ?_)
      · have hw := hw.1 c
        have hw := hw _ rfl
        refine r_iincW (q := 103) (lv' := [(0, _), (1, _), (2, _), (3, _)]) dX3_complain_100 rfl 3 rfl kI_m1 (Nat.le_of_ble_eq_true rfl) rfl ?_
        refine r_goto (tg := 26) dX3_complain_103 (by decide) ?_
        exact hw
      · have hw := hw.2 c
        refine r_aload_n (q := 50) dX3_complain_49 rfl 0 rfl ?_
        refine r_getR (q := 53) L_X3_144 dX3_complain_50 rfl (mw_k hm) (mwr_ofKind hm) ?_
        refine r_iload_n (q := 54) dX3_complain_53 rfl 3 rfl ?_
        obtain ⟨g118, hw⟩ := hw
        refine r_ialdL (q := 55) dX3_complain_54 rfl (mwk_ofKind hm) (mwl_ofKind hm) g118 ?_
        refine r_iload_n (q := 56) dX3_complain_55 rfl 2 rfl ?_
        refine r_icmp_ne (tg := 100) (q := 59) dX3_complain_56 (by decide) rfl (fun c => ?_) (fun c => ?_)
        · have hw := hw.1 c
          have hw := hw _ rfl
          refine r_iincW (q := 103) (lv' := [(0, _), (1, _), (2, _), (3, _)]) dX3_complain_100 rfl 3 rfl kI_m1 (Nat.le_of_ble_eq_true rfl) rfl ?_
          refine r_goto (tg := 26) dX3_complain_103 (by decide) ?_
          exact hw
        · have hw := hw.2 c
          refine r_aload_n (q := 60) dX3_complain_59 rfl 0 rfl ?_
          refine r_getI (q := 63) L_X3_212 dX3_complain_60 rfl (mw_k hm) ?_
          refine r_aload_n (q := 64) dX3_complain_63 rfl 0 rfl ?_
          refine r_getR (q := 67) L_X3_150 dX3_complain_64 rfl (mw_k hm) (mwr_joinedOn hm) ?_
          refine r_iload_n (q := 68) dX3_complain_67 rfl 3 rfl ?_
          obtain ⟨g120, hw⟩ := hw
          refine r_ialdL (q := 69) dX3_complain_68 rfl (mwk_joinedOn hm) (mwl_joinedOn hm) g120 ?_
          refine r_isub (q := 70) dX3_complain_69 rfl ?_
          refine r_bipush (q := 72) dX3_complain_70 rfl kB_7 ?_
          refine r_icmp_le (tg := 78) (q := 75) dX3_complain_72 (by decide) rfl (fun c => ?_) (fun c => ?_)
          · have hw := hw.1 c
            refine r_aload_n (q := 79) dX3_complain_78 rfl 0 rfl ?_
            refine r_getR (q := 82) L_X3_150 dX3_complain_79 rfl (mw_k hm) (mwr_joinedOn hm) ?_
            refine r_iload_n (q := 83) dX3_complain_82 rfl 3 rfl ?_
            refine r_aload_n (q := 84) dX3_complain_83 rfl 0 rfl ?_
            refine r_getI (q := 87) L_X3_212 dX3_complain_84 rfl (mw_k hm) ?_
            obtain ⟨g121, hw⟩ := hw
            refine r_iastL (q := 88) dX3_complain_87 rfl (mwk_joinedOn hm) (mwl_joinedOn hm) g121 ?_
            refine r_mw_sI hm (fun hm => ?_)
            have hw := hw _ rfl
            refine r_aload_n (q := 89) dX3_complain_88 rfl 0 rfl ?_
            refine r_getR (q := 92) L_X3_153 dX3_complain_89 rfl (mw_k hm) (mwr_often hm) ?_
            refine r_iload_n (q := 93) dX3_complain_92 rfl 3 rfl ?_
            refine r_dup2 (q := 94) dX3_complain_93 rfl rfl rfl ?_
            obtain ⟨g123, hw⟩ := hw
            refine r_ialdL (q := 95) dX3_complain_94 rfl (mwk_often hm) (mwl_often hm) g123 ?_
            refine r_iconst (q := 96) dX3_complain_95 rfl kI_1 ?_
            refine r_iadd (q := 97) dX3_complain_96 rfl ?_
            obtain ⟨g124, hw⟩ := hw
            refine r_iastL (q := 98) dX3_complain_97 rfl (mwk_often hm) (mwl_often hm) g124 ?_
            refine r_mw_sI hm (fun hm => ?_)
            have hw := hw _ rfl
            refine r_iload_n (q := 99) dX3_complain_98 rfl 3 rfl ?_
            exact r_iret dX3_complain_99 rfl hw
          · have hw := hw.2 c
            refine r_goto (tg := 100) dX3_complain_75 (by decide) ?_
            have hw := hw _ rfl
            refine r_iincW (q := 103) (lv' := [(0, _), (1, _), (2, _), (3, _)]) dX3_complain_100 rfl 3 rfl kI_m1 (Nat.le_of_ble_eq_true rfl) rfl ?_
            refine r_goto (tg := 26) dX3_complain_103 (by decide) ?_
            exact hw
