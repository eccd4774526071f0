/-! walks -/
set_option maxRecDepth 100000
theorem b_X1_isFall_0 {x1 : Int32} {this : Nat} {h : Hp} {k n : Nat} {Q : Int32 → Hp → Prop} {E : Nat → Hp → Prop} (hw : kd h this = 5 ∧ (((gI h 404 this) < (gI h 403 this) → ((gI h 403 this) ≤ x1 → Q 1 h) ∧ (¬ (gI h 403 this) ≤ x1 → ((gI h 404 this) < x1 → Q 0 h) ∧ (¬ (gI h 404 this) < x1 → Q 1 h))) ∧ (¬ (gI h 404 this) < (gI h 403 this) → (x1 < (gI h 403 this) → Q 0 h) ∧ (¬ x1 < (gI h 403 this) → ((gI h 404 this) < x1 → Q 0 h) ∧ (¬ (gI h 404 this) < x1 → Q 1 h))))) : Rn M_X1_isFall 0 [(0, rV this), (1, iV x1)] [] h k n (qI Q) E := by
  refine r_aload_n (q := 1) dX1_isFall_0 rfl 0 rfl ?_
  obtain ⟨g101, hw⟩ := hw
  refine r_getI (q := 4) L_X1_20 dX1_isFall_1 rfl g101 ?_
  refine r_aload_n (q := 5) dX1_isFall_4 rfl 0 rfl ?_
  refine r_getI (q := 8) L_X1_23 dX1_isFall_5 rfl g101 ?_
  refine r_icmp_gt (tg := 35) (q := 11) dX1_isFall_8 (by decide) rfl (fun c => ?_) (fun c => ?_)
  · have hw := hw.1 c
    refine r_iload_n (q := 36) dX1_isFall_35 rfl 1 rfl ?_
    refine r_aload_n (q := 37) dX1_isFall_36 rfl 0 rfl ?_
    refine r_getI (q := 40) L_X1_20 dX1_isFall_37 rfl g101 ?_
    refine r_icmp_ge (tg := 51) (q := 43) dX1_isFall_40 (by decide) rfl (fun c => ?_) (fun c => ?_)
    · have hw := hw.1 c
      refine r_iconst (q := 52) dX1_isFall_51 rfl kI_1 ?_
      refine r_goto (tg := 56) dX1_isFall_52 (by decide) ?_
      exact r_zret dX1_isFall_56 rfl (Or.inr rfl) hw
    · have hw := hw.2 c
      refine r_iload_n (q := 44) dX1_isFall_43 rfl 1 rfl ?_
      refine r_aload_n (q := 45) dX1_isFall_44 rfl 0 rfl ?_
      refine r_getI (q := 48) L_X1_23 dX1_isFall_45 rfl g101 ?_
      refine r_icmp_gt (tg := 55) (q := 51) dX1_isFall_48 (by decide) rfl (fun c => ?_) (fun c => ?_)
      · have hw := hw.1 c
        refine r_iconst (q := 56) dX1_isFall_55 rfl kI_0 ?_
        exact r_zret dX1_isFall_56 rfl (Or.inl rfl) hw
      · have hw := hw.2 c
        refine r_iconst (q := 52) dX1_isFall_51 rfl kI_1 ?_
        refine r_goto (tg := 56) dX1_isFall_52 (by decide) ?_
        exact r_zret dX1_isFall_56 rfl (Or.inr rfl) hw
  · have hw := hw.2 c
    refine r_iload_n (q := 12) dX1_isFall_11 rfl 1 rfl ?_
    refine r_aload_n (q := 13) dX1_isFall_12 rfl 0 rfl ?_
    refine r_getI (q := 16) L_X1_20 dX1_isFall_13 rfl g101 ?_
    refine r_icmp_lt (tg := 31) (q := 19) dX1_isFall_16 (by decide) rfl (fun c => ?_) (fun c => ?_)
    · have hw := hw.1 c
      refine r_iconst (q := 32) dX1_isFall_31 rfl kI_0 ?_
      refine r_goto (tg := 56) dX1_isFall_32 (by decide) ?_
      exact r_zret dX1_isFall_56 rfl (Or.inl rfl) hw
    · have hw := hw.2 c
      refine r_iload_n (q := 20) dX1_isFall_19 rfl 1 rfl ?_
      refine r_aload_n (q := 21) dX1_isFall_20 rfl 0 rfl ?_
      refine r_getI (q := 24) L_X1_23 dX1_isFall_21 rfl g101 ?_
      refine r_icmp_gt (tg := 31) (q := 27) dX1_isFall_24 (by decide) rfl (fun c => ?_) (fun c => ?_)
      · have hw := hw.1 c
        refine r_iconst (q := 32) dX1_isFall_31 rfl kI_0 ?_
        refine r_goto (tg := 56) dX1_isFall_32 (by decide) ?_
        exact r_zret dX1_isFall_56 rfl (Or.inl rfl) hw
      · have hw := hw.2 c
        refine r_iconst (q := 28) dX1_isFall_27 rfl kI_1 ?_
        refine r_goto (tg := 56) dX1_isFall_28 (by decide) ?_
        exact r_zret dX1_isFall_56 rfl (Or.inr rfl) hw
def V_X1_isFall (h : Hp) (this : Nat) (x1 : Int32) : Int32 := (if (gI h 404 this) < (gI h 403 this) then (if (gI h 403 this) ≤ x1 then 1 else (if (gI h 404 this) < x1 then 0 else 1)) else (if x1 < (gI h 403 this) then 0 else (if (gI h 404 this) < x1 then 0 else 1)))
def P_X1_isFall (h : Hp) (this : Nat) (x1 : Int32) : Prop := kd h this = 5
theorem ct_X1_isFall {h : Hp} {E : Nat → Hp → Prop} {k n : Nat} {this : Nat} {x1 : Int32} (hp : P_X1_isFall h this x1) {Q : Int32 → Hp → Prop} (hq : Q (V_X1_isFall h this x1) h) : CtI M_X1_isFall [rV this, iV x1] h k n Q E := by
  unfold P_X1_isFall at hp
  unfold V_X1_isFall at hq
  refine b_X1_isFall_0 ?_
  refine ⟨hp, ?_⟩
  refine ⟨fun c => ?_, fun c => ?_⟩
  · rw [if_pos c] at hq
    refine ⟨fun c => ?_, fun c => ?_⟩
    · rw [if_pos c] at hq
      exact hq
    · rw [if_neg (by first | exact c | exact fun z => z c | (rw [c]; decide))] at hq
      refine ⟨fun c => ?_, fun c => ?_⟩
      · rw [if_pos c] at hq
        exact hq
      · rw [if_neg (by first | exact c | exact fun z => z c | (rw [c]; decide))] at hq
        exact hq
  · rw [if_neg (by first | exact c | exact fun z => z c | (rw [c]; decide))] at hq
    refine ⟨fun c => ?_, fun c => ?_⟩
    · rw [if_pos c] at hq
      exact hq
    · rw [if_neg (by first | exact c | exact fun z => z c | (rw [c]; decide))] at hq
      refine ⟨fun c => ?_, fun c => ?_⟩
      · rw [if_pos c] at hq
        exact hq
      · rw [if_neg (by first | exact c | exact fun z => z c | (rw [c]; decide))] at hq
        exact hq
theorem b_X6_clogs_0 {this r1 : Nat} {h : Hp} {k n : Nat} {Q : Hp → Prop} {E : Nat → Hp → Prop} (hw : kd h this = 4 ∧ (((gI h 304 this) = 0 → kd h r1 = 5 ∧ (Rn M_X6_clogs 20 [(0, rV this)] [iV (gI h 402 r1)] h k n (qV Q) E)) ∧ (¬ (gI h 304 this) = 0 → kd h r1 = 5 ∧ (Rn M_X6_clogs 20 [(0, rV this)] [iV ((gI h 402 r1) / 2)] h k n (qV Q) E)))) : Rn M_X6_clogs 0 [(0, rV this), (1, rV r1)] [] h k n (qV Q) E := by
  refine r_aload_n (q := 1) dX6_clogs_0 rfl 0 rfl ?_
  obtain ⟨g101, hw⟩ := hw
  refine r_getI (q := 4) L_X6_33 dX6_clogs_1 rfl g101 ?_
  refine r_if_eq (tg := 16) (q := 7) dX6_clogs_4 (by decide) rfl (fun c => ?_) (fun c => ?_)
  · have hw := hw.1 c
    refine r_aload_n (q := 17) dX6_clogs_16 rfl 1 rfl ?_
    obtain ⟨g102, hw⟩ := hw
    refine r_getI (q := 20) L_X6_66 dX6_clogs_17 rfl g102 ?_
    exact r_sub [0] rfl hw
  · have hw := hw.2 c
    refine r_aload_n (q := 8) dX6_clogs_7 rfl 1 rfl ?_
    obtain ⟨g103, hw⟩ := hw
    refine r_getI (q := 11) L_X6_66 dX6_clogs_8 rfl g103 ?_
    refine r_iconst (q := 12) dX6_clogs_11 rfl kI_2 ?_
    refine r_idiv (q := 13) dX6_clogs_12 rfl (by decide) ?_
    refine r_goto (tg := 20) dX6_clogs_13 (by decide) ?_
    exact r_sub [0] rfl hw
theorem b_X6_clogs_20 {a0 : Int32} {this : Nat} {h : Hp} {k n : Nat} {Q : Hp → Prop} {E : Nat → Hp → Prop} (hw : kd h this = 4 ∧ (((gI h 312 this) = 0 → Rn M_X6_clogs 42 [(0, rV this)] [iV (2 * a0), iV (gI h 305 this), iV 100, rV this] h k n (qV Q) E) ∧ (¬ (gI h 312 this) = 0 → Rn M_X6_clogs 42 [(0, rV this)] [iV a0, iV (gI h 305 this), iV 100, rV this] h k n (qV Q) E))) : Rn M_X6_clogs 20 [(0, rV this)] [iV a0] h k n (qV Q) E := by
  refine r_istore_n (q := 21) (lv' := [(0, _), (2, _)]) dX6_clogs_20 rfl (Nat.le_of_ble_eq_true rfl) rfl ?_
  refine r_aload_n (q := 22) dX6_clogs_21 rfl 0 rfl ?_
  refine r_bipush (q := 24) dX6_clogs_22 rfl kB_100 ?_
  refine r_aload_n (q := 25) dX6_clogs_24 rfl 0 rfl ?_
  obtain ⟨g101, hw⟩ := hw
  refine r_getI (q := 28) L_X6_46 dX6_clogs_25 rfl g101 ?_
  refine r_aload_n (q := 29) dX6_clogs_28 rfl 0 rfl ?_
  refine r_getI (q := 32) L_X6_19 dX6_clogs_29 rfl g101 ?_
  refine r_if_eq (tg := 39) (q := 35) dX6_clogs_32 (by decide) rfl (fun c => ?_) (fun c => ?_)
  · have hw := hw.1 c
    refine r_iconst (q := 40) dX6_clogs_39 rfl kI_2 ?_
    refine r_iload_n (q := 41) dX6_clogs_40 rfl 1 rfl ?_
    refine r_imul (q := 42) dX6_clogs_41 rfl ?_
    exact r_sub [0] rfl hw
  · have hw := hw.2 c
    refine r_iload_n (q := 36) dX6_clogs_35 rfl 1 rfl ?_
    refine r_goto (tg := 42) dX6_clogs_36 (by decide) ?_
    exact r_sub [0] rfl hw
theorem b_X6_clogs_42 {a0 a1 a2 : Int32} {this p3 : Nat} {h : Hp} {k n : Nat} {Q : Hp → Prop} {E : Nat → Hp → Prop} (hw : kd h p3 = 4 ∧ (∀ h102 : Hp, h102 = pI h 305 p3 (imin a2 (a1 + a0)) → Q h102)) : Rn M_X6_clogs 42 [(0, rV this)] [iV a0, iV a1, iV a2, rV p3] h k n (qV Q) E := by
  refine r_iadd (q := 43) dX6_clogs_42 rfl ?_
  refine r_mmin (q := 46) q1099 dX6_clogs_43 rfl rfl ?_
  obtain ⟨g101, hw⟩ := hw
  refine r_putI (q := 49) L_X6_46 dX6_clogs_46 rfl g101 ?_
  refine r_kpI g101 (fun g101 => ?_)
  have hw := hw _ rfl
  exact r_vret dX6_clogs_49 rfl hw
theorem b_X6_fall_0 {x2 : Int32} {this r1 : Nat} {h : Hp} {k n : Nat} {Q : Hp → Prop} {E : Nat → Hp → Prop} (hw : kd h r1 = 5 ∧ ((P_X1_isFall h r1 x2) ∧ (((V_X1_isFall h r1 x2) = 0 → Q h) ∧ (¬ (V_X1_isFall h r1 x2) = 0 → kd h this = 4 ∧ (((gI h 304 this) = 0 → Rn M_X6_fall 27 [(0, rV this)] [iV 1, iV (gI h 306 this), iV 10, rV this] h k n (qV Q) E) ∧ (¬ (gI h 304 this) = 0 → Rn M_X6_fall 27 [(0, rV this)] [iV 2, iV (gI h 306 this), iV 10, rV this] h k n (qV Q) E)))))) : Rn M_X6_fall 0 [(0, rV this), (1, rV r1), (2, iV x2)] [] h k n (qV Q) E := by
  refine r_aload_n (q := 1) dX6_fall_0 rfl 1 rfl ?_
  refine r_iload_n (q := 2) dX6_fall_1 rfl 2 rfl ?_
  obtain ⟨g101, hw⟩ := hw
  obtain ⟨g102, hw⟩ := hw
  refine r_cVI0 (q := 5) _ [_] N_X6_72 rfl dX6_fall_2 rfl rfl rfl g101 rfl ?_
  refine ct_X1_isFall g102 ?_
  refine r_if_eq (tg := 34) (q := 8) dX6_fall_5 (by decide) rfl (fun c => ?_) (fun c => ?_)
  · have hw := hw.1 c
    exact r_vret dX6_fall_34 rfl hw
  · have hw := hw.2 c
    refine r_aload_n (q := 9) dX6_fall_8 rfl 0 rfl ?_
    refine r_bipush (q := 11) dX6_fall_9 rfl kB_10 ?_
    refine r_aload_n (q := 12) dX6_fall_11 rfl 0 rfl ?_
    obtain ⟨g103, hw⟩ := hw
    refine r_getI (q := 15) L_X6_76 dX6_fall_12 rfl g103 ?_
    refine r_aload_n (q := 16) dX6_fall_15 rfl 0 rfl ?_
    refine r_getI (q := 19) L_X6_33 dX6_fall_16 rfl g103 ?_
    refine r_if_eq (tg := 26) (q := 22) dX6_fall_19 (by decide) rfl (fun c => ?_) (fun c => ?_)
    · have hw := hw.1 c
      refine r_iconst (q := 27) dX6_fall_26 rfl kI_1 ?_
      exact r_sub [0] rfl hw
    · have hw := hw.2 c
      refine r_iconst (q := 23) dX6_fall_22 rfl kI_2 ?_
      refine r_goto (tg := 27) dX6_fall_23 (by decide) ?_
      exact r_sub [0] rfl hw
theorem b_X6_fall_27 {a0 a1 a2 : Int32} {this p3 : Nat} {h : Hp} {k n : Nat} {Q : Hp → Prop} {E : Nat → Hp → Prop} (hw : kd h p3 = 4 ∧ (∀ h102 : Hp, h102 = pI h 306 p3 (imin a2 (a1 + a0)) → Q h102)) : Rn M_X6_fall 27 [(0, rV this)] [iV a0, iV a1, iV a2, rV p3] h k n (qV Q) E := by
  refine r_iadd (q := 28) dX6_fall_27 rfl ?_
  refine r_mmin (q := 31) q1099 dX6_fall_28 rfl rfl ?_
  obtain ⟨g101, hw⟩ := hw
  refine r_putI (q := 34) L_X6_76 dX6_fall_31 rfl g101 ?_
  refine r_kpI g101 (fun g101 => ?_)
  have hw := hw _ rfl
  exact r_vret dX6_fall_34 rfl hw
theorem b_X6_dries_0 {this : Nat} {h : Hp} {k n : Nat} {Q : Int32 → Hp → Prop} {E : Nat → Hp → Prop} (hw : kd h this = 4 ∧ ((P_X6_drink h this) ∧ (∀ x103 : Int32, x103 = imin (gI h 308 this) (20 * (V_X6_drink h this)) → ∀ h104 : Hp, h104 = pI h 308 this ((gI h 308 this) - x103) → ((gI h104 308 this) ≤ 0 → Rn M_X6_dries 43 [(0, rV this), (1, iV x103)] [iV 0, rV this] h104 k n (qI Q) E) ∧ (¬ (gI h104 308 this) ≤ 0 → Rn M_X6_dries 43 [(0, rV this), (1, iV x103)] [iV ((gI h104 309 this) + 1), rV this] h104 k n (qI Q) E)))) : Rn M_X6_dries 0 [(0, rV this)] [] h k n (qI Q) E := by
  refine r_aload_n (q := 1) dX6_dries_0 rfl 0 rfl ?_
  obtain ⟨g101, hw⟩ := hw
  refine r_getI (q := 4) L_X6_79 dX6_dries_1 rfl g101 ?_
  refine r_bipush (q := 6) dX6_dries_4 rfl kB_20 ?_
  refine r_aload_n (q := 7) dX6_dries_6 rfl 0 rfl ?_
  obtain ⟨g102, hw⟩ := hw
  refine r_cVI0 (q := 10) _ [] N_X6_59 rfl dX6_dries_7 rfl rfl rfl g101 rfl ?_
  refine ct_X6_drink g102 ?_
  refine r_imul (q := 11) dX6_dries_10 rfl ?_
  refine r_mmin (q := 14) q1099 dX6_dries_11 rfl rfl ?_
  have hw := hw _ rfl
  refine r_istore_n (q := 15) (lv' := [(0, _), (1, _)]) dX6_dries_14 rfl (Nat.le_of_ble_eq_true rfl) rfl ?_
  refine r_aload_n (q := 16) dX6_dries_15 rfl 0 rfl ?_
  refine r_dup (q := 17) dX6_dries_16 rfl rfl ?_
  refine r_getI (q := 20) L_X6_79 dX6_dries_17 rfl g101 ?_
  refine r_iload_n (q := 21) dX6_dries_20 rfl 1 rfl ?_
  refine r_isub (q := 22) dX6_dries_21 rfl ?_
  refine r_putI (q := 25) L_X6_79 dX6_dries_22 rfl g101 ?_
  refine r_kpI g101 (fun g101 => ?_)
  have hw := hw _ rfl
  refine r_aload_n (q := 26) dX6_dries_25 rfl 0 rfl ?_
  refine r_aload_n (q := 27) dX6_dries_26 rfl 0 rfl ?_
  refine r_getI (q := 30) L_X6_79 dX6_dries_27 rfl g101 ?_
  refine r_if_le (tg := 42) (q := 33) dX6_dries_30 (by decide) rfl (fun c => ?_) (fun c => ?_)
  · have hw := hw.1 c
    refine r_iconst (q := 43) dX6_dries_42 rfl kI_0 ?_
    exact hw
  · have hw := hw.2 c
    refine r_aload_n (q := 34) dX6_dries_33 rfl 0 rfl ?_
    refine r_getI (q := 37) L_X6_82 dX6_dries_34 rfl g101 ?_
    refine r_iconst (q := 38) dX6_dries_37 rfl kI_1 ?_
    refine r_iadd (q := 39) dX6_dries_38 rfl ?_
    refine r_goto (tg := 43) dX6_dries_39 (by decide) ?_
    exact hw
theorem b_X6_dries_43 {x1 a0 : Int32} {this p1 : Nat} {h : Hp} {k n : Nat} {Q : Int32 → Hp → Prop} {E : Nat → Hp → Prop} (hw : kd h p1 = 4 ∧ (∀ h102 : Hp, h102 = pI h 309 p1 a0 → Q x1 h102)) : Rn M_X6_dries 43 [(0, rV this), (1, iV x1)] [iV a0, rV p1] h k n (qI Q) E := by
  obtain ⟨g101, hw⟩ := hw
  refine r_putI (q := 46) L_X6_82 dX6_dries_43 rfl g101 ?_
  refine r_kpI g101 (fun g101 => ?_)
  have hw := hw _ rfl
  refine r_iload_n (q := 47) dX6_dries_46 rfl 1 rfl ?_
  exact r_iret dX6_dries_47 rfl hw
theorem b_X6_spring_0 {this r1 : Nat} {h : Hp} {k n : Nat} {Q : Hp → Prop} {E : Nat → Hp → Prop} (hw : kd h this = 4 ∧ (kd h r1 = 5 ∧ (((gI h 307 this) ≤ (gI h 407 r1) → Rn M_X6_spring 16 [(0, rV this)] [] h k n (qV Q) E) ∧ (¬ (gI h 307 this) ≤ (gI h 407 r1) → ∀ h103 : Hp, h103 = pI h 312 this 0 → Rn M_X6_spring 16 [(0, rV this)] [] h103 k n (qV Q) E)))) : Rn M_X6_spring 0 [(0, rV this), (1, rV r1)] [] h k n (qV Q) E := by
  refine r_aload_n (q := 1) dX6_spring_0 rfl 0 rfl ?_
  obtain ⟨g101, hw⟩ := hw
  refine r_getI (q := 4) L_X6_85 dX6_spring_1 rfl g101 ?_
  refine r_aload_n (q := 5) dX6_spring_4 rfl 1 rfl ?_
  obtain ⟨g102, hw⟩ := hw
  refine r_getI (q := 8) L_X6_88 dX6_spring_5 rfl g102 ?_
  refine r_icmp_le (tg := 16) (q := 11) dX6_spring_8 (by decide) rfl (fun c => ?_) (fun c => ?_)
  · have hw := hw.1 c
    exact r_sub [0] rfl hw
  · have hw := hw.2 c
    refine r_aload_n (q := 12) dX6_spring_11 rfl 0 rfl ?_
    refine r_iconst (q := 13) dX6_spring_12 rfl kI_0 ?_
    refine r_putZ (q := 16) L_X6_19 dX6_spring_13 rfl g101 (Or.inl rfl) ?_
    refine r_kpI g101 (fun g101 => ?_)
    refine r_kpI g102 (fun g102 => ?_)
    have hw := hw _ rfl
    exact r_sub [0] rfl hw
theorem b_X6_spring_16 {this : Nat} {h : Hp} {k n : Nat} {Q : Hp → Prop} {E : Nat → Hp → Prop} (hw : kd h this = 4 ∧ (∀ h102 : Hp, h102 = pI h 307 this 0 → Q h102)) : Rn M_X6_spring 16 [(0, rV this)] [] h k n (qV Q) E := by
  refine r_aload_n (q := 17) dX6_spring_16 rfl 0 rfl ?_
  refine r_iconst (q := 18) dX6_spring_17 rfl kI_0 ?_
  obtain ⟨g101, hw⟩ := hw
  refine r_putI (q := 21) L_X6_85 dX6_spring_18 rfl g101 ?_
  refine r_kpI g101 (fun g101 => ?_)
  have hw := hw _ rfl
  exact r_vret dX6_spring_21 rfl hw
theorem b_X0_beds_0 {x2 : Int32} {xo r1 : Nat} {h : Hp} {k n : Nat} {Q : Hp → Prop} {E : Nat → Hp → Prop} (hm : XW h xo) (hw : Rn M_X0_beds 2 [(0, rV xo), (1, rV r1), (2, iV x2), (3, iV 0)] [] h k n (qV Q) E) : Rn M_X0_beds 0 [(0, rV xo), (1, rV r1), (2, iV x2)] [] h k n (qV Q) E := by
  refine r_iconst (q := 1) dX0_beds_0 rfl kI_0 ?_
  refine r_istore_n (q := 2) (lv' := [(0, _), (1, _), (2, _), (3, _)]) dX0_beds_1 rfl (Nat.le_of_ble_eq_true rfl) rfl ?_
  exact hw
theorem b_X0_beds_2 {x2 x3 : Int32} {xo r1 : Nat} {h : Hp} {k n : Nat} {Q : Hp → Prop} {E : Nat → Hp → Prop} (hm : XW h xo) (hw : ((gI h 1102 (xo + 2)) ≤ x3 → Q h) ∧ (¬ (gI h 1102 (xo + 2)) ≤ x3 → (ALg h (xo + 2) x3) ∧ (kd h (el h (xo + 2) (ix x3)) = 2 ∧ (∀ r103 : Nat, r103 = gR h 109 (el h (xo + 2) (ix x3)) → (¬ r103 = 0 → kd h r103 = 4 ∧ (CtV M_X6_clogs [rV r103, rV r1] h 0 0 (fun h105 => XW h105 xo ∧ (kd h105 r103 = 4 ∧ (CtV M_X6_fall [rV r103, rV r1, iV x2] h105 0 0 (fun h107 => XW h107 xo ∧ (kd h107 r103 = 4 ∧ (CtI M_X6_dries [rV r103] h107 0 0 (fun x110 h109 => XW h109 xo ∧ (∀ h111 : Hp, h111 = pJ h109 18 xo ((gJ h107 18 xo) + (Int32.toInt64 x110)) → kd h111 r103 = 4 ∧ (kd h111 r1 = 5 ∧ ((¬ (gI h111 309 r103) = ((gI h111 408 r1) + 1) → Rn M_X0_beds 90 [(0, rV xo), (1, rV r1), (2, iV x2), (3, iV x3), (4, rV r103)] [] h111 k n (qV Q) E) ∧ ((gI h111 309 r103) = ((gI h111 408 r1) + 1) → ∃ k115 n116 k117 n118 : Nat, k115 + k117 ≤ k ∧ n116 + n118 ≤ n ∧ CtI M_X0_complains [rV xo, rV (gR h111 300 r103), iV 2] h111 k115 n116 (fun x119 h114 => XW h114 xo ∧ (Rn M_X0_beds 90 [(0, rV xo), (1, rV r1), (2, iV x2), (3, iV x3), (4, rV r103)] [] h114 k117 n118 (qV Q) E)) E))))) E))) E))) E)) ∧ (r103 = 0 → ∀ x120 : Int32, x120 = x3 + 1 → Rn M_X0_beds 2 [(0, rV xo), (1, rV r1), (2, iV x2), (3, iV x120)] [] h k n (qV Q) E))))) : Rn M_X0_beds 2 [(0, rV xo), (1, rV r1), (2, iV x2), (3, iV x3)] [] h k n (qV Q) E := by
  refine r_iload_n (q := 3) dX0_beds_2 rfl 3 rfl ?_
  refine r_aload_n (q := 4) dX0_beds_3 rfl 0 rfl ?_
  refine r_getR (q := 7) L_X0_20 dX0_beds_4 rfl (xw_k hm) (xwr_corners hm) ?_
  refine r_cVI0 (q := 10) _ [] N_X0_77 rfl dX0_beds_7 rfl rfl rfl (xwk_corners hm) rfl ?_
  refine ct_J2_size (xwk_corners hm) ?_
  refine r_icmp_ge (tg := 108) (q := 13) dX0_beds_10 (by decide) rfl (fun c => ?_) (fun c => ?_)
  · have hw := hw.1 c
    exact r_vret dX0_beds_108 rfl hw
  · have hw := hw.2 c
    refine r_aload_n (q := 14) dX0_beds_13 rfl 0 rfl ?_
    refine r_getR (q := 17) L_X0_20 dX0_beds_14 rfl (xw_k hm) (xwr_corners hm) ?_
    refine r_iload_n (q := 18) dX0_beds_17 rfl 3 rfl ?_
    obtain ⟨g101, hw⟩ := hw
    refine r_cVR0 (q := 21) _ [_] N_X0_81 rfl dX0_beds_18 rfl rfl rfl (xwk_corners hm) rfl ?_
    refine ct_J2_get (xwk_corners hm) g101 ?_
    obtain ⟨g102, hw⟩ := hw
    refine r_cast (q := 24) q374 rfl dX0_beds_21 rfl g102 ?_
    refine r_getR (q := 27) L_X0_91 dX0_beds_24 rfl g102 rfl ?_
    have hw := hw _ rfl
    refine r_astore (q := 29) (lv' := [(0, _), (1, _), (2, _), (3, _), (4, _)]) dX0_beds_27 rfl (Nat.le_of_ble_eq_true rfl) rfl ?_
    refine r_aload (q := 31) dX0_beds_29 rfl 4 rfl ?_
    refine r_ifnonnull (tg := 37) (q := 34) dX0_beds_31 (by decide) rfl (fun c => ?_) (fun c => ?_)
    · have hw := hw.1 c
      refine r_aload (q := 39) dX0_beds_37 rfl 4 rfl ?_
      refine r_aload_n (q := 40) dX0_beds_39 rfl 1 rfl ?_
      obtain ⟨g104, hw⟩ := hw
      refine r_cVV0 (q := 43) _ [_] N_X0_338 rfl dX0_beds_40 rfl rfl rfl g104 rfl ?_
      refine r_monoCV (fun h105 hw => ?_) hw
      obtain ⟨hm, hw⟩ := hw
      refine r_aload (q := 45) dX0_beds_43 rfl 4 rfl ?_
      refine r_aload_n (q := 46) dX0_beds_45 rfl 1 rfl ?_
      refine r_iload_n (q := 47) dX0_beds_46 rfl 2 rfl ?_
      obtain ⟨g106, hw⟩ := hw
      refine r_cVV0 (q := 50) _ [_, _] N_X0_341 rfl dX0_beds_47 rfl rfl rfl g106 rfl ?_
      refine r_monoCV (fun h107 hw => ?_) hw
      obtain ⟨hm, hw⟩ := hw
      refine r_aload_n (q := 51) dX0_beds_50 rfl 0 rfl ?_
      refine r_dup (q := 52) dX0_beds_51 rfl rfl ?_
      refine r_getJ (q := 55) L_X0_345 dX0_beds_52 rfl (xw_k hm) ?_
      refine r_aload (q := 57) dX0_beds_55 rfl 4 rfl ?_
      obtain ⟨g108, hw⟩ := hw
      refine r_cVI0 (q := 60) _ [] N_X0_349 rfl dX0_beds_57 rfl rfl rfl g108 rfl ?_
      refine r_monoCI (fun x110 h109 hw => ?_) hw
      obtain ⟨hm, hw⟩ := hw
      refine r_i2l (q := 61) dX0_beds_60 rfl ?_
      refine r_ladd (q := 62) dX0_beds_61 rfl ?_
      refine r_putJ (q := 65) L_X0_345 dX0_beds_62 rfl (xw_k hm) ?_
      refine r_xw_pJ hm (fun hm => ?_)
      have hw := hw _ rfl
      refine r_aload (q := 67) dX0_beds_65 rfl 4 rfl ?_
      obtain ⟨g112, hw⟩ := hw
      refine r_getI (q := 70) L_X0_352 dX0_beds_67 rfl g112 ?_
      refine r_aload_n (q := 71) dX0_beds_70 rfl 1 rfl ?_
      obtain ⟨g113, hw⟩ := hw
      refine r_getI (q := 74) L_X0_296 dX0_beds_71 rfl g113 ?_
      refine r_iconst (q := 75) dX0_beds_74 rfl kI_1 ?_
      refine r_iadd (q := 76) dX0_beds_75 rfl ?_
      refine r_icmp_ne (tg := 90) (q := 79) dX0_beds_76 (by decide) rfl (fun c => ?_) (fun c => ?_)
      · have hw := hw.1 c
        exact hw
      · have hw := hw.2 c
        refine r_aload_n (q := 80) dX0_beds_79 rfl 0 rfl ?_
        refine r_aload (q := 82) dX0_beds_80 rfl 4 rfl ?_
        refine r_getR (q := 85) L_X0_355 dX0_beds_82 rfl g112 rfl ?_
        refine r_iconst (q := 86) dX0_beds_85 rfl kI_2 ?_
        obtain ⟨k115, n116, k117, n118, hk, hn, hw⟩ := hw
        refine r_cVI (q := 89) _ [_, _] N_X0_358 rfl dX0_beds_86 rfl rfl rfl (xw_k hm) rfl hk hn ?_
        refine r_monoCI (fun x119 h114 hw => ?_) hw
        obtain ⟨hm, hw⟩ := hw
        refine r_pop (q := 90) dX0_beds_89 rfl rfl ?_
        exact hw
    · have hw := hw.2 c
      refine r_goto (tg := 102) dX0_beds_34 (by decide) ?_
      have hw := hw _ rfl
      refine r_iincW (q := 105) (lv' := [(0, _), (1, _), (2, _), (3, _), (4, _)]) dX0_beds_102 rfl 3 rfl kI_1 (Nat.le_of_ble_eq_true rfl) rfl ?_
      refine r_goto (tg := 2) dX0_beds_105 (by decide) ?_
      exact r_sub [0, 1, 2, 3] rfl hw
theorem b_X0_beds_90 {x2 x3 : Int32} {xo r1 r4 : Nat} {h : Hp} {k n : Nat} {Q : Hp → Prop} {E : Nat → Hp → Prop} (hm : XW h xo) (hw : (¬ x2 = 60 → ∀ x101 : Int32, x101 = x3 + 1 → Rn M_X0_beds 2 [(0, rV xo), (1, rV r1), (2, iV x2), (3, iV x101)] [] h k n (qV Q) E) ∧ (x2 = 60 → kd h r4 = 4 ∧ (CtV M_X6_spring [rV r4, rV r1] h 0 0 (fun h103 => XW h103 xo ∧ (∀ x104 : Int32, x104 = x3 + 1 → Rn M_X0_beds 2 [(0, rV xo), (1, rV r1), (2, iV x2), (3, iV x104)] [] h103 k n (qV Q) E)) E))) : Rn M_X0_beds 90 [(0, rV xo), (1, rV r1), (2, iV x2), (3, iV x3), (4, rV r4)] [] h k n (qV Q) E := by
  refine r_iload_n (q := 91) dX0_beds_90 rfl 2 rfl ?_
  refine r_bipush (q := 93) dX0_beds_91 rfl kB_60 ?_
  refine r_icmp_ne (tg := 102) (q := 96) dX0_beds_93 (by decide) rfl (fun c => ?_) (fun c => ?_)
  · have hw := hw.1 c
    have hw := hw _ rfl
    refine r_iincW (q := 105) (lv' := [(0, _), (1, _), (2, _), (3, _), (4, _)]) dX0_beds_102 rfl 3 rfl kI_1 (Nat.le_of_ble_eq_true rfl) rfl ?_
    refine r_goto (tg := 2) dX0_beds_105 (by decide) ?_
    exact r_sub [0, 1, 2, 3] rfl hw
  · have hw := hw.2 c
    refine r_aload (q := 98) dX0_beds_96 rfl 4 rfl ?_
    refine r_aload_n (q := 99) dX0_beds_98 rfl 1 rfl ?_
    obtain ⟨g102, hw⟩ := hw
    refine r_cVV0 (q := 102) _ [_] N_X0_362 rfl dX0_beds_99 rfl rfl rfl g102 rfl ?_
    refine r_monoCV (fun h103 hw => ?_) hw
    obtain ⟨hm, hw⟩ := hw
    have hw := hw _ rfl
    refine r_iincW (q := 105) (lv' := [(0, _), (1, _), (2, _), (3, _), (4, _)]) dX0_beds_102 rfl 3 rfl kI_1 (Nat.le_of_ble_eq_true rfl) rfl ?_
    refine r_goto (tg := 2) dX0_beds_105 (by decide) ?_
    exact r_sub [0, 1, 2, 3] rfl hw
theorem b_X0_turns_0 {xo r1 : Nat} {h : Hp} {k n : Nat} {Q : Hp → Prop} {E : Nat → Hp → Prop} (hm : XW h xo) (hw : Rn M_X0_turns 2 [(0, rV xo), (1, rV r1), (2, iV 0)] [] h k n (qV Q) E) : Rn M_X0_turns 0 [(0, rV xo), (1, rV r1)] [] h k n (qV Q) E := by
  refine r_iconst (q := 1) dX0_turns_0 rfl kI_0 ?_
  refine r_istore_n (q := 2) (lv' := [(0, _), (1, _), (2, _)]) dX0_turns_1 rfl (Nat.le_of_ble_eq_true rfl) rfl ?_
  exact hw
theorem b_X0_turns_2 {x2 : Int32} {xo r1 : Nat} {h : Hp} {k n : Nat} {Q : Hp → Prop} {E : Nat → Hp → Prop} (hm : XW h xo) (hw : kd h r1 = 5 ∧ (kd h (gR h 401 r1) = 12 ∧ (((gI h 1102 (gR h 401 r1)) ≤ x2 → Q h) ∧ (¬ (gI h 1102 (gR h 401 r1)) ≤ x2 → (ALg h (gR h 401 r1) x2) ∧ (kd h (el h (gR h 401 r1) (ix x2)) = 7 ∧ (∀ r105 : Nat, r105 = el h (gR h 401 r1) (ix x2) → (P_X10_corner h r105) ∧ ((P_X0_bedAt h xo (V_X10_corner h r105)) ∧ (∀ r108 : Nat, r108 = V_X0_bedAt h xo (V_X10_corner h r105) → (r108 = 0 → ∀ x109 : Int32, x109 = x2 + 1 → Rn M_X0_turns 2 [(0, rV xo), (1, rV r1), (2, iV x109)] [] h k n (qV Q) E) ∧ (¬ r108 = 0 → (P_X10_isOn h r105 (gI h 0 xo)) ∧ (((V_X10_isOn h r105 (gI h 0 xo)) = 0 → ∀ x111 : Int32, x111 = x2 + 1 → Rn M_X0_turns 2 [(0, rV xo), (1, rV r1), (2, iV x111)] [] h k n (qV Q) E) ∧ (¬ (V_X10_isOn h r105 (gI h 0 xo)) = 0 → (P_X10_neighbour h r105) ∧ (((V_X10_neighbour h r105) < 10 → (P_X10_neighbour h r105) ∧ (kd h r108 = 4 ∧ ((P_X6_isCaredBy h r108 (V_X10_neighbour h r105)) ∧ (((V_X6_isCaredBy h r108 (V_X10_neighbour h r105)) = 0 → (P_X10_neighbour h r105) ∧ (vp_in (V_X10_neighbour h r105) 10 ∧ (vp_in (V_X10_neighbour h r105) 10 ∧ (∀ h119 : Hp, h119 = sI h (xo + 10) (ix (V_X10_neighbour h r105)) ((eI h (xo + 10) (ix (V_X10_neighbour h r105))) + (gI h 405 r1)) → ∀ x120 : Int32, x120 = x2 + 1 → Rn M_X0_turns 2 [(0, rV xo), (1, rV r1), (2, iV x120)] [] h119 k n (qV Q) E)))) ∧ (¬ (V_X6_isCaredBy h r108 (V_X10_neighbour h r105)) = 0 → (P_X10_neighbour h r105) ∧ (vp_in ((10 * (V_X10_neighbour h r105)) + ((gI h 0 xo) / 365)) 100 ∧ (vp_in ((10 * (V_X10_neighbour h r105)) + ((gI h 0 xo) / 365)) 100 ∧ (∀ h124 : Hp, h124 = sI h (xo + 11) (ix ((10 * (V_X10_neighbour h r105)) + ((gI h 0 xo) / 365))) ((eI h (xo + 11) (ix ((10 * (V_X10_neighbour h r105)) + ((gI h 0 xo) / 365)))) + 1) → ∀ x125 : Int32, x125 = x2 + 1 → Rn M_X0_turns 2 [(0, rV xo), (1, rV r1), (2, iV x125)] [] h124 k n (qV Q) E)))))))) ∧ (¬ (V_X10_neighbour h r105) < 10 → ∀ x126 : Int32, x126 = x2 + 1 → Rn M_X0_turns 2 [(0, rV xo), (1, rV r1), (2, iV x126)] [] h k n (qV Q) E))))))))))))) : Rn M_X0_turns 2 [(0, rV xo), (1, rV r1), (2, iV x2)] [] h k n (qV Q) E := by
  refine r_iload_n (q := 3) dX0_turns_2 rfl 2 rfl ?_
  refine r_aload_n (q := 4) dX0_turns_3 rfl 1 rfl ?_
  obtain ⟨g101, hw⟩ := hw
  refine r_getR (q := 7) L_X0_280 dX0_turns_4 rfl g101 rfl ?_
  obtain ⟨g102, hw⟩ := hw
  refine r_cVI0 (q := 10) _ [] N_X0_77 rfl dX0_turns_7 rfl rfl rfl g102 rfl ?_
  refine ct_J2_size g102 ?_
  refine r_icmp_ge (tg := 125) (q := 13) dX0_turns_10 (by decide) rfl (fun c => ?_) (fun c => ?_)
  · have hw := hw.1 c
    exact r_vret dX0_turns_125 rfl hw
  · have hw := hw.2 c
    refine r_aload_n (q := 14) dX0_turns_13 rfl 1 rfl ?_
    refine r_getR (q := 17) L_X0_280 dX0_turns_14 rfl g101 rfl ?_
    refine r_iload_n (q := 18) dX0_turns_17 rfl 2 rfl ?_
    obtain ⟨g103, hw⟩ := hw
    refine r_cVR0 (q := 21) _ [_] N_X0_81 rfl dX0_turns_18 rfl rfl rfl g102 rfl ?_
    refine ct_J2_get g102 g103 ?_
    obtain ⟨g104, hw⟩ := hw
    refine r_cast (q := 24) q1025 rfl dX0_turns_21 rfl g104 ?_
    have hw := hw _ rfl
    refine r_astore_n (q := 25) (lv' := [(0, _), (1, _), (2, _), (3, _)]) dX0_turns_24 rfl (Nat.le_of_ble_eq_true rfl) rfl ?_
    refine r_aload_n (q := 26) dX0_turns_25 rfl 0 rfl ?_
    refine r_aload_n (q := 27) dX0_turns_26 rfl 3 rfl ?_
    obtain ⟨g106, hw⟩ := hw
    refine r_cVI0 (q := 30) _ [] N_X0_332 rfl dX0_turns_27 rfl rfl rfl g104 rfl ?_
    refine ct_X10_corner g106 ?_
    obtain ⟨g107, hw⟩ := hw
    refine r_cVR0 (q := 33) _ [_] N_X0_132 rfl dX0_turns_30 rfl rfl rfl (xw_k hm) rfl ?_
    refine ct_X0_bedAt hm g107 ?_
    have hw := hw _ rfl
    refine r_astore (q := 35) (lv' := [(0, _), (1, _), (2, _), (3, _), (4, _)]) dX0_turns_33 rfl (Nat.le_of_ble_eq_true rfl) rfl ?_
    refine r_aload (q := 37) dX0_turns_35 rfl 4 rfl ?_
    refine r_ifnull (tg := 119) (q := 40) dX0_turns_37 (by decide) rfl (fun c => ?_) (fun c => ?_)
    · have hw := hw.1 c
      have hw := hw _ rfl
      refine r_iincW (q := 122) (lv' := [(0, _), (1, _), (2, _), (3, _), (4, _)]) dX0_turns_119 rfl 2 rfl kI_1 (Nat.le_of_ble_eq_true rfl) rfl ?_
      refine r_goto (tg := 2) dX0_turns_122 (by decide) ?_
      exact r_sub [0, 1, 2] rfl hw
    · have hw := hw.2 c
      refine r_aload_n (q := 41) dX0_turns_40 rfl 3 rfl ?_
      refine r_aload_n (q := 42) dX0_turns_41 rfl 0 rfl ?_
      refine r_getI (q := 45) L_X0_119 dX0_turns_42 rfl (xw_k hm) ?_
      obtain ⟨g110, hw⟩ := hw
      refine r_cVI0 (q := 48) _ [_] N_X0_335 rfl dX0_turns_45 rfl rfl rfl g104 rfl ?_
      refine ct_X10_isOn g110 ?_
      refine r_if_eq (tg := 119) (q := 51) dX0_turns_48 (by decide) rfl (fun c => ?_) (fun c => ?_)
      · have hw := hw.1 c
        have hw := hw _ rfl
        refine r_iincW (q := 122) (lv' := [(0, _), (1, _), (2, _), (3, _), (4, _)]) dX0_turns_119 rfl 2 rfl kI_1 (Nat.le_of_ble_eq_true rfl) rfl ?_
        refine r_goto (tg := 2) dX0_turns_122 (by decide) ?_
        exact r_sub [0, 1, 2] rfl hw
      · have hw := hw.2 c
        refine r_aload_n (q := 52) dX0_turns_51 rfl 3 rfl ?_
        obtain ⟨g112, hw⟩ := hw
        refine r_cVI0 (q := 55) _ [] N_X0_329 rfl dX0_turns_52 rfl rfl rfl g104 rfl ?_
        refine ct_X10_neighbour g112 ?_
        refine r_bipush (q := 57) dX0_turns_55 rfl kB_10 ?_
        refine r_icmp_lt (tg := 63) (q := 60) dX0_turns_57 (by decide) rfl (fun c => ?_) (fun c => ?_)
        · have hw := hw.1 c
          refine r_aload (q := 65) dX0_turns_63 rfl 4 rfl ?_
          refine r_aload_n (q := 66) dX0_turns_65 rfl 3 rfl ?_
          obtain ⟨g113, hw⟩ := hw
          refine r_cVI0 (q := 69) _ [] N_X0_329 rfl dX0_turns_66 rfl rfl rfl g104 rfl ?_
          refine ct_X10_neighbour g113 ?_
          obtain ⟨g114, hw⟩ := hw
          obtain ⟨g115, hw⟩ := hw
          refine r_cVI0 (q := 72) _ [_] N_X0_136 rfl dX0_turns_69 rfl rfl rfl g114 rfl ?_
          refine ct_X6_isCaredBy g115 ?_
          refine r_if_eq (tg := 103) (q := 75) dX0_turns_72 (by decide) rfl (fun c => ?_) (fun c => ?_)
          · have hw := hw.1 c
            refine r_aload_n (q := 104) dX0_turns_103 rfl 0 rfl ?_
            refine r_getR (q := 107) L_X0_53 dX0_turns_104 rfl (xw_k hm) (xwr_owed hm) ?_
            refine r_aload_n (q := 108) dX0_turns_107 rfl 3 rfl ?_
            obtain ⟨g116, hw⟩ := hw
            refine r_cVI0 (q := 111) _ [] N_X0_329 rfl dX0_turns_108 rfl rfl rfl g104 rfl ?_
            refine ct_X10_neighbour g116 ?_
            refine r_dup2 (q := 112) dX0_turns_111 rfl rfl rfl ?_
            obtain ⟨g117, hw⟩ := hw
            refine r_ialdL (q := 113) dX0_turns_112 rfl (xwk_owed hm) (xwl_owed hm) g117 ?_
            refine r_aload_n (q := 114) dX0_turns_113 rfl 1 rfl ?_
            refine r_getI (q := 117) L_X0_293 dX0_turns_114 rfl g101 ?_
            refine r_iadd (q := 118) dX0_turns_117 rfl ?_
            obtain ⟨g118, hw⟩ := hw
            refine r_iastL (q := 119) dX0_turns_118 rfl (xwk_owed hm) (xwl_owed hm) g118 ?_
            refine r_xw_sI hm (fun hm => ?_)
            refine r_ksI g101 (fun g101 => ?_)
            refine r_ksI g102 (fun g102 => ?_)
            refine r_ksI g104 (fun g104 => ?_)
            refine r_ksI g114 (fun g114 => ?_)
            have hw := hw _ rfl
            have hw := hw _ rfl
            refine r_iincW (q := 122) (lv' := [(0, _), (1, _), (2, _), (3, _), (4, _)]) dX0_turns_119 rfl 2 rfl kI_1 (Nat.le_of_ble_eq_true rfl) rfl ?_
            refine r_goto (tg := 2) dX0_turns_122 (by decide) ?_
            exact r_sub [0, 1, 2] rfl hw
          · have hw := hw.2 c
            refine r_aload_n (q := 76) dX0_turns_75 rfl 0 rfl ?_
            refine r_getR (q := 79) L_X0_56 dX0_turns_76 rfl (xw_k hm) (xwr_kept hm) ?_
            refine r_bipush (q := 81) dX0_turns_79 rfl kB_10 ?_
            refine r_aload_n (q := 82) dX0_turns_81 rfl 3 rfl ?_
            obtain ⟨g121, hw⟩ := hw
            refine r_cVI0 (q := 85) _ [] N_X0_329 rfl dX0_turns_82 rfl rfl rfl g104 rfl ?_
            refine ct_X10_neighbour g121 ?_
            refine r_imul (q := 86) dX0_turns_85 rfl ?_
            refine r_aload_n (q := 87) dX0_turns_86 rfl 0 rfl ?_
            refine r_getI (q := 90) L_X0_119 dX0_turns_87 rfl (xw_k hm) ?_
            refine r_sipush (q := 93) dX0_turns_90 rfl kS_365 ?_
            refine r_idiv (q := 94) dX0_turns_93 rfl (by decide) ?_
            refine r_iadd (q := 95) dX0_turns_94 rfl ?_
            refine r_dup2 (q := 96) dX0_turns_95 rfl rfl rfl ?_
            obtain ⟨g122, hw⟩ := hw
            refine r_ialdL (q := 97) dX0_turns_96 rfl (xwk_kept hm) (xwl_kept hm) g122 ?_
            refine r_iconst (q := 98) dX0_turns_97 rfl kI_1 ?_
            refine r_iadd (q := 99) dX0_turns_98 rfl ?_
            obtain ⟨g123, hw⟩ := hw
            refine r_iastL (q := 100) dX0_turns_99 rfl (xwk_kept hm) (xwl_kept hm) g123 ?_
            refine r_xw_sI hm (fun hm => ?_)
            refine r_ksI g101 (fun g101 => ?_)
            refine r_ksI g102 (fun g102 => ?_)
            refine r_ksI g104 (fun g104 => ?_)
            refine r_ksI g114 (fun g114 => ?_)
            have hw := hw _ rfl
            refine r_goto (tg := 119) dX0_turns_100 (by decide) ?_
            have hw := hw _ rfl
            refine r_iincW (q := 122) (lv' := [(0, _), (1, _), (2, _), (3, _), (4, _)]) dX0_turns_119 rfl 2 rfl kI_1 (Nat.le_of_ble_eq_true rfl) rfl ?_
            refine r_goto (tg := 2) dX0_turns_122 (by decide) ?_
            exact r_sub [0, 1, 2] rfl hw
        · have hw := hw.2 c
          refine r_goto (tg := 119) dX0_turns_60 (by decide) ?_
          have hw := hw _ rfl
          refine r_iincW (q := 122) (lv' := [(0, _), (1, _), (2, _), (3, _), (4, _)]) dX0_turns_119 rfl 2 rfl kI_1 (Nat.le_of_ble_eq_true rfl) rfl ?_
          refine r_goto (tg := 2) dX0_turns_122 (by decide) ?_
          exact r_sub [0, 1, 2] rfl hw
theorem b_X0_day_0 {xo : Nat} {h : Hp} {k n : Nat} {Q : Hp → Prop} {E : Nat → Hp → Prop} (hm : XW h xo) (hw : CtR M_X0_on [rV xo, iV (gI h 0 xo)] h 0 0 (fun r102 h101 => XW h101 xo ∧ (∃ k104 n105 k106 n107 : Nat, k104 + k106 ≤ k ∧ n105 + n107 ≤ n ∧ CtV M_X0_beds [rV xo, rV r102, iV (irm (gI h101 0 xo) 365)] h101 k104 n105 (fun h103 => XW h103 xo ∧ (Rn M_X0_day 24 [(0, rV xo), (1, rV r102), (2, iV 0)] [] h103 k106 n107 (qV Q) E)) E)) E) : Rn M_X0_day 0 [(0, rV xo)] [] h k n (qV Q) E := by
  refine r_aload_n (q := 1) dX0_day_0 rfl 0 rfl ?_
  refine r_aload_n (q := 2) dX0_day_1 rfl 0 rfl ?_
  refine r_getI (q := 5) L_X0_119 dX0_day_2 rfl (xw_k hm) ?_
  refine r_cVR0 (q := 8) _ [_] N_X0_122 rfl dX0_day_5 rfl rfl rfl (xw_k hm) rfl ?_
  refine r_monoCR (fun r102 h101 hw => ?_) hw
  obtain ⟨hm, hw⟩ := hw
  refine r_astore_n (q := 9) (lv' := [(0, _), (1, _)]) dX0_day_8 rfl (Nat.le_of_ble_eq_true rfl) rfl ?_
  refine r_aload_n (q := 10) dX0_day_9 rfl 0 rfl ?_
  refine r_aload_n (q := 11) dX0_day_10 rfl 1 rfl ?_
  refine r_aload_n (q := 12) dX0_day_11 rfl 0 rfl ?_
  refine r_getI (q := 15) L_X0_119 dX0_day_12 rfl (xw_k hm) ?_
  refine r_sipush (q := 18) dX0_day_15 rfl kS_365 ?_
  refine r_irem (q := 19) dX0_day_18 rfl (by decide) ?_
  obtain ⟨k104, n105, k106, n107, hk, hn, hw⟩ := hw
  refine r_cVV (q := 22) _ [_, _] N_X0_365 rfl dX0_day_19 rfl rfl rfl (xw_k hm) rfl hk hn ?_
  refine r_monoCV (fun h103 hw => ?_) hw
  obtain ⟨hm, hw⟩ := hw
  refine r_iconst (q := 23) dX0_day_22 rfl kI_0 ?_
  refine r_istore_n (q := 24) (lv' := [(0, _), (1, _), (2, _)]) dX0_day_23 rfl (Nat.le_of_ble_eq_true rfl) rfl ?_
  exact hw
theorem b_X0_day_24 {x2 : Int32} {xo r1 : Nat} {h : Hp} {k n : Nat} {Q : Hp → Prop} {E : Nat → Hp → Prop} (hm : XW h xo) (hw : ((gI h 1102 (xo + 3)) ≤ x2 → CtV M_X0_turns [rV xo, rV r1] h 0 0 (fun h101 => XW h101 xo ∧ (Rn M_X0_day 98 [(0, rV xo), (2, iV 0)] [] h101 k n (qV Q) E)) E) ∧ (¬ (gI h 1102 (xo + 3)) ≤ x2 → (ALg h (xo + 3) x2) ∧ (kd h (el h (xo + 3) (ix x2)) = 3 ∧ (∀ x104 : Int32, x104 = imin 5 (gI h 205 (el h (xo + 3) (ix x2))) → (ALg h (xo + 3) x2) ∧ (∀ h106 : Hp, h106 = pI h 205 (el h (xo + 3) (ix x2)) ((gI h 205 (el h (xo + 3) (ix x2))) - x104) → ∀ h107 : Hp, h107 = pJ h106 21 xo ((gJ h106 21 xo) + (Int32.toInt64 x104)) → ∀ x108 : Int32, x108 = x2 + 1 → Rn M_X0_day 24 [(0, rV xo), (1, rV r1), (2, iV x108)] [] h107 k n (qV Q) E))))) : Rn M_X0_day 24 [(0, rV xo), (1, rV r1), (2, iV x2)] [] h k n (qV Q) E := by
  refine r_iload_n (q := 25) dX0_day_24 rfl 2 rfl ?_
  refine r_aload_n (q := 26) dX0_day_25 rfl 0 rfl ?_
  refine r_getR (q := 29) L_X0_24 dX0_day_26 rfl (xw_k hm) (xwr_roofs hm) ?_
  refine r_cVI0 (q := 32) _ [] N_X0_77 rfl dX0_day_29 rfl rfl rfl (xwk_roofs hm) rfl ?_
  refine ct_J2_size (xwk_roofs hm) ?_
  refine r_icmp_ge (tg := 91) (q := 35) dX0_day_32 (by decide) rfl (fun c => ?_) (fun c => ?_)
  · have hw := hw.1 c
    refine r_aload_n (q := 92) dX0_day_91 rfl 0 rfl ?_
    refine r_aload_n (q := 93) dX0_day_92 rfl 1 rfl ?_
    refine r_cVV0 (q := 96) _ [_] N_X0_374 rfl dX0_day_93 rfl rfl rfl (xw_k hm) rfl ?_
    refine r_monoCV (fun h101 hw => ?_) hw
    obtain ⟨hm, hw⟩ := hw
    refine r_iconst (q := 97) dX0_day_96 rfl kI_0 ?_
    refine r_istore_n (q := 98) (lv' := [(0, _), (1, _), (2, _)]) dX0_day_97 rfl (Nat.le_of_ble_eq_true rfl) rfl ?_
    exact r_sub [0, 2] rfl hw
  · have hw := hw.2 c
    refine r_iconst (q := 36) dX0_day_35 rfl kI_5 ?_
    refine r_aload_n (q := 37) dX0_day_36 rfl 0 rfl ?_
    refine r_getR (q := 40) L_X0_24 dX0_day_37 rfl (xw_k hm) (xwr_roofs hm) ?_
    refine r_iload_n (q := 41) dX0_day_40 rfl 2 rfl ?_
    obtain ⟨g102, hw⟩ := hw
    refine r_cVR0 (q := 44) _ [_] N_X0_81 rfl dX0_day_41 rfl rfl rfl (xwk_roofs hm) rfl ?_
    refine ct_J2_get (xwk_roofs hm) g102 ?_
    obtain ⟨g103, hw⟩ := hw
    refine r_cast (q := 47) q518 rfl dX0_day_44 rfl g103 ?_
    refine r_getI (q := 50) L_X0_368 dX0_day_47 rfl g103 ?_
    refine r_mmin (q := 53) q656 dX0_day_50 rfl rfl ?_
    have hw := hw _ rfl
    refine r_istore_n (q := 54) (lv' := [(0, _), (1, _), (2, _), (3, _)]) dX0_day_53 rfl (Nat.le_of_ble_eq_true rfl) rfl ?_
    refine r_aload_n (q := 55) dX0_day_54 rfl 0 rfl ?_
    refine r_getR (q := 58) L_X0_24 dX0_day_55 rfl (xw_k hm) (xwr_roofs hm) ?_
    refine r_iload_n (q := 59) dX0_day_58 rfl 2 rfl ?_
    obtain ⟨g105, hw⟩ := hw
    refine r_cVR0 (q := 62) _ [_] N_X0_81 rfl dX0_day_59 rfl rfl rfl (xwk_roofs hm) rfl ?_
    refine ct_J2_get (xwk_roofs hm) g105 ?_
    refine r_cast (q := 65) q518 rfl dX0_day_62 rfl g103 ?_
    refine r_dup (q := 66) dX0_day_65 rfl rfl ?_
    refine r_getI (q := 69) L_X0_368 dX0_day_66 rfl g103 ?_
    refine r_iload_n (q := 70) dX0_day_69 rfl 3 rfl ?_
    refine r_isub (q := 71) dX0_day_70 rfl ?_
    refine r_putI (q := 74) L_X0_368 dX0_day_71 rfl g103 ?_
    refine r_xw_pI hm (fun hm => ?_)
    refine r_kpI g103 (fun g103 => ?_)
    have hw := hw _ rfl
    refine r_aload_n (q := 75) dX0_day_74 rfl 0 rfl ?_
    refine r_dup (q := 76) dX0_day_75 rfl rfl ?_
    refine r_getJ (q := 79) L_X0_371 dX0_day_76 rfl (xw_k hm) ?_
    refine r_iload_n (q := 80) dX0_day_79 rfl 3 rfl ?_
    refine r_i2l (q := 81) dX0_day_80 rfl ?_
    refine r_ladd (q := 82) dX0_day_81 rfl ?_
    refine r_putJ (q := 85) L_X0_371 dX0_day_82 rfl (xw_k hm) ?_
    refine r_xw_pJ hm (fun hm => ?_)
    refine r_kpJ g103 (fun g103 => ?_)
    have hw := hw _ rfl
    have hw := hw _ rfl
    refine r_iincW (q := 88) (lv' := [(0, _), (1, _), (2, _), (3, _)]) dX0_day_85 rfl 2 rfl kI_1 (Nat.le_of_ble_eq_true rfl) rfl ?_
    refine r_goto (tg := 24) dX0_day_88 (by decide) ?_
    exact r_sub [0, 1, 2] rfl hw
theorem b_X0_day_98 {x2 : Int32} {xo : Nat} {h : Hp} {k n : Nat} {Q : Hp → Prop} {E : Nat → Hp → Prop} (hm : XW h xo) (hw : ((gI h 1102 (xo + 2)) ≤ x2 → ∀ h101 : Hp, h101 = pI h 0 xo ((gI h 0 xo) + 1) → Q h101) ∧ (¬ (gI h 1102 (xo + 2)) ≤ x2 → (ALg h (xo + 2) x2) ∧ (kd h (el h (xo + 2) (ix x2)) = 2 ∧ (((gR h 109 (el h (xo + 2) (ix x2))) = 0 → ∀ x104 : Int32, x104 = x2 + 1 → Rn M_X0_day 98 [(0, rV xo), (2, iV x104)] [] h k n (qV Q) E) ∧ (¬ (gR h 109 (el h (xo + 2) (ix x2))) = 0 → (ALg h (xo + 2) x2) ∧ (kd h (gR h 109 (el h (xo + 2) (ix x2))) = 4 ∧ (∀ h107 : Hp, h107 = pI h 311 (gR h 109 (el h (xo + 2) (ix x2))) 0 → ∀ x108 : Int32, x108 = x2 + 1 → Rn M_X0_day 98 [(0, rV xo), (2, iV x108)] [] h107 k n (qV Q) E))))))) : Rn M_X0_day 98 [(0, rV xo), (2, iV x2)] [] h k n (qV Q) E := by
  refine r_iload_n (q := 99) dX0_day_98 rfl 1 rfl ?_
  refine r_aload_n (q := 100) dX0_day_99 rfl 0 rfl ?_
  refine r_getR (q := 103) L_X0_20 dX0_day_100 rfl (xw_k hm) (xwr_corners hm) ?_
  refine r_cVI0 (q := 106) _ [] N_X0_77 rfl dX0_day_103 rfl rfl rfl (xwk_corners hm) rfl ?_
  refine ct_J2_size (xwk_corners hm) ?_
  refine r_icmp_ge (tg := 150) (q := 109) dX0_day_106 (by decide) rfl (fun c => ?_) (fun c => ?_)
  · have hw := hw.1 c
    refine r_aload_n (q := 151) dX0_day_150 rfl 0 rfl ?_
    refine r_dup (q := 152) dX0_day_151 rfl rfl ?_
    refine r_getI (q := 155) L_X0_119 dX0_day_152 rfl (xw_k hm) ?_
    refine r_iconst (q := 156) dX0_day_155 rfl kI_1 ?_
    refine r_iadd (q := 157) dX0_day_156 rfl ?_
    refine r_putI (q := 160) L_X0_119 dX0_day_157 rfl (xw_k hm) ?_
    refine r_xw_pI hm (fun hm => ?_)
    have hw := hw _ rfl
    exact r_vret dX0_day_160 rfl hw
  · have hw := hw.2 c
    refine r_aload_n (q := 110) dX0_day_109 rfl 0 rfl ?_
    refine r_getR (q := 113) L_X0_20 dX0_day_110 rfl (xw_k hm) (xwr_corners hm) ?_
    refine r_iload_n (q := 114) dX0_day_113 rfl 1 rfl ?_
    obtain ⟨g102, hw⟩ := hw
    refine r_cVR0 (q := 117) _ [_] N_X0_81 rfl dX0_day_114 rfl rfl rfl (xwk_corners hm) rfl ?_
    refine ct_J2_get (xwk_corners hm) g102 ?_
    obtain ⟨g103, hw⟩ := hw
    refine r_cast (q := 120) q374 rfl dX0_day_117 rfl g103 ?_
    refine r_getR (q := 123) L_X0_91 dX0_day_120 rfl g103 rfl ?_
    refine r_ifnull (tg := 144) (q := 126) dX0_day_123 (by decide) rfl (fun c => ?_) (fun c => ?_)
    · have hw := hw.1 c
      have hw := hw _ rfl
      refine r_iincW (q := 147) (lv' := [(0, _), (2, _)]) dX0_day_144 rfl 1 rfl kI_1 (Nat.le_of_ble_eq_true rfl) rfl ?_
      refine r_goto (tg := 98) dX0_day_147 (by decide) ?_
      exact hw
    · have hw := hw.2 c
      refine r_aload_n (q := 127) dX0_day_126 rfl 0 rfl ?_
      refine r_getR (q := 130) L_X0_20 dX0_day_127 rfl (xw_k hm) (xwr_corners hm) ?_
      refine r_iload_n (q := 131) dX0_day_130 rfl 1 rfl ?_
      obtain ⟨g105, hw⟩ := hw
      refine r_cVR0 (q := 134) _ [_] N_X0_81 rfl dX0_day_131 rfl rfl rfl (xwk_corners hm) rfl ?_
      refine ct_J2_get (xwk_corners hm) g105 ?_
      refine r_cast (q := 137) q374 rfl dX0_day_134 rfl g103 ?_
      refine r_getR (q := 140) L_X0_91 dX0_day_137 rfl g103 rfl ?_
      refine r_iconst (q := 141) dX0_day_140 rfl kI_0 ?_
      obtain ⟨g106, hw⟩ := hw
      refine r_putI (q := 144) L_X0_140 dX0_day_141 rfl g106 ?_
      refine r_xw_pI hm (fun hm => ?_)
      refine r_kpI g103 (fun g103 => ?_)
      refine r_kpI g106 (fun g106 => ?_)
      have hw := hw _ rfl
      have hw := hw _ rfl
      refine r_iincW (q := 147) (lv' := [(0, _), (2, _)]) dX0_day_144 rfl 1 rfl kI_1 (Nat.le_of_ble_eq_true rfl) rfl ?_
      refine r_goto (tg := 98) dX0_day_147 (by decide) ?_
      exact hw
theorem b_X0_pass_0 {x1 : Int32} {xo : Nat} {h : Hp} {k n : Nat} {Q : Int32 → Hp → Prop} {E : Nat → Hp → Prop} (hm : XW h xo) (hw : ((isin x1 1 100) = false → Q (-1) h) ∧ ((isin x1 1 100) = true → (((gI h 0 xo) + x1) ≤ 3649 → Rn M_X0_pass 26 [(0, rV xo), (1, iV x1), (2, iV 0)] [] h k n (qI Q) E) ∧ (¬ ((gI h 0 xo) + x1) ≤ 3649 → Q (-1) h))) : Rn M_X0_pass 0 [(0, rV xo), (1, iV x1)] [] h k n (qI Q) E := by
  refine r_iload_n (q := 1) dX0_pass_0 rfl 1 rfl ?_
  refine r_iconst (q := 2) dX0_pass_1 rfl kI_1 ?_
  refine r_bipush (q := 4) dX0_pass_2 rfl kB_100 ?_
  refine r_cSI0 (q := 7) [_, _, _] N_X0_3 dX0_pass_4 rfl rfl rfl rfl ?_
  refine ct_X0_isIn  ?_
  refine r_ifb_eq (tg := 22) (q := 10) dX0_pass_7 (by decide) rfl (fun c => ?_) (fun c => ?_)
  · have hw := hw.1 c
    refine r_iconst (q := 23) dX0_pass_22 rfl kI_m1 ?_
    exact r_iret dX0_pass_23 rfl hw
  · have hw := hw.2 c
    refine r_aload_n (q := 11) dX0_pass_10 rfl 0 rfl ?_
    refine r_getI (q := 14) L_X0_119 dX0_pass_11 rfl (xw_k hm) ?_
    refine r_iload_n (q := 15) dX0_pass_14 rfl 1 rfl ?_
    refine r_iadd (q := 16) dX0_pass_15 rfl ?_
    refine r_sipush (q := 19) dX0_pass_16 rfl kS_3649 ?_
    refine r_icmp_le (tg := 24) (q := 22) dX0_pass_19 (by decide) rfl (fun c => ?_) (fun c => ?_)
    · have hw := hw.1 c
      refine r_iconst (q := 25) dX0_pass_24 rfl kI_0 ?_
      refine r_istore_n (q := 26) (lv' := [(0, _), (1, _), (2, _)]) dX0_pass_25 rfl (Nat.le_of_ble_eq_true rfl) rfl ?_
      exact hw
    · have hw := hw.2 c
      refine r_iconst (q := 23) dX0_pass_22 rfl kI_m1 ?_
      exact r_iret dX0_pass_23 rfl hw
theorem b_X0_pass_26 {x1 x2 : Int32} {xo : Nat} {h : Hp} {k n : Nat} {Q : Int32 → Hp → Prop} {E : Nat → Hp → Prop} (hm : XW h xo) (hw : (x1 ≤ x2 → Q (gI h 0 xo) h) ∧ (¬ x1 ≤ x2 → ∃ k102 n103 k104 n105 : Nat, k102 + k104 ≤ k ∧ n103 + n105 ≤ n ∧ CtV M_X0_day [rV xo] h k102 n103 (fun h101 => XW h101 xo ∧ (∀ x106 : Int32, x106 = x2 + 1 → Rn M_X0_pass 26 [(0, rV xo), (1, iV x1), (2, iV x106)] [] h101 k104 n105 (qI Q) E)) E)) : Rn M_X0_pass 26 [(0, rV xo), (1, iV x1), (2, iV x2)] [] h k n (qI Q) E := by
  refine r_iload_n (q := 27) dX0_pass_26 rfl 2 rfl ?_
  refine r_iload_n (q := 28) dX0_pass_27 rfl 1 rfl ?_
  refine r_icmp_ge (tg := 41) (q := 31) dX0_pass_28 (by decide) rfl (fun c => ?_) (fun c => ?_)
  · have hw := hw.1 c
    refine r_aload_n (q := 42) dX0_pass_41 rfl 0 rfl ?_
    refine r_getI (q := 45) L_X0_119 dX0_pass_42 rfl (xw_k hm) ?_
    exact r_iret dX0_pass_45 rfl hw
  · have hw := hw.2 c
    refine r_aload_n (q := 32) dX0_pass_31 rfl 0 rfl ?_
    obtain ⟨k102, n103, k104, n105, hk, hn, hw⟩ := hw
    refine r_cVV (q := 35) _ [] N_X0_376 rfl dX0_pass_32 rfl rfl rfl (xw_k hm) rfl hk hn ?_
    refine r_monoCV (fun h101 hw => ?_) hw
    obtain ⟨hm, hw⟩ := hw
    have hw := hw _ rfl
    refine r_iincW (q := 38) (lv' := [(0, _), (1, _), (2, _)]) dX0_pass_35 rfl 2 rfl kI_1 (Nat.le_of_ble_eq_true rfl) rfl ?_
    refine r_goto (tg := 26) dX0_pass_38 (by decide) ?_
    exact hw
theorem b_X3_ages_0 {x1 : Int32} {mo : Nat} {h : Hp} {k n : Nat} {Q : Hp → Prop} {E : Nat → Hp → Prop} (hm : MW h mo) (hw : (P_X3_now h mo 0) ∧ (∀ x102 : Int32, x102 = V_X3_now h mo 0 → vp_in x1 12 ∧ (((eI h (mo + 7) (ix x1)) = 0 → Rn M_X3_ages 19 [(0, rV mo), (1, iV x1), (2, iV x102)] [] h k n (qV Q) E) ∧ (¬ (eI h (mo + 7) (ix x1)) = 0 → ∀ x104 : Int32, x104 = x102 / 2 → Rn M_X3_ages 19 [(0, rV mo), (1, iV x1), (2, iV x104)] [] h k n (qV Q) E)))) : Rn M_X3_ages 0 [(0, rV mo), (1, iV x1)] [] h k n (qV Q) E := by
  refine r_aload_n (q := 1) dX3_ages_0 rfl 0 rfl ?_
  refine r_iconst (q := 2) dX3_ages_1 rfl kI_0 ?_
  obtain ⟨g101, hw⟩ := hw
  refine r_cVI0 (q := 5) _ [_] N_X3_209 rfl dX3_ages_2 rfl rfl rfl (mw_k hm) rfl ?_
  refine ct_X3_now hm g101 ?_
  have hw := hw _ rfl
  refine r_istore_n (q := 6) (lv' := [(0, _), (1, _), (2, _)]) dX3_ages_5 rfl (Nat.le_of_ble_eq_true rfl) rfl ?_
  refine r_aload_n (q := 7) dX3_ages_6 rfl 0 rfl ?_
  refine r_getR (q := 10) L_X3_29 dX3_ages_7 rfl (mw_k hm) (mwr_hasTree hm) ?_
  refine r_iload_n (q := 11) dX3_ages_10 rfl 1 rfl ?_
  obtain ⟨g103, hw⟩ := hw
  refine r_zaldL (q := 12) dX3_ages_11 rfl (mwk_hasTree hm) (mwl_hasTree hm) g103 ?_
  refine r_if_eq (tg := 19) (q := 15) dX3_ages_12 (by decide) rfl (fun c => ?_) (fun c => ?_)
  · have hw := hw.1 c
    exact hw
  · have hw := hw.2 c
    refine r_iload_n (q := 16) dX3_ages_15 rfl 2 rfl ?_
    refine r_iconst (q := 17) dX3_ages_16 rfl kI_2 ?_
    refine r_idiv (q := 18) dX3_ages_17 rfl (by decide) ?_
    have hw := hw _ rfl
    refine r_istore_n (q := 19) (lv' := [(0, _), (1, _), (2, _)]) dX3_ages_18 rfl (Nat.le_of_ble_eq_true rfl) rfl ?_
    exact hw
theorem b_X3_ages_19 {x1 x2 : Int32} {mo : Nat} {h : Hp} {k n : Nat} {Q : Hp → Prop} {E : Nat → Hp → Prop} (hm : MW h mo) (hw : vp_in x1 12 ∧ ((¬ (eI h (mo + 8) (ix x1)) = 0 → Rn M_X3_ages 32 [(0, rV mo), (1, iV x1), (2, iV x2)] [] h k n (qV Q) E) ∧ ((eI h (mo + 8) (ix x1)) = 0 → ∀ x102 : Int32, x102 = x2 * 2 → Rn M_X3_ages 32 [(0, rV mo), (1, iV x1), (2, iV x102)] [] h k n (qV Q) E))) : Rn M_X3_ages 19 [(0, rV mo), (1, iV x1), (2, iV x2)] [] h k n (qV Q) E := by
  refine r_aload_n (q := 20) dX3_ages_19 rfl 0 rfl ?_
  refine r_getR (q := 23) L_X3_32 dX3_ages_20 rfl (mw_k hm) (mwr_hasPlants hm) ?_
  refine r_iload_n (q := 24) dX3_ages_23 rfl 1 rfl ?_
  obtain ⟨g101, hw⟩ := hw
  refine r_zaldL (q := 25) dX3_ages_24 rfl (mwk_hasPlants hm) (mwl_hasPlants hm) g101 ?_
  refine r_if_ne (tg := 32) (q := 28) dX3_ages_25 (by decide) rfl (fun c => ?_) (fun c => ?_)
  · have hw := hw.1 c
    exact hw
  · have hw := hw.2 c
    refine r_iload_n (q := 29) dX3_ages_28 rfl 2 rfl ?_
    refine r_iconst (q := 30) dX3_ages_29 rfl kI_2 ?_
    refine r_imul (q := 31) dX3_ages_30 rfl ?_
    have hw := hw _ rfl
    refine r_istore_n (q := 32) (lv' := [(0, _), (1, _), (2, _)]) dX3_ages_31 rfl (Nat.le_of_ble_eq_true rfl) rfl ?_
    exact hw
theorem b_X3_ages_32 {x1 x2 : Int32} {mo : Nat} {h : Hp} {k n : Nat} {Q : Hp → Prop} {E : Nat → Hp → Prop} (hm : MW h mo) (hw : vp_in x1 12 ∧ (vp_in x1 12 ∧ (∀ h103 : Hp, h103 = sI h (mo + 12) (ix x1) (imin 100 ((eI h (mo + 12) (ix x1)) + x2)) → ∀ x104 : Int32, x104 = irm (gI h103 1000 mo) 365 → (P_X3_now h103 mo 1) ∧ (∀ x106 : Int32, x106 = V_X3_now h103 mo 1 → (P_X3_now h103 mo 2) ∧ (∀ x108 : Int32, x108 = V_X3_now h103 mo 2 → (x108 < x106 → (x106 ≤ x104 → Rn M_X3_ages 107 [(0, rV mo), (1, iV x1), (3, iV x104)] [] h103 k n (qV Q) E) ∧ (¬ x106 ≤ x104 → (x108 < x104 → Rn M_X3_ages 139 [(0, rV mo), (1, iV x1), (3, iV x104)] [] h103 k n (qV Q) E) ∧ (¬ x108 < x104 → Rn M_X3_ages 107 [(0, rV mo), (1, iV x1), (3, iV x104)] [] h103 k n (qV Q) E))) ∧ (¬ x108 < x106 → ((isin x104 x106 x108) = false → Rn M_X3_ages 139 [(0, rV mo), (1, iV x1), (3, iV x104)] [] h103 k n (qV Q) E) ∧ ((isin x104 x106 x108) = true → Rn M_X3_ages 107 [(0, rV mo), (1, iV x1), (3, iV x104)] [] h103 k n (qV Q) E))))))) : Rn M_X3_ages 32 [(0, rV mo), (1, iV x1), (2, iV x2)] [] h k n (qV Q) E := by
  refine r_aload_n (q := 33) dX3_ages_32 rfl 0 rfl ?_
  refine r_getR (q := 36) L_X3_44 dX3_ages_33 rfl (mw_k hm) (mwr_clog hm) ?_
  refine r_iload_n (q := 37) dX3_ages_36 rfl 1 rfl ?_
  refine r_bipush (q := 39) dX3_ages_37 rfl kB_100 ?_
  refine r_aload_n (q := 40) dX3_ages_39 rfl 0 rfl ?_
  refine r_getR (q := 43) L_X3_44 dX3_ages_40 rfl (mw_k hm) (mwr_clog hm) ?_
  refine r_iload_n (q := 44) dX3_ages_43 rfl 1 rfl ?_
  obtain ⟨g101, hw⟩ := hw
  refine r_ialdL (q := 45) dX3_ages_44 rfl (mwk_clog hm) (mwl_clog hm) g101 ?_
  refine r_iload_n (q := 46) dX3_ages_45 rfl 2 rfl ?_
  refine r_iadd (q := 47) dX3_ages_46 rfl ?_
  refine r_mmin (q := 50) q1682 dX3_ages_47 rfl rfl ?_
  obtain ⟨g102, hw⟩ := hw
  refine r_iastL (q := 51) dX3_ages_50 rfl (mwk_clog hm) (mwl_clog hm) g102 ?_
  refine r_mw_sI hm (fun hm => ?_)
  have hw := hw _ rfl
  refine r_aload_n (q := 52) dX3_ages_51 rfl 0 rfl ?_
  refine r_getI (q := 55) L_X3_212 dX3_ages_52 rfl (mw_k hm) ?_
  refine r_sipush (q := 58) dX3_ages_55 rfl kS_365 ?_
  refine r_irem (q := 59) dX3_ages_58 rfl (by decide) ?_
  have hw := hw _ rfl
  refine r_istore_n (q := 60) (lv' := [(0, _), (1, _), (2, _), (3, _)]) dX3_ages_59 rfl (Nat.le_of_ble_eq_true rfl) rfl ?_
  refine r_aload_n (q := 61) dX3_ages_60 rfl 0 rfl ?_
  refine r_iconst (q := 62) dX3_ages_61 rfl kI_1 ?_
  obtain ⟨g105, hw⟩ := hw
  refine r_cVI0 (q := 65) _ [_] N_X3_209 rfl dX3_ages_62 rfl rfl rfl (mw_k hm) rfl ?_
  refine ct_X3_now hm g105 ?_
  have hw := hw _ rfl
  refine r_istore (q := 67) (lv' := [(0, _), (1, _), (2, _), (3, _), (4, _)]) dX3_ages_65 rfl (Nat.le_of_ble_eq_true rfl) rfl ?_
  refine r_aload_n (q := 68) dX3_ages_67 rfl 0 rfl ?_
  refine r_iconst (q := 69) dX3_ages_68 rfl kI_2 ?_
  obtain ⟨g107, hw⟩ := hw
  refine r_cVI0 (q := 72) _ [_] N_X3_209 rfl dX3_ages_69 rfl rfl rfl (mw_k hm) rfl ?_
  refine ct_X3_now hm g107 ?_
  have hw := hw _ rfl
  refine r_istore (q := 74) (lv' := [(0, _), (1, _), (2, _), (3, _), (4, _), (5, _)]) dX3_ages_72 rfl (Nat.le_of_ble_eq_true rfl) rfl ?_
  refine r_iload (q := 76) dX3_ages_74 rfl 4 rfl ?_
  refine r_iload (q := 78) dX3_ages_76 rfl 5 rfl ?_
  refine r_icmp_gt (tg := 95) (q := 81) dX3_ages_78 (by decide) rfl (fun c => ?_) (fun c => ?_)
  · have hw := hw.1 c
    refine r_iload_n (q := 96) dX3_ages_95 rfl 3 rfl ?_
    refine r_iload (q := 98) dX3_ages_96 rfl 4 rfl ?_
    refine r_icmp_ge (tg := 107) (q := 101) dX3_ages_98 (by decide) rfl (fun c => ?_) (fun c => ?_)
    · have hw := hw.1 c
      exact r_sub [0, 1, 3] rfl hw
    · have hw := hw.2 c
      refine r_iload_n (q := 102) dX3_ages_101 rfl 3 rfl ?_
      refine r_iload (q := 104) dX3_ages_102 rfl 5 rfl ?_
      refine r_icmp_gt (tg := 139) (q := 107) dX3_ages_104 (by decide) rfl (fun c => ?_) (fun c => ?_)
      · have hw := hw.1 c
        exact r_sub [0, 1, 3] rfl hw
      · have hw := hw.2 c
        exact r_sub [0, 1, 3] rfl hw
  · have hw := hw.2 c
    refine r_iload_n (q := 82) dX3_ages_81 rfl 3 rfl ?_
    refine r_iload (q := 84) dX3_ages_82 rfl 4 rfl ?_
    refine r_iload (q := 86) dX3_ages_84 rfl 5 rfl ?_
    refine r_cSI0 (q := 89) [_, _, _] N_X3_194 dX3_ages_86 rfl rfl rfl rfl ?_
    refine ct_X3_isIn  ?_
    refine r_ifb_eq (tg := 139) (q := 92) dX3_ages_89 (by decide) rfl (fun c => ?_) (fun c => ?_)
    · have hw := hw.1 c
      exact r_sub [0, 1, 3] rfl hw
    · have hw := hw.2 c
      refine r_goto (tg := 107) dX3_ages_92 (by decide) ?_
      exact r_sub [0, 1, 3] rfl hw
theorem b_X3_ages_107 {x1 x3 : Int32} {mo : Nat} {h : Hp} {k n : Nat} {Q : Hp → Prop} {E : Nat → Hp → Prop} (hm : MW h mo) (hw : vp_in x1 12 ∧ (vp_in x1 12 ∧ (((eI h (mo + 7) (ix x1)) = 0 → Rn M_X3_ages 134 [(0, rV mo), (1, iV x1), (3, iV x3)] [iV 1, iV (eI h (mo + 13) (ix x1)), iV 10, iV x1, rV (mo + 13)] h k n (qV Q) E) ∧ (¬ (eI h (mo + 7) (ix x1)) = 0 → Rn M_X3_ages 134 [(0, rV mo), (1, iV x1), (3, iV x3)] [iV 2, iV (eI h (mo + 13) (ix x1)), iV 10, iV x1, rV (mo + 13)] h k n (qV Q) E)))) : Rn M_X3_ages 107 [(0, rV mo), (1, iV x1), (3, iV x3)] [] h k n (qV Q) E := by
  refine r_aload_n (q := 108) dX3_ages_107 rfl 0 rfl ?_
  refine r_getR (q := 111) L_X3_47 dX3_ages_108 rfl (mw_k hm) (mwr_leaves hm) ?_
  refine r_iload_n (q := 112) dX3_ages_111 rfl 1 rfl ?_
  refine r_bipush (q := 114) dX3_ages_112 rfl kB_10 ?_
  refine r_aload_n (q := 115) dX3_ages_114 rfl 0 rfl ?_
  refine r_getR (q := 118) L_X3_47 dX3_ages_115 rfl (mw_k hm) (mwr_leaves hm) ?_
  refine r_iload_n (q := 119) dX3_ages_118 rfl 1 rfl ?_
  obtain ⟨g101, hw⟩ := hw
  refine r_ialdL (q := 120) dX3_ages_119 rfl (mwk_leaves hm) (mwl_leaves hm) g101 ?_
  refine r_aload_n (q := 121) dX3_ages_120 rfl 0 rfl ?_
  refine r_getR (q := 124) L_X3_29 dX3_ages_121 rfl (mw_k hm) (mwr_hasTree hm) ?_
  refine r_iload_n (q := 125) dX3_ages_124 rfl 1 rfl ?_
  obtain ⟨g102, hw⟩ := hw
  refine r_zaldL (q := 126) dX3_ages_125 rfl (mwk_hasTree hm) (mwl_hasTree hm) g102 ?_
  refine r_if_eq (tg := 133) (q := 129) dX3_ages_126 (by decide) rfl (fun c => ?_) (fun c => ?_)
  · have hw := hw.1 c
    refine r_iconst (q := 134) dX3_ages_133 rfl kI_1 ?_
    exact hw
  · have hw := hw.2 c
    refine r_iconst (q := 130) dX3_ages_129 rfl kI_2 ?_
    refine r_goto (tg := 134) dX3_ages_130 (by decide) ?_
    exact hw
theorem b_X3_ages_134 {x1 x3 a0 a1 a2 a3 : Int32} {mo p4 : Nat} {h : Hp} {k n : Nat} {Q : Hp → Prop} {E : Nat → Hp → Prop} (hm : MW h mo) (hw : kd h p4 = 61 ∧ (vp_in a3 (ln h p4) ∧ (∀ h103 : Hp, h103 = sI h p4 (ix a3) (imin a2 (a1 + a0)) → Rn M_X3_ages 139 [(0, rV mo), (1, iV x1), (3, iV x3)] [] h103 k n (qV Q) E))) : Rn M_X3_ages 134 [(0, rV mo), (1, iV x1), (3, iV x3)] [iV a0, iV a1, iV a2, iV a3, rV p4] h k n (qV Q) E := by
  refine r_iadd (q := 135) dX3_ages_134 rfl ?_
  refine r_mmin (q := 138) q1682 dX3_ages_135 rfl rfl ?_
  obtain ⟨g101, hw⟩ := hw
  obtain ⟨g102, hw⟩ := hw
  refine r_iastL (q := 139) dX3_ages_138 rfl g101 rfl g102 ?_
  refine r_mw_sI hm (fun hm => ?_)
  refine r_ksI g101 (fun g101 => ?_)
  have hw := hw _ rfl
  exact hw
theorem b_X3_ages_139 {x1 x3 : Int32} {mo : Nat} {h : Hp} {k n : Nat} {Q : Hp → Prop} {E : Nat → Hp → Prop} (hm : MW h mo) (hw : vp_in x1 12 ∧ ((P_X3_drink h mo x1) ∧ (∀ x103 : Int32, x103 = imin (eI h (mo + 15) (ix x1)) (20 * (V_X3_drink h mo x1)) → vp_in x1 12 ∧ (vp_in x1 12 ∧ (∀ h106 : Hp, h106 = sI h (mo + 15) (ix x1) ((eI h (mo + 15) (ix x1)) - x103) → ∀ h107 : Hp, h107 = pJ h106 1036 mo ((gJ h106 1036 mo) + (Int32.toInt64 x103)) → vp_in x1 12 ∧ (((eI h107 (mo + 15) (ix x1)) ≤ 0 → Rn M_X3_ages 207 [(0, rV mo), (1, iV x1), (3, iV x3)] [iV 0, iV x1, rV (mo + 16)] h107 k n (qV Q) E) ∧ (¬ (eI h107 (mo + 15) (ix x1)) ≤ 0 → vp_in x1 12 ∧ (Rn M_X3_ages 207 [(0, rV mo), (1, iV x1), (3, iV x3)] [iV ((eI h107 (mo + 16) (ix x1)) + 1), iV x1, rV (mo + 16)] h107 k n (qV Q) E)))))))) : Rn M_X3_ages 139 [(0, rV mo), (1, iV x1), (3, iV x3)] [] h k n (qV Q) E := by
  refine r_aload_n (q := 140) dX3_ages_139 rfl 0 rfl ?_
  refine r_getR (q := 143) L_X3_53 dX3_ages_140 rfl (mw_k hm) (mwr_holds hm) ?_
  refine r_iload_n (q := 144) dX3_ages_143 rfl 1 rfl ?_
  obtain ⟨g101, hw⟩ := hw
  refine r_ialdL (q := 145) dX3_ages_144 rfl (mwk_holds hm) (mwl_holds hm) g101 ?_
  refine r_bipush (q := 147) dX3_ages_145 rfl kB_20 ?_
  refine r_aload_n (q := 148) dX3_ages_147 rfl 0 rfl ?_
  refine r_iload_n (q := 149) dX3_ages_148 rfl 1 rfl ?_
  obtain ⟨g102, hw⟩ := hw
  refine r_cVI0 (q := 152) _ [_] N_X3_230 rfl dX3_ages_149 rfl rfl rfl (mw_k hm) rfl ?_
  refine ct_X3_drink hm g102 ?_
  refine r_imul (q := 153) dX3_ages_152 rfl ?_
  refine r_mmin (q := 156) q1682 dX3_ages_153 rfl rfl ?_
  have hw := hw _ rfl
  refine r_istore (q := 158) (lv' := [(0, _), (1, _), (3, _), (6, _)]) dX3_ages_156 rfl (Nat.le_of_ble_eq_true rfl) rfl ?_
  refine r_aload_n (q := 159) dX3_ages_158 rfl 0 rfl ?_
  refine r_getR (q := 162) L_X3_53 dX3_ages_159 rfl (mw_k hm) (mwr_holds hm) ?_
  refine r_iload_n (q := 163) dX3_ages_162 rfl 1 rfl ?_
  refine r_dup2 (q := 164) dX3_ages_163 rfl rfl rfl ?_
  obtain ⟨g104, hw⟩ := hw
  refine r_ialdL (q := 165) dX3_ages_164 rfl (mwk_holds hm) (mwl_holds hm) g104 ?_
  refine r_iload (q := 167) dX3_ages_165 rfl 3 rfl ?_
  refine r_isub (q := 168) dX3_ages_167 rfl ?_
  obtain ⟨g105, hw⟩ := hw
  refine r_iastL (q := 169) dX3_ages_168 rfl (mwk_holds hm) (mwl_holds hm) g105 ?_
  refine r_mw_sI hm (fun hm => ?_)
  have hw := hw _ rfl
  refine r_aload_n (q := 170) dX3_ages_169 rfl 0 rfl ?_
  refine r_dup (q := 171) dX3_ages_170 rfl rfl ?_
  refine r_getJ (q := 174) L_X3_233 dX3_ages_171 rfl (mw_k hm) ?_
  refine r_iload (q := 176) dX3_ages_174 rfl 3 rfl ?_
  refine r_i2l (q := 177) dX3_ages_176 rfl ?_
  refine r_ladd (q := 178) dX3_ages_177 rfl ?_
  refine r_putJ (q := 181) L_X3_233 dX3_ages_178 rfl (mw_k hm) ?_
  refine r_mw_pJ hm (fun hm => ?_)
  have hw := hw _ rfl
  refine r_aload_n (q := 182) dX3_ages_181 rfl 0 rfl ?_
  refine r_getR (q := 185) L_X3_56 dX3_ages_182 rfl (mw_k hm) (mwr_stands hm) ?_
  refine r_iload_n (q := 186) dX3_ages_185 rfl 1 rfl ?_
  refine r_aload_n (q := 187) dX3_ages_186 rfl 0 rfl ?_
  refine r_getR (q := 190) L_X3_53 dX3_ages_187 rfl (mw_k hm) (mwr_holds hm) ?_
  refine r_iload_n (q := 191) dX3_ages_190 rfl 1 rfl ?_
  obtain ⟨g108, hw⟩ := hw
  refine r_ialdL (q := 192) dX3_ages_191 rfl (mwk_holds hm) (mwl_holds hm) g108 ?_
  refine r_if_le (tg := 206) (q := 195) dX3_ages_192 (by decide) rfl (fun c => ?_) (fun c => ?_)
  · have hw := hw.1 c
    refine r_iconst (q := 207) dX3_ages_206 rfl kI_0 ?_
    exact r_sub [0, 1, 2] rfl hw
  · have hw := hw.2 c
    refine r_aload_n (q := 196) dX3_ages_195 rfl 0 rfl ?_
    refine r_getR (q := 199) L_X3_56 dX3_ages_196 rfl (mw_k hm) (mwr_stands hm) ?_
    refine r_iload_n (q := 200) dX3_ages_199 rfl 1 rfl ?_
    obtain ⟨g109, hw⟩ := hw
    refine r_ialdL (q := 201) dX3_ages_200 rfl (mwk_stands hm) (mwl_stands hm) g109 ?_
    refine r_iconst (q := 202) dX3_ages_201 rfl kI_1 ?_
    refine r_iadd (q := 203) dX3_ages_202 rfl ?_
    refine r_goto (tg := 207) dX3_ages_203 (by decide) ?_
    exact r_sub [0, 1, 2] rfl hw
theorem b_X3_ages_207 {x1 x3 a0 a1 : Int32} {mo p2 : Nat} {h : Hp} {k n : Nat} {Q : Hp → Prop} {E : Nat → Hp → Prop} (hm : MW h mo) (hw : kd h p2 = 61 ∧ (vp_in a1 (ln h p2) ∧ (∀ h103 : Hp, h103 = sI h p2 (ix a1) a0 → vp_in x1 12 ∧ ((P_X3_now h103 mo 6) ∧ ((¬ (eI h103 (mo + 16) (ix x1)) = ((V_X3_now h103 mo 6) + 1) → Rn M_X3_ages 232 [(0, rV mo), (1, iV x1), (3, iV x3)] [] h103 k n (qV Q) E) ∧ ((eI h103 (mo + 16) (ix x1)) = ((V_X3_now h103 mo 6) + 1) → CtI M_X3_complain [rV mo, iV x1, iV 2] h103 0 0 (fun x107 h106 => MW h106 mo ∧ (Rn M_X3_ages 232 [(0, rV mo), (1, iV x1), (3, iV x3)] [] h106 k n (qV Q) E)) E)))))) : Rn M_X3_ages 207 [(0, rV mo), (1, iV x1), (3, iV x3)] [iV a0, iV a1, rV p2] h k n (qV Q) E := by
  obtain ⟨g101, hw⟩ := hw
  obtain ⟨g102, hw⟩ := hw
  refine r_iastL (q := 208) dX3_ages_207 rfl g101 rfl g102 ?_
  refine r_mw_sI hm (fun hm => ?_)
  refine r_ksI g101 (fun g101 => ?_)
  have hw := hw _ rfl
  refine r_aload_n (q := 209) dX3_ages_208 rfl 0 rfl ?_
  refine r_getR (q := 212) L_X3_56 dX3_ages_209 rfl (mw_k hm) (mwr_stands hm) ?_
  refine r_iload_n (q := 213) dX3_ages_212 rfl 1 rfl ?_
  obtain ⟨g104, hw⟩ := hw
  refine r_ialdL (q := 214) dX3_ages_213 rfl (mwk_stands hm) (mwl_stands hm) g104 ?_
  refine r_aload_n (q := 215) dX3_ages_214 rfl 0 rfl ?_
  refine r_bipush (q := 217) dX3_ages_215 rfl kB_6 ?_
  obtain ⟨g105, hw⟩ := hw
  refine r_cVI0 (q := 220) _ [_] N_X3_209 rfl dX3_ages_217 rfl rfl rfl (mw_k hm) rfl ?_
  refine ct_X3_now hm g105 ?_
  refine r_iconst (q := 221) dX3_ages_220 rfl kI_1 ?_
  refine r_iadd (q := 222) dX3_ages_221 rfl ?_
  refine r_icmp_ne (tg := 232) (q := 225) dX3_ages_222 (by decide) rfl (fun c => ?_) (fun c => ?_)
  · have hw := hw.1 c
    exact hw
  · have hw := hw.2 c
    refine r_aload_n (q := 226) dX3_ages_225 rfl 0 rfl ?_
    refine r_iload_n (q := 227) dX3_ages_226 rfl 1 rfl ?_
    refine r_iconst (q := 228) dX3_ages_227 rfl kI_2 ?_
    refine r_cVI0 (q := 231) _ [_, _] N_X3_237 rfl dX3_ages_228 rfl rfl rfl (mw_k hm) rfl ?_
    refine r_monoCI (fun x107 h106 hw => ?_) hw
    obtain ⟨hm, hw⟩ := hw
    refine r_pop (q := 232) dX3_ages_231 rfl rfl ?_
    exact hw
theorem b_X3_ages_232 {x1 x3 : Int32} {mo : Nat} {h : Hp} {k n : Nat} {Q : Hp → Prop} {E : Nat → Hp → Prop} (hm : MW h mo) (hw : (x3 = 60 → vp_in x1 12 ∧ ((P_X3_now h mo 5) ∧ (((eI h (mo + 14) (ix x1)) ≤ (V_X3_now h mo 5) → Rn M_X3_ages 260 [(0, rV mo), (1, iV x1)] [] h k n (qV Q) E) ∧ (¬ (eI h (mo + 14) (ix x1)) ≤ (V_X3_now h mo 5) → vp_in x1 12 ∧ (∀ h104 : Hp, h104 = sI h (mo + 8) (ix x1) 0 → Rn M_X3_ages 260 [(0, rV mo), (1, iV x1)] [] h104 k n (qV Q) E))))) ∧ (¬ x3 = 60 → Q h)) : Rn M_X3_ages 232 [(0, rV mo), (1, iV x1), (3, iV x3)] [] h k n (qV Q) E := by
  refine r_iload_n (q := 233) dX3_ages_232 rfl 2 rfl ?_
  refine r_bipush (q := 235) dX3_ages_233 rfl kB_60 ?_
  refine r_icmp_eq (tg := 239) (q := 238) dX3_ages_235 (by decide) rfl (fun c => ?_) (fun c => ?_)
  · have hw := hw.1 c
    refine r_aload_n (q := 240) dX3_ages_239 rfl 0 rfl ?_
    refine r_getR (q := 243) L_X3_50 dX3_ages_240 rfl (mw_k hm) (mwr_salt hm) ?_
    refine r_iload_n (q := 244) dX3_ages_243 rfl 1 rfl ?_
    obtain ⟨g101, hw⟩ := hw
    refine r_ialdL (q := 245) dX3_ages_244 rfl (mwk_salt hm) (mwl_salt hm) g101 ?_
    refine r_aload_n (q := 246) dX3_ages_245 rfl 0 rfl ?_
    refine r_iconst (q := 247) dX3_ages_246 rfl kI_5 ?_
    obtain ⟨g102, hw⟩ := hw
    refine r_cVI0 (q := 250) _ [_] N_X3_209 rfl dX3_ages_247 rfl rfl rfl (mw_k hm) rfl ?_
    refine ct_X3_now hm g102 ?_
    refine r_icmp_le (tg := 260) (q := 253) dX3_ages_250 (by decide) rfl (fun c => ?_) (fun c => ?_)
    · have hw := hw.1 c
      exact r_sub [0, 1] rfl hw
    · have hw := hw.2 c
      refine r_aload_n (q := 254) dX3_ages_253 rfl 0 rfl ?_
      refine r_getR (q := 257) L_X3_32 dX3_ages_254 rfl (mw_k hm) (mwr_hasPlants hm) ?_
      refine r_iload_n (q := 258) dX3_ages_257 rfl 1 rfl ?_
      refine r_iconst (q := 259) dX3_ages_258 rfl kI_0 ?_
      obtain ⟨g103, hw⟩ := hw
      refine r_zastL (q := 260) dX3_ages_259 rfl (mwk_hasPlants hm) (mwl_hasPlants hm) g103 (Or.inl rfl) ?_
      refine r_mw_sI hm (fun hm => ?_)
      have hw := hw _ rfl
      exact r_sub [0, 1] rfl hw
  · have hw := hw.2 c
    exact r_vret dX3_ages_238 rfl hw
theorem b_X3_ages_260 {x1 : Int32} {mo : Nat} {h : Hp} {k n : Nat} {Q : Hp → Prop} {E : Nat → Hp → Prop} (hm : MW h mo) (hw : vp_in x1 12 ∧ (∀ h102 : Hp, h102 = sI h (mo + 14) (ix x1) 0 → Q h102)) : Rn M_X3_ages 260 [(0, rV mo), (1, iV x1)] [] h k n (qV Q) E := by
  refine r_aload_n (q := 261) dX3_ages_260 rfl 0 rfl ?_
  refine r_getR (q := 264) L_X3_50 dX3_ages_261 rfl (mw_k hm) (mwr_salt hm) ?_
  refine r_iload_n (q := 265) dX3_ages_264 rfl 1 rfl ?_
  refine r_iconst (q := 266) dX3_ages_265 rfl kI_0 ?_
  obtain ⟨g101, hw⟩ := hw
  refine r_iastL (q := 267) dX3_ages_266 rfl (mwk_salt hm) (mwl_salt hm) g101 ?_
  refine r_mw_sI hm (fun hm => ?_)
  have hw := hw _ rfl
  exact r_vret dX3_ages_267 rfl hw
theorem b_X3_turns_0 {mo : Nat} {h : Hp} {k n : Nat} {Q : Hp → Prop} {E : Nat → Hp → Prop} (hm : MW h mo) (hw : (LWp h mo) ∧ (∀ x102 : Int32, x102 = frcm h mo (gI h 1000 mo) → ∀ x103 : Int32, x103 = 24 * x102 → Rn M_X3_turns 14 [(0, rV mo), (1, iV x102), (2, iV x103)] [] h k n (qV Q) E)) : Rn M_X3_turns 0 [(0, rV mo)] [] h k n (qV Q) E := by
  refine r_aload_n (q := 1) dX3_turns_0 rfl 0 rfl ?_
  refine r_aload_n (q := 2) dX3_turns_1 rfl 0 rfl ?_
  refine r_getI (q := 5) L_X3_212 dX3_turns_2 rfl (mw_k hm) ?_
  obtain ⟨g101, hw⟩ := hw
  refine r_cVI0 (q := 8) _ [_] N_X3_240 rfl dX3_turns_5 rfl rfl rfl (mw_k hm) rfl ?_
  refine cs_X3_inForce hm g101 ?_
  have hw := hw _ rfl
  refine r_istore_n (q := 9) (lv' := [(0, _), (1, _)]) dX3_turns_8 rfl (Nat.le_of_ble_eq_true rfl) rfl ?_
  refine r_bipush (q := 11) dX3_turns_9 rfl kB_24 ?_
  refine r_iload_n (q := 12) dX3_turns_11 rfl 1 rfl ?_
  refine r_imul (q := 13) dX3_turns_12 rfl ?_
  have hw := hw _ rfl
  refine r_istore_n (q := 14) (lv' := [(0, _), (1, _), (2, _)]) dX3_turns_13 rfl (Nat.le_of_ble_eq_true rfl) rfl ?_
  exact hw
theorem b_X3_turns_14 {x1 x2 : Int32} {mo : Nat} {h : Hp} {k n : Nat} {Q : Hp → Prop} {E : Nat → Hp → Prop} (hm : MW h mo) (hw : (x1 = (-1) → Q h) ∧ (¬ x1 = (-1) → vp_in x1 11 ∧ ((((24 * x1) + (eI h (mo + 50) (ix x1))) ≤ x2 → Q h) ∧ (¬ ((24 * x1) + (eI h (mo + 50) (ix x1))) ≤ x2 → (P_X3_isTurn h mo x2 (gI h 1000 mo)) ∧ (((V_X3_isTurn h mo x2 (gI h 1000 mo)) = 0 → ∀ x103 : Int32, x103 = x2 + 1 → Rn M_X3_turns 14 [(0, rV mo), (1, iV x1), (2, iV x103)] [] h k n (qV Q) E) ∧ (¬ (V_X3_isTurn h mo x2 (gI h 1000 mo)) = 0 → vp_in x2 264 ∧ ((P_X3_isBed h mo (eI h (mo + 54) (ix x2))) ∧ ((¬ (V_X3_isBed h mo (eI h (mo + 54) (ix x2))) = 0 → vp_in x2 264 ∧ (vp_in x2 264 ∧ (vp_in ((11 * (eI h (mo + 54) (ix x2))) + (eI h (mo + 53) (ix x2))) 132 ∧ ((¬ (eI h (mo + 18) (ix ((11 * (eI h (mo + 54) (ix x2))) + (eI h (mo + 53) (ix x2))))) = (gI h 1000 mo) → vp_in x2 264 ∧ (vp_in (eI h (mo + 53) (ix x2)) 10 ∧ ((P_X3_now h mo 3) ∧ (vp_in (eI h (mo + 53) (ix x2)) 10 ∧ (∀ h113 : Hp, h113 = sI h (mo + 27) (ix (eI h (mo + 53) (ix x2))) ((eI h (mo + 27) (ix (eI h (mo + 53) (ix x2)))) + (V_X3_now h mo 3)) → ∀ x114 : Int32, x114 = x2 + 1 → Rn M_X3_turns 14 [(0, rV mo), (1, iV x1), (2, iV x114)] [] h113 k n (qV Q) E))))) ∧ ((eI h (mo + 18) (ix ((11 * (eI h (mo + 54) (ix x2))) + (eI h (mo + 53) (ix x2))))) = (gI h 1000 mo) → vp_in x2 264 ∧ (vp_in ((10 * ((gI h 1000 mo) / 365)) + (eI h (mo + 53) (ix x2))) 100 ∧ (vp_in ((10 * ((gI h 1000 mo) / 365)) + (eI h (mo + 53) (ix x2))) 100 ∧ (∀ h118 : Hp, h118 = sI h (mo + 28) (ix ((10 * ((gI h 1000 mo) / 365)) + (eI h (mo + 53) (ix x2)))) ((eI h (mo + 28) (ix ((10 * ((gI h 1000 mo) / 365)) + (eI h (mo + 53) (ix x2))))) + 1) → ∀ x119 : Int32, x119 = x2 + 1 → Rn M_X3_turns 14 [(0, rV mo), (1, iV x1), (2, iV x119)] [] h118 k n (qV Q) E)))))))) ∧ ((V_X3_isBed h mo (eI h (mo + 54) (ix x2))) = 0 → ∀ x120 : Int32, x120 = x2 + 1 → Rn M_X3_turns 14 [(0, rV mo), (1, iV x1), (2, iV x120)] [] h k n (qV Q) E))))))))) : Rn M_X3_turns 14 [(0, rV mo), (1, iV x1), (2, iV x2)] [] h k n (qV Q) E := by
  refine r_iload_n (q := 15) dX3_turns_14 rfl 1 rfl ?_
  refine r_iconst (q := 16) dX3_turns_15 rfl kI_m1 ?_
  refine r_icmp_eq (tg := 145) (q := 19) dX3_turns_16 (by decide) rfl (fun c => ?_) (fun c => ?_)
  · have hw := hw.1 c
    exact r_vret dX3_turns_145 rfl hw
  · have hw := hw.2 c
    refine r_iload_n (q := 20) dX3_turns_19 rfl 2 rfl ?_
    refine r_bipush (q := 22) dX3_turns_20 rfl kB_24 ?_
    refine r_iload_n (q := 23) dX3_turns_22 rfl 1 rfl ?_
    refine r_imul (q := 24) dX3_turns_23 rfl ?_
    refine r_aload_n (q := 25) dX3_turns_24 rfl 0 rfl ?_
    refine r_getR (q := 28) L_X3_159 dX3_turns_25 rfl (mw_k hm) (mwr_statements hm) ?_
    refine r_iload_n (q := 29) dX3_turns_28 rfl 1 rfl ?_
    obtain ⟨g101, hw⟩ := hw
    refine r_ialdL (q := 30) dX3_turns_29 rfl (mwk_statements hm) (mwl_statements hm) g101 ?_
    refine r_iadd (q := 31) dX3_turns_30 rfl ?_
    refine r_icmp_ge (tg := 145) (q := 34) dX3_turns_31 (by decide) rfl (fun c => ?_) (fun c => ?_)
    · have hw := hw.1 c
      exact r_vret dX3_turns_145 rfl hw
    · have hw := hw.2 c
      refine r_aload_n (q := 35) dX3_turns_34 rfl 0 rfl ?_
      refine r_iload_n (q := 36) dX3_turns_35 rfl 2 rfl ?_
      refine r_aload_n (q := 37) dX3_turns_36 rfl 0 rfl ?_
      refine r_getI (q := 40) L_X3_212 dX3_turns_37 rfl (mw_k hm) ?_
      obtain ⟨g102, hw⟩ := hw
      refine r_cVI0 (q := 43) _ [_, _] N_X3_243 rfl dX3_turns_40 rfl rfl rfl (mw_k hm) rfl ?_
      refine ct_X3_isTurn hm g102 ?_
      refine r_if_eq (tg := 139) (q := 46) dX3_turns_43 (by decide) rfl (fun c => ?_) (fun c => ?_)
      · have hw := hw.1 c
        have hw := hw _ rfl
        refine r_iincW (q := 142) (lv' := [(0, _), (1, _), (2, _)]) dX3_turns_139 rfl 2 rfl kI_1 (Nat.le_of_ble_eq_true rfl) rfl ?_
        refine r_goto (tg := 14) dX3_turns_142 (by decide) ?_
        exact hw
      · have hw := hw.2 c
        refine r_aload_n (q := 47) dX3_turns_46 rfl 0 rfl ?_
        refine r_aload_n (q := 48) dX3_turns_47 rfl 0 rfl ?_
        refine r_getR (q := 51) L_X3_171 dX3_turns_48 rfl (mw_k hm) (mwr_second hm) ?_
        refine r_iload_n (q := 52) dX3_turns_51 rfl 2 rfl ?_
        obtain ⟨g104, hw⟩ := hw
        refine r_ialdL (q := 53) dX3_turns_52 rfl (mwk_second hm) (mwl_second hm) g104 ?_
        obtain ⟨g105, hw⟩ := hw
        refine r_cVI0 (q := 56) _ [_] N_X3_219 rfl dX3_turns_53 rfl rfl rfl (mw_k hm) rfl ?_
        refine ct_X3_isBed hm g105 ?_
        refine r_if_ne (tg := 62) (q := 59) dX3_turns_56 (by decide) rfl (fun c => ?_) (fun c => ?_)
        · have hw := hw.1 c
          refine r_aload_n (q := 63) dX3_turns_62 rfl 0 rfl ?_
          refine r_getR (q := 66) L_X3_62 dX3_turns_63 rfl (mw_k hm) (mwr_caredOn hm) ?_
          refine r_bipush (q := 68) dX3_turns_66 rfl kB_11 ?_
          refine r_aload_n (q := 69) dX3_turns_68 rfl 0 rfl ?_
          refine r_getR (q := 72) L_X3_171 dX3_turns_69 rfl (mw_k hm) (mwr_second hm) ?_
          refine r_iload_n (q := 73) dX3_turns_72 rfl 2 rfl ?_
          obtain ⟨g106, hw⟩ := hw
          refine r_ialdL (q := 74) dX3_turns_73 rfl (mwk_second hm) (mwl_second hm) g106 ?_
          refine r_imul (q := 75) dX3_turns_74 rfl ?_
          refine r_aload_n (q := 76) dX3_turns_75 rfl 0 rfl ?_
          refine r_getR (q := 79) L_X3_168 dX3_turns_76 rfl (mw_k hm) (mwr_first hm) ?_
          refine r_iload_n (q := 80) dX3_turns_79 rfl 2 rfl ?_
          obtain ⟨g107, hw⟩ := hw
          refine r_ialdL (q := 81) dX3_turns_80 rfl (mwk_first hm) (mwl_first hm) g107 ?_
          refine r_iadd (q := 82) dX3_turns_81 rfl ?_
          obtain ⟨g108, hw⟩ := hw
          refine r_ialdL (q := 83) dX3_turns_82 rfl (mwk_caredOn hm) (mwl_caredOn hm) g108 ?_
          refine r_aload_n (q := 84) dX3_turns_83 rfl 0 rfl ?_
          refine r_getI (q := 87) L_X3_212 dX3_turns_84 rfl (mw_k hm) ?_
          refine r_icmp_ne (tg := 120) (q := 90) dX3_turns_87 (by decide) rfl (fun c => ?_) (fun c => ?_)
          · have hw := hw.1 c
            refine r_aload_n (q := 121) dX3_turns_120 rfl 0 rfl ?_
            refine r_getR (q := 124) L_X3_89 dX3_turns_121 rfl (mw_k hm) (mwr_owes hm) ?_
            refine r_aload_n (q := 125) dX3_turns_124 rfl 0 rfl ?_
            refine r_getR (q := 128) L_X3_168 dX3_turns_125 rfl (mw_k hm) (mwr_first hm) ?_
            refine r_iload_n (q := 129) dX3_turns_128 rfl 2 rfl ?_
            obtain ⟨g109, hw⟩ := hw
            refine r_ialdL (q := 130) dX3_turns_129 rfl (mwk_first hm) (mwl_first hm) g109 ?_
            refine r_dup2 (q := 131) dX3_turns_130 rfl rfl rfl ?_
            obtain ⟨g110, hw⟩ := hw
            refine r_ialdL (q := 132) dX3_turns_131 rfl (mwk_owes hm) (mwl_owes hm) g110 ?_
            refine r_aload_n (q := 133) dX3_turns_132 rfl 0 rfl ?_
            refine r_iconst (q := 134) dX3_turns_133 rfl kI_3 ?_
            obtain ⟨g111, hw⟩ := hw
            refine r_cVI0 (q := 137) _ [_] N_X3_209 rfl dX3_turns_134 rfl rfl rfl (mw_k hm) rfl ?_
            refine ct_X3_now hm g111 ?_
            refine r_iadd (q := 138) dX3_turns_137 rfl ?_
            obtain ⟨g112, hw⟩ := hw
            refine r_iastL (q := 139) dX3_turns_138 rfl (mwk_owes hm) (mwl_owes hm) g112 ?_
            refine r_mw_sI hm (fun hm => ?_)
            have hw := hw _ rfl
            have hw := hw _ rfl
            refine r_iincW (q := 142) (lv' := [(0, _), (1, _), (2, _)]) dX3_turns_139 rfl 2 rfl kI_1 (Nat.le_of_ble_eq_true rfl) rfl ?_
            refine r_goto (tg := 14) dX3_turns_142 (by decide) ?_
            exact hw
          · have hw := hw.2 c
            refine r_aload_n (q := 91) dX3_turns_90 rfl 0 rfl ?_
            refine r_getR (q := 94) L_X3_92 dX3_turns_91 rfl (mw_k hm) (mwr_kept hm) ?_
            refine r_bipush (q := 96) dX3_turns_94 rfl kB_10 ?_
            refine r_aload_n (q := 97) dX3_turns_96 rfl 0 rfl ?_
            refine r_getI (q := 100) L_X3_212 dX3_turns_97 rfl (mw_k hm) ?_
            refine r_sipush (q := 103) dX3_turns_100 rfl kS_365 ?_
            refine r_idiv (q := 104) dX3_turns_103 rfl (by decide) ?_
            refine r_imul (q := 105) dX3_turns_104 rfl ?_
            refine r_aload_n (q := 106) dX3_turns_105 rfl 0 rfl ?_
            refine r_getR (q := 109) L_X3_168 dX3_turns_106 rfl (mw_k hm) (mwr_first hm) ?_
            refine r_iload_n (q := 110) dX3_turns_109 rfl 2 rfl ?_
            obtain ⟨g115, hw⟩ := hw
            refine r_ialdL (q := 111) dX3_turns_110 rfl (mwk_first hm) (mwl_first hm) g115 ?_
            refine r_iadd (q := 112) dX3_turns_111 rfl ?_
            refine r_dup2 (q := 113) dX3_turns_112 rfl rfl rfl ?_
            obtain ⟨g116, hw⟩ := hw
            refine r_ialdL (q := 114) dX3_turns_113 rfl (mwk_kept hm) (mwl_kept hm) g116 ?_
            refine r_iconst (q := 115) dX3_turns_114 rfl kI_1 ?_
            refine r_iadd (q := 116) dX3_turns_115 rfl ?_
            obtain ⟨g117, hw⟩ := hw
            refine r_iastL (q := 117) dX3_turns_116 rfl (mwk_kept hm) (mwl_kept hm) g117 ?_
            refine r_mw_sI hm (fun hm => ?_)
            have hw := hw _ rfl
            refine r_goto (tg := 139) dX3_turns_117 (by decide) ?_
            have hw := hw _ rfl
            refine r_iincW (q := 142) (lv' := [(0, _), (1, _), (2, _)]) dX3_turns_139 rfl 2 rfl kI_1 (Nat.le_of_ble_eq_true rfl) rfl ?_
            refine r_goto (tg := 14) dX3_turns_142 (by decide) ?_
            exact hw
        · have hw := hw.2 c
          refine r_goto (tg := 139) dX3_turns_59 (by decide) ?_
          have hw := hw _ rfl
          refine r_iincW (q := 142) (lv' := [(0, _), (1, _), (2, _)]) dX3_turns_139 rfl 2 rfl kI_1 (Nat.le_of_ble_eq_true rfl) rfl ?_
          refine r_goto (tg := 14) dX3_turns_142 (by decide) ?_
          exact hw
theorem b_X3_pass_0 {x1 : Int32} {mo : Nat} {h : Hp} {k n : Nat} {Q : Int32 → Hp → Prop} {E : Nat → Hp → Prop} (hm : MW h mo) (hw : ((isin x1 1 100) = false → Q (-1) h) ∧ ((isin x1 1 100) = true → ((gI h 1000 mo) ≤ (3649 - x1) → Rn M_X3_pass 26 [(0, rV mo), (1, iV x1), (2, iV 0)] [] h k n (qI Q) E) ∧ (¬ (gI h 1000 mo) ≤ (3649 - x1) → Q (-1) h))) : Rn M_X3_pass 0 [(0, rV mo), (1, iV x1)] [] h k n (qI Q) E := by
  refine r_iload_n (q := 1) dX3_pass_0 rfl 1 rfl ?_
  refine r_iconst (q := 2) dX3_pass_1 rfl kI_1 ?_
  refine r_bipush (q := 4) dX3_pass_2 rfl kB_100 ?_
  refine r_cSI0 (q := 7) [_, _, _] N_X3_194 dX3_pass_4 rfl rfl rfl rfl ?_
  refine ct_X3_isIn  ?_
  refine r_ifb_eq (tg := 22) (q := 10) dX3_pass_7 (by decide) rfl (fun c => ?_) (fun c => ?_)
  · have hw := hw.1 c
    refine r_iconst (q := 23) dX3_pass_22 rfl kI_m1 ?_
    exact r_iret dX3_pass_23 rfl hw
  · have hw := hw.2 c
    refine r_aload_n (q := 11) dX3_pass_10 rfl 0 rfl ?_
    refine r_getI (q := 14) L_X3_212 dX3_pass_11 rfl (mw_k hm) ?_
    refine r_sipush (q := 17) dX3_pass_14 rfl kS_3649 ?_
    refine r_iload_n (q := 18) dX3_pass_17 rfl 1 rfl ?_
    refine r_isub (q := 19) dX3_pass_18 rfl ?_
    refine r_icmp_le (tg := 24) (q := 22) dX3_pass_19 (by decide) rfl (fun c => ?_) (fun c => ?_)
    · have hw := hw.1 c
      refine r_iconst (q := 25) dX3_pass_24 rfl kI_0 ?_
      refine r_istore_n (q := 26) (lv' := [(0, _), (1, _), (2, _)]) dX3_pass_25 rfl (Nat.le_of_ble_eq_true rfl) rfl ?_
      exact hw
    · have hw := hw.2 c
      refine r_iconst (q := 23) dX3_pass_22 rfl kI_m1 ?_
      exact r_iret dX3_pass_23 rfl hw
theorem b_X3_pass_26 {x1 x2 : Int32} {mo : Nat} {h : Hp} {k n : Nat} {Q : Int32 → Hp → Prop} {E : Nat → Hp → Prop} (hm : MW h mo) (hw : (x1 ≤ x2 → Q (gI h 1000 mo) h) ∧ (¬ x1 ≤ x2 → Rn M_X3_pass 33 [(0, rV mo), (1, iV x1), (2, iV x2), (3, iV 0)] [] h k n (qI Q) E)) : Rn M_X3_pass 26 [(0, rV mo), (1, iV x1), (2, iV x2)] [] h k n (qI Q) E := by
  refine r_iload_n (q := 27) dX3_pass_26 rfl 2 rfl ?_
  refine r_iload_n (q := 28) dX3_pass_27 rfl 1 rfl ?_
  refine r_icmp_ge (tg := 132) (q := 31) dX3_pass_28 (by decide) rfl (fun c => ?_) (fun c => ?_)
  · have hw := hw.1 c
    refine r_aload_n (q := 133) dX3_pass_132 rfl 0 rfl ?_
    refine r_getI (q := 136) L_X3_212 dX3_pass_133 rfl (mw_k hm) ?_
    exact r_iret dX3_pass_136 rfl hw
  · have hw := hw.2 c
    refine r_iconst (q := 32) dX3_pass_31 rfl kI_0 ?_
    refine r_istore_n (q := 33) (lv' := [(0, _), (1, _), (2, _), (3, _)]) dX3_pass_32 rfl (Nat.le_of_ble_eq_true rfl) rfl ?_
    exact hw
theorem b_X3_pass_33 {x1 x2 x3 : Int32} {mo : Nat} {h : Hp} {k n : Nat} {Q : Int32 → Hp → Prop} {E : Nat → Hp → Prop} (hm : MW h mo) (hw : ((gI h 1001 mo) ≤ x3 → Rn M_X3_pass 63 [(0, rV mo), (1, iV x1), (2, iV x2), (3, iV 0)] [] h k n (qI Q) E) ∧ (¬ (gI h 1001 mo) ≤ x3 → vp_in x3 12 ∧ (((eI h (mo + 6) (ix x3)) = 0 → ∀ x102 : Int32, x102 = x3 + 1 → Rn M_X3_pass 33 [(0, rV mo), (1, iV x1), (2, iV x2), (3, iV x102)] [] h k n (qI Q) E) ∧ (¬ (eI h (mo + 6) (ix x3)) = 0 → CtV M_X3_ages [rV mo, iV x3] h 0 0 (fun h103 => MW h103 mo ∧ (∀ x104 : Int32, x104 = x3 + 1 → Rn M_X3_pass 33 [(0, rV mo), (1, iV x1), (2, iV x2), (3, iV x104)] [] h103 k n (qI Q) E)) E)))) : Rn M_X3_pass 33 [(0, rV mo), (1, iV x1), (2, iV x2), (3, iV x3)] [] h k n (qI Q) E := by
  refine r_iload_n (q := 34) dX3_pass_33 rfl 3 rfl ?_
  refine r_aload_n (q := 35) dX3_pass_34 rfl 0 rfl ?_
  refine r_getI (q := 38) L_X3_191 dX3_pass_35 rfl (mw_k hm) ?_
  refine r_icmp_ge (tg := 61) (q := 41) dX3_pass_38 (by decide) rfl (fun c => ?_) (fun c => ?_)
  · have hw := hw.1 c
    refine r_iconst (q := 62) dX3_pass_61 rfl kI_0 ?_
    refine r_istore_n (q := 63) (lv' := [(0, _), (1, _), (2, _), (3, _)]) dX3_pass_62 rfl (Nat.le_of_ble_eq_true rfl) rfl ?_
    exact hw
  · have hw := hw.2 c
    refine r_aload_n (q := 42) dX3_pass_41 rfl 0 rfl ?_
    refine r_getR (q := 45) L_X3_25 dX3_pass_42 rfl (mw_k hm) (mwr_hasBed hm) ?_
    refine r_iload_n (q := 46) dX3_pass_45 rfl 3 rfl ?_
    obtain ⟨g101, hw⟩ := hw
    refine r_zaldL (q := 47) dX3_pass_46 rfl (mwk_hasBed hm) (mwl_hasBed hm) g101 ?_
    refine r_if_eq (tg := 55) (q := 50) dX3_pass_47 (by decide) rfl (fun c => ?_) (fun c => ?_)
    · have hw := hw.1 c
      have hw := hw _ rfl
      refine r_iincW (q := 58) (lv' := [(0, _), (1, _), (2, _), (3, _)]) dX3_pass_55 rfl 3 rfl kI_1 (Nat.le_of_ble_eq_true rfl) rfl ?_
      refine r_goto (tg := 33) dX3_pass_58 (by decide) ?_
      exact hw
    · have hw := hw.2 c
      refine r_aload_n (q := 51) dX3_pass_50 rfl 0 rfl ?_
      refine r_iload_n (q := 52) dX3_pass_51 rfl 3 rfl ?_
      refine r_cVV0 (q := 55) _ [_] N_X3_247 rfl dX3_pass_52 rfl rfl rfl (mw_k hm) rfl ?_
      refine r_monoCV (fun h103 hw => ?_) hw
      obtain ⟨hm, hw⟩ := hw
      have hw := hw _ rfl
      refine r_iincW (q := 58) (lv' := [(0, _), (1, _), (2, _), (3, _)]) dX3_pass_55 rfl 3 rfl kI_1 (Nat.le_of_ble_eq_true rfl) rfl ?_
      refine r_goto (tg := 33) dX3_pass_58 (by decide) ?_
      exact hw
theorem b_X3_pass_63 {x1 x2 x3 : Int32} {mo : Nat} {h : Hp} {k n : Nat} {Q : Int32 → Hp → Prop} {E : Nat → Hp → Prop} (hm : MW h mo) (hw : ((gI h 1002 mo) ≤ x3 → CtV M_X3_turns [rV mo] h 0 0 (fun h101 => MW h101 mo ∧ (∀ h102 : Hp, h102 = pI h101 1000 mo ((gI h101 1000 mo) + 1) → ∀ x103 : Int32, x103 = x2 + 1 → Rn M_X3_pass 26 [(0, rV mo), (1, iV x1), (2, iV x103)] [] h102 k n (qI Q) E)) E) ∧ (¬ (gI h 1002 mo) ≤ x3 → vp_in x3 30 ∧ (∀ x105 : Int32, x105 = imin 5 (eI h (mo + 23) (ix x3)) → vp_in x3 30 ∧ (vp_in x3 30 ∧ (∀ h108 : Hp, h108 = sI h (mo + 23) (ix x3) ((eI h (mo + 23) (ix x3)) - x105) → ∀ h109 : Hp, h109 = pJ h108 1039 mo ((gJ h108 1039 mo) + (Int32.toInt64 x105)) → ∀ x110 : Int32, x110 = x3 + 1 → Rn M_X3_pass 63 [(0, rV mo), (1, iV x1), (2, iV x2), (3, iV x110)] [] h109 k n (qI Q) E))))) : Rn M_X3_pass 63 [(0, rV mo), (1, iV x1), (2, iV x2), (3, iV x3)] [] h k n (qI Q) E := by
  refine r_iload_n (q := 64) dX3_pass_63 rfl 3 rfl ?_
  refine r_aload_n (q := 65) dX3_pass_64 rfl 0 rfl ?_
  refine r_getI (q := 68) L_X3_202 dX3_pass_65 rfl (mw_k hm) ?_
  refine r_icmp_ge (tg := 112) (q := 71) dX3_pass_68 (by decide) rfl (fun c => ?_) (fun c => ?_)
  · have hw := hw.1 c
    refine r_aload_n (q := 113) dX3_pass_112 rfl 0 rfl ?_
    refine r_cVV0 (q := 116) _ [] N_X3_254 rfl dX3_pass_113 rfl rfl rfl (mw_k hm) rfl ?_
    refine r_monoCV (fun h101 hw => ?_) hw
    obtain ⟨hm, hw⟩ := hw
    refine r_aload_n (q := 117) dX3_pass_116 rfl 0 rfl ?_
    refine r_dup (q := 118) dX3_pass_117 rfl rfl ?_
    refine r_getI (q := 121) L_X3_212 dX3_pass_118 rfl (mw_k hm) ?_
    refine r_iconst (q := 122) dX3_pass_121 rfl kI_1 ?_
    refine r_iadd (q := 123) dX3_pass_122 rfl ?_
    refine r_putI (q := 126) L_X3_212 dX3_pass_123 rfl (mw_k hm) ?_
    refine r_mw_pI hm (fun hm => ?_)
    have hw := hw _ rfl
    have hw := hw _ rfl
    refine r_iincW (q := 129) (lv' := [(0, _), (1, _), (2, _), (3, _)]) dX3_pass_126 rfl 2 rfl kI_1 (Nat.le_of_ble_eq_true rfl) rfl ?_
    refine r_goto (tg := 26) dX3_pass_129 (by decide) ?_
    exact r_sub [0, 1, 2] rfl hw
  · have hw := hw.2 c
    refine r_iconst (q := 72) dX3_pass_71 rfl kI_5 ?_
    refine r_aload_n (q := 73) dX3_pass_72 rfl 0 rfl ?_
    refine r_getR (q := 76) L_X3_77 dX3_pass_73 rfl (mw_k hm) (mwr_has hm) ?_
    refine r_iload_n (q := 77) dX3_pass_76 rfl 3 rfl ?_
    obtain ⟨g104, hw⟩ := hw
    refine r_ialdL (q := 78) dX3_pass_77 rfl (mwk_has hm) (mwl_has hm) g104 ?_
    refine r_mmin (q := 81) q1682 dX3_pass_78 rfl rfl ?_
    have hw := hw _ rfl
    refine r_istore (q := 83) (lv' := [(0, _), (1, _), (2, _), (3, _), (4, _)]) dX3_pass_81 rfl (Nat.le_of_ble_eq_true rfl) rfl ?_
    refine r_aload_n (q := 84) dX3_pass_83 rfl 0 rfl ?_
    refine r_getR (q := 87) L_X3_77 dX3_pass_84 rfl (mw_k hm) (mwr_has hm) ?_
    refine r_iload_n (q := 88) dX3_pass_87 rfl 3 rfl ?_
    refine r_dup2 (q := 89) dX3_pass_88 rfl rfl rfl ?_
    obtain ⟨g106, hw⟩ := hw
    refine r_ialdL (q := 90) dX3_pass_89 rfl (mwk_has hm) (mwl_has hm) g106 ?_
    refine r_iload (q := 92) dX3_pass_90 rfl 4 rfl ?_
    refine r_isub (q := 93) dX3_pass_92 rfl ?_
    obtain ⟨g107, hw⟩ := hw
    refine r_iastL (q := 94) dX3_pass_93 rfl (mwk_has hm) (mwl_has hm) g107 ?_
    refine r_mw_sI hm (fun hm => ?_)
    have hw := hw _ rfl
    refine r_aload_n (q := 95) dX3_pass_94 rfl 0 rfl ?_
    refine r_dup (q := 96) dX3_pass_95 rfl rfl ?_
    refine r_getJ (q := 99) L_X3_251 dX3_pass_96 rfl (mw_k hm) ?_
    refine r_iload (q := 101) dX3_pass_99 rfl 4 rfl ?_
    refine r_i2l (q := 102) dX3_pass_101 rfl ?_
    refine r_ladd (q := 103) dX3_pass_102 rfl ?_
    refine r_putJ (q := 106) L_X3_251 dX3_pass_103 rfl (mw_k hm) ?_
    refine r_mw_pJ hm (fun hm => ?_)
    have hw := hw _ rfl
    have hw := hw _ rfl
    refine r_iincW (q := 109) (lv' := [(0, _), (1, _), (2, _), (3, _), (4, _)]) dX3_pass_106 rfl 3 rfl kI_1 (Nat.le_of_ble_eq_true rfl) rfl ?_
    refine r_goto (tg := 63) dX3_pass_109 (by decide) ?_
    exact r_sub [0, 1, 2, 3] rfl hw
