/-! walks -/
set_option maxRecDepth 100000
theorem b_X0_numberOn_0 {x1 : Int32} {xo : Nat} {h : Hp} {k n : Nat} {Q : Int32 → Hp → Prop} {E : Nat → Hp → Prop} (hm : XW h xo) (hw : Rn M_X0_numberOn 4 [(0, rV xo), (1, iV x1), (2, iV (-1)), (3, iV 0)] [] h k n (qI Q) E) : Rn M_X0_numberOn 0 [(0, rV xo), (1, iV x1)] [] h k n (qI Q) E := by
  refine r_iconst (q := 1) dX0_numberOn_0 rfl kI_m1 ?_
  refine r_istore_n (q := 2) (lv' := [(0, _), (1, _), (2, _)]) dX0_numberOn_1 rfl (Nat.le_of_ble_eq_true rfl) rfl ?_
  refine r_iconst (q := 3) dX0_numberOn_2 rfl kI_0 ?_
  refine r_istore_n (q := 4) (lv' := [(0, _), (1, _), (2, _), (3, _)]) dX0_numberOn_3 rfl (Nat.le_of_ble_eq_true rfl) rfl ?_
  exact hw
theorem b_X0_numberOn_4 {x1 x2 x3 : Int32} {xo : Nat} {h : Hp} {k n : Nat} {Q : Int32 → Hp → Prop} {E : Nat → Hp → Prop} (hm : XW h xo) (hw : ((gI h 1102 (xo + 4)) ≤ x3 → Q x2 h) ∧ (¬ (gI h 1102 (xo + 4)) ≤ x3 → (ALg h (xo + 4) x3) ∧ (kd h (el h (xo + 4) (ix x3)) = 5 ∧ ((x1 < (gI h 400 (el h (xo + 4) (ix x3))) → ∀ x103 : Int32, x103 = x3 + 1 → Rn M_X0_numberOn 4 [(0, rV xo), (1, iV x1), (2, iV x2), (3, iV x103)] [] h k n (qI Q) E) ∧ (¬ x1 < (gI h 400 (el h (xo + 4) (ix x3))) → ∀ x104 : Int32, x104 = x3 + 1 → Rn M_X0_numberOn 4 [(0, rV xo), (1, iV x1), (2, iV x3), (3, iV x104)] [] h k n (qI Q) E))))) : Rn M_X0_numberOn 4 [(0, rV xo), (1, iV x1), (2, iV x2), (3, iV x3)] [] h k n (qI Q) E := by
  refine r_iload_n (q := 5) dX0_numberOn_4 rfl 3 rfl ?_
  refine r_aload_n (q := 6) dX0_numberOn_5 rfl 0 rfl ?_
  refine r_getR (q := 9) L_X0_27 dX0_numberOn_6 rfl (xw_k hm) (xwr_rules hm) ?_
  refine r_cVI0 (q := 12) _ [] N_X0_77 rfl dX0_numberOn_9 rfl rfl rfl (xwk_rules hm) rfl ?_
  refine ct_J2_size (xwk_rules hm) ?_
  refine r_icmp_ge (tg := 41) (q := 15) dX0_numberOn_12 (by decide) rfl (fun c => ?_) (fun c => ?_)
  · have hw := hw.1 c
    refine r_iload_n (q := 42) dX0_numberOn_41 rfl 2 rfl ?_
    exact r_iret dX0_numberOn_42 rfl hw
  · have hw := hw.2 c
    refine r_aload_n (q := 16) dX0_numberOn_15 rfl 0 rfl ?_
    refine r_getR (q := 19) L_X0_27 dX0_numberOn_16 rfl (xw_k hm) (xwr_rules hm) ?_
    refine r_iload_n (q := 20) dX0_numberOn_19 rfl 3 rfl ?_
    obtain ⟨g101, hw⟩ := hw
    refine r_cVR0 (q := 23) _ [_] N_X0_81 rfl dX0_numberOn_20 rfl rfl rfl (xwk_rules hm) rfl ?_
    refine ct_J2_get (xwk_rules hm) g101 ?_
    obtain ⟨g102, hw⟩ := hw
    refine r_cast (q := 26) q124 rfl dX0_numberOn_23 rfl g102 ?_
    refine r_getI (q := 29) L_X0_165 dX0_numberOn_26 rfl g102 ?_
    refine r_iload_n (q := 30) dX0_numberOn_29 rfl 1 rfl ?_
    refine r_icmp_gt (tg := 35) (q := 33) dX0_numberOn_30 (by decide) rfl (fun c => ?_) (fun c => ?_)
    · have hw := hw.1 c
      have hw := hw _ rfl
      refine r_iincW (q := 38) (lv' := [(0, _), (1, _), (2, _), (3, _)]) dX0_numberOn_35 rfl 3 rfl kI_1 (Nat.le_of_ble_eq_true rfl) rfl ?_
      refine r_goto (tg := 4) dX0_numberOn_38 (by decide) ?_
      exact hw
    · have hw := hw.2 c
      refine r_iload_n (q := 34) dX0_numberOn_33 rfl 3 rfl ?_
      refine r_istore_n (q := 35) (lv' := [(0, _), (1, _), (2, _), (3, _)]) dX0_numberOn_34 rfl (Nat.le_of_ble_eq_true rfl) rfl ?_
      have hw := hw _ rfl
      refine r_iincW (q := 38) (lv' := [(0, _), (1, _), (2, _), (3, _)]) dX0_numberOn_35 rfl 3 rfl kI_1 (Nat.le_of_ble_eq_true rfl) rfl ?_
      refine r_goto (tg := 4) dX0_numberOn_38 (by decide) ?_
      exact hw
theorem b_X0_parking_0 {xo : Nat} {h : Hp} {k n : Nat} {Q : Int32 → Hp → Prop} {E : Nat → Hp → Prop} (hm : XW h xo) (hw : Rn M_X0_parking 4 [(0, rV xo), (1, iV 0), (2, iV 0)] [] h k n (qI Q) E) : Rn M_X0_parking 0 [(0, rV xo)] [] h k n (qI Q) E := by
  refine r_iconst (q := 1) dX0_parking_0 rfl kI_0 ?_
  refine r_istore_n (q := 2) (lv' := [(0, _), (1, _)]) dX0_parking_1 rfl (Nat.le_of_ble_eq_true rfl) rfl ?_
  refine r_iconst (q := 3) dX0_parking_2 rfl kI_0 ?_
  refine r_istore_n (q := 4) (lv' := [(0, _), (1, _), (2, _)]) dX0_parking_3 rfl (Nat.le_of_ble_eq_true rfl) rfl ?_
  exact hw
theorem b_X0_parking_4 {x1 x2 : Int32} {xo : Nat} {h : Hp} {k n : Nat} {Q : Int32 → Hp → Prop} {E : Nat → Hp → Prop} (hm : XW h xo) (hw : ((gI h 1102 (xo + 2)) ≤ x2 → Q x1 h) ∧ (¬ (gI h 1102 (xo + 2)) ≤ x2 → (ALg h (xo + 2) x2) ∧ (kd h (el h (xo + 2) (ix x2)) = 2 ∧ ((¬ (gR h 109 (el h (xo + 2) (ix x2))) = 0 → (ALg h (xo + 2) x2) ∧ (∀ x104 : Int32, x104 = x1 + (gI h 103 (el h (xo + 2) (ix x2))) → ∀ x105 : Int32, x105 = x2 + 1 → Rn M_X0_parking 4 [(0, rV xo), (1, iV x104), (2, iV x105)] [] h k n (qI Q) E)) ∧ ((gR h 109 (el h (xo + 2) (ix x2))) = 0 → ∀ x106 : Int32, x106 = x1 + 0 → ∀ x107 : Int32, x107 = x2 + 1 → Rn M_X0_parking 4 [(0, rV xo), (1, iV x106), (2, iV x107)] [] h k n (qI Q) E))))) : Rn M_X0_parking 4 [(0, rV xo), (1, iV x1), (2, iV x2)] [] h k n (qI Q) E := by
  refine r_iload_n (q := 5) dX0_parking_4 rfl 2 rfl ?_
  refine r_aload_n (q := 6) dX0_parking_5 rfl 0 rfl ?_
  refine r_getR (q := 9) L_X0_20 dX0_parking_6 rfl (xw_k hm) (xwr_corners hm) ?_
  refine r_cVI0 (q := 12) _ [] N_X0_77 rfl dX0_parking_9 rfl rfl rfl (xwk_corners hm) rfl ?_
  refine ct_J2_size (xwk_corners hm) ?_
  refine r_icmp_ge (tg := 59) (q := 15) dX0_parking_12 (by decide) rfl (fun c => ?_) (fun c => ?_)
  · have hw := hw.1 c
    refine r_iload_n (q := 60) dX0_parking_59 rfl 1 rfl ?_
    exact r_iret dX0_parking_60 rfl hw
  · have hw := hw.2 c
    refine r_iload_n (q := 16) dX0_parking_15 rfl 1 rfl ?_
    refine r_aload_n (q := 17) dX0_parking_16 rfl 0 rfl ?_
    refine r_getR (q := 20) L_X0_20 dX0_parking_17 rfl (xw_k hm) (xwr_corners hm) ?_
    refine r_iload_n (q := 21) dX0_parking_20 rfl 2 rfl ?_
    obtain ⟨g101, hw⟩ := hw
    refine r_cVR0 (q := 24) _ [_] N_X0_81 rfl dX0_parking_21 rfl rfl rfl (xwk_corners hm) rfl ?_
    refine ct_J2_get (xwk_corners hm) g101 ?_
    obtain ⟨g102, hw⟩ := hw
    refine r_cast (q := 27) q374 rfl dX0_parking_24 rfl g102 ?_
    refine r_getR (q := 30) L_X0_91 dX0_parking_27 rfl g102 rfl ?_
    refine r_ifnonnull (tg := 37) (q := 33) dX0_parking_30 (by decide) rfl (fun c => ?_) (fun c => ?_)
    · have hw := hw.1 c
      refine r_aload_n (q := 38) dX0_parking_37 rfl 0 rfl ?_
      refine r_getR (q := 41) L_X0_20 dX0_parking_38 rfl (xw_k hm) (xwr_corners hm) ?_
      refine r_iload_n (q := 42) dX0_parking_41 rfl 2 rfl ?_
      obtain ⟨g103, hw⟩ := hw
      refine r_cVR0 (q := 45) _ [_] N_X0_81 rfl dX0_parking_42 rfl rfl rfl (xwk_corners hm) rfl ?_
      refine ct_J2_get (xwk_corners hm) g103 ?_
      refine r_cast (q := 48) q374 rfl dX0_parking_45 rfl g102 ?_
      refine r_getI (q := 51) L_X0_114 dX0_parking_48 rfl g102 ?_
      refine r_iadd (q := 52) dX0_parking_51 rfl ?_
      have hw := hw _ rfl
      refine r_istore_n (q := 53) (lv' := [(0, _), (1, _), (2, _)]) dX0_parking_52 rfl (Nat.le_of_ble_eq_true rfl) rfl ?_
      have hw := hw _ rfl
      refine r_iincW (q := 56) (lv' := [(0, _), (1, _), (2, _)]) dX0_parking_53 rfl 2 rfl kI_1 (Nat.le_of_ble_eq_true rfl) rfl ?_
      refine r_goto (tg := 4) dX0_parking_56 (by decide) ?_
      exact hw
    · have hw := hw.2 c
      refine r_iconst (q := 34) dX0_parking_33 rfl kI_0 ?_
      refine r_goto (tg := 51) dX0_parking_34 (by decide) ?_
      refine r_iadd (q := 52) dX0_parking_51 rfl ?_
      have hw := hw _ rfl
      refine r_istore_n (q := 53) (lv' := [(0, _), (1, _), (2, _)]) dX0_parking_52 rfl (Nat.le_of_ble_eq_true rfl) rfl ?_
      have hw := hw _ rfl
      refine r_iincW (q := 56) (lv' := [(0, _), (1, _), (2, _)]) dX0_parking_53 rfl 2 rfl kI_1 (Nat.le_of_ble_eq_true rfl) rfl ?_
      refine r_goto (tg := 4) dX0_parking_56 (by decide) ?_
      exact hw
theorem b_X0_bedsThat_0 {x1 : Int32} {xo : Nat} {h : Hp} {k n : Nat} {Q : Int32 → Hp → Prop} {E : Nat → Hp → Prop} (hm : XW h xo) (hw : Rn M_X0_bedsThat 4 [(0, rV xo), (1, iV x1), (2, iV 0), (3, iV 0)] [] h k n (qI Q) E) : Rn M_X0_bedsThat 0 [(0, rV xo), (1, iV x1)] [] h k n (qI Q) E := by
  refine r_iconst (q := 1) dX0_bedsThat_0 rfl kI_0 ?_
  refine r_istore_n (q := 2) (lv' := [(0, _), (1, _), (2, _)]) dX0_bedsThat_1 rfl (Nat.le_of_ble_eq_true rfl) rfl ?_
  refine r_iconst (q := 3) dX0_bedsThat_2 rfl kI_0 ?_
  refine r_istore_n (q := 4) (lv' := [(0, _), (1, _), (2, _), (3, _)]) dX0_bedsThat_3 rfl (Nat.le_of_ble_eq_true rfl) rfl ?_
  exact hw
theorem b_X0_bedsThat_4 {x1 x2 x3 : Int32} {xo : Nat} {h : Hp} {k n : Nat} {Q : Int32 → Hp → Prop} {E : Nat → Hp → Prop} (hm : XW h xo) (hw : ((gI h 1102 (xo + 2)) ≤ x3 → Q x2 h) ∧ (¬ (gI h 1102 (xo + 2)) ≤ x3 → (ALg h (xo + 2) x3) ∧ (kd h (el h (xo + 2) (ix x3)) = 2 ∧ (((gR h 109 (el h (xo + 2) (ix x3))) = 0 → ∀ x103 : Int32, x103 = x2 + 0 → ∀ x104 : Int32, x104 = x3 + 1 → Rn M_X0_bedsThat 4 [(0, rV xo), (1, iV x1), (2, iV x103), (3, iV x104)] [] h k n (qI Q) E) ∧ (¬ (gR h 109 (el h (xo + 2) (ix x3))) = 0 → (x1 = 0 → ∀ x105 : Int32, x105 = x2 + 1 → ∀ x106 : Int32, x106 = x3 + 1 → Rn M_X0_bedsThat 4 [(0, rV xo), (1, iV x1), (2, iV x105), (3, iV x106)] [] h k n (qI Q) E) ∧ (¬ x1 = 0 → (ALg h (xo + 2) x3) ∧ (kd h (gR h 109 (el h (xo + 2) (ix x3))) = 4 ∧ ((¬ (gI h 312 (gR h 109 (el h (xo + 2) (ix x3)))) = 0 → ∀ x109 : Int32, x109 = x2 + 0 → ∀ x110 : Int32, x110 = x3 + 1 → Rn M_X0_bedsThat 4 [(0, rV xo), (1, iV x1), (2, iV x109), (3, iV x110)] [] h k n (qI Q) E) ∧ ((gI h 312 (gR h 109 (el h (xo + 2) (ix x3)))) = 0 → ∀ x111 : Int32, x111 = x2 + 1 → ∀ x112 : Int32, x112 = x3 + 1 → Rn M_X0_bedsThat 4 [(0, rV xo), (1, iV x1), (2, iV x111), (3, iV x112)] [] h k n (qI Q) E))))))))) : Rn M_X0_bedsThat 4 [(0, rV xo), (1, iV x1), (2, iV x2), (3, iV x3)] [] h k n (qI Q) E := by
  refine r_iload_n (q := 5) dX0_bedsThat_4 rfl 3 rfl ?_
  refine r_aload_n (q := 6) dX0_bedsThat_5 rfl 0 rfl ?_
  refine r_getR (q := 9) L_X0_20 dX0_bedsThat_6 rfl (xw_k hm) (xwr_corners hm) ?_
  refine r_cVI0 (q := 12) _ [] N_X0_77 rfl dX0_bedsThat_9 rfl rfl rfl (xwk_corners hm) rfl ?_
  refine ct_J2_size (xwk_corners hm) ?_
  refine r_icmp_ge (tg := 70) (q := 15) dX0_bedsThat_12 (by decide) rfl (fun c => ?_) (fun c => ?_)
  · have hw := hw.1 c
    refine r_iload_n (q := 71) dX0_bedsThat_70 rfl 2 rfl ?_
    exact r_iret dX0_bedsThat_71 rfl hw
  · have hw := hw.2 c
    refine r_iload_n (q := 16) dX0_bedsThat_15 rfl 2 rfl ?_
    refine r_aload_n (q := 17) dX0_bedsThat_16 rfl 0 rfl ?_
    refine r_getR (q := 20) L_X0_20 dX0_bedsThat_17 rfl (xw_k hm) (xwr_corners hm) ?_
    refine r_iload_n (q := 21) dX0_bedsThat_20 rfl 3 rfl ?_
    obtain ⟨g101, hw⟩ := hw
    refine r_cVR0 (q := 24) _ [_] N_X0_81 rfl dX0_bedsThat_21 rfl rfl rfl (xwk_corners hm) rfl ?_
    refine ct_J2_get (xwk_corners hm) g101 ?_
    obtain ⟨g102, hw⟩ := hw
    refine r_cast (q := 27) q374 rfl dX0_bedsThat_24 rfl g102 ?_
    refine r_getR (q := 30) L_X0_91 dX0_bedsThat_27 rfl g102 rfl ?_
    refine r_ifnull (tg := 61) (q := 33) dX0_bedsThat_30 (by decide) rfl (fun c => ?_) (fun c => ?_)
    · have hw := hw.1 c
      refine r_iconst (q := 62) dX0_bedsThat_61 rfl kI_0 ?_
      refine r_iadd (q := 63) dX0_bedsThat_62 rfl ?_
      have hw := hw _ rfl
      refine r_istore_n (q := 64) (lv' := [(0, _), (1, _), (2, _), (3, _)]) dX0_bedsThat_63 rfl (Nat.le_of_ble_eq_true rfl) rfl ?_
      have hw := hw _ rfl
      refine r_iincW (q := 67) (lv' := [(0, _), (1, _), (2, _), (3, _)]) dX0_bedsThat_64 rfl 3 rfl kI_1 (Nat.le_of_ble_eq_true rfl) rfl ?_
      refine r_goto (tg := 4) dX0_bedsThat_67 (by decide) ?_
      exact hw
    · have hw := hw.2 c
      refine r_iload_n (q := 34) dX0_bedsThat_33 rfl 1 rfl ?_
      refine r_if_eq (tg := 57) (q := 37) dX0_bedsThat_34 (by decide) rfl (fun c => ?_) (fun c => ?_)
      · have hw := hw.1 c
        refine r_iconst (q := 58) dX0_bedsThat_57 rfl kI_1 ?_
        refine r_goto (tg := 62) dX0_bedsThat_58 (by decide) ?_
        refine r_iadd (q := 63) dX0_bedsThat_62 rfl ?_
        have hw := hw _ rfl
        refine r_istore_n (q := 64) (lv' := [(0, _), (1, _), (2, _), (3, _)]) dX0_bedsThat_63 rfl (Nat.le_of_ble_eq_true rfl) rfl ?_
        have hw := hw _ rfl
        refine r_iincW (q := 67) (lv' := [(0, _), (1, _), (2, _), (3, _)]) dX0_bedsThat_64 rfl 3 rfl kI_1 (Nat.le_of_ble_eq_true rfl) rfl ?_
        refine r_goto (tg := 4) dX0_bedsThat_67 (by decide) ?_
        exact hw
      · have hw := hw.2 c
        refine r_aload_n (q := 38) dX0_bedsThat_37 rfl 0 rfl ?_
        refine r_getR (q := 41) L_X0_20 dX0_bedsThat_38 rfl (xw_k hm) (xwr_corners hm) ?_
        refine r_iload_n (q := 42) dX0_bedsThat_41 rfl 3 rfl ?_
        obtain ⟨g107, hw⟩ := hw
        refine r_cVR0 (q := 45) _ [_] N_X0_81 rfl dX0_bedsThat_42 rfl rfl rfl (xwk_corners hm) rfl ?_
        refine ct_J2_get (xwk_corners hm) g107 ?_
        refine r_cast (q := 48) q374 rfl dX0_bedsThat_45 rfl g102 ?_
        refine r_getR (q := 51) L_X0_91 dX0_bedsThat_48 rfl g102 rfl ?_
        obtain ⟨g108, hw⟩ := hw
        refine r_getI (q := 54) L_X0_155 dX0_bedsThat_51 rfl g108 ?_
        refine r_if_ne (tg := 61) (q := 57) dX0_bedsThat_54 (by decide) rfl (fun c => ?_) (fun c => ?_)
        · have hw := hw.1 c
          refine r_iconst (q := 62) dX0_bedsThat_61 rfl kI_0 ?_
          refine r_iadd (q := 63) dX0_bedsThat_62 rfl ?_
          have hw := hw _ rfl
          refine r_istore_n (q := 64) (lv' := [(0, _), (1, _), (2, _), (3, _)]) dX0_bedsThat_63 rfl (Nat.le_of_ble_eq_true rfl) rfl ?_
          have hw := hw _ rfl
          refine r_iincW (q := 67) (lv' := [(0, _), (1, _), (2, _), (3, _)]) dX0_bedsThat_64 rfl 3 rfl kI_1 (Nat.le_of_ble_eq_true rfl) rfl ?_
          refine r_goto (tg := 4) dX0_bedsThat_67 (by decide) ?_
          exact hw
        · have hw := hw.2 c
          refine r_iconst (q := 58) dX0_bedsThat_57 rfl kI_1 ?_
          refine r_goto (tg := 62) dX0_bedsThat_58 (by decide) ?_
          refine r_iadd (q := 63) dX0_bedsThat_62 rfl ?_
          have hw := hw _ rfl
          refine r_istore_n (q := 64) (lv' := [(0, _), (1, _), (2, _), (3, _)]) dX0_bedsThat_63 rfl (Nat.le_of_ble_eq_true rfl) rfl ?_
          have hw := hw _ rfl
          refine r_iincW (q := 67) (lv' := [(0, _), (1, _), (2, _), (3, _)]) dX0_bedsThat_64 rfl 3 rfl kI_1 (Nat.le_of_ble_eq_true rfl) rfl ?_
          refine r_goto (tg := 4) dX0_bedsThat_67 (by decide) ?_
          exact hw
theorem b_X0_open_0 {xo : Nat} {h : Hp} {k n : Nat} {Q : Int32 → Hp → Prop} {E : Nat → Hp → Prop} (hm : XW h xo) (hw : Rn M_X0_open 4 [(0, rV xo), (1, iV 0), (2, iV 0)] [] h k n (qI Q) E) : Rn M_X0_open 0 [(0, rV xo)] [] h k n (qI Q) E := by
  refine r_iconst (q := 1) dX0_open_0 rfl kI_0 ?_
  refine r_istore_n (q := 2) (lv' := [(0, _), (1, _)]) dX0_open_1 rfl (Nat.le_of_ble_eq_true rfl) rfl ?_
  refine r_iconst (q := 3) dX0_open_2 rfl kI_0 ?_
  refine r_istore_n (q := 4) (lv' := [(0, _), (1, _), (2, _)]) dX0_open_3 rfl (Nat.le_of_ble_eq_true rfl) rfl ?_
  exact hw
theorem b_X0_open_4 {x1 x2 : Int32} {xo : Nat} {h : Hp} {k n : Nat} {Q : Int32 → Hp → Prop} {E : Nat → Hp → Prop} (hm : XW h xo) (hw : ((gI h 1102 (xo + 22)) ≤ x2 → Q x1 h) ∧ (¬ (gI h 1102 (xo + 22)) ≤ x2 → (ALg h (xo + 22) x2) ∧ (kd h (el h (xo + 22) (ix x2)) = 9 ∧ (((gI h 806 (el h (xo + 22) (ix x2))) = 0 → ∀ x103 : Int32, x103 = x1 + 0 → ∀ x104 : Int32, x104 = x2 + 1 → Rn M_X0_open 4 [(0, rV xo), (1, iV x103), (2, iV x104)] [] h k n (qI Q) E) ∧ (¬ (gI h 806 (el h (xo + 22) (ix x2))) = 0 → ∀ x105 : Int32, x105 = x1 + 1 → ∀ x106 : Int32, x106 = x2 + 1 → Rn M_X0_open 4 [(0, rV xo), (1, iV x105), (2, iV x106)] [] h k n (qI Q) E))))) : Rn M_X0_open 4 [(0, rV xo), (1, iV x1), (2, iV x2)] [] h k n (qI Q) E := by
  refine r_iload_n (q := 5) dX0_open_4 rfl 2 rfl ?_
  refine r_aload_n (q := 6) dX0_open_5 rfl 0 rfl ?_
  refine r_getR (q := 9) L_X0_74 dX0_open_6 rfl (xw_k hm) (xwr_complaints hm) ?_
  refine r_cVI0 (q := 12) _ [] N_X0_77 rfl dX0_open_9 rfl rfl rfl (xwk_complaints hm) rfl ?_
  refine ct_J2_size (xwk_complaints hm) ?_
  refine r_icmp_ge (tg := 46) (q := 15) dX0_open_12 (by decide) rfl (fun c => ?_) (fun c => ?_)
  · have hw := hw.1 c
    refine r_iload_n (q := 47) dX0_open_46 rfl 1 rfl ?_
    exact r_iret dX0_open_47 rfl hw
  · have hw := hw.2 c
    refine r_iload_n (q := 16) dX0_open_15 rfl 1 rfl ?_
    refine r_aload_n (q := 17) dX0_open_16 rfl 0 rfl ?_
    refine r_getR (q := 20) L_X0_74 dX0_open_17 rfl (xw_k hm) (xwr_complaints hm) ?_
    refine r_iload_n (q := 21) dX0_open_20 rfl 2 rfl ?_
    obtain ⟨g101, hw⟩ := hw
    refine r_cVR0 (q := 24) _ [_] N_X0_81 rfl dX0_open_21 rfl rfl rfl (xwk_complaints hm) rfl ?_
    refine ct_J2_get (xwk_complaints hm) g101 ?_
    obtain ⟨g102, hw⟩ := hw
    refine r_cast (q := 27) q1124 rfl dX0_open_24 rfl g102 ?_
    refine r_getI (q := 30) L_X0_510 dX0_open_27 rfl g102 ?_
    refine r_if_eq (tg := 37) (q := 33) dX0_open_30 (by decide) rfl (fun c => ?_) (fun c => ?_)
    · have hw := hw.1 c
      refine r_iconst (q := 38) dX0_open_37 rfl kI_0 ?_
      refine r_iadd (q := 39) dX0_open_38 rfl ?_
      have hw := hw _ rfl
      refine r_istore_n (q := 40) (lv' := [(0, _), (1, _), (2, _)]) dX0_open_39 rfl (Nat.le_of_ble_eq_true rfl) rfl ?_
      have hw := hw _ rfl
      refine r_iincW (q := 43) (lv' := [(0, _), (1, _), (2, _)]) dX0_open_40 rfl 2 rfl kI_1 (Nat.le_of_ble_eq_true rfl) rfl ?_
      refine r_goto (tg := 4) dX0_open_43 (by decide) ?_
      exact hw
    · have hw := hw.2 c
      refine r_iconst (q := 34) dX0_open_33 rfl kI_1 ?_
      refine r_goto (tg := 38) dX0_open_34 (by decide) ?_
      refine r_iadd (q := 39) dX0_open_38 rfl ?_
      have hw := hw _ rfl
      refine r_istore_n (q := 40) (lv' := [(0, _), (1, _), (2, _)]) dX0_open_39 rfl (Nat.le_of_ble_eq_true rfl) rfl ?_
      have hw := hw _ rfl
      refine r_iincW (q := 43) (lv' := [(0, _), (1, _), (2, _)]) dX0_open_40 rfl 2 rfl kI_1 (Nat.le_of_ble_eq_true rfl) rfl ?_
      refine r_goto (tg := 4) dX0_open_43 (by decide) ?_
      exact hw
theorem b_X3_parked_0 {x1 : Int32} {mo : Nat} {h : Hp} {k n : Nat} {Q : Int32 → Hp → Prop} {E : Nat → Hp → Prop} (hm : MW h mo) (hw : Rn M_X3_parked 4 [(0, rV mo), (1, iV x1), (2, iV 0), (3, iV 0)] [] h k n (qI Q) E) : Rn M_X3_parked 0 [(0, rV mo), (1, iV x1)] [] h k n (qI Q) E := by
  refine r_iconst (q := 1) dX3_parked_0 rfl kI_0 ?_
  refine r_istore_n (q := 2) (lv' := [(0, _), (1, _), (2, _)]) dX3_parked_1 rfl (Nat.le_of_ble_eq_true rfl) rfl ?_
  refine r_iconst (q := 3) dX3_parked_2 rfl kI_0 ?_
  refine r_istore_n (q := 4) (lv' := [(0, _), (1, _), (2, _), (3, _)]) dX3_parked_3 rfl (Nat.le_of_ble_eq_true rfl) rfl ?_
  exact hw
theorem b_X3_parked_4 {x1 x2 x3 : Int32} {mo : Nat} {h : Hp} {k n : Nat} {Q : Int32 → Hp → Prop} {E : Nat → Hp → Prop} (hm : MW h mo) (hw : ((gI h 1001 mo) ≤ x3 → Q x2 h) ∧ (¬ (gI h 1001 mo) ≤ x3 → vp_in x3 12 ∧ ((¬ (eI h (mo + 6) (ix x3)) = 0 → Rn M_X3_parked 31 [(0, rV mo), (1, iV x1), (3, iV x3)] [iV x2] h k n (qI Q) E) ∧ ((eI h (mo + 6) (ix x3)) = 0 → (¬ ((shr x1 x3) &&& 1) = 1 → ∀ x102 : Int32, x102 = x2 + 0 → ∀ x103 : Int32, x103 = x3 + 1 → Rn M_X3_parked 4 [(0, rV mo), (1, iV x1), (2, iV x102), (3, iV x103)] [] h k n (qI Q) E) ∧ (((shr x1 x3) &&& 1) = 1 → Rn M_X3_parked 31 [(0, rV mo), (1, iV x1), (3, iV x3)] [iV x2] h k n (qI Q) E))))) : Rn M_X3_parked 4 [(0, rV mo), (1, iV x1), (2, iV x2), (3, iV x3)] [] h k n (qI Q) E := by
  refine r_iload_n (q := 5) dX3_parked_4 rfl 3 rfl ?_
  refine r_aload_n (q := 6) dX3_parked_5 rfl 0 rfl ?_
  refine r_getI (q := 9) L_X3_191 dX3_parked_6 rfl (mw_k hm) ?_
  refine r_icmp_ge (tg := 49) (q := 12) dX3_parked_9 (by decide) rfl (fun c => ?_) (fun c => ?_)
  · have hw := hw.1 c
    refine r_iload_n (q := 50) dX3_parked_49 rfl 2 rfl ?_
    exact r_iret dX3_parked_50 rfl hw
  · have hw := hw.2 c
    refine r_iload_n (q := 13) dX3_parked_12 rfl 2 rfl ?_
    refine r_aload_n (q := 14) dX3_parked_13 rfl 0 rfl ?_
    refine r_getR (q := 17) L_X3_25 dX3_parked_14 rfl (mw_k hm) (mwr_hasBed hm) ?_
    refine r_iload_n (q := 18) dX3_parked_17 rfl 3 rfl ?_
    obtain ⟨g101, hw⟩ := hw
    refine r_zaldL (q := 19) dX3_parked_18 rfl (mwk_hasBed hm) (mwl_hasBed hm) g101 ?_
    refine r_if_ne (tg := 31) (q := 22) dX3_parked_19 (by decide) rfl (fun c => ?_) (fun c => ?_)
    · have hw := hw.1 c
      exact r_sub [0, 1, 3] rfl hw
    · have hw := hw.2 c
      refine r_iload_n (q := 23) dX3_parked_22 rfl 1 rfl ?_
      refine r_iload_n (q := 24) dX3_parked_23 rfl 3 rfl ?_
      refine r_ishr (q := 25) dX3_parked_24 rfl ?_
      refine r_iconst (q := 26) dX3_parked_25 rfl kI_1 ?_
      refine r_iand (q := 27) dX3_parked_26 rfl ?_
      refine r_iconst (q := 28) dX3_parked_27 rfl kI_1 ?_
      refine r_icmp_ne (tg := 40) (q := 31) dX3_parked_28 (by decide) rfl (fun c => ?_) (fun c => ?_)
      · have hw := hw.1 c
        refine r_iconst (q := 41) dX3_parked_40 rfl kI_0 ?_
        refine r_iadd (q := 42) dX3_parked_41 rfl ?_
        have hw := hw _ rfl
        refine r_istore_n (q := 43) (lv' := [(0, _), (1, _), (2, _), (3, _)]) dX3_parked_42 rfl (Nat.le_of_ble_eq_true rfl) rfl ?_
        have hw := hw _ rfl
        refine r_iincW (q := 46) (lv' := [(0, _), (1, _), (2, _), (3, _)]) dX3_parked_43 rfl 3 rfl kI_1 (Nat.le_of_ble_eq_true rfl) rfl ?_
        refine r_goto (tg := 4) dX3_parked_46 (by decide) ?_
        exact hw
      · have hw := hw.2 c
        exact r_sub [0, 1, 3] rfl hw
theorem b_X3_parked_31 {x1 x3 a0 : Int32} {mo : Nat} {h : Hp} {k n : Nat} {Q : Int32 → Hp → Prop} {E : Nat → Hp → Prop} (hm : MW h mo) (hw : vp_in x3 12 ∧ (∀ x102 : Int32, x102 = a0 + (eI h (mo + 3) (ix x3)) → ∀ x103 : Int32, x103 = x3 + 1 → Rn M_X3_parked 4 [(0, rV mo), (1, iV x1), (2, iV x102), (3, iV x103)] [] h k n (qI Q) E)) : Rn M_X3_parked 31 [(0, rV mo), (1, iV x1), (3, iV x3)] [iV a0] h k n (qI Q) E := by
  refine r_aload_n (q := 32) dX3_parked_31 rfl 0 rfl ?_
  refine r_getR (q := 35) L_X3_16 dX3_parked_32 rfl (mw_k hm) (mwr_parking hm) ?_
  refine r_iload_n (q := 36) dX3_parked_35 rfl 2 rfl ?_
  obtain ⟨g101, hw⟩ := hw
  refine r_ialdL (q := 37) dX3_parked_36 rfl (mwk_parking hm) (mwl_parking hm) g101 ?_
  refine r_goto (tg := 41) dX3_parked_37 (by decide) ?_
  refine r_iadd (q := 42) dX3_parked_41 rfl ?_
  have hw := hw _ rfl
  refine r_istore_n (q := 43) (lv' := [(0, _), (1, _), (2, _), (3, _)]) dX3_parked_42 rfl (Nat.le_of_ble_eq_true rfl) rfl ?_
  have hw := hw _ rfl
  refine r_iincW (q := 46) (lv' := [(0, _), (1, _), (2, _), (3, _)]) dX3_parked_43 rfl 3 rfl kI_1 (Nat.le_of_ble_eq_true rfl) rfl ?_
  refine r_goto (tg := 4) dX3_parked_46 (by decide) ?_
  exact hw
theorem b_X0_neighbour_0 {x1 x2 : Int32} {xo : Nat} {h : Hp} {k n : Nat} {Q : Int32 → Hp → Prop} {E : Nat → Hp → Prop} (hm : XW h xo) (hw : ((isin x1 0 9) = true → Rn M_X0_neighbour 17 [(0, rV xo), (1, iV x1), (2, iV x2), (3, iV 0), (4, iV 0)] [] h k n (qI Q) E) ∧ ((isin x1 0 9) = false → Q (-1) h)) : Rn M_X0_neighbour 0 [(0, rV xo), (1, iV x1), (2, iV x2)] [] h k n (qI Q) E := by
  refine r_iload_n (q := 1) dX0_neighbour_0 rfl 1 rfl ?_
  refine r_iconst (q := 2) dX0_neighbour_1 rfl kI_0 ?_
  refine r_bipush (q := 4) dX0_neighbour_2 rfl kB_9 ?_
  refine r_cSI0 (q := 7) [_, _, _] N_X0_3 dX0_neighbour_4 rfl rfl rfl rfl ?_
  refine ct_X0_isIn  ?_
  refine r_ifb_ne (tg := 12) (q := 10) dX0_neighbour_7 (by decide) rfl (fun c => ?_) (fun c => ?_)
  · have hw := hw.1 c
    refine r_iconst (q := 13) dX0_neighbour_12 rfl kI_0 ?_
    refine r_istore_n (q := 14) (lv' := [(0, _), (1, _), (2, _), (3, _)]) dX0_neighbour_13 rfl (Nat.le_of_ble_eq_true rfl) rfl ?_
    refine r_iconst (q := 15) dX0_neighbour_14 rfl kI_0 ?_
    refine r_istore (q := 17) (lv' := [(0, _), (1, _), (2, _), (3, _), (4, _)]) dX0_neighbour_15 rfl (Nat.le_of_ble_eq_true rfl) rfl ?_
    exact hw
  · have hw := hw.2 c
    refine r_iconst (q := 11) dX0_neighbour_10 rfl kI_m1 ?_
    exact r_iret dX0_neighbour_11 rfl hw
theorem b_X0_neighbour_17 {x1 x2 x3 x4 : Int32} {xo : Nat} {h : Hp} {k n : Nat} {Q : Int32 → Hp → Prop} {E : Nat → Hp → Prop} (hm : XW h xo) (hw : (10 ≤ x4 → (¬ x2 = 0 → (¬ x2 = 1 → Q (-1) h) ∧ (x2 = 1 → Q x3 h)) ∧ (x2 = 0 → vp_in x1 10 ∧ (Q (eI h (xo + 10) (ix x1)) h))) ∧ (¬ 10 ≤ x4 → vp_in ((10 * x1) + x4) 100 ∧ (∀ x103 : Int32, x103 = x3 + (eI h (xo + 11) (ix ((10 * x1) + x4))) → ∀ x104 : Int32, x104 = x4 + 1 → Rn M_X0_neighbour 17 [(0, rV xo), (1, iV x1), (2, iV x2), (3, iV x103), (4, iV x104)] [] h k n (qI Q) E))) : Rn M_X0_neighbour 17 [(0, rV xo), (1, iV x1), (2, iV x2), (3, iV x3), (4, iV x4)] [] h k n (qI Q) E := by
  refine r_iload (q := 19) dX0_neighbour_17 rfl 4 rfl ?_
  refine r_bipush (q := 21) dX0_neighbour_19 rfl kB_10 ?_
  refine r_icmp_ge (tg := 45) (q := 24) dX0_neighbour_21 (by decide) rfl (fun c => ?_) (fun c => ?_)
  · have hw := hw.1 c
    refine r_iload_n (q := 46) dX0_neighbour_45 rfl 2 rfl ?_
    refine r_if_ne (tg := 58) (q := 49) dX0_neighbour_46 (by decide) rfl (fun c => ?_) (fun c => ?_)
    · have hw := hw.1 c
      refine r_iload_n (q := 59) dX0_neighbour_58 rfl 2 rfl ?_
      refine r_iconst (q := 60) dX0_neighbour_59 rfl kI_1 ?_
      refine r_icmp_ne (tg := 67) (q := 63) dX0_neighbour_60 (by decide) rfl (fun c => ?_) (fun c => ?_)
      · have hw := hw.1 c
        refine r_iconst (q := 68) dX0_neighbour_67 rfl kI_m1 ?_
        exact r_iret dX0_neighbour_68 rfl hw
      · have hw := hw.2 c
        refine r_iload_n (q := 64) dX0_neighbour_63 rfl 3 rfl ?_
        refine r_goto (tg := 68) dX0_neighbour_64 (by decide) ?_
        exact r_iret dX0_neighbour_68 rfl hw
    · have hw := hw.2 c
      refine r_aload_n (q := 50) dX0_neighbour_49 rfl 0 rfl ?_
      refine r_getR (q := 53) L_X0_53 dX0_neighbour_50 rfl (xw_k hm) (xwr_owed hm) ?_
      refine r_iload_n (q := 54) dX0_neighbour_53 rfl 1 rfl ?_
      obtain ⟨g101, hw⟩ := hw
      refine r_ialdL (q := 55) dX0_neighbour_54 rfl (xwk_owed hm) (xwl_owed hm) g101 ?_
      refine r_goto (tg := 68) dX0_neighbour_55 (by decide) ?_
      exact r_iret dX0_neighbour_68 rfl hw
  · have hw := hw.2 c
    refine r_iload_n (q := 25) dX0_neighbour_24 rfl 3 rfl ?_
    refine r_aload_n (q := 26) dX0_neighbour_25 rfl 0 rfl ?_
    refine r_getR (q := 29) L_X0_56 dX0_neighbour_26 rfl (xw_k hm) (xwr_kept hm) ?_
    refine r_bipush (q := 31) dX0_neighbour_29 rfl kB_10 ?_
    refine r_iload_n (q := 32) dX0_neighbour_31 rfl 1 rfl ?_
    refine r_imul (q := 33) dX0_neighbour_32 rfl ?_
    refine r_iload (q := 35) dX0_neighbour_33 rfl 4 rfl ?_
    refine r_iadd (q := 36) dX0_neighbour_35 rfl ?_
    obtain ⟨g102, hw⟩ := hw
    refine r_ialdL (q := 37) dX0_neighbour_36 rfl (xwk_kept hm) (xwl_kept hm) g102 ?_
    refine r_iadd (q := 38) dX0_neighbour_37 rfl ?_
    have hw := hw _ rfl
    refine r_istore_n (q := 39) (lv' := [(0, _), (1, _), (2, _), (3, _), (4, _)]) dX0_neighbour_38 rfl (Nat.le_of_ble_eq_true rfl) rfl ?_
    have hw := hw _ rfl
    refine r_iincW (q := 42) (lv' := [(0, _), (1, _), (2, _), (3, _), (4, _)]) dX0_neighbour_39 rfl 4 rfl kI_1 (Nat.le_of_ble_eq_true rfl) rfl ?_
    refine r_goto (tg := 17) dX0_neighbour_42 (by decide) ?_
    exact hw
theorem b_X3_neighbour_0 {x1 x2 : Int32} {mo : Nat} {h : Hp} {k n : Nat} {Q : Int32 → Hp → Prop} {E : Nat → Hp → Prop} (hm : MW h mo) (hw : ((isin x1 0 9) = false → Q (-1) h) ∧ ((isin x1 0 9) = true → ((isin x2 0 1) = true → Rn M_X3_neighbour 26 [(0, rV mo), (1, iV x1), (2, iV x2), (3, iV 0), (4, iV 0)] [] h k n (qI Q) E) ∧ ((isin x2 0 1) = false → Q (-1) h))) : Rn M_X3_neighbour 0 [(0, rV mo), (1, iV x1), (2, iV x2)] [] h k n (qI Q) E := by
  refine r_iload_n (q := 1) dX3_neighbour_0 rfl 1 rfl ?_
  refine r_iconst (q := 2) dX3_neighbour_1 rfl kI_0 ?_
  refine r_bipush (q := 4) dX3_neighbour_2 rfl kB_9 ?_
  refine r_cSI0 (q := 7) [_, _, _] N_X3_194 dX3_neighbour_4 rfl rfl rfl rfl ?_
  refine ct_X3_isIn  ?_
  refine r_ifb_eq (tg := 19) (q := 10) dX3_neighbour_7 (by decide) rfl (fun c => ?_) (fun c => ?_)
  · have hw := hw.1 c
    refine r_iconst (q := 20) dX3_neighbour_19 rfl kI_m1 ?_
    exact r_iret dX3_neighbour_20 rfl hw
  · have hw := hw.2 c
    refine r_iload_n (q := 11) dX3_neighbour_10 rfl 2 rfl ?_
    refine r_iconst (q := 12) dX3_neighbour_11 rfl kI_0 ?_
    refine r_iconst (q := 13) dX3_neighbour_12 rfl kI_1 ?_
    refine r_cSI0 (q := 16) [_, _, _] N_X3_194 dX3_neighbour_13 rfl rfl rfl rfl ?_
    refine ct_X3_isIn  ?_
    refine r_ifb_ne (tg := 21) (q := 19) dX3_neighbour_16 (by decide) rfl (fun c => ?_) (fun c => ?_)
    · have hw := hw.1 c
      refine r_iconst (q := 22) dX3_neighbour_21 rfl kI_0 ?_
      refine r_istore_n (q := 23) (lv' := [(0, _), (1, _), (2, _), (3, _)]) dX3_neighbour_22 rfl (Nat.le_of_ble_eq_true rfl) rfl ?_
      refine r_iconst (q := 24) dX3_neighbour_23 rfl kI_0 ?_
      refine r_istore (q := 26) (lv' := [(0, _), (1, _), (2, _), (3, _), (4, _)]) dX3_neighbour_24 rfl (Nat.le_of_ble_eq_true rfl) rfl ?_
      exact hw
    · have hw := hw.2 c
      refine r_iconst (q := 20) dX3_neighbour_19 rfl kI_m1 ?_
      exact r_iret dX3_neighbour_20 rfl hw
theorem b_X3_neighbour_26 {x1 x2 x3 x4 : Int32} {mo : Nat} {h : Hp} {k n : Nat} {Q : Int32 → Hp → Prop} {E : Nat → Hp → Prop} (hm : MW h mo) (hw : (10 ≤ x4 → (¬ x2 = 0 → Q x3 h) ∧ (x2 = 0 → vp_in x1 10 ∧ (Q (eI h (mo + 27) (ix x1)) h))) ∧ (¬ 10 ≤ x4 → vp_in ((10 * x4) + x1) 100 ∧ (∀ x103 : Int32, x103 = x3 + (eI h (mo + 28) (ix ((10 * x4) + x1))) → ∀ x104 : Int32, x104 = x4 + 1 → Rn M_X3_neighbour 26 [(0, rV mo), (1, iV x1), (2, iV x2), (3, iV x103), (4, iV x104)] [] h k n (qI Q) E))) : Rn M_X3_neighbour 26 [(0, rV mo), (1, iV x1), (2, iV x2), (3, iV x3), (4, iV x4)] [] h k n (qI Q) E := by
  refine r_iload (q := 28) dX3_neighbour_26 rfl 4 rfl ?_
  refine r_bipush (q := 30) dX3_neighbour_28 rfl kB_10 ?_
  refine r_icmp_ge (tg := 54) (q := 33) dX3_neighbour_30 (by decide) rfl (fun c => ?_) (fun c => ?_)
  · have hw := hw.1 c
    refine r_iload_n (q := 55) dX3_neighbour_54 rfl 2 rfl ?_
    refine r_if_ne (tg := 67) (q := 58) dX3_neighbour_55 (by decide) rfl (fun c => ?_) (fun c => ?_)
    · have hw := hw.1 c
      refine r_iload_n (q := 68) dX3_neighbour_67 rfl 3 rfl ?_
      exact r_iret dX3_neighbour_68 rfl hw
    · have hw := hw.2 c
      refine r_aload_n (q := 59) dX3_neighbour_58 rfl 0 rfl ?_
      refine r_getR (q := 62) L_X3_89 dX3_neighbour_59 rfl (mw_k hm) (mwr_owes hm) ?_
      refine r_iload_n (q := 63) dX3_neighbour_62 rfl 1 rfl ?_
      obtain ⟨g101, hw⟩ := hw
      refine r_ialdL (q := 64) dX3_neighbour_63 rfl (mwk_owes hm) (mwl_owes hm) g101 ?_
      refine r_goto (tg := 68) dX3_neighbour_64 (by decide) ?_
      exact r_iret dX3_neighbour_68 rfl hw
  · have hw := hw.2 c
    refine r_iload_n (q := 34) dX3_neighbour_33 rfl 3 rfl ?_
    refine r_aload_n (q := 35) dX3_neighbour_34 rfl 0 rfl ?_
    refine r_getR (q := 38) L_X3_92 dX3_neighbour_35 rfl (mw_k hm) (mwr_kept hm) ?_
    refine r_bipush (q := 40) dX3_neighbour_38 rfl kB_10 ?_
    refine r_iload (q := 42) dX3_neighbour_40 rfl 4 rfl ?_
    refine r_imul (q := 43) dX3_neighbour_42 rfl ?_
    refine r_iload_n (q := 44) dX3_neighbour_43 rfl 1 rfl ?_
    refine r_iadd (q := 45) dX3_neighbour_44 rfl ?_
    obtain ⟨g102, hw⟩ := hw
    refine r_ialdL (q := 46) dX3_neighbour_45 rfl (mwk_kept hm) (mwl_kept hm) g102 ?_
    refine r_iadd (q := 47) dX3_neighbour_46 rfl ?_
    have hw := hw _ rfl
    refine r_istore_n (q := 48) (lv' := [(0, _), (1, _), (2, _), (3, _), (4, _)]) dX3_neighbour_47 rfl (Nat.le_of_ble_eq_true rfl) rfl ?_
    have hw := hw _ rfl
    refine r_iincW (q := 51) (lv' := [(0, _), (1, _), (2, _), (3, _), (4, _)]) dX3_neighbour_48 rfl 4 rfl kI_1 (Nat.le_of_ble_eq_true rfl) rfl ?_
    refine r_goto (tg := 26) dX3_neighbour_51 (by decide) ?_
    exact hw
theorem b_X0_free_0 {xo : Nat} {h : Hp} {k n : Nat} {Q : Int32 → Hp → Prop} {E : Nat → Hp → Prop} (hm : XW h xo) (hw : Rn M_X0_free 4 [(0, rV xo), (1, iV 0), (2, iV 0)] [] h k n (qI Q) E) : Rn M_X0_free 0 [(0, rV xo)] [] h k n (qI Q) E := by
  refine r_iconst (q := 1) dX0_free_0 rfl kI_0 ?_
  refine r_istore_n (q := 2) (lv' := [(0, _), (1, _)]) dX0_free_1 rfl (Nat.le_of_ble_eq_true rfl) rfl ?_
  refine r_iconst (q := 3) dX0_free_2 rfl kI_0 ?_
  refine r_istore_n (q := 4) (lv' := [(0, _), (1, _), (2, _)]) dX0_free_3 rfl (Nat.le_of_ble_eq_true rfl) rfl ?_
  exact hw
theorem b_X0_free_4 {x1 x2 : Int32} {xo : Nat} {h : Hp} {k n : Nat} {Q : Int32 → Hp → Prop} {E : Nat → Hp → Prop} (hm : XW h xo) (hw : ((gI h 1102 (xo + 2)) ≤ x2 → Q x1 h) ∧ (¬ (gI h 1102 (xo + 2)) ≤ x2 → (ALg h (xo + 2) x2) ∧ (kd h (el h (xo + 2) (ix x2)) = 2 ∧ ((¬ (gR h 109 (el h (xo + 2) (ix x2))) = 0 → ∀ x103 : Int32, x103 = x1 ||| 0 → ∀ x104 : Int32, x104 = x2 + 1 → Rn M_X0_free 4 [(0, rV xo), (1, iV x103), (2, iV x104)] [] h k n (qI Q) E) ∧ ((gR h 109 (el h (xo + 2) (ix x2))) = 0 → ∀ x105 : Int32, x105 = x1 ||| (shl 1 x2) → ∀ x106 : Int32, x106 = x2 + 1 → Rn M_X0_free 4 [(0, rV xo), (1, iV x105), (2, iV x106)] [] h k n (qI Q) E))))) : Rn M_X0_free 4 [(0, rV xo), (1, iV x1), (2, iV x2)] [] h k n (qI Q) E := by
  refine r_iload_n (q := 5) dX0_free_4 rfl 2 rfl ?_
  refine r_aload_n (q := 6) dX0_free_5 rfl 0 rfl ?_
  refine r_getR (q := 9) L_X0_20 dX0_free_6 rfl (xw_k hm) (xwr_corners hm) ?_
  refine r_cVI0 (q := 12) _ [] N_X0_77 rfl dX0_free_9 rfl rfl rfl (xwk_corners hm) rfl ?_
  refine ct_J2_size (xwk_corners hm) ?_
  refine r_icmp_ge (tg := 48) (q := 15) dX0_free_12 (by decide) rfl (fun c => ?_) (fun c => ?_)
  · have hw := hw.1 c
    refine r_iload_n (q := 49) dX0_free_48 rfl 1 rfl ?_
    exact r_iret dX0_free_49 rfl hw
  · have hw := hw.2 c
    refine r_iload_n (q := 16) dX0_free_15 rfl 1 rfl ?_
    refine r_aload_n (q := 17) dX0_free_16 rfl 0 rfl ?_
    refine r_getR (q := 20) L_X0_20 dX0_free_17 rfl (xw_k hm) (xwr_corners hm) ?_
    refine r_iload_n (q := 21) dX0_free_20 rfl 2 rfl ?_
    obtain ⟨g101, hw⟩ := hw
    refine r_cVR0 (q := 24) _ [_] N_X0_81 rfl dX0_free_21 rfl rfl rfl (xwk_corners hm) rfl ?_
    refine ct_J2_get (xwk_corners hm) g101 ?_
    obtain ⟨g102, hw⟩ := hw
    refine r_cast (q := 27) q374 rfl dX0_free_24 rfl g102 ?_
    refine r_getR (q := 30) L_X0_91 dX0_free_27 rfl g102 rfl ?_
    refine r_ifnonnull (tg := 39) (q := 33) dX0_free_30 (by decide) rfl (fun c => ?_) (fun c => ?_)
    · have hw := hw.1 c
      refine r_iconst (q := 40) dX0_free_39 rfl kI_0 ?_
      refine r_ior (q := 41) dX0_free_40 rfl ?_
      have hw := hw _ rfl
      refine r_istore_n (q := 42) (lv' := [(0, _), (1, _), (2, _)]) dX0_free_41 rfl (Nat.le_of_ble_eq_true rfl) rfl ?_
      have hw := hw _ rfl
      refine r_iincW (q := 45) (lv' := [(0, _), (1, _), (2, _)]) dX0_free_42 rfl 2 rfl kI_1 (Nat.le_of_ble_eq_true rfl) rfl ?_
      refine r_goto (tg := 4) dX0_free_45 (by decide) ?_
      exact hw
    · have hw := hw.2 c
      refine r_iconst (q := 34) dX0_free_33 rfl kI_1 ?_
      refine r_iload_n (q := 35) dX0_free_34 rfl 2 rfl ?_
      refine r_ishl (q := 36) dX0_free_35 rfl ?_
      refine r_goto (tg := 40) dX0_free_36 (by decide) ?_
      refine r_ior (q := 41) dX0_free_40 rfl ?_
      have hw := hw _ rfl
      refine r_istore_n (q := 42) (lv' := [(0, _), (1, _), (2, _)]) dX0_free_41 rfl (Nat.le_of_ble_eq_true rfl) rfl ?_
      have hw := hw _ rfl
      refine r_iincW (q := 45) (lv' := [(0, _), (1, _), (2, _)]) dX0_free_42 rfl 2 rfl kI_1 (Nat.le_of_ble_eq_true rfl) rfl ?_
      refine r_goto (tg := 4) dX0_free_45 (by decide) ?_
      exact hw
theorem b_X3_isNew_0 {x1 : Int32} {mo : Nat} {h : Hp} {k n : Nat} {Q : Int32 → Hp → Prop} {E : Nat → Hp → Prop} (hm : MW h mo) (hw : ((isin x1 0 ((shl 1 (gI h 1001 mo)) - 1)) = true → Rn M_X3_isNew 22 [(0, rV mo), (1, iV x1), (2, iV 1), (3, iV 0)] [] h k n (qI Q) E) ∧ ((isin x1 0 ((shl 1 (gI h 1001 mo)) - 1)) = false → Q 0 h)) : Rn M_X3_isNew 0 [(0, rV mo), (1, iV x1)] [] h k n (qI Q) E := by
  refine r_iload_n (q := 1) dX3_isNew_0 rfl 1 rfl ?_
  refine r_iconst (q := 2) dX3_isNew_1 rfl kI_0 ?_
  refine r_iconst (q := 3) dX3_isNew_2 rfl kI_1 ?_
  refine r_aload_n (q := 4) dX3_isNew_3 rfl 0 rfl ?_
  refine r_getI (q := 7) L_X3_191 dX3_isNew_4 rfl (mw_k hm) ?_
  refine r_ishl (q := 8) dX3_isNew_7 rfl ?_
  refine r_iconst (q := 9) dX3_isNew_8 rfl kI_1 ?_
  refine r_isub (q := 10) dX3_isNew_9 rfl ?_
  refine r_cSI0 (q := 13) [_, _, _] N_X3_194 dX3_isNew_10 rfl rfl rfl rfl ?_
  refine ct_X3_isIn  ?_
  refine r_ifb_ne (tg := 18) (q := 16) dX3_isNew_13 (by decide) rfl (fun c => ?_) (fun c => ?_)
  · have hw := hw.1 c
    refine r_iconst (q := 19) dX3_isNew_18 rfl kI_1 ?_
    refine r_istore_n (q := 20) (lv' := [(0, _), (1, _), (2, _)]) dX3_isNew_19 rfl (Nat.le_of_ble_eq_true rfl) rfl ?_
    refine r_iconst (q := 21) dX3_isNew_20 rfl kI_0 ?_
    refine r_istore_n (q := 22) (lv' := [(0, _), (1, _), (2, _), (3, _)]) dX3_isNew_21 rfl (Nat.le_of_ble_eq_true rfl) rfl ?_
    exact hw
  · have hw := hw.2 c
    refine r_iconst (q := 17) dX3_isNew_16 rfl kI_0 ?_
    exact r_zret dX3_isNew_17 rfl (Or.inl rfl) hw
theorem b_X3_isNew_22 {x1 x2 x3 : Int32} {mo : Nat} {h : Hp} {k n : Nat} {Q : Int32 → Hp → Prop} {E : Nat → Hp → Prop} (hm : MW h mo) (hw : ((gI h 1001 mo) ≤ x3 → (x2 = 0 ∨ x2 = 1) ∧ (Q x2 h)) ∧ (¬ (gI h 1001 mo) ≤ x3 → (x2 = 0 → ∀ x102 : Int32, x102 = x3 + 1 → Rn M_X3_isNew 22 [(0, rV mo), (1, iV x1), (2, iV 0), (3, iV x102)] [] h k n (qI Q) E) ∧ (¬ x2 = 0 → (((shr x1 x3) &&& 1) = 0 → ∀ x103 : Int32, x103 = x3 + 1 → Rn M_X3_isNew 22 [(0, rV mo), (1, iV x1), (2, iV 1), (3, iV x103)] [] h k n (qI Q) E) ∧ (¬ ((shr x1 x3) &&& 1) = 0 → vp_in x3 12 ∧ ((¬ (eI h (mo + 6) (ix x3)) = 0 → ∀ x105 : Int32, x105 = x3 + 1 → Rn M_X3_isNew 22 [(0, rV mo), (1, iV x1), (2, iV 0), (3, iV x105)] [] h k n (qI Q) E) ∧ ((eI h (mo + 6) (ix x3)) = 0 → ∀ x106 : Int32, x106 = x3 + 1 → Rn M_X3_isNew 22 [(0, rV mo), (1, iV x1), (2, iV 1), (3, iV x106)] [] h k n (qI Q) E)))))) : Rn M_X3_isNew 22 [(0, rV mo), (1, iV x1), (2, iV x2), (3, iV x3)] [] h k n (qI Q) E := by
  refine r_iload_n (q := 23) dX3_isNew_22 rfl 3 rfl ?_
  refine r_aload_n (q := 24) dX3_isNew_23 rfl 0 rfl ?_
  refine r_getI (q := 27) L_X3_191 dX3_isNew_24 rfl (mw_k hm) ?_
  refine r_icmp_ge (tg := 63) (q := 30) dX3_isNew_27 (by decide) rfl (fun c => ?_) (fun c => ?_)
  · have hw := hw.1 c
    refine r_iload_n (q := 64) dX3_isNew_63 rfl 2 rfl ?_
    obtain ⟨g101, hw⟩ := hw
    exact r_zret dX3_isNew_64 rfl g101 hw
  · have hw := hw.2 c
    refine r_iload_n (q := 31) dX3_isNew_30 rfl 2 rfl ?_
    refine r_if_eq (tg := 55) (q := 34) dX3_isNew_31 (by decide) rfl (fun c => ?_) (fun c => ?_)
    · have hw := hw.1 c
      refine r_iconst (q := 56) dX3_isNew_55 rfl kI_0 ?_
      refine r_istore_n (q := 57) (lv' := [(0, _), (1, _), (2, _), (3, _)]) dX3_isNew_56 rfl (Nat.le_of_ble_eq_true rfl) rfl ?_
      have hw := hw _ rfl
      refine r_iincW (q := 60) (lv' := [(0, _), (1, _), (2, _), (3, _)]) dX3_isNew_57 rfl 3 rfl kI_1 (Nat.le_of_ble_eq_true rfl) rfl ?_
      refine r_goto (tg := 22) dX3_isNew_60 (by decide) ?_
      exact hw
    · have hw := hw.2 c
      refine r_iload_n (q := 35) dX3_isNew_34 rfl 1 rfl ?_
      refine r_iload_n (q := 36) dX3_isNew_35 rfl 3 rfl ?_
      refine r_ishr (q := 37) dX3_isNew_36 rfl ?_
      refine r_iconst (q := 38) dX3_isNew_37 rfl kI_1 ?_
      refine r_iand (q := 39) dX3_isNew_38 rfl ?_
      refine r_if_eq (tg := 51) (q := 42) dX3_isNew_39 (by decide) rfl (fun c => ?_) (fun c => ?_)
      · have hw := hw.1 c
        refine r_iconst (q := 52) dX3_isNew_51 rfl kI_1 ?_
        refine r_goto (tg := 56) dX3_isNew_52 (by decide) ?_
        refine r_istore_n (q := 57) (lv' := [(0, _), (1, _), (2, _), (3, _)]) dX3_isNew_56 rfl (Nat.le_of_ble_eq_true rfl) rfl ?_
        have hw := hw _ rfl
        refine r_iincW (q := 60) (lv' := [(0, _), (1, _), (2, _), (3, _)]) dX3_isNew_57 rfl 3 rfl kI_1 (Nat.le_of_ble_eq_true rfl) rfl ?_
        refine r_goto (tg := 22) dX3_isNew_60 (by decide) ?_
        exact hw
      · have hw := hw.2 c
        refine r_aload_n (q := 43) dX3_isNew_42 rfl 0 rfl ?_
        refine r_getR (q := 46) L_X3_25 dX3_isNew_43 rfl (mw_k hm) (mwr_hasBed hm) ?_
        refine r_iload_n (q := 47) dX3_isNew_46 rfl 3 rfl ?_
        obtain ⟨g104, hw⟩ := hw
        refine r_zaldL (q := 48) dX3_isNew_47 rfl (mwk_hasBed hm) (mwl_hasBed hm) g104 ?_
        refine r_if_ne (tg := 55) (q := 51) dX3_isNew_48 (by decide) rfl (fun c => ?_) (fun c => ?_)
        · have hw := hw.1 c
          refine r_iconst (q := 56) dX3_isNew_55 rfl kI_0 ?_
          refine r_istore_n (q := 57) (lv' := [(0, _), (1, _), (2, _), (3, _)]) dX3_isNew_56 rfl (Nat.le_of_ble_eq_true rfl) rfl ?_
          have hw := hw _ rfl
          refine r_iincW (q := 60) (lv' := [(0, _), (1, _), (2, _), (3, _)]) dX3_isNew_57 rfl 3 rfl kI_1 (Nat.le_of_ble_eq_true rfl) rfl ?_
          refine r_goto (tg := 22) dX3_isNew_60 (by decide) ?_
          exact hw
        · have hw := hw.2 c
          refine r_iconst (q := 52) dX3_isNew_51 rfl kI_1 ?_
          refine r_goto (tg := 56) dX3_isNew_52 (by decide) ?_
          refine r_istore_n (q := 57) (lv' := [(0, _), (1, _), (2, _), (3, _)]) dX3_isNew_56 rfl (Nat.le_of_ble_eq_true rfl) rfl ?_
          have hw := hw _ rfl
          refine r_iincW (q := 60) (lv' := [(0, _), (1, _), (2, _), (3, _)]) dX3_isNew_57 rfl 3 rfl kI_1 (Nat.le_of_ble_eq_true rfl) rfl ?_
          refine r_goto (tg := 22) dX3_isNew_60 (by decide) ?_
          exact hw
theorem b_X0_parkingOf_0 {x1 : Int32} {xo : Nat} {h : Hp} {k n : Nat} {Q : Int32 → Hp → Prop} {E : Nat → Hp → Prop} (hm : XW h xo) (hw : Rn M_X0_parkingOf 4 [(0, rV xo), (1, iV x1), (2, iV 0), (3, iV 0)] [] h k n (qI Q) E) : Rn M_X0_parkingOf 0 [(0, rV xo), (1, iV x1)] [] h k n (qI Q) E := by
  refine r_iconst (q := 1) dX0_parkingOf_0 rfl kI_0 ?_
  refine r_istore_n (q := 2) (lv' := [(0, _), (1, _), (2, _)]) dX0_parkingOf_1 rfl (Nat.le_of_ble_eq_true rfl) rfl ?_
  refine r_iconst (q := 3) dX0_parkingOf_2 rfl kI_0 ?_
  refine r_istore_n (q := 4) (lv' := [(0, _), (1, _), (2, _), (3, _)]) dX0_parkingOf_3 rfl (Nat.le_of_ble_eq_true rfl) rfl ?_
  exact hw
theorem b_X0_parkingOf_4 {x1 x2 x3 : Int32} {xo : Nat} {h : Hp} {k n : Nat} {Q : Int32 → Hp → Prop} {E : Nat → Hp → Prop} (hm : XW h xo) (hw : ((gI h 1102 (xo + 2)) ≤ x3 → Q x2 h) ∧ (¬ (gI h 1102 (xo + 2)) ≤ x3 → (¬ ((shr x1 x3) &&& 1) = 1 → ∀ x101 : Int32, x101 = x2 + 0 → ∀ x102 : Int32, x102 = x3 + 1 → Rn M_X0_parkingOf 4 [(0, rV xo), (1, iV x1), (2, iV x101), (3, iV x102)] [] h k n (qI Q) E) ∧ (((shr x1 x3) &&& 1) = 1 → (ALg h (xo + 2) x3) ∧ (kd h (el h (xo + 2) (ix x3)) = 2 ∧ (∀ x105 : Int32, x105 = x2 + (gI h 103 (el h (xo + 2) (ix x3))) → ∀ x106 : Int32, x106 = x3 + 1 → Rn M_X0_parkingOf 4 [(0, rV xo), (1, iV x1), (2, iV x105), (3, iV x106)] [] h k n (qI Q) E))))) : Rn M_X0_parkingOf 4 [(0, rV xo), (1, iV x1), (2, iV x2), (3, iV x3)] [] h k n (qI Q) E := by
  refine r_iload_n (q := 5) dX0_parkingOf_4 rfl 3 rfl ?_
  refine r_aload_n (q := 6) dX0_parkingOf_5 rfl 0 rfl ?_
  refine r_getR (q := 9) L_X0_20 dX0_parkingOf_6 rfl (xw_k hm) (xwr_corners hm) ?_
  refine r_cVI0 (q := 12) _ [] N_X0_77 rfl dX0_parkingOf_9 rfl rfl rfl (xwk_corners hm) rfl ?_
  refine ct_J2_size (xwk_corners hm) ?_
  refine r_icmp_ge (tg := 51) (q := 15) dX0_parkingOf_12 (by decide) rfl (fun c => ?_) (fun c => ?_)
  · have hw := hw.1 c
    refine r_iload_n (q := 52) dX0_parkingOf_51 rfl 2 rfl ?_
    exact r_iret dX0_parkingOf_52 rfl hw
  · have hw := hw.2 c
    refine r_iload_n (q := 16) dX0_parkingOf_15 rfl 2 rfl ?_
    refine r_iload_n (q := 17) dX0_parkingOf_16 rfl 1 rfl ?_
    refine r_iload_n (q := 18) dX0_parkingOf_17 rfl 3 rfl ?_
    refine r_ishr (q := 19) dX0_parkingOf_18 rfl ?_
    refine r_iconst (q := 20) dX0_parkingOf_19 rfl kI_1 ?_
    refine r_iand (q := 21) dX0_parkingOf_20 rfl ?_
    refine r_iconst (q := 22) dX0_parkingOf_21 rfl kI_1 ?_
    refine r_icmp_ne (tg := 42) (q := 25) dX0_parkingOf_22 (by decide) rfl (fun c => ?_) (fun c => ?_)
    · have hw := hw.1 c
      refine r_iconst (q := 43) dX0_parkingOf_42 rfl kI_0 ?_
      refine r_iadd (q := 44) dX0_parkingOf_43 rfl ?_
      have hw := hw _ rfl
      refine r_istore_n (q := 45) (lv' := [(0, _), (1, _), (2, _), (3, _)]) dX0_parkingOf_44 rfl (Nat.le_of_ble_eq_true rfl) rfl ?_
      have hw := hw _ rfl
      refine r_iincW (q := 48) (lv' := [(0, _), (1, _), (2, _), (3, _)]) dX0_parkingOf_45 rfl 3 rfl kI_1 (Nat.le_of_ble_eq_true rfl) rfl ?_
      refine r_goto (tg := 4) dX0_parkingOf_48 (by decide) ?_
      exact hw
    · have hw := hw.2 c
      refine r_aload_n (q := 26) dX0_parkingOf_25 rfl 0 rfl ?_
      refine r_getR (q := 29) L_X0_20 dX0_parkingOf_26 rfl (xw_k hm) (xwr_corners hm) ?_
      refine r_iload_n (q := 30) dX0_parkingOf_29 rfl 3 rfl ?_
      obtain ⟨g103, hw⟩ := hw
      refine r_cVR0 (q := 33) _ [_] N_X0_81 rfl dX0_parkingOf_30 rfl rfl rfl (xwk_corners hm) rfl ?_
      refine ct_J2_get (xwk_corners hm) g103 ?_
      obtain ⟨g104, hw⟩ := hw
      refine r_cast (q := 36) q374 rfl dX0_parkingOf_33 rfl g104 ?_
      refine r_getI (q := 39) L_X0_114 dX0_parkingOf_36 rfl g104 ?_
      refine r_goto (tg := 43) dX0_parkingOf_39 (by decide) ?_
      refine r_iadd (q := 44) dX0_parkingOf_43 rfl ?_
      have hw := hw _ rfl
      refine r_istore_n (q := 45) (lv' := [(0, _), (1, _), (2, _), (3, _)]) dX0_parkingOf_44 rfl (Nat.le_of_ble_eq_true rfl) rfl ?_
      have hw := hw _ rfl
      refine r_iincW (q := 48) (lv' := [(0, _), (1, _), (2, _), (3, _)]) dX0_parkingOf_45 rfl 3 rfl kI_1 (Nat.le_of_ble_eq_true rfl) rfl ?_
      refine r_goto (tg := 4) dX0_parkingOf_48 (by decide) ?_
      exact hw
theorem b_X3_lawOn_0 {x1 x2 : Int32} {mo : Nat} {h : Hp} {k n : Nat} {Q : Int32 → Hp → Prop} {E : Nat → Hp → Prop} (hm : MW h mo) (hw : CtI M_X3_plain [iV x2] h 0 0 (fun x102 h101 => MW h101 mo ∧ (CtI M_X3_inForce [rV mo, iV x1] h101 0 0 (fun x104 h103 => MW h103 mo ∧ (∀ x105 : Int32, x105 = 24 * x104 → Rn M_X3_lawOn 19 [(0, rV mo), (2, iV x2), (3, iV x102), (4, iV x104), (5, iV x105)] [] h103 k n (qI Q) E)) E)) E) : Rn M_X3_lawOn 0 [(0, rV mo), (1, iV x1), (2, iV x2)] [] h k n (qI Q) E := by
  refine r_iload_n (q := 1) dX3_lawOn_0 rfl 2 rfl ?_
  refine r_cSI0 (q := 4) [_] N_X3_425 dX3_lawOn_1 rfl rfl rfl rfl ?_
  refine r_monoCI (fun x102 h101 hw => ?_) hw
  obtain ⟨hm, hw⟩ := hw
  refine r_istore_n (q := 5) (lv' := [(0, _), (1, _), (2, _), (3, _)]) dX3_lawOn_4 rfl (Nat.le_of_ble_eq_true rfl) rfl ?_
  refine r_aload_n (q := 6) dX3_lawOn_5 rfl 0 rfl ?_
  refine r_iload_n (q := 7) dX3_lawOn_6 rfl 1 rfl ?_
  refine r_cVI0 (q := 10) _ [_] N_X3_240 rfl dX3_lawOn_7 rfl rfl rfl (mw_k hm) rfl ?_
  refine r_monoCI (fun x104 h103 hw => ?_) hw
  obtain ⟨hm, hw⟩ := hw
  refine r_istore (q := 12) (lv' := [(0, _), (1, _), (2, _), (3, _), (4, _)]) dX3_lawOn_10 rfl (Nat.le_of_ble_eq_true rfl) rfl ?_
  refine r_bipush (q := 14) dX3_lawOn_12 rfl kB_24 ?_
  refine r_iload (q := 16) dX3_lawOn_14 rfl 4 rfl ?_
  refine r_imul (q := 17) dX3_lawOn_16 rfl ?_
  have hw := hw _ rfl
  refine r_istore (q := 19) (lv' := [(0, _), (1, _), (2, _), (3, _), (4, _), (5, _)]) dX3_lawOn_17 rfl (Nat.le_of_ble_eq_true rfl) rfl ?_
  exact r_sub [0, 2, 3, 4, 5] rfl hw
theorem b_X3_lawOn_19 {x2 x3 x4 x5 : Int32} {mo : Nat} {h : Hp} {k n : Nat} {Q : Int32 → Hp → Prop} {E : Nat → Hp → Prop} (hm : MW h mo) (hw : (x4 = (-1) → Q x3 h) ∧ (¬ x4 = (-1) → vp_in x4 11 ∧ ((((24 * x4) + (eI h (mo + 50) (ix x4))) ≤ x5 → Q x3 h) ∧ (¬ ((24 * x4) + (eI h (mo + 50) (ix x4))) ≤ x5 → vp_in x5 264 ∧ ((¬ (eI h (mo + 52) (ix x5)) = x2 → Rn M_X3_lawOn 62 [(0, rV mo), (2, iV x2), (3, iV x3), (4, iV x4), (5, iV x5)] [] h k n (qI Q) E) ∧ ((eI h (mo + 52) (ix x5)) = x2 → vp_in x5 264 ∧ (∀ x104 : Int32, x104 = eI h (mo + 53) (ix x5) → Rn M_X3_lawOn 62 [(0, rV mo), (2, iV x2), (3, iV x104), (4, iV x4), (5, iV x5)] [] h k n (qI Q) E))))))) : Rn M_X3_lawOn 19 [(0, rV mo), (2, iV x2), (3, iV x3), (4, iV x4), (5, iV x5)] [] h k n (qI Q) E := by
  refine r_iload (q := 21) dX3_lawOn_19 rfl 3 rfl ?_
  refine r_iconst (q := 22) dX3_lawOn_21 rfl kI_m1 ?_
  refine r_icmp_eq (tg := 226) (q := 25) dX3_lawOn_22 (by decide) rfl (fun c => ?_) (fun c => ?_)
  · have hw := hw.1 c
    refine r_iload_n (q := 227) dX3_lawOn_226 rfl 2 rfl ?_
    exact r_iret dX3_lawOn_227 rfl hw
  · have hw := hw.2 c
    refine r_iload (q := 27) dX3_lawOn_25 rfl 4 rfl ?_
    refine r_bipush (q := 29) dX3_lawOn_27 rfl kB_24 ?_
    refine r_iload (q := 31) dX3_lawOn_29 rfl 3 rfl ?_
    refine r_imul (q := 32) dX3_lawOn_31 rfl ?_
    refine r_aload_n (q := 33) dX3_lawOn_32 rfl 0 rfl ?_
    refine r_getR (q := 36) L_X3_159 dX3_lawOn_33 rfl (mw_k hm) (mwr_statements hm) ?_
    refine r_iload (q := 38) dX3_lawOn_36 rfl 3 rfl ?_
    obtain ⟨g101, hw⟩ := hw
    refine r_ialdL (q := 39) dX3_lawOn_38 rfl (mwk_statements hm) (mwl_statements hm) g101 ?_
    refine r_iadd (q := 40) dX3_lawOn_39 rfl ?_
    refine r_icmp_ge (tg := 226) (q := 43) dX3_lawOn_40 (by decide) rfl (fun c => ?_) (fun c => ?_)
    · have hw := hw.1 c
      refine r_iload_n (q := 227) dX3_lawOn_226 rfl 2 rfl ?_
      exact r_iret dX3_lawOn_227 rfl hw
    · have hw := hw.2 c
      refine r_aload_n (q := 44) dX3_lawOn_43 rfl 0 rfl ?_
      refine r_getR (q := 47) L_X3_165 dX3_lawOn_44 rfl (mw_k hm) (mwr_sort hm) ?_
      refine r_iload (q := 49) dX3_lawOn_47 rfl 4 rfl ?_
      obtain ⟨g102, hw⟩ := hw
      refine r_ialdL (q := 50) dX3_lawOn_49 rfl (mwk_sort hm) (mwl_sort hm) g102 ?_
      refine r_iload_n (q := 51) dX3_lawOn_50 rfl 1 rfl ?_
      refine r_icmp_ne (tg := 62) (q := 54) dX3_lawOn_51 (by decide) rfl (fun c => ?_) (fun c => ?_)
      · have hw := hw.1 c
        exact hw
      · have hw := hw.2 c
        refine r_aload_n (q := 55) dX3_lawOn_54 rfl 0 rfl ?_
        refine r_getR (q := 58) L_X3_168 dX3_lawOn_55 rfl (mw_k hm) (mwr_first hm) ?_
        refine r_iload (q := 60) dX3_lawOn_58 rfl 4 rfl ?_
        obtain ⟨g103, hw⟩ := hw
        refine r_ialdL (q := 61) dX3_lawOn_60 rfl (mwk_first hm) (mwl_first hm) g103 ?_
        have hw := hw _ rfl
        refine r_istore_n (q := 62) (lv' := [(0, _), (2, _), (3, _), (4, _), (5, _)]) dX3_lawOn_61 rfl (Nat.le_of_ble_eq_true rfl) rfl ?_
        exact hw
theorem b_X3_lawOn_62 {x2 x3 x4 x5 : Int32} {mo : Nat} {h : Hp} {k n : Nat} {Q : Int32 → Hp → Prop} {E : Nat → Hp → Prop} (hm : MW h mo) (hw : vp_in x5 264 ∧ ((¬ (eI h (mo + 52) (ix x5)) = 1 → Rn M_X3_lawOn 78 [(0, rV mo), (2, iV x2), (3, iV x3), (4, iV x4), (5, iV x5)] [] h k n (qI Q) E) ∧ ((eI h (mo + 52) (ix x5)) = 1 → (x2 = 2 → vp_in x5 264 ∧ (∀ x103 : Int32, x103 = eI h (mo + 54) (ix x5) → Rn M_X3_lawOn 122 [(0, rV mo), (2, iV x2), (3, iV x103), (4, iV x4), (5, iV x5)] [] h k n (qI Q) E)) ∧ (¬ x2 = 2 → Rn M_X3_lawOn 78 [(0, rV mo), (2, iV x2), (3, iV x3), (4, iV x4), (5, iV x5)] [] h k n (qI Q) E)))) : Rn M_X3_lawOn 62 [(0, rV mo), (2, iV x2), (3, iV x3), (4, iV x4), (5, iV x5)] [] h k n (qI Q) E := by
  refine r_aload_n (q := 63) dX3_lawOn_62 rfl 0 rfl ?_
  refine r_getR (q := 66) L_X3_165 dX3_lawOn_63 rfl (mw_k hm) (mwr_sort hm) ?_
  refine r_iload (q := 68) dX3_lawOn_66 rfl 4 rfl ?_
  obtain ⟨g101, hw⟩ := hw
  refine r_ialdL (q := 69) dX3_lawOn_68 rfl (mwk_sort hm) (mwl_sort hm) g101 ?_
  refine r_iconst (q := 70) dX3_lawOn_69 rfl kI_1 ?_
  refine r_icmp_ne (tg := 78) (q := 73) dX3_lawOn_70 (by decide) rfl (fun c => ?_) (fun c => ?_)
  · have hw := hw.1 c
    exact hw
  · have hw := hw.2 c
    refine r_iload_n (q := 74) dX3_lawOn_73 rfl 1 rfl ?_
    refine r_iconst (q := 75) dX3_lawOn_74 rfl kI_2 ?_
    refine r_icmp_eq (tg := 114) (q := 78) dX3_lawOn_75 (by decide) rfl (fun c => ?_) (fun c => ?_)
    · have hw := hw.1 c
      refine r_aload_n (q := 115) dX3_lawOn_114 rfl 0 rfl ?_
      refine r_getR (q := 118) L_X3_171 dX3_lawOn_115 rfl (mw_k hm) (mwr_second hm) ?_
      refine r_iload (q := 120) dX3_lawOn_118 rfl 4 rfl ?_
      obtain ⟨g102, hw⟩ := hw
      refine r_ialdL (q := 121) dX3_lawOn_120 rfl (mwk_second hm) (mwl_second hm) g102 ?_
      have hw := hw _ rfl
      refine r_istore_n (q := 122) (lv' := [(0, _), (2, _), (3, _), (4, _), (5, _)]) dX3_lawOn_121 rfl (Nat.le_of_ble_eq_true rfl) rfl ?_
      exact hw
    · have hw := hw.2 c
      exact hw
theorem b_X3_lawOn_78 {x2 x3 x4 x5 : Int32} {mo : Nat} {h : Hp} {k n : Nat} {Q : Int32 → Hp → Prop} {E : Nat → Hp → Prop} (hm : MW h mo) (hw : vp_in x5 264 ∧ ((¬ (eI h (mo + 52) (ix x5)) = 7 → Rn M_X3_lawOn 96 [(0, rV mo), (2, iV x2), (3, iV x3), (4, iV x4), (5, iV x5)] [] h k n (qI Q) E) ∧ ((eI h (mo + 52) (ix x5)) = 7 → (x2 = 8 → vp_in x5 264 ∧ (∀ x103 : Int32, x103 = eI h (mo + 54) (ix x5) → Rn M_X3_lawOn 122 [(0, rV mo), (2, iV x2), (3, iV x103), (4, iV x4), (5, iV x5)] [] h k n (qI Q) E)) ∧ (¬ x2 = 8 → Rn M_X3_lawOn 96 [(0, rV mo), (2, iV x2), (3, iV x3), (4, iV x4), (5, iV x5)] [] h k n (qI Q) E)))) : Rn M_X3_lawOn 78 [(0, rV mo), (2, iV x2), (3, iV x3), (4, iV x4), (5, iV x5)] [] h k n (qI Q) E := by
  refine r_aload_n (q := 79) dX3_lawOn_78 rfl 0 rfl ?_
  refine r_getR (q := 82) L_X3_165 dX3_lawOn_79 rfl (mw_k hm) (mwr_sort hm) ?_
  refine r_iload (q := 84) dX3_lawOn_82 rfl 4 rfl ?_
  obtain ⟨g101, hw⟩ := hw
  refine r_ialdL (q := 85) dX3_lawOn_84 rfl (mwk_sort hm) (mwl_sort hm) g101 ?_
  refine r_bipush (q := 87) dX3_lawOn_85 rfl kB_7 ?_
  refine r_icmp_ne (tg := 96) (q := 90) dX3_lawOn_87 (by decide) rfl (fun c => ?_) (fun c => ?_)
  · have hw := hw.1 c
    exact hw
  · have hw := hw.2 c
    refine r_iload_n (q := 91) dX3_lawOn_90 rfl 1 rfl ?_
    refine r_bipush (q := 93) dX3_lawOn_91 rfl kB_8 ?_
    refine r_icmp_eq (tg := 114) (q := 96) dX3_lawOn_93 (by decide) rfl (fun c => ?_) (fun c => ?_)
    · have hw := hw.1 c
      refine r_aload_n (q := 115) dX3_lawOn_114 rfl 0 rfl ?_
      refine r_getR (q := 118) L_X3_171 dX3_lawOn_115 rfl (mw_k hm) (mwr_second hm) ?_
      refine r_iload (q := 120) dX3_lawOn_118 rfl 4 rfl ?_
      obtain ⟨g102, hw⟩ := hw
      refine r_ialdL (q := 121) dX3_lawOn_120 rfl (mwk_second hm) (mwl_second hm) g102 ?_
      have hw := hw _ rfl
      refine r_istore_n (q := 122) (lv' := [(0, _), (2, _), (3, _), (4, _), (5, _)]) dX3_lawOn_121 rfl (Nat.le_of_ble_eq_true rfl) rfl ?_
      exact hw
    · have hw := hw.2 c
      exact hw
theorem b_X3_lawOn_96 {x2 x3 x4 x5 : Int32} {mo : Nat} {h : Hp} {k n : Nat} {Q : Int32 → Hp → Prop} {E : Nat → Hp → Prop} (hm : MW h mo) (hw : vp_in x5 264 ∧ ((¬ (eI h (mo + 52) (ix x5)) = 10 → Rn M_X3_lawOn 122 [(0, rV mo), (2, iV x2), (3, iV x3), (4, iV x4), (5, iV x5)] [] h k n (qI Q) E) ∧ ((eI h (mo + 52) (ix x5)) = 10 → (¬ x2 = 11 → Rn M_X3_lawOn 122 [(0, rV mo), (2, iV x2), (3, iV x3), (4, iV x4), (5, iV x5)] [] h k n (qI Q) E) ∧ (x2 = 11 → vp_in x5 264 ∧ (∀ x103 : Int32, x103 = eI h (mo + 54) (ix x5) → Rn M_X3_lawOn 122 [(0, rV mo), (2, iV x2), (3, iV x103), (4, iV x4), (5, iV x5)] [] h k n (qI Q) E))))) : Rn M_X3_lawOn 96 [(0, rV mo), (2, iV x2), (3, iV x3), (4, iV x4), (5, iV x5)] [] h k n (qI Q) E := by
  refine r_aload_n (q := 97) dX3_lawOn_96 rfl 0 rfl ?_
  refine r_getR (q := 100) L_X3_165 dX3_lawOn_97 rfl (mw_k hm) (mwr_sort hm) ?_
  refine r_iload (q := 102) dX3_lawOn_100 rfl 4 rfl ?_
  obtain ⟨g101, hw⟩ := hw
  refine r_ialdL (q := 103) dX3_lawOn_102 rfl (mwk_sort hm) (mwl_sort hm) g101 ?_
  refine r_bipush (q := 105) dX3_lawOn_103 rfl kB_10 ?_
  refine r_icmp_ne (tg := 122) (q := 108) dX3_lawOn_105 (by decide) rfl (fun c => ?_) (fun c => ?_)
  · have hw := hw.1 c
    exact hw
  · have hw := hw.2 c
    refine r_iload_n (q := 109) dX3_lawOn_108 rfl 1 rfl ?_
    refine r_bipush (q := 111) dX3_lawOn_109 rfl kB_11 ?_
    refine r_icmp_ne (tg := 122) (q := 114) dX3_lawOn_111 (by decide) rfl (fun c => ?_) (fun c => ?_)
    · have hw := hw.1 c
      exact hw
    · have hw := hw.2 c
      refine r_aload_n (q := 115) dX3_lawOn_114 rfl 0 rfl ?_
      refine r_getR (q := 118) L_X3_171 dX3_lawOn_115 rfl (mw_k hm) (mwr_second hm) ?_
      refine r_iload (q := 120) dX3_lawOn_118 rfl 4 rfl ?_
      obtain ⟨g102, hw⟩ := hw
      refine r_ialdL (q := 121) dX3_lawOn_120 rfl (mwk_second hm) (mwl_second hm) g102 ?_
      have hw := hw _ rfl
      refine r_istore_n (q := 122) (lv' := [(0, _), (2, _), (3, _), (4, _), (5, _)]) dX3_lawOn_121 rfl (Nat.le_of_ble_eq_true rfl) rfl ?_
      exact hw
theorem b_X3_lawOn_122 {x2 x3 x4 x5 : Int32} {mo : Nat} {h : Hp} {k n : Nat} {Q : Int32 → Hp → Prop} {E : Nat → Hp → Prop} (hm : MW h mo) (hw : vp_in x5 264 ∧ ((¬ (eI h (mo + 52) (ix x5)) = 7 → Rn M_X3_lawOn 148 [(0, rV mo), (2, iV x2), (3, iV x3), (4, iV x4), (5, iV x5)] [] h k n (qI Q) E) ∧ ((eI h (mo + 52) (ix x5)) = 7 → (¬ x2 = 9 → Rn M_X3_lawOn 148 [(0, rV mo), (2, iV x2), (3, iV x3), (4, iV x4), (5, iV x5)] [] h k n (qI Q) E) ∧ (x2 = 9 → vp_in x5 264 ∧ (∀ x103 : Int32, x103 = eI h (mo + 55) (ix x5) → Rn M_X3_lawOn 148 [(0, rV mo), (2, iV x2), (3, iV x103), (4, iV x4), (5, iV x5)] [] h k n (qI Q) E))))) : Rn M_X3_lawOn 122 [(0, rV mo), (2, iV x2), (3, iV x3), (4, iV x4), (5, iV x5)] [] h k n (qI Q) E := by
  refine r_aload_n (q := 123) dX3_lawOn_122 rfl 0 rfl ?_
  refine r_getR (q := 126) L_X3_165 dX3_lawOn_123 rfl (mw_k hm) (mwr_sort hm) ?_
  refine r_iload (q := 128) dX3_lawOn_126 rfl 4 rfl ?_
  obtain ⟨g101, hw⟩ := hw
  refine r_ialdL (q := 129) dX3_lawOn_128 rfl (mwk_sort hm) (mwl_sort hm) g101 ?_
  refine r_bipush (q := 131) dX3_lawOn_129 rfl kB_7 ?_
  refine r_icmp_ne (tg := 148) (q := 134) dX3_lawOn_131 (by decide) rfl (fun c => ?_) (fun c => ?_)
  · have hw := hw.1 c
    exact hw
  · have hw := hw.2 c
    refine r_iload_n (q := 135) dX3_lawOn_134 rfl 1 rfl ?_
    refine r_bipush (q := 137) dX3_lawOn_135 rfl kB_9 ?_
    refine r_icmp_ne (tg := 148) (q := 140) dX3_lawOn_137 (by decide) rfl (fun c => ?_) (fun c => ?_)
    · have hw := hw.1 c
      exact hw
    · have hw := hw.2 c
      refine r_aload_n (q := 141) dX3_lawOn_140 rfl 0 rfl ?_
      refine r_getR (q := 144) L_X3_174 dX3_lawOn_141 rfl (mw_k hm) (mwr_third hm) ?_
      refine r_iload (q := 146) dX3_lawOn_144 rfl 4 rfl ?_
      obtain ⟨g102, hw⟩ := hw
      refine r_ialdL (q := 147) dX3_lawOn_146 rfl (mwk_third hm) (mwl_third hm) g102 ?_
      have hw := hw _ rfl
      refine r_istore_n (q := 148) (lv' := [(0, _), (2, _), (3, _), (4, _), (5, _)]) dX3_lawOn_147 rfl (Nat.le_of_ble_eq_true rfl) rfl ?_
      exact hw
theorem b_X3_lawOn_148 {x2 x3 x4 x5 : Int32} {mo : Nat} {h : Hp} {k n : Nat} {Q : Int32 → Hp → Prop} {E : Nat → Hp → Prop} (hm : MW h mo) (hw : vp_in x5 264 ∧ ((¬ (eI h (mo + 52) (ix x5)) = 31 → Rn M_X3_lawOn 184 [(0, rV mo), (2, iV x2), (3, iV x3), (4, iV x4), (5, iV x5)] [] h k n (qI Q) E) ∧ ((eI h (mo + 52) (ix x5)) = 31 → vp_in x5 264 ∧ ((¬ x2 = (13 + (2 * (eI h (mo + 53) (ix x5)))) → Rn M_X3_lawOn 184 [(0, rV mo), (2, iV x2), (3, iV x3), (4, iV x4), (5, iV x5)] [] h k n (qI Q) E) ∧ (x2 = (13 + (2 * (eI h (mo + 53) (ix x5)))) → vp_in x5 264 ∧ (∀ x104 : Int32, x104 = eI h (mo + 54) (ix x5) → Rn M_X3_lawOn 184 [(0, rV mo), (2, iV x2), (3, iV x104), (4, iV x4), (5, iV x5)] [] h k n (qI Q) E)))))) : Rn M_X3_lawOn 148 [(0, rV mo), (2, iV x2), (3, iV x3), (4, iV x4), (5, iV x5)] [] h k n (qI Q) E := by
  refine r_aload_n (q := 149) dX3_lawOn_148 rfl 0 rfl ?_
  refine r_getR (q := 152) L_X3_165 dX3_lawOn_149 rfl (mw_k hm) (mwr_sort hm) ?_
  refine r_iload (q := 154) dX3_lawOn_152 rfl 4 rfl ?_
  obtain ⟨g101, hw⟩ := hw
  refine r_ialdL (q := 155) dX3_lawOn_154 rfl (mwk_sort hm) (mwl_sort hm) g101 ?_
  refine r_bipush (q := 157) dX3_lawOn_155 rfl kB_31 ?_
  refine r_icmp_ne (tg := 184) (q := 160) dX3_lawOn_157 (by decide) rfl (fun c => ?_) (fun c => ?_)
  · have hw := hw.1 c
    exact hw
  · have hw := hw.2 c
    refine r_iload_n (q := 161) dX3_lawOn_160 rfl 1 rfl ?_
    refine r_bipush (q := 163) dX3_lawOn_161 rfl kB_13 ?_
    refine r_iconst (q := 164) dX3_lawOn_163 rfl kI_2 ?_
    refine r_aload_n (q := 165) dX3_lawOn_164 rfl 0 rfl ?_
    refine r_getR (q := 168) L_X3_168 dX3_lawOn_165 rfl (mw_k hm) (mwr_first hm) ?_
    refine r_iload (q := 170) dX3_lawOn_168 rfl 4 rfl ?_
    obtain ⟨g102, hw⟩ := hw
    refine r_ialdL (q := 171) dX3_lawOn_170 rfl (mwk_first hm) (mwl_first hm) g102 ?_
    refine r_imul (q := 172) dX3_lawOn_171 rfl ?_
    refine r_iadd (q := 173) dX3_lawOn_172 rfl ?_
    refine r_icmp_ne (tg := 184) (q := 176) dX3_lawOn_173 (by decide) rfl (fun c => ?_) (fun c => ?_)
    · have hw := hw.1 c
      exact hw
    · have hw := hw.2 c
      refine r_aload_n (q := 177) dX3_lawOn_176 rfl 0 rfl ?_
      refine r_getR (q := 180) L_X3_171 dX3_lawOn_177 rfl (mw_k hm) (mwr_second hm) ?_
      refine r_iload (q := 182) dX3_lawOn_180 rfl 4 rfl ?_
      obtain ⟨g103, hw⟩ := hw
      refine r_ialdL (q := 183) dX3_lawOn_182 rfl (mwk_second hm) (mwl_second hm) g103 ?_
      have hw := hw _ rfl
      refine r_istore_n (q := 184) (lv' := [(0, _), (2, _), (3, _), (4, _), (5, _)]) dX3_lawOn_183 rfl (Nat.le_of_ble_eq_true rfl) rfl ?_
      exact hw
theorem b_X3_lawOn_184 {x2 x3 x4 x5 : Int32} {mo : Nat} {h : Hp} {k n : Nat} {Q : Int32 → Hp → Prop} {E : Nat → Hp → Prop} (hm : MW h mo) (hw : vp_in x5 264 ∧ ((¬ (eI h (mo + 52) (ix x5)) = 31 → ∀ x102 : Int32, x102 = x5 + 1 → Rn M_X3_lawOn 19 [(0, rV mo), (2, iV x2), (3, iV x3), (4, iV x4), (5, iV x102)] [] h k n (qI Q) E) ∧ ((eI h (mo + 52) (ix x5)) = 31 → vp_in x5 264 ∧ ((¬ x2 = (14 + (2 * (eI h (mo + 53) (ix x5)))) → ∀ x104 : Int32, x104 = x5 + 1 → Rn M_X3_lawOn 19 [(0, rV mo), (2, iV x2), (3, iV x3), (4, iV x4), (5, iV x104)] [] h k n (qI Q) E) ∧ (x2 = (14 + (2 * (eI h (mo + 53) (ix x5)))) → vp_in x5 264 ∧ (∀ x106 : Int32, x106 = eI h (mo + 55) (ix x5) → ∀ x107 : Int32, x107 = x5 + 1 → Rn M_X3_lawOn 19 [(0, rV mo), (2, iV x2), (3, iV x106), (4, iV x4), (5, iV x107)] [] h k n (qI Q) E)))))) : Rn M_X3_lawOn 184 [(0, rV mo), (2, iV x2), (3, iV x3), (4, iV x4), (5, iV x5)] [] h k n (qI Q) E := by
  refine r_aload_n (q := 185) dX3_lawOn_184 rfl 0 rfl ?_
  refine r_getR (q := 188) L_X3_165 dX3_lawOn_185 rfl (mw_k hm) (mwr_sort hm) ?_
  refine r_iload (q := 190) dX3_lawOn_188 rfl 4 rfl ?_
  obtain ⟨g101, hw⟩ := hw
  refine r_ialdL (q := 191) dX3_lawOn_190 rfl (mwk_sort hm) (mwl_sort hm) g101 ?_
  refine r_bipush (q := 193) dX3_lawOn_191 rfl kB_31 ?_
  refine r_icmp_ne (tg := 220) (q := 196) dX3_lawOn_193 (by decide) rfl (fun c => ?_) (fun c => ?_)
  · have hw := hw.1 c
    have hw := hw _ rfl
    refine r_iincW (q := 223) (lv' := [(0, _), (2, _), (3, _), (4, _), (5, _)]) dX3_lawOn_220 rfl 4 rfl kI_1 (Nat.le_of_ble_eq_true rfl) rfl ?_
    refine r_goto (tg := 19) dX3_lawOn_223 (by decide) ?_
    exact hw
  · have hw := hw.2 c
    refine r_iload_n (q := 197) dX3_lawOn_196 rfl 1 rfl ?_
    refine r_bipush (q := 199) dX3_lawOn_197 rfl kB_14 ?_
    refine r_iconst (q := 200) dX3_lawOn_199 rfl kI_2 ?_
    refine r_aload_n (q := 201) dX3_lawOn_200 rfl 0 rfl ?_
    refine r_getR (q := 204) L_X3_168 dX3_lawOn_201 rfl (mw_k hm) (mwr_first hm) ?_
    refine r_iload (q := 206) dX3_lawOn_204 rfl 4 rfl ?_
    obtain ⟨g103, hw⟩ := hw
    refine r_ialdL (q := 207) dX3_lawOn_206 rfl (mwk_first hm) (mwl_first hm) g103 ?_
    refine r_imul (q := 208) dX3_lawOn_207 rfl ?_
    refine r_iadd (q := 209) dX3_lawOn_208 rfl ?_
    refine r_icmp_ne (tg := 220) (q := 212) dX3_lawOn_209 (by decide) rfl (fun c => ?_) (fun c => ?_)
    · have hw := hw.1 c
      have hw := hw _ rfl
      refine r_iincW (q := 223) (lv' := [(0, _), (2, _), (3, _), (4, _), (5, _)]) dX3_lawOn_220 rfl 4 rfl kI_1 (Nat.le_of_ble_eq_true rfl) rfl ?_
      refine r_goto (tg := 19) dX3_lawOn_223 (by decide) ?_
      exact hw
    · have hw := hw.2 c
      refine r_aload_n (q := 213) dX3_lawOn_212 rfl 0 rfl ?_
      refine r_getR (q := 216) L_X3_174 dX3_lawOn_213 rfl (mw_k hm) (mwr_third hm) ?_
      refine r_iload (q := 218) dX3_lawOn_216 rfl 4 rfl ?_
      obtain ⟨g105, hw⟩ := hw
      refine r_ialdL (q := 219) dX3_lawOn_218 rfl (mwk_third hm) (mwl_third hm) g105 ?_
      have hw := hw _ rfl
      refine r_istore_n (q := 220) (lv' := [(0, _), (2, _), (3, _), (4, _), (5, _)]) dX3_lawOn_219 rfl (Nat.le_of_ble_eq_true rfl) rfl ?_
      have hw := hw _ rfl
      refine r_iincW (q := 223) (lv' := [(0, _), (2, _), (3, _), (4, _), (5, _)]) dX3_lawOn_220 rfl 4 rfl kI_1 (Nat.le_of_ble_eq_true rfl) rfl ?_
      refine r_goto (tg := 19) dX3_lawOn_223 (by decide) ?_
      exact hw
