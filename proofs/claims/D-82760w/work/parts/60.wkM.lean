/-! walks -/
set_option maxRecDepth 100000
theorem b_X2_roofsOf_0 {x2 : Int32} {xo r1 : Nat} {h : Hp} {k n : Nat} {Q : Int32 → Hp → Prop} {E : Nat → Hp → Prop} (hm : XW h xo) (hw : Rn M_X2_roofsOf 5 [(0, rV (xo + 13)), (1, rV r1), (2, iV x2), (3, iV 0), (4, iV 0)] [] h k n (qI Q) E) : Rn M_X2_roofsOf 0 [(0, rV (xo + 13)), (1, rV r1), (2, iV x2)] [] h k n (qI Q) E := by
  refine r_iconst (q := 1) dX2_roofsOf_0 rfl kI_0 ?_
  refine r_istore_n (q := 2) (lv' := [(0, _), (1, _), (2, _), (3, _)]) dX2_roofsOf_1 rfl (Nat.le_of_ble_eq_true rfl) rfl ?_
  refine r_iconst (q := 3) dX2_roofsOf_2 rfl kI_0 ?_
  refine r_istore (q := 5) (lv' := [(0, _), (1, _), (2, _), (3, _), (4, _)]) dX2_roofsOf_3 rfl (Nat.le_of_ble_eq_true rfl) rfl ?_
  exact hw
theorem b_X2_roofsOf_5 {x2 x3 x4 : Int32} {xo r1 : Nat} {h : Hp} {k n : Nat} {Q : Int32 → Hp → Prop} {E : Nat → Hp → Prop} (hm : XW h xo) (hw : kd h r1 = 2 ∧ (kd h (gR h 110 r1) = 12 ∧ (((gI h 1102 (gR h 110 r1)) ≤ x4 → Q x3 h) ∧ (¬ (gI h 1102 (gR h 110 r1)) ≤ x4 → (ALg h (gR h 110 r1) x4) ∧ (kd h (el h (gR h 110 r1) (ix x4)) = 3 ∧ (∀ r105 : Nat, r105 = el h (gR h 110 r1) (ix x4) → ∀ x106 : Int32, x106 = x2 * (gI h 202 r105) → vp_in (gI h 200 r105) 30 ∧ (∀ x108 : Int32, x108 = imin x106 ((gI h 203 r105) - (eI h (xo + 15) (ix (gI h 200 r105)))) → ∀ h109 : Hp, h109 = pJ h 508 (xo + 13) ((gJ h 508 (xo + 13)) + (Int32.toInt64 x106)) → vp_in (gI h109 200 r105) 30 ∧ (vp_in (gI h109 200 r105) 30 ∧ (∀ h112 : Hp, h112 = sI h109 (xo + 15) (ix (gI h109 200 r105)) ((eI h109 (xo + 15) (ix (gI h109 200 r105))) + x108) → ∀ x113 : Int32, x113 = x3 + (x106 - x108) → ∀ x114 : Int32, x114 = x4 + 1 → Rn M_X2_roofsOf 5 [(0, rV (xo + 13)), (1, rV r1), (2, iV x2), (3, iV x113), (4, iV x114)] [] h112 k n (qI Q) E))))))))) : Rn M_X2_roofsOf 5 [(0, rV (xo + 13)), (1, rV r1), (2, iV x2), (3, iV x3), (4, iV x4)] [] h k n (qI Q) E := by
  refine r_iload (q := 7) dX2_roofsOf_5 rfl 4 rfl ?_
  refine r_aload_n (q := 8) dX2_roofsOf_7 rfl 1 rfl ?_
  obtain ⟨g101, hw⟩ := hw
  refine r_getR (q := 11) L_X2_119 dX2_roofsOf_8 rfl g101 rfl ?_
  obtain ⟨g102, hw⟩ := hw
  refine r_cVI0 (q := 14) _ [] N_X2_64 rfl dX2_roofsOf_11 rfl rfl rfl g102 rfl ?_
  refine ct_J2_size g102 ?_
  refine r_icmp_ge (tg := 104) (q := 17) dX2_roofsOf_14 (by decide) rfl (fun c => ?_) (fun c => ?_)
  · have hw := hw.1 c
    refine r_iload_n (q := 105) dX2_roofsOf_104 rfl 3 rfl ?_
    exact r_iret dX2_roofsOf_105 rfl hw
  · have hw := hw.2 c
    refine r_aload_n (q := 18) dX2_roofsOf_17 rfl 1 rfl ?_
    refine r_getR (q := 21) L_X2_119 dX2_roofsOf_18 rfl g101 rfl ?_
    refine r_iload (q := 23) dX2_roofsOf_21 rfl 4 rfl ?_
    obtain ⟨g103, hw⟩ := hw
    refine r_cVR0 (q := 26) _ [_] N_X2_73 rfl dX2_roofsOf_23 rfl rfl rfl g102 rfl ?_
    refine ct_J2_get g102 g103 ?_
    obtain ⟨g104, hw⟩ := hw
    refine r_cast (q := 29) q1188 rfl dX2_roofsOf_26 rfl g104 ?_
    have hw := hw _ rfl
    refine r_astore (q := 31) (lv' := [(0, _), (1, _), (2, _), (3, _), (4, _), (5, _)]) dX2_roofsOf_29 rfl (Nat.le_of_ble_eq_true rfl) rfl ?_
    refine r_iload_n (q := 32) dX2_roofsOf_31 rfl 2 rfl ?_
    refine r_aload (q := 34) dX2_roofsOf_32 rfl 5 rfl ?_
    refine r_getI (q := 37) L_X2_120 dX2_roofsOf_34 rfl g104 ?_
    refine r_imul (q := 38) dX2_roofsOf_37 rfl ?_
    have hw := hw _ rfl
    refine r_istore (q := 40) (lv' := [(0, _), (1, _), (2, _), (3, _), (4, _), (5, _), (6, _)]) dX2_roofsOf_38 rfl (Nat.le_of_ble_eq_true rfl) rfl ?_
    refine r_iload (q := 42) dX2_roofsOf_40 rfl 6 rfl ?_
    refine r_aload (q := 44) dX2_roofsOf_42 rfl 5 rfl ?_
    refine r_getI (q := 47) L_X2_121 dX2_roofsOf_44 rfl g104 ?_
    refine r_aload_n (q := 48) dX2_roofsOf_47 rfl 0 rfl ?_
    refine r_getR (q := 51) L_X2_19 dX2_roofsOf_48 rfl (xwk_run hm) (xwr_barrels_r hm) ?_
    refine r_aload (q := 53) dX2_roofsOf_51 rfl 5 rfl ?_
    refine r_getI (q := 56) L_X2_124 dX2_roofsOf_53 rfl g104 ?_
    obtain ⟨g107, hw⟩ := hw
    refine r_ialdL (q := 57) dX2_roofsOf_56 rfl (xwk_barrels_r hm) (xwl_barrels_r hm) g107 ?_
    refine r_isub (q := 58) dX2_roofsOf_57 rfl ?_
    refine r_mmin (q := 61) q1198 dX2_roofsOf_58 rfl rfl ?_
    have hw := hw _ rfl
    refine r_istore (q := 63) (lv' := [(0, _), (1, _), (2, _), (3, _), (4, _), (5, _), (6, _), (7, _)]) dX2_roofsOf_61 rfl (Nat.le_of_ble_eq_true rfl) rfl ?_
    refine r_aload_n (q := 64) dX2_roofsOf_63 rfl 0 rfl ?_
    refine r_dup (q := 65) dX2_roofsOf_64 rfl rfl ?_
    refine r_getJ (q := 68) L_X2_41 dX2_roofsOf_65 rfl (xwk_run hm) ?_
    refine r_iload (q := 70) dX2_roofsOf_68 rfl 6 rfl ?_
    refine r_i2l (q := 71) dX2_roofsOf_70 rfl ?_
    refine r_ladd (q := 72) dX2_roofsOf_71 rfl ?_
    refine r_putJ (q := 75) L_X2_41 dX2_roofsOf_72 rfl (xwk_run hm) ?_
    refine r_xw_pJ hm (fun hm => ?_)
    refine r_kpJ g101 (fun g101 => ?_)
    refine r_kpJ g102 (fun g102 => ?_)
    refine r_kpJ g104 (fun g104 => ?_)
    have hw := hw _ rfl
    refine r_aload_n (q := 76) dX2_roofsOf_75 rfl 0 rfl ?_
    refine r_getR (q := 79) L_X2_19 dX2_roofsOf_76 rfl (xwk_run hm) (xwr_barrels_r hm) ?_
    refine r_aload (q := 81) dX2_roofsOf_79 rfl 5 rfl ?_
    refine r_getI (q := 84) L_X2_124 dX2_roofsOf_81 rfl g104 ?_
    refine r_dup2 (q := 85) dX2_roofsOf_84 rfl rfl rfl ?_
    obtain ⟨g110, hw⟩ := hw
    refine r_ialdL (q := 86) dX2_roofsOf_85 rfl (xwk_barrels_r hm) (xwl_barrels_r hm) g110 ?_
    refine r_iload (q := 88) dX2_roofsOf_86 rfl 7 rfl ?_
    refine r_iadd (q := 89) dX2_roofsOf_88 rfl ?_
    obtain ⟨g111, hw⟩ := hw
    refine r_iastL (q := 90) dX2_roofsOf_89 rfl (xwk_barrels_r hm) (xwl_barrels_r hm) g111 ?_
    refine r_xw_sI hm (fun hm => ?_)
    refine r_ksI g101 (fun g101 => ?_)
    refine r_ksI g102 (fun g102 => ?_)
    refine r_ksI g104 (fun g104 => ?_)
    have hw := hw _ rfl
    refine r_iload_n (q := 91) dX2_roofsOf_90 rfl 3 rfl ?_
    refine r_iload (q := 93) dX2_roofsOf_91 rfl 6 rfl ?_
    refine r_iload (q := 95) dX2_roofsOf_93 rfl 7 rfl ?_
    refine r_isub (q := 96) dX2_roofsOf_95 rfl ?_
    refine r_iadd (q := 97) dX2_roofsOf_96 rfl ?_
    have hw := hw _ rfl
    refine r_istore_n (q := 98) (lv' := [(0, _), (1, _), (2, _), (3, _), (4, _), (5, _), (6, _), (7, _)]) dX2_roofsOf_97 rfl (Nat.le_of_ble_eq_true rfl) rfl ?_
    have hw := hw _ rfl
    refine r_iincW (q := 101) (lv' := [(0, _), (1, _), (2, _), (3, _), (4, _), (5, _), (6, _), (7, _)]) dX2_roofsOf_98 rfl 4 rfl kI_1 (Nat.le_of_ble_eq_true rfl) rfl ?_
    refine r_goto (tg := 5) dX2_roofsOf_101 (by decide) ?_
    exact r_sub [0, 1, 2, 3, 4] rfl hw
theorem b_X2_takes_0 {x2 : Int32} {xo r1 : Nat} {h : Hp} {k n : Nat} {Q : Int32 → Hp → Prop} {E : Nat → Hp → Prop} (hm : XW h xo) (hw : kd h r1 = 2 ∧ ((¬ ((shr (gI h 507 (xo + 13)) (gI h 100 r1)) &&& 1) = 1 → Rn M_X2_takes 20 [(0, rV (xo + 13)), (1, rV r1), (2, iV x2)] [iV 0] h k n (qI Q) E) ∧ (((shr (gI h 507 (xo + 13)) (gI h 100 r1)) &&& 1) = 1 → Rn M_X2_takes 20 [(0, rV (xo + 13)), (1, rV r1), (2, iV x2)] [iV 1] h k n (qI Q) E))) : Rn M_X2_takes 0 [(0, rV (xo + 13)), (1, rV r1), (2, iV x2)] [] h k n (qI Q) E := by
  refine r_aload_n (q := 1) dX2_takes_0 rfl 0 rfl ?_
  refine r_getI (q := 4) L_X2_37 dX2_takes_1 rfl (xwk_run hm) ?_
  refine r_aload_n (q := 5) dX2_takes_4 rfl 1 rfl ?_
  obtain ⟨g101, hw⟩ := hw
  refine r_getI (q := 8) L_X2_130 dX2_takes_5 rfl g101 ?_
  refine r_ishr (q := 9) dX2_takes_8 rfl ?_
  refine r_iconst (q := 10) dX2_takes_9 rfl kI_1 ?_
  refine r_iand (q := 11) dX2_takes_10 rfl ?_
  refine r_iconst (q := 12) dX2_takes_11 rfl kI_1 ?_
  refine r_icmp_ne (tg := 19) (q := 15) dX2_takes_12 (by decide) rfl (fun c => ?_) (fun c => ?_)
  · have hw := hw.1 c
    refine r_iconst (q := 20) dX2_takes_19 rfl kI_0 ?_
    exact hw
  · have hw := hw.2 c
    refine r_iconst (q := 16) dX2_takes_15 rfl kI_1 ?_
    refine r_goto (tg := 20) dX2_takes_16 (by decide) ?_
    exact hw
theorem b_X2_takes_20 {x2 a0 : Int32} {xo r1 : Nat} {h : Hp} {k n : Nat} {Q : Int32 → Hp → Prop} {E : Nat → Hp → Prop} (hm : XW h xo) (hw : kd h r1 = 2 ∧ ((¬ (gR h 109 r1) = 0 → Rn M_X2_takes 34 [(0, rV (xo + 13)), (1, rV r1), (2, iV x2), (3, iV a0)] [] h k n (qI Q) E) ∧ ((gR h 109 r1) = 0 → (¬ a0 = 0 → Rn M_X2_takes 34 [(0, rV (xo + 13)), (1, rV r1), (2, iV x2), (3, iV a0)] [] h k n (qI Q) E) ∧ (a0 = 0 → Q 0 h)))) : Rn M_X2_takes 20 [(0, rV (xo + 13)), (1, rV r1), (2, iV x2)] [iV a0] h k n (qI Q) E := by
  refine r_istore_n (q := 21) (lv' := [(0, _), (1, _), (2, _), (3, _)]) dX2_takes_20 rfl (Nat.le_of_ble_eq_true rfl) rfl ?_
  refine r_aload_n (q := 22) dX2_takes_21 rfl 1 rfl ?_
  obtain ⟨g101, hw⟩ := hw
  refine r_getR (q := 25) L_X2_131 dX2_takes_22 rfl g101 rfl ?_
  refine r_ifnonnull (tg := 34) (q := 28) dX2_takes_25 (by decide) rfl (fun c => ?_) (fun c => ?_)
  · have hw := hw.1 c
    exact hw
  · have hw := hw.2 c
    refine r_iload_n (q := 29) dX2_takes_28 rfl 3 rfl ?_
    refine r_if_ne (tg := 34) (q := 32) dX2_takes_29 (by decide) rfl (fun c => ?_) (fun c => ?_)
    · have hw := hw.1 c
      exact hw
    · have hw := hw.2 c
      refine r_iconst (q := 33) dX2_takes_32 rfl kI_0 ?_
      exact r_iret dX2_takes_33 rfl hw
theorem b_X2_takes_34 {x2 x3 : Int32} {xo r1 : Nat} {h : Hp} {k n : Nat} {Q : Int32 → Hp → Prop} {E : Nat → Hp → Prop} (hm : XW h xo) (hw : (x3 = 0 → kd h r1 = 2 ∧ (kd h (gR h 109 r1) = 4 ∧ (Rn M_X2_takes 57 [(0, rV (xo + 13)), (1, rV r1), (3, iV x3)] [iV ((x2 * (10 - (gI h 306 (gR h 109 r1)))) / 10)] h k n (qI Q) E))) ∧ (¬ x3 = 0 → Rn M_X2_takes 57 [(0, rV (xo + 13)), (1, rV r1), (3, iV x3)] [iV x2] h k n (qI Q) E)) : Rn M_X2_takes 34 [(0, rV (xo + 13)), (1, rV r1), (2, iV x2), (3, iV x3)] [] h k n (qI Q) E := by
  refine r_iload_n (q := 35) dX2_takes_34 rfl 3 rfl ?_
  refine r_if_eq (tg := 42) (q := 38) dX2_takes_35 (by decide) rfl (fun c => ?_) (fun c => ?_)
  · have hw := hw.1 c
    refine r_iload_n (q := 43) dX2_takes_42 rfl 2 rfl ?_
    refine r_bipush (q := 45) dX2_takes_43 rfl kB_10 ?_
    refine r_aload_n (q := 46) dX2_takes_45 rfl 1 rfl ?_
    obtain ⟨g101, hw⟩ := hw
    refine r_getR (q := 49) L_X2_131 dX2_takes_46 rfl g101 rfl ?_
    obtain ⟨g102, hw⟩ := hw
    refine r_getI (q := 52) L_X2_135 dX2_takes_49 rfl g102 ?_
    refine r_isub (q := 53) dX2_takes_52 rfl ?_
    refine r_imul (q := 54) dX2_takes_53 rfl ?_
    refine r_bipush (q := 56) dX2_takes_54 rfl kB_10 ?_
    refine r_idiv (q := 57) dX2_takes_56 rfl (by decide) ?_
    exact r_sub [0, 1, 3] rfl hw
  · have hw := hw.2 c
    refine r_iload_n (q := 39) dX2_takes_38 rfl 2 rfl ?_
    refine r_goto (tg := 57) dX2_takes_39 (by decide) ?_
    exact r_sub [0, 1, 3] rfl hw
theorem b_X2_takes_57 {x3 a0 : Int32} {xo r1 : Nat} {h : Hp} {k n : Nat} {Q : Int32 → Hp → Prop} {E : Nat → Hp → Prop} (hm : XW h xo) (hw : (x3 = 0 → kd h r1 = 2 ∧ (kd h (gR h 109 r1) = 4 ∧ (Rn M_X2_takes 77 [(0, rV (xo + 13)), (1, rV r1), (3, iV x3)] [iV (gI h 302 (gR h 109 r1)), iV a0] h k n (qI Q) E))) ∧ (¬ x3 = 0 → Rn M_X2_takes 77 [(0, rV (xo + 13)), (1, rV r1), (3, iV x3)] [iV 100, iV a0] h k n (qI Q) E)) : Rn M_X2_takes 57 [(0, rV (xo + 13)), (1, rV r1), (3, iV x3)] [iV a0] h k n (qI Q) E := by
  refine r_istore (q := 59) (lv' := [(0, _), (1, _), (3, _), (4, _)]) dX2_takes_57 rfl (Nat.le_of_ble_eq_true rfl) rfl ?_
  refine r_iload (q := 61) dX2_takes_59 rfl 3 rfl ?_
  refine r_iload_n (q := 62) dX2_takes_61 rfl 2 rfl ?_
  refine r_if_eq (tg := 70) (q := 65) dX2_takes_62 (by decide) rfl (fun c => ?_) (fun c => ?_)
  · have hw := hw.1 c
    refine r_aload_n (q := 71) dX2_takes_70 rfl 1 rfl ?_
    obtain ⟨g101, hw⟩ := hw
    refine r_getR (q := 74) L_X2_131 dX2_takes_71 rfl g101 rfl ?_
    obtain ⟨g102, hw⟩ := hw
    refine r_getI (q := 77) L_X2_140 dX2_takes_74 rfl g102 ?_
    exact r_sub [0, 1, 2] rfl hw
  · have hw := hw.2 c
    refine r_bipush (q := 67) dX2_takes_65 rfl kB_100 ?_
    refine r_goto (tg := 77) dX2_takes_67 (by decide) ?_
    exact r_sub [0, 1, 2] rfl hw
theorem b_X2_takes_77 {x3 a0 a1 : Int32} {xo r1 : Nat} {h : Hp} {k n : Nat} {Q : Int32 → Hp → Prop} {E : Nat → Hp → Prop} (hm : XW h xo) (hw : kd h r1 = 2 ∧ (vp_in (gI h 100 r1) 12 ∧ (∀ x103 : Int32, x103 = imin a1 (a0 - (eI h (xo + 14) (ix (gI h 100 r1)))) → vp_in (gI h 100 r1) 12 ∧ (vp_in (gI h 100 r1) 12 ∧ (∀ h106 : Hp, h106 = sI h (xo + 14) (ix (gI h 100 r1)) ((eI h (xo + 14) (ix (gI h 100 r1))) + x103) → vp_in (gI h106 100 r1) 12 ∧ ((x3 = 0 → kd h106 (gR h106 109 r1) = 4 ∧ ((P_X6_drink h106 (gR h106 109 r1)) ∧ (Rn M_X2_takes 138 [(0, rV (xo + 13)), (1, rV r1), (5, iV x103)] [iV (V_X6_drink h106 (gR h106 109 r1)), iV (eI h106 (xo + 14) (ix (gI h106 100 r1)))] h106 k n (qI Q) E))) ∧ (¬ x3 = 0 → kd h106 (gR h106 1 xo) = 61 ∧ (vp_in 0 (ln h106 (gR h106 1 xo)) ∧ (Rn M_X2_takes 138 [(0, rV (xo + 13)), (1, rV r1), (5, iV x103)] [iV (eI h106 (gR h106 1 xo) (ix 0)), iV (eI h106 (xo + 14) (ix (gI h106 100 r1)))] h106 k n (qI Q) E))))))))) : Rn M_X2_takes 77 [(0, rV (xo + 13)), (1, rV r1), (3, iV x3)] [iV a0, iV a1] h k n (qI Q) E := by
  refine r_aload_n (q := 78) dX2_takes_77 rfl 0 rfl ?_
  refine r_getR (q := 81) L_X2_15 dX2_takes_78 rfl (xwk_run hm) (xwr_bowls_r hm) ?_
  refine r_aload_n (q := 82) dX2_takes_81 rfl 1 rfl ?_
  obtain ⟨g101, hw⟩ := hw
  refine r_getI (q := 85) L_X2_130 dX2_takes_82 rfl g101 ?_
  obtain ⟨g102, hw⟩ := hw
  refine r_ialdL (q := 86) dX2_takes_85 rfl (xwk_bowls_r hm) (xwl_bowls_r hm) g102 ?_
  refine r_isub (q := 87) dX2_takes_86 rfl ?_
  refine r_mmin (q := 90) q1198 dX2_takes_87 rfl rfl ?_
  have hw := hw _ rfl
  refine r_istore (q := 92) (lv' := [(0, _), (1, _), (3, _), (5, _)]) dX2_takes_90 rfl (Nat.le_of_ble_eq_true rfl) rfl ?_
  refine r_aload_n (q := 93) dX2_takes_92 rfl 0 rfl ?_
  refine r_getR (q := 96) L_X2_15 dX2_takes_93 rfl (xwk_run hm) (xwr_bowls_r hm) ?_
  refine r_aload_n (q := 97) dX2_takes_96 rfl 1 rfl ?_
  refine r_getI (q := 100) L_X2_130 dX2_takes_97 rfl g101 ?_
  refine r_dup2 (q := 101) dX2_takes_100 rfl rfl rfl ?_
  obtain ⟨g104, hw⟩ := hw
  refine r_ialdL (q := 102) dX2_takes_101 rfl (xwk_bowls_r hm) (xwl_bowls_r hm) g104 ?_
  refine r_iload (q := 104) dX2_takes_102 rfl 3 rfl ?_
  refine r_iadd (q := 105) dX2_takes_104 rfl ?_
  obtain ⟨g105, hw⟩ := hw
  refine r_iastL (q := 106) dX2_takes_105 rfl (xwk_bowls_r hm) (xwl_bowls_r hm) g105 ?_
  refine r_xw_sI hm (fun hm => ?_)
  refine r_ksI g101 (fun g101 => ?_)
  have hw := hw _ rfl
  refine r_aload_n (q := 107) dX2_takes_106 rfl 0 rfl ?_
  refine r_getR (q := 110) L_X2_15 dX2_takes_107 rfl (xwk_run hm) (xwr_bowls_r hm) ?_
  refine r_aload_n (q := 111) dX2_takes_110 rfl 1 rfl ?_
  refine r_getI (q := 114) L_X2_130 dX2_takes_111 rfl g101 ?_
  obtain ⟨g107, hw⟩ := hw
  refine r_ialdL (q := 115) dX2_takes_114 rfl (xwk_bowls_r hm) (xwl_bowls_r hm) g107 ?_
  refine r_iload_n (q := 116) dX2_takes_115 rfl 2 rfl ?_
  refine r_if_eq (tg := 131) (q := 119) dX2_takes_116 (by decide) rfl (fun c => ?_) (fun c => ?_)
  · have hw := hw.1 c
    refine r_aload_n (q := 132) dX2_takes_131 rfl 1 rfl ?_
    refine r_getR (q := 135) L_X2_131 dX2_takes_132 rfl g101 rfl ?_
    obtain ⟨g108, hw⟩ := hw
    obtain ⟨g109, hw⟩ := hw
    refine r_cVI0 (q := 138) _ [] N_X2_145 rfl dX2_takes_135 rfl rfl rfl g108 rfl ?_
    refine ct_X6_drink g109 ?_
    exact r_sub [0, 1, 3] rfl hw
  · have hw := hw.2 c
    refine r_aload_n (q := 120) dX2_takes_119 rfl 0 rfl ?_
    refine r_getR (q := 123) L_X2_3 dX2_takes_120 rfl (xwk_run hm) (xwr_this hm) ?_
    refine r_getR (q := 126) L_X2_143 dX2_takes_123 rfl (xw_k hm) rfl ?_
    refine r_iconst (q := 127) dX2_takes_126 rfl kI_0 ?_
    obtain ⟨g110, hw⟩ := hw
    obtain ⟨g111, hw⟩ := hw
    refine r_ialdL (q := 128) dX2_takes_127 rfl g110 rfl g111 ?_
    refine r_goto (tg := 138) dX2_takes_128 (by decide) ?_
    exact r_sub [0, 1, 3] rfl hw
theorem b_X2_takes_138 {x5 a0 a1 : Int32} {xo r1 : Nat} {h : Hp} {k n : Nat} {Q : Int32 → Hp → Prop} {E : Nat → Hp → Prop} (hm : XW h xo) (hw : ∀ x101 : Int32, x101 = imin a1 a0 → kd h r1 = 2 ∧ (vp_in (gI h 100 r1) 12 ∧ (vp_in (gI h 100 r1) 12 ∧ (∀ h105 : Hp, h105 = sI h (xo + 14) (ix (gI h 100 r1)) ((eI h (xo + 14) (ix (gI h 100 r1))) - x101) → ∀ h106 : Hp, h106 = pJ h105 509 (xo + 13) ((gJ h105 509 (xo + 13)) + (Int32.toInt64 x101)) → Q x5 h106)))) : Rn M_X2_takes 138 [(0, rV (xo + 13)), (1, rV r1), (5, iV x5)] [iV a0, iV a1] h k n (qI Q) E := by
  refine r_mmin (q := 141) q1198 dX2_takes_138 rfl rfl ?_
  have hw := hw _ rfl
  refine r_istore (q := 143) (lv' := [(0, _), (1, _), (5, _), (6, _)]) dX2_takes_141 rfl (Nat.le_of_ble_eq_true rfl) rfl ?_
  refine r_aload_n (q := 144) dX2_takes_143 rfl 0 rfl ?_
  refine r_getR (q := 147) L_X2_15 dX2_takes_144 rfl (xwk_run hm) (xwr_bowls_r hm) ?_
  refine r_aload_n (q := 148) dX2_takes_147 rfl 1 rfl ?_
  obtain ⟨g102, hw⟩ := hw
  refine r_getI (q := 151) L_X2_130 dX2_takes_148 rfl g102 ?_
  refine r_dup2 (q := 152) dX2_takes_151 rfl rfl rfl ?_
  obtain ⟨g103, hw⟩ := hw
  refine r_ialdL (q := 153) dX2_takes_152 rfl (xwk_bowls_r hm) (xwl_bowls_r hm) g103 ?_
  refine r_iload (q := 155) dX2_takes_153 rfl 3 rfl ?_
  refine r_isub (q := 156) dX2_takes_155 rfl ?_
  obtain ⟨g104, hw⟩ := hw
  refine r_iastL (q := 157) dX2_takes_156 rfl (xwk_bowls_r hm) (xwl_bowls_r hm) g104 ?_
  refine r_xw_sI hm (fun hm => ?_)
  refine r_ksI g102 (fun g102 => ?_)
  have hw := hw _ rfl
  refine r_aload_n (q := 158) dX2_takes_157 rfl 0 rfl ?_
  refine r_dup (q := 159) dX2_takes_158 rfl rfl ?_
  refine r_getJ (q := 162) L_X2_45 dX2_takes_159 rfl (xwk_run hm) ?_
  refine r_iload (q := 164) dX2_takes_162 rfl 3 rfl ?_
  refine r_i2l (q := 165) dX2_takes_164 rfl ?_
  refine r_ladd (q := 166) dX2_takes_165 rfl ?_
  refine r_putJ (q := 169) L_X2_45 dX2_takes_166 rfl (xwk_run hm) ?_
  refine r_xw_pJ hm (fun hm => ?_)
  refine r_kpJ g102 (fun g102 => ?_)
  have hw := hw _ rfl
  refine r_iload (q := 171) dX2_takes_169 rfl 2 rfl ?_
  exact r_iret dX2_takes_171 rfl hw
theorem b_X2_minute_0 {x1 : Int32} {xo : Nat} {h : Hp} {k n : Nat} {Q : Hp → Prop} {E : Nat → Hp → Prop} (hm : XW h xo) (hw : kd h (gR h 2 xo) = 12 ∧ (∀ x102 : Int32, x102 = gI h 1102 (gR h 2 xo) → Rn M_X2_minute 13 [(0, rV (xo + 13)), (1, iV x1), (2, iV x102), (3, iV 0)] [] h k n (qV Q) E)) : Rn M_X2_minute 0 [(0, rV (xo + 13)), (1, iV x1)] [] h k n (qV Q) E := by
  refine r_aload_n (q := 1) dX2_minute_0 rfl 0 rfl ?_
  refine r_getR (q := 4) L_X2_3 dX2_minute_1 rfl (xwk_run hm) (xwr_this hm) ?_
  refine r_getR (q := 7) L_X2_60 dX2_minute_4 rfl (xw_k hm) rfl ?_
  obtain ⟨g101, hw⟩ := hw
  refine r_cVI0 (q := 10) _ [] N_X2_64 rfl dX2_minute_7 rfl rfl rfl g101 rfl ?_
  refine ct_J2_size g101 ?_
  have hw := hw _ rfl
  refine r_istore_n (q := 11) (lv' := [(0, _), (1, _), (2, _)]) dX2_minute_10 rfl (Nat.le_of_ble_eq_true rfl) rfl ?_
  refine r_iconst (q := 12) dX2_minute_11 rfl kI_0 ?_
  refine r_istore_n (q := 13) (lv' := [(0, _), (1, _), (2, _), (3, _)]) dX2_minute_12 rfl (Nat.le_of_ble_eq_true rfl) rfl ?_
  exact hw
theorem b_X2_minute_13 {x1 x2 x3 : Int32} {xo : Nat} {h : Hp} {k n : Nat} {Q : Hp → Prop} {E : Nat → Hp → Prop} (hm : XW h xo) (hw : (x2 < x3 → Rn M_X2_minute 40 [(0, rV (xo + 13)), (1, iV x1), (2, iV x2), (3, iV 0)] [] h k n (qV Q) E) ∧ (¬ x2 < x3 → vp_in x3 13 ∧ (∀ h102 : Hp, h102 = sI h (xo + 19) (ix x3) 0 → vp_in x3 13 ∧ (∀ h104 : Hp, h104 = sI h102 (xo + 20) (ix x3) 0 → ∀ x105 : Int32, x105 = x3 + 1 → Rn M_X2_minute 13 [(0, rV (xo + 13)), (1, iV x1), (2, iV x2), (3, iV x105)] [] h104 k n (qV Q) E)))) : Rn M_X2_minute 13 [(0, rV (xo + 13)), (1, iV x1), (2, iV x2), (3, iV x3)] [] h k n (qV Q) E := by
  refine r_iload_n (q := 14) dX2_minute_13 rfl 3 rfl ?_
  refine r_iload_n (q := 15) dX2_minute_14 rfl 2 rfl ?_
  refine r_icmp_gt (tg := 38) (q := 18) dX2_minute_15 (by decide) rfl (fun c => ?_) (fun c => ?_)
  · have hw := hw.1 c
    refine r_iconst (q := 39) dX2_minute_38 rfl kI_0 ?_
    refine r_istore_n (q := 40) (lv' := [(0, _), (1, _), (2, _), (3, _)]) dX2_minute_39 rfl (Nat.le_of_ble_eq_true rfl) rfl ?_
    exact hw
  · have hw := hw.2 c
    refine r_aload_n (q := 19) dX2_minute_18 rfl 0 rfl ?_
    refine r_getR (q := 22) L_X2_31 dX2_minute_19 rfl (xwk_run hm) (xwr_piped_r hm) ?_
    refine r_iload_n (q := 23) dX2_minute_22 rfl 3 rfl ?_
    refine r_iconst (q := 24) dX2_minute_23 rfl kI_0 ?_
    obtain ⟨g101, hw⟩ := hw
    refine r_iastL (q := 25) dX2_minute_24 rfl (xwk_piped_r hm) (xwl_piped_r hm) g101 ?_
    refine r_xw_sI hm (fun hm => ?_)
    have hw := hw _ rfl
    refine r_aload_n (q := 26) dX2_minute_25 rfl 0 rfl ?_
    refine r_getR (q := 29) L_X2_34 dX2_minute_26 rfl (xwk_run hm) (xwr_street_r hm) ?_
    refine r_iload_n (q := 30) dX2_minute_29 rfl 3 rfl ?_
    refine r_iconst (q := 31) dX2_minute_30 rfl kI_0 ?_
    obtain ⟨g103, hw⟩ := hw
    refine r_iastL (q := 32) dX2_minute_31 rfl (xwk_street_r hm) (xwl_street_r hm) g103 ?_
    refine r_xw_sI hm (fun hm => ?_)
    have hw := hw _ rfl
    have hw := hw _ rfl
    refine r_iincW (q := 35) (lv' := [(0, _), (1, _), (2, _), (3, _)]) dX2_minute_32 rfl 3 rfl kI_1 (Nat.le_of_ble_eq_true rfl) rfl ?_
    refine r_goto (tg := 13) dX2_minute_35 (by decide) ?_
    exact hw
theorem b_X2_minute_40 {x1 x2 x3 : Int32} {xo : Nat} {h : Hp} {k n : Nat} {Q : Hp → Prop} {E : Nat → Hp → Prop} (hm : XW h xo) (hw : (x2 ≤ x3 → vp_in x2 13 ∧ (∀ h102 : Hp, h102 = pJ h 511 (xo + 13) ((gJ h 511 (xo + 13)) + (Int32.toInt64 (eI h (xo + 19) (ix x2)))) → vp_in x2 13 ∧ (∀ h104 : Hp, h104 = pI h102 513 (xo + 13) (imax (gI h102 513 (xo + 13)) (eI h102 (xo + 19) (ix x2))) → Q h104))) ∧ (¬ x2 ≤ x3 → kd h (gR h 2 xo) = 12 ∧ ((ALg h (gR h 2 xo) x3) ∧ (kd h (el h (gR h 2 xo) (ix x3)) = 2 ∧ (∀ r108 : Nat, r108 = el h (gR h 2 xo) (ix x3) → vp_in x3 13 ∧ (CtI M_X2_roofsOf [rV (xo + 13), rV r108, iV x1] h 0 0 (fun x111 h110 => XW h110 xo ∧ (∀ x112 : Int32, x112 = ((eI h (xo + 20) (ix x3)) + (x1 * (gI h 101 r108))) + x111 → kd h110 r108 = 2 ∧ (∀ h114 : Hp, h114 = pJ h110 508 (xo + 13) ((gJ h110 508 (xo + 13)) + (Int32.toInt64 (x1 * (gI h110 101 r108)))) → vp_in x3 13 ∧ (CtI M_X2_takes [rV (xo + 13), rV r108, iV x112] h114 0 0 (fun x117 h116 => XW h116 xo ∧ (∀ x118 : Int32, x118 = ((eI h114 (xo + 19) (ix x3)) + x112) - x117 → kd h116 r108 = 2 ∧ (∀ x120 : Int32, x120 = imax 0 (x118 - (gI h116 102 r108)) → (0 ≤ (gI h116 105 r108) → Rn M_X2_minute 153 [(0, rV (xo + 13)), (1, iV x1), (2, iV x2), (3, iV x3), (4, rV r108), (6, iV x118), (7, iV x120)] [iV (gI h116 105 r108)] h116 k n (qV Q) E) ∧ (¬ 0 ≤ (gI h116 105 r108) → Rn M_X2_minute 153 [(0, rV (xo + 13)), (1, iV x1), (2, iV x2), (3, iV x3), (4, rV r108), (6, iV x118), (7, iV x120)] [iV x2] h116 k n (qV Q) E)))) E)))) E)))))) : Rn M_X2_minute 40 [(0, rV (xo + 13)), (1, iV x1), (2, iV x2), (3, iV x3)] [] h k n (qV Q) E := by
  refine r_iload_n (q := 41) dX2_minute_40 rfl 3 rfl ?_
  refine r_iload_n (q := 42) dX2_minute_41 rfl 2 rfl ?_
  refine r_icmp_ge (tg := 291) (q := 45) dX2_minute_42 (by decide) rfl (fun c => ?_) (fun c => ?_)
  · have hw := hw.1 c
    refine r_aload_n (q := 292) dX2_minute_291 rfl 0 rfl ?_
    refine r_dup (q := 293) dX2_minute_292 rfl rfl ?_
    refine r_getJ (q := 296) L_X2_51 dX2_minute_293 rfl (xwk_run hm) ?_
    refine r_aload_n (q := 297) dX2_minute_296 rfl 0 rfl ?_
    refine r_getR (q := 300) L_X2_31 dX2_minute_297 rfl (xwk_run hm) (xwr_piped_r hm) ?_
    refine r_iload_n (q := 301) dX2_minute_300 rfl 2 rfl ?_
    obtain ⟨g101, hw⟩ := hw
    refine r_ialdL (q := 302) dX2_minute_301 rfl (xwk_piped_r hm) (xwl_piped_r hm) g101 ?_
    refine r_i2l (q := 303) dX2_minute_302 rfl ?_
    refine r_ladd (q := 304) dX2_minute_303 rfl ?_
    refine r_putJ (q := 307) L_X2_51 dX2_minute_304 rfl (xwk_run hm) ?_
    refine r_xw_pJ hm (fun hm => ?_)
    have hw := hw _ rfl
    refine r_aload_n (q := 308) dX2_minute_307 rfl 0 rfl ?_
    refine r_aload_n (q := 309) dX2_minute_308 rfl 0 rfl ?_
    refine r_getI (q := 312) L_X2_57 dX2_minute_309 rfl (xwk_run hm) ?_
    refine r_aload_n (q := 313) dX2_minute_312 rfl 0 rfl ?_
    refine r_getR (q := 316) L_X2_31 dX2_minute_313 rfl (xwk_run hm) (xwr_piped_r hm) ?_
    refine r_iload_n (q := 317) dX2_minute_316 rfl 2 rfl ?_
    obtain ⟨g103, hw⟩ := hw
    refine r_ialdL (q := 318) dX2_minute_317 rfl (xwk_piped_r hm) (xwl_piped_r hm) g103 ?_
    refine r_mmax (q := 321) q1204 dX2_minute_318 rfl rfl ?_
    refine r_putI (q := 324) L_X2_57 dX2_minute_321 rfl (xwk_run hm) ?_
    refine r_xw_pI hm (fun hm => ?_)
    have hw := hw _ rfl
    exact r_vret dX2_minute_324 rfl hw
  · have hw := hw.2 c
    refine r_aload_n (q := 46) dX2_minute_45 rfl 0 rfl ?_
    refine r_getR (q := 49) L_X2_3 dX2_minute_46 rfl (xwk_run hm) (xwr_this hm) ?_
    refine r_getR (q := 52) L_X2_60 dX2_minute_49 rfl (xw_k hm) rfl ?_
    refine r_iload_n (q := 53) dX2_minute_52 rfl 3 rfl ?_
    obtain ⟨g105, hw⟩ := hw
    obtain ⟨g106, hw⟩ := hw
    refine r_cVR0 (q := 56) _ [_] N_X2_73 rfl dX2_minute_53 rfl rfl rfl g105 rfl ?_
    refine ct_J2_get g105 g106 ?_
    obtain ⟨g107, hw⟩ := hw
    refine r_cast (q := 59) q1193 rfl dX2_minute_56 rfl g107 ?_
    have hw := hw _ rfl
    refine r_astore (q := 61) (lv' := [(0, _), (1, _), (2, _), (3, _), (4, _)]) dX2_minute_59 rfl (Nat.le_of_ble_eq_true rfl) rfl ?_
    refine r_aload_n (q := 62) dX2_minute_61 rfl 0 rfl ?_
    refine r_getR (q := 65) L_X2_34 dX2_minute_62 rfl (xwk_run hm) (xwr_street_r hm) ?_
    refine r_iload_n (q := 66) dX2_minute_65 rfl 3 rfl ?_
    obtain ⟨g109, hw⟩ := hw
    refine r_ialdL (q := 67) dX2_minute_66 rfl (xwk_street_r hm) (xwl_street_r hm) g109 ?_
    refine r_iload_n (q := 68) dX2_minute_67 rfl 1 rfl ?_
    refine r_aload (q := 70) dX2_minute_68 rfl 4 rfl ?_
    refine r_getI (q := 73) L_X2_94 dX2_minute_70 rfl g107 ?_
    refine r_imul (q := 74) dX2_minute_73 rfl ?_
    refine r_iadd (q := 75) dX2_minute_74 rfl ?_
    refine r_aload_n (q := 76) dX2_minute_75 rfl 0 rfl ?_
    refine r_aload (q := 78) dX2_minute_76 rfl 4 rfl ?_
    refine r_iload_n (q := 79) dX2_minute_78 rfl 1 rfl ?_
    refine r_cVI0 (q := 82) _ [_, _] N_X2_97 rfl dX2_minute_79 rfl rfl rfl (xwk_run hm) rfl ?_
    refine r_monoCI (fun x111 h110 hw => ?_) hw
    obtain ⟨hm, hw⟩ := hw
    refine r_iadd (q := 83) dX2_minute_82 rfl ?_
    have hw := hw _ rfl
    refine r_istore (q := 85) (lv' := [(0, _), (1, _), (2, _), (3, _), (4, _), (5, _)]) dX2_minute_83 rfl (Nat.le_of_ble_eq_true rfl) rfl ?_
    refine r_aload_n (q := 86) dX2_minute_85 rfl 0 rfl ?_
    refine r_dup (q := 87) dX2_minute_86 rfl rfl ?_
    refine r_getJ (q := 90) L_X2_41 dX2_minute_87 rfl (xwk_run hm) ?_
    refine r_iload_n (q := 91) dX2_minute_90 rfl 1 rfl ?_
    refine r_aload (q := 93) dX2_minute_91 rfl 4 rfl ?_
    obtain ⟨g113, hw⟩ := hw
    refine r_getI (q := 96) L_X2_94 dX2_minute_93 rfl g113 ?_
    refine r_imul (q := 97) dX2_minute_96 rfl ?_
    refine r_i2l (q := 98) dX2_minute_97 rfl ?_
    refine r_ladd (q := 99) dX2_minute_98 rfl ?_
    refine r_putJ (q := 102) L_X2_41 dX2_minute_99 rfl (xwk_run hm) ?_
    refine r_xw_pJ hm (fun hm => ?_)
    refine r_kpJ g113 (fun g113 => ?_)
    have hw := hw _ rfl
    refine r_aload_n (q := 103) dX2_minute_102 rfl 0 rfl ?_
    refine r_getR (q := 106) L_X2_31 dX2_minute_103 rfl (xwk_run hm) (xwr_piped_r hm) ?_
    refine r_iload_n (q := 107) dX2_minute_106 rfl 3 rfl ?_
    obtain ⟨g115, hw⟩ := hw
    refine r_ialdL (q := 108) dX2_minute_107 rfl (xwk_piped_r hm) (xwl_piped_r hm) g115 ?_
    refine r_iload (q := 110) dX2_minute_108 rfl 5 rfl ?_
    refine r_iadd (q := 111) dX2_minute_110 rfl ?_
    refine r_aload_n (q := 112) dX2_minute_111 rfl 0 rfl ?_
    refine r_aload (q := 114) dX2_minute_112 rfl 4 rfl ?_
    refine r_iload (q := 116) dX2_minute_114 rfl 5 rfl ?_
    refine r_cVI0 (q := 119) _ [_, _] N_X2_101 rfl dX2_minute_116 rfl rfl rfl (xwk_run hm) rfl ?_
    refine r_monoCI (fun x117 h116 hw => ?_) hw
    obtain ⟨hm, hw⟩ := hw
    refine r_isub (q := 120) dX2_minute_119 rfl ?_
    have hw := hw _ rfl
    refine r_istore (q := 122) (lv' := [(0, _), (1, _), (2, _), (3, _), (4, _), (5, _), (6, _)]) dX2_minute_120 rfl (Nat.le_of_ble_eq_true rfl) rfl ?_
    refine r_iconst (q := 123) dX2_minute_122 rfl kI_0 ?_
    refine r_iload (q := 125) dX2_minute_123 rfl 6 rfl ?_
    refine r_aload (q := 127) dX2_minute_125 rfl 4 rfl ?_
    obtain ⟨g119, hw⟩ := hw
    refine r_getI (q := 130) L_X2_104 dX2_minute_127 rfl g119 ?_
    refine r_isub (q := 131) dX2_minute_130 rfl ?_
    refine r_mmax (q := 134) q1204 dX2_minute_131 rfl rfl ?_
    have hw := hw _ rfl
    refine r_istore (q := 136) (lv' := [(0, _), (1, _), (2, _), (3, _), (4, _), (5, _), (6, _), (7, _)]) dX2_minute_134 rfl (Nat.le_of_ble_eq_true rfl) rfl ?_
    refine r_aload (q := 138) dX2_minute_136 rfl 4 rfl ?_
    refine r_getI (q := 141) L_X2_113 dX2_minute_138 rfl g119 ?_
    refine r_if_ge (tg := 148) (q := 144) dX2_minute_141 (by decide) rfl (fun c => ?_) (fun c => ?_)
    · have hw := hw.1 c
      refine r_aload (q := 150) dX2_minute_148 rfl 4 rfl ?_
      refine r_getI (q := 153) L_X2_113 dX2_minute_150 rfl g119 ?_
      exact r_sub [0, 1, 2, 3, 4, 6, 7] rfl hw
    · have hw := hw.2 c
      refine r_iload_n (q := 145) dX2_minute_144 rfl 2 rfl ?_
      refine r_goto (tg := 153) dX2_minute_145 (by decide) ?_
      exact r_sub [0, 1, 2, 3, 4, 6, 7] rfl hw
theorem b_X2_minute_153 {x1 x2 x3 x6 x7 a0 : Int32} {xo r4 : Nat} {h : Hp} {k n : Nat} {Q : Hp → Prop} {E : Nat → Hp → Prop} (hm : XW h xo) (hw : (¬ a0 = x2 → Rn M_X2_minute 169 [(0, rV (xo + 13)), (1, iV x1), (2, iV x2), (3, iV x3), (4, rV r4), (6, iV x6), (7, iV x7), (8, iV a0)] [iV (x7 / 2)] h k n (qV Q) E) ∧ (a0 = x2 → Rn M_X2_minute 169 [(0, rV (xo + 13)), (1, iV x1), (2, iV x2), (3, iV x3), (4, rV r4), (6, iV x6), (7, iV x7), (8, iV a0)] [iV 0] h k n (qV Q) E)) : Rn M_X2_minute 153 [(0, rV (xo + 13)), (1, iV x1), (2, iV x2), (3, iV x3), (4, rV r4), (6, iV x6), (7, iV x7)] [iV a0] h k n (qV Q) E := by
  refine r_istore (q := 155) (lv' := [(0, _), (1, _), (2, _), (3, _), (4, _), (6, _), (7, _), (8, _)]) dX2_minute_153 rfl (Nat.le_of_ble_eq_true rfl) rfl ?_
  refine r_iload (q := 157) dX2_minute_155 rfl 7 rfl ?_
  refine r_iload_n (q := 158) dX2_minute_157 rfl 2 rfl ?_
  refine r_icmp_ne (tg := 165) (q := 161) dX2_minute_158 (by decide) rfl (fun c => ?_) (fun c => ?_)
  · have hw := hw.1 c
    refine r_iload (q := 167) dX2_minute_165 rfl 6 rfl ?_
    refine r_iconst (q := 168) dX2_minute_167 rfl kI_2 ?_
    refine r_idiv (q := 169) dX2_minute_168 rfl (by decide) ?_
    exact hw
  · have hw := hw.2 c
    refine r_iconst (q := 162) dX2_minute_161 rfl kI_0 ?_
    refine r_goto (tg := 169) dX2_minute_162 (by decide) ?_
    exact hw
theorem b_X2_minute_169 {x1 x2 x3 x6 x7 x8 a0 : Int32} {xo r4 : Nat} {h : Hp} {k n : Nat} {Q : Hp → Prop} {E : Nat → Hp → Prop} (hm : XW h xo) (hw : vp_in x8 13 ∧ (vp_in x8 13 ∧ (∀ h103 : Hp, h103 = sI h (xo + 19) (ix x8) ((eI h (xo + 19) (ix x8)) + (x6 - x7)) → vp_in x8 13 ∧ (vp_in x8 13 ∧ (∀ h106 : Hp, h106 = sI h103 (xo + 20) (ix x8) ((eI h103 (xo + 20) (ix x8)) + a0) → vp_in x3 12 ∧ (vp_in x3 12 ∧ (∀ h109 : Hp, h109 = sI h106 (xo + 16) (ix x3) ((eI h106 (xo + 16) (ix x3)) + (x7 - a0)) → ∀ h110 : Hp, h110 = pJ h109 510 (xo + 13) ((gJ h109 510 (xo + 13)) + (Int32.toInt64 (x7 - a0))) → vp_in x3 12 ∧ (vp_in x3 12 ∧ (∀ h113 : Hp, h113 = sI h110 (xo + 18) (ix x3) (imax (eI h110 (xo + 18) (ix x3)) (x6 - x7)) → kd h113 r4 = 2 ∧ (((gI h113 104 r4) ≤ 0 → ∀ x115 : Int32, x115 = x3 + 1 → Rn M_X2_minute 40 [(0, rV (xo + 13)), (1, iV x1), (2, iV x2), (3, iV x115)] [] h113 k n (qV Q) E) ∧ (¬ (gI h113 104 r4) ≤ 0 → (x7 ≤ (gI h113 104 r4) → ∀ x116 : Int32, x116 = x3 + 1 → Rn M_X2_minute 40 [(0, rV (xo + 13)), (1, iV x1), (2, iV x2), (3, iV x116)] [] h113 k n (qV Q) E) ∧ (¬ x7 ≤ (gI h113 104 r4) → vp_in x3 12 ∧ (vp_in x3 12 ∧ (∀ h119 : Hp, h119 = sI h113 (xo + 17) (ix x3) ((eI h113 (xo + 17) (ix x3)) + 1) → ∀ h120 : Hp, h120 = pI h119 512 (xo + 13) ((gI h119 512 (xo + 13)) + 1) → ∀ x121 : Int32, x121 = x3 + 1 → Rn M_X2_minute 40 [(0, rV (xo + 13)), (1, iV x1), (2, iV x2), (3, iV x121)] [] h120 k n (qV Q) E)))))))))))))) : Rn M_X2_minute 169 [(0, rV (xo + 13)), (1, iV x1), (2, iV x2), (3, iV x3), (4, rV r4), (6, iV x6), (7, iV x7), (8, iV x8)] [iV a0] h k n (qV Q) E := by
  refine r_istore (q := 171) (lv' := [(0, _), (1, _), (2, _), (3, _), (4, _), (6, _), (7, _), (8, _), (9, _)]) dX2_minute_169 rfl (Nat.le_of_ble_eq_true rfl) rfl ?_
  refine r_aload_n (q := 172) dX2_minute_171 rfl 0 rfl ?_
  refine r_getR (q := 175) L_X2_31 dX2_minute_172 rfl (xwk_run hm) (xwr_piped_r hm) ?_
  refine r_iload (q := 177) dX2_minute_175 rfl 7 rfl ?_
  refine r_dup2 (q := 178) dX2_minute_177 rfl rfl rfl ?_
  obtain ⟨g101, hw⟩ := hw
  refine r_ialdL (q := 179) dX2_minute_178 rfl (xwk_piped_r hm) (xwl_piped_r hm) g101 ?_
  refine r_iload (q := 181) dX2_minute_179 rfl 5 rfl ?_
  refine r_iload (q := 183) dX2_minute_181 rfl 6 rfl ?_
  refine r_isub (q := 184) dX2_minute_183 rfl ?_
  refine r_iadd (q := 185) dX2_minute_184 rfl ?_
  obtain ⟨g102, hw⟩ := hw
  refine r_iastL (q := 186) dX2_minute_185 rfl (xwk_piped_r hm) (xwl_piped_r hm) g102 ?_
  refine r_xw_sI hm (fun hm => ?_)
  have hw := hw _ rfl
  refine r_aload_n (q := 187) dX2_minute_186 rfl 0 rfl ?_
  refine r_getR (q := 190) L_X2_34 dX2_minute_187 rfl (xwk_run hm) (xwr_street_r hm) ?_
  refine r_iload (q := 192) dX2_minute_190 rfl 7 rfl ?_
  refine r_dup2 (q := 193) dX2_minute_192 rfl rfl rfl ?_
  obtain ⟨g104, hw⟩ := hw
  refine r_ialdL (q := 194) dX2_minute_193 rfl (xwk_street_r hm) (xwl_street_r hm) g104 ?_
  refine r_iload (q := 196) dX2_minute_194 rfl 8 rfl ?_
  refine r_iadd (q := 197) dX2_minute_196 rfl ?_
  obtain ⟨g105, hw⟩ := hw
  refine r_iastL (q := 198) dX2_minute_197 rfl (xwk_street_r hm) (xwl_street_r hm) g105 ?_
  refine r_xw_sI hm (fun hm => ?_)
  have hw := hw _ rfl
  refine r_aload_n (q := 199) dX2_minute_198 rfl 0 rfl ?_
  refine r_getR (q := 202) L_X2_22 dX2_minute_199 rfl (xwk_run hm) (xwr_spills_r hm) ?_
  refine r_iload_n (q := 203) dX2_minute_202 rfl 3 rfl ?_
  refine r_dup2 (q := 204) dX2_minute_203 rfl rfl rfl ?_
  obtain ⟨g107, hw⟩ := hw
  refine r_ialdL (q := 205) dX2_minute_204 rfl (xwk_spills_r hm) (xwl_spills_r hm) g107 ?_
  refine r_iload (q := 207) dX2_minute_205 rfl 6 rfl ?_
  refine r_iload (q := 209) dX2_minute_207 rfl 8 rfl ?_
  refine r_isub (q := 210) dX2_minute_209 rfl ?_
  refine r_iadd (q := 211) dX2_minute_210 rfl ?_
  obtain ⟨g108, hw⟩ := hw
  refine r_iastL (q := 212) dX2_minute_211 rfl (xwk_spills_r hm) (xwl_spills_r hm) g108 ?_
  refine r_xw_sI hm (fun hm => ?_)
  have hw := hw _ rfl
  refine r_aload_n (q := 213) dX2_minute_212 rfl 0 rfl ?_
  refine r_dup (q := 214) dX2_minute_213 rfl rfl ?_
  refine r_getJ (q := 217) L_X2_48 dX2_minute_214 rfl (xwk_run hm) ?_
  refine r_iload (q := 219) dX2_minute_217 rfl 6 rfl ?_
  refine r_iload (q := 221) dX2_minute_219 rfl 8 rfl ?_
  refine r_isub (q := 222) dX2_minute_221 rfl ?_
  refine r_i2l (q := 223) dX2_minute_222 rfl ?_
  refine r_ladd (q := 224) dX2_minute_223 rfl ?_
  refine r_putJ (q := 227) L_X2_48 dX2_minute_224 rfl (xwk_run hm) ?_
  refine r_xw_pJ hm (fun hm => ?_)
  have hw := hw _ rfl
  refine r_aload_n (q := 228) dX2_minute_227 rfl 0 rfl ?_
  refine r_getR (q := 231) L_X2_28 dX2_minute_228 rfl (xwk_run hm) (xwr_most_r hm) ?_
  refine r_iload_n (q := 232) dX2_minute_231 rfl 3 rfl ?_
  refine r_aload_n (q := 233) dX2_minute_232 rfl 0 rfl ?_
  refine r_getR (q := 236) L_X2_28 dX2_minute_233 rfl (xwk_run hm) (xwr_most_r hm) ?_
  refine r_iload_n (q := 237) dX2_minute_236 rfl 3 rfl ?_
  obtain ⟨g111, hw⟩ := hw
  refine r_ialdL (q := 238) dX2_minute_237 rfl (xwk_most_r hm) (xwl_most_r hm) g111 ?_
  refine r_iload (q := 240) dX2_minute_238 rfl 5 rfl ?_
  refine r_iload (q := 242) dX2_minute_240 rfl 6 rfl ?_
  refine r_isub (q := 243) dX2_minute_242 rfl ?_
  refine r_mmax (q := 246) q1204 dX2_minute_243 rfl rfl ?_
  obtain ⟨g112, hw⟩ := hw
  refine r_iastL (q := 247) dX2_minute_246 rfl (xwk_most_r hm) (xwl_most_r hm) g112 ?_
  refine r_xw_sI hm (fun hm => ?_)
  have hw := hw _ rfl
  refine r_aload (q := 249) dX2_minute_247 rfl 4 rfl ?_
  obtain ⟨g114, hw⟩ := hw
  refine r_getI (q := 252) L_X2_116 dX2_minute_249 rfl g114 ?_
  refine r_if_le (tg := 285) (q := 255) dX2_minute_252 (by decide) rfl (fun c => ?_) (fun c => ?_)
  · have hw := hw.1 c
    have hw := hw _ rfl
    refine r_iincW (q := 288) (lv' := [(0, _), (1, _), (2, _), (3, _), (4, _), (6, _), (7, _), (8, _), (9, _)]) dX2_minute_285 rfl 3 rfl kI_1 (Nat.le_of_ble_eq_true rfl) rfl ?_
    refine r_goto (tg := 40) dX2_minute_288 (by decide) ?_
    exact r_sub [0, 1, 2, 3] rfl hw
  · have hw := hw.2 c
    refine r_iload (q := 257) dX2_minute_255 rfl 6 rfl ?_
    refine r_aload (q := 259) dX2_minute_257 rfl 4 rfl ?_
    refine r_getI (q := 262) L_X2_116 dX2_minute_259 rfl g114 ?_
    refine r_icmp_le (tg := 285) (q := 265) dX2_minute_262 (by decide) rfl (fun c => ?_) (fun c => ?_)
    · have hw := hw.1 c
      have hw := hw _ rfl
      refine r_iincW (q := 288) (lv' := [(0, _), (1, _), (2, _), (3, _), (4, _), (6, _), (7, _), (8, _), (9, _)]) dX2_minute_285 rfl 3 rfl kI_1 (Nat.le_of_ble_eq_true rfl) rfl ?_
      refine r_goto (tg := 40) dX2_minute_288 (by decide) ?_
      exact r_sub [0, 1, 2, 3] rfl hw
    · have hw := hw.2 c
      refine r_aload_n (q := 266) dX2_minute_265 rfl 0 rfl ?_
      refine r_getR (q := 269) L_X2_25 dX2_minute_266 rfl (xwk_run hm) (xwr_wet_r hm) ?_
      refine r_iload_n (q := 270) dX2_minute_269 rfl 3 rfl ?_
      refine r_dup2 (q := 271) dX2_minute_270 rfl rfl rfl ?_
      obtain ⟨g117, hw⟩ := hw
      refine r_ialdL (q := 272) dX2_minute_271 rfl (xwk_wet_r hm) (xwl_wet_r hm) g117 ?_
      refine r_iconst (q := 273) dX2_minute_272 rfl kI_1 ?_
      refine r_iadd (q := 274) dX2_minute_273 rfl ?_
      obtain ⟨g118, hw⟩ := hw
      refine r_iastL (q := 275) dX2_minute_274 rfl (xwk_wet_r hm) (xwl_wet_r hm) g118 ?_
      refine r_xw_sI hm (fun hm => ?_)
      refine r_ksI g114 (fun g114 => ?_)
      have hw := hw _ rfl
      refine r_aload_n (q := 276) dX2_minute_275 rfl 0 rfl ?_
      refine r_dup (q := 277) dX2_minute_276 rfl rfl ?_
      refine r_getI (q := 280) L_X2_54 dX2_minute_277 rfl (xwk_run hm) ?_
      refine r_iconst (q := 281) dX2_minute_280 rfl kI_1 ?_
      refine r_iadd (q := 282) dX2_minute_281 rfl ?_
      refine r_putI (q := 285) L_X2_54 dX2_minute_282 rfl (xwk_run hm) ?_
      refine r_xw_pI hm (fun hm => ?_)
      refine r_kpI g114 (fun g114 => ?_)
      have hw := hw _ rfl
      have hw := hw _ rfl
      refine r_iincW (q := 288) (lv' := [(0, _), (1, _), (2, _), (3, _), (4, _), (6, _), (7, _), (8, _), (9, _)]) dX2_minute_285 rfl 3 rfl kI_1 (Nat.le_of_ble_eq_true rfl) rfl ?_
      refine r_goto (tg := 40) dX2_minute_288 (by decide) ?_
      exact r_sub [0, 1, 2, 3] rfl hw
theorem b_X2_runs_0 {x1 : Int32} {xo : Nat} {h : Hp} {k n : Nat} {Q : Hp → Prop} {E : Nat → Hp → Prop} (hm : XW h xo) (hw : ∀ h101 : Hp, h101 = pI h 507 (xo + 13) x1 → ∀ h102 : Hp, h102 = pJ h101 508 (xo + 13) 0 → ∀ h103 : Hp, h103 = pJ h102 509 (xo + 13) 0 → ∀ h104 : Hp, h104 = pJ h103 510 (xo + 13) 0 → ∀ h105 : Hp, h105 = pJ h104 511 (xo + 13) 0 → ∀ h106 : Hp, h106 = pI h105 512 (xo + 13) 0 → ∀ h107 : Hp, h107 = pI h106 513 (xo + 13) 0 → Rn M_X2_runs 37 [(0, rV (xo + 13)), (2, iV 0)] [] h107 k n (qV Q) E) : Rn M_X2_runs 0 [(0, rV (xo + 13)), (1, iV x1)] [] h k n (qV Q) E := by
  refine r_aload_n (q := 1) dX2_runs_0 rfl 0 rfl ?_
  refine r_iload_n (q := 2) dX2_runs_1 rfl 1 rfl ?_
  refine r_putI (q := 5) L_X2_37 dX2_runs_2 rfl (xwk_run hm) ?_
  refine r_xw_pI hm (fun hm => ?_)
  have hw := hw _ rfl
  refine r_aload_n (q := 6) dX2_runs_5 rfl 0 rfl ?_
  refine r_lconst (q := 7) dX2_runs_6 rfl kL_0 ?_
  refine r_putJ (q := 10) L_X2_41 dX2_runs_7 rfl (xwk_run hm) ?_
  refine r_xw_pJ hm (fun hm => ?_)
  have hw := hw _ rfl
  refine r_aload_n (q := 11) dX2_runs_10 rfl 0 rfl ?_
  refine r_lconst (q := 12) dX2_runs_11 rfl kL_0 ?_
  refine r_putJ (q := 15) L_X2_45 dX2_runs_12 rfl (xwk_run hm) ?_
  refine r_xw_pJ hm (fun hm => ?_)
  have hw := hw _ rfl
  refine r_aload_n (q := 16) dX2_runs_15 rfl 0 rfl ?_
  refine r_lconst (q := 17) dX2_runs_16 rfl kL_0 ?_
  refine r_putJ (q := 20) L_X2_48 dX2_runs_17 rfl (xwk_run hm) ?_
  refine r_xw_pJ hm (fun hm => ?_)
  have hw := hw _ rfl
  refine r_aload_n (q := 21) dX2_runs_20 rfl 0 rfl ?_
  refine r_lconst (q := 22) dX2_runs_21 rfl kL_0 ?_
  refine r_putJ (q := 25) L_X2_51 dX2_runs_22 rfl (xwk_run hm) ?_
  refine r_xw_pJ hm (fun hm => ?_)
  have hw := hw _ rfl
  refine r_aload_n (q := 26) dX2_runs_25 rfl 0 rfl ?_
  refine r_iconst (q := 27) dX2_runs_26 rfl kI_0 ?_
  refine r_putI (q := 30) L_X2_54 dX2_runs_27 rfl (xwk_run hm) ?_
  refine r_xw_pI hm (fun hm => ?_)
  have hw := hw _ rfl
  refine r_aload_n (q := 31) dX2_runs_30 rfl 0 rfl ?_
  refine r_iconst (q := 32) dX2_runs_31 rfl kI_0 ?_
  refine r_putI (q := 35) L_X2_57 dX2_runs_32 rfl (xwk_run hm) ?_
  refine r_xw_pI hm (fun hm => ?_)
  have hw := hw _ rfl
  refine r_iconst (q := 36) dX2_runs_35 rfl kI_0 ?_
  refine r_istore_n (q := 37) (lv' := [(0, _), (1, _), (2, _)]) dX2_runs_36 rfl (Nat.le_of_ble_eq_true rfl) rfl ?_
  exact r_sub [0, 2] rfl hw
theorem b_X2_runs_37 {x2 : Int32} {xo : Nat} {h : Hp} {k n : Nat} {Q : Hp → Prop} {E : Nat → Hp → Prop} (hm : XW h xo) (hw : kd h (gR h 2 xo) = 12 ∧ (((gI h 1102 (gR h 2 xo)) ≤ x2 → Rn M_X2_runs 87 [(0, rV (xo + 13)), (2, iV 0)] [] h k n (qV Q) E) ∧ (¬ (gI h 1102 (gR h 2 xo)) ≤ x2 → vp_in x2 12 ∧ (∀ h103 : Hp, h103 = sI h (xo + 14) (ix x2) 0 → vp_in x2 12 ∧ (∀ h105 : Hp, h105 = sI h103 (xo + 16) (ix x2) 0 → vp_in x2 12 ∧ (∀ h107 : Hp, h107 = sI h105 (xo + 17) (ix x2) 0 → vp_in x2 12 ∧ (∀ h109 : Hp, h109 = sI h107 (xo + 18) (ix x2) 0 → ∀ x110 : Int32, x110 = x2 + 1 → Rn M_X2_runs 37 [(0, rV (xo + 13)), (2, iV x110)] [] h109 k n (qV Q) E))))))) : Rn M_X2_runs 37 [(0, rV (xo + 13)), (2, iV x2)] [] h k n (qV Q) E := by
  refine r_iload_n (q := 38) dX2_runs_37 rfl 1 rfl ?_
  refine r_aload_n (q := 39) dX2_runs_38 rfl 0 rfl ?_
  refine r_getR (q := 42) L_X2_3 dX2_runs_39 rfl (xwk_run hm) (xwr_this hm) ?_
  refine r_getR (q := 45) L_X2_60 dX2_runs_42 rfl (xw_k hm) rfl ?_
  obtain ⟨g101, hw⟩ := hw
  refine r_cVI0 (q := 48) _ [] N_X2_64 rfl dX2_runs_45 rfl rfl rfl g101 rfl ?_
  refine ct_J2_size g101 ?_
  refine r_icmp_ge (tg := 85) (q := 51) dX2_runs_48 (by decide) rfl (fun c => ?_) (fun c => ?_)
  · have hw := hw.1 c
    refine r_iconst (q := 86) dX2_runs_85 rfl kI_0 ?_
    refine r_istore_n (q := 87) (lv' := [(0, _), (2, _)]) dX2_runs_86 rfl (Nat.le_of_ble_eq_true rfl) rfl ?_
    exact hw
  · have hw := hw.2 c
    refine r_aload_n (q := 52) dX2_runs_51 rfl 0 rfl ?_
    refine r_getR (q := 55) L_X2_15 dX2_runs_52 rfl (xwk_run hm) (xwr_bowls_r hm) ?_
    refine r_iload_n (q := 56) dX2_runs_55 rfl 1 rfl ?_
    refine r_iconst (q := 57) dX2_runs_56 rfl kI_0 ?_
    obtain ⟨g102, hw⟩ := hw
    refine r_iastL (q := 58) dX2_runs_57 rfl (xwk_bowls_r hm) (xwl_bowls_r hm) g102 ?_
    refine r_xw_sI hm (fun hm => ?_)
    refine r_ksI g101 (fun g101 => ?_)
    have hw := hw _ rfl
    refine r_aload_n (q := 59) dX2_runs_58 rfl 0 rfl ?_
    refine r_getR (q := 62) L_X2_22 dX2_runs_59 rfl (xwk_run hm) (xwr_spills_r hm) ?_
    refine r_iload_n (q := 63) dX2_runs_62 rfl 1 rfl ?_
    refine r_iconst (q := 64) dX2_runs_63 rfl kI_0 ?_
    obtain ⟨g104, hw⟩ := hw
    refine r_iastL (q := 65) dX2_runs_64 rfl (xwk_spills_r hm) (xwl_spills_r hm) g104 ?_
    refine r_xw_sI hm (fun hm => ?_)
    refine r_ksI g101 (fun g101 => ?_)
    have hw := hw _ rfl
    refine r_aload_n (q := 66) dX2_runs_65 rfl 0 rfl ?_
    refine r_getR (q := 69) L_X2_25 dX2_runs_66 rfl (xwk_run hm) (xwr_wet_r hm) ?_
    refine r_iload_n (q := 70) dX2_runs_69 rfl 1 rfl ?_
    refine r_iconst (q := 71) dX2_runs_70 rfl kI_0 ?_
    obtain ⟨g106, hw⟩ := hw
    refine r_iastL (q := 72) dX2_runs_71 rfl (xwk_wet_r hm) (xwl_wet_r hm) g106 ?_
    refine r_xw_sI hm (fun hm => ?_)
    refine r_ksI g101 (fun g101 => ?_)
    have hw := hw _ rfl
    refine r_aload_n (q := 73) dX2_runs_72 rfl 0 rfl ?_
    refine r_getR (q := 76) L_X2_28 dX2_runs_73 rfl (xwk_run hm) (xwr_most_r hm) ?_
    refine r_iload_n (q := 77) dX2_runs_76 rfl 1 rfl ?_
    refine r_iconst (q := 78) dX2_runs_77 rfl kI_0 ?_
    obtain ⟨g108, hw⟩ := hw
    refine r_iastL (q := 79) dX2_runs_78 rfl (xwk_most_r hm) (xwl_most_r hm) g108 ?_
    refine r_xw_sI hm (fun hm => ?_)
    refine r_ksI g101 (fun g101 => ?_)
    have hw := hw _ rfl
    have hw := hw _ rfl
    refine r_iincW (q := 82) (lv' := [(0, _), (2, _)]) dX2_runs_79 rfl 1 rfl kI_1 (Nat.le_of_ble_eq_true rfl) rfl ?_
    refine r_goto (tg := 37) dX2_runs_82 (by decide) ?_
    exact hw
theorem b_X2_runs_87 {x2 : Int32} {xo : Nat} {h : Hp} {k n : Nat} {Q : Hp → Prop} {E : Nat → Hp → Prop} (hm : XW h xo) (hw : kd h (gR h 3 xo) = 12 ∧ (((gI h 1102 (gR h 3 xo)) ≤ x2 → Rn M_X2_runs 132 [(0, rV (xo + 13)), (2, iV 0)] [] h k n (qV Q) E) ∧ (¬ (gI h 1102 (gR h 3 xo)) ≤ x2 → (ALg h (gR h 3 xo) x2) ∧ (kd h (el h (gR h 3 xo) (ix x2)) = 3 ∧ (vp_in x2 30 ∧ (∀ h105 : Hp, h105 = sI h (xo + 15) (ix x2) (gI h 205 (el h (gR h 3 xo) (ix x2))) → ∀ x106 : Int32, x106 = x2 + 1 → Rn M_X2_runs 87 [(0, rV (xo + 13)), (2, iV x106)] [] h105 k n (qV Q) E)))))) : Rn M_X2_runs 87 [(0, rV (xo + 13)), (2, iV x2)] [] h k n (qV Q) E := by
  refine r_iload_n (q := 88) dX2_runs_87 rfl 1 rfl ?_
  refine r_aload_n (q := 89) dX2_runs_88 rfl 0 rfl ?_
  refine r_getR (q := 92) L_X2_3 dX2_runs_89 rfl (xwk_run hm) (xwr_this hm) ?_
  refine r_getR (q := 95) L_X2_70 dX2_runs_92 rfl (xw_k hm) rfl ?_
  obtain ⟨g101, hw⟩ := hw
  refine r_cVI0 (q := 98) _ [] N_X2_64 rfl dX2_runs_95 rfl rfl rfl g101 rfl ?_
  refine ct_J2_size g101 ?_
  refine r_icmp_ge (tg := 130) (q := 101) dX2_runs_98 (by decide) rfl (fun c => ?_) (fun c => ?_)
  · have hw := hw.1 c
    refine r_iconst (q := 131) dX2_runs_130 rfl kI_0 ?_
    refine r_istore_n (q := 132) (lv' := [(0, _), (2, _)]) dX2_runs_131 rfl (Nat.le_of_ble_eq_true rfl) rfl ?_
    exact hw
  · have hw := hw.2 c
    refine r_aload_n (q := 102) dX2_runs_101 rfl 0 rfl ?_
    refine r_getR (q := 105) L_X2_19 dX2_runs_102 rfl (xwk_run hm) (xwr_barrels_r hm) ?_
    refine r_iload_n (q := 106) dX2_runs_105 rfl 1 rfl ?_
    refine r_aload_n (q := 107) dX2_runs_106 rfl 0 rfl ?_
    refine r_getR (q := 110) L_X2_3 dX2_runs_107 rfl (xwk_run hm) (xwr_this hm) ?_
    refine r_getR (q := 113) L_X2_70 dX2_runs_110 rfl (xw_k hm) rfl ?_
    refine r_iload_n (q := 114) dX2_runs_113 rfl 1 rfl ?_
    obtain ⟨g102, hw⟩ := hw
    refine r_cVR0 (q := 117) _ [_] N_X2_73 rfl dX2_runs_114 rfl rfl rfl g101 rfl ?_
    refine ct_J2_get g101 g102 ?_
    obtain ⟨g103, hw⟩ := hw
    refine r_cast (q := 120) q1188 rfl dX2_runs_117 rfl g103 ?_
    refine r_getI (q := 123) L_X2_79 dX2_runs_120 rfl g103 ?_
    obtain ⟨g104, hw⟩ := hw
    refine r_iastL (q := 124) dX2_runs_123 rfl (xwk_barrels_r hm) (xwl_barrels_r hm) g104 ?_
    refine r_xw_sI hm (fun hm => ?_)
    refine r_ksI g101 (fun g101 => ?_)
    refine r_ksI g103 (fun g103 => ?_)
    have hw := hw _ rfl
    have hw := hw _ rfl
    refine r_iincW (q := 127) (lv' := [(0, _), (2, _)]) dX2_runs_124 rfl 1 rfl kI_1 (Nat.le_of_ble_eq_true rfl) rfl ?_
    refine r_goto (tg := 87) dX2_runs_127 (by decide) ?_
    exact hw
theorem b_X2_runs_132 {x2 : Int32} {xo : Nat} {h : Hp} {k n : Nat} {Q : Hp → Prop} {E : Nat → Hp → Prop} (hm : XW h xo) (hw : ((gI h 23 xo) ≤ x2 → Q h) ∧ (¬ (gI h 23 xo) ≤ x2 → kd h (gR h 22 xo) = 61 ∧ (vp_in x2 (ln h (gR h 22 xo)) ∧ (CtV M_X2_minute [rV (xo + 13), iV (eI h (gR h 22 xo) (ix x2))] h 0 0 (fun h103 => XW h103 xo ∧ (∀ x104 : Int32, x104 = x2 + 1 → Rn M_X2_runs 132 [(0, rV (xo + 13)), (2, iV x104)] [] h103 k n (qV Q) E)) E)))) : Rn M_X2_runs 132 [(0, rV (xo + 13)), (2, iV x2)] [] h k n (qV Q) E := by
  refine r_iload_n (q := 133) dX2_runs_132 rfl 1 rfl ?_
  refine r_aload_n (q := 134) dX2_runs_133 rfl 0 rfl ?_
  refine r_getR (q := 137) L_X2_3 dX2_runs_134 rfl (xwk_run hm) (xwr_this hm) ?_
  refine r_getI (q := 140) L_X2_82 dX2_runs_137 rfl (xw_k hm) ?_
  refine r_icmp_ge (tg := 162) (q := 143) dX2_runs_140 (by decide) rfl (fun c => ?_) (fun c => ?_)
  · have hw := hw.1 c
    exact r_vret dX2_runs_162 rfl hw
  · have hw := hw.2 c
    refine r_aload_n (q := 144) dX2_runs_143 rfl 0 rfl ?_
    refine r_aload_n (q := 145) dX2_runs_144 rfl 0 rfl ?_
    refine r_getR (q := 148) L_X2_3 dX2_runs_145 rfl (xwk_run hm) (xwr_this hm) ?_
    refine r_getR (q := 151) L_X2_85 dX2_runs_148 rfl (xw_k hm) rfl ?_
    refine r_iload_n (q := 152) dX2_runs_151 rfl 1 rfl ?_
    obtain ⟨g101, hw⟩ := hw
    obtain ⟨g102, hw⟩ := hw
    refine r_ialdL (q := 153) dX2_runs_152 rfl g101 rfl g102 ?_
    refine r_cVV0 (q := 156) _ [_] N_X2_88 rfl dX2_runs_153 rfl rfl rfl (xwk_run hm) rfl ?_
    refine r_monoCV (fun h103 hw => ?_) hw
    obtain ⟨hm, hw⟩ := hw
    have hw := hw _ rfl
    refine r_iincW (q := 159) (lv' := [(0, _), (2, _)]) dX2_runs_156 rfl 1 rfl kI_1 (Nat.le_of_ble_eq_true rfl) rfl ?_
    refine r_goto (tg := 132) dX2_runs_159 (by decide) ?_
    exact hw
