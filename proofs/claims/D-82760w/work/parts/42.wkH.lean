/-! walks -/
set_option maxRecDepth 100000
theorem b_X0_roofOf_0 {x1 x2 : Int32} {xo : Nat} {h : Hp} {k n : Nat} {Q : Int32 → Hp → Prop} {E : Nat → Hp → Prop} (hm : XW h xo) (hw : (rfp h xo x1) ∧ (∀ r102 : Nat, r102 = rfv h xo x1 → (¬ r102 = 0 → (x2 = 0 → kd h r102 = 3 ∧ (kd h (gR h 204 r102) = 2 ∧ (Q (gI h 100 (gR h 204 r102)) h))) ∧ (¬ x2 = 0 → (x2 = 1 → kd h r102 = 3 ∧ (Q (gI h 201 r102) h)) ∧ (¬ x2 = 1 → (x2 = 2 → kd h r102 = 3 ∧ (Q (gI h 202 r102) h)) ∧ (¬ x2 = 2 → (x2 = 3 → kd h r102 = 3 ∧ (Q (gI h 203 r102) h)) ∧ (¬ x2 = 3 → (x2 = 4 → kd h r102 = 3 ∧ (Q (gI h 205 r102) h)) ∧ (¬ x2 = 4 → (x2 = 5 → kd h r102 = 3 ∧ (CtI M_J9_numberOfLeadingZeros [iV (gI h 206 r102)] h 0 0 (fun x111 h110 => XW h110 xo ∧ (Q (31 - x111) h110)) E)) ∧ (¬ x2 = 5 → Q (-1) h))))))) ∧ (r102 = 0 → Q (-1) h))) : Rn M_X0_roofOf 0 [(0, rV xo), (1, iV x1), (2, iV x2)] [] h k n (qI Q) E := by
  refine r_aload_n (q := 1) dX0_roofOf_0 rfl 0 rfl ?_
  refine r_iload_n (q := 2) dX0_roofOf_1 rfl 1 rfl ?_
  obtain ⟨g101, hw⟩ := hw
  refine r_cVR0 (q := 5) _ [_] N_X0_479 rfl dX0_roofOf_2 rfl rfl rfl (xw_k hm) rfl ?_
  refine ct_X0_roofAt hm g101 ?_
  have hw := hw _ rfl
  refine r_astore_n (q := 6) (lv' := [(0, _), (1, _), (2, _), (3, _)]) dX0_roofOf_5 rfl (Nat.le_of_ble_eq_true rfl) rfl ?_
  refine r_aload_n (q := 7) dX0_roofOf_6 rfl 3 rfl ?_
  refine r_ifnonnull (tg := 12) (q := 10) dX0_roofOf_7 (by decide) rfl (fun c => ?_) (fun c => ?_)
  · have hw := hw.1 c
    refine r_iload_n (q := 13) dX0_roofOf_12 rfl 2 rfl ?_
    by_cases c0 : x2 = 0
    · have hw := hw.1 c0
      refine r_tabK (tg := 52) dX0_roofOf_13 c0 (by decide) (by decide) rfl (by decide) ?_
      refine r_aload_n (q := 53) dX0_roofOf_52 rfl 3 rfl ?_
      obtain ⟨g103, hw⟩ := hw
      refine r_getR (q := 56) L_X0_498 dX0_roofOf_53 rfl g103 rfl ?_
      obtain ⟨g104, hw⟩ := hw
      refine r_getI (q := 59) L_X0_499 dX0_roofOf_56 rfl g104 ?_
      exact r_iret dX0_roofOf_59 rfl hw
    · have hw := hw.2 c0
      by_cases c1 : x2 = 1
      · have hw := hw.1 c1
        refine r_tabK (tg := 60) dX0_roofOf_13 c1 (by decide) (by decide) rfl (by decide) ?_
        refine r_aload_n (q := 61) dX0_roofOf_60 rfl 3 rfl ?_
        obtain ⟨g105, hw⟩ := hw
        refine r_getI (q := 64) L_X0_489 dX0_roofOf_61 rfl g105 ?_
        exact r_iret dX0_roofOf_64 rfl hw
      · have hw := hw.2 c1
        by_cases c2 : x2 = 2
        · have hw := hw.1 c2
          refine r_tabK (tg := 65) dX0_roofOf_13 c2 (by decide) (by decide) rfl (by decide) ?_
          refine r_aload_n (q := 66) dX0_roofOf_65 rfl 3 rfl ?_
          obtain ⟨g106, hw⟩ := hw
          refine r_getI (q := 69) L_X0_492 dX0_roofOf_66 rfl g106 ?_
          exact r_iret dX0_roofOf_69 rfl hw
        · have hw := hw.2 c2
          by_cases c3 : x2 = 3
          · have hw := hw.1 c3
            refine r_tabK (tg := 70) dX0_roofOf_13 c3 (by decide) (by decide) rfl (by decide) ?_
            refine r_aload_n (q := 71) dX0_roofOf_70 rfl 3 rfl ?_
            obtain ⟨g107, hw⟩ := hw
            refine r_getI (q := 74) L_X0_483 dX0_roofOf_71 rfl g107 ?_
            exact r_iret dX0_roofOf_74 rfl hw
          · have hw := hw.2 c3
            by_cases c4 : x2 = 4
            · have hw := hw.1 c4
              refine r_tabK (tg := 75) dX0_roofOf_13 c4 (by decide) (by decide) rfl (by decide) ?_
              refine r_aload_n (q := 76) dX0_roofOf_75 rfl 3 rfl ?_
              obtain ⟨g108, hw⟩ := hw
              refine r_getI (q := 79) L_X0_368 dX0_roofOf_76 rfl g108 ?_
              exact r_iret dX0_roofOf_79 rfl hw
            · have hw := hw.2 c4
              by_cases c5 : x2 = 5
              · have hw := hw.1 c5
                refine r_tabK (tg := 80) dX0_roofOf_13 c5 (by decide) (by decide) rfl (by decide) ?_
                refine r_bipush (q := 82) dX0_roofOf_80 rfl kB_31 ?_
                refine r_aload_n (q := 83) dX0_roofOf_82 rfl 3 rfl ?_
                obtain ⟨g109, hw⟩ := hw
                refine r_getI (q := 86) L_X0_486 dX0_roofOf_83 rfl g109 ?_
                refine r_cSI0 (q := 89) [_] N_X0_473 dX0_roofOf_86 rfl rfl rfl rfl ?_
                refine r_monoCI (fun x111 h110 hw => ?_) hw
                obtain ⟨hm, hw⟩ := hw
                refine r_isub (q := 90) dX0_roofOf_89 rfl ?_
                exact r_iret dX0_roofOf_90 rfl hw
              · have hw := hw.2 c5
                have z0 := lv_neT c0 (show (0 : Int32).toInt = 0 by decide)
                have z1 := lv_neT c1 (show (1 : Int32).toInt = 1 by decide)
                have z2 := lv_neT c2 (show (2 : Int32).toInt = 2 by decide)
                have z3 := lv_neT c3 (show (3 : Int32).toInt = 3 by decide)
                have z4 := lv_neT c4 (show (4 : Int32).toInt = 4 by decide)
                have z5 := lv_neT c5 (show (5 : Int32).toInt = 5 by decide)
                refine r_tabOut (tg := 91) dX0_roofOf_13 (by omega) (by decide) ?_
                refine r_iconst (q := 92) dX0_roofOf_91 rfl kI_m1 ?_
                exact r_iret dX0_roofOf_92 rfl hw
  · have hw := hw.2 c
    refine r_iconst (q := 11) dX0_roofOf_10 rfl kI_m1 ?_
    exact r_iret dX0_roofOf_11 rfl hw
theorem b_X3_roofOf_0 {x1 x2 : Int32} {mo : Nat} {h : Hp} {k n : Nat} {Q : Int32 → Hp → Prop} {E : Nat → Hp → Prop} (hm : MW h mo) (hw : ((isin x1 0 ((gI h 1002 mo) - 1)) = true → (x2 = 0 → vp_in x1 30 ∧ (Q (eI h (mo + 19) (ix x1)) h)) ∧ (¬ x2 = 0 → (x2 = 1 → vp_in x1 30 ∧ (Q (eI h (mo + 20) (ix x1)) h)) ∧ (¬ x2 = 1 → (x2 = 2 → vp_in x1 30 ∧ (Q (eI h (mo + 21) (ix x1)) h)) ∧ (¬ x2 = 2 → (x2 = 3 → vp_in x1 30 ∧ (Q (eI h (mo + 22) (ix x1)) h)) ∧ (¬ x2 = 3 → (x2 = 4 → vp_in x1 30 ∧ (Q (eI h (mo + 23) (ix x1)) h)) ∧ (¬ x2 = 4 → (x2 = 5 → Rn M_X3_roofOf 96 [(0, rV mo), (1, iV x1), (3, iV (-1)), (4, iV 0)] [] h k n (qI Q) E) ∧ (¬ x2 = 5 → Q (-1) h))))))) ∧ ((isin x1 0 ((gI h 1002 mo) - 1)) = false → Q (-1) h)) : Rn M_X3_roofOf 0 [(0, rV mo), (1, iV x1), (2, iV x2)] [] h k n (qI Q) E := by
  refine r_iload_n (q := 1) dX3_roofOf_0 rfl 1 rfl ?_
  refine r_iconst (q := 2) dX3_roofOf_1 rfl kI_0 ?_
  refine r_aload_n (q := 3) dX3_roofOf_2 rfl 0 rfl ?_
  refine r_getI (q := 6) L_X3_202 dX3_roofOf_3 rfl (mw_k hm) ?_
  refine r_iconst (q := 7) dX3_roofOf_6 rfl kI_1 ?_
  refine r_isub (q := 8) dX3_roofOf_7 rfl ?_
  refine r_cSI0 (q := 11) [_, _, _] N_X3_194 dX3_roofOf_8 rfl rfl rfl rfl ?_
  refine ct_X3_isIn  ?_
  refine r_ifb_ne (tg := 16) (q := 14) dX3_roofOf_11 (by decide) rfl (fun c => ?_) (fun c => ?_)
  · have hw := hw.1 c
    refine r_iload_n (q := 17) dX3_roofOf_16 rfl 2 rfl ?_
    by_cases c0 : x2 = 0
    · have hw := hw.1 c0
      refine r_tabK (tg := 56) dX3_roofOf_17 c0 (by decide) (by decide) rfl (by decide) ?_
      refine r_aload_n (q := 57) dX3_roofOf_56 rfl 0 rfl ?_
      refine r_getR (q := 60) L_X3_65 dX3_roofOf_57 rfl (mw_k hm) (mwr_roofAt hm) ?_
      refine r_iload_n (q := 61) dX3_roofOf_60 rfl 1 rfl ?_
      obtain ⟨g101, hw⟩ := hw
      refine r_ialdL (q := 62) dX3_roofOf_61 rfl (mwk_roofAt hm) (mwl_roofAt hm) g101 ?_
      exact r_iret dX3_roofOf_62 rfl hw
    · have hw := hw.2 c0
      by_cases c1 : x2 = 1
      · have hw := hw.1 c1
        refine r_tabK (tg := 63) dX3_roofOf_17 c1 (by decide) (by decide) rfl (by decide) ?_
        refine r_aload_n (q := 64) dX3_roofOf_63 rfl 0 rfl ?_
        refine r_getR (q := 67) L_X3_68 dX3_roofOf_64 rfl (mw_k hm) (mwr_owner hm) ?_
        refine r_iload_n (q := 68) dX3_roofOf_67 rfl 1 rfl ?_
        obtain ⟨g102, hw⟩ := hw
        refine r_ialdL (q := 69) dX3_roofOf_68 rfl (mwk_owner hm) (mwl_owner hm) g102 ?_
        exact r_iret dX3_roofOf_69 rfl hw
      · have hw := hw.2 c1
        by_cases c2 : x2 = 2
        · have hw := hw.1 c2
          refine r_tabK (tg := 70) dX3_roofOf_17 c2 (by decide) (by decide) rfl (by decide) ?_
          refine r_aload_n (q := 71) dX3_roofOf_70 rfl 0 rfl ?_
          refine r_getR (q := 74) L_X3_71 dX3_roofOf_71 rfl (mw_k hm) (mwr_roofArea hm) ?_
          refine r_iload_n (q := 75) dX3_roofOf_74 rfl 1 rfl ?_
          obtain ⟨g103, hw⟩ := hw
          refine r_ialdL (q := 76) dX3_roofOf_75 rfl (mwk_roofArea hm) (mwl_roofArea hm) g103 ?_
          exact r_iret dX3_roofOf_76 rfl hw
        · have hw := hw.2 c2
          by_cases c3 : x2 = 3
          · have hw := hw.1 c3
            refine r_tabK (tg := 77) dX3_roofOf_17 c3 (by decide) (by decide) rfl (by decide) ?_
            refine r_aload_n (q := 78) dX3_roofOf_77 rfl 0 rfl ?_
            refine r_getR (q := 81) L_X3_74 dX3_roofOf_78 rfl (mw_k hm) (mwr_barrel hm) ?_
            refine r_iload_n (q := 82) dX3_roofOf_81 rfl 1 rfl ?_
            obtain ⟨g104, hw⟩ := hw
            refine r_ialdL (q := 83) dX3_roofOf_82 rfl (mwk_barrel hm) (mwl_barrel hm) g104 ?_
            exact r_iret dX3_roofOf_83 rfl hw
          · have hw := hw.2 c3
            by_cases c4 : x2 = 4
            · have hw := hw.1 c4
              refine r_tabK (tg := 84) dX3_roofOf_17 c4 (by decide) (by decide) rfl (by decide) ?_
              refine r_aload_n (q := 85) dX3_roofOf_84 rfl 0 rfl ?_
              refine r_getR (q := 88) L_X3_77 dX3_roofOf_85 rfl (mw_k hm) (mwr_has hm) ?_
              refine r_iload_n (q := 89) dX3_roofOf_88 rfl 1 rfl ?_
              obtain ⟨g105, hw⟩ := hw
              refine r_ialdL (q := 90) dX3_roofOf_89 rfl (mwk_has hm) (mwl_has hm) g105 ?_
              exact r_iret dX3_roofOf_90 rfl hw
            · have hw := hw.2 c4
              by_cases c5 : x2 = 5
              · have hw := hw.1 c5
                refine r_tabK (tg := 91) dX3_roofOf_17 c5 (by decide) (by decide) rfl (by decide) ?_
                refine r_iconst (q := 92) dX3_roofOf_91 rfl kI_m1 ?_
                refine r_istore_n (q := 93) (lv' := [(0, _), (1, _), (2, _), (3, _)]) dX3_roofOf_92 rfl (Nat.le_of_ble_eq_true rfl) rfl ?_
                refine r_iconst (q := 94) dX3_roofOf_93 rfl kI_0 ?_
                refine r_istore (q := 96) (lv' := [(0, _), (1, _), (2, _), (3, _), (4, _)]) dX3_roofOf_94 rfl (Nat.le_of_ble_eq_true rfl) rfl ?_
                exact r_sub [0, 1, 3, 4] rfl hw
              · have hw := hw.2 c5
                have z0 := lv_neT c0 (show (0 : Int32).toInt = 0 by decide)
                have z1 := lv_neT c1 (show (1 : Int32).toInt = 1 by decide)
                have z2 := lv_neT c2 (show (2 : Int32).toInt = 2 by decide)
                have z3 := lv_neT c3 (show (3 : Int32).toInt = 3 by decide)
                have z4 := lv_neT c4 (show (4 : Int32).toInt = 4 by decide)
                have z5 := lv_neT c5 (show (5 : Int32).toInt = 5 by decide)
                refine r_tabOut (tg := 129) dX3_roofOf_17 (by omega) (by decide) ?_
                refine r_iconst (q := 130) dX3_roofOf_129 rfl kI_m1 ?_
                exact r_iret dX3_roofOf_130 rfl hw
  · have hw := hw.2 c
    refine r_iconst (q := 15) dX3_roofOf_14 rfl kI_m1 ?_
    exact r_iret dX3_roofOf_15 rfl hw
theorem b_X3_roofOf_96 {x1 x3 x4 : Int32} {mo : Nat} {h : Hp} {k n : Nat} {Q : Int32 → Hp → Prop} {E : Nat → Hp → Prop} (hm : MW h mo) (hw : (10 ≤ x4 → Q x3 h) ∧ (¬ 10 ≤ x4 → vp_in x1 30 ∧ ((¬ ((shr (eI h (mo + 24) (ix x1)) x4) &&& 1) = 1 → ∀ x102 : Int32, x102 = x4 + 1 → Rn M_X3_roofOf 96 [(0, rV mo), (1, iV x1), (3, iV x3), (4, iV x102)] [] h k n (qI Q) E) ∧ (((shr (eI h (mo + 24) (ix x1)) x4) &&& 1) = 1 → ∀ x103 : Int32, x103 = x4 + 1 → Rn M_X3_roofOf 96 [(0, rV mo), (1, iV x1), (3, iV x4), (4, iV x103)] [] h k n (qI Q) E)))) : Rn M_X3_roofOf 96 [(0, rV mo), (1, iV x1), (3, iV x3), (4, iV x4)] [] h k n (qI Q) E := by
  refine r_iload (q := 98) dX3_roofOf_96 rfl 3 rfl ?_
  refine r_bipush (q := 100) dX3_roofOf_98 rfl kB_10 ?_
  refine r_icmp_ge (tg := 127) (q := 103) dX3_roofOf_100 (by decide) rfl (fun c => ?_) (fun c => ?_)
  · have hw := hw.1 c
    refine r_iload_n (q := 128) dX3_roofOf_127 rfl 2 rfl ?_
    exact r_iret dX3_roofOf_128 rfl hw
  · have hw := hw.2 c
    refine r_aload_n (q := 104) dX3_roofOf_103 rfl 0 rfl ?_
    refine r_getR (q := 107) L_X3_80 dX3_roofOf_104 rfl (mw_k hm) (mwr_proved hm) ?_
    refine r_iload_n (q := 108) dX3_roofOf_107 rfl 1 rfl ?_
    obtain ⟨g101, hw⟩ := hw
    refine r_ialdL (q := 109) dX3_roofOf_108 rfl (mwk_proved hm) (mwl_proved hm) g101 ?_
    refine r_iload (q := 111) dX3_roofOf_109 rfl 3 rfl ?_
    refine r_ishr (q := 112) dX3_roofOf_111 rfl ?_
    refine r_iconst (q := 113) dX3_roofOf_112 rfl kI_1 ?_
    refine r_iand (q := 114) dX3_roofOf_113 rfl ?_
    refine r_iconst (q := 115) dX3_roofOf_114 rfl kI_1 ?_
    refine r_icmp_ne (tg := 121) (q := 118) dX3_roofOf_115 (by decide) rfl (fun c => ?_) (fun c => ?_)
    · have hw := hw.1 c
      have hw := hw _ rfl
      refine r_iincW (q := 124) (lv' := [(0, _), (1, _), (3, _), (4, _)]) dX3_roofOf_121 rfl 3 rfl kI_1 (Nat.le_of_ble_eq_true rfl) rfl ?_
      refine r_goto (tg := 96) dX3_roofOf_124 (by decide) ?_
      exact hw
    · have hw := hw.2 c
      refine r_iload (q := 120) dX3_roofOf_118 rfl 3 rfl ?_
      refine r_istore_n (q := 121) (lv' := [(0, _), (1, _), (3, _), (4, _)]) dX3_roofOf_120 rfl (Nat.le_of_ble_eq_true rfl) rfl ?_
      have hw := hw _ rfl
      refine r_iincW (q := 124) (lv' := [(0, _), (1, _), (3, _), (4, _)]) dX3_roofOf_121 rfl 3 rfl kI_1 (Nat.le_of_ble_eq_true rfl) rfl ?_
      refine r_goto (tg := 96) dX3_roofOf_124 (by decide) ?_
      exact hw
theorem b_X0_sum_0 {x1 : Int32} {xo : Nat} {h : Hp} {k n : Nat} {Q : Int64 → Hp → Prop} {E : Nat → Hp → Prop} (hm : XW h xo) (hw : Rn M_X0_sum 8 [(0, rV xo), (1, iV x1), (2, jV 0), (4, jV 0), (6, iV 0)] [] h k n (qJ Q) E) : Rn M_X0_sum 0 [(0, rV xo), (1, iV x1)] [] h k n (qJ Q) E := by
  refine r_lconst (q := 1) dX0_sum_0 rfl kL_0 ?_
  refine r_lstore_n (q := 2) (lv' := [(0, _), (1, _), (2, _)]) dX0_sum_1 rfl (Nat.le_of_ble_eq_true rfl) rfl ?_
  refine r_lconst (q := 3) dX0_sum_2 rfl kL_0 ?_
  refine r_lstore (q := 5) (lv' := [(0, _), (1, _), (2, _), (4, _)]) dX0_sum_3 rfl (Nat.le_of_ble_eq_true rfl) rfl ?_
  refine r_iconst (q := 6) dX0_sum_5 rfl kI_0 ?_
  refine r_istore (q := 8) (lv' := [(0, _), (1, _), (2, _), (4, _), (6, _)]) dX0_sum_6 rfl (Nat.le_of_ble_eq_true rfl) rfl ?_
  exact hw
theorem b_X0_sum_8 {x1 x6 : Int32} {y2 y4 : Int64} {xo : Nat} {h : Hp} {k n : Nat} {Q : Int64 → Hp → Prop} {E : Nat → Hp → Prop} (hm : XW h xo) (hw : ((gI h 1102 (xo + 2)) ≤ x6 → Rn M_X0_sum 73 [(0, rV xo), (1, iV x1), (2, jV y2), (4, jV y4), (6, iV 0)] [] h k n (qJ Q) E) ∧ (¬ (gI h 1102 (xo + 2)) ≤ x6 → (ALg h (xo + 2) x6) ∧ (kd h (el h (xo + 2) (ix x6)) = 2 ∧ ((¬ (gR h 109 (el h (xo + 2) (ix x6))) = 0 → (ALg h (xo + 2) x6) ∧ (kd h (gR h 109 (el h (xo + 2) (ix x6))) = 4 ∧ (∀ y105 : Int64, y105 = y2 + (Int32.toInt64 (gI h 308 (gR h 109 (el h (xo + 2) (ix x6))))) → ∀ x106 : Int32, x106 = x6 + 1 → Rn M_X0_sum 8 [(0, rV xo), (1, iV x1), (2, jV y105), (4, jV y4), (6, iV x106)] [] h k n (qJ Q) E))) ∧ ((gR h 109 (el h (xo + 2) (ix x6))) = 0 → ∀ y107 : Int64, y107 = y2 + 0 → ∀ x108 : Int32, x108 = x6 + 1 → Rn M_X0_sum 8 [(0, rV xo), (1, iV x1), (2, jV y107), (4, jV y4), (6, iV x108)] [] h k n (qJ Q) E))))) : Rn M_X0_sum 8 [(0, rV xo), (1, iV x1), (2, jV y2), (4, jV y4), (6, iV x6)] [] h k n (qJ Q) E := by
  refine r_iload (q := 10) dX0_sum_8 rfl 4 rfl ?_
  refine r_aload_n (q := 11) dX0_sum_10 rfl 0 rfl ?_
  refine r_getR (q := 14) L_X0_20 dX0_sum_11 rfl (xw_k hm) (xwr_corners hm) ?_
  refine r_cVI0 (q := 17) _ [] N_X0_77 rfl dX0_sum_14 rfl rfl rfl (xwk_corners hm) rfl ?_
  refine ct_J2_size (xwk_corners hm) ?_
  refine r_icmp_ge (tg := 70) (q := 20) dX0_sum_17 (by decide) rfl (fun c => ?_) (fun c => ?_)
  · have hw := hw.1 c
    refine r_iconst (q := 71) dX0_sum_70 rfl kI_0 ?_
    refine r_istore (q := 73) (lv' := [(0, _), (1, _), (2, _), (4, _), (6, _)]) dX0_sum_71 rfl (Nat.le_of_ble_eq_true rfl) rfl ?_
    exact hw
  · have hw := hw.2 c
    refine r_lload_n (q := 21) dX0_sum_20 rfl 2 rfl ?_
    refine r_aload_n (q := 22) dX0_sum_21 rfl 0 rfl ?_
    refine r_getR (q := 25) L_X0_20 dX0_sum_22 rfl (xw_k hm) (xwr_corners hm) ?_
    refine r_iload (q := 27) dX0_sum_25 rfl 4 rfl ?_
    obtain ⟨g101, hw⟩ := hw
    refine r_cVR0 (q := 30) _ [_] N_X0_81 rfl dX0_sum_27 rfl rfl rfl (xwk_corners hm) rfl ?_
    refine ct_J2_get (xwk_corners hm) g101 ?_
    obtain ⟨g102, hw⟩ := hw
    refine r_cast (q := 33) q374 rfl dX0_sum_30 rfl g102 ?_
    refine r_getR (q := 36) L_X0_91 dX0_sum_33 rfl g102 rfl ?_
    refine r_ifnonnull (tg := 43) (q := 39) dX0_sum_36 (by decide) rfl (fun c => ?_) (fun c => ?_)
    · have hw := hw.1 c
      refine r_aload_n (q := 44) dX0_sum_43 rfl 0 rfl ?_
      refine r_getR (q := 47) L_X0_20 dX0_sum_44 rfl (xw_k hm) (xwr_corners hm) ?_
      refine r_iload (q := 49) dX0_sum_47 rfl 4 rfl ?_
      obtain ⟨g103, hw⟩ := hw
      refine r_cVR0 (q := 52) _ [_] N_X0_81 rfl dX0_sum_49 rfl rfl rfl (xwk_corners hm) rfl ?_
      refine ct_J2_get (xwk_corners hm) g103 ?_
      refine r_cast (q := 55) q374 rfl dX0_sum_52 rfl g102 ?_
      refine r_getR (q := 58) L_X0_91 dX0_sum_55 rfl g102 rfl ?_
      obtain ⟨g104, hw⟩ := hw
      refine r_getI (q := 61) L_X0_401 dX0_sum_58 rfl g104 ?_
      refine r_i2l (q := 62) dX0_sum_61 rfl ?_
      refine r_ladd (q := 63) dX0_sum_62 rfl ?_
      have hw := hw _ rfl
      refine r_lstore_n (q := 64) (lv' := [(0, _), (1, _), (2, _), (4, _), (6, _)]) dX0_sum_63 rfl (Nat.le_of_ble_eq_true rfl) rfl ?_
      have hw := hw _ rfl
      refine r_iincW (q := 67) (lv' := [(0, _), (1, _), (2, _), (4, _), (6, _)]) dX0_sum_64 rfl 4 rfl kI_1 (Nat.le_of_ble_eq_true rfl) rfl ?_
      refine r_goto (tg := 8) dX0_sum_67 (by decide) ?_
      exact hw
    · have hw := hw.2 c
      refine r_lconst (q := 40) dX0_sum_39 rfl kL_0 ?_
      refine r_goto (tg := 62) dX0_sum_40 (by decide) ?_
      refine r_ladd (q := 63) dX0_sum_62 rfl ?_
      have hw := hw _ rfl
      refine r_lstore_n (q := 64) (lv' := [(0, _), (1, _), (2, _), (4, _), (6, _)]) dX0_sum_63 rfl (Nat.le_of_ble_eq_true rfl) rfl ?_
      have hw := hw _ rfl
      refine r_iincW (q := 67) (lv' := [(0, _), (1, _), (2, _), (4, _), (6, _)]) dX0_sum_64 rfl 4 rfl kI_1 (Nat.le_of_ble_eq_true rfl) rfl ?_
      refine r_goto (tg := 8) dX0_sum_67 (by decide) ?_
      exact hw
theorem b_X0_sum_73 {x1 x6 : Int32} {y2 y4 : Int64} {xo : Nat} {h : Hp} {k n : Nat} {Q : Int64 → Hp → Prop} {E : Nat → Hp → Prop} (hm : XW h xo) (hw : ((gI h 1102 (xo + 3)) ≤ x6 → (x1 = 0 → Q (gJ h 17 xo) h) ∧ (¬ x1 = 0 → (x1 = 1 → Q (gJ h 18 xo) h) ∧ (¬ x1 = 1 → (x1 = 2 → Q (gJ h 19 xo) h) ∧ (¬ x1 = 2 → (x1 = 3 → Q (gJ h 20 xo) h) ∧ (¬ x1 = 3 → (x1 = 4 → Q y2 h) ∧ (¬ x1 = 4 → (x1 = 5 → Q (gJ h 21 xo) h) ∧ (¬ x1 = 5 → (x1 = 6 → Q y4 h) ∧ (¬ x1 = 6 → Q (-1) h)))))))) ∧ (¬ (gI h 1102 (xo + 3)) ≤ x6 → (ALg h (xo + 3) x6) ∧ (kd h (el h (xo + 3) (ix x6)) = 3 ∧ (∀ y103 : Int64, y103 = y4 + (Int32.toInt64 (gI h 205 (el h (xo + 3) (ix x6)))) → ∀ x104 : Int32, x104 = x6 + 1 → Rn M_X0_sum 73 [(0, rV xo), (1, iV x1), (2, jV y2), (4, jV y103), (6, iV x104)] [] h k n (qJ Q) E)))) : Rn M_X0_sum 73 [(0, rV xo), (1, iV x1), (2, jV y2), (4, jV y4), (6, iV x6)] [] h k n (qJ Q) E := by
  refine r_iload (q := 75) dX0_sum_73 rfl 4 rfl ?_
  refine r_aload_n (q := 76) dX0_sum_75 rfl 0 rfl ?_
  refine r_getR (q := 79) L_X0_24 dX0_sum_76 rfl (xw_k hm) (xwr_roofs hm) ?_
  refine r_cVI0 (q := 82) _ [] N_X0_77 rfl dX0_sum_79 rfl rfl rfl (xwk_roofs hm) rfl ?_
  refine ct_J2_size (xwk_roofs hm) ?_
  refine r_icmp_ge (tg := 112) (q := 85) dX0_sum_82 (by decide) rfl (fun c => ?_) (fun c => ?_)
  · have hw := hw.1 c
    refine r_iload_n (q := 113) dX0_sum_112 rfl 1 rfl ?_
    by_cases c0 : x1 = 0
    · have hw := hw.1 c0
      refine r_tabK (tg := 156) dX0_sum_113 c0 (by decide) (by decide) rfl (by decide) ?_
      refine r_aload_n (q := 157) dX0_sum_156 rfl 0 rfl ?_
      refine r_getJ (q := 160) L_X0_408 dX0_sum_157 rfl (xw_k hm) ?_
      exact r_lret dX0_sum_160 rfl hw
    · have hw := hw.2 c0
      by_cases c1 : x1 = 1
      · have hw := hw.1 c1
        refine r_tabK (tg := 161) dX0_sum_113 c1 (by decide) (by decide) rfl (by decide) ?_
        refine r_aload_n (q := 162) dX0_sum_161 rfl 0 rfl ?_
        refine r_getJ (q := 165) L_X0_345 dX0_sum_162 rfl (xw_k hm) ?_
        exact r_lret dX0_sum_165 rfl hw
      · have hw := hw.2 c1
        by_cases c2 : x1 = 2
        · have hw := hw.1 c2
          refine r_tabK (tg := 166) dX0_sum_113 c2 (by decide) (by decide) rfl (by decide) ?_
          refine r_aload_n (q := 167) dX0_sum_166 rfl 0 rfl ?_
          refine r_getJ (q := 170) L_X0_416 dX0_sum_167 rfl (xw_k hm) ?_
          exact r_lret dX0_sum_170 rfl hw
        · have hw := hw.2 c2
          by_cases c3 : x1 = 3
          · have hw := hw.1 c3
            refine r_tabK (tg := 171) dX0_sum_113 c3 (by decide) (by decide) rfl (by decide) ?_
            refine r_aload_n (q := 172) dX0_sum_171 rfl 0 rfl ?_
            refine r_getJ (q := 175) L_X0_421 dX0_sum_172 rfl (xw_k hm) ?_
            exact r_lret dX0_sum_175 rfl hw
          · have hw := hw.2 c3
            by_cases c4 : x1 = 4
            · have hw := hw.1 c4
              refine r_tabK (tg := 176) dX0_sum_113 c4 (by decide) (by decide) rfl (by decide) ?_
              refine r_lload_n (q := 177) dX0_sum_176 rfl 2 rfl ?_
              exact r_lret dX0_sum_177 rfl hw
            · have hw := hw.2 c4
              by_cases c5 : x1 = 5
              · have hw := hw.1 c5
                refine r_tabK (tg := 178) dX0_sum_113 c5 (by decide) (by decide) rfl (by decide) ?_
                refine r_aload_n (q := 179) dX0_sum_178 rfl 0 rfl ?_
                refine r_getJ (q := 182) L_X0_371 dX0_sum_179 rfl (xw_k hm) ?_
                exact r_lret dX0_sum_182 rfl hw
              · have hw := hw.2 c5
                by_cases c6 : x1 = 6
                · have hw := hw.1 c6
                  refine r_tabK (tg := 183) dX0_sum_113 c6 (by decide) (by decide) rfl (by decide) ?_
                  refine r_lload (q := 185) dX0_sum_183 rfl 3 rfl ?_
                  exact r_lret dX0_sum_185 rfl hw
                · have hw := hw.2 c6
                  have z0 := lv_neT c0 (show (0 : Int32).toInt = 0 by decide)
                  have z1 := lv_neT c1 (show (1 : Int32).toInt = 1 by decide)
                  have z2 := lv_neT c2 (show (2 : Int32).toInt = 2 by decide)
                  have z3 := lv_neT c3 (show (3 : Int32).toInt = 3 by decide)
                  have z4 := lv_neT c4 (show (4 : Int32).toInt = 4 by decide)
                  have z5 := lv_neT c5 (show (5 : Int32).toInt = 5 by decide)
                  have z6 := lv_neT c6 (show (6 : Int32).toInt = 6 by decide)
                  refine r_tabOut (tg := 186) dX0_sum_113 (by omega) (by decide) ?_
                  refine r_ldc2 (q := 189) dX0_sum_186 rfl q1231 ?_
                  exact r_lret dX0_sum_189 rfl hw
  · have hw := hw.2 c
    refine r_lload (q := 87) dX0_sum_85 rfl 3 rfl ?_
    refine r_aload_n (q := 88) dX0_sum_87 rfl 0 rfl ?_
    refine r_getR (q := 91) L_X0_24 dX0_sum_88 rfl (xw_k hm) (xwr_roofs hm) ?_
    refine r_iload (q := 93) dX0_sum_91 rfl 4 rfl ?_
    obtain ⟨g101, hw⟩ := hw
    refine r_cVR0 (q := 96) _ [_] N_X0_81 rfl dX0_sum_93 rfl rfl rfl (xwk_roofs hm) rfl ?_
    refine ct_J2_get (xwk_roofs hm) g101 ?_
    obtain ⟨g102, hw⟩ := hw
    refine r_cast (q := 99) q518 rfl dX0_sum_96 rfl g102 ?_
    refine r_getI (q := 102) L_X0_368 dX0_sum_99 rfl g102 ?_
    refine r_i2l (q := 103) dX0_sum_102 rfl ?_
    refine r_ladd (q := 104) dX0_sum_103 rfl ?_
    have hw := hw _ rfl
    refine r_lstore (q := 106) (lv' := [(0, _), (1, _), (2, _), (4, _), (6, _)]) dX0_sum_104 rfl (Nat.le_of_ble_eq_true rfl) rfl ?_
    have hw := hw _ rfl
    refine r_iincW (q := 109) (lv' := [(0, _), (1, _), (2, _), (4, _), (6, _)]) dX0_sum_106 rfl 4 rfl kI_1 (Nat.le_of_ble_eq_true rfl) rfl ?_
    refine r_goto (tg := 73) dX0_sum_109 (by decide) ?_
    exact hw
theorem b_X3_sum_0 {x1 : Int32} {mo : Nat} {h : Hp} {k n : Nat} {Q : Int64 → Hp → Prop} {E : Nat → Hp → Prop} (hm : MW h mo) (hw : (x1 = 0 → Q (gJ h 1035 mo) h) ∧ (¬ x1 = 0 → (x1 = 1 → Q (gJ h 1036 mo) h) ∧ (¬ x1 = 1 → (x1 = 2 → Q (gJ h 1037 mo) h) ∧ (¬ x1 = 2 → (x1 = 3 → Q (gJ h 1038 mo) h) ∧ (¬ x1 = 3 → (x1 = 4 → Rn M_X3_sum 67 [(0, rV mo), (2, jV 0), (4, iV 0)] [] h k n (qJ Q) E) ∧ (¬ x1 = 4 → (x1 = 5 → Q (gJ h 1039 mo) h) ∧ (¬ x1 = 5 → (x1 = 6 → Rn M_X3_sum 103 [(0, rV mo), (2, jV 0), (4, iV 0)] [] h k n (qJ Q) E) ∧ (¬ x1 = 6 → Q (-1) h)))))))) : Rn M_X3_sum 0 [(0, rV mo), (1, iV x1)] [] h k n (qJ Q) E := by
  refine r_lconst (q := 1) dX3_sum_0 rfl kL_0 ?_
  refine r_lstore_n (q := 2) (lv' := [(0, _), (1, _), (2, _)]) dX3_sum_1 rfl (Nat.le_of_ble_eq_true rfl) rfl ?_
  refine r_iload_n (q := 3) dX3_sum_2 rfl 1 rfl ?_
  by_cases c0 : x1 = 0
  · have hw := hw.1 c0
    refine r_tabK (tg := 44) dX3_sum_3 c0 (by decide) (by decide) rfl (by decide) ?_
    refine r_aload_n (q := 45) dX3_sum_44 rfl 0 rfl ?_
    refine r_getJ (q := 48) L_X3_301 dX3_sum_45 rfl (mw_k hm) ?_
    exact r_lret dX3_sum_48 rfl hw
  · have hw := hw.2 c0
    by_cases c1 : x1 = 1
    · have hw := hw.1 c1
      refine r_tabK (tg := 49) dX3_sum_3 c1 (by decide) (by decide) rfl (by decide) ?_
      refine r_aload_n (q := 50) dX3_sum_49 rfl 0 rfl ?_
      refine r_getJ (q := 53) L_X3_233 dX3_sum_50 rfl (mw_k hm) ?_
      exact r_lret dX3_sum_53 rfl hw
    · have hw := hw.2 c1
      by_cases c2 : x1 = 2
      · have hw := hw.1 c2
        refine r_tabK (tg := 54) dX3_sum_3 c2 (by decide) (by decide) rfl (by decide) ?_
        refine r_aload_n (q := 55) dX3_sum_54 rfl 0 rfl ?_
        refine r_getJ (q := 58) L_X3_304 dX3_sum_55 rfl (mw_k hm) ?_
        exact r_lret dX3_sum_58 rfl hw
      · have hw := hw.2 c2
        by_cases c3 : x1 = 3
        · have hw := hw.1 c3
          refine r_tabK (tg := 59) dX3_sum_3 c3 (by decide) (by decide) rfl (by decide) ?_
          refine r_aload_n (q := 60) dX3_sum_59 rfl 0 rfl ?_
          refine r_getJ (q := 63) L_X3_307 dX3_sum_60 rfl (mw_k hm) ?_
          exact r_lret dX3_sum_63 rfl hw
        · have hw := hw.2 c3
          by_cases c4 : x1 = 4
          · have hw := hw.1 c4
            refine r_tabK (tg := 64) dX3_sum_3 c4 (by decide) (by decide) rfl (by decide) ?_
            refine r_iconst (q := 65) dX3_sum_64 rfl kI_0 ?_
            refine r_istore (q := 67) (lv' := [(0, _), (1, _), (2, _), (4, _)]) dX3_sum_65 rfl (Nat.le_of_ble_eq_true rfl) rfl ?_
            exact r_sub [0, 2, 3] rfl hw
          · have hw := hw.2 c4
            by_cases c5 : x1 = 5
            · have hw := hw.1 c5
              refine r_tabK (tg := 95) dX3_sum_3 c5 (by decide) (by decide) rfl (by decide) ?_
              refine r_aload_n (q := 96) dX3_sum_95 rfl 0 rfl ?_
              refine r_getJ (q := 99) L_X3_251 dX3_sum_96 rfl (mw_k hm) ?_
              exact r_lret dX3_sum_99 rfl hw
            · have hw := hw.2 c5
              by_cases c6 : x1 = 6
              · have hw := hw.1 c6
                refine r_tabK (tg := 100) dX3_sum_3 c6 (by decide) (by decide) rfl (by decide) ?_
                refine r_iconst (q := 101) dX3_sum_100 rfl kI_0 ?_
                refine r_istore (q := 103) (lv' := [(0, _), (1, _), (2, _), (4, _)]) dX3_sum_101 rfl (Nat.le_of_ble_eq_true rfl) rfl ?_
                exact r_sub [0, 2, 3] rfl hw
              · have hw := hw.2 c6
                have z0 := lv_neT c0 (show (0 : Int32).toInt = 0 by decide)
                have z1 := lv_neT c1 (show (1 : Int32).toInt = 1 by decide)
                have z2 := lv_neT c2 (show (2 : Int32).toInt = 2 by decide)
                have z3 := lv_neT c3 (show (3 : Int32).toInt = 3 by decide)
                have z4 := lv_neT c4 (show (4 : Int32).toInt = 4 by decide)
                have z5 := lv_neT c5 (show (5 : Int32).toInt = 5 by decide)
                have z6 := lv_neT c6 (show (6 : Int32).toInt = 6 by decide)
                refine r_tabOut (tg := 131) dX3_sum_3 (by omega) (by decide) ?_
                refine r_ldc2 (q := 134) dX3_sum_131 rfl q1749 ?_
                exact r_lret dX3_sum_134 rfl hw
theorem b_X3_sum_67 {x4 : Int32} {y2 : Int64} {mo : Nat} {h : Hp} {k n : Nat} {Q : Int64 → Hp → Prop} {E : Nat → Hp → Prop} (hm : MW h mo) (hw : ((gI h 1001 mo) ≤ x4 → Q y2 h) ∧ (¬ (gI h 1001 mo) ≤ x4 → vp_in x4 12 ∧ (∀ y102 : Int64, y102 = y2 + (Int32.toInt64 (eI h (mo + 15) (ix x4))) → ∀ x103 : Int32, x103 = x4 + 1 → Rn M_X3_sum 67 [(0, rV mo), (2, jV y102), (4, iV x103)] [] h k n (qJ Q) E))) : Rn M_X3_sum 67 [(0, rV mo), (2, jV y2), (4, iV x4)] [] h k n (qJ Q) E := by
  refine r_iload (q := 69) dX3_sum_67 rfl 2 rfl ?_
  refine r_aload_n (q := 70) dX3_sum_69 rfl 0 rfl ?_
  refine r_getI (q := 73) L_X3_191 dX3_sum_70 rfl (mw_k hm) ?_
  refine r_icmp_ge (tg := 93) (q := 76) dX3_sum_73 (by decide) rfl (fun c => ?_) (fun c => ?_)
  · have hw := hw.1 c
    refine r_lload_n (q := 94) dX3_sum_93 rfl 1 rfl ?_
    exact r_lret dX3_sum_94 rfl hw
  · have hw := hw.2 c
    refine r_lload_n (q := 77) dX3_sum_76 rfl 1 rfl ?_
    refine r_aload_n (q := 78) dX3_sum_77 rfl 0 rfl ?_
    refine r_getR (q := 81) L_X3_53 dX3_sum_78 rfl (mw_k hm) (mwr_holds hm) ?_
    refine r_iload (q := 83) dX3_sum_81 rfl 2 rfl ?_
    obtain ⟨g101, hw⟩ := hw
    refine r_ialdL (q := 84) dX3_sum_83 rfl (mwk_holds hm) (mwl_holds hm) g101 ?_
    refine r_i2l (q := 85) dX3_sum_84 rfl ?_
    refine r_ladd (q := 86) dX3_sum_85 rfl ?_
    have hw := hw _ rfl
    refine r_lstore_n (q := 87) (lv' := [(0, _), (2, _), (4, _)]) dX3_sum_86 rfl (Nat.le_of_ble_eq_true rfl) rfl ?_
    have hw := hw _ rfl
    refine r_iincW (q := 90) (lv' := [(0, _), (2, _), (4, _)]) dX3_sum_87 rfl 2 rfl kI_1 (Nat.le_of_ble_eq_true rfl) rfl ?_
    refine r_goto (tg := 67) dX3_sum_90 (by decide) ?_
    exact hw
theorem b_X3_sum_103 {x4 : Int32} {y2 : Int64} {mo : Nat} {h : Hp} {k n : Nat} {Q : Int64 → Hp → Prop} {E : Nat → Hp → Prop} (hm : MW h mo) (hw : ((gI h 1002 mo) ≤ x4 → Q y2 h) ∧ (¬ (gI h 1002 mo) ≤ x4 → vp_in x4 30 ∧ (∀ y102 : Int64, y102 = y2 + (Int32.toInt64 (eI h (mo + 23) (ix x4))) → ∀ x103 : Int32, x103 = x4 + 1 → Rn M_X3_sum 103 [(0, rV mo), (2, jV y102), (4, iV x103)] [] h k n (qJ Q) E))) : Rn M_X3_sum 103 [(0, rV mo), (2, jV y2), (4, iV x4)] [] h k n (qJ Q) E := by
  refine r_iload (q := 105) dX3_sum_103 rfl 2 rfl ?_
  refine r_aload_n (q := 106) dX3_sum_105 rfl 0 rfl ?_
  refine r_getI (q := 109) L_X3_202 dX3_sum_106 rfl (mw_k hm) ?_
  refine r_icmp_ge (tg := 129) (q := 112) dX3_sum_109 (by decide) rfl (fun c => ?_) (fun c => ?_)
  · have hw := hw.1 c
    refine r_lload_n (q := 130) dX3_sum_129 rfl 1 rfl ?_
    exact r_lret dX3_sum_130 rfl hw
  · have hw := hw.2 c
    refine r_lload_n (q := 113) dX3_sum_112 rfl 1 rfl ?_
    refine r_aload_n (q := 114) dX3_sum_113 rfl 0 rfl ?_
    refine r_getR (q := 117) L_X3_77 dX3_sum_114 rfl (mw_k hm) (mwr_has hm) ?_
    refine r_iload (q := 119) dX3_sum_117 rfl 2 rfl ?_
    obtain ⟨g101, hw⟩ := hw
    refine r_ialdL (q := 120) dX3_sum_119 rfl (mwk_has hm) (mwl_has hm) g101 ?_
    refine r_i2l (q := 121) dX3_sum_120 rfl ?_
    refine r_ladd (q := 122) dX3_sum_121 rfl ?_
    have hw := hw _ rfl
    refine r_lstore_n (q := 123) (lv' := [(0, _), (2, _), (4, _)]) dX3_sum_122 rfl (Nat.le_of_ble_eq_true rfl) rfl ?_
    have hw := hw _ rfl
    refine r_iincW (q := 126) (lv' := [(0, _), (2, _), (4, _)]) dX3_sum_123 rfl 2 rfl kI_1 (Nat.le_of_ble_eq_true rfl) rfl ?_
    refine r_goto (tg := 103) dX3_sum_126 (by decide) ?_
    exact hw
theorem b_X3_count_0 {x1 : Int32} {mo : Nat} {h : Hp} {k n : Nat} {Q : Int32 → Hp → Prop} {E : Nat → Hp → Prop} (hm : MW h mo) (hw : (x1 = 0 → Q (gI h 1000 mo) h) ∧ (¬ x1 = 0 → (x1 = 1 → Q (gI h 1001 mo) h) ∧ (¬ x1 = 1 → (x1 = 2 → Q (gI h 1002 mo) h) ∧ (¬ x1 = 2 → (x1 = 3 → Rn M_X3_count 85 [(0, rV mo), (2, iV 0), (3, iV 0)] [] h k n (qI Q) E) ∧ (¬ x1 = 3 → (x1 = 4 → (CNp h mo) ∧ (Q (prks h mo 0) h)) ∧ (¬ x1 = 4 → (x1 = 5 → Q (gI h 1003 mo) h) ∧ (¬ x1 = 5 → (x1 = 6 → Q (gI h 1004 mo) h) ∧ (¬ x1 = 6 → (x1 = 7 → Q (gI h 1067 mo) h) ∧ (¬ x1 = 7 → (x1 = 8 → Q (gI h 1005 mo) h) ∧ (¬ x1 = 8 → (x1 = 9 → Q (gI h 1006 mo) h) ∧ (¬ x1 = 9 → (x1 = 10 → Rn M_X3_count 146 [(0, rV mo), (2, iV 0), (3, iV 0)] [] h k n (qI Q) E) ∧ (¬ x1 = 10 → (x1 = 11 → Rn M_X3_count 176 [(0, rV mo), (2, iV 0), (3, iV 0)] [] h k n (qI Q) E) ∧ (¬ x1 = 11 → (x1 = 12 → Q (gI h 1077 mo) h) ∧ (¬ x1 = 12 → Q (-1) h)))))))))))))) : Rn M_X3_count 0 [(0, rV mo), (1, iV x1)] [] h k n (qI Q) E := by
  refine r_iconst (q := 1) dX3_count_0 rfl kI_0 ?_
  refine r_istore_n (q := 2) (lv' := [(0, _), (1, _), (2, _)]) dX3_count_1 rfl (Nat.le_of_ble_eq_true rfl) rfl ?_
  refine r_iload_n (q := 3) dX3_count_2 rfl 1 rfl ?_
  by_cases c0 : x1 = 0
  · have hw := hw.1 c0
    refine r_tabK (tg := 68) dX3_count_3 c0 (by decide) (by decide) rfl (by decide) ?_
    refine r_aload_n (q := 69) dX3_count_68 rfl 0 rfl ?_
    refine r_getI (q := 72) L_X3_212 dX3_count_69 rfl (mw_k hm) ?_
    exact r_iret dX3_count_72 rfl hw
  · have hw := hw.2 c0
    by_cases c1 : x1 = 1
    · have hw := hw.1 c1
      refine r_tabK (tg := 73) dX3_count_3 c1 (by decide) (by decide) rfl (by decide) ?_
      refine r_aload_n (q := 74) dX3_count_73 rfl 0 rfl ?_
      refine r_getI (q := 77) L_X3_191 dX3_count_74 rfl (mw_k hm) ?_
      exact r_iret dX3_count_77 rfl hw
    · have hw := hw.2 c1
      by_cases c2 : x1 = 2
      · have hw := hw.1 c2
        refine r_tabK (tg := 78) dX3_count_3 c2 (by decide) (by decide) rfl (by decide) ?_
        refine r_aload_n (q := 79) dX3_count_78 rfl 0 rfl ?_
        refine r_getI (q := 82) L_X3_202 dX3_count_79 rfl (mw_k hm) ?_
        exact r_iret dX3_count_82 rfl hw
      · have hw := hw.2 c2
        by_cases c3 : x1 = 3
        · have hw := hw.1 c3
          refine r_tabK (tg := 83) dX3_count_3 c3 (by decide) (by decide) rfl (by decide) ?_
          refine r_iconst (q := 84) dX3_count_83 rfl kI_0 ?_
          refine r_istore_n (q := 85) (lv' := [(0, _), (1, _), (2, _), (3, _)]) dX3_count_84 rfl (Nat.le_of_ble_eq_true rfl) rfl ?_
          exact r_sub [0, 2, 3] rfl hw
        · have hw := hw.2 c3
          by_cases c4 : x1 = 4
          · have hw := hw.1 c4
            refine r_tabK (tg := 113) dX3_count_3 c4 (by decide) (by decide) rfl (by decide) ?_
            refine r_aload_n (q := 114) dX3_count_113 rfl 0 rfl ?_
            refine r_iconst (q := 115) dX3_count_114 rfl kI_0 ?_
            obtain ⟨g101, hw⟩ := hw
            refine r_cVI0 (q := 118) _ [_] N_X3_205 rfl dX3_count_115 rfl rfl rfl (mw_k hm) rfl ?_
            refine cs_X3_parked hm g101 ?_
            exact r_iret dX3_count_118 rfl hw
          · have hw := hw.2 c4
            by_cases c5 : x1 = 5
            · have hw := hw.1 c5
              refine r_tabK (tg := 119) dX3_count_3 c5 (by decide) (by decide) rfl (by decide) ?_
              refine r_aload_n (q := 120) dX3_count_119 rfl 0 rfl ?_
              refine r_getI (q := 123) L_X3_257 dX3_count_120 rfl (mw_k hm) ?_
              exact r_iret dX3_count_123 rfl hw
            · have hw := hw.2 c5
              by_cases c6 : x1 = 6
              · have hw := hw.1 c6
                refine r_tabK (tg := 124) dX3_count_3 c6 (by decide) (by decide) rfl (by decide) ?_
                refine r_aload_n (q := 125) dX3_count_124 rfl 0 rfl ?_
                refine r_getI (q := 128) L_X3_295 dX3_count_125 rfl (mw_k hm) ?_
                exact r_iret dX3_count_128 rfl hw
              · have hw := hw.2 c6
                by_cases c7 : x1 = 7
                · have hw := hw.1 c7
                  refine r_tabK (tg := 129) dX3_count_3 c7 (by decide) (by decide) rfl (by decide) ?_
                  refine r_aload_n (q := 130) dX3_count_129 rfl 0 rfl ?_
                  refine r_getI (q := 133) L_X3_419 dX3_count_130 rfl (mw_k hm) ?_
                  exact r_iret dX3_count_133 rfl hw
                · have hw := hw.2 c7
                  by_cases c8 : x1 = 8
                  · have hw := hw.1 c8
                    refine r_tabK (tg := 134) dX3_count_3 c8 (by decide) (by decide) rfl (by decide) ?_
                    refine r_aload_n (q := 135) dX3_count_134 rfl 0 rfl ?_
                    refine r_getI (q := 138) L_X3_335 dX3_count_135 rfl (mw_k hm) ?_
                    exact r_iret dX3_count_138 rfl hw
                  · have hw := hw.2 c8
                    by_cases c9 : x1 = 9
                    · have hw := hw.1 c9
                      refine r_tabK (tg := 139) dX3_count_3 c9 (by decide) (by decide) rfl (by decide) ?_
                      refine r_aload_n (q := 140) dX3_count_139 rfl 0 rfl ?_
                      refine r_getI (q := 143) L_X3_338 dX3_count_140 rfl (mw_k hm) ?_
                      exact r_iret dX3_count_143 rfl hw
                    · have hw := hw.2 c9
                      by_cases c10 : x1 = 10
                      · have hw := hw.1 c10
                        refine r_tabK (tg := 144) dX3_count_3 c10 (by decide) (by decide) rfl (by decide) ?_
                        refine r_iconst (q := 145) dX3_count_144 rfl kI_0 ?_
                        refine r_istore_n (q := 146) (lv' := [(0, _), (1, _), (2, _), (3, _)]) dX3_count_145 rfl (Nat.le_of_ble_eq_true rfl) rfl ?_
                        exact r_sub [0, 2, 3] rfl hw
                      · have hw := hw.2 c10
                        by_cases c11 : x1 = 11
                        · have hw := hw.1 c11
                          refine r_tabK (tg := 174) dX3_count_3 c11 (by decide) (by decide) rfl (by decide) ?_
                          refine r_iconst (q := 175) dX3_count_174 rfl kI_0 ?_
                          refine r_istore_n (q := 176) (lv' := [(0, _), (1, _), (2, _), (3, _)]) dX3_count_175 rfl (Nat.le_of_ble_eq_true rfl) rfl ?_
                          exact r_sub [0, 2, 3] rfl hw
                        · have hw := hw.2 c11
                          by_cases c12 : x1 = 12
                          · have hw := hw.1 c12
                            refine r_tabK (tg := 221) dX3_count_3 c12 (by decide) (by decide) rfl (by decide) ?_
                            refine r_aload_n (q := 222) dX3_count_221 rfl 0 rfl ?_
                            refine r_getI (q := 225) L_X3_341 dX3_count_222 rfl (mw_k hm) ?_
                            exact r_iret dX3_count_225 rfl hw
                          · have hw := hw.2 c12
                            have z0 := lv_neT c0 (show (0 : Int32).toInt = 0 by decide)
                            have z1 := lv_neT c1 (show (1 : Int32).toInt = 1 by decide)
                            have z2 := lv_neT c2 (show (2 : Int32).toInt = 2 by decide)
                            have z3 := lv_neT c3 (show (3 : Int32).toInt = 3 by decide)
                            have z4 := lv_neT c4 (show (4 : Int32).toInt = 4 by decide)
                            have z5 := lv_neT c5 (show (5 : Int32).toInt = 5 by decide)
                            have z6 := lv_neT c6 (show (6 : Int32).toInt = 6 by decide)
                            have z7 := lv_neT c7 (show (7 : Int32).toInt = 7 by decide)
                            have z8 := lv_neT c8 (show (8 : Int32).toInt = 8 by decide)
                            have z9 := lv_neT c9 (show (9 : Int32).toInt = 9 by decide)
                            have z10 := lv_neT c10 (show (10 : Int32).toInt = 10 by decide)
                            have z11 := lv_neT c11 (show (11 : Int32).toInt = 11 by decide)
                            have z12 := lv_neT c12 (show (12 : Int32).toInt = 12 by decide)
                            refine r_tabOut (tg := 226) dX3_count_3 (by omega) (by decide) ?_
                            refine r_iconst (q := 227) dX3_count_226 rfl kI_m1 ?_
                            exact r_iret dX3_count_227 rfl hw
theorem b_X3_count_85 {x2 x3 : Int32} {mo : Nat} {h : Hp} {k n : Nat} {Q : Int32 → Hp → Prop} {E : Nat → Hp → Prop} (hm : MW h mo) (hw : ((gI h 1001 mo) ≤ x3 → Q x2 h) ∧ (¬ (gI h 1001 mo) ≤ x3 → vp_in x3 12 ∧ (∀ x102 : Int32, x102 = x2 + (b1 (nz (eI h (mo + 6) (ix x3)))) → ∀ x103 : Int32, x103 = x3 + 1 → Rn M_X3_count 85 [(0, rV mo), (2, iV x102), (3, iV x103)] [] h k n (qI Q) E))) : Rn M_X3_count 85 [(0, rV mo), (2, iV x2), (3, iV x3)] [] h k n (qI Q) E := by
  refine r_iload_n (q := 86) dX3_count_85 rfl 2 rfl ?_
  refine r_aload_n (q := 87) dX3_count_86 rfl 0 rfl ?_
  refine r_getI (q := 90) L_X3_191 dX3_count_87 rfl (mw_k hm) ?_
  refine r_icmp_ge (tg := 111) (q := 93) dX3_count_90 (by decide) rfl (fun c => ?_) (fun c => ?_)
  · have hw := hw.1 c
    refine r_iload_n (q := 112) dX3_count_111 rfl 1 rfl ?_
    exact r_iret dX3_count_112 rfl hw
  · have hw := hw.2 c
    refine r_iload_n (q := 94) dX3_count_93 rfl 1 rfl ?_
    refine r_aload_n (q := 95) dX3_count_94 rfl 0 rfl ?_
    refine r_getR (q := 98) L_X3_25 dX3_count_95 rfl (mw_k hm) (mwr_hasBed hm) ?_
    refine r_iload_n (q := 99) dX3_count_98 rfl 2 rfl ?_
    obtain ⟨g101, hw⟩ := hw
    refine r_zaldL (q := 100) dX3_count_99 rfl (mwk_hasBed hm) (mwl_hasBed hm) g101 ?_
    refine r_cSI0 (q := 103) [_] N_X3_319 dX3_count_100 rfl rfl rfl rfl ?_
    refine ct_X3_one  ?_
    refine r_iadd (q := 104) dX3_count_103 rfl ?_
    have hw := hw _ rfl
    refine r_istore_n (q := 105) (lv' := [(0, _), (2, _), (3, _)]) dX3_count_104 rfl (Nat.le_of_ble_eq_true rfl) rfl ?_
    have hw := hw _ rfl
    refine r_iincW (q := 108) (lv' := [(0, _), (2, _), (3, _)]) dX3_count_105 rfl 2 rfl kI_1 (Nat.le_of_ble_eq_true rfl) rfl ?_
    refine r_goto (tg := 85) dX3_count_108 (by decide) ?_
    exact hw
theorem b_X3_count_146 {x2 x3 : Int32} {mo : Nat} {h : Hp} {k n : Nat} {Q : Int32 → Hp → Prop} {E : Nat → Hp → Prop} (hm : MW h mo) (hw : ((gI h 1006 mo) ≤ x3 → Q x2 h) ∧ (¬ (gI h 1006 mo) ≤ x3 → vp_in x3 60 ∧ (∀ x102 : Int32, x102 = x2 + (b1 (nz (eI h (mo + 49) (ix x3)))) → ∀ x103 : Int32, x103 = x3 + 1 → Rn M_X3_count 146 [(0, rV mo), (2, iV x102), (3, iV x103)] [] h k n (qI Q) E))) : Rn M_X3_count 146 [(0, rV mo), (2, iV x2), (3, iV x3)] [] h k n (qI Q) E := by
  refine r_iload_n (q := 147) dX3_count_146 rfl 2 rfl ?_
  refine r_aload_n (q := 148) dX3_count_147 rfl 0 rfl ?_
  refine r_getI (q := 151) L_X3_338 dX3_count_148 rfl (mw_k hm) ?_
  refine r_icmp_ge (tg := 172) (q := 154) dX3_count_151 (by decide) rfl (fun c => ?_) (fun c => ?_)
  · have hw := hw.1 c
    refine r_iload_n (q := 173) dX3_count_172 rfl 1 rfl ?_
    exact r_iret dX3_count_173 rfl hw
  · have hw := hw.2 c
    refine r_iload_n (q := 155) dX3_count_154 rfl 1 rfl ?_
    refine r_aload_n (q := 156) dX3_count_155 rfl 0 rfl ?_
    refine r_getR (q := 159) L_X3_156 dX3_count_156 rfl (mw_k hm) (mwr_isOpen hm) ?_
    refine r_iload_n (q := 160) dX3_count_159 rfl 2 rfl ?_
    obtain ⟨g101, hw⟩ := hw
    refine r_zaldL (q := 161) dX3_count_160 rfl (mwk_isOpen hm) (mwl_isOpen hm) g101 ?_
    refine r_cSI0 (q := 164) [_] N_X3_319 dX3_count_161 rfl rfl rfl rfl ?_
    refine ct_X3_one  ?_
    refine r_iadd (q := 165) dX3_count_164 rfl ?_
    have hw := hw _ rfl
    refine r_istore_n (q := 166) (lv' := [(0, _), (2, _), (3, _)]) dX3_count_165 rfl (Nat.le_of_ble_eq_true rfl) rfl ?_
    have hw := hw _ rfl
    refine r_iincW (q := 169) (lv' := [(0, _), (2, _), (3, _)]) dX3_count_166 rfl 2 rfl kI_1 (Nat.le_of_ble_eq_true rfl) rfl ?_
    refine r_goto (tg := 146) dX3_count_169 (by decide) ?_
    exact hw
theorem b_X3_count_176 {x2 x3 : Int32} {mo : Nat} {h : Hp} {k n : Nat} {Q : Int32 → Hp → Prop} {E : Nat → Hp → Prop} (hm : MW h mo) (hw : ((gI h 1001 mo) ≤ x3 → Q x2 h) ∧ (¬ (gI h 1001 mo) ≤ x3 → vp_in x3 12 ∧ (((eI h (mo + 6) (ix x3)) = 0 → Rn M_X3_count 208 [(0, rV mo), (3, iV x3)] [iV 0, iV x2] h k n (qI Q) E) ∧ (¬ (eI h (mo + 6) (ix x3)) = 0 → vp_in x3 12 ∧ ((¬ (eI h (mo + 8) (ix x3)) = 0 → Rn M_X3_count 208 [(0, rV mo), (3, iV x3)] [iV 0, iV x2] h k n (qI Q) E) ∧ ((eI h (mo + 8) (ix x3)) = 0 → Rn M_X3_count 208 [(0, rV mo), (3, iV x3)] [iV 1, iV x2] h k n (qI Q) E)))))) : Rn M_X3_count 176 [(0, rV mo), (2, iV x2), (3, iV x3)] [] h k n (qI Q) E := by
  refine r_iload_n (q := 177) dX3_count_176 rfl 2 rfl ?_
  refine r_aload_n (q := 178) dX3_count_177 rfl 0 rfl ?_
  refine r_getI (q := 181) L_X3_191 dX3_count_178 rfl (mw_k hm) ?_
  refine r_icmp_ge (tg := 219) (q := 184) dX3_count_181 (by decide) rfl (fun c => ?_) (fun c => ?_)
  · have hw := hw.1 c
    refine r_iload_n (q := 220) dX3_count_219 rfl 1 rfl ?_
    exact r_iret dX3_count_220 rfl hw
  · have hw := hw.2 c
    refine r_iload_n (q := 185) dX3_count_184 rfl 1 rfl ?_
    refine r_aload_n (q := 186) dX3_count_185 rfl 0 rfl ?_
    refine r_getR (q := 189) L_X3_25 dX3_count_186 rfl (mw_k hm) (mwr_hasBed hm) ?_
    refine r_iload_n (q := 190) dX3_count_189 rfl 2 rfl ?_
    obtain ⟨g101, hw⟩ := hw
    refine r_zaldL (q := 191) dX3_count_190 rfl (mwk_hasBed hm) (mwl_hasBed hm) g101 ?_
    refine r_if_eq (tg := 207) (q := 194) dX3_count_191 (by decide) rfl (fun c => ?_) (fun c => ?_)
    · have hw := hw.1 c
      refine r_iconst (q := 208) dX3_count_207 rfl kI_0 ?_
      exact r_sub [0, 2] rfl hw
    · have hw := hw.2 c
      refine r_aload_n (q := 195) dX3_count_194 rfl 0 rfl ?_
      refine r_getR (q := 198) L_X3_32 dX3_count_195 rfl (mw_k hm) (mwr_hasPlants hm) ?_
      refine r_iload_n (q := 199) dX3_count_198 rfl 2 rfl ?_
      obtain ⟨g102, hw⟩ := hw
      refine r_zaldL (q := 200) dX3_count_199 rfl (mwk_hasPlants hm) (mwl_hasPlants hm) g102 ?_
      refine r_if_ne (tg := 207) (q := 203) dX3_count_200 (by decide) rfl (fun c => ?_) (fun c => ?_)
      · have hw := hw.1 c
        refine r_iconst (q := 208) dX3_count_207 rfl kI_0 ?_
        exact r_sub [0, 2] rfl hw
      · have hw := hw.2 c
        refine r_iconst (q := 204) dX3_count_203 rfl kI_1 ?_
        refine r_goto (tg := 208) dX3_count_204 (by decide) ?_
        exact r_sub [0, 2] rfl hw
theorem b_X3_count_208 {x3 a0 a1 : Int32} {mo : Nat} {h : Hp} {k n : Nat} {Q : Int32 → Hp → Prop} {E : Nat → Hp → Prop} (hm : MW h mo) (hw : ∀ x101 : Int32, x101 = a1 + (b1 (nz a0)) → ∀ x102 : Int32, x102 = x3 + 1 → Rn M_X3_count 176 [(0, rV mo), (2, iV x101), (3, iV x102)] [] h k n (qI Q) E) : Rn M_X3_count 208 [(0, rV mo), (3, iV x3)] [iV a0, iV a1] h k n (qI Q) E := by
  refine r_cSI0 (q := 211) [_] N_X3_319 dX3_count_208 rfl rfl rfl rfl ?_
  refine ct_X3_one  ?_
  refine r_iadd (q := 212) dX3_count_211 rfl ?_
  have hw := hw _ rfl
  refine r_istore_n (q := 213) (lv' := [(0, _), (2, _), (3, _)]) dX3_count_212 rfl (Nat.le_of_ble_eq_true rfl) rfl ?_
  have hw := hw _ rfl
  refine r_iincW (q := 216) (lv' := [(0, _), (2, _), (3, _)]) dX3_count_213 rfl 2 rfl kI_1 (Nat.le_of_ble_eq_true rfl) rfl ?_
  refine r_goto (tg := 176) dX3_count_216 (by decide) ?_
  exact hw
theorem b_J9_numberOfLeadingZeros_0 {x0 : Int32} {h : Hp} {k n : Nat} {Q : Int32 → Hp → Prop} {E : Nat → Hp → Prop} (hw : (0 < x0 → (x0 < 65536 → (x0 < 256 → (x0 < 16 → (x0 < 4 → Q (31 - (ushr x0 1)) h) ∧ (¬ x0 < 4 → ∀ x101 : Int32, x101 = 31 + (-2) → ∀ x102 : Int32, x102 = ushr x0 2 → Q (x101 - (ushr x102 1)) h)) ∧ (¬ x0 < 16 → ∀ x103 : Int32, x103 = 31 + (-4) → ∀ x104 : Int32, x104 = ushr x0 4 → (x104 < 4 → Q (x103 - (ushr x104 1)) h) ∧ (¬ x104 < 4 → ∀ x105 : Int32, x105 = x103 + (-2) → ∀ x106 : Int32, x106 = ushr x104 2 → Q (x105 - (ushr x106 1)) h))) ∧ (¬ x0 < 256 → ∀ x107 : Int32, x107 = 31 + (-8) → ∀ x108 : Int32, x108 = ushr x0 8 → (x108 < 16 → (x108 < 4 → Q (x107 - (ushr x108 1)) h) ∧ (¬ x108 < 4 → ∀ x109 : Int32, x109 = x107 + (-2) → ∀ x110 : Int32, x110 = ushr x108 2 → Q (x109 - (ushr x110 1)) h)) ∧ (¬ x108 < 16 → ∀ x111 : Int32, x111 = x107 + (-4) → ∀ x112 : Int32, x112 = ushr x108 4 → (x112 < 4 → Q (x111 - (ushr x112 1)) h) ∧ (¬ x112 < 4 → ∀ x113 : Int32, x113 = x111 + (-2) → ∀ x114 : Int32, x114 = ushr x112 2 → Q (x113 - (ushr x114 1)) h)))) ∧ (¬ x0 < 65536 → ∀ x115 : Int32, x115 = 31 + (-16) → ∀ x116 : Int32, x116 = ushr x0 16 → (x116 < 256 → (x116 < 16 → (x116 < 4 → Q (x115 - (ushr x116 1)) h) ∧ (¬ x116 < 4 → ∀ x117 : Int32, x117 = x115 + (-2) → ∀ x118 : Int32, x118 = ushr x116 2 → Q (x117 - (ushr x118 1)) h)) ∧ (¬ x116 < 16 → ∀ x119 : Int32, x119 = x115 + (-4) → ∀ x120 : Int32, x120 = ushr x116 4 → (x120 < 4 → Q (x119 - (ushr x120 1)) h) ∧ (¬ x120 < 4 → ∀ x121 : Int32, x121 = x119 + (-2) → ∀ x122 : Int32, x122 = ushr x120 2 → Q (x121 - (ushr x122 1)) h))) ∧ (¬ x116 < 256 → ∀ x123 : Int32, x123 = x115 + (-8) → ∀ x124 : Int32, x124 = ushr x116 8 → (x124 < 16 → (x124 < 4 → Q (x123 - (ushr x124 1)) h) ∧ (¬ x124 < 4 → ∀ x125 : Int32, x125 = x123 + (-2) → ∀ x126 : Int32, x126 = ushr x124 2 → Q (x125 - (ushr x126 1)) h)) ∧ (¬ x124 < 16 → ∀ x127 : Int32, x127 = x123 + (-4) → ∀ x128 : Int32, x128 = ushr x124 4 → (x128 < 4 → Q (x127 - (ushr x128 1)) h) ∧ (¬ x128 < 4 → ∀ x129 : Int32, x129 = x127 + (-2) → ∀ x130 : Int32, x130 = ushr x128 2 → Q (x129 - (ushr x130 1)) h))))) ∧ (¬ 0 < x0 → (¬ x0 = 0 → Q 0 h) ∧ (x0 = 0 → Q 32 h))) : Rn M_J9_numberOfLeadingZeros 0 [(0, iV x0)] [] h k n (qI Q) E := by
  refine r_iload_n (q := 1) dJ9_numberOfLeadingZeros_0 rfl 0 rfl ?_
  refine r_if_gt (tg := 15) (q := 4) dJ9_numberOfLeadingZeros_1 (by decide) rfl (fun c => ?_) (fun c => ?_)
  · have hw := hw.1 c
    refine r_bipush (q := 17) dJ9_numberOfLeadingZeros_15 rfl kB_31 ?_
    refine r_istore_n (q := 18) (lv' := [(0, _), (1, _)]) dJ9_numberOfLeadingZeros_17 rfl (Nat.le_of_ble_eq_true rfl) rfl ?_
    refine r_iload_n (q := 19) dJ9_numberOfLeadingZeros_18 rfl 0 rfl ?_
    refine r_ldcw (q := 22) dJ9_numberOfLeadingZeros_19 rfl q1298 ?_
    refine r_icmp_lt (tg := 33) (q := 25) dJ9_numberOfLeadingZeros_22 (by decide) rfl (fun c => ?_) (fun c => ?_)
    · have hw := hw.1 c
      refine r_iload_n (q := 34) dJ9_numberOfLeadingZeros_33 rfl 0 rfl ?_
      refine r_sipush (q := 37) dJ9_numberOfLeadingZeros_34 rfl kS_256 ?_
      refine r_icmp_lt (tg := 48) (q := 40) dJ9_numberOfLeadingZeros_37 (by decide) rfl (fun c => ?_) (fun c => ?_)
      · have hw := hw.1 c
        refine r_iload_n (q := 49) dJ9_numberOfLeadingZeros_48 rfl 0 rfl ?_
        refine r_bipush (q := 51) dJ9_numberOfLeadingZeros_49 rfl kB_16 ?_
        refine r_icmp_lt (tg := 61) (q := 54) dJ9_numberOfLeadingZeros_51 (by decide) rfl (fun c => ?_) (fun c => ?_)
        · have hw := hw.1 c
          refine r_iload_n (q := 62) dJ9_numberOfLeadingZeros_61 rfl 0 rfl ?_
          refine r_iconst (q := 63) dJ9_numberOfLeadingZeros_62 rfl kI_4 ?_
          refine r_icmp_lt (tg := 73) (q := 66) dJ9_numberOfLeadingZeros_63 (by decide) rfl (fun c => ?_) (fun c => ?_)
          · have hw := hw.1 c
            refine r_iload_n (q := 74) dJ9_numberOfLeadingZeros_73 rfl 1 rfl ?_
            refine r_iload_n (q := 75) dJ9_numberOfLeadingZeros_74 rfl 0 rfl ?_
            refine r_iconst (q := 76) dJ9_numberOfLeadingZeros_75 rfl kI_1 ?_
            refine r_iushr (q := 77) dJ9_numberOfLeadingZeros_76 rfl ?_
            refine r_isub (q := 78) dJ9_numberOfLeadingZeros_77 rfl ?_
            exact r_iret dJ9_numberOfLeadingZeros_78 rfl hw
          · have hw := hw.2 c
            have hw := hw _ rfl
            refine r_iincW (q := 69) (lv' := [(0, _), (1, _)]) dJ9_numberOfLeadingZeros_66 rfl 1 rfl kI_m2 (Nat.le_of_ble_eq_true rfl) rfl ?_
            refine r_iload_n (q := 70) dJ9_numberOfLeadingZeros_69 rfl 0 rfl ?_
            refine r_iconst (q := 71) dJ9_numberOfLeadingZeros_70 rfl kI_2 ?_
            refine r_iushr (q := 72) dJ9_numberOfLeadingZeros_71 rfl ?_
            have hw := hw _ rfl
            refine r_istore_n (q := 73) (lv' := [(0, _), (1, _)]) dJ9_numberOfLeadingZeros_72 rfl (Nat.le_of_ble_eq_true rfl) rfl ?_
            refine r_iload_n (q := 74) dJ9_numberOfLeadingZeros_73 rfl 1 rfl ?_
            refine r_iload_n (q := 75) dJ9_numberOfLeadingZeros_74 rfl 0 rfl ?_
            refine r_iconst (q := 76) dJ9_numberOfLeadingZeros_75 rfl kI_1 ?_
            refine r_iushr (q := 77) dJ9_numberOfLeadingZeros_76 rfl ?_
            refine r_isub (q := 78) dJ9_numberOfLeadingZeros_77 rfl ?_
            exact r_iret dJ9_numberOfLeadingZeros_78 rfl hw
        · have hw := hw.2 c
          have hw := hw _ rfl
          refine r_iincW (q := 57) (lv' := [(0, _), (1, _)]) dJ9_numberOfLeadingZeros_54 rfl 1 rfl kI_m4 (Nat.le_of_ble_eq_true rfl) rfl ?_
          refine r_iload_n (q := 58) dJ9_numberOfLeadingZeros_57 rfl 0 rfl ?_
          refine r_iconst (q := 59) dJ9_numberOfLeadingZeros_58 rfl kI_4 ?_
          refine r_iushr (q := 60) dJ9_numberOfLeadingZeros_59 rfl ?_
          have hw := hw _ rfl
          refine r_istore_n (q := 61) (lv' := [(0, _), (1, _)]) dJ9_numberOfLeadingZeros_60 rfl (Nat.le_of_ble_eq_true rfl) rfl ?_
          refine r_iload_n (q := 62) dJ9_numberOfLeadingZeros_61 rfl 0 rfl ?_
          refine r_iconst (q := 63) dJ9_numberOfLeadingZeros_62 rfl kI_4 ?_
          refine r_icmp_lt (tg := 73) (q := 66) dJ9_numberOfLeadingZeros_63 (by decide) rfl (fun c => ?_) (fun c => ?_)
          · have hw := hw.1 c
            refine r_iload_n (q := 74) dJ9_numberOfLeadingZeros_73 rfl 1 rfl ?_
            refine r_iload_n (q := 75) dJ9_numberOfLeadingZeros_74 rfl 0 rfl ?_
            refine r_iconst (q := 76) dJ9_numberOfLeadingZeros_75 rfl kI_1 ?_
            refine r_iushr (q := 77) dJ9_numberOfLeadingZeros_76 rfl ?_
            refine r_isub (q := 78) dJ9_numberOfLeadingZeros_77 rfl ?_
            exact r_iret dJ9_numberOfLeadingZeros_78 rfl hw
          · have hw := hw.2 c
            have hw := hw _ rfl
            refine r_iincW (q := 69) (lv' := [(0, _), (1, _)]) dJ9_numberOfLeadingZeros_66 rfl 1 rfl kI_m2 (Nat.le_of_ble_eq_true rfl) rfl ?_
            refine r_iload_n (q := 70) dJ9_numberOfLeadingZeros_69 rfl 0 rfl ?_
            refine r_iconst (q := 71) dJ9_numberOfLeadingZeros_70 rfl kI_2 ?_
            refine r_iushr (q := 72) dJ9_numberOfLeadingZeros_71 rfl ?_
            have hw := hw _ rfl
            refine r_istore_n (q := 73) (lv' := [(0, _), (1, _)]) dJ9_numberOfLeadingZeros_72 rfl (Nat.le_of_ble_eq_true rfl) rfl ?_
            refine r_iload_n (q := 74) dJ9_numberOfLeadingZeros_73 rfl 1 rfl ?_
            refine r_iload_n (q := 75) dJ9_numberOfLeadingZeros_74 rfl 0 rfl ?_
            refine r_iconst (q := 76) dJ9_numberOfLeadingZeros_75 rfl kI_1 ?_
            refine r_iushr (q := 77) dJ9_numberOfLeadingZeros_76 rfl ?_
            refine r_isub (q := 78) dJ9_numberOfLeadingZeros_77 rfl ?_
            exact r_iret dJ9_numberOfLeadingZeros_78 rfl hw
      · have hw := hw.2 c
        have hw := hw _ rfl
        refine r_iincW (q := 43) (lv' := [(0, _), (1, _)]) dJ9_numberOfLeadingZeros_40 rfl 1 rfl kI_m8 (Nat.le_of_ble_eq_true rfl) rfl ?_
        refine r_iload_n (q := 44) dJ9_numberOfLeadingZeros_43 rfl 0 rfl ?_
        refine r_bipush (q := 46) dJ9_numberOfLeadingZeros_44 rfl kB_8 ?_
        refine r_iushr (q := 47) dJ9_numberOfLeadingZeros_46 rfl ?_
        have hw := hw _ rfl
        refine r_istore_n (q := 48) (lv' := [(0, _), (1, _)]) dJ9_numberOfLeadingZeros_47 rfl (Nat.le_of_ble_eq_true rfl) rfl ?_
        refine r_iload_n (q := 49) dJ9_numberOfLeadingZeros_48 rfl 0 rfl ?_
        refine r_bipush (q := 51) dJ9_numberOfLeadingZeros_49 rfl kB_16 ?_
        refine r_icmp_lt (tg := 61) (q := 54) dJ9_numberOfLeadingZeros_51 (by decide) rfl (fun c => ?_) (fun c => ?_)
        · have hw := hw.1 c
          refine r_iload_n (q := 62) dJ9_numberOfLeadingZeros_61 rfl 0 rfl ?_
          refine r_iconst (q := 63) dJ9_numberOfLeadingZeros_62 rfl kI_4 ?_
          refine r_icmp_lt (tg := 73) (q := 66) dJ9_numberOfLeadingZeros_63 (by decide) rfl (fun c => ?_) (fun c => ?_)
          · have hw := hw.1 c
            refine r_iload_n (q := 74) dJ9_numberOfLeadingZeros_73 rfl 1 rfl ?_
            refine r_iload_n (q := 75) dJ9_numberOfLeadingZeros_74 rfl 0 rfl ?_
            refine r_iconst (q := 76) dJ9_numberOfLeadingZeros_75 rfl kI_1 ?_
            refine r_iushr (q := 77) dJ9_numberOfLeadingZeros_76 rfl ?_
            refine r_isub (q := 78) dJ9_numberOfLeadingZeros_77 rfl ?_
            exact r_iret dJ9_numberOfLeadingZeros_78 rfl hw
          · have hw := hw.2 c
            have hw := hw _ rfl
            refine r_iincW (q := 69) (lv' := [(0, _), (1, _)]) dJ9_numberOfLeadingZeros_66 rfl 1 rfl kI_m2 (Nat.le_of_ble_eq_true rfl) rfl ?_
            refine r_iload_n (q := 70) dJ9_numberOfLeadingZeros_69 rfl 0 rfl ?_
            refine r_iconst (q := 71) dJ9_numberOfLeadingZeros_70 rfl kI_2 ?_
            refine r_iushr (q := 72) dJ9_numberOfLeadingZeros_71 rfl ?_
            have hw := hw _ rfl
            refine r_istore_n (q := 73) (lv' := [(0, _), (1, _)]) dJ9_numberOfLeadingZeros_72 rfl (Nat.le_of_ble_eq_true rfl) rfl ?_
            refine r_iload_n (q := 74) dJ9_numberOfLeadingZeros_73 rfl 1 rfl ?_
            refine r_iload_n (q := 75) dJ9_numberOfLeadingZeros_74 rfl 0 rfl ?_
            refine r_iconst (q := 76) dJ9_numberOfLeadingZeros_75 rfl kI_1 ?_
            refine r_iushr (q := 77) dJ9_numberOfLeadingZeros_76 rfl ?_
            refine r_isub (q := 78) dJ9_numberOfLeadingZeros_77 rfl ?_
            exact r_iret dJ9_numberOfLeadingZeros_78 rfl hw
        · have hw := hw.2 c
          have hw := hw _ rfl
          refine r_iincW (q := 57) (lv' := [(0, _), (1, _)]) dJ9_numberOfLeadingZeros_54 rfl 1 rfl kI_m4 (Nat.le_of_ble_eq_true rfl) rfl ?_
          refine r_iload_n (q := 58) dJ9_numberOfLeadingZeros_57 rfl 0 rfl ?_
          refine r_iconst (q := 59) dJ9_numberOfLeadingZeros_58 rfl kI_4 ?_
          refine r_iushr (q := 60) dJ9_numberOfLeadingZeros_59 rfl ?_
          have hw := hw _ rfl
          refine r_istore_n (q := 61) (lv' := [(0, _), (1, _)]) dJ9_numberOfLeadingZeros_60 rfl (Nat.le_of_ble_eq_true rfl) rfl ?_
          refine r_iload_n (q := 62) dJ9_numberOfLeadingZeros_61 rfl 0 rfl ?_
          refine r_iconst (q := 63) dJ9_numberOfLeadingZeros_62 rfl kI_4 ?_
          refine r_icmp_lt (tg := 73) (q := 66) dJ9_numberOfLeadingZeros_63 (by decide) rfl (fun c => ?_) (fun c => ?_)
          · have hw := hw.1 c
            refine r_iload_n (q := 74) dJ9_numberOfLeadingZeros_73 rfl 1 rfl ?_
            refine r_iload_n (q := 75) dJ9_numberOfLeadingZeros_74 rfl 0 rfl ?_
            refine r_iconst (q := 76) dJ9_numberOfLeadingZeros_75 rfl kI_1 ?_
            refine r_iushr (q := 77) dJ9_numberOfLeadingZeros_76 rfl ?_
            refine r_isub (q := 78) dJ9_numberOfLeadingZeros_77 rfl ?_
            exact r_iret dJ9_numberOfLeadingZeros_78 rfl hw
          · have hw := hw.2 c
            have hw := hw _ rfl
            refine r_iincW (q := 69) (lv' := [(0, _), (1, _)]) dJ9_numberOfLeadingZeros_66 rfl 1 rfl kI_m2 (Nat.le_of_ble_eq_true rfl) rfl ?_
            refine r_iload_n (q := 70) dJ9_numberOfLeadingZeros_69 rfl 0 rfl ?_
            refine r_iconst (q := 71) dJ9_numberOfLeadingZeros_70 rfl kI_2 ?_
            refine r_iushr (q := 72) dJ9_numberOfLeadingZeros_71 rfl ?_
            have hw := hw _ rfl
            refine r_istore_n (q := 73) (lv' := [(0, _), (1, _)]) dJ9_numberOfLeadingZeros_72 rfl (Nat.le_of_ble_eq_true rfl) rfl ?_
            refine r_iload_n (q := 74) dJ9_numberOfLeadingZeros_73 rfl 1 rfl ?_
            refine r_iload_n (q := 75) dJ9_numberOfLeadingZeros_74 rfl 0 rfl ?_
            refine r_iconst (q := 76) dJ9_numberOfLeadingZeros_75 rfl kI_1 ?_
            refine r_iushr (q := 77) dJ9_numberOfLeadingZeros_76 rfl ?_
            refine r_isub (q := 78) dJ9_numberOfLeadingZeros_77 rfl ?_
            exact r_iret dJ9_numberOfLeadingZeros_78 rfl hw
    · have hw := hw.2 c
      have hw := hw _ rfl
      refine r_iincW (q := 28) (lv' := [(0, _), (1, _)]) dJ9_numberOfLeadingZeros_25 rfl 1 rfl kI_m16 (Nat.le_of_ble_eq_true rfl) rfl ?_
      refine r_iload_n (q := 29) dJ9_numberOfLeadingZeros_28 rfl 0 rfl ?_
      refine r_bipush (q := 31) dJ9_numberOfLeadingZeros_29 rfl kB_16 ?_
      refine r_iushr (q := 32) dJ9_numberOfLeadingZeros_31 rfl ?_
      have hw := hw _ rfl
      refine r_istore_n (q := 33) (lv' := [(0, _), (1, _)]) dJ9_numberOfLeadingZeros_32 rfl (Nat.le_of_ble_eq_true rfl) rfl ?_
      refine r_iload_n (q := 34) dJ9_numberOfLeadingZeros_33 rfl 0 rfl ?_
      refine r_sipush (q := 37) dJ9_numberOfLeadingZeros_34 rfl kS_256 ?_
      refine r_icmp_lt (tg := 48) (q := 40) dJ9_numberOfLeadingZeros_37 (by decide) rfl (fun c => ?_) (fun c => ?_)
      · have hw := hw.1 c
        refine r_iload_n (q := 49) dJ9_numberOfLeadingZeros_48 rfl 0 rfl ?_
        refine r_bipush (q := 51) dJ9_numberOfLeadingZeros_49 rfl kB_16 ?_
        refine r_icmp_lt (tg := 61) (q := 54) dJ9_numberOfLeadingZeros_51 (by decide) rfl (fun c => ?_) (fun c => ?_)
        · have hw := hw.1 c
          refine r_iload_n (q := 62) dJ9_numberOfLeadingZeros_61 rfl 0 rfl ?_
          refine r_iconst (q := 63) dJ9_numberOfLeadingZeros_62 rfl kI_4 ?_
          refine r_icmp_lt (tg := 73) (q := 66) dJ9_numberOfLeadingZeros_63 (by decide) rfl (fun c => ?_) (fun c => ?_)
          · have hw := hw.1 c
            refine r_iload_n (q := 74) dJ9_numberOfLeadingZeros_73 rfl 1 rfl ?_
            refine r_iload_n (q := 75) dJ9_numberOfLeadingZeros_74 rfl 0 rfl ?_
            refine r_iconst (q := 76) dJ9_numberOfLeadingZeros_75 rfl kI_1 ?_
            refine r_iushr (q := 77) dJ9_numberOfLeadingZeros_76 rfl ?_
            refine r_isub (q := 78) dJ9_numberOfLeadingZeros_77 rfl ?_
            exact r_iret dJ9_numberOfLeadingZeros_78 rfl hw
          · have hw := hw.2 c
            have hw := hw _ rfl
            refine r_iincW (q := 69) (lv' := [(0, _), (1, _)]) dJ9_numberOfLeadingZeros_66 rfl 1 rfl kI_m2 (Nat.le_of_ble_eq_true rfl) rfl ?_
            refine r_iload_n (q := 70) dJ9_numberOfLeadingZeros_69 rfl 0 rfl ?_
            refine r_iconst (q := 71) dJ9_numberOfLeadingZeros_70 rfl kI_2 ?_
            refine r_iushr (q := 72) dJ9_numberOfLeadingZeros_71 rfl ?_
            have hw := hw _ rfl
            refine r_istore_n (q := 73) (lv' := [(0, _), (1, _)]) dJ9_numberOfLeadingZeros_72 rfl (Nat.le_of_ble_eq_true rfl) rfl ?_
            refine r_iload_n (q := 74) dJ9_numberOfLeadingZeros_73 rfl 1 rfl ?_
            refine r_iload_n (q := 75) dJ9_numberOfLeadingZeros_74 rfl 0 rfl ?_
            refine r_iconst (q := 76) dJ9_numberOfLeadingZeros_75 rfl kI_1 ?_
            refine r_iushr (q := 77) dJ9_numberOfLeadingZeros_76 rfl ?_
            refine r_isub (q := 78) dJ9_numberOfLeadingZeros_77 rfl ?_
            exact r_iret dJ9_numberOfLeadingZeros_78 rfl hw
        · have hw := hw.2 c
          have hw := hw _ rfl
          refine r_iincW (q := 57) (lv' := [(0, _), (1, _)]) dJ9_numberOfLeadingZeros_54 rfl 1 rfl kI_m4 (Nat.le_of_ble_eq_true rfl) rfl ?_
          refine r_iload_n (q := 58) dJ9_numberOfLeadingZeros_57 rfl 0 rfl ?_
          refine r_iconst (q := 59) dJ9_numberOfLeadingZeros_58 rfl kI_4 ?_
          refine r_iushr (q := 60) dJ9_numberOfLeadingZeros_59 rfl ?_
          have hw := hw _ rfl
          refine r_istore_n (q := 61) (lv' := [(0, _), (1, _)]) dJ9_numberOfLeadingZeros_60 rfl (Nat.le_of_ble_eq_true rfl) rfl ?_
          refine r_iload_n (q := 62) dJ9_numberOfLeadingZeros_61 rfl 0 rfl ?_
          refine r_iconst (q := 63) dJ9_numberOfLeadingZeros_62 rfl kI_4 ?_
          refine r_icmp_lt (tg := 73) (q := 66) dJ9_numberOfLeadingZeros_63 (by decide) rfl (fun c => ?_) (fun c => ?_)
          · have hw := hw.1 c
            refine r_iload_n (q := 74) dJ9_numberOfLeadingZeros_73 rfl 1 rfl ?_
            refine r_iload_n (q := 75) dJ9_numberOfLeadingZeros_74 rfl 0 rfl ?_
            refine r_iconst (q := 76) dJ9_numberOfLeadingZeros_75 rfl kI_1 ?_
            refine r_iushr (q := 77) dJ9_numberOfLeadingZeros_76 rfl ?_
            refine r_isub (q := 78) dJ9_numberOfLeadingZeros_77 rfl ?_
            exact r_iret dJ9_numberOfLeadingZeros_78 rfl hw
          · have hw := hw.2 c
            have hw := hw _ rfl
            refine r_iincW (q := 69) (lv' := [(0, _), (1, _)]) dJ9_numberOfLeadingZeros_66 rfl 1 rfl kI_m2 (Nat.le_of_ble_eq_true rfl) rfl ?_
            refine r_iload_n (q := 70) dJ9_numberOfLeadingZeros_69 rfl 0 rfl ?_
            refine r_iconst (q := 71) dJ9_numberOfLeadingZeros_70 rfl kI_2 ?_
            refine r_iushr (q := 72) dJ9_numberOfLeadingZeros_71 rfl ?_
            have hw := hw _ rfl
            refine r_istore_n (q := 73) (lv' := [(0, _), (1, _)]) dJ9_numberOfLeadingZeros_72 rfl (Nat.le_of_ble_eq_true rfl) rfl ?_
            refine r_iload_n (q := 74) dJ9_numberOfLeadingZeros_73 rfl 1 rfl ?_
            refine r_iload_n (q := 75) dJ9_numberOfLeadingZeros_74 rfl 0 rfl ?_
            refine r_iconst (q := 76) dJ9_numberOfLeadingZeros_75 rfl kI_1 ?_
            refine r_iushr (q := 77) dJ9_numberOfLeadingZeros_76 rfl ?_
            refine r_isub (q := 78) dJ9_numberOfLeadingZeros_77 rfl ?_
            exact r_iret dJ9_numberOfLeadingZeros_78 rfl hw
      · have hw := hw.2 c
        have hw := hw _ rfl
        refine r_iincW (q := 43) (lv' := [(0, _), (1, _)]) dJ9_numberOfLeadingZeros_40 rfl 1 rfl kI_m8 (Nat.le_of_ble_eq_true rfl) rfl ?_
        refine r_iload_n (q := 44) dJ9_numberOfLeadingZeros_43 rfl 0 rfl ?_
        refine r_bipush (q := 46) dJ9_numberOfLeadingZeros_44 rfl kB_8 ?_
        refine r_iushr (q := 47) dJ9_numberOfLeadingZeros_46 rfl ?_
        have hw := hw _ rfl
        refine r_istore_n (q := 48) (lv' := [(0, _), (1, _)]) dJ9_numberOfLeadingZeros_47 rfl (Nat.le_of_ble_eq_true rfl) rfl ?_
        refine r_iload_n (q := 49) dJ9_numberOfLeadingZeros_48 rfl 0 rfl ?_
        refine r_bipush (q := 51) dJ9_numberOfLeadingZeros_49 rfl kB_16 ?_
        refine r_icmp_lt (tg := 61) (q := 54) dJ9_numberOfLeadingZeros_51 (by decide) rfl (fun c => ?_) (fun c => ?_)
        · have hw := hw.1 c
          refine r_iload_n (q := 62) dJ9_numberOfLeadingZeros_61 rfl 0 rfl ?_
          refine r_iconst (q := 63) dJ9_numberOfLeadingZeros_62 rfl kI_4 ?_
          refine r_icmp_lt (tg := 73) (q := 66) dJ9_numberOfLeadingZeros_63 (by decide) rfl (fun c => ?_) (fun c => ?_)
          · have hw := hw.1 c
            refine r_iload_n (q := 74) dJ9_numberOfLeadingZeros_73 rfl 1 rfl ?_
            refine r_iload_n (q := 75) dJ9_numberOfLeadingZeros_74 rfl 0 rfl ?_
            refine r_iconst (q := 76) dJ9_numberOfLeadingZeros_75 rfl kI_1 ?_
            refine r_iushr (q := 77) dJ9_numberOfLeadingZeros_76 rfl ?_
            refine r_isub (q := 78) dJ9_numberOfLeadingZeros_77 rfl ?_
            exact r_iret dJ9_numberOfLeadingZeros_78 rfl hw
          · have hw := hw.2 c
            have hw := hw _ rfl
            refine r_iincW (q := 69) (lv' := [(0, _), (1, _)]) dJ9_numberOfLeadingZeros_66 rfl 1 rfl kI_m2 (Nat.le_of_ble_eq_true rfl) rfl ?_
            refine r_iload_n (q := 70) dJ9_numberOfLeadingZeros_69 rfl 0 rfl ?_
            refine r_iconst (q := 71) dJ9_numberOfLeadingZeros_70 rfl kI_2 ?_
            refine r_iushr (q := 72) dJ9_numberOfLeadingZeros_71 rfl ?_
            have hw := hw _ rfl
            refine r_istore_n (q := 73) (lv' := [(0, _), (1, _)]) dJ9_numberOfLeadingZeros_72 rfl (Nat.le_of_ble_eq_true rfl) rfl ?_
            refine r_iload_n (q := 74) dJ9_numberOfLeadingZeros_73 rfl 1 rfl ?_
            refine r_iload_n (q := 75) dJ9_numberOfLeadingZeros_74 rfl 0 rfl ?_
            refine r_iconst (q := 76) dJ9_numberOfLeadingZeros_75 rfl kI_1 ?_
            refine r_iushr (q := 77) dJ9_numberOfLeadingZeros_76 rfl ?_
            refine r_isub (q := 78) dJ9_numberOfLeadingZeros_77 rfl ?_
            exact r_iret dJ9_numberOfLeadingZeros_78 rfl hw
        · have hw := hw.2 c
          have hw := hw _ rfl
          refine r_iincW (q := 57) (lv' := [(0, _), (1, _)]) dJ9_numberOfLeadingZeros_54 rfl 1 rfl kI_m4 (Nat.le_of_ble_eq_true rfl) rfl ?_
          refine r_iload_n (q := 58) dJ9_numberOfLeadingZeros_57 rfl 0 rfl ?_
          refine r_iconst (q := 59) dJ9_numberOfLeadingZeros_58 rfl kI_4 ?_
          refine r_iushr (q := 60) dJ9_numberOfLeadingZeros_59 rfl ?_
          have hw := hw _ rfl
          refine r_istore_n (q := 61) (lv' := [(0, _), (1, _)]) dJ9_numberOfLeadingZeros_60 rfl (Nat.le_of_ble_eq_true rfl) rfl ?_
          refine r_iload_n (q := 62) dJ9_numberOfLeadingZeros_61 rfl 0 rfl ?_
          refine r_iconst (q := 63) dJ9_numberOfLeadingZeros_62 rfl kI_4 ?_
          refine r_icmp_lt (tg := 73) (q := 66) dJ9_numberOfLeadingZeros_63 (by decide) rfl (fun c => ?_) (fun c => ?_)
          · have hw := hw.1 c
            refine r_iload_n (q := 74) dJ9_numberOfLeadingZeros_73 rfl 1 rfl ?_
            refine r_iload_n (q := 75) dJ9_numberOfLeadingZeros_74 rfl 0 rfl ?_
            refine r_iconst (q := 76) dJ9_numberOfLeadingZeros_75 rfl kI_1 ?_
            refine r_iushr (q := 77) dJ9_numberOfLeadingZeros_76 rfl ?_
            refine r_isub (q := 78) dJ9_numberOfLeadingZeros_77 rfl ?_
            exact r_iret dJ9_numberOfLeadingZeros_78 rfl hw
          · have hw := hw.2 c
            have hw := hw _ rfl
            refine r_iincW (q := 69) (lv' := [(0, _), (1, _)]) dJ9_numberOfLeadingZeros_66 rfl 1 rfl kI_m2 (Nat.le_of_ble_eq_true rfl) rfl ?_
            refine r_iload_n (q := 70) dJ9_numberOfLeadingZeros_69 rfl 0 rfl ?_
            refine r_iconst (q := 71) dJ9_numberOfLeadingZeros_70 rfl kI_2 ?_
            refine r_iushr (q := 72) dJ9_numberOfLeadingZeros_71 rfl ?_
            have hw := hw _ rfl
            refine r_istore_n (q := 73) (lv' := [(0, _), (1, _)]) dJ9_numberOfLeadingZeros_72 rfl (Nat.le_of_ble_eq_true rfl) rfl ?_
            refine r_iload_n (q := 74) dJ9_numberOfLeadingZeros_73 rfl 1 rfl ?_
            refine r_iload_n (q := 75) dJ9_numberOfLeadingZeros_74 rfl 0 rfl ?_
            refine r_iconst (q := 76) dJ9_numberOfLeadingZeros_75 rfl kI_1 ?_
            refine r_iushr (q := 77) dJ9_numberOfLeadingZeros_76 rfl ?_
            refine r_isub (q := 78) dJ9_numberOfLeadingZeros_77 rfl ?_
            exact r_iret dJ9_numberOfLeadingZeros_78 rfl hw
  · have hw := hw.2 c
    refine r_iload_n (q := 5) dJ9_numberOfLeadingZeros_4 rfl 0 rfl ?_
    refine r_if_ne (tg := 13) (q := 8) dJ9_numberOfLeadingZeros_5 (by decide) rfl (fun c => ?_) (fun c => ?_)
    · have hw := hw.1 c
      refine r_iconst (q := 14) dJ9_numberOfLeadingZeros_13 rfl kI_0 ?_
      exact r_iret dJ9_numberOfLeadingZeros_14 rfl hw
    · have hw := hw.2 c
      refine r_bipush (q := 10) dJ9_numberOfLeadingZeros_8 rfl kB_32 ?_
      refine r_goto (tg := 14) dJ9_numberOfLeadingZeros_10 (by decide) ?_
      exact r_iret dJ9_numberOfLeadingZeros_14 rfl hw
def V_J9_numberOfLeadingZeros (h : Hp) (x0 : Int32) : Int32 := (if 0 < x0 then (if x0 < 65536 then (if x0 < 256 then (if x0 < 16 then (if x0 < 4 then (31 - (ushr x0 1)) else (let x101 : Int32 := 31 + (-2); (let x102 : Int32 := ushr x0 2; (x101 - (ushr x102 1))))) else (let x103 : Int32 := 31 + (-4); (let x104 : Int32 := ushr x0 4; (if x104 < 4 then (x103 - (ushr x104 1)) else (let x105 : Int32 := x103 + (-2); (let x106 : Int32 := ushr x104 2; (x105 - (ushr x106 1)))))))) else (let x107 : Int32 := 31 + (-8); (let x108 : Int32 := ushr x0 8; (if x108 < 16 then (if x108 < 4 then (x107 - (ushr x108 1)) else (let x109 : Int32 := x107 + (-2); (let x110 : Int32 := ushr x108 2; (x109 - (ushr x110 1))))) else (let x111 : Int32 := x107 + (-4); (let x112 : Int32 := ushr x108 4; (if x112 < 4 then (x111 - (ushr x112 1)) else (let x113 : Int32 := x111 + (-2); (let x114 : Int32 := ushr x112 2; (x113 - (ushr x114 1))))))))))) else (let x115 : Int32 := 31 + (-16); (let x116 : Int32 := ushr x0 16; (if x116 < 256 then (if x116 < 16 then (if x116 < 4 then (x115 - (ushr x116 1)) else (let x117 : Int32 := x115 + (-2); (let x118 : Int32 := ushr x116 2; (x117 - (ushr x118 1))))) else (let x119 : Int32 := x115 + (-4); (let x120 : Int32 := ushr x116 4; (if x120 < 4 then (x119 - (ushr x120 1)) else (let x121 : Int32 := x119 + (-2); (let x122 : Int32 := ushr x120 2; (x121 - (ushr x122 1)))))))) else (let x123 : Int32 := x115 + (-8); (let x124 : Int32 := ushr x116 8; (if x124 < 16 then (if x124 < 4 then (x123 - (ushr x124 1)) else (let x125 : Int32 := x123 + (-2); (let x126 : Int32 := ushr x124 2; (x125 - (ushr x126 1))))) else (let x127 : Int32 := x123 + (-4); (let x128 : Int32 := ushr x124 4; (if x128 < 4 then (x127 - (ushr x128 1)) else (let x129 : Int32 := x127 + (-2); (let x130 : Int32 := ushr x128 2; (x129 - (ushr x130 1)))))))))))))) else (if ¬ x0 = 0 then 0 else 32))
theorem ct_J9_numberOfLeadingZeros {h : Hp} {E : Nat → Hp → Prop} {k n : Nat} {x0 : Int32} {Q : Int32 → Hp → Prop} (hq : Q (V_J9_numberOfLeadingZeros h x0) h) : CtI M_J9_numberOfLeadingZeros [iV x0] h k n Q E := by
  unfold V_J9_numberOfLeadingZeros at hq
  refine b_J9_numberOfLeadingZeros_0 ?_
  refine ⟨fun c => ?_, fun c => ?_⟩
  · rw [if_pos c] at hq
    refine ⟨fun c => ?_, fun c => ?_⟩
    · rw [if_pos c] at hq
      refine ⟨fun c => ?_, fun c => ?_⟩
      · rw [if_pos c] at hq
        refine ⟨fun c => ?_, fun c => ?_⟩
        · rw [if_pos c] at hq
          refine ⟨fun c => ?_, fun c => ?_⟩
          · rw [if_pos c] at hq
            exact hq
          · rw [if_neg (by first | exact c | exact fun z => z c | (rw [c]; decide))] at hq
            intro x101 ex101
            subst ex101
            intro x102 ex102
            subst ex102
            exact hq
        · rw [if_neg (by first | exact c | exact fun z => z c | (rw [c]; decide))] at hq
          intro x103 ex103
          subst ex103
          intro x104 ex104
          subst ex104
          refine ⟨fun c => ?_, fun c => ?_⟩
          · rw [if_pos c] at hq
            exact hq
          · rw [if_neg (by first | exact c | exact fun z => z c | (rw [c]; decide))] at hq
            intro x105 ex105
            subst ex105
            intro x106 ex106
            subst ex106
            exact hq
      · rw [if_neg (by first | exact c | exact fun z => z c | (rw [c]; decide))] at hq
        intro x107 ex107
        subst ex107
        intro x108 ex108
        subst ex108
        refine ⟨fun c => ?_, fun c => ?_⟩
        · rw [if_pos c] at hq
          refine ⟨fun c => ?_, fun c => ?_⟩
          · rw [if_pos c] at hq
            exact hq
          · rw [if_neg (by first | exact c | exact fun z => z c | (rw [c]; decide))] at hq
            intro x109 ex109
            subst ex109
            intro x110 ex110
            subst ex110
            exact hq
        · rw [if_neg (by first | exact c | exact fun z => z c | (rw [c]; decide))] at hq
          intro x111 ex111
          subst ex111
          intro x112 ex112
          subst ex112
          refine ⟨fun c => ?_, fun c => ?_⟩
          · rw [if_pos c] at hq
            exact hq
          · rw [if_neg (by first | exact c | exact fun z => z c | (rw [c]; decide))] at hq
            intro x113 ex113
            subst ex113
            intro x114 ex114
            subst ex114
            exact hq
    · rw [if_neg (by first | exact c | exact fun z => z c | (rw [c]; decide))] at hq
      intro x115 ex115
      subst ex115
      intro x116 ex116
      subst ex116
      refine ⟨fun c => ?_, fun c => ?_⟩
      · rw [if_pos c] at hq
        refine ⟨fun c => ?_, fun c => ?_⟩
        · rw [if_pos c] at hq
          refine ⟨fun c => ?_, fun c => ?_⟩
          · rw [if_pos c] at hq
            exact hq
          · rw [if_neg (by first | exact c | exact fun z => z c | (rw [c]; decide))] at hq
            intro x117 ex117
            subst ex117
            intro x118 ex118
            subst ex118
            exact hq
        · rw [if_neg (by first | exact c | exact fun z => z c | (rw [c]; decide))] at hq
          intro x119 ex119
          subst ex119
          intro x120 ex120
          subst ex120
          refine ⟨fun c => ?_, fun c => ?_⟩
          · rw [if_pos c] at hq
            exact hq
          · rw [if_neg (by first | exact c | exact fun z => z c | (rw [c]; decide))] at hq
            intro x121 ex121
            subst ex121
            intro x122 ex122
            subst ex122
            exact hq
      · rw [if_neg (by first | exact c | exact fun z => z c | (rw [c]; decide))] at hq
        intro x123 ex123
        subst ex123
        intro x124 ex124
        subst ex124
        refine ⟨fun c => ?_, fun c => ?_⟩
        · rw [if_pos c] at hq
          refine ⟨fun c => ?_, fun c => ?_⟩
          · rw [if_pos c] at hq
            exact hq
          · rw [if_neg (by first | exact c | exact fun z => z c | (rw [c]; decide))] at hq
            intro x125 ex125
            subst ex125
            intro x126 ex126
            subst ex126
            exact hq
        · rw [if_neg (by first | exact c | exact fun z => z c | (rw [c]; decide))] at hq
          intro x127 ex127
          subst ex127
          intro x128 ex128
          subst ex128
          refine ⟨fun c => ?_, fun c => ?_⟩
          · rw [if_pos c] at hq
            exact hq
          · rw [if_neg (by first | exact c | exact fun z => z c | (rw [c]; decide))] at hq
            intro x129 ex129
            subst ex129
            intro x130 ex130
            subst ex130
            exact hq
  · rw [if_neg (by first | exact c | exact fun z => z c | (rw [c]; decide))] at hq
    refine ⟨fun c => ?_, fun c => ?_⟩
    · rw [if_pos c] at hq
      exact hq
    · rw [if_neg (by first | exact c | exact fun z => z c | (rw [c]; decide))] at hq
      exact hq
theorem b_J9_bitCount_0 {x0 : Int32} {h : Hp} {k n : Nat} {Q : Int32 → Hp → Prop} {E : Nat → Hp → Prop} (hw : ∀ x101 : Int32, x101 = x0 - ((ushr x0 1) &&& 1431655765) → ∀ x102 : Int32, x102 = (x101 &&& 858993459) + ((ushr x101 2) &&& 858993459) → ∀ x103 : Int32, x103 = (x102 + (ushr x102 4)) &&& 252645135 → ∀ x104 : Int32, x104 = x103 + (ushr x103 8) → ∀ x105 : Int32, x105 = x104 + (ushr x104 16) → Q (x105 &&& 63) h) : Rn M_J9_bitCount 0 [(0, iV x0)] [] h k n (qI Q) E := by
  refine r_iload_n (q := 1) dJ9_bitCount_0 rfl 0 rfl ?_
  refine r_iload_n (q := 2) dJ9_bitCount_1 rfl 0 rfl ?_
  refine r_iconst (q := 3) dJ9_bitCount_2 rfl kI_1 ?_
  refine r_iushr (q := 4) dJ9_bitCount_3 rfl ?_
  refine r_ldcw (q := 7) dJ9_bitCount_4 rfl q1268 ?_
  refine r_iand (q := 8) dJ9_bitCount_7 rfl ?_
  refine r_isub (q := 9) dJ9_bitCount_8 rfl ?_
  have hw := hw _ rfl
  refine r_istore_n (q := 10) (lv' := [(0, _)]) dJ9_bitCount_9 rfl (Nat.le_of_ble_eq_true rfl) rfl ?_
  refine r_iload_n (q := 11) dJ9_bitCount_10 rfl 0 rfl ?_
  refine r_ldcw (q := 14) dJ9_bitCount_11 rfl q1269 ?_
  refine r_iand (q := 15) dJ9_bitCount_14 rfl ?_
  refine r_iload_n (q := 16) dJ9_bitCount_15 rfl 0 rfl ?_
  refine r_iconst (q := 17) dJ9_bitCount_16 rfl kI_2 ?_
  refine r_iushr (q := 18) dJ9_bitCount_17 rfl ?_
  refine r_ldcw (q := 21) dJ9_bitCount_18 rfl q1269 ?_
  refine r_iand (q := 22) dJ9_bitCount_21 rfl ?_
  refine r_iadd (q := 23) dJ9_bitCount_22 rfl ?_
  have hw := hw _ rfl
  refine r_istore_n (q := 24) (lv' := [(0, _)]) dJ9_bitCount_23 rfl (Nat.le_of_ble_eq_true rfl) rfl ?_
  refine r_iload_n (q := 25) dJ9_bitCount_24 rfl 0 rfl ?_
  refine r_iload_n (q := 26) dJ9_bitCount_25 rfl 0 rfl ?_
  refine r_iconst (q := 27) dJ9_bitCount_26 rfl kI_4 ?_
  refine r_iushr (q := 28) dJ9_bitCount_27 rfl ?_
  refine r_iadd (q := 29) dJ9_bitCount_28 rfl ?_
  refine r_ldcw (q := 32) dJ9_bitCount_29 rfl q1270 ?_
  refine r_iand (q := 33) dJ9_bitCount_32 rfl ?_
  have hw := hw _ rfl
  refine r_istore_n (q := 34) (lv' := [(0, _)]) dJ9_bitCount_33 rfl (Nat.le_of_ble_eq_true rfl) rfl ?_
  refine r_iload_n (q := 35) dJ9_bitCount_34 rfl 0 rfl ?_
  refine r_iload_n (q := 36) dJ9_bitCount_35 rfl 0 rfl ?_
  refine r_bipush (q := 38) dJ9_bitCount_36 rfl kB_8 ?_
  refine r_iushr (q := 39) dJ9_bitCount_38 rfl ?_
  refine r_iadd (q := 40) dJ9_bitCount_39 rfl ?_
  have hw := hw _ rfl
  refine r_istore_n (q := 41) (lv' := [(0, _)]) dJ9_bitCount_40 rfl (Nat.le_of_ble_eq_true rfl) rfl ?_
  refine r_iload_n (q := 42) dJ9_bitCount_41 rfl 0 rfl ?_
  refine r_iload_n (q := 43) dJ9_bitCount_42 rfl 0 rfl ?_
  refine r_bipush (q := 45) dJ9_bitCount_43 rfl kB_16 ?_
  refine r_iushr (q := 46) dJ9_bitCount_45 rfl ?_
  refine r_iadd (q := 47) dJ9_bitCount_46 rfl ?_
  have hw := hw _ rfl
  refine r_istore_n (q := 48) (lv' := [(0, _)]) dJ9_bitCount_47 rfl (Nat.le_of_ble_eq_true rfl) rfl ?_
  refine r_iload_n (q := 49) dJ9_bitCount_48 rfl 0 rfl ?_
  refine r_bipush (q := 51) dJ9_bitCount_49 rfl kB_63 ?_
  refine r_iand (q := 52) dJ9_bitCount_51 rfl ?_
  exact r_iret dJ9_bitCount_52 rfl hw
def V_J9_bitCount (h : Hp) (x0 : Int32) : Int32 := (let x101 : Int32 := x0 - ((ushr x0 1) &&& 1431655765); (let x102 : Int32 := (x101 &&& 858993459) + ((ushr x101 2) &&& 858993459); (let x103 : Int32 := (x102 + (ushr x102 4)) &&& 252645135; (let x104 : Int32 := x103 + (ushr x103 8); (let x105 : Int32 := x104 + (ushr x104 16); (x105 &&& 63))))))
theorem ct_J9_bitCount {h : Hp} {E : Nat → Hp → Prop} {k n : Nat} {x0 : Int32} {Q : Int32 → Hp → Prop} (hq : Q (V_J9_bitCount h x0) h) : CtI M_J9_bitCount [iV x0] h k n Q E := by
  unfold V_J9_bitCount at hq
  refine b_J9_bitCount_0 ?_
  intro x101 ex101
  subst ex101
  intro x102 ex102
  subst ex102
  intro x103 ex103
  subst ex103
  intro x104 ex104
  subst ex104
  intro x105 ex105
  subst ex105
  exact hq
theorem b_X3_law_0 {x1 x2 : Int32} {mo : Nat} {h : Hp} {k n : Nat} {Q : Int32 → Hp → Prop} {E : Nat → Hp → Prop} (hm : MW h mo) (hw : ((isin x1 0 3649) = false → Q (-1) h) ∧ ((isin x1 0 3649) = true → ((isin x2 0 22) = true → (LWp h mo) ∧ (∀ x102 : Int32, x102 = frcm h mo x1 → (¬ x2 = 22 → (21 ≤ x2 → ∀ x103 : Int32, x103 = 24 * x102 → Rn M_X3_law 59 [(0, rV mo), (3, iV x102), (4, iV 0), (5, iV x103)] [] h k n (qI Q) E) ∧ (¬ 21 ≤ x2 → (LWp h mo) ∧ (Q (lawn h mo x1 x2) h))) ∧ (x2 = 22 → Q x102 h))) ∧ ((isin x2 0 22) = false → Q (-1) h))) : Rn M_X3_law 0 [(0, rV mo), (1, iV x1), (2, iV x2)] [] h k n (qI Q) E := by
  refine r_iload_n (q := 1) dX3_law_0 rfl 1 rfl ?_
  refine r_iconst (q := 2) dX3_law_1 rfl kI_0 ?_
  refine r_sipush (q := 5) dX3_law_2 rfl kS_3649 ?_
  refine r_cSI0 (q := 8) [_, _, _] N_X3_194 dX3_law_5 rfl rfl rfl rfl ?_
  refine ct_X3_isIn  ?_
  refine r_ifb_eq (tg := 21) (q := 11) dX3_law_8 (by decide) rfl (fun c => ?_) (fun c => ?_)
  · have hw := hw.1 c
    refine r_iconst (q := 22) dX3_law_21 rfl kI_m1 ?_
    exact r_iret dX3_law_22 rfl hw
  · have hw := hw.2 c
    refine r_iload_n (q := 12) dX3_law_11 rfl 2 rfl ?_
    refine r_iconst (q := 13) dX3_law_12 rfl kI_0 ?_
    refine r_bipush (q := 15) dX3_law_13 rfl kB_22 ?_
    refine r_cSI0 (q := 18) [_, _, _] N_X3_194 dX3_law_15 rfl rfl rfl rfl ?_
    refine ct_X3_isIn  ?_
    refine r_ifb_ne (tg := 23) (q := 21) dX3_law_18 (by decide) rfl (fun c => ?_) (fun c => ?_)
    · have hw := hw.1 c
      refine r_aload_n (q := 24) dX3_law_23 rfl 0 rfl ?_
      refine r_iload_n (q := 25) dX3_law_24 rfl 1 rfl ?_
      obtain ⟨g101, hw⟩ := hw
      refine r_cVI0 (q := 28) _ [_] N_X3_240 rfl dX3_law_25 rfl rfl rfl (mw_k hm) rfl ?_
      refine cs_X3_inForce hm g101 ?_
      have hw := hw _ rfl
      refine r_istore_n (q := 29) (lv' := [(0, _), (1, _), (2, _), (3, _)]) dX3_law_28 rfl (Nat.le_of_ble_eq_true rfl) rfl ?_
      refine r_iload_n (q := 30) dX3_law_29 rfl 2 rfl ?_
      refine r_bipush (q := 32) dX3_law_30 rfl kB_22 ?_
      refine r_icmp_ne (tg := 37) (q := 35) dX3_law_32 (by decide) rfl (fun c => ?_) (fun c => ?_)
      · have hw := hw.1 c
        refine r_iload_n (q := 38) dX3_law_37 rfl 2 rfl ?_
        refine r_bipush (q := 40) dX3_law_38 rfl kB_21 ?_
        refine r_icmp_ge (tg := 50) (q := 43) dX3_law_40 (by decide) rfl (fun c => ?_) (fun c => ?_)
        · have hw := hw.1 c
          refine r_iconst (q := 51) dX3_law_50 rfl kI_0 ?_
          refine r_istore (q := 53) (lv' := [(0, _), (1, _), (2, _), (3, _), (4, _)]) dX3_law_51 rfl (Nat.le_of_ble_eq_true rfl) rfl ?_
          refine r_bipush (q := 55) dX3_law_53 rfl kB_24 ?_
          refine r_iload_n (q := 56) dX3_law_55 rfl 3 rfl ?_
          refine r_imul (q := 57) dX3_law_56 rfl ?_
          have hw := hw _ rfl
          refine r_istore (q := 59) (lv' := [(0, _), (1, _), (2, _), (3, _), (4, _), (5, _)]) dX3_law_57 rfl (Nat.le_of_ble_eq_true rfl) rfl ?_
          exact r_sub [0, 3, 4, 5] rfl hw
        · have hw := hw.2 c
          refine r_aload_n (q := 44) dX3_law_43 rfl 0 rfl ?_
          refine r_iload_n (q := 45) dX3_law_44 rfl 1 rfl ?_
          refine r_iload_n (q := 46) dX3_law_45 rfl 2 rfl ?_
          obtain ⟨g104, hw⟩ := hw
          refine r_cVI0 (q := 49) _ [_, _] N_X3_332 rfl dX3_law_46 rfl rfl rfl (mw_k hm) rfl ?_
          refine cs_X3_lawOn hm g104 ?_
          exact r_iret dX3_law_49 rfl hw
      · have hw := hw.2 c
        refine r_iload_n (q := 36) dX3_law_35 rfl 3 rfl ?_
        exact r_iret dX3_law_36 rfl hw
    · have hw := hw.2 c
      refine r_iconst (q := 22) dX3_law_21 rfl kI_m1 ?_
      exact r_iret dX3_law_22 rfl hw
theorem b_X3_law_59 {x3 x4 x5 : Int32} {mo : Nat} {h : Hp} {k n : Nat} {Q : Int32 → Hp → Prop} {E : Nat → Hp → Prop} (hm : MW h mo) (hw : (x3 = (-1) → Q x4 h) ∧ (¬ x3 = (-1) → vp_in x3 11 ∧ ((((24 * x3) + (eI h (mo + 50) (ix x3))) ≤ x5 → Q x4 h) ∧ (¬ ((24 * x3) + (eI h (mo + 50) (ix x3))) ≤ x5 → vp_in x5 264 ∧ ((¬ (eI h (mo + 52) (ix x5)) = 30 → Rn M_X3_law 99 [(0, rV mo), (3, iV x3), (5, iV x5)] [iV 0, iV x4] h k n (qI Q) E) ∧ ((eI h (mo + 52) (ix x5)) = 30 → Rn M_X3_law 99 [(0, rV mo), (3, iV x3), (5, iV x5)] [iV 1, iV x4] h k n (qI Q) E)))))) : Rn M_X3_law 59 [(0, rV mo), (3, iV x3), (4, iV x4), (5, iV x5)] [] h k n (qI Q) E := by
  refine r_iload_n (q := 60) dX3_law_59 rfl 1 rfl ?_
  refine r_iconst (q := 61) dX3_law_60 rfl kI_m1 ?_
  refine r_icmp_eq (tg := 111) (q := 64) dX3_law_61 (by decide) rfl (fun c => ?_) (fun c => ?_)
  · have hw := hw.1 c
    refine r_iload (q := 113) dX3_law_111 rfl 2 rfl ?_
    exact r_iret dX3_law_113 rfl hw
  · have hw := hw.2 c
    refine r_iload (q := 66) dX3_law_64 rfl 3 rfl ?_
    refine r_bipush (q := 68) dX3_law_66 rfl kB_24 ?_
    refine r_iload_n (q := 69) dX3_law_68 rfl 1 rfl ?_
    refine r_imul (q := 70) dX3_law_69 rfl ?_
    refine r_aload_n (q := 71) dX3_law_70 rfl 0 rfl ?_
    refine r_getR (q := 74) L_X3_159 dX3_law_71 rfl (mw_k hm) (mwr_statements hm) ?_
    refine r_iload_n (q := 75) dX3_law_74 rfl 1 rfl ?_
    obtain ⟨g101, hw⟩ := hw
    refine r_ialdL (q := 76) dX3_law_75 rfl (mwk_statements hm) (mwl_statements hm) g101 ?_
    refine r_iadd (q := 77) dX3_law_76 rfl ?_
    refine r_icmp_ge (tg := 111) (q := 80) dX3_law_77 (by decide) rfl (fun c => ?_) (fun c => ?_)
    · have hw := hw.1 c
      refine r_iload (q := 113) dX3_law_111 rfl 2 rfl ?_
      exact r_iret dX3_law_113 rfl hw
    · have hw := hw.2 c
      refine r_iload (q := 82) dX3_law_80 rfl 2 rfl ?_
      refine r_aload_n (q := 83) dX3_law_82 rfl 0 rfl ?_
      refine r_getR (q := 86) L_X3_165 dX3_law_83 rfl (mw_k hm) (mwr_sort hm) ?_
      refine r_iload (q := 88) dX3_law_86 rfl 3 rfl ?_
      obtain ⟨g102, hw⟩ := hw
      refine r_ialdL (q := 89) dX3_law_88 rfl (mwk_sort hm) (mwl_sort hm) g102 ?_
      refine r_bipush (q := 91) dX3_law_89 rfl kB_30 ?_
      refine r_icmp_ne (tg := 98) (q := 94) dX3_law_91 (by decide) rfl (fun c => ?_) (fun c => ?_)
      · have hw := hw.1 c
        refine r_iconst (q := 99) dX3_law_98 rfl kI_0 ?_
        exact r_sub [0, 1, 3] rfl hw
      · have hw := hw.2 c
        refine r_iconst (q := 95) dX3_law_94 rfl kI_1 ?_
        refine r_goto (tg := 99) dX3_law_95 (by decide) ?_
        exact r_sub [0, 1, 3] rfl hw
theorem b_X3_law_99 {x3 x5 a0 a1 : Int32} {mo : Nat} {h : Hp} {k n : Nat} {Q : Int32 → Hp → Prop} {E : Nat → Hp → Prop} (hm : MW h mo) (hw : ∀ x101 : Int32, x101 = a1 + (b1 (nz a0)) → ∀ x102 : Int32, x102 = x5 + 1 → Rn M_X3_law 59 [(0, rV mo), (3, iV x3), (4, iV x101), (5, iV x102)] [] h k n (qI Q) E) : Rn M_X3_law 99 [(0, rV mo), (3, iV x3), (5, iV x5)] [iV a0, iV a1] h k n (qI Q) E := by
  refine r_cSI0 (q := 102) [_] N_X3_319 dX3_law_99 rfl rfl rfl rfl ?_
  refine ct_X3_one  ?_
  refine r_iadd (q := 103) dX3_law_102 rfl ?_
  have hw := hw _ rfl
  refine r_istore (q := 105) (lv' := [(0, _), (3, _), (4, _), (5, _)]) dX3_law_103 rfl (Nat.le_of_ble_eq_true rfl) rfl ?_
  have hw := hw _ rfl
  refine r_iincW (q := 108) (lv' := [(0, _), (3, _), (4, _), (5, _)]) dX3_law_105 rfl 3 rfl kI_1 (Nat.le_of_ble_eq_true rfl) rfl ?_
  refine r_goto (tg := 59) dX3_law_108 (by decide) ?_
  exact hw
theorem b_X3_turn_0 {x1 x2 x3 : Int32} {mo : Nat} {h : Hp} {k n : Nat} {Q : Int32 → Hp → Prop} {E : Nat → Hp → Prop} (hm : MW h mo) (hw : ((isin x1 0 9) = false → Q (-1) h) ∧ ((isin x1 0 9) = true → ((isin x2 0 (gI h 1001 mo - 1)) = false → Q (-1) h) ∧ ((isin x2 0 (gI h 1001 mo - 1)) = true → ((isin x3 0 3649) = true → (LWp h mo) ∧ (∀ x102 : Int32, x102 = frcm h mo x3 → ∀ x103 : Int32, x103 = 24 * x102 → Rn M_X3_turn 48 [(0, rV mo), (1, iV x1), (2, iV x2), (3, iV x3), (4, iV x102), (5, iV 0), (6, iV x103)] [] h k n (qI Q) E)) ∧ ((isin x3 0 3649) = false → Q (-1) h)))) : Rn M_X3_turn 0 [(0, rV mo), (1, iV x1), (2, iV x2), (3, iV x3)] [] h k n (qI Q) E := by
  refine r_iload_n (q := 1) dX3_turn_0 rfl 1 rfl ?_
  refine r_iconst (q := 2) dX3_turn_1 rfl kI_0 ?_
  refine r_bipush (q := 4) dX3_turn_2 rfl kB_9 ?_
  refine r_cSI0 (q := 7) [_, _, _] N_X3_194 dX3_turn_4 rfl rfl rfl rfl ?_
  refine ct_X3_isIn  ?_
  refine r_ifb_eq (tg := 29) (q := 10) dX3_turn_7 (by decide) rfl (fun c => ?_) (fun c => ?_)
  · have hw := hw.1 c
    refine r_iconst (q := 30) dX3_turn_29 rfl kI_m1 ?_
    exact r_iret dX3_turn_30 rfl hw
  · have hw := hw.2 c
    refine r_aload_n (q := 11) dX3_turn_10 rfl 0 rfl ?_
    refine r_iload_n (q := 12) dX3_turn_11 rfl 2 rfl ?_
    refine r_cVI0 (q := 15) _ [_] N_X3_198 rfl dX3_turn_12 rfl rfl rfl (mw_k hm) rfl ?_
    refine ct_X3_isCorner hm ?_
    refine r_ifb_eq (tg := 29) (q := 18) dX3_turn_15 (by decide) rfl (fun c => ?_) (fun c => ?_)
    · have hw := hw.1 c
      refine r_iconst (q := 30) dX3_turn_29 rfl kI_m1 ?_
      exact r_iret dX3_turn_30 rfl hw
    · have hw := hw.2 c
      refine r_iload_n (q := 19) dX3_turn_18 rfl 3 rfl ?_
      refine r_iconst (q := 20) dX3_turn_19 rfl kI_0 ?_
      refine r_sipush (q := 23) dX3_turn_20 rfl kS_3649 ?_
      refine r_cSI0 (q := 26) [_, _, _] N_X3_194 dX3_turn_23 rfl rfl rfl rfl ?_
      refine ct_X3_isIn  ?_
      refine r_ifb_ne (tg := 31) (q := 29) dX3_turn_26 (by decide) rfl (fun c => ?_) (fun c => ?_)
      · have hw := hw.1 c
        refine r_aload_n (q := 32) dX3_turn_31 rfl 0 rfl ?_
        refine r_iload_n (q := 33) dX3_turn_32 rfl 3 rfl ?_
        obtain ⟨g101, hw⟩ := hw
        refine r_cVI0 (q := 36) _ [_] N_X3_240 rfl dX3_turn_33 rfl rfl rfl (mw_k hm) rfl ?_
        refine cs_X3_inForce hm g101 ?_
        have hw := hw _ rfl
        refine r_istore (q := 38) (lv' := [(0, _), (1, _), (2, _), (3, _), (4, _)]) dX3_turn_36 rfl (Nat.le_of_ble_eq_true rfl) rfl ?_
        refine r_iconst (q := 39) dX3_turn_38 rfl kI_0 ?_
        refine r_istore (q := 41) (lv' := [(0, _), (1, _), (2, _), (3, _), (4, _), (5, _)]) dX3_turn_39 rfl (Nat.le_of_ble_eq_true rfl) rfl ?_
        refine r_bipush (q := 43) dX3_turn_41 rfl kB_24 ?_
        refine r_iload (q := 45) dX3_turn_43 rfl 4 rfl ?_
        refine r_imul (q := 46) dX3_turn_45 rfl ?_
        have hw := hw _ rfl
        refine r_istore (q := 48) (lv' := [(0, _), (1, _), (2, _), (3, _), (4, _), (5, _), (6, _)]) dX3_turn_46 rfl (Nat.le_of_ble_eq_true rfl) rfl ?_
        exact hw
      · have hw := hw.2 c
        refine r_iconst (q := 30) dX3_turn_29 rfl kI_m1 ?_
        exact r_iret dX3_turn_30 rfl hw
theorem b_X3_turn_48 {x1 x2 x3 x4 x5 x6 : Int32} {mo : Nat} {h : Hp} {k n : Nat} {Q : Int32 → Hp → Prop} {E : Nat → Hp → Prop} (hm : MW h mo) (hw : (x4 = (-1) → Rn M_X3_turn 122 [(0, rV mo), (5, iV x5)] [] h k n (qI Q) E) ∧ (¬ x4 = (-1) → vp_in x4 11 ∧ ((((24 * x4) + (eI h (mo + 50) (ix x4))) ≤ x6 → Rn M_X3_turn 122 [(0, rV mo), (5, iV x5)] [] h k n (qI Q) E) ∧ (¬ ((24 * x4) + (eI h (mo + 50) (ix x4))) ≤ x6 → (¬ x5 = 0 → ∀ x102 : Int32, x102 = x6 + 1 → Rn M_X3_turn 48 [(0, rV mo), (1, iV x1), (2, iV x2), (3, iV x3), (4, iV x4), (5, iV 1), (6, iV x102)] [] h k n (qI Q) E) ∧ (x5 = 0 → CtI M_X3_isTurn [rV mo, iV x6, iV x3] h 0 0 (fun x104 h103 => MW h103 mo ∧ ((x104 = 0 → ∀ x105 : Int32, x105 = x6 + 1 → Rn M_X3_turn 48 [(0, rV mo), (1, iV x1), (2, iV x2), (3, iV x3), (4, iV x4), (5, iV 0), (6, iV x105)] [] h103 k n (qI Q) E) ∧ (¬ x104 = 0 → vp_in x6 264 ∧ ((¬ (eI h103 (mo + 53) (ix x6)) = x1 → ∀ x107 : Int32, x107 = x6 + 1 → Rn M_X3_turn 48 [(0, rV mo), (1, iV x1), (2, iV x2), (3, iV x3), (4, iV x4), (5, iV 0), (6, iV x107)] [] h103 k n (qI Q) E) ∧ ((eI h103 (mo + 53) (ix x6)) = x1 → vp_in x6 264 ∧ ((¬ (eI h103 (mo + 54) (ix x6)) = x2 → ∀ x109 : Int32, x109 = x6 + 1 → Rn M_X3_turn 48 [(0, rV mo), (1, iV x1), (2, iV x2), (3, iV x3), (4, iV x4), (5, iV 0), (6, iV x109)] [] h103 k n (qI Q) E) ∧ ((eI h103 (mo + 54) (ix x6)) = x2 → ∀ x110 : Int32, x110 = x6 + 1 → Rn M_X3_turn 48 [(0, rV mo), (1, iV x1), (2, iV x2), (3, iV x3), (4, iV x4), (5, iV 1), (6, iV x110)] [] h103 k n (qI Q) E))))))) E))))) : Rn M_X3_turn 48 [(0, rV mo), (1, iV x1), (2, iV x2), (3, iV x3), (4, iV x4), (5, iV x5), (6, iV x6)] [] h k n (qI Q) E := by
  refine r_iload (q := 50) dX3_turn_48 rfl 4 rfl ?_
  refine r_iconst (q := 51) dX3_turn_50 rfl kI_m1 ?_
  refine r_icmp_eq (tg := 122) (q := 54) dX3_turn_51 (by decide) rfl (fun c => ?_) (fun c => ?_)
  · have hw := hw.1 c
    exact r_sub [0, 5] rfl hw
  · have hw := hw.2 c
    refine r_iload (q := 56) dX3_turn_54 rfl 6 rfl ?_
    refine r_bipush (q := 58) dX3_turn_56 rfl kB_24 ?_
    refine r_iload (q := 60) dX3_turn_58 rfl 4 rfl ?_
    refine r_imul (q := 61) dX3_turn_60 rfl ?_
    refine r_aload_n (q := 62) dX3_turn_61 rfl 0 rfl ?_
    refine r_getR (q := 65) L_X3_159 dX3_turn_62 rfl (mw_k hm) (mwr_statements hm) ?_
    refine r_iload (q := 67) dX3_turn_65 rfl 4 rfl ?_
    obtain ⟨g101, hw⟩ := hw
    refine r_ialdL (q := 68) dX3_turn_67 rfl (mwk_statements hm) (mwl_statements hm) g101 ?_
    refine r_iadd (q := 69) dX3_turn_68 rfl ?_
    refine r_icmp_ge (tg := 122) (q := 72) dX3_turn_69 (by decide) rfl (fun c => ?_) (fun c => ?_)
    · have hw := hw.1 c
      exact r_sub [0, 5] rfl hw
    · have hw := hw.2 c
      refine r_iload (q := 74) dX3_turn_72 rfl 5 rfl ?_
      refine r_if_ne (tg := 109) (q := 77) dX3_turn_74 (by decide) rfl (fun c => ?_) (fun c => ?_)
      · have hw := hw.1 c
        refine r_iconst (q := 110) dX3_turn_109 rfl kI_1 ?_
        refine r_goto (tg := 114) dX3_turn_110 (by decide) ?_
        refine r_istore (q := 116) (lv' := [(0, _), (1, _), (2, _), (3, _), (4, _), (5, _), (6, _)]) dX3_turn_114 rfl (Nat.le_of_ble_eq_true rfl) rfl ?_
        have hw := hw _ rfl
        refine r_iincW (q := 119) (lv' := [(0, _), (1, _), (2, _), (3, _), (4, _), (5, _), (6, _)]) dX3_turn_116 rfl 6 rfl kI_1 (Nat.le_of_ble_eq_true rfl) rfl ?_
        refine r_goto (tg := 48) dX3_turn_119 (by decide) ?_
        exact hw
      · have hw := hw.2 c
        refine r_aload_n (q := 78) dX3_turn_77 rfl 0 rfl ?_
        refine r_iload (q := 80) dX3_turn_78 rfl 6 rfl ?_
        refine r_iload_n (q := 81) dX3_turn_80 rfl 3 rfl ?_
        refine r_cVI0 (q := 84) _ [_, _] N_X3_243 rfl dX3_turn_81 rfl rfl rfl (mw_k hm) rfl ?_
        refine r_monoCI (fun x104 h103 hw => ?_) hw
        obtain ⟨hm, hw⟩ := hw
        refine r_if_eq (tg := 113) (q := 87) dX3_turn_84 (by decide) rfl (fun c => ?_) (fun c => ?_)
        · have hw := hw.1 c
          refine r_iconst (q := 114) dX3_turn_113 rfl kI_0 ?_
          refine r_istore (q := 116) (lv' := [(0, _), (1, _), (2, _), (3, _), (4, _), (5, _), (6, _)]) dX3_turn_114 rfl (Nat.le_of_ble_eq_true rfl) rfl ?_
          have hw := hw _ rfl
          refine r_iincW (q := 119) (lv' := [(0, _), (1, _), (2, _), (3, _), (4, _), (5, _), (6, _)]) dX3_turn_116 rfl 6 rfl kI_1 (Nat.le_of_ble_eq_true rfl) rfl ?_
          refine r_goto (tg := 48) dX3_turn_119 (by decide) ?_
          exact hw
        · have hw := hw.2 c
          refine r_aload_n (q := 88) dX3_turn_87 rfl 0 rfl ?_
          refine r_getR (q := 91) L_X3_168 dX3_turn_88 rfl (mw_k hm) (mwr_first hm) ?_
          refine r_iload (q := 93) dX3_turn_91 rfl 6 rfl ?_
          obtain ⟨g106, hw⟩ := hw
          refine r_ialdL (q := 94) dX3_turn_93 rfl (mwk_first hm) (mwl_first hm) g106 ?_
          refine r_iload_n (q := 95) dX3_turn_94 rfl 1 rfl ?_
          refine r_icmp_ne (tg := 113) (q := 98) dX3_turn_95 (by decide) rfl (fun c => ?_) (fun c => ?_)
          · have hw := hw.1 c
            refine r_iconst (q := 114) dX3_turn_113 rfl kI_0 ?_
            refine r_istore (q := 116) (lv' := [(0, _), (1, _), (2, _), (3, _), (4, _), (5, _), (6, _)]) dX3_turn_114 rfl (Nat.le_of_ble_eq_true rfl) rfl ?_
            have hw := hw _ rfl
            refine r_iincW (q := 119) (lv' := [(0, _), (1, _), (2, _), (3, _), (4, _), (5, _), (6, _)]) dX3_turn_116 rfl 6 rfl kI_1 (Nat.le_of_ble_eq_true rfl) rfl ?_
            refine r_goto (tg := 48) dX3_turn_119 (by decide) ?_
            exact hw
          · have hw := hw.2 c
            refine r_aload_n (q := 99) dX3_turn_98 rfl 0 rfl ?_
            refine r_getR (q := 102) L_X3_171 dX3_turn_99 rfl (mw_k hm) (mwr_second hm) ?_
            refine r_iload (q := 104) dX3_turn_102 rfl 6 rfl ?_
            obtain ⟨g108, hw⟩ := hw
            refine r_ialdL (q := 105) dX3_turn_104 rfl (mwk_second hm) (mwl_second hm) g108 ?_
            refine r_iload_n (q := 106) dX3_turn_105 rfl 2 rfl ?_
            refine r_icmp_ne (tg := 113) (q := 109) dX3_turn_106 (by decide) rfl (fun c => ?_) (fun c => ?_)
            · have hw := hw.1 c
              refine r_iconst (q := 114) dX3_turn_113 rfl kI_0 ?_
              refine r_istore (q := 116) (lv' := [(0, _), (1, _), (2, _), (3, _), (4, _), (5, _), (6, _)]) dX3_turn_114 rfl (Nat.le_of_ble_eq_true rfl) rfl ?_
              have hw := hw _ rfl
              refine r_iincW (q := 119) (lv' := [(0, _), (1, _), (2, _), (3, _), (4, _), (5, _), (6, _)]) dX3_turn_116 rfl 6 rfl kI_1 (Nat.le_of_ble_eq_true rfl) rfl ?_
              refine r_goto (tg := 48) dX3_turn_119 (by decide) ?_
              exact hw
            · have hw := hw.2 c
              refine r_iconst (q := 110) dX3_turn_109 rfl kI_1 ?_
              refine r_goto (tg := 114) dX3_turn_110 (by decide) ?_
              refine r_istore (q := 116) (lv' := [(0, _), (1, _), (2, _), (3, _), (4, _), (5, _), (6, _)]) dX3_turn_114 rfl (Nat.le_of_ble_eq_true rfl) rfl ?_
              have hw := hw _ rfl
              refine r_iincW (q := 119) (lv' := [(0, _), (1, _), (2, _), (3, _), (4, _), (5, _), (6, _)]) dX3_turn_116 rfl 6 rfl kI_1 (Nat.le_of_ble_eq_true rfl) rfl ?_
              refine r_goto (tg := 48) dX3_turn_119 (by decide) ?_
              exact hw
theorem b_X3_turn_122 {x5 : Int32} {mo : Nat} {h : Hp} {k n : Nat} {Q : Int32 → Hp → Prop} {E : Nat → Hp → Prop} (hm : MW h mo) (hw : Q (b1 (nz x5)) h) : Rn M_X3_turn 122 [(0, rV mo), (5, iV x5)] [] h k n (qI Q) E := by
  refine r_iload (q := 124) dX3_turn_122 rfl 1 rfl ?_
  refine r_cSI0 (q := 127) [_] N_X3_319 dX3_turn_124 rfl rfl rfl rfl ?_
  refine ct_X3_one  ?_
  exact r_iret dX3_turn_127 rfl hw
theorem b_X10_neighbour_0 {this : Nat} {h : Hp} {k n : Nat} {Q : Int32 → Hp → Prop} {E : Nat → Hp → Prop} (hw : kd h this = 7 ∧ (Q (gI h 600 this) h)) : Rn M_X10_neighbour 0 [(0, rV this)] [] h k n (qI Q) E := by
  refine r_aload_n (q := 1) dX10_neighbour_0 rfl 0 rfl ?_
  obtain ⟨g101, hw⟩ := hw
  refine r_getI (q := 4) L_X10_7 dX10_neighbour_1 rfl g101 ?_
  exact r_iret dX10_neighbour_4 rfl hw
def V_X10_neighbour (h : Hp) (this : Nat) : Int32 := (gI h 600 this)
def P_X10_neighbour (h : Hp) (this : Nat) : Prop := kd h this = 7
theorem ct_X10_neighbour {h : Hp} {E : Nat → Hp → Prop} {k n : Nat} {this : Nat} (hp : P_X10_neighbour h this) {Q : Int32 → Hp → Prop} (hq : Q (V_X10_neighbour h this) h) : CtI M_X10_neighbour [rV this] h k n Q E := by
  unfold P_X10_neighbour at hp
  unfold V_X10_neighbour at hq
  refine b_X10_neighbour_0 ?_
  refine ⟨hp, ?_⟩
  exact hq
theorem b_X10_corner_0 {this : Nat} {h : Hp} {k n : Nat} {Q : Int32 → Hp → Prop} {E : Nat → Hp → Prop} (hw : kd h this = 7 ∧ (Q (gI h 601 this) h)) : Rn M_X10_corner 0 [(0, rV this)] [] h k n (qI Q) E := by
  refine r_aload_n (q := 1) dX10_corner_0 rfl 0 rfl ?_
  obtain ⟨g101, hw⟩ := hw
  refine r_getI (q := 4) L_X10_13 dX10_corner_1 rfl g101 ?_
  exact r_iret dX10_corner_4 rfl hw
def V_X10_corner (h : Hp) (this : Nat) : Int32 := (gI h 601 this)
def P_X10_corner (h : Hp) (this : Nat) : Prop := kd h this = 7
theorem ct_X10_corner {h : Hp} {E : Nat → Hp → Prop} {k n : Nat} {this : Nat} (hp : P_X10_corner h this) {Q : Int32 → Hp → Prop} (hq : Q (V_X10_corner h this) h) : CtI M_X10_corner [rV this] h k n Q E := by
  unfold P_X10_corner at hp
  unfold V_X10_corner at hq
  refine b_X10_corner_0 ?_
  refine ⟨hp, ?_⟩
  exact hq
theorem b_X10_isOn_0 {x1 : Int32} {this : Nat} {h : Hp} {k n : Nat} {Q : Int32 → Hp → Prop} {E : Nat → Hp → Prop} (hw : kd h this = 7 ∧ ((x1 < (gI h 603 this) → Q 0 h) ∧ (¬ x1 < (gI h 603 this) → ¬ (gI h 602 this) = 0 ∧ ((¬ (irm (x1 - (gI h 603 this)) (gI h 602 this)) = 0 → Q 0 h) ∧ ((irm (x1 - (gI h 603 this)) (gI h 602 this)) = 0 → Q 1 h))))) : Rn M_X10_isOn 0 [(0, rV this), (1, iV x1)] [] h k n (qI Q) E := by
  refine r_iload_n (q := 1) dX10_isOn_0 rfl 1 rfl ?_
  refine r_aload_n (q := 2) dX10_isOn_1 rfl 0 rfl ?_
  obtain ⟨g101, hw⟩ := hw
  refine r_getI (q := 5) L_X10_19 dX10_isOn_2 rfl g101 ?_
  refine r_icmp_lt (tg := 26) (q := 8) dX10_isOn_5 (by decide) rfl (fun c => ?_) (fun c => ?_)
  · have hw := hw.1 c
    refine r_iconst (q := 27) dX10_isOn_26 rfl kI_0 ?_
    exact r_zret dX10_isOn_27 rfl (Or.inl rfl) hw
  · have hw := hw.2 c
    refine r_iload_n (q := 9) dX10_isOn_8 rfl 1 rfl ?_
    refine r_aload_n (q := 10) dX10_isOn_9 rfl 0 rfl ?_
    refine r_getI (q := 13) L_X10_19 dX10_isOn_10 rfl g101 ?_
    refine r_isub (q := 14) dX10_isOn_13 rfl ?_
    refine r_aload_n (q := 15) dX10_isOn_14 rfl 0 rfl ?_
    refine r_getI (q := 18) L_X10_16 dX10_isOn_15 rfl g101 ?_
    obtain ⟨g102, hw⟩ := hw
    refine r_irem (q := 19) dX10_isOn_18 rfl g102 ?_
    refine r_if_ne (tg := 26) (q := 22) dX10_isOn_19 (by decide) rfl (fun c => ?_) (fun c => ?_)
    · have hw := hw.1 c
      refine r_iconst (q := 27) dX10_isOn_26 rfl kI_0 ?_
      exact r_zret dX10_isOn_27 rfl (Or.inl rfl) hw
    · have hw := hw.2 c
      refine r_iconst (q := 23) dX10_isOn_22 rfl kI_1 ?_
      refine r_goto (tg := 27) dX10_isOn_23 (by decide) ?_
      exact r_zret dX10_isOn_27 rfl (Or.inr rfl) hw
def V_X10_isOn (h : Hp) (this : Nat) (x1 : Int32) : Int32 := (if x1 < (gI h 603 this) then 0 else (if ¬ (irm (x1 - (gI h 603 this)) (gI h 602 this)) = 0 then 0 else 1))
def P_X10_isOn (h : Hp) (this : Nat) (x1 : Int32) : Prop := kd h this = 7 ∧ ((x1 < (gI h 603 this) → True) ∧ (¬ x1 < (gI h 603 this) → ¬ (gI h 602 this) = 0))
theorem ct_X10_isOn {h : Hp} {E : Nat → Hp → Prop} {k n : Nat} {this : Nat} {x1 : Int32} (hp : P_X10_isOn h this x1) {Q : Int32 → Hp → Prop} (hq : Q (V_X10_isOn h this x1) h) : CtI M_X10_isOn [rV this, iV x1] h k n Q E := by
  unfold P_X10_isOn at hp
  unfold V_X10_isOn at hq
  refine b_X10_isOn_0 ?_
  refine ⟨hp.1, ?_⟩
  have hp := hp.2
  refine ⟨fun c => ?_, fun c => ?_⟩
  · rw [if_pos c] at hq
    have hp := hp.1 c
    exact hq
  · rw [if_neg (by first | exact c | exact fun z => z c | (rw [c]; decide))] at hq
    have hp := hp.2 c
    refine ⟨hp, ?_⟩
    refine ⟨fun c => ?_, fun c => ?_⟩
    · rw [if_pos c] at hq
      exact hq
    · rw [if_neg (by first | exact c | exact fun z => z c | (rw [c]; decide))] at hq
      exact hq
theorem b_X3_isTurn_0 {x1 x2 : Int32} {mo : Nat} {h : Hp} {k n : Nat} {Q : Int32 → Hp → Prop} {E : Nat → Hp → Prop} (hm : MW h mo) (hw : vp_in x1 264 ∧ ((¬ (eI h (mo + 52) (ix x1)) = 30 → Q 0 h) ∧ ((eI h (mo + 52) (ix x1)) = 30 → vp_in x1 264 ∧ ((10 ≤ (eI h (mo + 53) (ix x1)) → Q 0 h) ∧ (¬ 10 ≤ (eI h (mo + 53) (ix x1)) → vp_in x1 264 ∧ (((gI h 1001 mo) ≤ (eI h (mo + 54) (ix x1)) → Q 0 h) ∧ (¬ (gI h 1001 mo) ≤ (eI h (mo + 54) (ix x1)) → vp_in x1 264 ∧ ((x2 < (eI h (mo + 56) (ix x1)) → Q 0 h) ∧ (¬ x2 < (eI h (mo + 56) (ix x1)) → vp_in x1 264 ∧ (vp_in x1 264 ∧ (¬ (eI h (mo + 55) (ix x1)) = 0 ∧ ((¬ (irm (x2 - (eI h (mo + 56) (ix x1))) (eI h (mo + 55) (ix x1))) = 0 → Q 0 h) ∧ ((irm (x2 - (eI h (mo + 56) (ix x1))) (eI h (mo + 55) (ix x1))) = 0 → Q 1 h))))))))))))) : Rn M_X3_isTurn 0 [(0, rV mo), (1, iV x1), (2, iV x2)] [] h k n (qI Q) E := by
  refine r_aload_n (q := 1) dX3_isTurn_0 rfl 0 rfl ?_
  refine r_getR (q := 4) L_X3_165 dX3_isTurn_1 rfl (mw_k hm) (mwr_sort hm) ?_
  refine r_iload_n (q := 5) dX3_isTurn_4 rfl 1 rfl ?_
  obtain ⟨g101, hw⟩ := hw
  refine r_ialdL (q := 6) dX3_isTurn_5 rfl (mwk_sort hm) (mwl_sort hm) g101 ?_
  refine r_bipush (q := 8) dX3_isTurn_6 rfl kB_30 ?_
  refine r_icmp_ne (tg := 67) (q := 11) dX3_isTurn_8 (by decide) rfl (fun c => ?_) (fun c => ?_)
  · have hw := hw.1 c
    refine r_iconst (q := 68) dX3_isTurn_67 rfl kI_0 ?_
    exact r_zret dX3_isTurn_68 rfl (Or.inl rfl) hw
  · have hw := hw.2 c
    refine r_aload_n (q := 12) dX3_isTurn_11 rfl 0 rfl ?_
    refine r_getR (q := 15) L_X3_168 dX3_isTurn_12 rfl (mw_k hm) (mwr_first hm) ?_
    refine r_iload_n (q := 16) dX3_isTurn_15 rfl 1 rfl ?_
    obtain ⟨g102, hw⟩ := hw
    refine r_ialdL (q := 17) dX3_isTurn_16 rfl (mwk_first hm) (mwl_first hm) g102 ?_
    refine r_bipush (q := 19) dX3_isTurn_17 rfl kB_10 ?_
    refine r_icmp_ge (tg := 67) (q := 22) dX3_isTurn_19 (by decide) rfl (fun c => ?_) (fun c => ?_)
    · have hw := hw.1 c
      refine r_iconst (q := 68) dX3_isTurn_67 rfl kI_0 ?_
      exact r_zret dX3_isTurn_68 rfl (Or.inl rfl) hw
    · have hw := hw.2 c
      refine r_aload_n (q := 23) dX3_isTurn_22 rfl 0 rfl ?_
      refine r_getR (q := 26) L_X3_171 dX3_isTurn_23 rfl (mw_k hm) (mwr_second hm) ?_
      refine r_iload_n (q := 27) dX3_isTurn_26 rfl 1 rfl ?_
      obtain ⟨g103, hw⟩ := hw
      refine r_ialdL (q := 28) dX3_isTurn_27 rfl (mwk_second hm) (mwl_second hm) g103 ?_
      refine r_aload_n (q := 29) dX3_isTurn_28 rfl 0 rfl ?_
      refine r_getI (q := 32) L_X3_191 dX3_isTurn_29 rfl (mw_k hm) ?_
      refine r_icmp_ge (tg := 67) (q := 35) dX3_isTurn_32 (by decide) rfl (fun c => ?_) (fun c => ?_)
      · have hw := hw.1 c
        refine r_iconst (q := 68) dX3_isTurn_67 rfl kI_0 ?_
        exact r_zret dX3_isTurn_68 rfl (Or.inl rfl) hw
      · have hw := hw.2 c
        refine r_iload_n (q := 36) dX3_isTurn_35 rfl 2 rfl ?_
        refine r_aload_n (q := 37) dX3_isTurn_36 rfl 0 rfl ?_
        refine r_getR (q := 40) L_X3_177 dX3_isTurn_37 rfl (mw_k hm) (mwr_fourth hm) ?_
        refine r_iload_n (q := 41) dX3_isTurn_40 rfl 1 rfl ?_
        obtain ⟨g104, hw⟩ := hw
        refine r_ialdL (q := 42) dX3_isTurn_41 rfl (mwk_fourth hm) (mwl_fourth hm) g104 ?_
        refine r_icmp_lt (tg := 67) (q := 45) dX3_isTurn_42 (by decide) rfl (fun c => ?_) (fun c => ?_)
        · have hw := hw.1 c
          refine r_iconst (q := 68) dX3_isTurn_67 rfl kI_0 ?_
          exact r_zret dX3_isTurn_68 rfl (Or.inl rfl) hw
        · have hw := hw.2 c
          refine r_iload_n (q := 46) dX3_isTurn_45 rfl 2 rfl ?_
          refine r_aload_n (q := 47) dX3_isTurn_46 rfl 0 rfl ?_
          refine r_getR (q := 50) L_X3_177 dX3_isTurn_47 rfl (mw_k hm) (mwr_fourth hm) ?_
          refine r_iload_n (q := 51) dX3_isTurn_50 rfl 1 rfl ?_
          obtain ⟨g105, hw⟩ := hw
          refine r_ialdL (q := 52) dX3_isTurn_51 rfl (mwk_fourth hm) (mwl_fourth hm) g105 ?_
          refine r_isub (q := 53) dX3_isTurn_52 rfl ?_
          refine r_aload_n (q := 54) dX3_isTurn_53 rfl 0 rfl ?_
          refine r_getR (q := 57) L_X3_174 dX3_isTurn_54 rfl (mw_k hm) (mwr_third hm) ?_
          refine r_iload_n (q := 58) dX3_isTurn_57 rfl 1 rfl ?_
          obtain ⟨g106, hw⟩ := hw
          refine r_ialdL (q := 59) dX3_isTurn_58 rfl (mwk_third hm) (mwl_third hm) g106 ?_
          obtain ⟨g107, hw⟩ := hw
          refine r_irem (q := 60) dX3_isTurn_59 rfl g107 ?_
          refine r_if_ne (tg := 67) (q := 63) dX3_isTurn_60 (by decide) rfl (fun c => ?_) (fun c => ?_)
          · have hw := hw.1 c
            refine r_iconst (q := 68) dX3_isTurn_67 rfl kI_0 ?_
            exact r_zret dX3_isTurn_68 rfl (Or.inl rfl) hw
          · have hw := hw.2 c
            refine r_iconst (q := 64) dX3_isTurn_63 rfl kI_1 ?_
            refine r_goto (tg := 68) dX3_isTurn_64 (by decide) ?_
            exact r_zret dX3_isTurn_68 rfl (Or.inr rfl) hw
def V_X3_isTurn (h : Hp) (mo : Nat) (x1 : Int32) (x2 : Int32) : Int32 := (if ¬ (eI h (mo + 52) (ix x1)) = 30 then 0 else (if 10 ≤ (eI h (mo + 53) (ix x1)) then 0 else (if (gI h 1001 mo) ≤ (eI h (mo + 54) (ix x1)) then 0 else (if x2 < (eI h (mo + 56) (ix x1)) then 0 else (if ¬ (irm (x2 - (eI h (mo + 56) (ix x1))) (eI h (mo + 55) (ix x1))) = 0 then 0 else 1)))))
def P_X3_isTurn (h : Hp) (mo : Nat) (x1 : Int32) (x2 : Int32) : Prop := vp_in x1 264 ∧ ((¬ (eI h (mo + 52) (ix x1)) = 30 → True) ∧ ((eI h (mo + 52) (ix x1)) = 30 → vp_in x1 264 ∧ ((10 ≤ (eI h (mo + 53) (ix x1)) → True) ∧ (¬ 10 ≤ (eI h (mo + 53) (ix x1)) → vp_in x1 264 ∧ (((gI h 1001 mo) ≤ (eI h (mo + 54) (ix x1)) → True) ∧ (¬ (gI h 1001 mo) ≤ (eI h (mo + 54) (ix x1)) → vp_in x1 264 ∧ ((x2 < (eI h (mo + 56) (ix x1)) → True) ∧ (¬ x2 < (eI h (mo + 56) (ix x1)) → vp_in x1 264 ∧ (vp_in x1 264 ∧ (¬ (eI h (mo + 55) (ix x1)) = 0))))))))))
theorem ct_X3_isTurn {h : Hp} {E : Nat → Hp → Prop} {k n : Nat} {mo : Nat} {x1 : Int32} {x2 : Int32} (hm : MW h mo) (hp : P_X3_isTurn h mo x1 x2) {Q : Int32 → Hp → Prop} (hq : Q (V_X3_isTurn h mo x1 x2) h) : CtI M_X3_isTurn [rV mo, iV x1, iV x2] h k n Q E := by
  unfold P_X3_isTurn at hp
  unfold V_X3_isTurn at hq
  refine b_X3_isTurn_0 hm ?_
  refine ⟨hp.1, ?_⟩
  have hp := hp.2
  refine ⟨fun c => ?_, fun c => ?_⟩
  · rw [if_pos c] at hq
    have hp := hp.1 c
    exact hq
  · rw [if_neg (by first | exact c | exact fun z => z c | (rw [c]; decide))] at hq
    have hp := hp.2 c
    refine ⟨hp.1, ?_⟩
    have hp := hp.2
    refine ⟨fun c => ?_, fun c => ?_⟩
    · rw [if_pos c] at hq
      have hp := hp.1 c
      exact hq
    · rw [if_neg (by first | exact c | exact fun z => z c | (rw [c]; decide))] at hq
      have hp := hp.2 c
      refine ⟨hp.1, ?_⟩
      have hp := hp.2
      refine ⟨fun c => ?_, fun c => ?_⟩
      · rw [if_pos c] at hq
        have hp := hp.1 c
        exact hq
      · rw [if_neg (by first | exact c | exact fun z => z c | (rw [c]; decide))] at hq
        have hp := hp.2 c
        refine ⟨hp.1, ?_⟩
        have hp := hp.2
        refine ⟨fun c => ?_, fun c => ?_⟩
        · rw [if_pos c] at hq
          have hp := hp.1 c
          exact hq
        · rw [if_neg (by first | exact c | exact fun z => z c | (rw [c]; decide))] at hq
          have hp := hp.2 c
          refine ⟨hp.1, ?_⟩
          have hp := hp.2
          refine ⟨hp.1, ?_⟩
          have hp := hp.2
          refine ⟨hp, ?_⟩
          refine ⟨fun c => ?_, fun c => ?_⟩
          · rw [if_pos c] at hq
            exact hq
          · rw [if_neg (by first | exact c | exact fun z => z c | (rw [c]; decide))] at hq
            exact hq
theorem b_X0_turn_2_0 {x1 x2 x3 : Int32} {xo : Nat} {h : Hp} {k n : Nat} {Q : Int32 → Hp → Prop} {E : Nat → Hp → Prop} (hm : XW h xo) (hw : ((isin x1 0 9) = false → Q (-1) h) ∧ ((isin x1 0 9) = true → (atp h xo x2) ∧ (((atv h xo x2) = 0 → Q (-1) h) ∧ (¬ (atv h xo x2) = 0 → ((isin x3 0 3649) = true → (P_X0_on h xo x3) ∧ (∀ r103 : Nat, r103 = V_X0_on h xo x3 → Rn M_X0_turn_2 37 [(0, rV xo), (1, iV x1), (2, iV x2), (3, iV x3), (4, rV r103), (5, iV 0)] [] h k n (qI Q) E)) ∧ ((isin x3 0 3649) = false → Q (-1) h))))) : Rn M_X0_turn_2 0 [(0, rV xo), (1, iV x1), (2, iV x2), (3, iV x3)] [] h k n (qI Q) E := by
  refine r_iload_n (q := 1) dX0_turn_2_0 rfl 1 rfl ?_
  refine r_iconst (q := 2) dX0_turn_2_1 rfl kI_0 ?_
  refine r_bipush (q := 4) dX0_turn_2_2 rfl kB_9 ?_
  refine r_cSI0 (q := 7) [_, _, _] N_X0_3 dX0_turn_2_4 rfl rfl rfl rfl ?_
  refine ct_X0_isIn  ?_
  refine r_ifb_eq (tg := 25) (q := 10) dX0_turn_2_7 (by decide) rfl (fun c => ?_) (fun c => ?_)
  · have hw := hw.1 c
    refine r_iconst (q := 26) dX0_turn_2_25 rfl kI_m1 ?_
    exact r_iret dX0_turn_2_26 rfl hw
  · have hw := hw.2 c
    refine r_aload_n (q := 11) dX0_turn_2_10 rfl 0 rfl ?_
    refine r_iload_n (q := 12) dX0_turn_2_11 rfl 2 rfl ?_
    obtain ⟨g101, hw⟩ := hw
    refine r_cVR0 (q := 15) _ [_] N_X0_87 rfl dX0_turn_2_12 rfl rfl rfl (xw_k hm) rfl ?_
    refine ct_X0_at hm g101 ?_
    refine r_ifnull (tg := 25) (q := 18) dX0_turn_2_15 (by decide) rfl (fun c => ?_) (fun c => ?_)
    · have hw := hw.1 c
      refine r_iconst (q := 26) dX0_turn_2_25 rfl kI_m1 ?_
      exact r_iret dX0_turn_2_26 rfl hw
    · have hw := hw.2 c
      refine r_iload_n (q := 19) dX0_turn_2_18 rfl 3 rfl ?_
      refine r_cSI0 (q := 22) [_] N_X0_326 dX0_turn_2_19 rfl rfl rfl rfl ?_
      refine ct_X0_isDay  ?_
      refine r_ifb_ne (tg := 27) (q := 25) dX0_turn_2_22 (by decide) rfl (fun c => ?_) (fun c => ?_)
      · have hw := hw.1 c
        refine r_aload_n (q := 28) dX0_turn_2_27 rfl 0 rfl ?_
        refine r_iload_n (q := 29) dX0_turn_2_28 rfl 3 rfl ?_
        obtain ⟨g102, hw⟩ := hw
        refine r_cVR0 (q := 32) _ [_] N_X0_122 rfl dX0_turn_2_29 rfl rfl rfl (xw_k hm) rfl ?_
        refine ct_X0_on hm g102 ?_
        have hw := hw _ rfl
        refine r_astore (q := 34) (lv' := [(0, _), (1, _), (2, _), (3, _), (4, _)]) dX0_turn_2_32 rfl (Nat.le_of_ble_eq_true rfl) rfl ?_
        refine r_iconst (q := 35) dX0_turn_2_34 rfl kI_0 ?_
        refine r_istore (q := 37) (lv' := [(0, _), (1, _), (2, _), (3, _), (4, _), (5, _)]) dX0_turn_2_35 rfl (Nat.le_of_ble_eq_true rfl) rfl ?_
        exact hw
      · have hw := hw.2 c
        refine r_iconst (q := 26) dX0_turn_2_25 rfl kI_m1 ?_
        exact r_iret dX0_turn_2_26 rfl hw
theorem b_X0_turn_2_37 {x1 x2 x3 x5 : Int32} {xo r4 : Nat} {h : Hp} {k n : Nat} {Q : Int32 → Hp → Prop} {E : Nat → Hp → Prop} (hm : XW h xo) (hw : kd h r4 = 5 ∧ (kd h (gR h 401 r4) = 12 ∧ (((gI h 1102 (gR h 401 r4)) ≤ x5 → Q 0 h) ∧ (¬ (gI h 1102 (gR h 401 r4)) ≤ x5 → (ALg h (gR h 401 r4) x5) ∧ (kd h (el h (gR h 401 r4) (ix x5)) = 7 ∧ (∀ r105 : Nat, r105 = el h (gR h 401 r4) (ix x5) → (P_X10_neighbour h r105) ∧ ((¬ (V_X10_neighbour h r105) = x1 → ∀ x107 : Int32, x107 = x5 + 1 → Rn M_X0_turn_2 37 [(0, rV xo), (1, iV x1), (2, iV x2), (3, iV x3), (4, rV r4), (5, iV x107)] [] h k n (qI Q) E) ∧ ((V_X10_neighbour h r105) = x1 → (P_X10_corner h r105) ∧ ((¬ (V_X10_corner h r105) = x2 → ∀ x109 : Int32, x109 = x5 + 1 → Rn M_X0_turn_2 37 [(0, rV xo), (1, iV x1), (2, iV x2), (3, iV x3), (4, rV r4), (5, iV x109)] [] h k n (qI Q) E) ∧ ((V_X10_corner h r105) = x2 → (P_X10_isOn h r105 x3) ∧ (((V_X10_isOn h r105 x3) = 0 → ∀ x111 : Int32, x111 = x5 + 1 → Rn M_X0_turn_2 37 [(0, rV xo), (1, iV x1), (2, iV x2), (3, iV x3), (4, rV r4), (5, iV x111)] [] h k n (qI Q) E) ∧ (¬ (V_X10_isOn h r105 x3) = 0 → Q 1 h)))))))))))) : Rn M_X0_turn_2 37 [(0, rV xo), (1, iV x1), (2, iV x2), (3, iV x3), (4, rV r4), (5, iV x5)] [] h k n (qI Q) E := by
  refine r_iload (q := 39) dX0_turn_2_37 rfl 5 rfl ?_
  refine r_aload (q := 41) dX0_turn_2_39 rfl 4 rfl ?_
  obtain ⟨g101, hw⟩ := hw
  refine r_getR (q := 44) L_X0_280 dX0_turn_2_41 rfl g101 rfl ?_
  obtain ⟨g102, hw⟩ := hw
  refine r_cVI0 (q := 47) _ [] N_X0_77 rfl dX0_turn_2_44 rfl rfl rfl g102 rfl ?_
  refine ct_J2_size g102 ?_
  refine r_icmp_ge (tg := 100) (q := 50) dX0_turn_2_47 (by decide) rfl (fun c => ?_) (fun c => ?_)
  · have hw := hw.1 c
    refine r_iconst (q := 101) dX0_turn_2_100 rfl kI_0 ?_
    exact r_iret dX0_turn_2_101 rfl hw
  · have hw := hw.2 c
    refine r_aload (q := 52) dX0_turn_2_50 rfl 4 rfl ?_
    refine r_getR (q := 55) L_X0_280 dX0_turn_2_52 rfl g101 rfl ?_
    refine r_iload (q := 57) dX0_turn_2_55 rfl 5 rfl ?_
    obtain ⟨g103, hw⟩ := hw
    refine r_cVR0 (q := 60) _ [_] N_X0_81 rfl dX0_turn_2_57 rfl rfl rfl g102 rfl ?_
    refine ct_J2_get g102 g103 ?_
    obtain ⟨g104, hw⟩ := hw
    refine r_cast (q := 63) q1025 rfl dX0_turn_2_60 rfl g104 ?_
    have hw := hw _ rfl
    refine r_astore (q := 65) (lv' := [(0, _), (1, _), (2, _), (3, _), (4, _), (5, _), (6, _)]) dX0_turn_2_63 rfl (Nat.le_of_ble_eq_true rfl) rfl ?_
    refine r_aload (q := 67) dX0_turn_2_65 rfl 6 rfl ?_
    obtain ⟨g106, hw⟩ := hw
    refine r_cVI0 (q := 70) _ [] N_X0_329 rfl dX0_turn_2_67 rfl rfl rfl g104 rfl ?_
    refine ct_X10_neighbour g106 ?_
    refine r_iload_n (q := 71) dX0_turn_2_70 rfl 1 rfl ?_
    refine r_icmp_ne (tg := 94) (q := 74) dX0_turn_2_71 (by decide) rfl (fun c => ?_) (fun c => ?_)
    · have hw := hw.1 c
      have hw := hw _ rfl
      refine r_iincW (q := 97) (lv' := [(0, _), (1, _), (2, _), (3, _), (4, _), (5, _), (6, _)]) dX0_turn_2_94 rfl 5 rfl kI_1 (Nat.le_of_ble_eq_true rfl) rfl ?_
      refine r_goto (tg := 37) dX0_turn_2_97 (by decide) ?_
      exact r_sub [0, 1, 2, 3, 4, 5] rfl hw
    · have hw := hw.2 c
      refine r_aload (q := 76) dX0_turn_2_74 rfl 6 rfl ?_
      obtain ⟨g108, hw⟩ := hw
      refine r_cVI0 (q := 79) _ [] N_X0_332 rfl dX0_turn_2_76 rfl rfl rfl g104 rfl ?_
      refine ct_X10_corner g108 ?_
      refine r_iload_n (q := 80) dX0_turn_2_79 rfl 2 rfl ?_
      refine r_icmp_ne (tg := 94) (q := 83) dX0_turn_2_80 (by decide) rfl (fun c => ?_) (fun c => ?_)
      · have hw := hw.1 c
        have hw := hw _ rfl
        refine r_iincW (q := 97) (lv' := [(0, _), (1, _), (2, _), (3, _), (4, _), (5, _), (6, _)]) dX0_turn_2_94 rfl 5 rfl kI_1 (Nat.le_of_ble_eq_true rfl) rfl ?_
        refine r_goto (tg := 37) dX0_turn_2_97 (by decide) ?_
        exact r_sub [0, 1, 2, 3, 4, 5] rfl hw
      · have hw := hw.2 c
        refine r_aload (q := 85) dX0_turn_2_83 rfl 6 rfl ?_
        refine r_iload_n (q := 86) dX0_turn_2_85 rfl 3 rfl ?_
        obtain ⟨g110, hw⟩ := hw
        refine r_cVI0 (q := 89) _ [_] N_X0_335 rfl dX0_turn_2_86 rfl rfl rfl g104 rfl ?_
        refine ct_X10_isOn g110 ?_
        refine r_if_eq (tg := 94) (q := 92) dX0_turn_2_89 (by decide) rfl (fun c => ?_) (fun c => ?_)
        · have hw := hw.1 c
          have hw := hw _ rfl
          refine r_iincW (q := 97) (lv' := [(0, _), (1, _), (2, _), (3, _), (4, _), (5, _), (6, _)]) dX0_turn_2_94 rfl 5 rfl kI_1 (Nat.le_of_ble_eq_true rfl) rfl ?_
          refine r_goto (tg := 37) dX0_turn_2_97 (by decide) ?_
          exact r_sub [0, 1, 2, 3, 4, 5] rfl hw
        · have hw := hw.2 c
          refine r_iconst (q := 93) dX0_turn_2_92 rfl kI_1 ?_
          exact r_iret dX0_turn_2_93 rfl hw
