/-! walks -/
set_option maxRecDepth 100000
theorem b_X3_isIn_0 {x0 x1 x2 : Int32} {h : Hp} {k n : Nat} {Q : Int32 → Hp → Prop} {E : Nat → Hp → Prop} (hw : (x0 < x1 → Q 0 h) ∧ (¬ x0 < x1 → (x2 < x0 → Q 0 h) ∧ (¬ x2 < x0 → Q 1 h))) : Rn M_X3_isIn 0 [(0, iV x0), (1, iV x1), (2, iV x2)] [] h k n (qI Q) E := by
  refine r_iload_n (q := 1) dX3_isIn_0 rfl 0 rfl ?_
  refine r_iload_n (q := 2) dX3_isIn_1 rfl 1 rfl ?_
  refine r_icmp_lt (tg := 14) (q := 5) dX3_isIn_2 (by decide) rfl (fun c => ?_) (fun c => ?_)
  · have hw := hw.1 c
    refine r_iconst (q := 15) dX3_isIn_14 rfl kI_0 ?_
    exact r_zret dX3_isIn_15 rfl (Or.inl rfl) hw
  · have hw := hw.2 c
    refine r_iload_n (q := 6) dX3_isIn_5 rfl 0 rfl ?_
    refine r_iload_n (q := 7) dX3_isIn_6 rfl 2 rfl ?_
    refine r_icmp_gt (tg := 14) (q := 10) dX3_isIn_7 (by decide) rfl (fun c => ?_) (fun c => ?_)
    · have hw := hw.1 c
      refine r_iconst (q := 15) dX3_isIn_14 rfl kI_0 ?_
      exact r_zret dX3_isIn_15 rfl (Or.inl rfl) hw
    · have hw := hw.2 c
      refine r_iconst (q := 11) dX3_isIn_10 rfl kI_1 ?_
      refine r_goto (tg := 15) dX3_isIn_11 (by decide) ?_
      exact r_zret dX3_isIn_15 rfl (Or.inr rfl) hw
theorem b_X0_isIn_0 {x0 x1 x2 : Int32} {h : Hp} {k n : Nat} {Q : Int32 → Hp → Prop} {E : Nat → Hp → Prop} (hw : (x0 < x1 → Q 0 h) ∧ (¬ x0 < x1 → (x2 < x0 → Q 0 h) ∧ (¬ x2 < x0 → Q 1 h))) : Rn M_X0_isIn 0 [(0, iV x0), (1, iV x1), (2, iV x2)] [] h k n (qI Q) E := by
  refine r_iload_n (q := 1) dX0_isIn_0 rfl 0 rfl ?_
  refine r_iload_n (q := 2) dX0_isIn_1 rfl 1 rfl ?_
  refine r_icmp_lt (tg := 14) (q := 5) dX0_isIn_2 (by decide) rfl (fun c => ?_) (fun c => ?_)
  · have hw := hw.1 c
    refine r_iconst (q := 15) dX0_isIn_14 rfl kI_0 ?_
    exact r_zret dX0_isIn_15 rfl (Or.inl rfl) hw
  · have hw := hw.2 c
    refine r_iload_n (q := 6) dX0_isIn_5 rfl 0 rfl ?_
    refine r_iload_n (q := 7) dX0_isIn_6 rfl 2 rfl ?_
    refine r_icmp_gt (tg := 14) (q := 10) dX0_isIn_7 (by decide) rfl (fun c => ?_) (fun c => ?_)
    · have hw := hw.1 c
      refine r_iconst (q := 15) dX0_isIn_14 rfl kI_0 ?_
      exact r_zret dX0_isIn_15 rfl (Or.inl rfl) hw
    · have hw := hw.2 c
      refine r_iconst (q := 11) dX0_isIn_10 rfl kI_1 ?_
      refine r_goto (tg := 15) dX0_isIn_11 (by decide) ?_
      exact r_zret dX0_isIn_15 rfl (Or.inr rfl) hw
theorem b_X3_one_0 {x0 : Int32} {h : Hp} {k n : Nat} {Q : Int32 → Hp → Prop} {E : Nat → Hp → Prop} (hw : (x0 = 0 → Q 0 h) ∧ (¬ x0 = 0 → Q 1 h)) : Rn M_X3_one 0 [(0, iV x0)] [] h k n (qI Q) E := by
  refine r_iload_n (q := 1) dX3_one_0 rfl 0 rfl ?_
  refine r_if_eq (tg := 8) (q := 4) dX3_one_1 (by decide) rfl (fun c => ?_) (fun c => ?_)
  · have hw := hw.1 c
    refine r_iconst (q := 9) dX3_one_8 rfl kI_0 ?_
    exact r_iret dX3_one_9 rfl hw
  · have hw := hw.2 c
    refine r_iconst (q := 5) dX3_one_4 rfl kI_1 ?_
    refine r_goto (tg := 9) dX3_one_5 (by decide) ?_
    exact r_iret dX3_one_9 rfl hw
theorem b_J7_checkIndex_0 {x0 x1 : Int32} {r2 : Nat} {h : Hp} {k n : Nat} {Q : Int32 → Hp → Prop} {E : Nat → Hp → Prop} (hw : (x0 < 0 → False) ∧ (¬ x0 < 0 → (x0 < x1 → Q x0 h) ∧ (¬ x0 < x1 → False))) : Rn M_J7_checkIndex 0 [(0, iV x0), (1, iV x1), (2, rV r2)] [] h k n (qI Q) E := by
  refine r_iload_n (q := 1) dJ7_checkIndex_0 rfl 0 rfl ?_
  refine r_if_lt (tg := 9) (q := 4) dJ7_checkIndex_1 (by decide) rfl (fun c => ?_) (fun c => ?_)
  · have hw := hw.1 c
    exact hw.elim
  · have hw := hw.2 c
    refine r_iload_n (q := 5) dJ7_checkIndex_4 rfl 0 rfl ?_
    refine r_iload_n (q := 6) dJ7_checkIndex_5 rfl 1 rfl ?_
    refine r_icmp_lt (tg := 16) (q := 9) dJ7_checkIndex_6 (by decide) rfl (fun c => ?_) (fun c => ?_)
    · have hw := hw.1 c
      refine r_iload_n (q := 17) dJ7_checkIndex_16 rfl 0 rfl ?_
      exact r_iret dJ7_checkIndex_17 rfl hw
    · have hw := hw.2 c
      exact hw.elim
theorem b_J6_checkIndex_0 {x0 x1 : Int32} {h : Hp} {k n : Nat} {Q : Int32 → Hp → Prop} {E : Nat → Hp → Prop} (hw : CtI M_J7_checkIndex [iV x0, iV x1, rV 0] h 0 0 (fun x102 h101 => Q x102 h101) E) : Rn M_J6_checkIndex 0 [(0, iV x0), (1, iV x1)] [] h k n (qI Q) E := by
  refine r_iload_n (q := 1) dJ6_checkIndex_0 rfl 0 rfl ?_
  refine r_iload_n (q := 2) dJ6_checkIndex_1 rfl 1 rfl ?_
  refine r_null (q := 3) dJ6_checkIndex_2 rfl ?_
  refine r_cSI0 (q := 6) [_, _, _] N_J6_105 dJ6_checkIndex_3 rfl rfl rfl rfl ?_
  refine r_monoCI (fun x102 h101 hw => ?_) hw
  exact r_iret dJ6_checkIndex_6 rfl hw
theorem b_J2_size_0 {this : Nat} {h : Hp} {k n : Nat} {Q : Int32 → Hp → Prop} {E : Nat → Hp → Prop} (hw : kd h this = 12 ∧ (Q (gI h 1102 this) h)) : Rn M_J2_size 0 [(0, rV this)] [] h k n (qI Q) E := by
  refine r_aload_n (q := 1) dJ2_size_0 rfl 0 rfl ?_
  obtain ⟨g101, hw⟩ := hw
  refine r_getI (q := 4) L_J2_48 dJ2_size_1 rfl g101 ?_
  exact r_iret dJ2_size_4 rfl hw
theorem b_J2_elementData_0 {x1 : Int32} {this : Nat} {h : Hp} {k n : Nat} {Q : Nat → Hp → Prop} {E : Nat → Hp → Prop} (hw : kd h this = 12 ∧ (kd h (gR h 1101 this) = 65 ∧ (vp_in x1 (ln h (gR h 1101 this)) ∧ (Q (eR h (gR h 1101 this) (ix x1)) h)))) : Rn M_J2_elementData 0 [(0, rV this), (1, iV x1)] [] h k n (qR Q) E := by
  refine r_aload_n (q := 1) dJ2_elementData_0 rfl 0 rfl ?_
  obtain ⟨g101, hw⟩ := hw
  refine r_getR (q := 4) L_J2_9 dJ2_elementData_1 rfl g101 rfl ?_
  refine r_iload_n (q := 5) dJ2_elementData_4 rfl 1 rfl ?_
  obtain ⟨g102, hw⟩ := hw
  obtain ⟨g103, hw⟩ := hw
  refine r_aaldL (q := 6) dJ2_elementData_5 rfl g102 rfl g103 ?_
  exact r_aret dJ2_elementData_6 rfl (Or.inl ⟨_, rfl⟩) hw
theorem b_J2_get_0 {x1 : Int32} {this : Nat} {h : Hp} {k n : Nat} {Q : Nat → Hp → Prop} {E : Nat → Hp → Prop} (hw : kd h this = 12 ∧ (CtI M_J6_checkIndex [iV x1, iV (gI h 1102 this)] h 0 0 (fun x103 h102 => kd h102 this = 12 ∧ (CtR M_J2_elementData [rV this, iV x1] h102 0 0 (fun r106 h105 => Q r106 h105) E)) E)) : Rn M_J2_get 0 [(0, rV this), (1, iV x1)] [] h k n (qR Q) E := by
  refine r_iload_n (q := 1) dJ2_get_0 rfl 1 rfl ?_
  refine r_aload_n (q := 2) dJ2_get_1 rfl 0 rfl ?_
  obtain ⟨g101, hw⟩ := hw
  refine r_getI (q := 5) L_J2_48 dJ2_get_2 rfl g101 ?_
  refine r_cSI0 (q := 8) [_, _] N_J2_118 dJ2_get_5 rfl rfl rfl rfl ?_
  refine r_monoCI (fun x103 h102 hw => ?_) hw
  refine r_pop (q := 9) dJ2_get_8 rfl rfl ?_
  refine r_aload_n (q := 10) dJ2_get_9 rfl 0 rfl ?_
  refine r_iload_n (q := 11) dJ2_get_10 rfl 1 rfl ?_
  obtain ⟨g104, hw⟩ := hw
  refine r_cVR0 (q := 14) _ [_] N_J2_123 rfl dJ2_get_11 rfl rfl rfl g104 rfl ?_
  refine r_monoCR (fun r106 h105 hw => ?_) hw
  exact r_aret dJ2_get_14 rfl (Or.inl ⟨_, rfl⟩) hw
theorem b_X3_plain_0 {x0 : Int32} {h : Hp} {k n : Nat} {Q : Int32 → Hp → Prop} {E : Nat → Hp → Prop} (hw : (x0 = 0 → Q 2 h) ∧ (¬ x0 = 0 → (x0 = 1 → Q 250 h) ∧ (¬ x0 = 1 → (x0 = 2 → Q 320 h) ∧ (¬ x0 = 2 → (x0 = 3 → Q 3 h) ∧ (¬ x0 = 3 → (x0 = 4 → Q 20 h) ∧ (¬ x0 = 4 → (x0 = 5 → Q 30 h) ∧ (¬ x0 = 5 → (x0 = 6 → Q 3 h) ∧ (¬ x0 = 6 → (x0 = 7 → Q 5 h) ∧ (¬ x0 = 7 → (x0 = 8 → Q 2 h) ∧ (¬ x0 = 8 → (x0 = 9 → Q 10 h) ∧ (¬ x0 = 9 → (x0 = 10 → Q 50 h) ∧ (¬ x0 = 10 → (x0 = 11 → Q 1 h) ∧ (¬ x0 = 11 → (x0 = 12 → Q 10 h) ∧ (¬ x0 = 12 → (x0 = 13 → Q 80 h) ∧ (¬ x0 = 13 → (x0 = 14 → Q 100 h) ∧ (¬ x0 = 14 → (x0 = 15 → Q 50 h) ∧ (¬ x0 = 15 → (x0 = 16 → Q 80 h) ∧ (¬ x0 = 16 → (x0 = 17 → Q 20 h) ∧ (¬ x0 = 17 → (x0 = 18 → Q 50 h) ∧ (¬ x0 = 18 → (x0 = 19 → Q 0 h) ∧ (¬ x0 = 19 → Q 20 h))))))))))))))))))))) : Rn M_X3_plain 0 [(0, iV x0)] [] h k n (qI Q) E := by
  refine r_iload_n (q := 1) dX3_plain_0 rfl 0 rfl ?_
  by_cases c0 : x0 = 0
  · have hw := hw.1 c0
    refine r_tabK (tg := 96) dX3_plain_1 c0 (by decide) (by decide) rfl (by decide) ?_
    refine r_iconst (q := 97) dX3_plain_96 rfl kI_2 ?_
    exact r_iret dX3_plain_97 rfl hw
  · have hw := hw.2 c0
    by_cases c1 : x0 = 1
    · have hw := hw.1 c1
      refine r_tabK (tg := 98) dX3_plain_1 c1 (by decide) (by decide) rfl (by decide) ?_
      refine r_sipush (q := 101) dX3_plain_98 rfl kS_250 ?_
      exact r_iret dX3_plain_101 rfl hw
    · have hw := hw.2 c1
      by_cases c2 : x0 = 2
      · have hw := hw.1 c2
        refine r_tabK (tg := 102) dX3_plain_1 c2 (by decide) (by decide) rfl (by decide) ?_
        refine r_sipush (q := 105) dX3_plain_102 rfl kS_320 ?_
        exact r_iret dX3_plain_105 rfl hw
      · have hw := hw.2 c2
        by_cases c3 : x0 = 3
        · have hw := hw.1 c3
          refine r_tabK (tg := 106) dX3_plain_1 c3 (by decide) (by decide) rfl (by decide) ?_
          refine r_iconst (q := 107) dX3_plain_106 rfl kI_3 ?_
          exact r_iret dX3_plain_107 rfl hw
        · have hw := hw.2 c3
          by_cases c4 : x0 = 4
          · have hw := hw.1 c4
            refine r_tabK (tg := 108) dX3_plain_1 c4 (by decide) (by decide) rfl (by decide) ?_
            refine r_bipush (q := 110) dX3_plain_108 rfl kB_20 ?_
            exact r_iret dX3_plain_110 rfl hw
          · have hw := hw.2 c4
            by_cases c5 : x0 = 5
            · have hw := hw.1 c5
              refine r_tabK (tg := 111) dX3_plain_1 c5 (by decide) (by decide) rfl (by decide) ?_
              refine r_bipush (q := 113) dX3_plain_111 rfl kB_30 ?_
              exact r_iret dX3_plain_113 rfl hw
            · have hw := hw.2 c5
              by_cases c6 : x0 = 6
              · have hw := hw.1 c6
                refine r_tabK (tg := 114) dX3_plain_1 c6 (by decide) (by decide) rfl (by decide) ?_
                refine r_iconst (q := 115) dX3_plain_114 rfl kI_3 ?_
                exact r_iret dX3_plain_115 rfl hw
              · have hw := hw.2 c6
                by_cases c7 : x0 = 7
                · have hw := hw.1 c7
                  refine r_tabK (tg := 116) dX3_plain_1 c7 (by decide) (by decide) rfl (by decide) ?_
                  refine r_iconst (q := 117) dX3_plain_116 rfl kI_5 ?_
                  exact r_iret dX3_plain_117 rfl hw
                · have hw := hw.2 c7
                  by_cases c8 : x0 = 8
                  · have hw := hw.1 c8
                    refine r_tabK (tg := 118) dX3_plain_1 c8 (by decide) (by decide) rfl (by decide) ?_
                    refine r_iconst (q := 119) dX3_plain_118 rfl kI_2 ?_
                    exact r_iret dX3_plain_119 rfl hw
                  · have hw := hw.2 c8
                    by_cases c9 : x0 = 9
                    · have hw := hw.1 c9
                      refine r_tabK (tg := 120) dX3_plain_1 c9 (by decide) (by decide) rfl (by decide) ?_
                      refine r_bipush (q := 122) dX3_plain_120 rfl kB_10 ?_
                      exact r_iret dX3_plain_122 rfl hw
                    · have hw := hw.2 c9
                      by_cases c10 : x0 = 10
                      · have hw := hw.1 c10
                        refine r_tabK (tg := 123) dX3_plain_1 c10 (by decide) (by decide) rfl (by decide) ?_
                        refine r_bipush (q := 125) dX3_plain_123 rfl kB_50 ?_
                        exact r_iret dX3_plain_125 rfl hw
                      · have hw := hw.2 c10
                        by_cases c11 : x0 = 11
                        · have hw := hw.1 c11
                          refine r_tabK (tg := 126) dX3_plain_1 c11 (by decide) (by decide) rfl (by decide) ?_
                          refine r_iconst (q := 127) dX3_plain_126 rfl kI_1 ?_
                          exact r_iret dX3_plain_127 rfl hw
                        · have hw := hw.2 c11
                          by_cases c12 : x0 = 12
                          · have hw := hw.1 c12
                            refine r_tabK (tg := 128) dX3_plain_1 c12 (by decide) (by decide) rfl (by decide) ?_
                            refine r_bipush (q := 130) dX3_plain_128 rfl kB_10 ?_
                            exact r_iret dX3_plain_130 rfl hw
                          · have hw := hw.2 c12
                            by_cases c13 : x0 = 13
                            · have hw := hw.1 c13
                              refine r_tabK (tg := 131) dX3_plain_1 c13 (by decide) (by decide) rfl (by decide) ?_
                              refine r_bipush (q := 133) dX3_plain_131 rfl kB_80 ?_
                              exact r_iret dX3_plain_133 rfl hw
                            · have hw := hw.2 c13
                              by_cases c14 : x0 = 14
                              · have hw := hw.1 c14
                                refine r_tabK (tg := 134) dX3_plain_1 c14 (by decide) (by decide) rfl (by decide) ?_
                                refine r_bipush (q := 136) dX3_plain_134 rfl kB_100 ?_
                                exact r_iret dX3_plain_136 rfl hw
                              · have hw := hw.2 c14
                                by_cases c15 : x0 = 15
                                · have hw := hw.1 c15
                                  refine r_tabK (tg := 137) dX3_plain_1 c15 (by decide) (by decide) rfl (by decide) ?_
                                  refine r_bipush (q := 139) dX3_plain_137 rfl kB_50 ?_
                                  exact r_iret dX3_plain_139 rfl hw
                                · have hw := hw.2 c15
                                  by_cases c16 : x0 = 16
                                  · have hw := hw.1 c16
                                    refine r_tabK (tg := 140) dX3_plain_1 c16 (by decide) (by decide) rfl (by decide) ?_
                                    refine r_bipush (q := 142) dX3_plain_140 rfl kB_80 ?_
                                    exact r_iret dX3_plain_142 rfl hw
                                  · have hw := hw.2 c16
                                    by_cases c17 : x0 = 17
                                    · have hw := hw.1 c17
                                      refine r_tabK (tg := 143) dX3_plain_1 c17 (by decide) (by decide) rfl (by decide) ?_
                                      refine r_bipush (q := 145) dX3_plain_143 rfl kB_20 ?_
                                      exact r_iret dX3_plain_145 rfl hw
                                    · have hw := hw.2 c17
                                      by_cases c18 : x0 = 18
                                      · have hw := hw.1 c18
                                        refine r_tabK (tg := 146) dX3_plain_1 c18 (by decide) (by decide) rfl (by decide) ?_
                                        refine r_bipush (q := 148) dX3_plain_146 rfl kB_50 ?_
                                        exact r_iret dX3_plain_148 rfl hw
                                      · have hw := hw.2 c18
                                        by_cases c19 : x0 = 19
                                        · have hw := hw.1 c19
                                          refine r_tabK (tg := 149) dX3_plain_1 c19 (by decide) (by decide) rfl (by decide) ?_
                                          refine r_iconst (q := 150) dX3_plain_149 rfl kI_0 ?_
                                          exact r_iret dX3_plain_150 rfl hw
                                        · have hw := hw.2 c19
                                          have z0 := lv_neT c0 (show (0 : Int32).toInt = 0 by decide)
                                          have z1 := lv_neT c1 (show (1 : Int32).toInt = 1 by decide)
                                          have z2 := lv_neT c2 (show (2 : Int32).toInt = 2 by decide)
                                          have z3 := lv_neT c3 (show (3 : Int32).toInt = 3 by decide)
                                          have z4 := lv_neT c4 (show (4 : Int32).toInt = 4 by decide)
                                          have z5 := lv_neT c5 (show (5 : Int32).toInt = 5 by decide)
                                          have z6 := lv_neT c6 (show (6 : Int32).toInt = 6 by decide)
                                          have z7 := lv_neT c7 (show (7 : Int32).toInt = 7 by decide)
                                          have z8 := lv_neT c8 (show (8 : Int32).toInt = 8 by decide)
                                          have z9 := lv_neT c9 (show (9 : Int32).toInt = 9 by decide)
                                          have z10 := lv_neT c10 (show (10 : Int32).toInt = 10 by decide)
                                          have z11 := lv_neT c11 (show (11 : Int32).toInt = 11 by decide)
                                          have z12 := lv_neT c12 (show (12 : Int32).toInt = 12 by decide)
                                          have z13 := lv_neT c13 (show (13 : Int32).toInt = 13 by decide)
                                          have z14 := lv_neT c14 (show (14 : Int32).toInt = 14 by decide)
                                          have z15 := lv_neT c15 (show (15 : Int32).toInt = 15 by decide)
                                          have z16 := lv_neT c16 (show (16 : Int32).toInt = 16 by decide)
                                          have z17 := lv_neT c17 (show (17 : Int32).toInt = 17 by decide)
                                          have z18 := lv_neT c18 (show (18 : Int32).toInt = 18 by decide)
                                          have z19 := lv_neT c19 (show (19 : Int32).toInt = 19 by decide)
                                          refine r_tabOut (tg := 151) dX3_plain_1 (by omega) (by decide) ?_
                                          refine r_bipush (q := 153) dX3_plain_151 rfl kB_20 ?_
                                          exact r_iret dX3_plain_153 rfl hw
theorem b_X3_inForce_0 {x1 : Int32} {mo : Nat} {h : Hp} {k n : Nat} {Q : Int32 → Hp → Prop} {E : Nat → Hp → Prop} (hm : MW h mo) (hw : Rn M_X3_inForce 4 [(0, rV mo), (1, iV x1), (2, iV (-1)), (3, iV 0)] [] h k n (qI Q) E) : Rn M_X3_inForce 0 [(0, rV mo), (1, iV x1)] [] h k n (qI Q) E := by
  refine r_iconst (q := 1) dX3_inForce_0 rfl kI_m1 ?_
  refine r_istore_n (q := 2) (lv' := [(0, _), (1, _), (2, _)]) dX3_inForce_1 rfl (Nat.le_of_ble_eq_true rfl) rfl ?_
  refine r_iconst (q := 3) dX3_inForce_2 rfl kI_0 ?_
  refine r_istore_n (q := 4) (lv' := [(0, _), (1, _), (2, _), (3, _)]) dX3_inForce_3 rfl (Nat.le_of_ble_eq_true rfl) rfl ?_
  exact hw
theorem b_X3_inForce_4 {x1 x2 x3 : Int32} {mo : Nat} {h : Hp} {k n : Nat} {Q : Int32 → Hp → Prop} {E : Nat → Hp → Prop} (hm : MW h mo) (hw : ((gI h 1067 mo) ≤ x3 → Q x2 h) ∧ (¬ (gI h 1067 mo) ≤ x3 → vp_in x3 11 ∧ ((x1 < (eI h (mo + 51) (ix x3)) → ∀ x102 : Int32, x102 = x3 + 1 → Rn M_X3_inForce 4 [(0, rV mo), (1, iV x1), (2, iV x2), (3, iV x102)] [] h k n (qI Q) E) ∧ (¬ x1 < (eI h (mo + 51) (ix x3)) → ∀ x103 : Int32, x103 = x3 + 1 → Rn M_X3_inForce 4 [(0, rV mo), (1, iV x1), (2, iV x3), (3, iV x103)] [] h k n (qI Q) E)))) : Rn M_X3_inForce 4 [(0, rV mo), (1, iV x1), (2, iV x2), (3, iV x3)] [] h k n (qI Q) E := by
  refine r_iload_n (q := 5) dX3_inForce_4 rfl 3 rfl ?_
  refine r_aload_n (q := 6) dX3_inForce_5 rfl 0 rfl ?_
  refine r_getI (q := 9) L_X3_419 dX3_inForce_6 rfl (mw_k hm) ?_
  refine r_icmp_ge (tg := 30) (q := 12) dX3_inForce_9 (by decide) rfl (fun c => ?_) (fun c => ?_)
  · have hw := hw.1 c
    refine r_iload_n (q := 31) dX3_inForce_30 rfl 2 rfl ?_
    exact r_iret dX3_inForce_31 rfl hw
  · have hw := hw.2 c
    refine r_aload_n (q := 13) dX3_inForce_12 rfl 0 rfl ?_
    refine r_getR (q := 16) L_X3_162 dX3_inForce_13 rfl (mw_k hm) (mwr_taken hm) ?_
    refine r_iload_n (q := 17) dX3_inForce_16 rfl 3 rfl ?_
    obtain ⟨g101, hw⟩ := hw
    refine r_ialdL (q := 18) dX3_inForce_17 rfl (mwk_taken hm) (mwl_taken hm) g101 ?_
    refine r_iload_n (q := 19) dX3_inForce_18 rfl 1 rfl ?_
    refine r_icmp_gt (tg := 24) (q := 22) dX3_inForce_19 (by decide) rfl (fun c => ?_) (fun c => ?_)
    · have hw := hw.1 c
      have hw := hw _ rfl
      refine r_iincW (q := 27) (lv' := [(0, _), (1, _), (2, _), (3, _)]) dX3_inForce_24 rfl 3 rfl kI_1 (Nat.le_of_ble_eq_true rfl) rfl ?_
      refine r_goto (tg := 4) dX3_inForce_27 (by decide) ?_
      exact hw
    · have hw := hw.2 c
      refine r_iload_n (q := 23) dX3_inForce_22 rfl 3 rfl ?_
      refine r_istore_n (q := 24) (lv' := [(0, _), (1, _), (2, _), (3, _)]) dX3_inForce_23 rfl (Nat.le_of_ble_eq_true rfl) rfl ?_
      have hw := hw _ rfl
      refine r_iincW (q := 27) (lv' := [(0, _), (1, _), (2, _), (3, _)]) dX3_inForce_24 rfl 3 rfl kI_1 (Nat.le_of_ble_eq_true rfl) rfl ?_
      refine r_goto (tg := 4) dX3_inForce_27 (by decide) ?_
      exact hw
theorem b_X3_bits_0 {x0 : Int32} {h : Hp} {k n : Nat} {Q : Int32 → Hp → Prop} {E : Nat → Hp → Prop} (hw : Rn M_X3_bits 4 [(1, iV 0), (2, iV x0)] [] h k n (qI Q) E) : Rn M_X3_bits 0 [(0, iV x0)] [] h k n (qI Q) E := by
  refine r_iconst (q := 1) dX3_bits_0 rfl kI_0 ?_
  refine r_istore_n (q := 2) (lv' := [(0, _), (1, _)]) dX3_bits_1 rfl (Nat.le_of_ble_eq_true rfl) rfl ?_
  refine r_iload_n (q := 3) dX3_bits_2 rfl 0 rfl ?_
  refine r_istore_n (q := 4) (lv' := [(0, _), (1, _), (2, _)]) dX3_bits_3 rfl (Nat.le_of_ble_eq_true rfl) rfl ?_
  exact r_sub [1, 2] rfl hw
theorem b_X3_bits_4 {x1 x2 : Int32} {h : Hp} {k n : Nat} {Q : Int32 → Hp → Prop} {E : Nat → Hp → Prop} (hw : (x2 ≤ 0 → Q x1 h) ∧ (¬ x2 ≤ 0 → ∀ x101 : Int32, x101 = x1 + (x2 &&& 1) → ∀ x102 : Int32, x102 = shr x2 1 → Rn M_X3_bits 4 [(1, iV x101), (2, iV x102)] [] h k n (qI Q) E)) : Rn M_X3_bits 4 [(1, iV x1), (2, iV x2)] [] h k n (qI Q) E := by
  refine r_iload_n (q := 5) dX3_bits_4 rfl 1 rfl ?_
  refine r_if_le (tg := 21) (q := 8) dX3_bits_5 (by decide) rfl (fun c => ?_) (fun c => ?_)
  · have hw := hw.1 c
    refine r_iload_n (q := 22) dX3_bits_21 rfl 0 rfl ?_
    exact r_iret dX3_bits_22 rfl hw
  · have hw := hw.2 c
    refine r_iload_n (q := 9) dX3_bits_8 rfl 0 rfl ?_
    refine r_iload_n (q := 10) dX3_bits_9 rfl 1 rfl ?_
    refine r_iconst (q := 11) dX3_bits_10 rfl kI_1 ?_
    refine r_iand (q := 12) dX3_bits_11 rfl ?_
    refine r_iadd (q := 13) dX3_bits_12 rfl ?_
    have hw := hw _ rfl
    refine r_istore_n (q := 14) (lv' := [(1, _), (2, _)]) dX3_bits_13 rfl (Nat.le_of_ble_eq_true rfl) rfl ?_
    refine r_iload_n (q := 15) dX3_bits_14 rfl 1 rfl ?_
    refine r_iconst (q := 16) dX3_bits_15 rfl kI_1 ?_
    refine r_ishr (q := 17) dX3_bits_16 rfl ?_
    have hw := hw _ rfl
    refine r_istore_n (q := 18) (lv' := [(1, _), (2, _)]) dX3_bits_17 rfl (Nat.le_of_ble_eq_true rfl) rfl ?_
    refine r_goto (tg := 4) dX3_bits_18 (by decide) ?_
    exact hw
