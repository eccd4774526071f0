/-! walks -/
set_option maxRecDepth 100000
theorem b_X0_count_0 {x1 : Int32} {xo : Nat} {h : Hp} {k n : Nat} {Q : Int32 → Hp → Prop} {E : Nat → Hp → Prop} (hm : XW h xo) (hw : (x1 = 0 → Q (gI h 0 xo) h) ∧ (¬ x1 = 0 → (x1 = 1 → Q (gI h 1102 (xo + 2)) h) ∧ (¬ x1 = 1 → (x1 = 2 → Q (gI h 1102 (xo + 3)) h) ∧ (¬ x1 = 2 → (x1 = 3 → (CP h xo) ∧ (Q (bdx h xo 0) h)) ∧ (¬ x1 = 3 → (x1 = 4 → (CP h xo) ∧ (Q (prkx h xo) h)) ∧ (¬ x1 = 4 → (x1 = 5 → Q (gI h 23 xo) h) ∧ (¬ x1 = 5 → (x1 = 6 → Q (gI h 1102 (xo + 21)) h) ∧ (¬ x1 = 6 → (x1 = 7 → Q (gI h 1102 (xo + 4)) h) ∧ (¬ x1 = 7 → (x1 = 8 → Q (gI h 26 xo) h) ∧ (¬ x1 = 8 → (x1 = 9 → Q (gI h 1102 (xo + 22)) h) ∧ (¬ x1 = 9 → (x1 = 10 → (CP h xo) ∧ (Q (opx h xo) h)) ∧ (¬ x1 = 10 → (x1 = 11 → (CP h xo) ∧ (Q (bdx h xo 1) h)) ∧ (¬ x1 = 11 → (x1 = 12 → Q (gI h 7 xo) h) ∧ (¬ x1 = 12 → Q (-1) h)))))))))))))) : Rn M_X0_count 0 [(0, rV xo), (1, iV x1)] [] h k n (qI Q) E := by
  refine r_iload_n (q := 1) dX0_count_0 rfl 1 rfl ?_
  by_cases c0 : x1 = 0
  · have hw := hw.1 c0
    refine r_tabK (tg := 68) dX0_count_1 c0 (by decide) (by decide) rfl (by decide) ?_
    refine r_aload_n (q := 69) dX0_count_68 rfl 0 rfl ?_
    refine r_getI (q := 72) L_X0_119 dX0_count_69 rfl (xw_k hm) ?_
    exact r_iret dX0_count_72 rfl hw
  · have hw := hw.2 c0
    by_cases c1 : x1 = 1
    · have hw := hw.1 c1
      refine r_tabK (tg := 73) dX0_count_1 c1 (by decide) (by decide) rfl (by decide) ?_
      refine r_aload_n (q := 74) dX0_count_73 rfl 0 rfl ?_
      refine r_getR (q := 77) L_X0_20 dX0_count_74 rfl (xw_k hm) (xwr_corners hm) ?_
      refine r_cVI0 (q := 80) _ [] N_X0_77 rfl dX0_count_77 rfl rfl rfl (xwk_corners hm) rfl ?_
      refine ct_J2_size (xwk_corners hm) ?_
      exact r_iret dX0_count_80 rfl hw
    · have hw := hw.2 c1
      by_cases c2 : x1 = 2
      · have hw := hw.1 c2
        refine r_tabK (tg := 81) dX0_count_1 c2 (by decide) (by decide) rfl (by decide) ?_
        refine r_aload_n (q := 82) dX0_count_81 rfl 0 rfl ?_
        refine r_getR (q := 85) L_X0_24 dX0_count_82 rfl (xw_k hm) (xwr_roofs hm) ?_
        refine r_cVI0 (q := 88) _ [] N_X0_77 rfl dX0_count_85 rfl rfl rfl (xwk_roofs hm) rfl ?_
        refine ct_J2_size (xwk_roofs hm) ?_
        exact r_iret dX0_count_88 rfl hw
      · have hw := hw.2 c2
        by_cases c3 : x1 = 3
        · have hw := hw.1 c3
          refine r_tabK (tg := 89) dX0_count_1 c3 (by decide) (by decide) rfl (by decide) ?_
          refine r_aload_n (q := 90) dX0_count_89 rfl 0 rfl ?_
          refine r_iconst (q := 91) dX0_count_90 rfl kI_0 ?_
          obtain ⟨g101, hw⟩ := hw
          refine r_cVI0 (q := 94) _ [_] N_X0_546 rfl dX0_count_91 rfl rfl rfl (xw_k hm) rfl ?_
          refine cs_X0_bedsThat hm g101 ?_
          exact r_iret dX0_count_94 rfl hw
        · have hw := hw.2 c3
          by_cases c4 : x1 = 4
          · have hw := hw.1 c4
            refine r_tabK (tg := 95) dX0_count_1 c4 (by decide) (by decide) rfl (by decide) ?_
            refine r_aload_n (q := 96) dX0_count_95 rfl 0 rfl ?_
            obtain ⟨g102, hw⟩ := hw
            refine r_cVI0 (q := 99) _ [] N_X0_117 rfl dX0_count_96 rfl rfl rfl (xw_k hm) rfl ?_
            refine cs_X0_parking hm g102 ?_
            exact r_iret dX0_count_99 rfl hw
          · have hw := hw.2 c4
            by_cases c5 : x1 = 5
            · have hw := hw.1 c5
              refine r_tabK (tg := 100) dX0_count_1 c5 (by decide) (by decide) rfl (by decide) ?_
              refine r_aload_n (q := 101) dX0_count_100 rfl 0 rfl ?_
              refine r_getI (q := 104) L_X0_379 dX0_count_101 rfl (xw_k hm) ?_
              exact r_iret dX0_count_104 rfl hw
            · have hw := hw.2 c5
              by_cases c6 : x1 = 6
              · have hw := hw.1 c6
                refine r_tabK (tg := 105) dX0_count_1 c6 (by decide) (by decide) rfl (by decide) ?_
                refine r_aload_n (q := 106) dX0_count_105 rfl 0 rfl ?_
                refine r_getR (q := 109) L_X0_71 dX0_count_106 rfl (xw_k hm) (xwr_storms hm) ?_
                refine r_cVI0 (q := 112) _ [] N_X0_77 rfl dX0_count_109 rfl rfl rfl (xwk_storms hm) rfl ?_
                refine ct_J2_size (xwk_storms hm) ?_
                exact r_iret dX0_count_112 rfl hw
              · have hw := hw.2 c6
                by_cases c7 : x1 = 7
                · have hw := hw.1 c7
                  refine r_tabK (tg := 113) dX0_count_1 c7 (by decide) (by decide) rfl (by decide) ?_
                  refine r_aload_n (q := 114) dX0_count_113 rfl 0 rfl ?_
                  refine r_getR (q := 117) L_X0_27 dX0_count_114 rfl (xw_k hm) (xwr_rules hm) ?_
                  refine r_cVI0 (q := 120) _ [] N_X0_77 rfl dX0_count_117 rfl rfl rfl (xwk_rules hm) rfl ?_
                  refine ct_J2_size (xwk_rules hm) ?_
                  exact r_iret dX0_count_120 rfl hw
                · have hw := hw.2 c7
                  by_cases c8 : x1 = 8
                  · have hw := hw.1 c8
                    refine r_tabK (tg := 121) dX0_count_1 c8 (by decide) (by decide) rfl (by decide) ?_
                    refine r_aload_n (q := 122) dX0_count_121 rfl 0 rfl ?_
                    refine r_getI (q := 125) L_X0_502 dX0_count_122 rfl (xw_k hm) ?_
                    exact r_iret dX0_count_125 rfl hw
                  · have hw := hw.2 c8
                    by_cases c9 : x1 = 9
                    · have hw := hw.1 c9
                      refine r_tabK (tg := 126) dX0_count_1 c9 (by decide) (by decide) rfl (by decide) ?_
                      refine r_aload_n (q := 127) dX0_count_126 rfl 0 rfl ?_
                      refine r_getR (q := 130) L_X0_74 dX0_count_127 rfl (xw_k hm) (xwr_complaints hm) ?_
                      refine r_cVI0 (q := 133) _ [] N_X0_77 rfl dX0_count_130 rfl rfl rfl (xwk_complaints hm) rfl ?_
                      refine ct_J2_size (xwk_complaints hm) ?_
                      exact r_iret dX0_count_133 rfl hw
                    · have hw := hw.2 c9
                      by_cases c10 : x1 = 10
                      · have hw := hw.1 c10
                        refine r_tabK (tg := 134) dX0_count_1 c10 (by decide) (by decide) rfl (by decide) ?_
                        refine r_aload_n (q := 135) dX0_count_134 rfl 0 rfl ?_
                        obtain ⟨g103, hw⟩ := hw
                        refine r_cVI0 (q := 138) _ [] N_X0_550 rfl dX0_count_135 rfl rfl rfl (xw_k hm) rfl ?_
                        refine cs_X0_open hm g103 ?_
                        exact r_iret dX0_count_138 rfl hw
                      · have hw := hw.2 c10
                        by_cases c11 : x1 = 11
                        · have hw := hw.1 c11
                          refine r_tabK (tg := 139) dX0_count_1 c11 (by decide) (by decide) rfl (by decide) ?_
                          refine r_aload_n (q := 140) dX0_count_139 rfl 0 rfl ?_
                          refine r_iconst (q := 141) dX0_count_140 rfl kI_1 ?_
                          obtain ⟨g104, hw⟩ := hw
                          refine r_cVI0 (q := 144) _ [_] N_X0_546 rfl dX0_count_141 rfl rfl rfl (xw_k hm) rfl ?_
                          refine cs_X0_bedsThat hm g104 ?_
                          exact r_iret dX0_count_144 rfl hw
                        · have hw := hw.2 c11
                          by_cases c12 : x1 = 12
                          · have hw := hw.1 c12
                            refine r_tabK (tg := 145) dX0_count_1 c12 (by decide) (by decide) rfl (by decide) ?_
                            refine r_aload_n (q := 146) dX0_count_145 rfl 0 rfl ?_
                            refine r_getI (q := 149) L_X0_172 dX0_count_146 rfl (xw_k hm) ?_
                            exact r_iret dX0_count_149 rfl hw
                          · have hw := hw.2 c12
                            have z0 := lv_neT c0 (show (0 : Int32).toInt = 0 by decide)
                            have z1 := lv_neT c1 (show (1 : Int32).toInt = 1 by decide)
                            have z2 := lv_neT c2 (show (2 : Int32).toInt = 2 by decide)
                            have z3 := lv_neT c3 (show (3 : Int32).toInt = 3 by decide)
                            have z4 := lv_neT c4 (show (4 : Int32).toInt = 4 by decide)
                            have z5 := lv_neT c5 (show (5 : Int32).toInt = 5 by decide)
                            have z6 := lv_neT c6 (show (6 : Int32).toInt = 6 by decide)
                            have z7 := lv_neT c7 (show (7 : Int32).toInt = 7 by decide)
                            have z8 := lv_neT c8 (show (8 : Int32).toInt = 8 by decide)
                            have z9 := lv_neT c9 (show (9 : Int32).toInt = 9 by decide)
                            have z10 := lv_neT c10 (show (10 : Int32).toInt = 10 by decide)
                            have z11 := lv_neT c11 (show (11 : Int32).toInt = 11 by decide)
                            have z12 := lv_neT c12 (show (12 : Int32).toInt = 12 by decide)
                            refine r_tabOut (tg := 150) dX0_count_1 (by omega) (by decide) ?_
                            refine r_iconst (q := 151) dX0_count_150 rfl kI_m1 ?_
                            exact r_iret dX0_count_151 rfl hw
def V_X0_count (h : Hp) (xo : Nat) (x1 : Int32) : Int32 := (if x1 = 0 then (gI h 0 xo) else (if x1 = 1 then (gI h 1102 (xo + 2)) else (if x1 = 2 then (gI h 1102 (xo + 3)) else (if x1 = 3 then (bdx h xo 0) else (if x1 = 4 then (prkx h xo) else (if x1 = 5 then (gI h 23 xo) else (if x1 = 6 then (gI h 1102 (xo + 21)) else (if x1 = 7 then (gI h 1102 (xo + 4)) else (if x1 = 8 then (gI h 26 xo) else (if x1 = 9 then (gI h 1102 (xo + 22)) else (if x1 = 10 then (opx h xo) else (if x1 = 11 then (bdx h xo 1) else (if x1 = 12 then (gI h 7 xo) else (-1))))))))))))))
def P_X0_count (h : Hp) (xo : Nat) (x1 : Int32) : Prop := (x1 = 0 → True) ∧ (¬ x1 = 0 → (x1 = 1 → True) ∧ (¬ x1 = 1 → (x1 = 2 → True) ∧ (¬ x1 = 2 → (x1 = 3 → (CP h xo)) ∧ (¬ x1 = 3 → (x1 = 4 → (CP h xo)) ∧ (¬ x1 = 4 → (x1 = 5 → True) ∧ (¬ x1 = 5 → (x1 = 6 → True) ∧ (¬ x1 = 6 → (x1 = 7 → True) ∧ (¬ x1 = 7 → (x1 = 8 → True) ∧ (¬ x1 = 8 → (x1 = 9 → True) ∧ (¬ x1 = 9 → (x1 = 10 → (CP h xo)) ∧ (¬ x1 = 10 → (x1 = 11 → (CP h xo)) ∧ (¬ x1 = 11 → True))))))))))))
theorem ct_X0_count {h : Hp} {E : Nat → Hp → Prop} {k n : Nat} {xo : Nat} {x1 : Int32} (hm : XW h xo) (hp : P_X0_count h xo x1) {Q : Int32 → Hp → Prop} (hq : Q (V_X0_count h xo x1) h) : CtI M_X0_count [rV xo, iV x1] h k n Q E := by
  unfold P_X0_count at hp
  unfold V_X0_count at hq
  refine b_X0_count_0 hm ?_
  refine ⟨fun c => ?_, fun c => ?_⟩
  · rw [if_pos c] at hq
    have hp := hp.1 c
    exact hq
  · rw [if_neg (by first | exact c | exact fun z => z c | (rw [c]; decide))] at hq
    have hp := hp.2 c
    refine ⟨fun c => ?_, fun c => ?_⟩
    · rw [if_pos c] at hq
      have hp := hp.1 c
      exact hq
    · rw [if_neg (by first | exact c | exact fun z => z c | (rw [c]; decide))] at hq
      have hp := hp.2 c
      refine ⟨fun c => ?_, fun c => ?_⟩
      · rw [if_pos c] at hq
        have hp := hp.1 c
        exact hq
      · rw [if_neg (by first | exact c | exact fun z => z c | (rw [c]; decide))] at hq
        have hp := hp.2 c
        refine ⟨fun c => ?_, fun c => ?_⟩
        · rw [if_pos c] at hq
          have hp := hp.1 c
          refine ⟨hp, ?_⟩
          exact hq
        · rw [if_neg (by first | exact c | exact fun z => z c | (rw [c]; decide))] at hq
          have hp := hp.2 c
          refine ⟨fun c => ?_, fun c => ?_⟩
          · rw [if_pos c] at hq
            have hp := hp.1 c
            refine ⟨hp, ?_⟩
            exact hq
          · rw [if_neg (by first | exact c | exact fun z => z c | (rw [c]; decide))] at hq
            have hp := hp.2 c
            refine ⟨fun c => ?_, fun c => ?_⟩
            · rw [if_pos c] at hq
              have hp := hp.1 c
              exact hq
            · rw [if_neg (by first | exact c | exact fun z => z c | (rw [c]; decide))] at hq
              have hp := hp.2 c
              refine ⟨fun c => ?_, fun c => ?_⟩
              · rw [if_pos c] at hq
                have hp := hp.1 c
                exact hq
              · rw [if_neg (by first | exact c | exact fun z => z c | (rw [c]; decide))] at hq
                have hp := hp.2 c
                refine ⟨fun c => ?_, fun c => ?_⟩
                · rw [if_pos c] at hq
                  have hp := hp.1 c
                  exact hq
                · rw [if_neg (by first | exact c | exact fun z => z c | (rw [c]; decide))] at hq
                  have hp := hp.2 c
                  refine ⟨fun c => ?_, fun c => ?_⟩
                  · rw [if_pos c] at hq
                    have hp := hp.1 c
                    exact hq
                  · rw [if_neg (by first | exact c | exact fun z => z c | (rw [c]; decide))] at hq
                    have hp := hp.2 c
                    refine ⟨fun c => ?_, fun c => ?_⟩
                    · rw [if_pos c] at hq
                      have hp := hp.1 c
                      exact hq
                    · rw [if_neg (by first | exact c | exact fun z => z c | (rw [c]; decide))] at hq
                      have hp := hp.2 c
                      refine ⟨fun c => ?_, fun c => ?_⟩
                      · rw [if_pos c] at hq
                        have hp := hp.1 c
                        refine ⟨hp, ?_⟩
                        exact hq
                      · rw [if_neg (by first | exact c | exact fun z => z c | (rw [c]; decide))] at hq
                        have hp := hp.2 c
                        refine ⟨fun c => ?_, fun c => ?_⟩
                        · rw [if_pos c] at hq
                          have hp := hp.1 c
                          refine ⟨hp, ?_⟩
                          exact hq
                        · rw [if_neg (by first | exact c | exact fun z => z c | (rw [c]; decide))] at hq
                          have hp := hp.2 c
                          refine ⟨fun c => ?_, fun c => ?_⟩
                          · rw [if_pos c] at hq
                            exact hq
                          · rw [if_neg (by first | exact c | exact fun z => z c | (rw [c]; decide))] at hq
                            exact hq
