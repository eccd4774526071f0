/-! walks -/
set_option maxRecDepth 100000
theorem b_X6_drinkBy_0 {x1 : Int32} {this : Nat} {h : Hp} {k n : Nat} {Q : Int32 → Hp → Prop} {E : Nat → Hp → Prop} (hw : kd h this = 4 ∧ (kd h (gR h 313 this) = 1 ∧ (kd h (gR h 1 (gR h 313 this)) = 61 ∧ (vp_in (gI h 301 this) (ln h (gR h 1 (gR h 313 this))) ∧ (Q (((eI h (gR h 1 (gR h 313 this)) (ix (gI h 301 this))) * (100 - x1)) / 100) h))))) : Rn M_X6_drinkBy 0 [(0, rV this), (1, iV x1)] [] h k n (qI Q) E := by
  refine r_aload_n (q := 1) dX6_drinkBy_0 rfl 0 rfl ?_
  obtain ⟨g101, hw⟩ := hw
  refine r_getR (q := 4) L_X6_3 dX6_drinkBy_1 rfl g101 rfl ?_
  obtain ⟨g102, hw⟩ := hw
  refine r_getR (q := 7) L_X6_42 dX6_drinkBy_4 rfl g102 rfl ?_
  refine r_aload_n (q := 8) dX6_drinkBy_7 rfl 0 rfl ?_
  refine r_getI (q := 11) L_X6_27 dX6_drinkBy_8 rfl g101 ?_
  obtain ⟨g103, hw⟩ := hw
  obtain ⟨g104, hw⟩ := hw
  refine r_ialdL (q := 12) dX6_drinkBy_11 rfl g103 rfl g104 ?_
  refine r_bipush (q := 14) dX6_drinkBy_12 rfl kB_100 ?_
  refine r_iload_n (q := 15) dX6_drinkBy_14 rfl 1 rfl ?_
  refine r_isub (q := 16) dX6_drinkBy_15 rfl ?_
  refine r_imul (q := 17) dX6_drinkBy_16 rfl ?_
  refine r_bipush (q := 19) dX6_drinkBy_17 rfl kB_100 ?_
  refine r_idiv (q := 20) dX6_drinkBy_19 rfl (by decide) ?_
  exact r_iret dX6_drinkBy_20 rfl hw
def V_X6_drinkBy (h : Hp) (this : Nat) (x1 : Int32) : Int32 := (((eI h (gR h 1 (gR h 313 this)) (ix (gI h 301 this))) * (100 - x1)) / 100)
def P_X6_drinkBy (h : Hp) (this : Nat) (x1 : Int32) : Prop := kd h this = 4 ∧ (kd h (gR h 313 this) = 1 ∧ (kd h (gR h 1 (gR h 313 this)) = 61 ∧ (vp_in (gI h 301 this) (ln h (gR h 1 (gR h 313 this))))))
theorem ct_X6_drinkBy {h : Hp} {E : Nat → Hp → Prop} {k n : Nat} {this : Nat} {x1 : Int32} (hp : P_X6_drinkBy h this x1) {Q : Int32 → Hp → Prop} (hq : Q (V_X6_drinkBy h this x1) h) : CtI M_X6_drinkBy [rV this, iV x1] h k n Q E := by
  unfold P_X6_drinkBy at hp
  unfold V_X6_drinkBy at hq
  refine b_X6_drinkBy_0 ?_
  refine ⟨hp.1, ?_⟩
  have hp := hp.2
  refine ⟨hp.1, ?_⟩
  have hp := hp.2
  refine ⟨hp.1, ?_⟩
  have hp := hp.2
  refine ⟨hp, ?_⟩
  exact hq
theorem b_X6_drink_0 {this : Nat} {h : Hp} {k n : Nat} {Q : Int32 → Hp → Prop} {E : Nat → Hp → Prop} (hw : kd h this = 4 ∧ ((P_X6_drinkBy h this (gI h 305 this)) ∧ (Q (V_X6_drinkBy h this (gI h 305 this)) h))) : Rn M_X6_drink 0 [(0, rV this)] [] h k n (qI Q) E := by
  refine r_aload_n (q := 1) dX6_drink_0 rfl 0 rfl ?_
  refine r_aload_n (q := 2) dX6_drink_1 rfl 0 rfl ?_
  obtain ⟨g101, hw⟩ := hw
  refine r_getI (q := 5) L_X6_46 dX6_drink_2 rfl g101 ?_
  obtain ⟨g102, hw⟩ := hw
  refine r_cVI0 (q := 8) _ [_] N_X6_49 rfl dX6_drink_5 rfl rfl rfl g101 rfl ?_
  refine ct_X6_drinkBy g102 ?_
  exact r_iret dX6_drink_8 rfl hw
def V_X6_drink (h : Hp) (this : Nat) : Int32 := (V_X6_drinkBy h this (gI h 305 this))
def P_X6_drink (h : Hp) (this : Nat) : Prop := kd h this = 4 ∧ ((P_X6_drinkBy h this (gI h 305 this)))
theorem ct_X6_drink {h : Hp} {E : Nat → Hp → Prop} {k n : Nat} {this : Nat} (hp : P_X6_drink h this) {Q : Int32 → Hp → Prop} (hq : Q (V_X6_drink h this) h) : CtI M_X6_drink [rV this] h k n Q E := by
  unfold P_X6_drink at hp
  unfold V_X6_drink at hq
  refine b_X6_drink_0 ?_
  refine ⟨hp.1, ?_⟩
  have hp := hp.2
  refine ⟨hp, ?_⟩
  exact hq
theorem b_X6_more_0 {this : Nat} {h : Hp} {k n : Nat} {Q : Int32 → Hp → Prop} {E : Nat → Hp → Prop} (hw : kd h this = 4 ∧ ((P_X6_drinkBy h this (imax 0 ((gI h 305 this) - 30))) ∧ ((P_X6_drink h this) ∧ (Q ((V_X6_drinkBy h this (imax 0 ((gI h 305 this) - 30))) - (V_X6_drink h this)) h)))) : Rn M_X6_more 0 [(0, rV this)] [] h k n (qI Q) E := by
  refine r_aload_n (q := 1) dX6_more_0 rfl 0 rfl ?_
  refine r_iconst (q := 2) dX6_more_1 rfl kI_0 ?_
  refine r_aload_n (q := 3) dX6_more_2 rfl 0 rfl ?_
  obtain ⟨g101, hw⟩ := hw
  refine r_getI (q := 6) L_X6_46 dX6_more_3 rfl g101 ?_
  refine r_bipush (q := 8) dX6_more_6 rfl kB_30 ?_
  refine r_isub (q := 9) dX6_more_8 rfl ?_
  refine r_mmax (q := 12) q1303 dX6_more_9 rfl rfl ?_
  obtain ⟨g102, hw⟩ := hw
  refine r_cVI0 (q := 15) _ [_] N_X6_49 rfl dX6_more_12 rfl rfl rfl g101 rfl ?_
  refine ct_X6_drinkBy g102 ?_
  refine r_aload_n (q := 16) dX6_more_15 rfl 0 rfl ?_
  obtain ⟨g103, hw⟩ := hw
  refine r_cVI0 (q := 19) _ [] N_X6_59 rfl dX6_more_16 rfl rfl rfl g101 rfl ?_
  refine ct_X6_drink g103 ?_
  refine r_isub (q := 20) dX6_more_19 rfl ?_
  exact r_iret dX6_more_20 rfl hw
def V_X6_more (h : Hp) (this : Nat) : Int32 := ((V_X6_drinkBy h this (imax 0 ((gI h 305 this) - 30))) - (V_X6_drink h this))
def P_X6_more (h : Hp) (this : Nat) : Prop := kd h this = 4 ∧ ((P_X6_drinkBy h this (imax 0 ((gI h 305 this) - 30))) ∧ ((P_X6_drink h this)))
theorem ct_X6_more {h : Hp} {E : Nat → Hp → Prop} {k n : Nat} {this : Nat} (hp : P_X6_more h this) {Q : Int32 → Hp → Prop} (hq : Q (V_X6_more h this) h) : CtI M_X6_more [rV this] h k n Q E := by
  unfold P_X6_more at hp
  unfold V_X6_more at hq
  refine b_X6_more_0 ?_
  refine ⟨hp.1, ?_⟩
  have hp := hp.2
  refine ⟨hp.1, ?_⟩
  have hp := hp.2
  refine ⟨hp, ?_⟩
  exact hq
theorem b_X3_bedOf_0 {x1 x2 : Int32} {mo : Nat} {h : Hp} {k n : Nat} {Q : Int32 → Hp → Prop} {E : Nat → Hp → Prop} (hm : MW h mo) (hw : (P_X3_isBed h mo x1) ∧ ((¬ (V_X3_isBed h mo x1) = 0 → vp_in x1 12 ∧ (∀ x103 : Int32, x103 = eI h (mo + 17) (ix x1) → (x2 = 0 → vp_in x1 12 ∧ (Q (eI h (mo + 9) (ix x1)) h)) ∧ (¬ x2 = 0 → (x2 = 1 → vp_in x1 12 ∧ (Q (eI h (mo + 10) (ix x1)) h)) ∧ (¬ x2 = 1 → (x2 = 2 → vp_in x1 12 ∧ (Q (b1 (nz (eI h (mo + 7) (ix x1)))) h)) ∧ (¬ x2 = 2 → (x2 = 3 → vp_in x1 12 ∧ (Q (eI h (mo + 11) (ix x1)) h)) ∧ (¬ x2 = 3 → (x2 = 4 → vp_in x1 12 ∧ (Q (eI h (mo + 12) (ix x1)) h)) ∧ (¬ x2 = 4 → (x2 = 5 → vp_in x1 12 ∧ (Q (eI h (mo + 13) (ix x1)) h)) ∧ (¬ x2 = 5 → (x2 = 6 → vp_in x1 12 ∧ (Q (eI h (mo + 14) (ix x1)) h)) ∧ (¬ x2 = 6 → (x2 = 7 → vp_in x1 12 ∧ (Q (b1 (nz (eI h (mo + 8) (ix x1)))) h)) ∧ (¬ x2 = 7 → (x2 = 8 → vp_in x1 12 ∧ (Q (eI h (mo + 15) (ix x1)) h)) ∧ (¬ x2 = 8 → (x2 = 9 → vp_in x1 12 ∧ (Q (eI h (mo + 16) (ix x1)) h)) ∧ (¬ x2 = 9 → (x2 = 10 → (P_X3_drink h mo x1) ∧ (Q (V_X3_drink h mo x1) h)) ∧ (¬ x2 = 10 → (x2 = 11 → Q x103 h) ∧ (¬ x2 = 11 → (x2 = 12 → (¬ x103 = (-1) → vp_in x1 12 ∧ (vp_in (eI h (mo + 9) (ix x1)) 10 ∧ ((P_X3_now h mo (13 + (2 * x103))) ∧ (Q (((eI h (mo + 25) (ix (eI h (mo + 9) (ix x1)))) * (V_X3_now h mo (13 + (2 * x103)))) / 100) h)))) ∧ (x103 = (-1) → Q (-1) h)) ∧ (¬ x2 = 12 → (x2 = 13 → (¬ x103 = (-1) → vp_in x1 12 ∧ (vp_in (eI h (mo + 9) (ix x1)) 10 ∧ ((P_X3_now h mo (14 + (2 * x103))) ∧ (Q (((eI h (mo + 25) (ix (eI h (mo + 9) (ix x1)))) * (V_X3_now h mo (14 + (2 * x103)))) / 100) h)))) ∧ (x103 = (-1) → Q (-1) h)) ∧ (¬ x2 = 13 → Q (-1) h)))))))))))))))) ∧ ((V_X3_isBed h mo x1) = 0 → Q (-1) h))) : Rn M_X3_bedOf 0 [(0, rV mo), (1, iV x1), (2, iV x2)] [] h k n (qI Q) E := by
  refine r_aload_n (q := 1) dX3_bedOf_0 rfl 0 rfl ?_
  refine r_iload_n (q := 2) dX3_bedOf_1 rfl 1 rfl ?_
  obtain ⟨g101, hw⟩ := hw
  refine r_cVI0 (q := 5) _ [_] N_X3_219 rfl dX3_bedOf_2 rfl rfl rfl (mw_k hm) rfl ?_
  refine ct_X3_isBed hm g101 ?_
  refine r_if_ne (tg := 10) (q := 8) dX3_bedOf_5 (by decide) rfl (fun c => ?_) (fun c => ?_)
  · have hw := hw.1 c
    refine r_aload_n (q := 11) dX3_bedOf_10 rfl 0 rfl ?_
    refine r_getR (q := 14) L_X3_59 dX3_bedOf_11 rfl (mw_k hm) (mwr_looked hm) ?_
    refine r_iload_n (q := 15) dX3_bedOf_14 rfl 1 rfl ?_
    obtain ⟨g102, hw⟩ := hw
    refine r_ialdL (q := 16) dX3_bedOf_15 rfl (mwk_looked hm) (mwl_looked hm) g102 ?_
    have hw := hw _ rfl
    refine r_istore_n (q := 17) (lv' := [(0, _), (1, _), (2, _), (3, _)]) dX3_bedOf_16 rfl (Nat.le_of_ble_eq_true rfl) rfl ?_
    refine r_iload_n (q := 18) dX3_bedOf_17 rfl 2 rfl ?_
    by_cases c0 : x2 = 0
    · have hw := hw.1 c0
      refine r_tabK (tg := 88) dX3_bedOf_18 c0 (by decide) (by decide) rfl (by decide) ?_
      refine r_aload_n (q := 89) dX3_bedOf_88 rfl 0 rfl ?_
      refine r_getR (q := 92) L_X3_35 dX3_bedOf_89 rfl (mw_k hm) (mwr_lot hm) ?_
      refine r_iload_n (q := 93) dX3_bedOf_92 rfl 1 rfl ?_
      obtain ⟨g104, hw⟩ := hw
      refine r_ialdL (q := 94) dX3_bedOf_93 rfl (mwk_lot hm) (mwl_lot hm) g104 ?_
      exact r_iret dX3_bedOf_94 rfl hw
    · have hw := hw.2 c0
      by_cases c1 : x2 = 1
      · have hw := hw.1 c1
        refine r_tabK (tg := 95) dX3_bedOf_18 c1 (by decide) (by decide) rfl (by decide) ?_
        refine r_aload_n (q := 96) dX3_bedOf_95 rfl 0 rfl ?_
        refine r_getR (q := 99) L_X3_38 dX3_bedOf_96 rfl (mw_k hm) (mwr_bowl hm) ?_
        refine r_iload_n (q := 100) dX3_bedOf_99 rfl 1 rfl ?_
        obtain ⟨g105, hw⟩ := hw
        refine r_ialdL (q := 101) dX3_bedOf_100 rfl (mwk_bowl hm) (mwl_bowl hm) g105 ?_
        exact r_iret dX3_bedOf_101 rfl hw
      · have hw := hw.2 c1
        by_cases c2 : x2 = 2
        · have hw := hw.1 c2
          refine r_tabK (tg := 102) dX3_bedOf_18 c2 (by decide) (by decide) rfl (by decide) ?_
          refine r_aload_n (q := 103) dX3_bedOf_102 rfl 0 rfl ?_
          refine r_getR (q := 106) L_X3_29 dX3_bedOf_103 rfl (mw_k hm) (mwr_hasTree hm) ?_
          refine r_iload_n (q := 107) dX3_bedOf_106 rfl 1 rfl ?_
          obtain ⟨g106, hw⟩ := hw
          refine r_zaldL (q := 108) dX3_bedOf_107 rfl (mwk_hasTree hm) (mwl_hasTree hm) g106 ?_
          refine r_cSI0 (q := 111) [_] N_X3_319 dX3_bedOf_108 rfl rfl rfl rfl ?_
          refine ct_X3_one  ?_
          exact r_iret dX3_bedOf_111 rfl hw
        · have hw := hw.2 c2
          by_cases c3 : x2 = 3
          · have hw := hw.1 c3
            refine r_tabK (tg := 112) dX3_bedOf_18 c3 (by decide) (by decide) rfl (by decide) ?_
            refine r_aload_n (q := 113) dX3_bedOf_112 rfl 0 rfl ?_
            refine r_getR (q := 116) L_X3_41 dX3_bedOf_113 rfl (mw_k hm) (mwr_made hm) ?_
            refine r_iload_n (q := 117) dX3_bedOf_116 rfl 1 rfl ?_
            obtain ⟨g107, hw⟩ := hw
            refine r_ialdL (q := 118) dX3_bedOf_117 rfl (mwk_made hm) (mwl_made hm) g107 ?_
            exact r_iret dX3_bedOf_118 rfl hw
          · have hw := hw.2 c3
            by_cases c4 : x2 = 4
            · have hw := hw.1 c4
              refine r_tabK (tg := 119) dX3_bedOf_18 c4 (by decide) (by decide) rfl (by decide) ?_
              refine r_aload_n (q := 120) dX3_bedOf_119 rfl 0 rfl ?_
              refine r_getR (q := 123) L_X3_44 dX3_bedOf_120 rfl (mw_k hm) (mwr_clog hm) ?_
              refine r_iload_n (q := 124) dX3_bedOf_123 rfl 1 rfl ?_
              obtain ⟨g108, hw⟩ := hw
              refine r_ialdL (q := 125) dX3_bedOf_124 rfl (mwk_clog hm) (mwl_clog hm) g108 ?_
              exact r_iret dX3_bedOf_125 rfl hw
            · have hw := hw.2 c4
              by_cases c5 : x2 = 5
              · have hw := hw.1 c5
                refine r_tabK (tg := 126) dX3_bedOf_18 c5 (by decide) (by decide) rfl (by decide) ?_
                refine r_aload_n (q := 127) dX3_bedOf_126 rfl 0 rfl ?_
                refine r_getR (q := 130) L_X3_47 dX3_bedOf_127 rfl (mw_k hm) (mwr_leaves hm) ?_
                refine r_iload_n (q := 131) dX3_bedOf_130 rfl 1 rfl ?_
                obtain ⟨g109, hw⟩ := hw
                refine r_ialdL (q := 132) dX3_bedOf_131 rfl (mwk_leaves hm) (mwl_leaves hm) g109 ?_
                exact r_iret dX3_bedOf_132 rfl hw
              · have hw := hw.2 c5
                by_cases c6 : x2 = 6
                · have hw := hw.1 c6
                  refine r_tabK (tg := 133) dX3_bedOf_18 c6 (by decide) (by decide) rfl (by decide) ?_
                  refine r_aload_n (q := 134) dX3_bedOf_133 rfl 0 rfl ?_
                  refine r_getR (q := 137) L_X3_50 dX3_bedOf_134 rfl (mw_k hm) (mwr_salt hm) ?_
                  refine r_iload_n (q := 138) dX3_bedOf_137 rfl 1 rfl ?_
                  obtain ⟨g110, hw⟩ := hw
                  refine r_ialdL (q := 139) dX3_bedOf_138 rfl (mwk_salt hm) (mwl_salt hm) g110 ?_
                  exact r_iret dX3_bedOf_139 rfl hw
                · have hw := hw.2 c6
                  by_cases c7 : x2 = 7
                  · have hw := hw.1 c7
                    refine r_tabK (tg := 140) dX3_bedOf_18 c7 (by decide) (by decide) rfl (by decide) ?_
                    refine r_aload_n (q := 141) dX3_bedOf_140 rfl 0 rfl ?_
                    refine r_getR (q := 144) L_X3_32 dX3_bedOf_141 rfl (mw_k hm) (mwr_hasPlants hm) ?_
                    refine r_iload_n (q := 145) dX3_bedOf_144 rfl 1 rfl ?_
                    obtain ⟨g111, hw⟩ := hw
                    refine r_zaldL (q := 146) dX3_bedOf_145 rfl (mwk_hasPlants hm) (mwl_hasPlants hm) g111 ?_
                    refine r_cSI0 (q := 149) [_] N_X3_319 dX3_bedOf_146 rfl rfl rfl rfl ?_
                    refine ct_X3_one  ?_
                    exact r_iret dX3_bedOf_149 rfl hw
                  · have hw := hw.2 c7
                    by_cases c8 : x2 = 8
                    · have hw := hw.1 c8
                      refine r_tabK (tg := 150) dX3_bedOf_18 c8 (by decide) (by decide) rfl (by decide) ?_
                      refine r_aload_n (q := 151) dX3_bedOf_150 rfl 0 rfl ?_
                      refine r_getR (q := 154) L_X3_53 dX3_bedOf_151 rfl (mw_k hm) (mwr_holds hm) ?_
                      refine r_iload_n (q := 155) dX3_bedOf_154 rfl 1 rfl ?_
                      obtain ⟨g112, hw⟩ := hw
                      refine r_ialdL (q := 156) dX3_bedOf_155 rfl (mwk_holds hm) (mwl_holds hm) g112 ?_
                      exact r_iret dX3_bedOf_156 rfl hw
                    · have hw := hw.2 c8
                      by_cases c9 : x2 = 9
                      · have hw := hw.1 c9
                        refine r_tabK (tg := 157) dX3_bedOf_18 c9 (by decide) (by decide) rfl (by decide) ?_
                        refine r_aload_n (q := 158) dX3_bedOf_157 rfl 0 rfl ?_
                        refine r_getR (q := 161) L_X3_56 dX3_bedOf_158 rfl (mw_k hm) (mwr_stands hm) ?_
                        refine r_iload_n (q := 162) dX3_bedOf_161 rfl 1 rfl ?_
                        obtain ⟨g113, hw⟩ := hw
                        refine r_ialdL (q := 163) dX3_bedOf_162 rfl (mwk_stands hm) (mwl_stands hm) g113 ?_
                        exact r_iret dX3_bedOf_163 rfl hw
                      · have hw := hw.2 c9
                        by_cases c10 : x2 = 10
                        · have hw := hw.1 c10
                          refine r_tabK (tg := 164) dX3_bedOf_18 c10 (by decide) (by decide) rfl (by decide) ?_
                          refine r_aload_n (q := 165) dX3_bedOf_164 rfl 0 rfl ?_
                          refine r_iload_n (q := 166) dX3_bedOf_165 rfl 1 rfl ?_
                          obtain ⟨g114, hw⟩ := hw
                          refine r_cVI0 (q := 169) _ [_] N_X3_230 rfl dX3_bedOf_166 rfl rfl rfl (mw_k hm) rfl ?_
                          refine ct_X3_drink hm g114 ?_
                          exact r_iret dX3_bedOf_169 rfl hw
                        · have hw := hw.2 c10
                          by_cases c11 : x2 = 11
                          · have hw := hw.1 c11
                            refine r_tabK (tg := 170) dX3_bedOf_18 c11 (by decide) (by decide) rfl (by decide) ?_
                            refine r_iload_n (q := 171) dX3_bedOf_170 rfl 3 rfl ?_
                            exact r_iret dX3_bedOf_171 rfl hw
                          · have hw := hw.2 c11
                            by_cases c12 : x2 = 12
                            · have hw := hw.1 c12
                              refine r_tabK (tg := 172) dX3_bedOf_18 c12 (by decide) (by decide) rfl (by decide) ?_
                              refine r_iload_n (q := 173) dX3_bedOf_172 rfl 3 rfl ?_
                              refine r_iconst (q := 174) dX3_bedOf_173 rfl kI_m1 ?_
                              refine r_icmp_ne (tg := 181) (q := 177) dX3_bedOf_174 (by decide) rfl (fun c => ?_) (fun c => ?_)
                              · have hw := hw.1 c
                                refine r_aload_n (q := 182) dX3_bedOf_181 rfl 0 rfl ?_
                                refine r_getR (q := 185) L_X3_83 dX3_bedOf_182 rfl (mw_k hm) (mwr_drinks hm) ?_
                                refine r_aload_n (q := 186) dX3_bedOf_185 rfl 0 rfl ?_
                                refine r_getR (q := 189) L_X3_35 dX3_bedOf_186 rfl (mw_k hm) (mwr_lot hm) ?_
                                refine r_iload_n (q := 190) dX3_bedOf_189 rfl 1 rfl ?_
                                obtain ⟨g115, hw⟩ := hw
                                refine r_ialdL (q := 191) dX3_bedOf_190 rfl (mwk_lot hm) (mwl_lot hm) g115 ?_
                                obtain ⟨g116, hw⟩ := hw
                                refine r_ialdL (q := 192) dX3_bedOf_191 rfl (mwk_drinks hm) (mwl_drinks hm) g116 ?_
                                refine r_aload_n (q := 193) dX3_bedOf_192 rfl 0 rfl ?_
                                refine r_bipush (q := 195) dX3_bedOf_193 rfl kB_13 ?_
                                refine r_iconst (q := 196) dX3_bedOf_195 rfl kI_2 ?_
                                refine r_iload_n (q := 197) dX3_bedOf_196 rfl 3 rfl ?_
                                refine r_imul (q := 198) dX3_bedOf_197 rfl ?_
                                refine r_iadd (q := 199) dX3_bedOf_198 rfl ?_
                                obtain ⟨g117, hw⟩ := hw
                                refine r_cVI0 (q := 202) _ [_] N_X3_209 rfl dX3_bedOf_199 rfl rfl rfl (mw_k hm) rfl ?_
                                refine ct_X3_now hm g117 ?_
                                refine r_imul (q := 203) dX3_bedOf_202 rfl ?_
                                refine r_bipush (q := 205) dX3_bedOf_203 rfl kB_100 ?_
                                refine r_idiv (q := 206) dX3_bedOf_205 rfl (by decide) ?_
                                exact r_iret dX3_bedOf_206 rfl hw
                              · have hw := hw.2 c
                                refine r_iconst (q := 178) dX3_bedOf_177 rfl kI_m1 ?_
                                refine r_goto (tg := 206) dX3_bedOf_178 (by decide) ?_
                                exact r_iret dX3_bedOf_206 rfl hw
                            · have hw := hw.2 c12
                              by_cases c13 : x2 = 13
                              · have hw := hw.1 c13
                                refine r_tabK (tg := 207) dX3_bedOf_18 c13 (by decide) (by decide) rfl (by decide) ?_
                                refine r_iload_n (q := 208) dX3_bedOf_207 rfl 3 rfl ?_
                                refine r_iconst (q := 209) dX3_bedOf_208 rfl kI_m1 ?_
                                refine r_icmp_ne (tg := 216) (q := 212) dX3_bedOf_209 (by decide) rfl (fun c => ?_) (fun c => ?_)
                                · have hw := hw.1 c
                                  refine r_aload_n (q := 217) dX3_bedOf_216 rfl 0 rfl ?_
                                  refine r_getR (q := 220) L_X3_83 dX3_bedOf_217 rfl (mw_k hm) (mwr_drinks hm) ?_
                                  refine r_aload_n (q := 221) dX3_bedOf_220 rfl 0 rfl ?_
                                  refine r_getR (q := 224) L_X3_35 dX3_bedOf_221 rfl (mw_k hm) (mwr_lot hm) ?_
                                  refine r_iload_n (q := 225) dX3_bedOf_224 rfl 1 rfl ?_
                                  obtain ⟨g118, hw⟩ := hw
                                  refine r_ialdL (q := 226) dX3_bedOf_225 rfl (mwk_lot hm) (mwl_lot hm) g118 ?_
                                  obtain ⟨g119, hw⟩ := hw
                                  refine r_ialdL (q := 227) dX3_bedOf_226 rfl (mwk_drinks hm) (mwl_drinks hm) g119 ?_
                                  refine r_aload_n (q := 228) dX3_bedOf_227 rfl 0 rfl ?_
                                  refine r_bipush (q := 230) dX3_bedOf_228 rfl kB_14 ?_
                                  refine r_iconst (q := 231) dX3_bedOf_230 rfl kI_2 ?_
                                  refine r_iload_n (q := 232) dX3_bedOf_231 rfl 3 rfl ?_
                                  refine r_imul (q := 233) dX3_bedOf_232 rfl ?_
                                  refine r_iadd (q := 234) dX3_bedOf_233 rfl ?_
                                  obtain ⟨g120, hw⟩ := hw
                                  refine r_cVI0 (q := 237) _ [_] N_X3_209 rfl dX3_bedOf_234 rfl rfl rfl (mw_k hm) rfl ?_
                                  refine ct_X3_now hm g120 ?_
                                  refine r_imul (q := 238) dX3_bedOf_237 rfl ?_
                                  refine r_bipush (q := 240) dX3_bedOf_238 rfl kB_100 ?_
                                  refine r_idiv (q := 241) dX3_bedOf_240 rfl (by decide) ?_
                                  exact r_iret dX3_bedOf_241 rfl hw
                                · have hw := hw.2 c
                                  refine r_iconst (q := 213) dX3_bedOf_212 rfl kI_m1 ?_
                                  refine r_goto (tg := 241) dX3_bedOf_213 (by decide) ?_
                                  exact r_iret dX3_bedOf_241 rfl hw
                              · have hw := hw.2 c13
                                have z0 := lv_neT c0 (show (0 : Int32).toInt = 0 by decide)
                                have z1 := lv_neT c1 (show (1 : Int32).toInt = 1 by decide)
                                have z2 := lv_neT c2 (show (2 : Int32).toInt = 2 by decide)
                                have z3 := lv_neT c3 (show (3 : Int32).toInt = 3 by decide)
                                have z4 := lv_neT c4 (show (4 : Int32).toInt = 4 by decide)
                                have z5 := lv_neT c5 (show (5 : Int32).toInt = 5 by decide)
                                have z6 := lv_neT c6 (show (6 : Int32).toInt = 6 by decide)
                                have z7 := lv_neT c7 (show (7 : Int32).toInt = 7 by decide)
                                have z8 := lv_neT c8 (show (8 : Int32).toInt = 8 by decide)
                                have z9 := lv_neT c9 (show (9 : Int32).toInt = 9 by decide)
                                have z10 := lv_neT c10 (show (10 : Int32).toInt = 10 by decide)
                                have z11 := lv_neT c11 (show (11 : Int32).toInt = 11 by decide)
                                have z12 := lv_neT c12 (show (12 : Int32).toInt = 12 by decide)
                                have z13 := lv_neT c13 (show (13 : Int32).toInt = 13 by decide)
                                refine r_tabOut (tg := 242) dX3_bedOf_18 (by omega) (by decide) ?_
                                refine r_iconst (q := 243) dX3_bedOf_242 rfl kI_m1 ?_
                                exact r_iret dX3_bedOf_243 rfl hw
  · have hw := hw.2 c
    refine r_iconst (q := 9) dX3_bedOf_8 rfl kI_m1 ?_
    exact r_iret dX3_bedOf_9 rfl hw
def V_X3_bedOf (h : Hp) (mo : Nat) (x1 : Int32) (x2 : Int32) : Int32 := (if ¬ (V_X3_isBed h mo x1) = 0 then (let x103 : Int32 := eI h (mo + 17) (ix x1); (if x2 = 0 then (eI h (mo + 9) (ix x1)) else (if x2 = 1 then (eI h (mo + 10) (ix x1)) else (if x2 = 2 then (b1 (nz (eI h (mo + 7) (ix x1)))) else (if x2 = 3 then (eI h (mo + 11) (ix x1)) else (if x2 = 4 then (eI h (mo + 12) (ix x1)) else (if x2 = 5 then (eI h (mo + 13) (ix x1)) else (if x2 = 6 then (eI h (mo + 14) (ix x1)) else (if x2 = 7 then (b1 (nz (eI h (mo + 8) (ix x1)))) else (if x2 = 8 then (eI h (mo + 15) (ix x1)) else (if x2 = 9 then (eI h (mo + 16) (ix x1)) else (if x2 = 10 then (V_X3_drink h mo x1) else (if x2 = 11 then x103 else (if x2 = 12 then (if ¬ x103 = (-1) then (((eI h (mo + 25) (ix (eI h (mo + 9) (ix x1)))) * (V_X3_now h mo (13 + (2 * x103)))) / 100) else (-1)) else (if x2 = 13 then (if ¬ x103 = (-1) then (((eI h (mo + 25) (ix (eI h (mo + 9) (ix x1)))) * (V_X3_now h mo (14 + (2 * x103)))) / 100) else (-1)) else (-1)))))))))))))))) else (-1))
def P_X3_bedOf (h : Hp) (mo : Nat) (x1 : Int32) (x2 : Int32) : Prop := (P_X3_isBed h mo x1) ∧ ((¬ (V_X3_isBed h mo x1) = 0 → vp_in x1 12 ∧ ((let x103 : Int32 := eI h (mo + 17) (ix x1); (x2 = 0 → vp_in x1 12) ∧ (¬ x2 = 0 → (x2 = 1 → vp_in x1 12) ∧ (¬ x2 = 1 → (x2 = 2 → vp_in x1 12) ∧ (¬ x2 = 2 → (x2 = 3 → vp_in x1 12) ∧ (¬ x2 = 3 → (x2 = 4 → vp_in x1 12) ∧ (¬ x2 = 4 → (x2 = 5 → vp_in x1 12) ∧ (¬ x2 = 5 → (x2 = 6 → vp_in x1 12) ∧ (¬ x2 = 6 → (x2 = 7 → vp_in x1 12) ∧ (¬ x2 = 7 → (x2 = 8 → vp_in x1 12) ∧ (¬ x2 = 8 → (x2 = 9 → vp_in x1 12) ∧ (¬ x2 = 9 → (x2 = 10 → (P_X3_drink h mo x1)) ∧ (¬ x2 = 10 → (x2 = 11 → True) ∧ (¬ x2 = 11 → (x2 = 12 → (¬ x103 = (-1) → vp_in x1 12 ∧ (vp_in (eI h (mo + 9) (ix x1)) 10 ∧ ((P_X3_now h mo (13 + (2 * x103)))))) ∧ (x103 = (-1) → True)) ∧ (¬ x2 = 12 → (x2 = 13 → (¬ x103 = (-1) → vp_in x1 12 ∧ (vp_in (eI h (mo + 9) (ix x1)) 10 ∧ ((P_X3_now h mo (14 + (2 * x103)))))) ∧ (x103 = (-1) → True)) ∧ (¬ x2 = 13 → True))))))))))))))))) ∧ ((V_X3_isBed h mo x1) = 0 → True))
theorem ct_X3_bedOf {h : Hp} {E : Nat → Hp → Prop} {k n : Nat} {mo : Nat} {x1 : Int32} {x2 : Int32} (hm : MW h mo) (hp : P_X3_bedOf h mo x1 x2) {Q : Int32 → Hp → Prop} (hq : Q (V_X3_bedOf h mo x1 x2) h) : CtI M_X3_bedOf [rV mo, iV x1, iV x2] h k n Q E := by
  unfold P_X3_bedOf at hp
  unfold V_X3_bedOf at hq
  refine b_X3_bedOf_0 hm ?_
  refine ⟨hp.1, ?_⟩
  have hp := hp.2
  refine ⟨fun c => ?_, fun c => ?_⟩
  · rw [if_pos c] at hq
    have hp := hp.1 c
    refine ⟨hp.1, ?_⟩
    have hp := hp.2
    intro x103 ex103
    subst ex103
    refine ⟨fun c => ?_, fun c => ?_⟩
    · rw [if_pos c] at hq
      have hp := hp.1 c
      refine ⟨hp, ?_⟩
      exact hq
    · rw [if_neg (by first | exact c | exact fun z => z c | (rw [c]; decide))] at hq
      have hp := hp.2 c
      refine ⟨fun c => ?_, fun c => ?_⟩
      · rw [if_pos c] at hq
        have hp := hp.1 c
        refine ⟨hp, ?_⟩
        exact hq
      · rw [if_neg (by first | exact c | exact fun z => z c | (rw [c]; decide))] at hq
        have hp := hp.2 c
        refine ⟨fun c => ?_, fun c => ?_⟩
        · rw [if_pos c] at hq
          have hp := hp.1 c
          refine ⟨hp, ?_⟩
          exact hq
        · rw [if_neg (by first | exact c | exact fun z => z c | (rw [c]; decide))] at hq
          have hp := hp.2 c
          refine ⟨fun c => ?_, fun c => ?_⟩
          · rw [if_pos c] at hq
            have hp := hp.1 c
            refine ⟨hp, ?_⟩
            exact hq
          · rw [if_neg (by first | exact c | exact fun z => z c | (rw [c]; decide))] at hq
            have hp := hp.2 c
            refine ⟨fun c => ?_, fun c => ?_⟩
            · rw [if_pos c] at hq
              have hp := hp.1 c
              refine ⟨hp, ?_⟩
              exact hq
            · rw [if_neg (by first | exact c | exact fun z => z c | (rw [c]; decide))] at hq
              have hp := hp.2 c
              refine ⟨fun c => ?_, fun c => ?_⟩
              · rw [if_pos c] at hq
                have hp := hp.1 c
                refine ⟨hp, ?_⟩
                exact hq
              · rw [if_neg (by first | exact c | exact fun z => z c | (rw [c]; decide))] at hq
                have hp := hp.2 c
                refine ⟨fun c => ?_, fun c => ?_⟩
                · rw [if_pos c] at hq
                  have hp := hp.1 c
                  refine ⟨hp, ?_⟩
                  exact hq
                · rw [if_neg (by first | exact c | exact fun z => z c | (rw [c]; decide))] at hq
                  have hp := hp.2 c
                  refine ⟨fun c => ?_, fun c => ?_⟩
                  · rw [if_pos c] at hq
                    have hp := hp.1 c
                    refine ⟨hp, ?_⟩
                    exact hq
                  · rw [if_neg (by first | exact c | exact fun z => z c | (rw [c]; decide))] at hq
                    have hp := hp.2 c
                    refine ⟨fun c => ?_, fun c => ?_⟩
                    · rw [if_pos c] at hq
                      have hp := hp.1 c
                      refine ⟨hp, ?_⟩
                      exact hq
                    · rw [if_neg (by first | exact c | exact fun z => z c | (rw [c]; decide))] at hq
                      have hp := hp.2 c
                      refine ⟨fun c => ?_, fun c => ?_⟩
                      · rw [if_pos c] at hq
                        have hp := hp.1 c
                        refine ⟨hp, ?_⟩
                        exact hq
                      · rw [if_neg (by first | exact c | exact fun z => z c | (rw [c]; decide))] at hq
                        have hp := hp.2 c
                        refine ⟨fun c => ?_, fun c => ?_⟩
                        · rw [if_pos c] at hq
                          have hp := hp.1 c
                          refine ⟨hp, ?_⟩
                          exact hq
                        · rw [if_neg (by first | exact c | exact fun z => z c | (rw [c]; decide))] at hq
                          have hp := hp.2 c
                          refine ⟨fun c => ?_, fun c => ?_⟩
                          · rw [if_pos c] at hq
                            have hp := hp.1 c
                            exact hq
                          · rw [if_neg (by first | exact c | exact fun z => z c | (rw [c]; decide))] at hq
                            have hp := hp.2 c
                            refine ⟨fun c => ?_, fun c => ?_⟩
                            · rw [if_pos c] at hq
                              have hp := hp.1 c
                              refine ⟨fun c => ?_, fun c => ?_⟩
                              · rw [if_pos c] at hq
                                have hp := hp.1 c
                                refine ⟨hp.1, ?_⟩
                                have hp := hp.2
                                refine ⟨hp.1, ?_⟩
                                have hp := hp.2
                                refine ⟨hp, ?_⟩
                                exact hq
                              · rw [if_neg (by first | exact c | exact fun z => z c | (rw [c]; decide))] at hq
                                have hp := hp.2 c
                                exact hq
                            · rw [if_neg (by first | exact c | exact fun z => z c | (rw [c]; decide))] at hq
                              have hp := hp.2 c
                              refine ⟨fun c => ?_, fun c => ?_⟩
                              · rw [if_pos c] at hq
                                have hp := hp.1 c
                                refine ⟨fun c => ?_, fun c => ?_⟩
                                · rw [if_pos c] at hq
                                  have hp := hp.1 c
                                  refine ⟨hp.1, ?_⟩
                                  have hp := hp.2
                                  refine ⟨hp.1, ?_⟩
                                  have hp := hp.2
                                  refine ⟨hp, ?_⟩
                                  exact hq
                                · rw [if_neg (by first | exact c | exact fun z => z c | (rw [c]; decide))] at hq
                                  have hp := hp.2 c
                                  exact hq
                              · rw [if_neg (by first | exact c | exact fun z => z c | (rw [c]; decide))] at hq
                                have hp := hp.2 c
                                exact hq
  · rw [if_neg (by first | exact c | exact fun z => z c | (rw [c]; decide))] at hq
    have hp := hp.2 c
    exact hq
theorem b_X0_bedOf_0 {x1 x2 : Int32} {xo : Nat} {h : Hp} {k n : Nat} {Q : Int32 → Hp → Prop} {E : Nat → Hp → Prop} (hm : XW h xo) (hw : (P_X0_bedAt h xo x1) ∧ (∀ r102 : Nat, r102 = V_X0_bedAt h xo x1 → (¬ r102 = 0 → (x2 = 0 → kd h r102 = 4 ∧ (Q (gI h 301 r102) h)) ∧ (¬ x2 = 0 → (x2 = 1 → kd h r102 = 4 ∧ (Q (gI h 302 r102) h)) ∧ (¬ x2 = 1 → (x2 = 2 → kd h r102 = 4 ∧ (((gI h 304 r102) = 0 → Q 0 h) ∧ (¬ (gI h 304 r102) = 0 → Q 1 h))) ∧ (¬ x2 = 2 → (x2 = 3 → kd h r102 = 4 ∧ (Q (gI h 303 r102) h)) ∧ (¬ x2 = 3 → (x2 = 4 → kd h r102 = 4 ∧ (Q (gI h 305 r102) h)) ∧ (¬ x2 = 4 → (x2 = 5 → kd h r102 = 4 ∧ (Q (gI h 306 r102) h)) ∧ (¬ x2 = 5 → (x2 = 6 → kd h r102 = 4 ∧ (Q (gI h 307 r102) h)) ∧ (¬ x2 = 6 → (x2 = 7 → kd h r102 = 4 ∧ (((gI h 312 r102) = 0 → Q 0 h) ∧ (¬ (gI h 312 r102) = 0 → Q 1 h))) ∧ (¬ x2 = 7 → (x2 = 8 → kd h r102 = 4 ∧ (Q (gI h 308 r102) h)) ∧ (¬ x2 = 8 → (x2 = 9 → kd h r102 = 4 ∧ (Q (gI h 309 r102) h)) ∧ (¬ x2 = 9 → (x2 = 10 → kd h r102 = 4 ∧ ((P_X6_drink h r102) ∧ (Q (V_X6_drink h r102) h))) ∧ (¬ x2 = 10 → (x2 = 11 → kd h r102 = 4 ∧ (Q (gI h 310 r102) h)) ∧ (¬ x2 = 11 → (x2 = 12 → kd h r102 = 4 ∧ ((0 ≤ (gI h 310 r102) → vp_in (gI h 301 r102) 10 ∧ ((P_X0_on h xo (gI h 0 xo)) ∧ (kd h (V_X0_on h xo (gI h 0 xo)) = 5 ∧ (kd h (gR h 416 (V_X0_on h xo (gI h 0 xo))) = 61 ∧ (vp_in (gI h 310 r102) (ln h (gR h 416 (V_X0_on h xo (gI h 0 xo)))) ∧ (Q (((eI h (xo + 1) (ix (gI h 301 r102))) * (eI h (gR h 416 (V_X0_on h xo (gI h 0 xo))) (ix (gI h 310 r102)))) / 100) h)))))) ∧ (¬ 0 ≤ (gI h 310 r102) → Q (-1) h))) ∧ (¬ x2 = 12 → (x2 = 13 → kd h r102 = 4 ∧ ((0 ≤ (gI h 310 r102) → vp_in (gI h 301 r102) 10 ∧ ((P_X0_on h xo (gI h 0 xo)) ∧ (kd h (V_X0_on h xo (gI h 0 xo)) = 5 ∧ (kd h (gR h 417 (V_X0_on h xo (gI h 0 xo))) = 61 ∧ (vp_in (gI h 310 r102) (ln h (gR h 417 (V_X0_on h xo (gI h 0 xo)))) ∧ (Q (((eI h (xo + 1) (ix (gI h 301 r102))) * (eI h (gR h 417 (V_X0_on h xo (gI h 0 xo))) (ix (gI h 310 r102)))) / 100) h)))))) ∧ (¬ 0 ≤ (gI h 310 r102) → Q (-1) h))) ∧ (¬ x2 = 13 → Q (-1) h))))))))))))))) ∧ (r102 = 0 → Q (-1) h))) : Rn M_X0_bedOf 0 [(0, rV xo), (1, iV x1), (2, iV x2)] [] h k n (qI Q) E := by
  refine r_aload_n (q := 1) dX0_bedOf_0 rfl 0 rfl ?_
  refine r_iload_n (q := 2) dX0_bedOf_1 rfl 1 rfl ?_
  obtain ⟨g101, hw⟩ := hw
  refine r_cVR0 (q := 5) _ [_] N_X0_132 rfl dX0_bedOf_2 rfl rfl rfl (xw_k hm) rfl ?_
  refine ct_X0_bedAt hm g101 ?_
  have hw := hw _ rfl
  refine r_astore_n (q := 6) (lv' := [(0, _), (1, _), (2, _), (3, _)]) dX0_bedOf_5 rfl (Nat.le_of_ble_eq_true rfl) rfl ?_
  refine r_aload_n (q := 7) dX0_bedOf_6 rfl 3 rfl ?_
  refine r_ifnonnull (tg := 12) (q := 10) dX0_bedOf_7 (by decide) rfl (fun c => ?_) (fun c => ?_)
  · have hw := hw.1 c
    refine r_iload_n (q := 13) dX0_bedOf_12 rfl 2 rfl ?_
    by_cases c0 : x2 = 0
    · have hw := hw.1 c0
      refine r_tabK (tg := 84) dX0_bedOf_13 c0 (by decide) (by decide) rfl (by decide) ?_
      refine r_aload_n (q := 85) dX0_bedOf_84 rfl 3 rfl ?_
      obtain ⟨g103, hw⟩ := hw
      refine r_getI (q := 88) L_X0_505 dX0_bedOf_85 rfl g103 ?_
      exact r_iret dX0_bedOf_88 rfl hw
    · have hw := hw.2 c0
      by_cases c1 : x2 = 1
      · have hw := hw.1 c1
        refine r_tabK (tg := 89) dX0_bedOf_13 c1 (by decide) (by decide) rfl (by decide) ?_
        refine r_aload_n (q := 90) dX0_bedOf_89 rfl 3 rfl ?_
        obtain ⟨g104, hw⟩ := hw
        refine r_getI (q := 93) L_X0_536 dX0_bedOf_90 rfl g104 ?_
        exact r_iret dX0_bedOf_93 rfl hw
      · have hw := hw.2 c1
        by_cases c2 : x2 = 2
        · have hw := hw.1 c2
          refine r_tabK (tg := 94) dX0_bedOf_13 c2 (by decide) (by decide) rfl (by decide) ?_
          refine r_aload_n (q := 95) dX0_bedOf_94 rfl 3 rfl ?_
          obtain ⟨g105, hw⟩ := hw
          refine r_getI (q := 98) L_X0_537 dX0_bedOf_95 rfl g105 ?_
          refine r_if_eq (tg := 105) (q := 101) dX0_bedOf_98 (by decide) rfl (fun c => ?_) (fun c => ?_)
          · have hw := hw.1 c
            refine r_iconst (q := 106) dX0_bedOf_105 rfl kI_0 ?_
            exact r_iret dX0_bedOf_106 rfl hw
          · have hw := hw.2 c
            refine r_iconst (q := 102) dX0_bedOf_101 rfl kI_1 ?_
            refine r_goto (tg := 106) dX0_bedOf_102 (by decide) ?_
            exact r_iret dX0_bedOf_106 rfl hw
        · have hw := hw.2 c2
          by_cases c3 : x2 = 3
          · have hw := hw.1 c3
            refine r_tabK (tg := 107) dX0_bedOf_13 c3 (by decide) (by decide) rfl (by decide) ?_
            refine r_aload_n (q := 108) dX0_bedOf_107 rfl 3 rfl ?_
            obtain ⟨g106, hw⟩ := hw
            refine r_getI (q := 111) L_X0_540 dX0_bedOf_108 rfl g106 ?_
            exact r_iret dX0_bedOf_111 rfl hw
          · have hw := hw.2 c3
            by_cases c4 : x2 = 4
            · have hw := hw.1 c4
              refine r_tabK (tg := 112) dX0_bedOf_13 c4 (by decide) (by decide) rfl (by decide) ?_
              refine r_aload_n (q := 113) dX0_bedOf_112 rfl 3 rfl ?_
              obtain ⟨g107, hw⟩ := hw
              refine r_getI (q := 116) L_X0_143 dX0_bedOf_113 rfl g107 ?_
              exact r_iret dX0_bedOf_116 rfl hw
            · have hw := hw.2 c4
              by_cases c5 : x2 = 5
              · have hw := hw.1 c5
                refine r_tabK (tg := 117) dX0_bedOf_13 c5 (by decide) (by decide) rfl (by decide) ?_
                refine r_aload_n (q := 118) dX0_bedOf_117 rfl 3 rfl ?_
                obtain ⟨g108, hw⟩ := hw
                refine r_getI (q := 121) L_X0_152 dX0_bedOf_118 rfl g108 ?_
                exact r_iret dX0_bedOf_121 rfl hw
              · have hw := hw.2 c5
                by_cases c6 : x2 = 6
                · have hw := hw.1 c6
                  refine r_tabK (tg := 122) dX0_bedOf_13 c6 (by decide) (by decide) rfl (by decide) ?_
                  refine r_aload_n (q := 123) dX0_bedOf_122 rfl 3 rfl ?_
                  obtain ⟨g109, hw⟩ := hw
                  refine r_getI (q := 126) L_X0_159 dX0_bedOf_123 rfl g109 ?_
                  exact r_iret dX0_bedOf_126 rfl hw
                · have hw := hw.2 c6
                  by_cases c7 : x2 = 7
                  · have hw := hw.1 c7
                    refine r_tabK (tg := 127) dX0_bedOf_13 c7 (by decide) (by decide) rfl (by decide) ?_
                    refine r_aload_n (q := 128) dX0_bedOf_127 rfl 3 rfl ?_
                    obtain ⟨g110, hw⟩ := hw
                    refine r_getI (q := 131) L_X0_155 dX0_bedOf_128 rfl g110 ?_
                    refine r_if_eq (tg := 138) (q := 134) dX0_bedOf_131 (by decide) rfl (fun c => ?_) (fun c => ?_)
                    · have hw := hw.1 c
                      refine r_iconst (q := 139) dX0_bedOf_138 rfl kI_0 ?_
                      exact r_iret dX0_bedOf_139 rfl hw
                    · have hw := hw.2 c
                      refine r_iconst (q := 135) dX0_bedOf_134 rfl kI_1 ?_
                      refine r_goto (tg := 139) dX0_bedOf_135 (by decide) ?_
                      exact r_iret dX0_bedOf_139 rfl hw
                  · have hw := hw.2 c7
                    by_cases c8 : x2 = 8
                    · have hw := hw.1 c8
                      refine r_tabK (tg := 140) dX0_bedOf_13 c8 (by decide) (by decide) rfl (by decide) ?_
                      refine r_aload_n (q := 141) dX0_bedOf_140 rfl 3 rfl ?_
                      obtain ⟨g111, hw⟩ := hw
                      refine r_getI (q := 144) L_X0_401 dX0_bedOf_141 rfl g111 ?_
                      exact r_iret dX0_bedOf_144 rfl hw
                    · have hw := hw.2 c8
                      by_cases c9 : x2 = 9
                      · have hw := hw.1 c9
                        refine r_tabK (tg := 145) dX0_bedOf_13 c9 (by decide) (by decide) rfl (by decide) ?_
                        refine r_aload_n (q := 146) dX0_bedOf_145 rfl 3 rfl ?_
                        obtain ⟨g112, hw⟩ := hw
                        refine r_getI (q := 149) L_X0_352 dX0_bedOf_146 rfl g112 ?_
                        exact r_iret dX0_bedOf_149 rfl hw
                      · have hw := hw.2 c9
                        by_cases c10 : x2 = 10
                        · have hw := hw.1 c10
                          refine r_tabK (tg := 150) dX0_bedOf_13 c10 (by decide) (by decide) rfl (by decide) ?_
                          refine r_aload_n (q := 151) dX0_bedOf_150 rfl 3 rfl ?_
                          obtain ⟨g113, hw⟩ := hw
                          obtain ⟨g114, hw⟩ := hw
                          refine r_cVI0 (q := 154) _ [] N_X0_543 rfl dX0_bedOf_151 rfl rfl rfl g113 rfl ?_
                          refine ct_X6_drink g114 ?_
                          exact r_iret dX0_bedOf_154 rfl hw
                        · have hw := hw.2 c10
                          by_cases c11 : x2 = 11
                          · have hw := hw.1 c11
                            refine r_tabK (tg := 155) dX0_bedOf_13 c11 (by decide) (by decide) rfl (by decide) ?_
                            refine r_aload_n (q := 156) dX0_bedOf_155 rfl 3 rfl ?_
                            obtain ⟨g115, hw⟩ := hw
                            refine r_getI (q := 159) L_X0_500 dX0_bedOf_156 rfl g115 ?_
                            exact r_iret dX0_bedOf_159 rfl hw
                          · have hw := hw.2 c11
                            by_cases c12 : x2 = 12
                            · have hw := hw.1 c12
                              refine r_tabK (tg := 160) dX0_bedOf_13 c12 (by decide) (by decide) rfl (by decide) ?_
                              refine r_aload_n (q := 161) dX0_bedOf_160 rfl 3 rfl ?_
                              obtain ⟨g116, hw⟩ := hw
                              refine r_getI (q := 164) L_X0_500 dX0_bedOf_161 rfl g116 ?_
                              refine r_if_ge (tg := 171) (q := 167) dX0_bedOf_164 (by decide) rfl (fun c => ?_) (fun c => ?_)
                              · have hw := hw.1 c
                                refine r_aload_n (q := 172) dX0_bedOf_171 rfl 0 rfl ?_
                                refine r_getR (q := 175) L_X0_13 dX0_bedOf_172 rfl (xw_k hm) (xwr_drinks hm) ?_
                                refine r_aload_n (q := 176) dX0_bedOf_175 rfl 3 rfl ?_
                                refine r_getI (q := 179) L_X0_505 dX0_bedOf_176 rfl g116 ?_
                                obtain ⟨g117, hw⟩ := hw
                                refine r_ialdL (q := 180) dX0_bedOf_179 rfl (xwk_drinks hm) (xwl_drinks hm) g117 ?_
                                refine r_aload_n (q := 181) dX0_bedOf_180 rfl 0 rfl ?_
                                refine r_aload_n (q := 182) dX0_bedOf_181 rfl 0 rfl ?_
                                refine r_getI (q := 185) L_X0_119 dX0_bedOf_182 rfl (xw_k hm) ?_
                                obtain ⟨g118, hw⟩ := hw
                                refine r_cVR0 (q := 188) _ [_] N_X0_122 rfl dX0_bedOf_185 rfl rfl rfl (xw_k hm) rfl ?_
                                refine ct_X0_on hm g118 ?_
                                obtain ⟨g119, hw⟩ := hw
                                refine r_getR (q := 191) L_X0_247 dX0_bedOf_188 rfl g119 rfl ?_
                                refine r_aload_n (q := 192) dX0_bedOf_191 rfl 3 rfl ?_
                                refine r_getI (q := 195) L_X0_500 dX0_bedOf_192 rfl g116 ?_
                                obtain ⟨g120, hw⟩ := hw
                                obtain ⟨g121, hw⟩ := hw
                                refine r_ialdL (q := 196) dX0_bedOf_195 rfl g120 rfl g121 ?_
                                refine r_imul (q := 197) dX0_bedOf_196 rfl ?_
                                refine r_bipush (q := 199) dX0_bedOf_197 rfl kB_100 ?_
                                refine r_idiv (q := 200) dX0_bedOf_199 rfl (by decide) ?_
                                exact r_iret dX0_bedOf_200 rfl hw
                              · have hw := hw.2 c
                                refine r_iconst (q := 168) dX0_bedOf_167 rfl kI_m1 ?_
                                refine r_goto (tg := 200) dX0_bedOf_168 (by decide) ?_
                                exact r_iret dX0_bedOf_200 rfl hw
                            · have hw := hw.2 c12
                              by_cases c13 : x2 = 13
                              · have hw := hw.1 c13
                                refine r_tabK (tg := 201) dX0_bedOf_13 c13 (by decide) (by decide) rfl (by decide) ?_
                                refine r_aload_n (q := 202) dX0_bedOf_201 rfl 3 rfl ?_
                                obtain ⟨g122, hw⟩ := hw
                                refine r_getI (q := 205) L_X0_500 dX0_bedOf_202 rfl g122 ?_
                                refine r_if_ge (tg := 212) (q := 208) dX0_bedOf_205 (by decide) rfl (fun c => ?_) (fun c => ?_)
                                · have hw := hw.1 c
                                  refine r_aload_n (q := 213) dX0_bedOf_212 rfl 0 rfl ?_
                                  refine r_getR (q := 216) L_X0_13 dX0_bedOf_213 rfl (xw_k hm) (xwr_drinks hm) ?_
                                  refine r_aload_n (q := 217) dX0_bedOf_216 rfl 3 rfl ?_
                                  refine r_getI (q := 220) L_X0_505 dX0_bedOf_217 rfl g122 ?_
                                  obtain ⟨g123, hw⟩ := hw
                                  refine r_ialdL (q := 221) dX0_bedOf_220 rfl (xwk_drinks hm) (xwl_drinks hm) g123 ?_
                                  refine r_aload_n (q := 222) dX0_bedOf_221 rfl 0 rfl ?_
                                  refine r_aload_n (q := 223) dX0_bedOf_222 rfl 0 rfl ?_
                                  refine r_getI (q := 226) L_X0_119 dX0_bedOf_223 rfl (xw_k hm) ?_
                                  obtain ⟨g124, hw⟩ := hw
                                  refine r_cVR0 (q := 229) _ [_] N_X0_122 rfl dX0_bedOf_226 rfl rfl rfl (xw_k hm) rfl ?_
                                  refine ct_X0_on hm g124 ?_
                                  obtain ⟨g125, hw⟩ := hw
                                  refine r_getR (q := 232) L_X0_250 dX0_bedOf_229 rfl g125 rfl ?_
                                  refine r_aload_n (q := 233) dX0_bedOf_232 rfl 3 rfl ?_
                                  refine r_getI (q := 236) L_X0_500 dX0_bedOf_233 rfl g122 ?_
                                  obtain ⟨g126, hw⟩ := hw
                                  obtain ⟨g127, hw⟩ := hw
                                  refine r_ialdL (q := 237) dX0_bedOf_236 rfl g126 rfl g127 ?_
                                  refine r_imul (q := 238) dX0_bedOf_237 rfl ?_
                                  refine r_bipush (q := 240) dX0_bedOf_238 rfl kB_100 ?_
                                  refine r_idiv (q := 241) dX0_bedOf_240 rfl (by decide) ?_
                                  exact r_iret dX0_bedOf_241 rfl hw
                                · have hw := hw.2 c
                                  refine r_iconst (q := 209) dX0_bedOf_208 rfl kI_m1 ?_
                                  refine r_goto (tg := 241) dX0_bedOf_209 (by decide) ?_
                                  exact r_iret dX0_bedOf_241 rfl hw
                              · have hw := hw.2 c13
                                have z0 := lv_neT c0 (show (0 : Int32).toInt = 0 by decide)
                                have z1 := lv_neT c1 (show (1 : Int32).toInt = 1 by decide)
                                have z2 := lv_neT c2 (show (2 : Int32).toInt = 2 by decide)
                                have z3 := lv_neT c3 (show (3 : Int32).toInt = 3 by decide)
                                have z4 := lv_neT c4 (show (4 : Int32).toInt = 4 by decide)
                                have z5 := lv_neT c5 (show (5 : Int32).toInt = 5 by decide)
                                have z6 := lv_neT c6 (show (6 : Int32).toInt = 6 by decide)
                                have z7 := lv_neT c7 (show (7 : Int32).toInt = 7 by decide)
                                have z8 := lv_neT c8 (show (8 : Int32).toInt = 8 by decide)
                                have z9 := lv_neT c9 (show (9 : Int32).toInt = 9 by decide)
                                have z10 := lv_neT c10 (show (10 : Int32).toInt = 10 by decide)
                                have z11 := lv_neT c11 (show (11 : Int32).toInt = 11 by decide)
                                have z12 := lv_neT c12 (show (12 : Int32).toInt = 12 by decide)
                                have z13 := lv_neT c13 (show (13 : Int32).toInt = 13 by decide)
                                refine r_tabOut (tg := 242) dX0_bedOf_13 (by omega) (by decide) ?_
                                refine r_iconst (q := 243) dX0_bedOf_242 rfl kI_m1 ?_
                                exact r_iret dX0_bedOf_243 rfl hw
  · have hw := hw.2 c
    refine r_iconst (q := 11) dX0_bedOf_10 rfl kI_m1 ?_
    exact r_iret dX0_bedOf_11 rfl hw
def V_X0_bedOf (h : Hp) (xo : Nat) (x1 : Int32) (x2 : Int32) : Int32 := (let r102 : Nat := V_X0_bedAt h xo x1; (if ¬ r102 = 0 then (if x2 = 0 then (gI h 301 r102) else (if x2 = 1 then (gI h 302 r102) else (if x2 = 2 then (if (gI h 304 r102) = 0 then 0 else 1) else (if x2 = 3 then (gI h 303 r102) else (if x2 = 4 then (gI h 305 r102) else (if x2 = 5 then (gI h 306 r102) else (if x2 = 6 then (gI h 307 r102) else (if x2 = 7 then (if (gI h 312 r102) = 0 then 0 else 1) else (if x2 = 8 then (gI h 308 r102) else (if x2 = 9 then (gI h 309 r102) else (if x2 = 10 then (V_X6_drink h r102) else (if x2 = 11 then (gI h 310 r102) else (if x2 = 12 then (if 0 ≤ (gI h 310 r102) then (((eI h (xo + 1) (ix (gI h 301 r102))) * (eI h (gR h 416 (V_X0_on h xo (gI h 0 xo))) (ix (gI h 310 r102)))) / 100) else (-1)) else (if x2 = 13 then (if 0 ≤ (gI h 310 r102) then (((eI h (xo + 1) (ix (gI h 301 r102))) * (eI h (gR h 417 (V_X0_on h xo (gI h 0 xo))) (ix (gI h 310 r102)))) / 100) else (-1)) else (-1))))))))))))))) else (-1)))
def P_X0_bedOf (h : Hp) (xo : Nat) (x1 : Int32) (x2 : Int32) : Prop := (P_X0_bedAt h xo x1) ∧ ((let r102 : Nat := V_X0_bedAt h xo x1; (¬ r102 = 0 → (x2 = 0 → kd h r102 = 4) ∧ (¬ x2 = 0 → (x2 = 1 → kd h r102 = 4) ∧ (¬ x2 = 1 → (x2 = 2 → kd h r102 = 4) ∧ (¬ x2 = 2 → (x2 = 3 → kd h r102 = 4) ∧ (¬ x2 = 3 → (x2 = 4 → kd h r102 = 4) ∧ (¬ x2 = 4 → (x2 = 5 → kd h r102 = 4) ∧ (¬ x2 = 5 → (x2 = 6 → kd h r102 = 4) ∧ (¬ x2 = 6 → (x2 = 7 → kd h r102 = 4) ∧ (¬ x2 = 7 → (x2 = 8 → kd h r102 = 4) ∧ (¬ x2 = 8 → (x2 = 9 → kd h r102 = 4) ∧ (¬ x2 = 9 → (x2 = 10 → kd h r102 = 4 ∧ ((P_X6_drink h r102))) ∧ (¬ x2 = 10 → (x2 = 11 → kd h r102 = 4) ∧ (¬ x2 = 11 → (x2 = 12 → kd h r102 = 4 ∧ ((0 ≤ (gI h 310 r102) → vp_in (gI h 301 r102) 10 ∧ ((P_X0_on h xo (gI h 0 xo)) ∧ (kd h (V_X0_on h xo (gI h 0 xo)) = 5 ∧ (kd h (gR h 416 (V_X0_on h xo (gI h 0 xo))) = 61 ∧ (vp_in (gI h 310 r102) (ln h (gR h 416 (V_X0_on h xo (gI h 0 xo))))))))) ∧ (¬ 0 ≤ (gI h 310 r102) → True))) ∧ (¬ x2 = 12 → (x2 = 13 → kd h r102 = 4 ∧ ((0 ≤ (gI h 310 r102) → vp_in (gI h 301 r102) 10 ∧ ((P_X0_on h xo (gI h 0 xo)) ∧ (kd h (V_X0_on h xo (gI h 0 xo)) = 5 ∧ (kd h (gR h 417 (V_X0_on h xo (gI h 0 xo))) = 61 ∧ (vp_in (gI h 310 r102) (ln h (gR h 417 (V_X0_on h xo (gI h 0 xo))))))))) ∧ (¬ 0 ≤ (gI h 310 r102) → True))) ∧ (¬ x2 = 13 → True))))))))))))))) ∧ (r102 = 0 → True)))
theorem ct_X0_bedOf {h : Hp} {E : Nat → Hp → Prop} {k n : Nat} {xo : Nat} {x1 : Int32} {x2 : Int32} (hm : XW h xo) (hp : P_X0_bedOf h xo x1 x2) {Q : Int32 → Hp → Prop} (hq : Q (V_X0_bedOf h xo x1 x2) h) : CtI M_X0_bedOf [rV xo, iV x1, iV x2] h k n Q E := by
  unfold P_X0_bedOf at hp
  unfold V_X0_bedOf at hq
  refine b_X0_bedOf_0 hm ?_
  refine ⟨hp.1, ?_⟩
  have hp := hp.2
  intro r102 er102
  subst er102
  refine ⟨fun c => ?_, fun c => ?_⟩
  · rw [if_pos c] at hq
    have hp := hp.1 c
    refine ⟨fun c => ?_, fun c => ?_⟩
    · rw [if_pos c] at hq
      have hp := hp.1 c
      refine ⟨hp, ?_⟩
      exact hq
    · rw [if_neg (by first | exact c | exact fun z => z c | (rw [c]; decide))] at hq
      have hp := hp.2 c
      refine ⟨fun c => ?_, fun c => ?_⟩
      · rw [if_pos c] at hq
        have hp := hp.1 c
        refine ⟨hp, ?_⟩
        exact hq
      · rw [if_neg (by first | exact c | exact fun z => z c | (rw [c]; decide))] at hq
        have hp := hp.2 c
        refine ⟨fun c => ?_, fun c => ?_⟩
        · rw [if_pos c] at hq
          have hp := hp.1 c
          refine ⟨hp, ?_⟩
          refine ⟨fun c => ?_, fun c => ?_⟩
          · rw [if_pos c] at hq
            exact hq
          · rw [if_neg (by first | exact c | exact fun z => z c | (rw [c]; decide))] at hq
            exact hq
        · rw [if_neg (by first | exact c | exact fun z => z c | (rw [c]; decide))] at hq
          have hp := hp.2 c
          refine ⟨fun c => ?_, fun c => ?_⟩
          · rw [if_pos c] at hq
            have hp := hp.1 c
            refine ⟨hp, ?_⟩
            exact hq
          · rw [if_neg (by first | exact c | exact fun z => z c | (rw [c]; decide))] at hq
            have hp := hp.2 c
            refine ⟨fun c => ?_, fun c => ?_⟩
            · rw [if_pos c] at hq
              have hp := hp.1 c
              refine ⟨hp, ?_⟩
              exact hq
            · rw [if_neg (by first | exact c | exact fun z => z c | (rw [c]; decide))] at hq
              have hp := hp.2 c
              refine ⟨fun c => ?_, fun c => ?_⟩
              · rw [if_pos c] at hq
                have hp := hp.1 c
                refine ⟨hp, ?_⟩
                exact hq
              · rw [if_neg (by first | exact c | exact fun z => z c | (rw [c]; decide))] at hq
                have hp := hp.2 c
                refine ⟨fun c => ?_, fun c => ?_⟩
                · rw [if_pos c] at hq
                  have hp := hp.1 c
                  refine ⟨hp, ?_⟩
                  exact hq
                · rw [if_neg (by first | exact c | exact fun z => z c | (rw [c]; decide))] at hq
                  have hp := hp.2 c
                  refine ⟨fun c => ?_, fun c => ?_⟩
                  · rw [if_pos c] at hq
                    have hp := hp.1 c
                    refine ⟨hp, ?_⟩
                    refine ⟨fun c => ?_, fun c => ?_⟩
                    · rw [if_pos c] at hq
                      exact hq
                    · rw [if_neg (by first | exact c | exact fun z => z c | (rw [c]; decide))] at hq
                      exact hq
                  · rw [if_neg (by first | exact c | exact fun z => z c | (rw [c]; decide))] at hq
                    have hp := hp.2 c
                    refine ⟨fun c => ?_, fun c => ?_⟩
                    · rw [if_pos c] at hq
                      have hp := hp.1 c
                      refine ⟨hp, ?_⟩
                      exact hq
                    · rw [if_neg (by first | exact c | exact fun z => z c | (rw [c]; decide))] at hq
                      have hp := hp.2 c
                      refine ⟨fun c => ?_, fun c => ?_⟩
                      · rw [if_pos c] at hq
                        have hp := hp.1 c
                        refine ⟨hp, ?_⟩
                        exact hq
                      · rw [if_neg (by first | exact c | exact fun z => z c | (rw [c]; decide))] at hq
                        have hp := hp.2 c
                        refine ⟨fun c => ?_, fun c => ?_⟩
                        · rw [if_pos c] at hq
                          have hp := hp.1 c
                          refine ⟨hp.1, ?_⟩
                          have hp := hp.2
                          refine ⟨hp, ?_⟩
                          exact hq
                        · rw [if_neg (by first | exact c | exact fun z => z c | (rw [c]; decide))] at hq
                          have hp := hp.2 c
                          refine ⟨fun c => ?_, fun c => ?_⟩
                          · rw [if_pos c] at hq
                            have hp := hp.1 c
                            refine ⟨hp, ?_⟩
                            exact hq
                          · rw [if_neg (by first | exact c | exact fun z => z c | (rw [c]; decide))] at hq
                            have hp := hp.2 c
                            refine ⟨fun c => ?_, fun c => ?_⟩
                            · rw [if_pos c] at hq
                              have hp := hp.1 c
                              refine ⟨hp.1, ?_⟩
                              have hp := hp.2
                              refine ⟨fun c => ?_, fun c => ?_⟩
                              · rw [if_pos c] at hq
                                have hp := hp.1 c
                                refine ⟨hp.1, ?_⟩
                                have hp := hp.2
                                refine ⟨hp.1, ?_⟩
                                have hp := hp.2
                                refine ⟨hp.1, ?_⟩
                                have hp := hp.2
                                refine ⟨hp.1, ?_⟩
                                have hp := hp.2
                                refine ⟨hp, ?_⟩
                                exact hq
                              · rw [if_neg (by first | exact c | exact fun z => z c | (rw [c]; decide))] at hq
                                have hp := hp.2 c
                                exact hq
                            · rw [if_neg (by first | exact c | exact fun z => z c | (rw [c]; decide))] at hq
                              have hp := hp.2 c
                              refine ⟨fun c => ?_, fun c => ?_⟩
                              · rw [if_pos c] at hq
                                have hp := hp.1 c
                                refine ⟨hp.1, ?_⟩
                                have hp := hp.2
                                refine ⟨fun c => ?_, fun c => ?_⟩
                                · rw [if_pos c] at hq
                                  have hp := hp.1 c
                                  refine ⟨hp.1, ?_⟩
                                  have hp := hp.2
                                  refine ⟨hp.1, ?_⟩
                                  have hp := hp.2
                                  refine ⟨hp.1, ?_⟩
                                  have hp := hp.2
                                  refine ⟨hp.1, ?_⟩
                                  have hp := hp.2
                                  refine ⟨hp, ?_⟩
                                  exact hq
                                · rw [if_neg (by first | exact c | exact fun z => z c | (rw [c]; decide))] at hq
                                  have hp := hp.2 c
                                  exact hq
                              · rw [if_neg (by first | exact c | exact fun z => z c | (rw [c]; decide))] at hq
                                have hp := hp.2 c
                                exact hq
  · rw [if_neg (by first | exact c | exact fun z => z c | (rw [c]; decide))] at hq
    have hp := hp.2 c
    exact hq
