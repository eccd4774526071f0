/-! walks -/
set_option maxRecDepth 100000
theorem b_X3_isBed_0 {x1 : Int32} {mo : Nat} {h : Hp} {k n : Nat} {Q : Int32 → Hp → Prop} {E : Nat → Hp → Prop} (hm : MW h mo) (hw : ((isin x1 0 (gI h 1001 mo - 1)) = false → Q 0 h) ∧ ((isin x1 0 (gI h 1001 mo - 1)) = true → vp_in x1 12 ∧ (((eI h (mo + 6) (ix x1)) = 0 → Q 0 h) ∧ (¬ (eI h (mo + 6) (ix x1)) = 0 → Q 1 h)))) : Rn M_X3_isBed 0 [(0, rV mo), (1, iV x1)] [] h k n (qI Q) E := by
  refine r_aload_n (q := 1) dX3_isBed_0 rfl 0 rfl ?_
  refine r_iload_n (q := 2) dX3_isBed_1 rfl 1 rfl ?_
  refine r_cVI0 (q := 5) _ [_] N_X3_198 rfl dX3_isBed_2 rfl rfl rfl (mw_k hm) rfl ?_
  refine ct_X3_isCorner hm ?_
  refine r_ifb_eq (tg := 21) (q := 8) dX3_isBed_5 (by decide) rfl (fun c => ?_) (fun c => ?_)
  · have hw := hw.1 c
    refine r_iconst (q := 22) dX3_isBed_21 rfl kI_0 ?_
    exact r_zret dX3_isBed_22 rfl (Or.inl rfl) hw
  · have hw := hw.2 c
    refine r_aload_n (q := 9) dX3_isBed_8 rfl 0 rfl ?_
    refine r_getR (q := 12) L_X3_25 dX3_isBed_9 rfl (mw_k hm) (mwr_hasBed hm) ?_
    refine r_iload_n (q := 13) dX3_isBed_12 rfl 1 rfl ?_
    obtain ⟨g101, hw⟩ := hw
    refine r_zaldL (q := 14) dX3_isBed_13 rfl (mwk_hasBed hm) (mwl_hasBed hm) g101 ?_
    refine r_if_eq (tg := 21) (q := 17) dX3_isBed_14 (by decide) rfl (fun c => ?_) (fun c => ?_)
    · have hw := hw.1 c
      refine r_iconst (q := 22) dX3_isBed_21 rfl kI_0 ?_
      exact r_zret dX3_isBed_22 rfl (Or.inl rfl) hw
    · have hw := hw.2 c
      refine r_iconst (q := 18) dX3_isBed_17 rfl kI_1 ?_
      refine r_goto (tg := 22) dX3_isBed_18 (by decide) ?_
      exact r_zret dX3_isBed_22 rfl (Or.inr rfl) hw
def V_X3_isBed (h : Hp) (mo : Nat) (x1 : Int32) : Int32 := (if (isin x1 0 (gI h 1001 mo - 1)) = false then 0 else (if (eI h (mo + 6) (ix x1)) = 0 then 0 else 1))
def P_X3_isBed (h : Hp) (mo : Nat) (x1 : Int32) : Prop := ((isin x1 0 (gI h 1001 mo - 1)) = false → True) ∧ ((isin x1 0 (gI h 1001 mo - 1)) = true → vp_in x1 12)
theorem ct_X3_isBed {h : Hp} {E : Nat → Hp → Prop} {k n : Nat} {mo : Nat} {x1 : Int32} (hm : MW h mo) (hp : P_X3_isBed h mo x1) {Q : Int32 → Hp → Prop} (hq : Q (V_X3_isBed h mo x1) h) : CtI M_X3_isBed [rV mo, iV x1] h k n Q E := by
  unfold P_X3_isBed at hp
  unfold V_X3_isBed at hq
  refine b_X3_isBed_0 hm ?_
  refine ⟨fun c => ?_, fun c => ?_⟩
  · rw [if_pos c] at hq
    have hp := hp.1 c
    exact hq
  · rw [if_neg (by first | exact c | exact fun z => z c | (rw [c]; decide))] at hq
    have hp := hp.2 c
    refine ⟨hp, ?_⟩
    refine ⟨fun c => ?_, fun c => ?_⟩
    · rw [if_pos c] at hq
      exact hq
    · rw [if_neg (by first | exact c | exact fun z => z c | (rw [c]; decide))] at hq
      exact hq
theorem b_X0_bedAt_0 {x1 : Int32} {xo : Nat} {h : Hp} {k n : Nat} {Q : Nat → Hp → Prop} {E : Nat → Hp → Prop} (hm : XW h xo) (hw : (atp h xo x1) ∧ ((¬ (atv h xo x1) = 0 → (ALg h (xo + 2) x1) ∧ (kd h (el h (xo + 2) (ix x1)) = 2 ∧ (Q (gR h 109 (el h (xo + 2) (ix x1))) h))) ∧ ((atv h xo x1) = 0 → Q 0 h))) : Rn M_X0_bedAt 0 [(0, rV xo), (1, iV x1)] [] h k n (qR Q) E := by
  refine r_aload_n (q := 1) dX0_bedAt_0 rfl 0 rfl ?_
  refine r_iload_n (q := 2) dX0_bedAt_1 rfl 1 rfl ?_
  obtain ⟨g101, hw⟩ := hw
  refine r_cVR0 (q := 5) _ [_] N_X0_87 rfl dX0_bedAt_2 rfl rfl rfl (xw_k hm) rfl ?_
  refine ct_X0_at hm g101 ?_
  refine r_ifnonnull (tg := 12) (q := 8) dX0_bedAt_5 (by decide) rfl (fun c => ?_) (fun c => ?_)
  · have hw := hw.1 c
    refine r_aload_n (q := 13) dX0_bedAt_12 rfl 0 rfl ?_
    refine r_getR (q := 16) L_X0_20 dX0_bedAt_13 rfl (xw_k hm) (xwr_corners hm) ?_
    refine r_iload_n (q := 17) dX0_bedAt_16 rfl 1 rfl ?_
    obtain ⟨g102, hw⟩ := hw
    refine r_cVR0 (q := 20) _ [_] N_X0_81 rfl dX0_bedAt_17 rfl rfl rfl (xwk_corners hm) rfl ?_
    refine ct_J2_get (xwk_corners hm) g102 ?_
    obtain ⟨g103, hw⟩ := hw
    refine r_cast (q := 23) q374 rfl dX0_bedAt_20 rfl g103 ?_
    refine r_getR (q := 26) L_X0_91 dX0_bedAt_23 rfl g103 rfl ?_
    exact r_aret dX0_bedAt_26 rfl (Or.inl ⟨_, rfl⟩) hw
  · have hw := hw.2 c
    refine r_null (q := 9) dX0_bedAt_8 rfl ?_
    refine r_goto (tg := 26) dX0_bedAt_9 (by decide) ?_
    exact r_aret dX0_bedAt_26 rfl (Or.inl ⟨_, rfl⟩) hw
def V_X0_bedAt (h : Hp) (xo : Nat) (x1 : Int32) : Nat := (if ¬ (atv h xo x1) = 0 then (gR h 109 (el h (xo + 2) (ix x1))) else 0)
def P_X0_bedAt (h : Hp) (xo : Nat) (x1 : Int32) : Prop := (atp h xo x1) ∧ ((¬ (atv h xo x1) = 0 → (ALg h (xo + 2) x1) ∧ (kd h (el h (xo + 2) (ix x1)) = 2)) ∧ ((atv h xo x1) = 0 → True))
theorem ct_X0_bedAt {h : Hp} {E : Nat → Hp → Prop} {k n : Nat} {xo : Nat} {x1 : Int32} (hm : XW h xo) (hp : P_X0_bedAt h xo x1) {Q : Nat → Hp → Prop} (hq : Q (V_X0_bedAt h xo x1) h) : CtR M_X0_bedAt [rV xo, iV x1] h k n Q E := by
  unfold P_X0_bedAt at hp
  unfold V_X0_bedAt at hq
  refine b_X0_bedAt_0 hm ?_
  refine ⟨hp.1, ?_⟩
  have hp := hp.2
  refine ⟨fun c => ?_, fun c => ?_⟩
  · rw [if_pos c] at hq
    have hp := hp.1 c
    refine ⟨hp.1, ?_⟩
    have hp := hp.2
    refine ⟨hp, ?_⟩
    exact hq
  · rw [if_neg (by first | exact c | exact fun z => z c | (rw [c]; decide))] at hq
    have hp := hp.2 c
    exact hq
theorem b_X3_drink_0 {x1 : Int32} {mo : Nat} {h : Hp} {k n : Nat} {Q : Int32 → Hp → Prop} {E : Nat → Hp → Prop} (hm : MW h mo) (hw : vp_in x1 12 ∧ ((vp_in x1 12 ∧ vp_in (eI h (mo + 9) (ix x1)) 10) ∧ (Q (((eI h (mo + 25) (ix (eI h (mo + 9) (ix x1)))) * (100 - (eI h (mo + 12) (ix x1)))) / 100) h))) : Rn M_X3_drink 0 [(0, rV mo), (1, iV x1)] [] h k n (qI Q) E := by
  refine r_aload_n (q := 1) dX3_drink_0 rfl 0 rfl ?_
  refine r_iload_n (q := 2) dX3_drink_1 rfl 1 rfl ?_
  refine r_aload_n (q := 3) dX3_drink_2 rfl 0 rfl ?_
  refine r_getR (q := 6) L_X3_44 dX3_drink_3 rfl (mw_k hm) (mwr_clog hm) ?_
  refine r_iload_n (q := 7) dX3_drink_6 rfl 1 rfl ?_
  obtain ⟨g101, hw⟩ := hw
  refine r_ialdL (q := 8) dX3_drink_7 rfl (mwk_clog hm) (mwl_clog hm) g101 ?_
  obtain ⟨g102, hw⟩ := hw
  refine r_cVI0 (q := 11) _ [_, _] N_X3_215 rfl dX3_drink_8 rfl rfl rfl (mw_k hm) rfl ?_
  refine ct_X3_drinkBy hm g102 ?_
  exact r_iret dX3_drink_11 rfl hw
def V_X3_drink (h : Hp) (mo : Nat) (x1 : Int32) : Int32 := (((eI h (mo + 25) (ix (eI h (mo + 9) (ix x1)))) * (100 - (eI h (mo + 12) (ix x1)))) / 100)
def P_X3_drink (h : Hp) (mo : Nat) (x1 : Int32) : Prop := vp_in x1 12 ∧ ((vp_in x1 12 ∧ vp_in (eI h (mo + 9) (ix x1)) 10))
theorem ct_X3_drink {h : Hp} {E : Nat → Hp → Prop} {k n : Nat} {mo : Nat} {x1 : Int32} (hm : MW h mo) (hp : P_X3_drink h mo x1) {Q : Int32 → Hp → Prop} (hq : Q (V_X3_drink h mo x1) h) : CtI M_X3_drink [rV mo, iV x1] h k n Q E := by
  unfold P_X3_drink at hp
  unfold V_X3_drink at hq
  refine b_X3_drink_0 hm ?_
  refine ⟨hp.1, ?_⟩
  have hp := hp.2
  refine ⟨hp, ?_⟩
  exact hq
theorem b_X0_told_0 {x1 x2 : Int32} {xo : Nat} {h : Hp} {k n : Nat} {Q : Int32 → Hp → Prop} {E : Nat → Hp → Prop} (hm : XW h xo) (hw : (atp h xo x1) ∧ (∀ r102 : Nat, r102 = atv h xo x1 → (¬ r102 = 0 → (x2 = 0 → kd h r102 = 2 ∧ (Q (gI h 101 r102) h)) ∧ (¬ x2 = 0 → (x2 = 1 → kd h r102 = 2 ∧ (Q (gI h 102 r102) h)) ∧ (¬ x2 = 1 → (x2 = 2 → kd h r102 = 2 ∧ (Q (gI h 103 r102) h)) ∧ (¬ x2 = 2 → (x2 = 3 → kd h r102 = 2 ∧ (Q (gI h 104 r102) h)) ∧ (¬ x2 = 3 → (x2 = 4 → kd h r102 = 2 ∧ (Q (gI h 105 r102) h)) ∧ (¬ x2 = 4 → (x2 = 5 → kd h r102 = 2 ∧ ((¬ (gR h 109 r102) = 0 → Q 1 h) ∧ ((gR h 109 r102) = 0 → Q 0 h))) ∧ (¬ x2 = 5 → (x2 = 6 → kd h r102 = 2 ∧ (Q (gI h 106 r102) h)) ∧ (¬ x2 = 6 → (x2 = 7 → kd h r102 = 2 ∧ (Q (gI h 107 r102) h)) ∧ (¬ x2 = 7 → (x2 = 8 → kd h r102 = 2 ∧ (Q (gI h 108 r102) h)) ∧ (¬ x2 = 8 → Q (-1) h)))))))))) ∧ (r102 = 0 → Q (-1) h))) : Rn M_X0_told 0 [(0, rV xo), (1, iV x1), (2, iV x2)] [] h k n (qI Q) E := by
  refine r_aload_n (q := 1) dX0_told_0 rfl 0 rfl ?_
  refine r_iload_n (q := 2) dX0_told_1 rfl 1 rfl ?_
  obtain ⟨g101, hw⟩ := hw
  refine r_cVR0 (q := 5) _ [_] N_X0_87 rfl dX0_told_2 rfl rfl rfl (xw_k hm) rfl ?_
  refine ct_X0_at hm g101 ?_
  have hw := hw _ rfl
  refine r_astore_n (q := 6) (lv' := [(0, _), (1, _), (2, _), (3, _)]) dX0_told_5 rfl (Nat.le_of_ble_eq_true rfl) rfl ?_
  refine r_aload_n (q := 7) dX0_told_6 rfl 3 rfl ?_
  refine r_ifnonnull (tg := 12) (q := 10) dX0_told_7 (by decide) rfl (fun c => ?_) (fun c => ?_)
  · have hw := hw.1 c
    refine r_iload_n (q := 13) dX0_told_12 rfl 2 rfl ?_
    by_cases c0 : x2 = 0
    · have hw := hw.1 c0
      refine r_tabK (tg := 64) dX0_told_13 c0 (by decide) (by decide) rfl (by decide) ?_
      refine r_aload_n (q := 65) dX0_told_64 rfl 3 rfl ?_
      obtain ⟨g103, hw⟩ := hw
      refine r_getI (q := 68) L_X0_529 dX0_told_65 rfl g103 ?_
      exact r_iret dX0_told_68 rfl hw
    · have hw := hw.2 c0
      by_cases c1 : x2 = 1
      · have hw := hw.1 c1
        refine r_tabK (tg := 69) dX0_told_13 c1 (by decide) (by decide) rfl (by decide) ?_
        refine r_aload_n (q := 70) dX0_told_69 rfl 3 rfl ?_
        obtain ⟨g104, hw⟩ := hw
        refine r_getI (q := 73) L_X0_530 dX0_told_70 rfl g104 ?_
        exact r_iret dX0_told_73 rfl hw
      · have hw := hw.2 c1
        by_cases c2 : x2 = 2
        · have hw := hw.1 c2
          refine r_tabK (tg := 74) dX0_told_13 c2 (by decide) (by decide) rfl (by decide) ?_
          refine r_aload_n (q := 75) dX0_told_74 rfl 3 rfl ?_
          obtain ⟨g105, hw⟩ := hw
          refine r_getI (q := 78) L_X0_114 dX0_told_75 rfl g105 ?_
          exact r_iret dX0_told_78 rfl hw
        · have hw := hw.2 c2
          by_cases c3 : x2 = 3
          · have hw := hw.1 c3
            refine r_tabK (tg := 79) dX0_told_13 c3 (by decide) (by decide) rfl (by decide) ?_
            refine r_aload_n (q := 80) dX0_told_79 rfl 3 rfl ?_
            obtain ⟨g106, hw⟩ := hw
            refine r_getI (q := 83) L_X0_533 dX0_told_80 rfl g106 ?_
            exact r_iret dX0_told_83 rfl hw
          · have hw := hw.2 c3
            by_cases c4 : x2 = 4
            · have hw := hw.1 c4
              refine r_tabK (tg := 84) dX0_told_13 c4 (by decide) (by decide) rfl (by decide) ?_
              refine r_aload_n (q := 85) dX0_told_84 rfl 3 rfl ?_
              obtain ⟨g107, hw⟩ := hw
              refine r_getI (q := 88) L_X0_104 dX0_told_85 rfl g107 ?_
              exact r_iret dX0_told_88 rfl hw
            · have hw := hw.2 c4
              by_cases c5 : x2 = 5
              · have hw := hw.1 c5
                refine r_tabK (tg := 89) dX0_told_13 c5 (by decide) (by decide) rfl (by decide) ?_
                refine r_aload_n (q := 90) dX0_told_89 rfl 3 rfl ?_
                obtain ⟨g108, hw⟩ := hw
                refine r_getR (q := 93) L_X0_91 dX0_told_90 rfl g108 rfl ?_
                refine r_ifnonnull (tg := 100) (q := 96) dX0_told_93 (by decide) rfl (fun c => ?_) (fun c => ?_)
                · have hw := hw.1 c
                  refine r_iconst (q := 101) dX0_told_100 rfl kI_1 ?_
                  exact r_iret dX0_told_101 rfl hw
                · have hw := hw.2 c
                  refine r_iconst (q := 97) dX0_told_96 rfl kI_0 ?_
                  refine r_goto (tg := 101) dX0_told_97 (by decide) ?_
                  exact r_iret dX0_told_101 rfl hw
              · have hw := hw.2 c5
                by_cases c6 : x2 = 6
                · have hw := hw.1 c6
                  refine r_tabK (tg := 102) dX0_told_13 c6 (by decide) (by decide) rfl (by decide) ?_
                  refine r_aload_n (q := 103) dX0_told_102 rfl 3 rfl ?_
                  obtain ⟨g109, hw⟩ := hw
                  refine r_getI (q := 106) L_X0_388 dX0_told_103 rfl g109 ?_
                  exact r_iret dX0_told_106 rfl hw
                · have hw := hw.2 c6
                  by_cases c7 : x2 = 7
                  · have hw := hw.1 c7
                    refine r_tabK (tg := 107) dX0_told_13 c7 (by decide) (by decide) rfl (by decide) ?_
                    refine r_aload_n (q := 108) dX0_told_107 rfl 3 rfl ?_
                    obtain ⟨g110, hw⟩ := hw
                    refine r_getI (q := 111) L_X0_394 dX0_told_108 rfl g110 ?_
                    exact r_iret dX0_told_111 rfl hw
                  · have hw := hw.2 c7
                    by_cases c8 : x2 = 8
                    · have hw := hw.1 c8
                      refine r_tabK (tg := 112) dX0_told_13 c8 (by decide) (by decide) rfl (by decide) ?_
                      refine r_aload_n (q := 113) dX0_told_112 rfl 3 rfl ?_
                      obtain ⟨g111, hw⟩ := hw
                      refine r_getI (q := 116) L_X0_399 dX0_told_113 rfl g111 ?_
                      exact r_iret dX0_told_116 rfl hw
                    · have hw := hw.2 c8
                      have z0 := lv_neT c0 (show (0 : Int32).toInt = 0 by decide)
                      have z1 := lv_neT c1 (show (1 : Int32).toInt = 1 by decide)
                      have z2 := lv_neT c2 (show (2 : Int32).toInt = 2 by decide)
                      have z3 := lv_neT c3 (show (3 : Int32).toInt = 3 by decide)
                      have z4 := lv_neT c4 (show (4 : Int32).toInt = 4 by decide)
                      have z5 := lv_neT c5 (show (5 : Int32).toInt = 5 by decide)
                      have z6 := lv_neT c6 (show (6 : Int32).toInt = 6 by decide)
                      have z7 := lv_neT c7 (show (7 : Int32).toInt = 7 by decide)
                      have z8 := lv_neT c8 (show (8 : Int32).toInt = 8 by decide)
                      refine r_tabOut (tg := 117) dX0_told_13 (by omega) (by decide) ?_
                      refine r_iconst (q := 118) dX0_told_117 rfl kI_m1 ?_
                      exact r_iret dX0_told_118 rfl hw
  · have hw := hw.2 c
    refine r_iconst (q := 11) dX0_told_10 rfl kI_m1 ?_
    exact r_iret dX0_told_11 rfl hw
def V_X0_told (h : Hp) (xo : Nat) (x1 : Int32) (x2 : Int32) : Int32 := (let r102 : Nat := atv h xo x1; (if ¬ r102 = 0 then (if x2 = 0 then (gI h 101 r102) else (if x2 = 1 then (gI h 102 r102) else (if x2 = 2 then (gI h 103 r102) else (if x2 = 3 then (gI h 104 r102) else (if x2 = 4 then (gI h 105 r102) else (if x2 = 5 then (if ¬ (gR h 109 r102) = 0 then 1 else 0) else (if x2 = 6 then (gI h 106 r102) else (if x2 = 7 then (gI h 107 r102) else (if x2 = 8 then (gI h 108 r102) else (-1)))))))))) else (-1)))
def P_X0_told (h : Hp) (xo : Nat) (x1 : Int32) (x2 : Int32) : Prop := (atp h xo x1) ∧ ((let r102 : Nat := atv h xo x1; (¬ r102 = 0 → (x2 = 0 → kd h r102 = 2) ∧ (¬ x2 = 0 → (x2 = 1 → kd h r102 = 2) ∧ (¬ x2 = 1 → (x2 = 2 → kd h r102 = 2) ∧ (¬ x2 = 2 → (x2 = 3 → kd h r102 = 2) ∧ (¬ x2 = 3 → (x2 = 4 → kd h r102 = 2) ∧ (¬ x2 = 4 → (x2 = 5 → kd h r102 = 2) ∧ (¬ x2 = 5 → (x2 = 6 → kd h r102 = 2) ∧ (¬ x2 = 6 → (x2 = 7 → kd h r102 = 2) ∧ (¬ x2 = 7 → (x2 = 8 → kd h r102 = 2) ∧ (¬ x2 = 8 → True)))))))))) ∧ (r102 = 0 → True)))
theorem ct_X0_told {h : Hp} {E : Nat → Hp → Prop} {k n : Nat} {xo : Nat} {x1 : Int32} {x2 : Int32} (hm : XW h xo) (hp : P_X0_told h xo x1 x2) {Q : Int32 → Hp → Prop} (hq : Q (V_X0_told h xo x1 x2) h) : CtI M_X0_told [rV xo, iV x1, iV x2] h k n Q E := by
  unfold P_X0_told at hp
  unfold V_X0_told at hq
  refine b_X0_told_0 hm ?_
  refine ⟨hp.1, ?_⟩
  have hp := hp.2
  intro r102 er102
  subst er102
  refine ⟨fun c => ?_, fun c => ?_⟩
  · rw [if_pos c] at hq
    have hp := hp.1 c
    refine ⟨fun c => ?_, fun c => ?_⟩
    · rw [if_pos c] at hq
      have hp := hp.1 c
      refine ⟨hp, ?_⟩
      exact hq
    · rw [if_neg (by first | exact c | exact fun z => z c | (rw [c]; decide))] at hq
      have hp := hp.2 c
      refine ⟨fun c => ?_, fun c => ?_⟩
      · rw [if_pos c] at hq
        have hp := hp.1 c
        refine ⟨hp, ?_⟩
        exact hq
      · rw [if_neg (by first | exact c | exact fun z => z c | (rw [c]; decide))] at hq
        have hp := hp.2 c
        refine ⟨fun c => ?_, fun c => ?_⟩
        · rw [if_pos c] at hq
          have hp := hp.1 c
          refine ⟨hp, ?_⟩
          exact hq
        · rw [if_neg (by first | exact c | exact fun z => z c | (rw [c]; decide))] at hq
          have hp := hp.2 c
          refine ⟨fun c => ?_, fun c => ?_⟩
          · rw [if_pos c] at hq
            have hp := hp.1 c
            refine ⟨hp, ?_⟩
            exact hq
          · rw [if_neg (by first | exact c | exact fun z => z c | (rw [c]; decide))] at hq
            have hp := hp.2 c
            refine ⟨fun c => ?_, fun c => ?_⟩
            · rw [if_pos c] at hq
              have hp := hp.1 c
              refine ⟨hp, ?_⟩
              exact hq
            · rw [if_neg (by first | exact c | exact fun z => z c | (rw [c]; decide))] at hq
              have hp := hp.2 c
              refine ⟨fun c => ?_, fun c => ?_⟩
              · rw [if_pos c] at hq
                have hp := hp.1 c
                refine ⟨hp, ?_⟩
                refine ⟨fun c => ?_, fun c => ?_⟩
                · rw [if_pos c] at hq
                  exact hq
                · rw [if_neg (by first | exact c | exact fun z => z c | (rw [c]; decide))] at hq
                  exact hq
              · rw [if_neg (by first | exact c | exact fun z => z c | (rw [c]; decide))] at hq
                have hp := hp.2 c
                refine ⟨fun c => ?_, fun c => ?_⟩
                · rw [if_pos c] at hq
                  have hp := hp.1 c
                  refine ⟨hp, ?_⟩
                  exact hq
                · rw [if_neg (by first | exact c | exact fun z => z c | (rw [c]; decide))] at hq
                  have hp := hp.2 c
                  refine ⟨fun c => ?_, fun c => ?_⟩
                  · rw [if_pos c] at hq
                    have hp := hp.1 c
                    refine ⟨hp, ?_⟩
                    exact hq
                  · rw [if_neg (by first | exact c | exact fun z => z c | (rw [c]; decide))] at hq
                    have hp := hp.2 c
                    refine ⟨fun c => ?_, fun c => ?_⟩
                    · rw [if_pos c] at hq
                      have hp := hp.1 c
                      refine ⟨hp, ?_⟩
                      exact hq
                    · rw [if_neg (by first | exact c | exact fun z => z c | (rw [c]; decide))] at hq
                      have hp := hp.2 c
                      exact hq
  · rw [if_neg (by first | exact c | exact fun z => z c | (rw [c]; decide))] at hq
    have hp := hp.2 c
    exact hq
theorem b_X3_told_0 {x1 x2 : Int32} {mo : Nat} {h : Hp} {k n : Nat} {Q : Int32 → Hp → Prop} {E : Nat → Hp → Prop} (hm : MW h mo) (hw : ((isin x1 0 (gI h 1001 mo - 1)) = true → (x2 = 0 → vp_in x1 12 ∧ (Q (eI h (mo + 1) (ix x1)) h)) ∧ (¬ x2 = 0 → (x2 = 1 → vp_in x1 12 ∧ (Q (eI h (mo + 2) (ix x1)) h)) ∧ (¬ x2 = 1 → (x2 = 2 → vp_in x1 12 ∧ (Q (eI h (mo + 3) (ix x1)) h)) ∧ (¬ x2 = 2 → (x2 = 3 → vp_in x1 12 ∧ (Q (eI h (mo + 4) (ix x1)) h)) ∧ (¬ x2 = 3 → (x2 = 4 → vp_in x1 12 ∧ (Q (eI h (mo + 5) (ix x1)) h)) ∧ (¬ x2 = 4 → (x2 = 5 → vp_in x1 12 ∧ (Q (b1 (nz (eI h (mo + 6) (ix x1)))) h)) ∧ (¬ x2 = 5 → (x2 = 6 → vp_in x1 12 ∧ (Q (Int64.toInt32 (eJ h (mo + 39) (ix x1))) h)) ∧ (¬ x2 = 6 → (x2 = 7 → vp_in x1 12 ∧ (Q (Int64.toInt32 (eJ h (mo + 40) (ix x1))) h)) ∧ (¬ x2 = 7 → (x2 = 8 → vp_in x1 12 ∧ (Q (eI h (mo + 43) (ix x1)) h)) ∧ (¬ x2 = 8 → Q (-1) h)))))))))) ∧ ((isin x1 0 (gI h 1001 mo - 1)) = false → Q (-1) h)) : Rn M_X3_told 0 [(0, rV mo), (1, iV x1), (2, iV x2)] [] h k n (qI Q) E := by
  refine r_aload_n (q := 1) dX3_told_0 rfl 0 rfl ?_
  refine r_iload_n (q := 2) dX3_told_1 rfl 1 rfl ?_
  refine r_cVI0 (q := 5) _ [_] N_X3_198 rfl dX3_told_2 rfl rfl rfl (mw_k hm) rfl ?_
  refine ct_X3_isCorner hm ?_
  refine r_ifb_ne (tg := 10) (q := 8) dX3_told_5 (by decide) rfl (fun c => ?_) (fun c => ?_)
  · have hw := hw.1 c
    refine r_iload_n (q := 11) dX3_told_10 rfl 2 rfl ?_
    by_cases c0 : x2 = 0
    · have hw := hw.1 c0
      refine r_tabK (tg := 60) dX3_told_11 c0 (by decide) (by decide) rfl (by decide) ?_
      refine r_aload_n (q := 61) dX3_told_60 rfl 0 rfl ?_
      refine r_getR (q := 64) L_X3_7 dX3_told_61 rfl (mw_k hm) (mwr_area hm) ?_
      refine r_iload_n (q := 65) dX3_told_64 rfl 1 rfl ?_
      obtain ⟨g101, hw⟩ := hw
      refine r_ialdL (q := 66) dX3_told_65 rfl (mwk_area hm) (mwl_area hm) g101 ?_
      exact r_iret dX3_told_66 rfl hw
    · have hw := hw.2 c0
      by_cases c1 : x2 = 1
      · have hw := hw.1 c1
        refine r_tabK (tg := 67) dX3_told_11 c1 (by decide) (by decide) rfl (by decide) ?_
        refine r_aload_n (q := 68) dX3_told_67 rfl 0 rfl ?_
        refine r_getR (q := 71) L_X3_13 dX3_told_68 rfl (mw_k hm) (mwr_pipe hm) ?_
        refine r_iload_n (q := 72) dX3_told_71 rfl 1 rfl ?_
        obtain ⟨g102, hw⟩ := hw
        refine r_ialdL (q := 73) dX3_told_72 rfl (mwk_pipe hm) (mwl_pipe hm) g102 ?_
        exact r_iret dX3_told_73 rfl hw
      · have hw := hw.2 c1
        by_cases c2 : x2 = 2
        · have hw := hw.1 c2
          refine r_tabK (tg := 74) dX3_told_11 c2 (by decide) (by decide) rfl (by decide) ?_
          refine r_aload_n (q := 75) dX3_told_74 rfl 0 rfl ?_
          refine r_getR (q := 78) L_X3_16 dX3_told_75 rfl (mw_k hm) (mwr_parking hm) ?_
          refine r_iload_n (q := 79) dX3_told_78 rfl 1 rfl ?_
          obtain ⟨g103, hw⟩ := hw
          refine r_ialdL (q := 80) dX3_told_79 rfl (mwk_parking hm) (mwl_parking hm) g103 ?_
          exact r_iret dX3_told_80 rfl hw
        · have hw := hw.2 c2
          by_cases c3 : x2 = 3
          · have hw := hw.1 c3
            refine r_tabK (tg := 81) dX3_told_11 c3 (by decide) (by decide) rfl (by decide) ?_
            refine r_aload_n (q := 82) dX3_told_81 rfl 0 rfl ?_
            refine r_getR (q := 85) L_X3_19 dX3_told_82 rfl (mw_k hm) (mwr_cellar hm) ?_
            refine r_iload_n (q := 86) dX3_told_85 rfl 1 rfl ?_
            obtain ⟨g104, hw⟩ := hw
            refine r_ialdL (q := 87) dX3_told_86 rfl (mwk_cellar hm) (mwl_cellar hm) g104 ?_
            exact r_iret dX3_told_87 rfl hw
          · have hw := hw.2 c3
            by_cases c4 : x2 = 4
            · have hw := hw.1 c4
              refine r_tabK (tg := 88) dX3_told_11 c4 (by decide) (by decide) rfl (by decide) ?_
              refine r_aload_n (q := 89) dX3_told_88 rfl 0 rfl ?_
              refine r_getR (q := 92) L_X3_22 dX3_told_89 rfl (mw_k hm) (mwr_below hm) ?_
              refine r_iload_n (q := 93) dX3_told_92 rfl 1 rfl ?_
              obtain ⟨g105, hw⟩ := hw
              refine r_ialdL (q := 94) dX3_told_93 rfl (mwk_below hm) (mwl_below hm) g105 ?_
              exact r_iret dX3_told_94 rfl hw
            · have hw := hw.2 c4
              by_cases c5 : x2 = 5
              · have hw := hw.1 c5
                refine r_tabK (tg := 95) dX3_told_11 c5 (by decide) (by decide) rfl (by decide) ?_
                refine r_aload_n (q := 96) dX3_told_95 rfl 0 rfl ?_
                refine r_getR (q := 99) L_X3_25 dX3_told_96 rfl (mw_k hm) (mwr_hasBed hm) ?_
                refine r_iload_n (q := 100) dX3_told_99 rfl 1 rfl ?_
                obtain ⟨g106, hw⟩ := hw
                refine r_zaldL (q := 101) dX3_told_100 rfl (mwk_hasBed hm) (mwl_hasBed hm) g106 ?_
                refine r_cSI0 (q := 104) [_] N_X3_319 dX3_told_101 rfl rfl rfl rfl ?_
                refine ct_X3_one  ?_
                exact r_iret dX3_told_104 rfl hw
              · have hw := hw.2 c5
                by_cases c6 : x2 = 6
                · have hw := hw.1 c6
                  refine r_tabK (tg := 105) dX3_told_11 c6 (by decide) (by decide) rfl (by decide) ?_
                  refine r_aload_n (q := 106) dX3_told_105 rfl 0 rfl ?_
                  refine r_getR (q := 109) L_X3_126 dX3_told_106 rfl (mw_k hm) (mwr_toldSpilt hm) ?_
                  refine r_iload_n (q := 110) dX3_told_109 rfl 1 rfl ?_
                  obtain ⟨g107, hw⟩ := hw
                  refine r_laldL (q := 111) dX3_told_110 rfl (mwk_toldSpilt hm) (mwl_toldSpilt hm) g107 ?_
                  refine r_l2i (q := 112) dX3_told_111 rfl ?_
                  exact r_iret dX3_told_112 rfl hw
                · have hw := hw.2 c6
                  by_cases c7 : x2 = 7
                  · have hw := hw.1 c7
                    refine r_tabK (tg := 113) dX3_told_11 c7 (by decide) (by decide) rfl (by decide) ?_
                    refine r_aload_n (q := 114) dX3_told_113 rfl 0 rfl ?_
                    refine r_getR (q := 117) L_X3_129 dX3_told_114 rfl (mw_k hm) (mwr_toldMost hm) ?_
                    refine r_iload_n (q := 118) dX3_told_117 rfl 1 rfl ?_
                    obtain ⟨g108, hw⟩ := hw
                    refine r_laldL (q := 119) dX3_told_118 rfl (mwk_toldMost hm) (mwl_toldMost hm) g108 ?_
                    refine r_l2i (q := 120) dX3_told_119 rfl ?_
                    exact r_iret dX3_told_120 rfl hw
                  · have hw := hw.2 c7
                    by_cases c8 : x2 = 8
                    · have hw := hw.1 c8
                      refine r_tabK (tg := 121) dX3_told_11 c8 (by decide) (by decide) rfl (by decide) ?_
                      refine r_aload_n (q := 122) dX3_told_121 rfl 0 rfl ?_
                      refine r_getR (q := 125) L_X3_138 dX3_told_122 rfl (mw_k hm) (mwr_toldWet hm) ?_
                      refine r_iload_n (q := 126) dX3_told_125 rfl 1 rfl ?_
                      obtain ⟨g109, hw⟩ := hw
                      refine r_ialdL (q := 127) dX3_told_126 rfl (mwk_toldWet hm) (mwl_toldWet hm) g109 ?_
                      exact r_iret dX3_told_127 rfl hw
                    · have hw := hw.2 c8
                      have z0 := lv_neT c0 (show (0 : Int32).toInt = 0 by decide)
                      have z1 := lv_neT c1 (show (1 : Int32).toInt = 1 by decide)
                      have z2 := lv_neT c2 (show (2 : Int32).toInt = 2 by decide)
                      have z3 := lv_neT c3 (show (3 : Int32).toInt = 3 by decide)
                      have z4 := lv_neT c4 (show (4 : Int32).toInt = 4 by decide)
                      have z5 := lv_neT c5 (show (5 : Int32).toInt = 5 by decide)
                      have z6 := lv_neT c6 (show (6 : Int32).toInt = 6 by decide)
                      have z7 := lv_neT c7 (show (7 : Int32).toInt = 7 by decide)
                      have z8 := lv_neT c8 (show (8 : Int32).toInt = 8 by decide)
                      refine r_tabOut (tg := 128) dX3_told_11 (by omega) (by decide) ?_
                      refine r_iconst (q := 129) dX3_told_128 rfl kI_m1 ?_
                      exact r_iret dX3_told_129 rfl hw
  · have hw := hw.2 c
    refine r_iconst (q := 9) dX3_told_8 rfl kI_m1 ?_
    exact r_iret dX3_told_9 rfl hw
def V_X3_told (h : Hp) (mo : Nat) (x1 : Int32) (x2 : Int32) : Int32 := (if (isin x1 0 (gI h 1001 mo - 1)) = true then (if x2 = 0 then (eI h (mo + 1) (ix x1)) else (if x2 = 1 then (eI h (mo + 2) (ix x1)) else (if x2 = 2 then (eI h (mo + 3) (ix x1)) else (if x2 = 3 then (eI h (mo + 4) (ix x1)) else (if x2 = 4 then (eI h (mo + 5) (ix x1)) else (if x2 = 5 then (b1 (nz (eI h (mo + 6) (ix x1)))) else (if x2 = 6 then (Int64.toInt32 (eJ h (mo + 39) (ix x1))) else (if x2 = 7 then (Int64.toInt32 (eJ h (mo + 40) (ix x1))) else (if x2 = 8 then (eI h (mo + 43) (ix x1)) else (-1)))))))))) else (-1))
def P_X3_told (h : Hp) (mo : Nat) (x1 : Int32) (x2 : Int32) : Prop := ((isin x1 0 (gI h 1001 mo - 1)) = true → (x2 = 0 → vp_in x1 12) ∧ (¬ x2 = 0 → (x2 = 1 → vp_in x1 12) ∧ (¬ x2 = 1 → (x2 = 2 → vp_in x1 12) ∧ (¬ x2 = 2 → (x2 = 3 → vp_in x1 12) ∧ (¬ x2 = 3 → (x2 = 4 → vp_in x1 12) ∧ (¬ x2 = 4 → (x2 = 5 → vp_in x1 12) ∧ (¬ x2 = 5 → (x2 = 6 → vp_in x1 12) ∧ (¬ x2 = 6 → (x2 = 7 → vp_in x1 12) ∧ (¬ x2 = 7 → (x2 = 8 → vp_in x1 12) ∧ (¬ x2 = 8 → True)))))))))) ∧ ((isin x1 0 (gI h 1001 mo - 1)) = false → True)
theorem ct_X3_told {h : Hp} {E : Nat → Hp → Prop} {k n : Nat} {mo : Nat} {x1 : Int32} {x2 : Int32} (hm : MW h mo) (hp : P_X3_told h mo x1 x2) {Q : Int32 → Hp → Prop} (hq : Q (V_X3_told h mo x1 x2) h) : CtI M_X3_told [rV mo, iV x1, iV x2] h k n Q E := by
  unfold P_X3_told at hp
  unfold V_X3_told at hq
  refine b_X3_told_0 hm ?_
  refine ⟨fun c => ?_, fun c => ?_⟩
  · rw [if_pos c] at hq
    have hp := hp.1 c
    refine ⟨fun c => ?_, fun c => ?_⟩
    · rw [if_pos c] at hq
      have hp := hp.1 c
      refine ⟨hp, ?_⟩
      exact hq
    · rw [if_neg (by first | exact c | exact fun z => z c | (rw [c]; decide))] at hq
      have hp := hp.2 c
      refine ⟨fun c => ?_, fun c => ?_⟩
      · rw [if_pos c] at hq
        have hp := hp.1 c
        refine ⟨hp, ?_⟩
        exact hq
      · rw [if_neg (by first | exact c | exact fun z => z c | (rw [c]; decide))] at hq
        have hp := hp.2 c
        refine ⟨fun c => ?_, fun c => ?_⟩
        · rw [if_pos c] at hq
          have hp := hp.1 c
          refine ⟨hp, ?_⟩
          exact hq
        · rw [if_neg (by first | exact c | exact fun z => z c | (rw [c]; decide))] at hq
          have hp := hp.2 c
          refine ⟨fun c => ?_, fun c => ?_⟩
          · rw [if_pos c] at hq
            have hp := hp.1 c
            refine ⟨hp, ?_⟩
            exact hq
          · rw [if_neg (by first | exact c | exact fun z => z c | (rw [c]; decide))] at hq
            have hp := hp.2 c
            refine ⟨fun c => ?_, fun c => ?_⟩
            · rw [if_pos c] at hq
              have hp := hp.1 c
              refine ⟨hp, ?_⟩
              exact hq
            · rw [if_neg (by first | exact c | exact fun z => z c | (rw [c]; decide))] at hq
              have hp := hp.2 c
              refine ⟨fun c => ?_, fun c => ?_⟩
              · rw [if_pos c] at hq
                have hp := hp.1 c
                refine ⟨hp, ?_⟩
                exact hq
              · rw [if_neg (by first | exact c | exact fun z => z c | (rw [c]; decide))] at hq
                have hp := hp.2 c
                refine ⟨fun c => ?_, fun c => ?_⟩
                · rw [if_pos c] at hq
                  have hp := hp.1 c
                  refine ⟨hp, ?_⟩
                  exact hq
                · rw [if_neg (by first | exact c | exact fun z => z c | (rw [c]; decide))] at hq
                  have hp := hp.2 c
                  refine ⟨fun c => ?_, fun c => ?_⟩
                  · rw [if_pos c] at hq
                    have hp := hp.1 c
                    refine ⟨hp, ?_⟩
                    exact hq
                  · rw [if_neg (by first | exact c | exact fun z => z c | (rw [c]; decide))] at hq
                    have hp := hp.2 c
                    refine ⟨fun c => ?_, fun c => ?_⟩
                    · rw [if_pos c] at hq
                      have hp := hp.1 c
                      refine ⟨hp, ?_⟩
                      exact hq
                    · rw [if_neg (by first | exact c | exact fun z => z c | (rw [c]; decide))] at hq
                      have hp := hp.2 c
                      exact hq
  · rw [if_neg (by first | exact c | exact fun z => z c | (rw [c]; decide))] at hq
    have hp := hp.2 c
    exact hq
