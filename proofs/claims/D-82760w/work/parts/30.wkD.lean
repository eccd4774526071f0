/-! walks -/
set_option maxRecDepth 100000
theorem b_X8_day_0 {this : Nat} {h : Hp} {k n : Nat} {Q : Int32 → Hp → Prop} {E : Nat → Hp → Prop} (hw : kd h this = 8 ∧ (Q (gI h 700 this) h)) : Rn M_X8_day 0 [(0, rV this)] [] h k n (qI Q) E := by
  refine r_aload_n (q := 1) dX8_day_0 rfl 0 rfl ?_
  obtain ⟨g101, hw⟩ := hw
  refine r_getI (q := 4) L_X8_7 dX8_day_1 rfl g101 ?_
  exact r_iret dX8_day_4 rfl hw
def V_X8_day (h : Hp) (this : Nat) : Int32 := (gI h 700 this)
def P_X8_day (h : Hp) (this : Nat) : Prop := kd h this = 8
theorem ct_X8_day {h : Hp} {E : Nat → Hp → Prop} {k n : Nat} {this : Nat} (hp : P_X8_day h this) {Q : Int32 → Hp → Prop} (hq : Q (V_X8_day h this) h) : CtI M_X8_day [rV this] h k n Q E := by
  unfold P_X8_day at hp
  unfold V_X8_day at hq
  refine b_X8_day_0 ?_
  refine ⟨hp, ?_⟩
  exact hq
theorem b_X8_rained_0 {this : Nat} {h : Hp} {k n : Nat} {Q : Int64 → Hp → Prop} {E : Nat → Hp → Prop} (hw : kd h this = 8 ∧ (Q (gJ h 701 this) h)) : Rn M_X8_rained 0 [(0, rV this)] [] h k n (qJ Q) E := by
  refine r_aload_n (q := 1) dX8_rained_0 rfl 0 rfl ?_
  obtain ⟨g101, hw⟩ := hw
  refine r_getJ (q := 4) L_X8_13 dX8_rained_1 rfl g101 ?_
  exact r_lret dX8_rained_4 rfl hw
def V_X8_rained (h : Hp) (this : Nat) : Int64 := (gJ h 701 this)
def P_X8_rained (h : Hp) (this : Nat) : Prop := kd h this = 8
theorem ct_X8_rained {h : Hp} {E : Nat → Hp → Prop} {k n : Nat} {this : Nat} (hp : P_X8_rained h this) {Q : Int64 → Hp → Prop} (hq : Q (V_X8_rained h this) h) : CtJ M_X8_rained [rV this] h k n Q E := by
  unfold P_X8_rained at hp
  unfold V_X8_rained at hq
  refine b_X8_rained_0 ?_
  refine ⟨hp, ?_⟩
  exact hq
theorem b_X8_spilt_0 {this : Nat} {h : Hp} {k n : Nat} {Q : Int64 → Hp → Prop} {E : Nat → Hp → Prop} (hw : kd h this = 8 ∧ (Q (gJ h 702 this) h)) : Rn M_X8_spilt 0 [(0, rV this)] [] h k n (qJ Q) E := by
  refine r_aload_n (q := 1) dX8_spilt_0 rfl 0 rfl ?_
  obtain ⟨g101, hw⟩ := hw
  refine r_getJ (q := 4) L_X8_17 dX8_spilt_1 rfl g101 ?_
  exact r_lret dX8_spilt_4 rfl hw
def V_X8_spilt (h : Hp) (this : Nat) : Int64 := (gJ h 702 this)
def P_X8_spilt (h : Hp) (this : Nat) : Prop := kd h this = 8
theorem ct_X8_spilt {h : Hp} {E : Nat → Hp → Prop} {k n : Nat} {this : Nat} (hp : P_X8_spilt h this) {Q : Int64 → Hp → Prop} (hq : Q (V_X8_spilt h this) h) : CtJ M_X8_spilt [rV this] h k n Q E := by
  unfold P_X8_spilt at hp
  unfold V_X8_spilt at hq
  refine b_X8_spilt_0 ?_
  refine ⟨hp, ?_⟩
  exact hq
theorem b_X8_wet_0 {this : Nat} {h : Hp} {k n : Nat} {Q : Int32 → Hp → Prop} {E : Nat → Hp → Prop} (hw : kd h this = 8 ∧ (Q (gI h 703 this) h)) : Rn M_X8_wet 0 [(0, rV this)] [] h k n (qI Q) E := by
  refine r_aload_n (q := 1) dX8_wet_0 rfl 0 rfl ?_
  obtain ⟨g101, hw⟩ := hw
  refine r_getI (q := 4) L_X8_20 dX8_wet_1 rfl g101 ?_
  exact r_iret dX8_wet_4 rfl hw
def V_X8_wet (h : Hp) (this : Nat) : Int32 := (gI h 703 this)
def P_X8_wet (h : Hp) (this : Nat) : Prop := kd h this = 8
theorem ct_X8_wet {h : Hp} {E : Nat → Hp → Prop} {k n : Nat} {this : Nat} (hp : P_X8_wet h this) {Q : Int32 → Hp → Prop} (hq : Q (V_X8_wet h this) h) : CtI M_X8_wet [rV this] h k n Q E := by
  unfold P_X8_wet at hp
  unfold V_X8_wet at hq
  refine b_X8_wet_0 ?_
  refine ⟨hp, ?_⟩
  exact hq
theorem b_X8_most_0 {this : Nat} {h : Hp} {k n : Nat} {Q : Int32 → Hp → Prop} {E : Nat → Hp → Prop} (hw : kd h this = 8 ∧ (Q (gI h 704 this) h)) : Rn M_X8_most 0 [(0, rV this)] [] h k n (qI Q) E := by
  refine r_aload_n (q := 1) dX8_most_0 rfl 0 rfl ?_
  obtain ⟨g101, hw⟩ := hw
  refine r_getI (q := 4) L_X8_23 dX8_most_1 rfl g101 ?_
  exact r_iret dX8_most_4 rfl hw
def V_X8_most (h : Hp) (this : Nat) : Int32 := (gI h 704 this)
def P_X8_most (h : Hp) (this : Nat) : Prop := kd h this = 8
theorem ct_X8_most {h : Hp} {E : Nat → Hp → Prop} {k n : Nat} {this : Nat} (hp : P_X8_most h this) {Q : Int32 → Hp → Prop} (hq : Q (V_X8_most h this) h) : CtI M_X8_most [rV this] h k n Q E := by
  unfold P_X8_most at hp
  unfold V_X8_most at hq
  refine b_X8_most_0 ?_
  refine ⟨hp, ?_⟩
  exact hq
theorem b_X0_fault_0 {xo : Nat} {h : Hp} {k n : Nat} {Q : Int32 → Hp → Prop} {E : Nat → Hp → Prop} (hm : XW h xo) (hw : Q (gI h 8 xo) h) : Rn M_X0_fault 0 [(0, rV xo)] [] h k n (qI Q) E := by
  refine r_aload_n (q := 1) dX0_fault_0 rfl 0 rfl ?_
  refine r_getI (q := 4) L_X0_43 dX0_fault_1 rfl (xw_k hm) ?_
  exact r_iret dX0_fault_4 rfl hw
def V_X0_fault (h : Hp) (xo : Nat) : Int32 := (gI h 8 xo)
theorem ct_X0_fault {h : Hp} {E : Nat → Hp → Prop} {k n : Nat} {xo : Nat} (hm : XW h xo) {Q : Int32 → Hp → Prop} (hq : Q (V_X0_fault h xo) h) : CtI M_X0_fault [rV xo] h k n Q E := by
  unfold V_X0_fault at hq
  refine b_X0_fault_0 hm ?_
  exact hq
theorem b_X3_fault_0 {mo : Nat} {h : Hp} {k n : Nat} {Q : Int32 → Hp → Prop} {E : Nat → Hp → Prop} (hm : MW h mo) (hw : Q (gI h 1080 mo) h) : Rn M_X3_fault 0 [(0, rV mo)] [] h k n (qI Q) E := by
  refine r_aload_n (q := 1) dX3_fault_0 rfl 0 rfl ?_
  refine r_getI (q := 4) L_X3_187 dX3_fault_1 rfl (mw_k hm) ?_
  exact r_iret dX3_fault_4 rfl hw
def V_X3_fault (h : Hp) (mo : Nat) : Int32 := (gI h 1080 mo)
theorem ct_X3_fault {h : Hp} {E : Nat → Hp → Prop} {k n : Nat} {mo : Nat} (hm : MW h mo) {Q : Int32 → Hp → Prop} (hq : Q (V_X3_fault h mo) h) : CtI M_X3_fault [rV mo] h k n Q E := by
  unfold V_X3_fault at hq
  refine b_X3_fault_0 hm ?_
  exact hq
theorem b_X0_stormOf_0 {x1 x2 : Int32} {xo : Nat} {h : Hp} {k n : Nat} {Q : Int64 → Hp → Prop} {E : Nat → Hp → Prop} (hm : XW h xo) (hw : ((isin x1 0 ((gI h 1102 (xo + 21)) - 1)) = true → (ALg h (xo + 21) x1) ∧ (kd h (el h (xo + 21) (ix x1)) = 8 ∧ (∀ r103 : Nat, r103 = el h (xo + 21) (ix x1) → (x2 = 0 → (P_X8_day h r103) ∧ (Q (Int32.toInt64 (V_X8_day h r103)) h)) ∧ (¬ x2 = 0 → (x2 = 1 → (P_X8_rained h r103) ∧ (Q (V_X8_rained h r103) h)) ∧ (¬ x2 = 1 → (x2 = 2 → (P_X8_spilt h r103) ∧ (Q (V_X8_spilt h r103) h)) ∧ (¬ x2 = 2 → (x2 = 3 → (P_X8_wet h r103) ∧ (Q (Int32.toInt64 (V_X8_wet h r103)) h)) ∧ (¬ x2 = 3 → (x2 = 4 → (P_X8_most h r103) ∧ (Q (Int32.toInt64 (V_X8_most h r103)) h)) ∧ (¬ x2 = 4 → Q (-1) h)))))))) ∧ ((isin x1 0 ((gI h 1102 (xo + 21)) - 1)) = false → Q (-1) h)) : Rn M_X0_stormOf 0 [(0, rV xo), (1, iV x1), (2, iV x2)] [] h k n (qJ Q) E := by
  refine r_iload_n (q := 1) dX0_stormOf_0 rfl 1 rfl ?_
  refine r_iconst (q := 2) dX0_stormOf_1 rfl kI_0 ?_
  refine r_aload_n (q := 3) dX0_stormOf_2 rfl 0 rfl ?_
  refine r_getR (q := 6) L_X0_71 dX0_stormOf_3 rfl (xw_k hm) (xwr_storms hm) ?_
  refine r_cVI0 (q := 9) _ [] N_X0_77 rfl dX0_stormOf_6 rfl rfl rfl (xwk_storms hm) rfl ?_
  refine ct_J2_size (xwk_storms hm) ?_
  refine r_iconst (q := 10) dX0_stormOf_9 rfl kI_1 ?_
  refine r_isub (q := 11) dX0_stormOf_10 rfl ?_
  refine r_cSI0 (q := 14) [_, _, _] N_X0_3 dX0_stormOf_11 rfl rfl rfl rfl ?_
  refine ct_X0_isIn  ?_
  refine r_ifb_ne (tg := 21) (q := 17) dX0_stormOf_14 (by decide) rfl (fun c => ?_) (fun c => ?_)
  · have hw := hw.1 c
    refine r_aload_n (q := 22) dX0_stormOf_21 rfl 0 rfl ?_
    refine r_getR (q := 25) L_X0_71 dX0_stormOf_22 rfl (xw_k hm) (xwr_storms hm) ?_
    refine r_iload_n (q := 26) dX0_stormOf_25 rfl 1 rfl ?_
    obtain ⟨g101, hw⟩ := hw
    refine r_cVR0 (q := 29) _ [_] N_X0_81 rfl dX0_stormOf_26 rfl rfl rfl (xwk_storms hm) rfl ?_
    refine ct_J2_get (xwk_storms hm) g101 ?_
    obtain ⟨g102, hw⟩ := hw
    refine r_cast (q := 32) q1205 rfl dX0_stormOf_29 rfl g102 ?_
    have hw := hw _ rfl
    refine r_astore_n (q := 33) (lv' := [(0, _), (1, _), (2, _), (3, _)]) dX0_stormOf_32 rfl (Nat.le_of_ble_eq_true rfl) rfl ?_
    refine r_iload_n (q := 34) dX0_stormOf_33 rfl 2 rfl ?_
    by_cases c0 : x2 = 0
    · have hw := hw.1 c0
      refine r_tabK (tg := 68) dX0_stormOf_34 c0 (by decide) (by decide) rfl (by decide) ?_
      refine r_aload_n (q := 69) dX0_stormOf_68 rfl 3 rfl ?_
      obtain ⟨g104, hw⟩ := hw
      refine r_cVI0 (q := 72) _ [] N_X0_440 rfl dX0_stormOf_69 rfl rfl rfl g102 rfl ?_
      refine ct_X8_day g104 ?_
      refine r_i2l (q := 73) dX0_stormOf_72 rfl ?_
      exact r_lret dX0_stormOf_73 rfl hw
    · have hw := hw.2 c0
      by_cases c1 : x2 = 1
      · have hw := hw.1 c1
        refine r_tabK (tg := 74) dX0_stormOf_34 c1 (by decide) (by decide) rfl (by decide) ?_
        refine r_aload_n (q := 75) dX0_stormOf_74 rfl 3 rfl ?_
        obtain ⟨g105, hw⟩ := hw
        refine r_cVJ0 (q := 78) _ [] N_X0_442 rfl dX0_stormOf_75 rfl rfl rfl g102 rfl ?_
        refine ct_X8_rained g105 ?_
        exact r_lret dX0_stormOf_78 rfl hw
      · have hw := hw.2 c1
        by_cases c2 : x2 = 2
        · have hw := hw.1 c2
          refine r_tabK (tg := 79) dX0_stormOf_34 c2 (by decide) (by decide) rfl (by decide) ?_
          refine r_aload_n (q := 80) dX0_stormOf_79 rfl 3 rfl ?_
          obtain ⟨g106, hw⟩ := hw
          refine r_cVJ0 (q := 83) _ [] N_X0_445 rfl dX0_stormOf_80 rfl rfl rfl g102 rfl ?_
          refine ct_X8_spilt g106 ?_
          exact r_lret dX0_stormOf_83 rfl hw
        · have hw := hw.2 c2
          by_cases c3 : x2 = 3
          · have hw := hw.1 c3
            refine r_tabK (tg := 84) dX0_stormOf_34 c3 (by decide) (by decide) rfl (by decide) ?_
            refine r_aload_n (q := 85) dX0_stormOf_84 rfl 3 rfl ?_
            obtain ⟨g107, hw⟩ := hw
            refine r_cVI0 (q := 88) _ [] N_X0_447 rfl dX0_stormOf_85 rfl rfl rfl g102 rfl ?_
            refine ct_X8_wet g107 ?_
            refine r_i2l (q := 89) dX0_stormOf_88 rfl ?_
            exact r_lret dX0_stormOf_89 rfl hw
          · have hw := hw.2 c3
            by_cases c4 : x2 = 4
            · have hw := hw.1 c4
              refine r_tabK (tg := 90) dX0_stormOf_34 c4 (by decide) (by decide) rfl (by decide) ?_
              refine r_aload_n (q := 91) dX0_stormOf_90 rfl 3 rfl ?_
              obtain ⟨g108, hw⟩ := hw
              refine r_cVI0 (q := 94) _ [] N_X0_449 rfl dX0_stormOf_91 rfl rfl rfl g102 rfl ?_
              refine ct_X8_most g108 ?_
              refine r_i2l (q := 95) dX0_stormOf_94 rfl ?_
              exact r_lret dX0_stormOf_95 rfl hw
            · have hw := hw.2 c4
              have z0 := lv_neT c0 (show (0 : Int32).toInt = 0 by decide)
              have z1 := lv_neT c1 (show (1 : Int32).toInt = 1 by decide)
              have z2 := lv_neT c2 (show (2 : Int32).toInt = 2 by decide)
              have z3 := lv_neT c3 (show (3 : Int32).toInt = 3 by decide)
              have z4 := lv_neT c4 (show (4 : Int32).toInt = 4 by decide)
              refine r_tabOut (tg := 96) dX0_stormOf_34 (by omega) (by decide) ?_
              refine r_ldc2 (q := 99) dX0_stormOf_96 rfl q1231 ?_
              exact r_lret dX0_stormOf_99 rfl hw
  · have hw := hw.2 c
    refine r_ldc2 (q := 20) dX0_stormOf_17 rfl q1231 ?_
    exact r_lret dX0_stormOf_20 rfl hw
def V_X0_stormOf (h : Hp) (xo : Nat) (x1 : Int32) (x2 : Int32) : Int64 := (if (isin x1 0 ((gI h 1102 (xo + 21)) - 1)) = true then (let r103 : Nat := el h (xo + 21) (ix x1); (if x2 = 0 then (Int32.toInt64 (V_X8_day h r103)) else (if x2 = 1 then (V_X8_rained h r103) else (if x2 = 2 then (V_X8_spilt h r103) else (if x2 = 3 then (Int32.toInt64 (V_X8_wet h r103)) else (if x2 = 4 then (Int32.toInt64 (V_X8_most h r103)) else (-1))))))) else (-1))
def P_X0_stormOf (h : Hp) (xo : Nat) (x1 : Int32) (x2 : Int32) : Prop := ((isin x1 0 ((gI h 1102 (xo + 21)) - 1)) = true → (ALg h (xo + 21) x1) ∧ (kd h (el h (xo + 21) (ix x1)) = 8 ∧ ((let r103 : Nat := el h (xo + 21) (ix x1); (x2 = 0 → (P_X8_day h r103)) ∧ (¬ x2 = 0 → (x2 = 1 → (P_X8_rained h r103)) ∧ (¬ x2 = 1 → (x2 = 2 → (P_X8_spilt h r103)) ∧ (¬ x2 = 2 → (x2 = 3 → (P_X8_wet h r103)) ∧ (¬ x2 = 3 → (x2 = 4 → (P_X8_most h r103)) ∧ (¬ x2 = 4 → True))))))))) ∧ ((isin x1 0 ((gI h 1102 (xo + 21)) - 1)) = false → True)
theorem ct_X0_stormOf {h : Hp} {E : Nat → Hp → Prop} {k n : Nat} {xo : Nat} {x1 : Int32} {x2 : Int32} (hm : XW h xo) (hp : P_X0_stormOf h xo x1 x2) {Q : Int64 → Hp → Prop} (hq : Q (V_X0_stormOf h xo x1 x2) h) : CtJ M_X0_stormOf [rV xo, iV x1, iV x2] h k n Q E := by
  unfold P_X0_stormOf at hp
  unfold V_X0_stormOf at hq
  refine b_X0_stormOf_0 hm ?_
  refine ⟨fun c => ?_, fun c => ?_⟩
  · rw [if_pos c] at hq
    have hp := hp.1 c
    refine ⟨hp.1, ?_⟩
    have hp := hp.2
    refine ⟨hp.1, ?_⟩
    have hp := hp.2
    intro r103 er103
    subst er103
    refine ⟨fun c => ?_, fun c => ?_⟩
    · rw [if_pos c] at hq
      have hp := hp.1 c
      refine ⟨hp, ?_⟩
      exact hq
    · rw [if_neg (by first | exact c | exact fun z => z c | (rw [c]; decide))] at hq
      have hp := hp.2 c
      refine ⟨fun c => ?_, fun c => ?_⟩
      · rw [if_pos c] at hq
        have hp := hp.1 c
        refine ⟨hp, ?_⟩
        exact hq
      · rw [if_neg (by first | exact c | exact fun z => z c | (rw [c]; decide))] at hq
        have hp := hp.2 c
        refine ⟨fun c => ?_, fun c => ?_⟩
        · rw [if_pos c] at hq
          have hp := hp.1 c
          refine ⟨hp, ?_⟩
          exact hq
        · rw [if_neg (by first | exact c | exact fun z => z c | (rw [c]; decide))] at hq
          have hp := hp.2 c
          refine ⟨fun c => ?_, fun c => ?_⟩
          · rw [if_pos c] at hq
            have hp := hp.1 c
            refine ⟨hp, ?_⟩
            exact hq
          · rw [if_neg (by first | exact c | exact fun z => z c | (rw [c]; decide))] at hq
            have hp := hp.2 c
            refine ⟨fun c => ?_, fun c => ?_⟩
            · rw [if_pos c] at hq
              have hp := hp.1 c
              refine ⟨hp, ?_⟩
              exact hq
            · rw [if_neg (by first | exact c | exact fun z => z c | (rw [c]; decide))] at hq
              have hp := hp.2 c
              exact hq
  · rw [if_neg (by first | exact c | exact fun z => z c | (rw [c]; decide))] at hq
    have hp := hp.2 c
    exact hq
theorem b_X3_stormOf_0 {x1 x2 : Int32} {mo : Nat} {h : Hp} {k n : Nat} {Q : Int64 → Hp → Prop} {E : Nat → Hp → Prop} (hm : MW h mo) (hw : ((isin x1 0 ((gI h 1004 mo) - 1)) = true → (x2 = 0 → vp_in x1 40 ∧ (Q (Int32.toInt64 (eI h (mo + 41) (ix x1))) h)) ∧ (¬ x2 = 0 → (x2 = 1 → vp_in x1 40 ∧ (Q (eJ h (mo + 36) (ix x1)) h)) ∧ (¬ x2 = 1 → (x2 = 2 → vp_in x1 40 ∧ (Q (eJ h (mo + 37) (ix x1)) h)) ∧ (¬ x2 = 2 → (x2 = 3 → vp_in x1 40 ∧ (Q (Int32.toInt64 (eI h (mo + 42) (ix x1))) h)) ∧ (¬ x2 = 3 → (x2 = 4 → vp_in x1 40 ∧ (Q (eJ h (mo + 38) (ix x1)) h)) ∧ (¬ x2 = 4 → Q (-1) h)))))) ∧ ((isin x1 0 ((gI h 1004 mo) - 1)) = false → Q (-1) h)) : Rn M_X3_stormOf 0 [(0, rV mo), (1, iV x1), (2, iV x2)] [] h k n (qJ Q) E := by
  refine r_iload_n (q := 1) dX3_stormOf_0 rfl 1 rfl ?_
  refine r_iconst (q := 2) dX3_stormOf_1 rfl kI_0 ?_
  refine r_aload_n (q := 3) dX3_stormOf_2 rfl 0 rfl ?_
  refine r_getI (q := 6) L_X3_295 dX3_stormOf_3 rfl (mw_k hm) ?_
  refine r_iconst (q := 7) dX3_stormOf_6 rfl kI_1 ?_
  refine r_isub (q := 8) dX3_stormOf_7 rfl ?_
  refine r_cSI0 (q := 11) [_, _, _] N_X3_194 dX3_stormOf_8 rfl rfl rfl rfl ?_
  refine ct_X3_isIn  ?_
  refine r_ifb_ne (tg := 18) (q := 14) dX3_stormOf_11 (by decide) rfl (fun c => ?_) (fun c => ?_)
  · have hw := hw.1 c
    refine r_iload_n (q := 19) dX3_stormOf_18 rfl 2 rfl ?_
    by_cases c0 : x2 = 0
    · have hw := hw.1 c0
      refine r_tabK (tg := 52) dX3_stormOf_19 c0 (by decide) (by decide) rfl (by decide) ?_
      refine r_aload_n (q := 53) dX3_stormOf_52 rfl 0 rfl ?_
      refine r_getR (q := 56) L_X3_132 dX3_stormOf_53 rfl (mw_k hm) (mwr_stormDay hm) ?_
      refine r_iload_n (q := 57) dX3_stormOf_56 rfl 1 rfl ?_
      obtain ⟨g101, hw⟩ := hw
      refine r_ialdL (q := 58) dX3_stormOf_57 rfl (mwk_stormDay hm) (mwl_stormDay hm) g101 ?_
      refine r_i2l (q := 59) dX3_stormOf_58 rfl ?_
      exact r_lret dX3_stormOf_59 rfl hw
    · have hw := hw.2 c0
      by_cases c1 : x2 = 1
      · have hw := hw.1 c1
        refine r_tabK (tg := 60) dX3_stormOf_19 c1 (by decide) (by decide) rfl (by decide) ?_
        refine r_aload_n (q := 61) dX3_stormOf_60 rfl 0 rfl ?_
        refine r_getR (q := 64) L_X3_117 dX3_stormOf_61 rfl (mw_k hm) (mwr_stormRain hm) ?_
        refine r_iload_n (q := 65) dX3_stormOf_64 rfl 1 rfl ?_
        obtain ⟨g102, hw⟩ := hw
        refine r_laldL (q := 66) dX3_stormOf_65 rfl (mwk_stormRain hm) (mwl_stormRain hm) g102 ?_
        exact r_lret dX3_stormOf_66 rfl hw
      · have hw := hw.2 c1
        by_cases c2 : x2 = 2
        · have hw := hw.1 c2
          refine r_tabK (tg := 67) dX3_stormOf_19 c2 (by decide) (by decide) rfl (by decide) ?_
          refine r_aload_n (q := 68) dX3_stormOf_67 rfl 0 rfl ?_
          refine r_getR (q := 71) L_X3_120 dX3_stormOf_68 rfl (mw_k hm) (mwr_stormSpilt hm) ?_
          refine r_iload_n (q := 72) dX3_stormOf_71 rfl 1 rfl ?_
          obtain ⟨g103, hw⟩ := hw
          refine r_laldL (q := 73) dX3_stormOf_72 rfl (mwk_stormSpilt hm) (mwl_stormSpilt hm) g103 ?_
          exact r_lret dX3_stormOf_73 rfl hw
        · have hw := hw.2 c2
          by_cases c3 : x2 = 3
          · have hw := hw.1 c3
            refine r_tabK (tg := 74) dX3_stormOf_19 c3 (by decide) (by decide) rfl (by decide) ?_
            refine r_aload_n (q := 75) dX3_stormOf_74 rfl 0 rfl ?_
            refine r_getR (q := 78) L_X3_135 dX3_stormOf_75 rfl (mw_k hm) (mwr_stormWet hm) ?_
            refine r_iload_n (q := 79) dX3_stormOf_78 rfl 1 rfl ?_
            obtain ⟨g104, hw⟩ := hw
            refine r_ialdL (q := 80) dX3_stormOf_79 rfl (mwk_stormWet hm) (mwl_stormWet hm) g104 ?_
            refine r_i2l (q := 81) dX3_stormOf_80 rfl ?_
            exact r_lret dX3_stormOf_81 rfl hw
          · have hw := hw.2 c3
            by_cases c4 : x2 = 4
            · have hw := hw.1 c4
              refine r_tabK (tg := 82) dX3_stormOf_19 c4 (by decide) (by decide) rfl (by decide) ?_
              refine r_aload_n (q := 83) dX3_stormOf_82 rfl 0 rfl ?_
              refine r_getR (q := 86) L_X3_123 dX3_stormOf_83 rfl (mw_k hm) (mwr_stormMost hm) ?_
              refine r_iload_n (q := 87) dX3_stormOf_86 rfl 1 rfl ?_
              obtain ⟨g105, hw⟩ := hw
              refine r_laldL (q := 88) dX3_stormOf_87 rfl (mwk_stormMost hm) (mwl_stormMost hm) g105 ?_
              exact r_lret dX3_stormOf_88 rfl hw
            · have hw := hw.2 c4
              have z0 := lv_neT c0 (show (0 : Int32).toInt = 0 by decide)
              have z1 := lv_neT c1 (show (1 : Int32).toInt = 1 by decide)
              have z2 := lv_neT c2 (show (2 : Int32).toInt = 2 by decide)
              have z3 := lv_neT c3 (show (3 : Int32).toInt = 3 by decide)
              have z4 := lv_neT c4 (show (4 : Int32).toInt = 4 by decide)
              refine r_tabOut (tg := 89) dX3_stormOf_19 (by omega) (by decide) ?_
              refine r_ldc2 (q := 92) dX3_stormOf_89 rfl q1749 ?_
              exact r_lret dX3_stormOf_92 rfl hw
  · have hw := hw.2 c
    refine r_ldc2 (q := 17) dX3_stormOf_14 rfl q1749 ?_
    exact r_lret dX3_stormOf_17 rfl hw
def V_X3_stormOf (h : Hp) (mo : Nat) (x1 : Int32) (x2 : Int32) : Int64 := (if (isin x1 0 ((gI h 1004 mo) - 1)) = true then (if x2 = 0 then (Int32.toInt64 (eI h (mo + 41) (ix x1))) else (if x2 = 1 then (eJ h (mo + 36) (ix x1)) else (if x2 = 2 then (eJ h (mo + 37) (ix x1)) else (if x2 = 3 then (Int32.toInt64 (eI h (mo + 42) (ix x1))) else (if x2 = 4 then (eJ h (mo + 38) (ix x1)) else (-1)))))) else (-1))
def P_X3_stormOf (h : Hp) (mo : Nat) (x1 : Int32) (x2 : Int32) : Prop := ((isin x1 0 ((gI h 1004 mo) - 1)) = true → (x2 = 0 → vp_in x1 40) ∧ (¬ x2 = 0 → (x2 = 1 → vp_in x1 40) ∧ (¬ x2 = 1 → (x2 = 2 → vp_in x1 40) ∧ (¬ x2 = 2 → (x2 = 3 → vp_in x1 40) ∧ (¬ x2 = 3 → (x2 = 4 → vp_in x1 40) ∧ (¬ x2 = 4 → True)))))) ∧ ((isin x1 0 ((gI h 1004 mo) - 1)) = false → True)
theorem ct_X3_stormOf {h : Hp} {E : Nat → Hp → Prop} {k n : Nat} {mo : Nat} {x1 : Int32} {x2 : Int32} (hm : MW h mo) (hp : P_X3_stormOf h mo x1 x2) {Q : Int64 → Hp → Prop} (hq : Q (V_X3_stormOf h mo x1 x2) h) : CtJ M_X3_stormOf [rV mo, iV x1, iV x2] h k n Q E := by
  unfold P_X3_stormOf at hp
  unfold V_X3_stormOf at hq
  refine b_X3_stormOf_0 hm ?_
  refine ⟨fun c => ?_, fun c => ?_⟩
  · rw [if_pos c] at hq
    have hp := hp.1 c
    refine ⟨fun c => ?_, fun c => ?_⟩
    · rw [if_pos c] at hq
      have hp := hp.1 c
      refine ⟨hp, ?_⟩
      exact hq
    · rw [if_neg (by first | exact c | exact fun z => z c | (rw [c]; decide))] at hq
      have hp := hp.2 c
      refine ⟨fun c => ?_, fun c => ?_⟩
      · rw [if_pos c] at hq
        have hp := hp.1 c
        refine ⟨hp, ?_⟩
        exact hq
      · rw [if_neg (by first | exact c | exact fun z => z c | (rw [c]; decide))] at hq
        have hp := hp.2 c
        refine ⟨fun c => ?_, fun c => ?_⟩
        · rw [if_pos c] at hq
          have hp := hp.1 c
          refine ⟨hp, ?_⟩
          exact hq
        · rw [if_neg (by first | exact c | exact fun z => z c | (rw [c]; decide))] at hq
          have hp := hp.2 c
          refine ⟨fun c => ?_, fun c => ?_⟩
          · rw [if_pos c] at hq
            have hp := hp.1 c
            refine ⟨hp, ?_⟩
            exact hq
          · rw [if_neg (by first | exact c | exact fun z => z c | (rw [c]; decide))] at hq
            have hp := hp.2 c
            refine ⟨fun c => ?_, fun c => ?_⟩
            · rw [if_pos c] at hq
              have hp := hp.1 c
              refine ⟨hp, ?_⟩
              exact hq
            · rw [if_neg (by first | exact c | exact fun z => z c | (rw [c]; decide))] at hq
              have hp := hp.2 c
              exact hq
  · rw [if_neg (by first | exact c | exact fun z => z c | (rw [c]; decide))] at hq
    have hp := hp.2 c
    exact hq
theorem b_X0_complaint_0 {x1 x2 : Int32} {xo : Nat} {h : Hp} {k n : Nat} {Q : Int32 → Hp → Prop} {E : Nat → Hp → Prop} (hm : XW h xo) (hw : ((isin x1 0 ((gI h 1102 (xo + 22)) - 1)) = true → (ALg h (xo + 22) x1) ∧ (kd h (el h (xo + 22) (ix x1)) = 9 ∧ (∀ r103 : Nat, r103 = el h (xo + 22) (ix x1) → (x2 = 0 → kd h (gR h 800 r103) = 2 ∧ (Q (gI h 100 (gR h 800 r103)) h)) ∧ (¬ x2 = 0 → (x2 = 1 → Q (gI h 802 r103) h) ∧ (¬ x2 = 1 → (x2 = 2 → Q (gI h 803 r103) h) ∧ (¬ x2 = 2 → (x2 = 3 → Q (gI h 804 r103) h) ∧ (¬ x2 = 3 → (x2 = 4 → Q (gI h 805 r103) h) ∧ (¬ x2 = 4 → (x2 = 5 → ((gI h 806 r103) = 0 → Q 0 h) ∧ (¬ (gI h 806 r103) = 0 → Q 1 h)) ∧ (¬ x2 = 5 → Q (-1) h))))))))) ∧ ((isin x1 0 ((gI h 1102 (xo + 22)) - 1)) = false → Q (-1) h)) : Rn M_X0_complaint 0 [(0, rV xo), (1, iV x1), (2, iV x2)] [] h k n (qI Q) E := by
  refine r_iload_n (q := 1) dX0_complaint_0 rfl 1 rfl ?_
  refine r_iconst (q := 2) dX0_complaint_1 rfl kI_0 ?_
  refine r_aload_n (q := 3) dX0_complaint_2 rfl 0 rfl ?_
  refine r_getR (q := 6) L_X0_74 dX0_complaint_3 rfl (xw_k hm) (xwr_complaints hm) ?_
  refine r_cVI0 (q := 9) _ [] N_X0_77 rfl dX0_complaint_6 rfl rfl rfl (xwk_complaints hm) rfl ?_
  refine ct_J2_size (xwk_complaints hm) ?_
  refine r_iconst (q := 10) dX0_complaint_9 rfl kI_1 ?_
  refine r_isub (q := 11) dX0_complaint_10 rfl ?_
  refine r_cSI0 (q := 14) [_, _, _] N_X0_3 dX0_complaint_11 rfl rfl rfl rfl ?_
  refine ct_X0_isIn  ?_
  refine r_ifb_ne (tg := 19) (q := 17) dX0_complaint_14 (by decide) rfl (fun c => ?_) (fun c => ?_)
  · have hw := hw.1 c
    refine r_aload_n (q := 20) dX0_complaint_19 rfl 0 rfl ?_
    refine r_getR (q := 23) L_X0_74 dX0_complaint_20 rfl (xw_k hm) (xwr_complaints hm) ?_
    refine r_iload_n (q := 24) dX0_complaint_23 rfl 1 rfl ?_
    obtain ⟨g101, hw⟩ := hw
    refine r_cVR0 (q := 27) _ [_] N_X0_81 rfl dX0_complaint_24 rfl rfl rfl (xwk_complaints hm) rfl ?_
    refine ct_J2_get (xwk_complaints hm) g101 ?_
    obtain ⟨g102, hw⟩ := hw
    refine r_cast (q := 30) q1124 rfl dX0_complaint_27 rfl g102 ?_
    have hw := hw _ rfl
    refine r_astore_n (q := 31) (lv' := [(0, _), (1, _), (2, _), (3, _)]) dX0_complaint_30 rfl (Nat.le_of_ble_eq_true rfl) rfl ?_
    refine r_iload_n (q := 32) dX0_complaint_31 rfl 2 rfl ?_
    by_cases c0 : x2 = 0
    · have hw := hw.1 c0
      refine r_tabK (tg := 72) dX0_complaint_32 c0 (by decide) (by decide) rfl (by decide) ?_
      refine r_aload_n (q := 73) dX0_complaint_72 rfl 3 rfl ?_
      refine r_getR (q := 76) L_X0_513 dX0_complaint_73 rfl g102 rfl ?_
      obtain ⟨g104, hw⟩ := hw
      refine r_getI (q := 79) L_X0_499 dX0_complaint_76 rfl g104 ?_
      exact r_iret dX0_complaint_79 rfl hw
    · have hw := hw.2 c0
      by_cases c1 : x2 = 1
      · have hw := hw.1 c1
        refine r_tabK (tg := 80) dX0_complaint_32 c1 (by decide) (by decide) rfl (by decide) ?_
        refine r_aload_n (q := 81) dX0_complaint_80 rfl 3 rfl ?_
        refine r_getI (q := 84) L_X0_514 dX0_complaint_81 rfl g102 ?_
        exact r_iret dX0_complaint_84 rfl hw
      · have hw := hw.2 c1
        by_cases c2 : x2 = 2
        · have hw := hw.1 c2
          refine r_tabK (tg := 85) dX0_complaint_32 c2 (by decide) (by decide) rfl (by decide) ?_
          refine r_aload_n (q := 86) dX0_complaint_85 rfl 3 rfl ?_
          refine r_getI (q := 89) L_X0_526 dX0_complaint_86 rfl g102 ?_
          exact r_iret dX0_complaint_89 rfl hw
        · have hw := hw.2 c2
          by_cases c3 : x2 = 3
          · have hw := hw.1 c3
            refine r_tabK (tg := 90) dX0_complaint_32 c3 (by decide) (by decide) rfl (by decide) ?_
            refine r_aload_n (q := 91) dX0_complaint_90 rfl 3 rfl ?_
            refine r_getI (q := 94) L_X0_517 dX0_complaint_91 rfl g102 ?_
            exact r_iret dX0_complaint_94 rfl hw
          · have hw := hw.2 c3
            by_cases c4 : x2 = 4
            · have hw := hw.1 c4
              refine r_tabK (tg := 95) dX0_complaint_32 c4 (by decide) (by decide) rfl (by decide) ?_
              refine r_aload_n (q := 96) dX0_complaint_95 rfl 3 rfl ?_
              refine r_getI (q := 99) L_X0_520 dX0_complaint_96 rfl g102 ?_
              exact r_iret dX0_complaint_99 rfl hw
            · have hw := hw.2 c4
              by_cases c5 : x2 = 5
              · have hw := hw.1 c5
                refine r_tabK (tg := 100) dX0_complaint_32 c5 (by decide) (by decide) rfl (by decide) ?_
                refine r_aload_n (q := 101) dX0_complaint_100 rfl 3 rfl ?_
                refine r_getI (q := 104) L_X0_510 dX0_complaint_101 rfl g102 ?_
                refine r_if_eq (tg := 111) (q := 107) dX0_complaint_104 (by decide) rfl (fun c => ?_) (fun c => ?_)
                · have hw := hw.1 c
                  refine r_iconst (q := 112) dX0_complaint_111 rfl kI_0 ?_
                  exact r_iret dX0_complaint_112 rfl hw
                · have hw := hw.2 c
                  refine r_iconst (q := 108) dX0_complaint_107 rfl kI_1 ?_
                  refine r_goto (tg := 112) dX0_complaint_108 (by decide) ?_
                  exact r_iret dX0_complaint_112 rfl hw
              · have hw := hw.2 c5
                have z0 := lv_neT c0 (show (0 : Int32).toInt = 0 by decide)
                have z1 := lv_neT c1 (show (1 : Int32).toInt = 1 by decide)
                have z2 := lv_neT c2 (show (2 : Int32).toInt = 2 by decide)
                have z3 := lv_neT c3 (show (3 : Int32).toInt = 3 by decide)
                have z4 := lv_neT c4 (show (4 : Int32).toInt = 4 by decide)
                have z5 := lv_neT c5 (show (5 : Int32).toInt = 5 by decide)
                refine r_tabOut (tg := 113) dX0_complaint_32 (by omega) (by decide) ?_
                refine r_iconst (q := 114) dX0_complaint_113 rfl kI_m1 ?_
                exact r_iret dX0_complaint_114 rfl hw
  · have hw := hw.2 c
    refine r_iconst (q := 18) dX0_complaint_17 rfl kI_m1 ?_
    exact r_iret dX0_complaint_18 rfl hw
def V_X0_complaint (h : Hp) (xo : Nat) (x1 : Int32) (x2 : Int32) : Int32 := (if (isin x1 0 ((gI h 1102 (xo + 22)) - 1)) = true then (let r103 : Nat := el h (xo + 22) (ix x1); (if x2 = 0 then (gI h 100 (gR h 800 r103)) else (if x2 = 1 then (gI h 802 r103) else (if x2 = 2 then (gI h 803 r103) else (if x2 = 3 then (gI h 804 r103) else (if x2 = 4 then (gI h 805 r103) else (if x2 = 5 then (if (gI h 806 r103) = 0 then 0 else 1) else (-1)))))))) else (-1))
def P_X0_complaint (h : Hp) (xo : Nat) (x1 : Int32) (x2 : Int32) : Prop := ((isin x1 0 ((gI h 1102 (xo + 22)) - 1)) = true → (ALg h (xo + 22) x1) ∧ (kd h (el h (xo + 22) (ix x1)) = 9 ∧ ((let r103 : Nat := el h (xo + 22) (ix x1); (x2 = 0 → kd h (gR h 800 r103) = 2) ∧ (¬ x2 = 0 → True))))) ∧ ((isin x1 0 ((gI h 1102 (xo + 22)) - 1)) = false → True)
theorem ct_X0_complaint {h : Hp} {E : Nat → Hp → Prop} {k n : Nat} {xo : Nat} {x1 : Int32} {x2 : Int32} (hm : XW h xo) (hp : P_X0_complaint h xo x1 x2) {Q : Int32 → Hp → Prop} (hq : Q (V_X0_complaint h xo x1 x2) h) : CtI M_X0_complaint [rV xo, iV x1, iV x2] h k n Q E := by
  unfold P_X0_complaint at hp
  unfold V_X0_complaint at hq
  refine b_X0_complaint_0 hm ?_
  refine ⟨fun c => ?_, fun c => ?_⟩
  · rw [if_pos c] at hq
    have hp := hp.1 c
    refine ⟨hp.1, ?_⟩
    have hp := hp.2
    refine ⟨hp.1, ?_⟩
    have hp := hp.2
    intro r103 er103
    subst er103
    refine ⟨fun c => ?_, fun c => ?_⟩
    · rw [if_pos c] at hq
      have hp := hp.1 c
      refine ⟨hp, ?_⟩
      exact hq
    · rw [if_neg (by first | exact c | exact fun z => z c | (rw [c]; decide))] at hq
      have hp := hp.2 c
      refine ⟨fun c => ?_, fun c => ?_⟩
      · rw [if_pos c] at hq
        exact hq
      · rw [if_neg (by first | exact c | exact fun z => z c | (rw [c]; decide))] at hq
        refine ⟨fun c => ?_, fun c => ?_⟩
        · rw [if_pos c] at hq
          exact hq
        · rw [if_neg (by first | exact c | exact fun z => z c | (rw [c]; decide))] at hq
          refine ⟨fun c => ?_, fun c => ?_⟩
          · rw [if_pos c] at hq
            exact hq
          · rw [if_neg (by first | exact c | exact fun z => z c | (rw [c]; decide))] at hq
            refine ⟨fun c => ?_, fun c => ?_⟩
            · rw [if_pos c] at hq
              exact hq
            · rw [if_neg (by first | exact c | exact fun z => z c | (rw [c]; decide))] at hq
              refine ⟨fun c => ?_, fun c => ?_⟩
              · rw [if_pos c] at hq
                refine ⟨fun c => ?_, fun c => ?_⟩
                · rw [if_pos c] at hq
                  exact hq
                · rw [if_neg (by first | exact c | exact fun z => z c | (rw [c]; decide))] at hq
                  exact hq
              · rw [if_neg (by first | exact c | exact fun z => z c | (rw [c]; decide))] at hq
                exact hq
  · rw [if_neg (by first | exact c | exact fun z => z c | (rw [c]; decide))] at hq
    have hp := hp.2 c
    exact hq
theorem b_X3_complaint_0 {x1 x2 : Int32} {mo : Nat} {h : Hp} {k n : Nat} {Q : Int32 → Hp → Prop} {E : Nat → Hp → Prop} (hm : MW h mo) (hw : ((isin x1 0 ((gI h 1006 mo) - 1)) = true → (x2 = 0 → vp_in x1 60 ∧ (Q (eI h (mo + 44) (ix x1)) h)) ∧ (¬ x2 = 0 → (x2 = 1 → vp_in x1 60 ∧ (Q (eI h (mo + 45) (ix x1)) h)) ∧ (¬ x2 = 1 → (x2 = 2 → vp_in x1 60 ∧ (Q (eI h (mo + 46) (ix x1)) h)) ∧ (¬ x2 = 2 → (x2 = 3 → vp_in x1 60 ∧ (Q (eI h (mo + 47) (ix x1)) h)) ∧ (¬ x2 = 3 → (x2 = 4 → vp_in x1 60 ∧ (Q (eI h (mo + 48) (ix x1)) h)) ∧ (¬ x2 = 4 → (x2 = 5 → vp_in x1 60 ∧ (Q (b1 (nz (eI h (mo + 49) (ix x1)))) h)) ∧ (¬ x2 = 5 → Q (-1) h))))))) ∧ ((isin x1 0 ((gI h 1006 mo) - 1)) = false → Q (-1) h)) : Rn M_X3_complaint 0 [(0, rV mo), (1, iV x1), (2, iV x2)] [] h k n (qI Q) E := by
  refine r_iload_n (q := 1) dX3_complaint_0 rfl 1 rfl ?_
  refine r_iconst (q := 2) dX3_complaint_1 rfl kI_0 ?_
  refine r_aload_n (q := 3) dX3_complaint_2 rfl 0 rfl ?_
  refine r_getI (q := 6) L_X3_338 dX3_complaint_3 rfl (mw_k hm) ?_
  refine r_iconst (q := 7) dX3_complaint_6 rfl kI_1 ?_
  refine r_isub (q := 8) dX3_complaint_7 rfl ?_
  refine r_cSI0 (q := 11) [_, _, _] N_X3_194 dX3_complaint_8 rfl rfl rfl rfl ?_
  refine ct_X3_isIn  ?_
  refine r_ifb_ne (tg := 16) (q := 14) dX3_complaint_11 (by decide) rfl (fun c => ?_) (fun c => ?_)
  · have hw := hw.1 c
    refine r_iload_n (q := 17) dX3_complaint_16 rfl 2 rfl ?_
    by_cases c0 : x2 = 0
    · have hw := hw.1 c0
      refine r_tabK (tg := 56) dX3_complaint_17 c0 (by decide) (by decide) rfl (by decide) ?_
      refine r_aload_n (q := 57) dX3_complaint_56 rfl 0 rfl ?_
      refine r_getR (q := 60) L_X3_141 dX3_complaint_57 rfl (mw_k hm) (mwr_atCorner hm) ?_
      refine r_iload_n (q := 61) dX3_complaint_60 rfl 1 rfl ?_
      obtain ⟨g101, hw⟩ := hw
      refine r_ialdL (q := 62) dX3_complaint_61 rfl (mwk_atCorner hm) (mwl_atCorner hm) g101 ?_
      exact r_iret dX3_complaint_62 rfl hw
    · have hw := hw.2 c0
      by_cases c1 : x2 = 1
      · have hw := hw.1 c1
        refine r_tabK (tg := 63) dX3_complaint_17 c1 (by decide) (by decide) rfl (by decide) ?_
        refine r_aload_n (q := 64) dX3_complaint_63 rfl 0 rfl ?_
        refine r_getR (q := 67) L_X3_144 dX3_complaint_64 rfl (mw_k hm) (mwr_ofKind hm) ?_
        refine r_iload_n (q := 68) dX3_complaint_67 rfl 1 rfl ?_
        obtain ⟨g102, hw⟩ := hw
        refine r_ialdL (q := 69) dX3_complaint_68 rfl (mwk_ofKind hm) (mwl_ofKind hm) g102 ?_
        exact r_iret dX3_complaint_69 rfl hw
      · have hw := hw.2 c1
        by_cases c2 : x2 = 2
        · have hw := hw.1 c2
          refine r_tabK (tg := 70) dX3_complaint_17 c2 (by decide) (by decide) rfl (by decide) ?_
          refine r_aload_n (q := 71) dX3_complaint_70 rfl 0 rfl ?_
          refine r_getR (q := 74) L_X3_147 dX3_complaint_71 rfl (mw_k hm) (mwr_toldOn hm) ?_
          refine r_iload_n (q := 75) dX3_complaint_74 rfl 1 rfl ?_
          obtain ⟨g103, hw⟩ := hw
          refine r_ialdL (q := 76) dX3_complaint_75 rfl (mwk_toldOn hm) (mwl_toldOn hm) g103 ?_
          exact r_iret dX3_complaint_76 rfl hw
        · have hw := hw.2 c2
          by_cases c3 : x2 = 3
          · have hw := hw.1 c3
            refine r_tabK (tg := 77) dX3_complaint_17 c3 (by decide) (by decide) rfl (by decide) ?_
            refine r_aload_n (q := 78) dX3_complaint_77 rfl 0 rfl ?_
            refine r_getR (q := 81) L_X3_150 dX3_complaint_78 rfl (mw_k hm) (mwr_joinedOn hm) ?_
            refine r_iload_n (q := 82) dX3_complaint_81 rfl 1 rfl ?_
            obtain ⟨g104, hw⟩ := hw
            refine r_ialdL (q := 83) dX3_complaint_82 rfl (mwk_joinedOn hm) (mwl_joinedOn hm) g104 ?_
            exact r_iret dX3_complaint_83 rfl hw
          · have hw := hw.2 c3
            by_cases c4 : x2 = 4
            · have hw := hw.1 c4
              refine r_tabK (tg := 84) dX3_complaint_17 c4 (by decide) (by decide) rfl (by decide) ?_
              refine r_aload_n (q := 85) dX3_complaint_84 rfl 0 rfl ?_
              refine r_getR (q := 88) L_X3_153 dX3_complaint_85 rfl (mw_k hm) (mwr_often hm) ?_
              refine r_iload_n (q := 89) dX3_complaint_88 rfl 1 rfl ?_
              obtain ⟨g105, hw⟩ := hw
              refine r_ialdL (q := 90) dX3_complaint_89 rfl (mwk_often hm) (mwl_often hm) g105 ?_
              exact r_iret dX3_complaint_90 rfl hw
            · have hw := hw.2 c4
              by_cases c5 : x2 = 5
              · have hw := hw.1 c5
                refine r_tabK (tg := 91) dX3_complaint_17 c5 (by decide) (by decide) rfl (by decide) ?_
                refine r_aload_n (q := 92) dX3_complaint_91 rfl 0 rfl ?_
                refine r_getR (q := 95) L_X3_156 dX3_complaint_92 rfl (mw_k hm) (mwr_isOpen hm) ?_
                refine r_iload_n (q := 96) dX3_complaint_95 rfl 1 rfl ?_
                obtain ⟨g106, hw⟩ := hw
                refine r_zaldL (q := 97) dX3_complaint_96 rfl (mwk_isOpen hm) (mwl_isOpen hm) g106 ?_
                refine r_cSI0 (q := 100) [_] N_X3_319 dX3_complaint_97 rfl rfl rfl rfl ?_
                refine ct_X3_one  ?_
                exact r_iret dX3_complaint_100 rfl hw
              · have hw := hw.2 c5
                have z0 := lv_neT c0 (show (0 : Int32).toInt = 0 by decide)
                have z1 := lv_neT c1 (show (1 : Int32).toInt = 1 by decide)
                have z2 := lv_neT c2 (show (2 : Int32).toInt = 2 by decide)
                have z3 := lv_neT c3 (show (3 : Int32).toInt = 3 by decide)
                have z4 := lv_neT c4 (show (4 : Int32).toInt = 4 by decide)
                have z5 := lv_neT c5 (show (5 : Int32).toInt = 5 by decide)
                refine r_tabOut (tg := 101) dX3_complaint_17 (by omega) (by decide) ?_
                refine r_iconst (q := 102) dX3_complaint_101 rfl kI_m1 ?_
                exact r_iret dX3_complaint_102 rfl hw
  · have hw := hw.2 c
    refine r_iconst (q := 15) dX3_complaint_14 rfl kI_m1 ?_
    exact r_iret dX3_complaint_15 rfl hw
def V_X3_complaint (h : Hp) (mo : Nat) (x1 : Int32) (x2 : Int32) : Int32 := (if (isin x1 0 ((gI h 1006 mo) - 1)) = true then (if x2 = 0 then (eI h (mo + 44) (ix x1)) else (if x2 = 1 then (eI h (mo + 45) (ix x1)) else (if x2 = 2 then (eI h (mo + 46) (ix x1)) else (if x2 = 3 then (eI h (mo + 47) (ix x1)) else (if x2 = 4 then (eI h (mo + 48) (ix x1)) else (if x2 = 5 then (b1 (nz (eI h (mo + 49) (ix x1)))) else (-1))))))) else (-1))
def P_X3_complaint (h : Hp) (mo : Nat) (x1 : Int32) (x2 : Int32) : Prop := ((isin x1 0 ((gI h 1006 mo) - 1)) = true → (x2 = 0 → vp_in x1 60) ∧ (¬ x2 = 0 → (x2 = 1 → vp_in x1 60) ∧ (¬ x2 = 1 → (x2 = 2 → vp_in x1 60) ∧ (¬ x2 = 2 → (x2 = 3 → vp_in x1 60) ∧ (¬ x2 = 3 → (x2 = 4 → vp_in x1 60) ∧ (¬ x2 = 4 → (x2 = 5 → vp_in x1 60) ∧ (¬ x2 = 5 → True))))))) ∧ ((isin x1 0 ((gI h 1006 mo) - 1)) = false → True)
theorem ct_X3_complaint {h : Hp} {E : Nat → Hp → Prop} {k n : Nat} {mo : Nat} {x1 : Int32} {x2 : Int32} (hm : MW h mo) (hp : P_X3_complaint h mo x1 x2) {Q : Int32 → Hp → Prop} (hq : Q (V_X3_complaint h mo x1 x2) h) : CtI M_X3_complaint [rV mo, iV x1, iV x2] h k n Q E := by
  unfold P_X3_complaint at hp
  unfold V_X3_complaint at hq
  refine b_X3_complaint_0 hm ?_
  refine ⟨fun c => ?_, fun c => ?_⟩
  · rw [if_pos c] at hq
    have hp := hp.1 c
    refine ⟨fun c => ?_, fun c => ?_⟩
    · rw [if_pos c] at hq
      have hp := hp.1 c
      refine ⟨hp, ?_⟩
      exact hq
    · rw [if_neg (by first | exact c | exact fun z => z c | (rw [c]; decide))] at hq
      have hp := hp.2 c
      refine ⟨fun c => ?_, fun c => ?_⟩
      · rw [if_pos c] at hq
        have hp := hp.1 c
        refine ⟨hp, ?_⟩
        exact hq
      · rw [if_neg (by first | exact c | exact fun z => z c | (rw [c]; decide))] at hq
        have hp := hp.2 c
        refine ⟨fun c => ?_, fun c => ?_⟩
        · rw [if_pos c] at hq
          have hp := hp.1 c
          refine ⟨hp, ?_⟩
          exact hq
        · rw [if_neg (by first | exact c | exact fun z => z c | (rw [c]; decide))] at hq
          have hp := hp.2 c
          refine ⟨fun c => ?_, fun c => ?_⟩
          · rw [if_pos c] at hq
            have hp := hp.1 c
            refine ⟨hp, ?_⟩
            exact hq
          · rw [if_neg (by first | exact c | exact fun z => z c | (rw [c]; decide))] at hq
            have hp := hp.2 c
            refine ⟨fun c => ?_, fun c => ?_⟩
            · rw [if_pos c] at hq
              have hp := hp.1 c
              refine ⟨hp, ?_⟩
              exact hq
            · rw [if_neg (by first | exact c | exact fun z => z c | (rw [c]; decide))] at hq
              have hp := hp.2 c
              refine ⟨fun c => ?_, fun c => ?_⟩
              · rw [if_pos c] at hq
                have hp := hp.1 c
                refine ⟨hp, ?_⟩
                exact hq
              · rw [if_neg (by first | exact c | exact fun z => z c | (rw [c]; decide))] at hq
                have hp := hp.2 c
                exact hq
  · rw [if_neg (by first | exact c | exact fun z => z c | (rw [c]; decide))] at hq
    have hp := hp.2 c
    exact hq
theorem b_X0_clear_0 {xo : Nat} {h : Hp} {k n : Nat} {Q : Int32 → Hp → Prop} {E : Nat → Hp → Prop} (hm : XW h xo) (hw : ∀ x101 : Int32, x101 = gI h 23 xo → ∀ h102 : Hp, h102 = pI h 23 xo 0 → Q x101 h102) : Rn M_X0_clear 0 [(0, rV xo)] [] h k n (qI Q) E := by
  refine r_aload_n (q := 1) dX0_clear_0 rfl 0 rfl ?_
  refine r_getI (q := 4) L_X0_379 dX0_clear_1 rfl (xw_k hm) ?_
  have hw := hw _ rfl
  refine r_istore_n (q := 5) (lv' := [(0, _), (1, _)]) dX0_clear_4 rfl (Nat.le_of_ble_eq_true rfl) rfl ?_
  refine r_aload_n (q := 6) dX0_clear_5 rfl 0 rfl ?_
  refine r_iconst (q := 7) dX0_clear_6 rfl kI_0 ?_
  refine r_putI (q := 10) L_X0_379 dX0_clear_7 rfl (xw_k hm) ?_
  refine r_xw_pI hm (fun hm => ?_)
  have hw := hw _ rfl
  refine r_iload_n (q := 11) dX0_clear_10 rfl 1 rfl ?_
  exact r_iret dX0_clear_11 rfl hw
def F_X0_clear (h : Hp) (xo : Nat) : Int32 × Hp := (let x101 : Int32 := gI h 23 xo; (let h102 : Hp := pI h 23 xo 0; (x101, h102)))
theorem ct_X0_clear {h : Hp} {E : Nat → Hp → Prop} {k n : Nat} {xo : Nat} (hm : XW h xo) {Q : Int32 → Hp → Prop} (hq : Q (F_X0_clear h xo).1 (F_X0_clear h xo).2) : CtI M_X0_clear [rV xo] h k n Q E := by
  unfold F_X0_clear at hq
  refine b_X0_clear_0 hm ?_
  intro x101 ex101
  subst ex101
  intro h102 eh102
  subst eh102
  exact hq
theorem b_X3_clear_0 {mo : Nat} {h : Hp} {k n : Nat} {Q : Int32 → Hp → Prop} {E : Nat → Hp → Prop} (hm : MW h mo) (hw : ∀ x101 : Int32, x101 = gI h 1003 mo → ∀ h102 : Hp, h102 = pI h 1003 mo 0 → Q x101 h102) : Rn M_X3_clear 0 [(0, rV mo)] [] h k n (qI Q) E := by
  refine r_aload_n (q := 1) dX3_clear_0 rfl 0 rfl ?_
  refine r_getI (q := 4) L_X3_257 dX3_clear_1 rfl (mw_k hm) ?_
  have hw := hw _ rfl
  refine r_istore_n (q := 5) (lv' := [(0, _), (1, _)]) dX3_clear_4 rfl (Nat.le_of_ble_eq_true rfl) rfl ?_
  refine r_aload_n (q := 6) dX3_clear_5 rfl 0 rfl ?_
  refine r_iconst (q := 7) dX3_clear_6 rfl kI_0 ?_
  refine r_putI (q := 10) L_X3_257 dX3_clear_7 rfl (mw_k hm) ?_
  refine r_mw_pI hm (fun hm => ?_)
  have hw := hw _ rfl
  refine r_iload_n (q := 11) dX3_clear_10 rfl 1 rfl ?_
  exact r_iret dX3_clear_11 rfl hw
def F_X3_clear (h : Hp) (mo : Nat) : Int32 × Hp := (let x101 : Int32 := gI h 1003 mo; (let h102 : Hp := pI h 1003 mo 0; (x101, h102)))
theorem ct_X3_clear {h : Hp} {E : Nat → Hp → Prop} {k n : Nat} {mo : Nat} (hm : MW h mo) {Q : Int32 → Hp → Prop} (hq : Q (F_X3_clear h mo).1 (F_X3_clear h mo).2) : CtI M_X3_clear [rV mo] h k n Q E := by
  unfold F_X3_clear at hq
  refine b_X3_clear_0 hm ?_
  intro x101 ex101
  subst ex101
  intro h102 eh102
  subst eh102
  exact hq
theorem b_X0_rain_0 {x1 : Int32} {xo : Nat} {h : Hp} {k n : Nat} {Q : Int32 → Hp → Prop} {E : Nat → Hp → Prop} (hm : XW h xo) (hw : ((isin x1 0 50) = false → Q (-1) h) ∧ ((isin x1 0 50) = true → (¬ (gI h 23 xo) = 30 → vp_in (gI h 23 xo) 30 ∧ (∀ h102 : Hp, h102 = sI h (xo + 12) (ix (gI h 23 xo)) x1 → ∀ h103 : Hp, h103 = pI h102 23 xo ((gI h102 23 xo) + 1) → Q (gI h103 23 xo) h103)) ∧ ((gI h 23 xo) = 30 → Q (-1) h))) : Rn M_X0_rain 0 [(0, rV xo), (1, iV x1)] [] h k n (qI Q) E := by
  refine r_iload_n (q := 1) dX0_rain_0 rfl 1 rfl ?_
  refine r_iconst (q := 2) dX0_rain_1 rfl kI_0 ?_
  refine r_bipush (q := 4) dX0_rain_2 rfl kB_50 ?_
  refine r_cSI0 (q := 7) [_, _, _] N_X0_3 dX0_rain_4 rfl rfl rfl rfl ?_
  refine ct_X0_isIn  ?_
  refine r_ifb_eq (tg := 19) (q := 10) dX0_rain_7 (by decide) rfl (fun c => ?_) (fun c => ?_)
  · have hw := hw.1 c
    refine r_iconst (q := 20) dX0_rain_19 rfl kI_m1 ?_
    exact r_iret dX0_rain_20 rfl hw
  · have hw := hw.2 c
    refine r_aload_n (q := 11) dX0_rain_10 rfl 0 rfl ?_
    refine r_getI (q := 14) L_X0_379 dX0_rain_11 rfl (xw_k hm) ?_
    refine r_bipush (q := 16) dX0_rain_14 rfl kB_30 ?_
    refine r_icmp_ne (tg := 21) (q := 19) dX0_rain_16 (by decide) rfl (fun c => ?_) (fun c => ?_)
    · have hw := hw.1 c
      refine r_aload_n (q := 22) dX0_rain_21 rfl 0 rfl ?_
      refine r_getR (q := 25) L_X0_59 dX0_rain_22 rfl (xw_k hm) (xwr_minutes hm) ?_
      refine r_aload_n (q := 26) dX0_rain_25 rfl 0 rfl ?_
      refine r_getI (q := 29) L_X0_379 dX0_rain_26 rfl (xw_k hm) ?_
      refine r_iload_n (q := 30) dX0_rain_29 rfl 1 rfl ?_
      obtain ⟨g101, hw⟩ := hw
      refine r_iastL (q := 31) dX0_rain_30 rfl (xwk_minutes hm) (xwl_minutes hm) g101 ?_
      refine r_xw_sI hm (fun hm => ?_)
      have hw := hw _ rfl
      refine r_aload_n (q := 32) dX0_rain_31 rfl 0 rfl ?_
      refine r_dup (q := 33) dX0_rain_32 rfl rfl ?_
      refine r_getI (q := 36) L_X0_379 dX0_rain_33 rfl (xw_k hm) ?_
      refine r_iconst (q := 37) dX0_rain_36 rfl kI_1 ?_
      refine r_iadd (q := 38) dX0_rain_37 rfl ?_
      refine r_putI (q := 41) L_X0_379 dX0_rain_38 rfl (xw_k hm) ?_
      refine r_xw_pI hm (fun hm => ?_)
      have hw := hw _ rfl
      refine r_aload_n (q := 42) dX0_rain_41 rfl 0 rfl ?_
      refine r_getI (q := 45) L_X0_379 dX0_rain_42 rfl (xw_k hm) ?_
      exact r_iret dX0_rain_45 rfl hw
    · have hw := hw.2 c
      refine r_iconst (q := 20) dX0_rain_19 rfl kI_m1 ?_
      exact r_iret dX0_rain_20 rfl hw
def F_X0_rain (h : Hp) (xo : Nat) (x1 : Int32) : Int32 × Hp := (if (isin x1 0 50) = false then ((-1), h) else (if ¬ (gI h 23 xo) = 30 then (let h102 : Hp := sI h (xo + 12) (ix (gI h 23 xo)) x1; (let h103 : Hp := pI h102 23 xo ((gI h102 23 xo) + 1); ((gI h103 23 xo), h103))) else ((-1), h)))
def P_X0_rain (h : Hp) (xo : Nat) (x1 : Int32) : Prop := ((isin x1 0 50) = false → True) ∧ ((isin x1 0 50) = true → (¬ (gI h 23 xo) = 30 → vp_in (gI h 23 xo) 30) ∧ ((gI h 23 xo) = 30 → True))
theorem ct_X0_rain {h : Hp} {E : Nat → Hp → Prop} {k n : Nat} {xo : Nat} {x1 : Int32} (hm : XW h xo) (hp : P_X0_rain h xo x1) {Q : Int32 → Hp → Prop} (hq : Q (F_X0_rain h xo x1).1 (F_X0_rain h xo x1).2) : CtI M_X0_rain [rV xo, iV x1] h k n Q E := by
  unfold P_X0_rain at hp
  unfold F_X0_rain at hq
  refine b_X0_rain_0 hm ?_
  refine ⟨fun c => ?_, fun c => ?_⟩
  · rw [if_pos c] at hq
    have hp := hp.1 c
    exact hq
  · rw [if_neg (by first | exact c | exact fun z => z c | (rw [c]; decide))] at hq
    have hp := hp.2 c
    refine ⟨fun c => ?_, fun c => ?_⟩
    · rw [if_pos c] at hq
      have hp := hp.1 c
      refine ⟨hp, ?_⟩
      intro h102 eh102
      subst eh102
      intro h103 eh103
      subst eh103
      exact hq
    · rw [if_neg (by first | exact c | exact fun z => z c | (rw [c]; decide))] at hq
      have hp := hp.2 c
      exact hq
theorem b_X3_rain_0 {x1 : Int32} {mo : Nat} {h : Hp} {k n : Nat} {Q : Int32 → Hp → Prop} {E : Nat → Hp → Prop} (hm : MW h mo) (hw : ((isin x1 0 50) = false → Q (-1) h) ∧ ((isin x1 0 50) = true → (¬ (gI h 1003 mo) = 30 → vp_in (gI h 1003 mo) 30 ∧ (∀ h102 : Hp, h102 = sI h (mo + 26) (ix (gI h 1003 mo)) x1 → ∀ h103 : Hp, h103 = pI h102 1003 mo ((gI h102 1003 mo) + 1) → Q (gI h103 1003 mo) h103)) ∧ ((gI h 1003 mo) = 30 → Q (-1) h))) : Rn M_X3_rain 0 [(0, rV mo), (1, iV x1)] [] h k n (qI Q) E := by
  refine r_iload_n (q := 1) dX3_rain_0 rfl 1 rfl ?_
  refine r_iconst (q := 2) dX3_rain_1 rfl kI_0 ?_
  refine r_bipush (q := 4) dX3_rain_2 rfl kB_50 ?_
  refine r_cSI0 (q := 7) [_, _, _] N_X3_194 dX3_rain_4 rfl rfl rfl rfl ?_
  refine ct_X3_isIn  ?_
  refine r_ifb_eq (tg := 19) (q := 10) dX3_rain_7 (by decide) rfl (fun c => ?_) (fun c => ?_)
  · have hw := hw.1 c
    refine r_iconst (q := 20) dX3_rain_19 rfl kI_m1 ?_
    exact r_iret dX3_rain_20 rfl hw
  · have hw := hw.2 c
    refine r_aload_n (q := 11) dX3_rain_10 rfl 0 rfl ?_
    refine r_getI (q := 14) L_X3_257 dX3_rain_11 rfl (mw_k hm) ?_
    refine r_bipush (q := 16) dX3_rain_14 rfl kB_30 ?_
    refine r_icmp_ne (tg := 21) (q := 19) dX3_rain_16 (by decide) rfl (fun c => ?_) (fun c => ?_)
    · have hw := hw.1 c
      refine r_aload_n (q := 22) dX3_rain_21 rfl 0 rfl ?_
      refine r_getR (q := 25) L_X3_86 dX3_rain_22 rfl (mw_k hm) (mwr_rain hm) ?_
      refine r_aload_n (q := 26) dX3_rain_25 rfl 0 rfl ?_
      refine r_getI (q := 29) L_X3_257 dX3_rain_26 rfl (mw_k hm) ?_
      refine r_iload_n (q := 30) dX3_rain_29 rfl 1 rfl ?_
      obtain ⟨g101, hw⟩ := hw
      refine r_iastL (q := 31) dX3_rain_30 rfl (mwk_rain hm) (mwl_rain hm) g101 ?_
      refine r_mw_sI hm (fun hm => ?_)
      have hw := hw _ rfl
      refine r_aload_n (q := 32) dX3_rain_31 rfl 0 rfl ?_
      refine r_dup (q := 33) dX3_rain_32 rfl rfl ?_
      refine r_getI (q := 36) L_X3_257 dX3_rain_33 rfl (mw_k hm) ?_
      refine r_iconst (q := 37) dX3_rain_36 rfl kI_1 ?_
      refine r_iadd (q := 38) dX3_rain_37 rfl ?_
      refine r_putI (q := 41) L_X3_257 dX3_rain_38 rfl (mw_k hm) ?_
      refine r_mw_pI hm (fun hm => ?_)
      have hw := hw _ rfl
      refine r_aload_n (q := 42) dX3_rain_41 rfl 0 rfl ?_
      refine r_getI (q := 45) L_X3_257 dX3_rain_42 rfl (mw_k hm) ?_
      exact r_iret dX3_rain_45 rfl hw
    · have hw := hw.2 c
      refine r_iconst (q := 20) dX3_rain_19 rfl kI_m1 ?_
      exact r_iret dX3_rain_20 rfl hw
def F_X3_rain (h : Hp) (mo : Nat) (x1 : Int32) : Int32 × Hp := (if (isin x1 0 50) = false then ((-1), h) else (if ¬ (gI h 1003 mo) = 30 then (let h102 : Hp := sI h (mo + 26) (ix (gI h 1003 mo)) x1; (let h103 : Hp := pI h102 1003 mo ((gI h102 1003 mo) + 1); ((gI h103 1003 mo), h103))) else ((-1), h)))
def P_X3_rain (h : Hp) (mo : Nat) (x1 : Int32) : Prop := ((isin x1 0 50) = false → True) ∧ ((isin x1 0 50) = true → (¬ (gI h 1003 mo) = 30 → vp_in (gI h 1003 mo) 30) ∧ ((gI h 1003 mo) = 30 → True))
theorem ct_X3_rain {h : Hp} {E : Nat → Hp → Prop} {k n : Nat} {mo : Nat} {x1 : Int32} (hm : MW h mo) (hp : P_X3_rain h mo x1) {Q : Int32 → Hp → Prop} (hq : Q (F_X3_rain h mo x1).1 (F_X3_rain h mo x1).2) : CtI M_X3_rain [rV mo, iV x1] h k n Q E := by
  unfold P_X3_rain at hp
  unfold F_X3_rain at hq
  refine b_X3_rain_0 hm ?_
  refine ⟨fun c => ?_, fun c => ?_⟩
  · rw [if_pos c] at hq
    have hp := hp.1 c
    exact hq
  · rw [if_neg (by first | exact c | exact fun z => z c | (rw [c]; decide))] at hq
    have hp := hp.2 c
    refine ⟨fun c => ?_, fun c => ?_⟩
    · rw [if_pos c] at hq
      have hp := hp.1 c
      refine ⟨hp, ?_⟩
      intro h102 eh102
      subst eh102
      intro h103 eh103
      subst eh103
      exact hq
    · rw [if_neg (by first | exact c | exact fun z => z c | (rw [c]; decide))] at hq
      have hp := hp.2 c
      exact hq
theorem b_X0_lot_0 {x1 x2 : Int32} {xo : Nat} {h : Hp} {k n : Nat} {Q : Int32 → Hp → Prop} {E : Nat → Hp → Prop} (hm : XW h xo) (hw : ((isin x1 0 9) = false → Q 0 h) ∧ ((isin x1 0 9) = true → ((isin x2 1 100) = true → vp_in x1 10 ∧ (∀ h102 : Hp, h102 = sI h (xo + 1) (ix x1) x2 → Q 1 h102)) ∧ ((isin x2 1 100) = false → Q 0 h))) : Rn M_X0_lot 0 [(0, rV xo), (1, iV x1), (2, iV x2)] [] h k n (qI Q) E := by
  refine r_iload_n (q := 1) dX0_lot_0 rfl 1 rfl ?_
  refine r_iconst (q := 2) dX0_lot_1 rfl kI_0 ?_
  refine r_bipush (q := 4) dX0_lot_2 rfl kB_9 ?_
  refine r_cSI0 (q := 7) [_, _, _] N_X0_3 dX0_lot_4 rfl rfl rfl rfl ?_
  refine ct_X0_isIn  ?_
  refine r_ifb_eq (tg := 20) (q := 10) dX0_lot_7 (by decide) rfl (fun c => ?_) (fun c => ?_)
  · have hw := hw.1 c
    refine r_iconst (q := 21) dX0_lot_20 rfl kI_0 ?_
    exact r_zret dX0_lot_21 rfl (Or.inl rfl) hw
  · have hw := hw.2 c
    refine r_iload_n (q := 11) dX0_lot_10 rfl 2 rfl ?_
    refine r_iconst (q := 12) dX0_lot_11 rfl kI_1 ?_
    refine r_bipush (q := 14) dX0_lot_12 rfl kB_100 ?_
    refine r_cSI0 (q := 17) [_, _, _] N_X0_3 dX0_lot_14 rfl rfl rfl rfl ?_
    refine ct_X0_isIn  ?_
    refine r_ifb_ne (tg := 22) (q := 20) dX0_lot_17 (by decide) rfl (fun c => ?_) (fun c => ?_)
    · have hw := hw.1 c
      refine r_aload_n (q := 23) dX0_lot_22 rfl 0 rfl ?_
      refine r_getR (q := 26) L_X0_13 dX0_lot_23 rfl (xw_k hm) (xwr_drinks hm) ?_
      refine r_iload_n (q := 27) dX0_lot_26 rfl 1 rfl ?_
      refine r_iload_n (q := 28) dX0_lot_27 rfl 2 rfl ?_
      obtain ⟨g101, hw⟩ := hw
      refine r_iastL (q := 29) dX0_lot_28 rfl (xwk_drinks hm) (xwl_drinks hm) g101 ?_
      refine r_xw_sI hm (fun hm => ?_)
      have hw := hw _ rfl
      refine r_iconst (q := 30) dX0_lot_29 rfl kI_1 ?_
      exact r_zret dX0_lot_30 rfl (Or.inr rfl) hw
    · have hw := hw.2 c
      refine r_iconst (q := 21) dX0_lot_20 rfl kI_0 ?_
      exact r_zret dX0_lot_21 rfl (Or.inl rfl) hw
def F_X0_lot (h : Hp) (xo : Nat) (x1 : Int32) (x2 : Int32) : Int32 × Hp := (if (isin x1 0 9) = false then (0, h) else (if (isin x2 1 100) = true then (let h102 : Hp := sI h (xo + 1) (ix x1) x2; (1, h102)) else (0, h)))
def P_X0_lot (h : Hp) (xo : Nat) (x1 : Int32) (x2 : Int32) : Prop := ((isin x1 0 9) = false → True) ∧ ((isin x1 0 9) = true → ((isin x2 1 100) = true → vp_in x1 10) ∧ ((isin x2 1 100) = false → True))
theorem ct_X0_lot {h : Hp} {E : Nat → Hp → Prop} {k n : Nat} {xo : Nat} {x1 : Int32} {x2 : Int32} (hm : XW h xo) (hp : P_X0_lot h xo x1 x2) {Q : Int32 → Hp → Prop} (hq : Q (F_X0_lot h xo x1 x2).1 (F_X0_lot h xo x1 x2).2) : CtI M_X0_lot [rV xo, iV x1, iV x2] h k n Q E := by
  unfold P_X0_lot at hp
  unfold F_X0_lot at hq
  refine b_X0_lot_0 hm ?_
  refine ⟨fun c => ?_, fun c => ?_⟩
  · rw [if_pos c] at hq
    have hp := hp.1 c
    exact hq
  · rw [if_neg (by first | exact c | exact fun z => z c | (rw [c]; decide))] at hq
    have hp := hp.2 c
    refine ⟨fun c => ?_, fun c => ?_⟩
    · rw [if_pos c] at hq
      have hp := hp.1 c
      refine ⟨hp, ?_⟩
      intro h102 eh102
      subst eh102
      exact hq
    · rw [if_neg (by first | exact c | exact fun z => z c | (rw [c]; decide))] at hq
      have hp := hp.2 c
      exact hq
theorem b_X3_lot_0 {x1 x2 : Int32} {mo : Nat} {h : Hp} {k n : Nat} {Q : Int32 → Hp → Prop} {E : Nat → Hp → Prop} (hm : MW h mo) (hw : ((isin x1 0 9) = false → Q 0 h) ∧ ((isin x1 0 9) = true → ((isin x2 1 100) = true → vp_in x1 10 ∧ (∀ h102 : Hp, h102 = sI h (mo + 25) (ix x1) x2 → Q 1 h102)) ∧ ((isin x2 1 100) = false → Q 0 h))) : Rn M_X3_lot 0 [(0, rV mo), (1, iV x1), (2, iV x2)] [] h k n (qI Q) E := by
  refine r_iload_n (q := 1) dX3_lot_0 rfl 1 rfl ?_
  refine r_iconst (q := 2) dX3_lot_1 rfl kI_0 ?_
  refine r_bipush (q := 4) dX3_lot_2 rfl kB_9 ?_
  refine r_cSI0 (q := 7) [_, _, _] N_X3_194 dX3_lot_4 rfl rfl rfl rfl ?_
  refine ct_X3_isIn  ?_
  refine r_ifb_eq (tg := 20) (q := 10) dX3_lot_7 (by decide) rfl (fun c => ?_) (fun c => ?_)
  · have hw := hw.1 c
    refine r_iconst (q := 21) dX3_lot_20 rfl kI_0 ?_
    exact r_zret dX3_lot_21 rfl (Or.inl rfl) hw
  · have hw := hw.2 c
    refine r_iload_n (q := 11) dX3_lot_10 rfl 2 rfl ?_
    refine r_iconst (q := 12) dX3_lot_11 rfl kI_1 ?_
    refine r_bipush (q := 14) dX3_lot_12 rfl kB_100 ?_
    refine r_cSI0 (q := 17) [_, _, _] N_X3_194 dX3_lot_14 rfl rfl rfl rfl ?_
    refine ct_X3_isIn  ?_
    refine r_ifb_ne (tg := 22) (q := 20) dX3_lot_17 (by decide) rfl (fun c => ?_) (fun c => ?_)
    · have hw := hw.1 c
      refine r_aload_n (q := 23) dX3_lot_22 rfl 0 rfl ?_
      refine r_getR (q := 26) L_X3_83 dX3_lot_23 rfl (mw_k hm) (mwr_drinks hm) ?_
      refine r_iload_n (q := 27) dX3_lot_26 rfl 1 rfl ?_
      refine r_iload_n (q := 28) dX3_lot_27 rfl 2 rfl ?_
      obtain ⟨g101, hw⟩ := hw
      refine r_iastL (q := 29) dX3_lot_28 rfl (mwk_drinks hm) (mwl_drinks hm) g101 ?_
      refine r_mw_sI hm (fun hm => ?_)
      have hw := hw _ rfl
      refine r_iconst (q := 30) dX3_lot_29 rfl kI_1 ?_
      exact r_zret dX3_lot_30 rfl (Or.inr rfl) hw
    · have hw := hw.2 c
      refine r_iconst (q := 21) dX3_lot_20 rfl kI_0 ?_
      exact r_zret dX3_lot_21 rfl (Or.inl rfl) hw
def F_X3_lot (h : Hp) (mo : Nat) (x1 : Int32) (x2 : Int32) : Int32 × Hp := (if (isin x1 0 9) = false then (0, h) else (if (isin x2 1 100) = true then (let h102 : Hp := sI h (mo + 25) (ix x1) x2; (1, h102)) else (0, h)))
def P_X3_lot (h : Hp) (mo : Nat) (x1 : Int32) (x2 : Int32) : Prop := ((isin x1 0 9) = false → True) ∧ ((isin x1 0 9) = true → ((isin x2 1 100) = true → vp_in x1 10) ∧ ((isin x2 1 100) = false → True))
theorem ct_X3_lot {h : Hp} {E : Nat → Hp → Prop} {k n : Nat} {mo : Nat} {x1 : Int32} {x2 : Int32} (hm : MW h mo) (hp : P_X3_lot h mo x1 x2) {Q : Int32 → Hp → Prop} (hq : Q (F_X3_lot h mo x1 x2).1 (F_X3_lot h mo x1 x2).2) : CtI M_X3_lot [rV mo, iV x1, iV x2] h k n Q E := by
  unfold P_X3_lot at hp
  unfold F_X3_lot at hq
  refine b_X3_lot_0 hm ?_
  refine ⟨fun c => ?_, fun c => ?_⟩
  · rw [if_pos c] at hq
    have hp := hp.1 c
    exact hq
  · rw [if_neg (by first | exact c | exact fun z => z c | (rw [c]; decide))] at hq
    have hp := hp.2 c
    refine ⟨fun c => ?_, fun c => ?_⟩
    · rw [if_pos c] at hq
      have hp := hp.1 c
      refine ⟨hp, ?_⟩
      intro h102 eh102
      subst eh102
      exact hq
    · rw [if_neg (by first | exact c | exact fun z => z c | (rw [c]; decide))] at hq
      have hp := hp.2 c
      exact hq
theorem b_X6_isCaredBy_0 {x1 : Int32} {this : Nat} {h : Hp} {k n : Nat} {Q : Int32 → Hp → Prop} {E : Nat → Hp → Prop} (hw : kd h this = 4 ∧ ((¬ ((shr (gI h 311 this) x1) &&& 1) = 1 → Q 0 h) ∧ (((shr (gI h 311 this) x1) &&& 1) = 1 → Q 1 h))) : Rn M_X6_isCaredBy 0 [(0, rV this), (1, iV x1)] [] h k n (qI Q) E := by
  refine r_aload_n (q := 1) dX6_isCaredBy_0 rfl 0 rfl ?_
  obtain ⟨g101, hw⟩ := hw
  refine r_getI (q := 4) L_X6_63 dX6_isCaredBy_1 rfl g101 ?_
  refine r_iload_n (q := 5) dX6_isCaredBy_4 rfl 1 rfl ?_
  refine r_ishr (q := 6) dX6_isCaredBy_5 rfl ?_
  refine r_iconst (q := 7) dX6_isCaredBy_6 rfl kI_1 ?_
  refine r_iand (q := 8) dX6_isCaredBy_7 rfl ?_
  refine r_iconst (q := 9) dX6_isCaredBy_8 rfl kI_1 ?_
  refine r_icmp_ne (tg := 16) (q := 12) dX6_isCaredBy_9 (by decide) rfl (fun c => ?_) (fun c => ?_)
  · have hw := hw.1 c
    refine r_iconst (q := 17) dX6_isCaredBy_16 rfl kI_0 ?_
    exact r_zret dX6_isCaredBy_17 rfl (Or.inl rfl) hw
  · have hw := hw.2 c
    refine r_iconst (q := 13) dX6_isCaredBy_12 rfl kI_1 ?_
    refine r_goto (tg := 17) dX6_isCaredBy_13 (by decide) ?_
    exact r_zret dX6_isCaredBy_17 rfl (Or.inr rfl) hw
def V_X6_isCaredBy (h : Hp) (this : Nat) (x1 : Int32) : Int32 := (if ¬ ((shr (gI h 311 this) x1) &&& 1) = 1 then 0 else 1)
def P_X6_isCaredBy (h : Hp) (this : Nat) (x1 : Int32) : Prop := kd h this = 4
theorem ct_X6_isCaredBy {h : Hp} {E : Nat → Hp → Prop} {k n : Nat} {this : Nat} {x1 : Int32} (hp : P_X6_isCaredBy h this x1) {Q : Int32 → Hp → Prop} (hq : Q (V_X6_isCaredBy h this x1) h) : CtI M_X6_isCaredBy [rV this, iV x1] h k n Q E := by
  unfold P_X6_isCaredBy at hp
  unfold V_X6_isCaredBy at hq
  refine b_X6_isCaredBy_0 ?_
  refine ⟨hp, ?_⟩
  refine ⟨fun c => ?_, fun c => ?_⟩
  · rw [if_pos c] at hq
    exact hq
  · rw [if_neg (by first | exact c | exact fun z => z c | (rw [c]; decide))] at hq
    exact hq
theorem b_X0_care_0 {x1 x2 : Int32} {xo : Nat} {h : Hp} {k n : Nat} {Q : Int32 → Hp → Prop} {E : Nat → Hp → Prop} (hm : XW h xo) (hw : (P_X0_bedAt h xo x1) ∧ (∀ r102 : Nat, r102 = V_X0_bedAt h xo x1 → (r102 = 0 → Q 0 h) ∧ (¬ r102 = 0 → ((isin x2 0 10) = false → Q 0 h) ∧ ((isin x2 0 10) = true → kd h r102 = 4 ∧ ((P_X6_isCaredBy h r102 x2) ∧ (((V_X6_isCaredBy h r102 x2) = 0 → ∀ h105 : Hp, h105 = pI h 311 r102 ((gI h 311 r102) ||| (shl 1 x2)) → ∀ h106 : Hp, h106 = pI h105 305 r102 (imax 0 ((gI h105 305 r102) - 30)) → ∀ h107 : Hp, h107 = pI h106 306 r102 0 → Q 1 h107) ∧ (¬ (V_X6_isCaredBy h r102 x2) = 0 → Q 0 h))))))) : Rn M_X0_care 0 [(0, rV xo), (1, iV x1), (2, iV x2)] [] h k n (qI Q) E := by
  refine r_aload_n (q := 1) dX0_care_0 rfl 0 rfl ?_
  refine r_iload_n (q := 2) dX0_care_1 rfl 1 rfl ?_
  obtain ⟨g101, hw⟩ := hw
  refine r_cVR0 (q := 5) _ [_] N_X0_132 rfl dX0_care_2 rfl rfl rfl (xw_k hm) rfl ?_
  refine ct_X0_bedAt hm g101 ?_
  have hw := hw _ rfl
  refine r_astore_n (q := 6) (lv' := [(0, _), (1, _), (2, _), (3, _)]) dX0_care_5 rfl (Nat.le_of_ble_eq_true rfl) rfl ?_
  refine r_aload_n (q := 7) dX0_care_6 rfl 3 rfl ?_
  refine r_ifnull (tg := 28) (q := 10) dX0_care_7 (by decide) rfl (fun c => ?_) (fun c => ?_)
  · have hw := hw.1 c
    refine r_iconst (q := 29) dX0_care_28 rfl kI_0 ?_
    exact r_zret dX0_care_29 rfl (Or.inl rfl) hw
  · have hw := hw.2 c
    refine r_iload_n (q := 11) dX0_care_10 rfl 2 rfl ?_
    refine r_iconst (q := 12) dX0_care_11 rfl kI_0 ?_
    refine r_bipush (q := 14) dX0_care_12 rfl kB_10 ?_
    refine r_cSI0 (q := 17) [_, _, _] N_X0_3 dX0_care_14 rfl rfl rfl rfl ?_
    refine ct_X0_isIn  ?_
    refine r_ifb_eq (tg := 28) (q := 20) dX0_care_17 (by decide) rfl (fun c => ?_) (fun c => ?_)
    · have hw := hw.1 c
      refine r_iconst (q := 29) dX0_care_28 rfl kI_0 ?_
      exact r_zret dX0_care_29 rfl (Or.inl rfl) hw
    · have hw := hw.2 c
      refine r_aload_n (q := 21) dX0_care_20 rfl 3 rfl ?_
      refine r_iload_n (q := 22) dX0_care_21 rfl 2 rfl ?_
      obtain ⟨g103, hw⟩ := hw
      obtain ⟨g104, hw⟩ := hw
      refine r_cVI0 (q := 25) _ [_] N_X0_136 rfl dX0_care_22 rfl rfl rfl g103 rfl ?_
      refine ct_X6_isCaredBy g104 ?_
      refine r_if_eq (tg := 30) (q := 28) dX0_care_25 (by decide) rfl (fun c => ?_) (fun c => ?_)
      · have hw := hw.1 c
        refine r_aload_n (q := 31) dX0_care_30 rfl 3 rfl ?_
        refine r_dup (q := 32) dX0_care_31 rfl rfl ?_
        refine r_getI (q := 35) L_X0_140 dX0_care_32 rfl g103 ?_
        refine r_iconst (q := 36) dX0_care_35 rfl kI_1 ?_
        refine r_iload_n (q := 37) dX0_care_36 rfl 2 rfl ?_
        refine r_ishl (q := 38) dX0_care_37 rfl ?_
        refine r_ior (q := 39) dX0_care_38 rfl ?_
        refine r_putI (q := 42) L_X0_140 dX0_care_39 rfl g103 ?_
        refine r_xw_pI hm (fun hm => ?_)
        refine r_kpI g103 (fun g103 => ?_)
        have hw := hw _ rfl
        refine r_aload_n (q := 43) dX0_care_42 rfl 3 rfl ?_
        refine r_iconst (q := 44) dX0_care_43 rfl kI_0 ?_
        refine r_aload_n (q := 45) dX0_care_44 rfl 3 rfl ?_
        refine r_getI (q := 48) L_X0_143 dX0_care_45 rfl g103 ?_
        refine r_bipush (q := 50) dX0_care_48 rfl kB_30 ?_
        refine r_isub (q := 51) dX0_care_50 rfl ?_
        refine r_mmax (q := 54) q651 dX0_care_51 rfl rfl ?_
        refine r_putI (q := 57) L_X0_143 dX0_care_54 rfl g103 ?_
        refine r_xw_pI hm (fun hm => ?_)
        refine r_kpI g103 (fun g103 => ?_)
        have hw := hw _ rfl
        refine r_aload_n (q := 58) dX0_care_57 rfl 3 rfl ?_
        refine r_iconst (q := 59) dX0_care_58 rfl kI_0 ?_
        refine r_putI (q := 62) L_X0_152 dX0_care_59 rfl g103 ?_
        refine r_xw_pI hm (fun hm => ?_)
        refine r_kpI g103 (fun g103 => ?_)
        have hw := hw _ rfl
        refine r_iconst (q := 63) dX0_care_62 rfl kI_1 ?_
        exact r_zret dX0_care_63 rfl (Or.inr rfl) hw
      · have hw := hw.2 c
        refine r_iconst (q := 29) dX0_care_28 rfl kI_0 ?_
        exact r_zret dX0_care_29 rfl (Or.inl rfl) hw
def F_X0_care (h : Hp) (xo : Nat) (x1 : Int32) (x2 : Int32) : Int32 × Hp := (let r102 : Nat := V_X0_bedAt h xo x1; (if r102 = 0 then (0, h) else (if (isin x2 0 10) = false then (0, h) else (if (V_X6_isCaredBy h r102 x2) = 0 then (let h105 : Hp := pI h 311 r102 ((gI h 311 r102) ||| (shl 1 x2)); (let h106 : Hp := pI h105 305 r102 (imax 0 ((gI h105 305 r102) - 30)); (let h107 : Hp := pI h106 306 r102 0; (1, h107)))) else (0, h)))))
def P_X0_care (h : Hp) (xo : Nat) (x1 : Int32) (x2 : Int32) : Prop := (P_X0_bedAt h xo x1) ∧ ((let r102 : Nat := V_X0_bedAt h xo x1; (r102 = 0 → True) ∧ (¬ r102 = 0 → ((isin x2 0 10) = false → True) ∧ ((isin x2 0 10) = true → kd h r102 = 4 ∧ ((P_X6_isCaredBy h r102 x2))))))
theorem ct_X0_care {h : Hp} {E : Nat → Hp → Prop} {k n : Nat} {xo : Nat} {x1 : Int32} {x2 : Int32} (hm : XW h xo) (hp : P_X0_care h xo x1 x2) {Q : Int32 → Hp → Prop} (hq : Q (F_X0_care h xo x1 x2).1 (F_X0_care h xo x1 x2).2) : CtI M_X0_care [rV xo, iV x1, iV x2] h k n Q E := by
  unfold P_X0_care at hp
  unfold F_X0_care at hq
  refine b_X0_care_0 hm ?_
  refine ⟨hp.1, ?_⟩
  have hp := hp.2
  intro r102 er102
  subst er102
  refine ⟨fun c => ?_, fun c => ?_⟩
  · rw [if_pos c] at hq
    have hp := hp.1 c
    exact hq
  · rw [if_neg (by first | exact c | exact fun z => z c | (rw [c]; decide))] at hq
    have hp := hp.2 c
    refine ⟨fun c => ?_, fun c => ?_⟩
    · rw [if_pos c] at hq
      have hp := hp.1 c
      exact hq
    · rw [if_neg (by first | exact c | exact fun z => z c | (rw [c]; decide))] at hq
      have hp := hp.2 c
      refine ⟨hp.1, ?_⟩
      have hp := hp.2
      refine ⟨hp, ?_⟩
      refine ⟨fun c => ?_, fun c => ?_⟩
      · rw [if_pos c] at hq
        intro h105 eh105
        subst eh105
        intro h106 eh106
        subst eh106
        intro h107 eh107
        subst eh107
        exact hq
      · rw [if_neg (by first | exact c | exact fun z => z c | (rw [c]; decide))] at hq
        exact hq
theorem b_X3_care_0 {x1 x2 : Int32} {mo : Nat} {h : Hp} {k n : Nat} {Q : Int32 → Hp → Prop} {E : Nat → Hp → Prop} (hm : MW h mo) (hw : (P_X3_isBed h mo x1) ∧ (((V_X3_isBed h mo x1) = 0 → Q 0 h) ∧ (¬ (V_X3_isBed h mo x1) = 0 → ((isin x2 0 10) = false → Q 0 h) ∧ ((isin x2 0 10) = true → vp_in ((11 * x1) + x2) 132 ∧ ((¬ (eI h (mo + 18) (ix ((11 * x1) + x2))) = (gI h 1000 mo) → vp_in ((11 * x1) + x2) 132 ∧ (∀ h104 : Hp, h104 = sI h (mo + 18) (ix ((11 * x1) + x2)) (gI h 1000 mo) → vp_in x1 12 ∧ (vp_in x1 12 ∧ (∀ h107 : Hp, h107 = sI h104 (mo + 12) (ix x1) (imax 0 ((eI h104 (mo + 12) (ix x1)) - 30)) → vp_in x1 12 ∧ (∀ h109 : Hp, h109 = sI h107 (mo + 13) (ix x1) 0 → Q 1 h109))))) ∧ ((eI h (mo + 18) (ix ((11 * x1) + x2))) = (gI h 1000 mo) → Q 0 h)))))) : Rn M_X3_care 0 [(0, rV mo), (1, iV x1), (2, iV x2)] [] h k n (qI Q) E := by
  refine r_aload_n (q := 1) dX3_care_0 rfl 0 rfl ?_
  refine r_iload_n (q := 2) dX3_care_1 rfl 1 rfl ?_
  obtain ⟨g101, hw⟩ := hw
  refine r_cVI0 (q := 5) _ [_] N_X3_219 rfl dX3_care_2 rfl rfl rfl (mw_k hm) rfl ?_
  refine ct_X3_isBed hm g101 ?_
  refine r_if_eq (tg := 36) (q := 8) dX3_care_5 (by decide) rfl (fun c => ?_) (fun c => ?_)
  · have hw := hw.1 c
    refine r_iconst (q := 37) dX3_care_36 rfl kI_0 ?_
    exact r_zret dX3_care_37 rfl (Or.inl rfl) hw
  · have hw := hw.2 c
    refine r_iload_n (q := 9) dX3_care_8 rfl 2 rfl ?_
    refine r_iconst (q := 10) dX3_care_9 rfl kI_0 ?_
    refine r_bipush (q := 12) dX3_care_10 rfl kB_10 ?_
    refine r_cSI0 (q := 15) [_, _, _] N_X3_194 dX3_care_12 rfl rfl rfl rfl ?_
    refine ct_X3_isIn  ?_
    refine r_ifb_eq (tg := 36) (q := 18) dX3_care_15 (by decide) rfl (fun c => ?_) (fun c => ?_)
    · have hw := hw.1 c
      refine r_iconst (q := 37) dX3_care_36 rfl kI_0 ?_
      exact r_zret dX3_care_37 rfl (Or.inl rfl) hw
    · have hw := hw.2 c
      refine r_aload_n (q := 19) dX3_care_18 rfl 0 rfl ?_
      refine r_getR (q := 22) L_X3_62 dX3_care_19 rfl (mw_k hm) (mwr_caredOn hm) ?_
      refine r_bipush (q := 24) dX3_care_22 rfl kB_11 ?_
      refine r_iload_n (q := 25) dX3_care_24 rfl 1 rfl ?_
      refine r_imul (q := 26) dX3_care_25 rfl ?_
      refine r_iload_n (q := 27) dX3_care_26 rfl 2 rfl ?_
      refine r_iadd (q := 28) dX3_care_27 rfl ?_
      obtain ⟨g102, hw⟩ := hw
      refine r_ialdL (q := 29) dX3_care_28 rfl (mwk_caredOn hm) (mwl_caredOn hm) g102 ?_
      refine r_aload_n (q := 30) dX3_care_29 rfl 0 rfl ?_
      refine r_getI (q := 33) L_X3_212 dX3_care_30 rfl (mw_k hm) ?_
      refine r_icmp_ne (tg := 38) (q := 36) dX3_care_33 (by decide) rfl (fun c => ?_) (fun c => ?_)
      · have hw := hw.1 c
        refine r_aload_n (q := 39) dX3_care_38 rfl 0 rfl ?_
        refine r_getR (q := 42) L_X3_62 dX3_care_39 rfl (mw_k hm) (mwr_caredOn hm) ?_
        refine r_bipush (q := 44) dX3_care_42 rfl kB_11 ?_
        refine r_iload_n (q := 45) dX3_care_44 rfl 1 rfl ?_
        refine r_imul (q := 46) dX3_care_45 rfl ?_
        refine r_iload_n (q := 47) dX3_care_46 rfl 2 rfl ?_
        refine r_iadd (q := 48) dX3_care_47 rfl ?_
        refine r_aload_n (q := 49) dX3_care_48 rfl 0 rfl ?_
        refine r_getI (q := 52) L_X3_212 dX3_care_49 rfl (mw_k hm) ?_
        obtain ⟨g103, hw⟩ := hw
        refine r_iastL (q := 53) dX3_care_52 rfl (mwk_caredOn hm) (mwl_caredOn hm) g103 ?_
        refine r_mw_sI hm (fun hm => ?_)
        have hw := hw _ rfl
        refine r_aload_n (q := 54) dX3_care_53 rfl 0 rfl ?_
        refine r_getR (q := 57) L_X3_44 dX3_care_54 rfl (mw_k hm) (mwr_clog hm) ?_
        refine r_iload_n (q := 58) dX3_care_57 rfl 1 rfl ?_
        refine r_iconst (q := 59) dX3_care_58 rfl kI_0 ?_
        refine r_aload_n (q := 60) dX3_care_59 rfl 0 rfl ?_
        refine r_getR (q := 63) L_X3_44 dX3_care_60 rfl (mw_k hm) (mwr_clog hm) ?_
        refine r_iload_n (q := 64) dX3_care_63 rfl 1 rfl ?_
        obtain ⟨g105, hw⟩ := hw
        refine r_ialdL (q := 65) dX3_care_64 rfl (mwk_clog hm) (mwl_clog hm) g105 ?_
        refine r_bipush (q := 67) dX3_care_65 rfl kB_30 ?_
        refine r_isub (q := 68) dX3_care_67 rfl ?_
        refine r_mmax (q := 71) q1677 dX3_care_68 rfl rfl ?_
        obtain ⟨g106, hw⟩ := hw
        refine r_iastL (q := 72) dX3_care_71 rfl (mwk_clog hm) (mwl_clog hm) g106 ?_
        refine r_mw_sI hm (fun hm => ?_)
        have hw := hw _ rfl
        refine r_aload_n (q := 73) dX3_care_72 rfl 0 rfl ?_
        refine r_getR (q := 76) L_X3_47 dX3_care_73 rfl (mw_k hm) (mwr_leaves hm) ?_
        refine r_iload_n (q := 77) dX3_care_76 rfl 1 rfl ?_
        refine r_iconst (q := 78) dX3_care_77 rfl kI_0 ?_
        obtain ⟨g108, hw⟩ := hw
        refine r_iastL (q := 79) dX3_care_78 rfl (mwk_leaves hm) (mwl_leaves hm) g108 ?_
        refine r_mw_sI hm (fun hm => ?_)
        have hw := hw _ rfl
        refine r_iconst (q := 80) dX3_care_79 rfl kI_1 ?_
        exact r_zret dX3_care_80 rfl (Or.inr rfl) hw
      · have hw := hw.2 c
        refine r_iconst (q := 37) dX3_care_36 rfl kI_0 ?_
        exact r_zret dX3_care_37 rfl (Or.inl rfl) hw
def F_X3_care (h : Hp) (mo : Nat) (x1 : Int32) (x2 : Int32) : Int32 × Hp := (if (V_X3_isBed h mo x1) = 0 then (0, h) else (if (isin x2 0 10) = false then (0, h) else (if ¬ (eI h (mo + 18) (ix ((11 * x1) + x2))) = (gI h 1000 mo) then (let h104 : Hp := sI h (mo + 18) (ix ((11 * x1) + x2)) (gI h 1000 mo); (let h107 : Hp := sI h104 (mo + 12) (ix x1) (imax 0 ((eI h104 (mo + 12) (ix x1)) - 30)); (let h109 : Hp := sI h107 (mo + 13) (ix x1) 0; (1, h109)))) else (0, h))))
def P_X3_care (h : Hp) (mo : Nat) (x1 : Int32) (x2 : Int32) : Prop := (P_X3_isBed h mo x1) ∧ (((V_X3_isBed h mo x1) = 0 → True) ∧ (¬ (V_X3_isBed h mo x1) = 0 → ((isin x2 0 10) = false → True) ∧ ((isin x2 0 10) = true → vp_in ((11 * x1) + x2) 132 ∧ ((¬ (eI h (mo + 18) (ix ((11 * x1) + x2))) = (gI h 1000 mo) → vp_in ((11 * x1) + x2) 132 ∧ ((let h104 : Hp := sI h (mo + 18) (ix ((11 * x1) + x2)) (gI h 1000 mo); vp_in x1 12 ∧ (vp_in x1 12 ∧ ((let h107 : Hp := sI h104 (mo + 12) (ix x1) (imax 0 ((eI h104 (mo + 12) (ix x1)) - 30)); vp_in x1 12)))))) ∧ ((eI h (mo + 18) (ix ((11 * x1) + x2))) = (gI h 1000 mo) → True)))))
theorem ct_X3_care {h : Hp} {E : Nat → Hp → Prop} {k n : Nat} {mo : Nat} {x1 : Int32} {x2 : Int32} (hm : MW h mo) (hp : P_X3_care h mo x1 x2) {Q : Int32 → Hp → Prop} (hq : Q (F_X3_care h mo x1 x2).1 (F_X3_care h mo x1 x2).2) : CtI M_X3_care [rV mo, iV x1, iV x2] h k n Q E := by
  unfold P_X3_care at hp
  unfold F_X3_care at hq
  refine b_X3_care_0 hm ?_
  refine ⟨hp.1, ?_⟩
  have hp := hp.2
  refine ⟨fun c => ?_, fun c => ?_⟩
  · rw [if_pos c] at hq
    have hp := hp.1 c
    exact hq
  · rw [if_neg (by first | exact c | exact fun z => z c | (rw [c]; decide))] at hq
    have hp := hp.2 c
    refine ⟨fun c => ?_, fun c => ?_⟩
    · rw [if_pos c] at hq
      have hp := hp.1 c
      exact hq
    · rw [if_neg (by first | exact c | exact fun z => z c | (rw [c]; decide))] at hq
      have hp := hp.2 c
      refine ⟨hp.1, ?_⟩
      have hp := hp.2
      refine ⟨fun c => ?_, fun c => ?_⟩
      · rw [if_pos c] at hq
        have hp := hp.1 c
        refine ⟨hp.1, ?_⟩
        have hp := hp.2
        intro h104 eh104
        subst eh104
        refine ⟨hp.1, ?_⟩
        have hp := hp.2
        refine ⟨hp.1, ?_⟩
        have hp := hp.2
        intro h107 eh107
        subst eh107
        refine ⟨hp, ?_⟩
        intro h109 eh109
        subst eh109
        exact hq
      · rw [if_neg (by first | exact c | exact fun z => z c | (rw [c]; decide))] at hq
        have hp := hp.2 c
        exact hq
theorem b_X0_treat_0 {x1 x2 : Int32} {xo : Nat} {h : Hp} {k n : Nat} {Q : Int32 → Hp → Prop} {E : Nat → Hp → Prop} (hm : XW h xo) (hw : (P_X0_bedAt h xo x1) ∧ (∀ r102 : Nat, r102 = V_X0_bedAt h xo x1 → (r102 = 0 → Q 0 h) ∧ (¬ r102 = 0 → ((isin x2 0 1) = false → Q 0 h) ∧ ((isin x2 0 1) = true → (¬ x2 = 1 → (¬ x2 = 0 → kd h r102 = 4 ∧ (∀ h104 : Hp, h104 = pI h 312 r102 1 → Q 1 h104)) ∧ (x2 = 0 → kd h r102 = 4 ∧ (∀ h106 : Hp, h106 = pI h 307 r102 (imin 100 ((gI h 307 r102) + 10)) → Q 1 h106))) ∧ (x2 = 1 → kd h r102 = 4 ∧ (((gI h 312 r102) = 0 → (¬ x2 = 0 → ∀ h108 : Hp, h108 = pI h 312 r102 1 → Q 1 h108) ∧ (x2 = 0 → ∀ h109 : Hp, h109 = pI h 307 r102 (imin 100 ((gI h 307 r102) + 10)) → Q 1 h109)) ∧ (¬ (gI h 312 r102) = 0 → Q 0 h))))))) : Rn M_X0_treat 0 [(0, rV xo), (1, iV x1), (2, iV x2)] [] h k n (qI Q) E := by
  refine r_aload_n (q := 1) dX0_treat_0 rfl 0 rfl ?_
  refine r_iload_n (q := 2) dX0_treat_1 rfl 1 rfl ?_
  obtain ⟨g101, hw⟩ := hw
  refine r_cVR0 (q := 5) _ [_] N_X0_132 rfl dX0_treat_2 rfl rfl rfl (xw_k hm) rfl ?_
  refine ct_X0_bedAt hm g101 ?_
  have hw := hw _ rfl
  refine r_astore_n (q := 6) (lv' := [(0, _), (1, _), (2, _), (3, _)]) dX0_treat_5 rfl (Nat.le_of_ble_eq_true rfl) rfl ?_
  refine r_aload_n (q := 7) dX0_treat_6 rfl 3 rfl ?_
  refine r_ifnull (tg := 31) (q := 10) dX0_treat_7 (by decide) rfl (fun c => ?_) (fun c => ?_)
  · have hw := hw.1 c
    refine r_iconst (q := 32) dX0_treat_31 rfl kI_0 ?_
    exact r_zret dX0_treat_32 rfl (Or.inl rfl) hw
  · have hw := hw.2 c
    refine r_iload_n (q := 11) dX0_treat_10 rfl 2 rfl ?_
    refine r_iconst (q := 12) dX0_treat_11 rfl kI_0 ?_
    refine r_iconst (q := 13) dX0_treat_12 rfl kI_1 ?_
    refine r_cSI0 (q := 16) [_, _, _] N_X0_3 dX0_treat_13 rfl rfl rfl rfl ?_
    refine ct_X0_isIn  ?_
    refine r_ifb_eq (tg := 31) (q := 19) dX0_treat_16 (by decide) rfl (fun c => ?_) (fun c => ?_)
    · have hw := hw.1 c
      refine r_iconst (q := 32) dX0_treat_31 rfl kI_0 ?_
      exact r_zret dX0_treat_32 rfl (Or.inl rfl) hw
    · have hw := hw.2 c
      refine r_iload_n (q := 20) dX0_treat_19 rfl 2 rfl ?_
      refine r_iconst (q := 21) dX0_treat_20 rfl kI_1 ?_
      refine r_icmp_ne (tg := 33) (q := 24) dX0_treat_21 (by decide) rfl (fun c => ?_) (fun c => ?_)
      · have hw := hw.1 c
        refine r_iload_n (q := 34) dX0_treat_33 rfl 2 rfl ?_
        refine r_if_ne (tg := 56) (q := 37) dX0_treat_34 (by decide) rfl (fun c => ?_) (fun c => ?_)
        · have hw := hw.1 c
          refine r_aload_n (q := 57) dX0_treat_56 rfl 3 rfl ?_
          refine r_iconst (q := 58) dX0_treat_57 rfl kI_1 ?_
          obtain ⟨g103, hw⟩ := hw
          refine r_putZ (q := 61) L_X0_155 dX0_treat_58 rfl g103 (Or.inr rfl) ?_
          refine r_xw_pI hm (fun hm => ?_)
          refine r_kpI g103 (fun g103 => ?_)
          have hw := hw _ rfl
          refine r_iconst (q := 62) dX0_treat_61 rfl kI_1 ?_
          exact r_zret dX0_treat_62 rfl (Or.inr rfl) hw
        · have hw := hw.2 c
          refine r_aload_n (q := 38) dX0_treat_37 rfl 3 rfl ?_
          refine r_bipush (q := 40) dX0_treat_38 rfl kB_100 ?_
          refine r_aload_n (q := 41) dX0_treat_40 rfl 3 rfl ?_
          obtain ⟨g105, hw⟩ := hw
          refine r_getI (q := 44) L_X0_159 dX0_treat_41 rfl g105 ?_
          refine r_bipush (q := 46) dX0_treat_44 rfl kB_10 ?_
          refine r_iadd (q := 47) dX0_treat_46 rfl ?_
          refine r_mmin (q := 50) q656 dX0_treat_47 rfl rfl ?_
          refine r_putI (q := 53) L_X0_159 dX0_treat_50 rfl g105 ?_
          refine r_xw_pI hm (fun hm => ?_)
          refine r_kpI g105 (fun g105 => ?_)
          have hw := hw _ rfl
          refine r_goto (tg := 61) dX0_treat_53 (by decide) ?_
          refine r_iconst (q := 62) dX0_treat_61 rfl kI_1 ?_
          exact r_zret dX0_treat_62 rfl (Or.inr rfl) hw
      · have hw := hw.2 c
        refine r_aload_n (q := 25) dX0_treat_24 rfl 3 rfl ?_
        obtain ⟨g107, hw⟩ := hw
        refine r_getI (q := 28) L_X0_155 dX0_treat_25 rfl g107 ?_
        refine r_if_eq (tg := 33) (q := 31) dX0_treat_28 (by decide) rfl (fun c => ?_) (fun c => ?_)
        · have hw := hw.1 c
          refine r_iload_n (q := 34) dX0_treat_33 rfl 2 rfl ?_
          refine r_if_ne (tg := 56) (q := 37) dX0_treat_34 (by decide) rfl (fun c => ?_) (fun c => ?_)
          · have hw := hw.1 c
            refine r_aload_n (q := 57) dX0_treat_56 rfl 3 rfl ?_
            refine r_iconst (q := 58) dX0_treat_57 rfl kI_1 ?_
            refine r_putZ (q := 61) L_X0_155 dX0_treat_58 rfl g107 (Or.inr rfl) ?_
            refine r_xw_pI hm (fun hm => ?_)
            refine r_kpI g107 (fun g107 => ?_)
            have hw := hw _ rfl
            refine r_iconst (q := 62) dX0_treat_61 rfl kI_1 ?_
            exact r_zret dX0_treat_62 rfl (Or.inr rfl) hw
          · have hw := hw.2 c
            refine r_aload_n (q := 38) dX0_treat_37 rfl 3 rfl ?_
            refine r_bipush (q := 40) dX0_treat_38 rfl kB_100 ?_
            refine r_aload_n (q := 41) dX0_treat_40 rfl 3 rfl ?_
            refine r_getI (q := 44) L_X0_159 dX0_treat_41 rfl g107 ?_
            refine r_bipush (q := 46) dX0_treat_44 rfl kB_10 ?_
            refine r_iadd (q := 47) dX0_treat_46 rfl ?_
            refine r_mmin (q := 50) q656 dX0_treat_47 rfl rfl ?_
            refine r_putI (q := 53) L_X0_159 dX0_treat_50 rfl g107 ?_
            refine r_xw_pI hm (fun hm => ?_)
            refine r_kpI g107 (fun g107 => ?_)
            have hw := hw _ rfl
            refine r_goto (tg := 61) dX0_treat_53 (by decide) ?_
            refine r_iconst (q := 62) dX0_treat_61 rfl kI_1 ?_
            exact r_zret dX0_treat_62 rfl (Or.inr rfl) hw
        · have hw := hw.2 c
          refine r_iconst (q := 32) dX0_treat_31 rfl kI_0 ?_
          exact r_zret dX0_treat_32 rfl (Or.inl rfl) hw
def F_X0_treat (h : Hp) (xo : Nat) (x1 : Int32) (x2 : Int32) : Int32 × Hp := (let r102 : Nat := V_X0_bedAt h xo x1; (if r102 = 0 then (0, h) else (if (isin x2 0 1) = false then (0, h) else (if ¬ x2 = 1 then (if ¬ x2 = 0 then (let h104 : Hp := pI h 312 r102 1; (1, h104)) else (let h106 : Hp := pI h 307 r102 (imin 100 ((gI h 307 r102) + 10)); (1, h106))) else (if (gI h 312 r102) = 0 then (if ¬ x2 = 0 then (let h108 : Hp := pI h 312 r102 1; (1, h108)) else (let h109 : Hp := pI h 307 r102 (imin 100 ((gI h 307 r102) + 10)); (1, h109))) else (0, h))))))
def P_X0_treat (h : Hp) (xo : Nat) (x1 : Int32) (x2 : Int32) : Prop := (P_X0_bedAt h xo x1) ∧ ((let r102 : Nat := V_X0_bedAt h xo x1; (r102 = 0 → True) ∧ (¬ r102 = 0 → ((isin x2 0 1) = false → True) ∧ ((isin x2 0 1) = true → (¬ x2 = 1 → (¬ x2 = 0 → kd h r102 = 4) ∧ (x2 = 0 → kd h r102 = 4)) ∧ (x2 = 1 → kd h r102 = 4)))))
theorem ct_X0_treat {h : Hp} {E : Nat → Hp → Prop} {k n : Nat} {xo : Nat} {x1 : Int32} {x2 : Int32} (hm : XW h xo) (hp : P_X0_treat h xo x1 x2) {Q : Int32 → Hp → Prop} (hq : Q (F_X0_treat h xo x1 x2).1 (F_X0_treat h xo x1 x2).2) : CtI M_X0_treat [rV xo, iV x1, iV x2] h k n Q E := by
  unfold P_X0_treat at hp
  unfold F_X0_treat at hq
  refine b_X0_treat_0 hm ?_
  refine ⟨hp.1, ?_⟩
  have hp := hp.2
  intro r102 er102
  subst er102
  refine ⟨fun c => ?_, fun c => ?_⟩
  · rw [if_pos c] at hq
    have hp := hp.1 c
    exact hq
  · rw [if_neg (by first | exact c | exact fun z => z c | (rw [c]; decide))] at hq
    have hp := hp.2 c
    refine ⟨fun c => ?_, fun c => ?_⟩
    · rw [if_pos c] at hq
      have hp := hp.1 c
      exact hq
    · rw [if_neg (by first | exact c | exact fun z => z c | (rw [c]; decide))] at hq
      have hp := hp.2 c
      refine ⟨fun c => ?_, fun c => ?_⟩
      · rw [if_pos c] at hq
        have hp := hp.1 c
        refine ⟨fun c => ?_, fun c => ?_⟩
        · rw [if_pos c] at hq
          have hp := hp.1 c
          refine ⟨hp, ?_⟩
          intro h104 eh104
          subst eh104
          exact hq
        · rw [if_neg (by first | exact c | exact fun z => z c | (rw [c]; decide))] at hq
          have hp := hp.2 c
          refine ⟨hp, ?_⟩
          intro h106 eh106
          subst eh106
          exact hq
      · rw [if_neg (by first | exact c | exact fun z => z c | (rw [c]; decide))] at hq
        have hp := hp.2 c
        refine ⟨hp, ?_⟩
        refine ⟨fun c => ?_, fun c => ?_⟩
        · rw [if_pos c] at hq
          refine ⟨fun c => ?_, fun c => ?_⟩
          · rw [if_pos c] at hq
            intro h108 eh108
            subst eh108
            exact hq
          · rw [if_neg (by first | exact c | exact fun z => z c | (rw [c]; decide))] at hq
            intro h109 eh109
            subst eh109
            exact hq
        · rw [if_neg (by first | exact c | exact fun z => z c | (rw [c]; decide))] at hq
          exact hq
theorem b_X3_treat_0 {x1 x2 : Int32} {mo : Nat} {h : Hp} {k n : Nat} {Q : Int32 → Hp → Prop} {E : Nat → Hp → Prop} (hm : MW h mo) (hw : (P_X3_isBed h mo x1) ∧ (((V_X3_isBed h mo x1) = 0 → Q 0 h) ∧ (¬ (V_X3_isBed h mo x1) = 0 → ((isin x2 0 1) = false → Q 0 h) ∧ ((isin x2 0 1) = true → (¬ x2 = 1 → (¬ x2 = 0 → vp_in x1 12 ∧ (∀ h103 : Hp, h103 = sI h (mo + 8) (ix x1) 1 → Q 1 h103)) ∧ (x2 = 0 → vp_in x1 12 ∧ (vp_in x1 12 ∧ (∀ h106 : Hp, h106 = sI h (mo + 14) (ix x1) (imin 100 ((eI h (mo + 14) (ix x1)) + 10)) → Q 1 h106)))) ∧ (x2 = 1 → vp_in x1 12 ∧ (((eI h (mo + 8) (ix x1)) = 0 → (¬ x2 = 0 → vp_in x1 12 ∧ (∀ h109 : Hp, h109 = sI h (mo + 8) (ix x1) 1 → Q 1 h109)) ∧ (x2 = 0 → vp_in x1 12 ∧ (vp_in x1 12 ∧ (∀ h112 : Hp, h112 = sI h (mo + 14) (ix x1) (imin 100 ((eI h (mo + 14) (ix x1)) + 10)) → Q 1 h112)))) ∧ (¬ (eI h (mo + 8) (ix x1)) = 0 → Q 0 h))))))) : Rn M_X3_treat 0 [(0, rV mo), (1, iV x1), (2, iV x2)] [] h k n (qI Q) E := by
  refine r_aload_n (q := 1) dX3_treat_0 rfl 0 rfl ?_
  refine r_iload_n (q := 2) dX3_treat_1 rfl 1 rfl ?_
  obtain ⟨g101, hw⟩ := hw
  refine r_cVI0 (q := 5) _ [_] N_X3_219 rfl dX3_treat_2 rfl rfl rfl (mw_k hm) rfl ?_
  refine ct_X3_isBed hm g101 ?_
  refine r_if_eq (tg := 31) (q := 8) dX3_treat_5 (by decide) rfl (fun c => ?_) (fun c => ?_)
  · have hw := hw.1 c
    refine r_iconst (q := 32) dX3_treat_31 rfl kI_0 ?_
    exact r_zret dX3_treat_32 rfl (Or.inl rfl) hw
  · have hw := hw.2 c
    refine r_iload_n (q := 9) dX3_treat_8 rfl 2 rfl ?_
    refine r_iconst (q := 10) dX3_treat_9 rfl kI_0 ?_
    refine r_iconst (q := 11) dX3_treat_10 rfl kI_1 ?_
    refine r_cSI0 (q := 14) [_, _, _] N_X3_194 dX3_treat_11 rfl rfl rfl rfl ?_
    refine ct_X3_isIn  ?_
    refine r_ifb_eq (tg := 31) (q := 17) dX3_treat_14 (by decide) rfl (fun c => ?_) (fun c => ?_)
    · have hw := hw.1 c
      refine r_iconst (q := 32) dX3_treat_31 rfl kI_0 ?_
      exact r_zret dX3_treat_32 rfl (Or.inl rfl) hw
    · have hw := hw.2 c
      refine r_iload_n (q := 18) dX3_treat_17 rfl 2 rfl ?_
      refine r_iconst (q := 19) dX3_treat_18 rfl kI_1 ?_
      refine r_icmp_ne (tg := 33) (q := 22) dX3_treat_19 (by decide) rfl (fun c => ?_) (fun c => ?_)
      · have hw := hw.1 c
        refine r_iload_n (q := 34) dX3_treat_33 rfl 2 rfl ?_
        refine r_if_ne (tg := 60) (q := 37) dX3_treat_34 (by decide) rfl (fun c => ?_) (fun c => ?_)
        · have hw := hw.1 c
          refine r_aload_n (q := 61) dX3_treat_60 rfl 0 rfl ?_
          refine r_getR (q := 64) L_X3_32 dX3_treat_61 rfl (mw_k hm) (mwr_hasPlants hm) ?_
          refine r_iload_n (q := 65) dX3_treat_64 rfl 1 rfl ?_
          refine r_iconst (q := 66) dX3_treat_65 rfl kI_1 ?_
          obtain ⟨g102, hw⟩ := hw
          refine r_zastL (q := 67) dX3_treat_66 rfl (mwk_hasPlants hm) (mwl_hasPlants hm) g102 (Or.inr rfl) ?_
          refine r_mw_sI hm (fun hm => ?_)
          have hw := hw _ rfl
          refine r_iconst (q := 68) dX3_treat_67 rfl kI_1 ?_
          exact r_zret dX3_treat_68 rfl (Or.inr rfl) hw
        · have hw := hw.2 c
          refine r_aload_n (q := 38) dX3_treat_37 rfl 0 rfl ?_
          refine r_getR (q := 41) L_X3_50 dX3_treat_38 rfl (mw_k hm) (mwr_salt hm) ?_
          refine r_iload_n (q := 42) dX3_treat_41 rfl 1 rfl ?_
          refine r_bipush (q := 44) dX3_treat_42 rfl kB_100 ?_
          refine r_aload_n (q := 45) dX3_treat_44 rfl 0 rfl ?_
          refine r_getR (q := 48) L_X3_50 dX3_treat_45 rfl (mw_k hm) (mwr_salt hm) ?_
          refine r_iload_n (q := 49) dX3_treat_48 rfl 1 rfl ?_
          obtain ⟨g104, hw⟩ := hw
          refine r_ialdL (q := 50) dX3_treat_49 rfl (mwk_salt hm) (mwl_salt hm) g104 ?_
          refine r_bipush (q := 52) dX3_treat_50 rfl kB_10 ?_
          refine r_iadd (q := 53) dX3_treat_52 rfl ?_
          refine r_mmin (q := 56) q1682 dX3_treat_53 rfl rfl ?_
          obtain ⟨g105, hw⟩ := hw
          refine r_iastL (q := 57) dX3_treat_56 rfl (mwk_salt hm) (mwl_salt hm) g105 ?_
          refine r_mw_sI hm (fun hm => ?_)
          have hw := hw _ rfl
          refine r_goto (tg := 67) dX3_treat_57 (by decide) ?_
          refine r_iconst (q := 68) dX3_treat_67 rfl kI_1 ?_
          exact r_zret dX3_treat_68 rfl (Or.inr rfl) hw
      · have hw := hw.2 c
        refine r_aload_n (q := 23) dX3_treat_22 rfl 0 rfl ?_
        refine r_getR (q := 26) L_X3_32 dX3_treat_23 rfl (mw_k hm) (mwr_hasPlants hm) ?_
        refine r_iload_n (q := 27) dX3_treat_26 rfl 1 rfl ?_
        obtain ⟨g107, hw⟩ := hw
        refine r_zaldL (q := 28) dX3_treat_27 rfl (mwk_hasPlants hm) (mwl_hasPlants hm) g107 ?_
        refine r_if_eq (tg := 33) (q := 31) dX3_treat_28 (by decide) rfl (fun c => ?_) (fun c => ?_)
        · have hw := hw.1 c
          refine r_iload_n (q := 34) dX3_treat_33 rfl 2 rfl ?_
          refine r_if_ne (tg := 60) (q := 37) dX3_treat_34 (by decide) rfl (fun c => ?_) (fun c => ?_)
          · have hw := hw.1 c
            refine r_aload_n (q := 61) dX3_treat_60 rfl 0 rfl ?_
            refine r_getR (q := 64) L_X3_32 dX3_treat_61 rfl (mw_k hm) (mwr_hasPlants hm) ?_
            refine r_iload_n (q := 65) dX3_treat_64 rfl 1 rfl ?_
            refine r_iconst (q := 66) dX3_treat_65 rfl kI_1 ?_
            obtain ⟨g108, hw⟩ := hw
            refine r_zastL (q := 67) dX3_treat_66 rfl (mwk_hasPlants hm) (mwl_hasPlants hm) g108 (Or.inr rfl) ?_
            refine r_mw_sI hm (fun hm => ?_)
            have hw := hw _ rfl
            refine r_iconst (q := 68) dX3_treat_67 rfl kI_1 ?_
            exact r_zret dX3_treat_68 rfl (Or.inr rfl) hw
          · have hw := hw.2 c
            refine r_aload_n (q := 38) dX3_treat_37 rfl 0 rfl ?_
            refine r_getR (q := 41) L_X3_50 dX3_treat_38 rfl (mw_k hm) (mwr_salt hm) ?_
            refine r_iload_n (q := 42) dX3_treat_41 rfl 1 rfl ?_
            refine r_bipush (q := 44) dX3_treat_42 rfl kB_100 ?_
            refine r_aload_n (q := 45) dX3_treat_44 rfl 0 rfl ?_
            refine r_getR (q := 48) L_X3_50 dX3_treat_45 rfl (mw_k hm) (mwr_salt hm) ?_
            refine r_iload_n (q := 49) dX3_treat_48 rfl 1 rfl ?_
            obtain ⟨g110, hw⟩ := hw
            refine r_ialdL (q := 50) dX3_treat_49 rfl (mwk_salt hm) (mwl_salt hm) g110 ?_
            refine r_bipush (q := 52) dX3_treat_50 rfl kB_10 ?_
            refine r_iadd (q := 53) dX3_treat_52 rfl ?_
            refine r_mmin (q := 56) q1682 dX3_treat_53 rfl rfl ?_
            obtain ⟨g111, hw⟩ := hw
            refine r_iastL (q := 57) dX3_treat_56 rfl (mwk_salt hm) (mwl_salt hm) g111 ?_
            refine r_mw_sI hm (fun hm => ?_)
            have hw := hw _ rfl
            refine r_goto (tg := 67) dX3_treat_57 (by decide) ?_
            refine r_iconst (q := 68) dX3_treat_67 rfl kI_1 ?_
            exact r_zret dX3_treat_68 rfl (Or.inr rfl) hw
        · have hw := hw.2 c
          refine r_iconst (q := 32) dX3_treat_31 rfl kI_0 ?_
          exact r_zret dX3_treat_32 rfl (Or.inl rfl) hw
def F_X3_treat (h : Hp) (mo : Nat) (x1 : Int32) (x2 : Int32) : Int32 × Hp := (if (V_X3_isBed h mo x1) = 0 then (0, h) else (if (isin x2 0 1) = false then (0, h) else (if ¬ x2 = 1 then (if ¬ x2 = 0 then (let h103 : Hp := sI h (mo + 8) (ix x1) 1; (1, h103)) else (let h106 : Hp := sI h (mo + 14) (ix x1) (imin 100 ((eI h (mo + 14) (ix x1)) + 10)); (1, h106))) else (if (eI h (mo + 8) (ix x1)) = 0 then (if ¬ x2 = 0 then (let h109 : Hp := sI h (mo + 8) (ix x1) 1; (1, h109)) else (let h112 : Hp := sI h (mo + 14) (ix x1) (imin 100 ((eI h (mo + 14) (ix x1)) + 10)); (1, h112))) else (0, h)))))
def P_X3_treat (h : Hp) (mo : Nat) (x1 : Int32) (x2 : Int32) : Prop := (P_X3_isBed h mo x1) ∧ (((V_X3_isBed h mo x1) = 0 → True) ∧ (¬ (V_X3_isBed h mo x1) = 0 → ((isin x2 0 1) = false → True) ∧ ((isin x2 0 1) = true → (¬ x2 = 1 → (¬ x2 = 0 → vp_in x1 12) ∧ (x2 = 0 → vp_in x1 12 ∧ (vp_in x1 12))) ∧ (x2 = 1 → vp_in x1 12 ∧ (((eI h (mo + 8) (ix x1)) = 0 → (¬ x2 = 0 → vp_in x1 12) ∧ (x2 = 0 → vp_in x1 12 ∧ (vp_in x1 12))) ∧ (¬ (eI h (mo + 8) (ix x1)) = 0 → True))))))
theorem ct_X3_treat {h : Hp} {E : Nat → Hp → Prop} {k n : Nat} {mo : Nat} {x1 : Int32} {x2 : Int32} (hm : MW h mo) (hp : P_X3_treat h mo x1 x2) {Q : Int32 → Hp → Prop} (hq : Q (F_X3_treat h mo x1 x2).1 (F_X3_treat h mo x1 x2).2) : CtI M_X3_treat [rV mo, iV x1, iV x2] h k n Q E := by
  unfold P_X3_treat at hp
  unfold F_X3_treat at hq
  refine b_X3_treat_0 hm ?_
  refine ⟨hp.1, ?_⟩
  have hp := hp.2
  refine ⟨fun c => ?_, fun c => ?_⟩
  · rw [if_pos c] at hq
    have hp := hp.1 c
    exact hq
  · rw [if_neg (by first | exact c | exact fun z => z c | (rw [c]; decide))] at hq
    have hp := hp.2 c
    refine ⟨fun c => ?_, fun c => ?_⟩
    · rw [if_pos c] at hq
      have hp := hp.1 c
      exact hq
    · rw [if_neg (by first | exact c | exact fun z => z c | (rw [c]; decide))] at hq
      have hp := hp.2 c
      refine ⟨fun c => ?_, fun c => ?_⟩
      · rw [if_pos c] at hq
        have hp := hp.1 c
        refine ⟨fun c => ?_, fun c => ?_⟩
        · rw [if_pos c] at hq
          have hp := hp.1 c
          refine ⟨hp, ?_⟩
          intro h103 eh103
          subst eh103
          exact hq
        · rw [if_neg (by first | exact c | exact fun z => z c | (rw [c]; decide))] at hq
          have hp := hp.2 c
          refine ⟨hp.1, ?_⟩
          have hp := hp.2
          refine ⟨hp, ?_⟩
          intro h106 eh106
          subst eh106
          exact hq
      · rw [if_neg (by first | exact c | exact fun z => z c | (rw [c]; decide))] at hq
        have hp := hp.2 c
        refine ⟨hp.1, ?_⟩
        have hp := hp.2
        refine ⟨fun c => ?_, fun c => ?_⟩
        · rw [if_pos c] at hq
          have hp := hp.1 c
          refine ⟨fun c => ?_, fun c => ?_⟩
          · rw [if_pos c] at hq
            have hp := hp.1 c
            refine ⟨hp, ?_⟩
            intro h109 eh109
            subst eh109
            exact hq
          · rw [if_neg (by first | exact c | exact fun z => z c | (rw [c]; decide))] at hq
            have hp := hp.2 c
            refine ⟨hp.1, ?_⟩
            have hp := hp.2
            refine ⟨hp, ?_⟩
            intro h112 eh112
            subst eh112
            exact hq
        · rw [if_neg (by first | exact c | exact fun z => z c | (rw [c]; decide))] at hq
          have hp := hp.2 c
          exact hq
theorem b_X0_below_0 {x1 x2 : Int32} {xo : Nat} {h : Hp} {k n : Nat} {Q : Int32 → Hp → Prop} {E : Nat → Hp → Prop} (hm : XW h xo) (hw : (atp h xo x1) ∧ (((atv h xo x1) = 0 → Q 0 h) ∧ (¬ (atv h xo x1) = 0 → (x2 = (-1) → (ALg h (xo + 2) x1) ∧ (kd h (el h (xo + 2) (ix x1)) = 2 ∧ (∀ h104 : Hp, h104 = pI h 105 (el h (xo + 2) (ix x1)) x2 → Q 1 h104))) ∧ (¬ x2 = (-1) → (atp h xo x2) ∧ (((atv h xo x2) = 0 → Q 0 h) ∧ (¬ (atv h xo x2) = 0 → (x1 < x2 → (ALg h (xo + 2) x1) ∧ (kd h (el h (xo + 2) (ix x1)) = 2 ∧ (∀ h108 : Hp, h108 = pI h 105 (el h (xo + 2) (ix x1)) x2 → Q 1 h108))) ∧ (¬ x1 < x2 → Q 0 h))))))) : Rn M_X0_below 0 [(0, rV xo), (1, iV x1), (2, iV x2)] [] h k n (qI Q) E := by
  refine r_aload_n (q := 1) dX0_below_0 rfl 0 rfl ?_
  refine r_iload_n (q := 2) dX0_below_1 rfl 1 rfl ?_
  obtain ⟨g101, hw⟩ := hw
  refine r_cVR0 (q := 5) _ [_] N_X0_87 rfl dX0_below_2 rfl rfl rfl (xw_k hm) rfl ?_
  refine ct_X0_at hm g101 ?_
  refine r_ifnull (tg := 26) (q := 8) dX0_below_5 (by decide) rfl (fun c => ?_) (fun c => ?_)
  · have hw := hw.1 c
    refine r_iconst (q := 27) dX0_below_26 rfl kI_0 ?_
    exact r_zret dX0_below_27 rfl (Or.inl rfl) hw
  · have hw := hw.2 c
    refine r_iload_n (q := 9) dX0_below_8 rfl 2 rfl ?_
    refine r_iconst (q := 10) dX0_below_9 rfl kI_m1 ?_
    refine r_icmp_eq (tg := 28) (q := 13) dX0_below_10 (by decide) rfl (fun c => ?_) (fun c => ?_)
    · have hw := hw.1 c
      refine r_aload_n (q := 29) dX0_below_28 rfl 0 rfl ?_
      refine r_getR (q := 32) L_X0_20 dX0_below_29 rfl (xw_k hm) (xwr_corners hm) ?_
      refine r_iload_n (q := 33) dX0_below_32 rfl 1 rfl ?_
      obtain ⟨g102, hw⟩ := hw
      refine r_cVR0 (q := 36) _ [_] N_X0_81 rfl dX0_below_33 rfl rfl rfl (xwk_corners hm) rfl ?_
      refine ct_J2_get (xwk_corners hm) g102 ?_
      obtain ⟨g103, hw⟩ := hw
      refine r_cast (q := 39) q374 rfl dX0_below_36 rfl g103 ?_
      refine r_iload_n (q := 40) dX0_below_39 rfl 2 rfl ?_
      refine r_putI (q := 43) L_X0_104 dX0_below_40 rfl g103 ?_
      refine r_xw_pI hm (fun hm => ?_)
      refine r_kpI g103 (fun g103 => ?_)
      have hw := hw _ rfl
      refine r_iconst (q := 44) dX0_below_43 rfl kI_1 ?_
      exact r_zret dX0_below_44 rfl (Or.inr rfl) hw
    · have hw := hw.2 c
      refine r_aload_n (q := 14) dX0_below_13 rfl 0 rfl ?_
      refine r_iload_n (q := 15) dX0_below_14 rfl 2 rfl ?_
      obtain ⟨g105, hw⟩ := hw
      refine r_cVR0 (q := 18) _ [_] N_X0_87 rfl dX0_below_15 rfl rfl rfl (xw_k hm) rfl ?_
      refine ct_X0_at hm g105 ?_
      refine r_ifnull (tg := 26) (q := 21) dX0_below_18 (by decide) rfl (fun c => ?_) (fun c => ?_)
      · have hw := hw.1 c
        refine r_iconst (q := 27) dX0_below_26 rfl kI_0 ?_
        exact r_zret dX0_below_27 rfl (Or.inl rfl) hw
      · have hw := hw.2 c
        refine r_iload_n (q := 22) dX0_below_21 rfl 2 rfl ?_
        refine r_iload_n (q := 23) dX0_below_22 rfl 1 rfl ?_
        refine r_icmp_gt (tg := 28) (q := 26) dX0_below_23 (by decide) rfl (fun c => ?_) (fun c => ?_)
        · have hw := hw.1 c
          refine r_aload_n (q := 29) dX0_below_28 rfl 0 rfl ?_
          refine r_getR (q := 32) L_X0_20 dX0_below_29 rfl (xw_k hm) (xwr_corners hm) ?_
          refine r_iload_n (q := 33) dX0_below_32 rfl 1 rfl ?_
          obtain ⟨g106, hw⟩ := hw
          refine r_cVR0 (q := 36) _ [_] N_X0_81 rfl dX0_below_33 rfl rfl rfl (xwk_corners hm) rfl ?_
          refine ct_J2_get (xwk_corners hm) g106 ?_
          obtain ⟨g107, hw⟩ := hw
          refine r_cast (q := 39) q374 rfl dX0_below_36 rfl g107 ?_
          refine r_iload_n (q := 40) dX0_below_39 rfl 2 rfl ?_
          refine r_putI (q := 43) L_X0_104 dX0_below_40 rfl g107 ?_
          refine r_xw_pI hm (fun hm => ?_)
          refine r_kpI g107 (fun g107 => ?_)
          have hw := hw _ rfl
          refine r_iconst (q := 44) dX0_below_43 rfl kI_1 ?_
          exact r_zret dX0_below_44 rfl (Or.inr rfl) hw
        · have hw := hw.2 c
          refine r_iconst (q := 27) dX0_below_26 rfl kI_0 ?_
          exact r_zret dX0_below_27 rfl (Or.inl rfl) hw
def F_X0_below (h : Hp) (xo : Nat) (x1 : Int32) (x2 : Int32) : Int32 × Hp := (if (atv h xo x1) = 0 then (0, h) else (if x2 = (-1) then (let h104 : Hp := pI h 105 (el h (xo + 2) (ix x1)) x2; (1, h104)) else (if (atv h xo x2) = 0 then (0, h) else (if x1 < x2 then (let h108 : Hp := pI h 105 (el h (xo + 2) (ix x1)) x2; (1, h108)) else (0, h)))))
def P_X0_below (h : Hp) (xo : Nat) (x1 : Int32) (x2 : Int32) : Prop := (atp h xo x1) ∧ (((atv h xo x1) = 0 → True) ∧ (¬ (atv h xo x1) = 0 → (x2 = (-1) → (ALg h (xo + 2) x1) ∧ (kd h (el h (xo + 2) (ix x1)) = 2)) ∧ (¬ x2 = (-1) → (atp h xo x2) ∧ (((atv h xo x2) = 0 → True) ∧ (¬ (atv h xo x2) = 0 → (x1 < x2 → (ALg h (xo + 2) x1) ∧ (kd h (el h (xo + 2) (ix x1)) = 2)) ∧ (¬ x1 < x2 → True))))))
theorem ct_X0_below {h : Hp} {E : Nat → Hp → Prop} {k n : Nat} {xo : Nat} {x1 : Int32} {x2 : Int32} (hm : XW h xo) (hp : P_X0_below h xo x1 x2) {Q : Int32 → Hp → Prop} (hq : Q (F_X0_below h xo x1 x2).1 (F_X0_below h xo x1 x2).2) : CtI M_X0_below [rV xo, iV x1, iV x2] h k n Q E := by
  unfold P_X0_below at hp
  unfold F_X0_below at hq
  refine b_X0_below_0 hm ?_
  refine ⟨hp.1, ?_⟩
  have hp := hp.2
  refine ⟨fun c => ?_, fun c => ?_⟩
  · rw [if_pos c] at hq
    have hp := hp.1 c
    exact hq
  · rw [if_neg (by first | exact c | exact fun z => z c | (rw [c]; decide))] at hq
    have hp := hp.2 c
    refine ⟨fun c => ?_, fun c => ?_⟩
    · rw [if_pos c] at hq
      have hp := hp.1 c
      refine ⟨hp.1, ?_⟩
      have hp := hp.2
      refine ⟨hp, ?_⟩
      intro h104 eh104
      subst eh104
      exact hq
    · rw [if_neg (by first | exact c | exact fun z => z c | (rw [c]; decide))] at hq
      have hp := hp.2 c
      refine ⟨hp.1, ?_⟩
      have hp := hp.2
      refine ⟨fun c => ?_, fun c => ?_⟩
      · rw [if_pos c] at hq
        have hp := hp.1 c
        exact hq
      · rw [if_neg (by first | exact c | exact fun z => z c | (rw [c]; decide))] at hq
        have hp := hp.2 c
        refine ⟨fun c => ?_, fun c => ?_⟩
        · rw [if_pos c] at hq
          have hp := hp.1 c
          refine ⟨hp.1, ?_⟩
          have hp := hp.2
          refine ⟨hp, ?_⟩
          intro h108 eh108
          subst eh108
          exact hq
        · rw [if_neg (by first | exact c | exact fun z => z c | (rw [c]; decide))] at hq
          have hp := hp.2 c
          exact hq
theorem b_X3_below_0 {x1 x2 : Int32} {mo : Nat} {h : Hp} {k n : Nat} {Q : Int32 → Hp → Prop} {E : Nat → Hp → Prop} (hm : MW h mo) (hw : ((isin x1 0 (gI h 1001 mo - 1)) = false → Q 0 h) ∧ ((isin x1 0 (gI h 1001 mo - 1)) = true → (x2 = (-1) → vp_in x1 12 ∧ (∀ h102 : Hp, h102 = sI h (mo + 5) (ix x1) x2 → Q 1 h102)) ∧ (¬ x2 = (-1) → ((isin x2 0 (gI h 1001 mo - 1)) = false → Q 0 h) ∧ ((isin x2 0 (gI h 1001 mo - 1)) = true → (x1 < x2 → vp_in x1 12 ∧ (∀ h104 : Hp, h104 = sI h (mo + 5) (ix x1) x2 → Q 1 h104)) ∧ (¬ x1 < x2 → Q 0 h))))) : Rn M_X3_below 0 [(0, rV mo), (1, iV x1), (2, iV x2)] [] h k n (qI Q) E := by
  refine r_aload_n (q := 1) dX3_below_0 rfl 0 rfl ?_
  refine r_iload_n (q := 2) dX3_below_1 rfl 1 rfl ?_
  refine r_cVI0 (q := 5) _ [_] N_X3_198 rfl dX3_below_2 rfl rfl rfl (mw_k hm) rfl ?_
  refine ct_X3_isCorner hm ?_
  refine r_ifb_eq (tg := 26) (q := 8) dX3_below_5 (by decide) rfl (fun c => ?_) (fun c => ?_)
  · have hw := hw.1 c
    refine r_iconst (q := 27) dX3_below_26 rfl kI_0 ?_
    exact r_zret dX3_below_27 rfl (Or.inl rfl) hw
  · have hw := hw.2 c
    refine r_iload_n (q := 9) dX3_below_8 rfl 2 rfl ?_
    refine r_iconst (q := 10) dX3_below_9 rfl kI_m1 ?_
    refine r_icmp_eq (tg := 28) (q := 13) dX3_below_10 (by decide) rfl (fun c => ?_) (fun c => ?_)
    · have hw := hw.1 c
      refine r_aload_n (q := 29) dX3_below_28 rfl 0 rfl ?_
      refine r_getR (q := 32) L_X3_22 dX3_below_29 rfl (mw_k hm) (mwr_below hm) ?_
      refine r_iload_n (q := 33) dX3_below_32 rfl 1 rfl ?_
      refine r_iload_n (q := 34) dX3_below_33 rfl 2 rfl ?_
      obtain ⟨g101, hw⟩ := hw
      refine r_iastL (q := 35) dX3_below_34 rfl (mwk_below hm) (mwl_below hm) g101 ?_
      refine r_mw_sI hm (fun hm => ?_)
      have hw := hw _ rfl
      refine r_iconst (q := 36) dX3_below_35 rfl kI_1 ?_
      exact r_zret dX3_below_36 rfl (Or.inr rfl) hw
    · have hw := hw.2 c
      refine r_aload_n (q := 14) dX3_below_13 rfl 0 rfl ?_
      refine r_iload_n (q := 15) dX3_below_14 rfl 2 rfl ?_
      refine r_cVI0 (q := 18) _ [_] N_X3_198 rfl dX3_below_15 rfl rfl rfl (mw_k hm) rfl ?_
      refine ct_X3_isCorner hm ?_
      refine r_ifb_eq (tg := 26) (q := 21) dX3_below_18 (by decide) rfl (fun c => ?_) (fun c => ?_)
      · have hw := hw.1 c
        refine r_iconst (q := 27) dX3_below_26 rfl kI_0 ?_
        exact r_zret dX3_below_27 rfl (Or.inl rfl) hw
      · have hw := hw.2 c
        refine r_iload_n (q := 22) dX3_below_21 rfl 2 rfl ?_
        refine r_iload_n (q := 23) dX3_below_22 rfl 1 rfl ?_
        refine r_icmp_gt (tg := 28) (q := 26) dX3_below_23 (by decide) rfl (fun c => ?_) (fun c => ?_)
        · have hw := hw.1 c
          refine r_aload_n (q := 29) dX3_below_28 rfl 0 rfl ?_
          refine r_getR (q := 32) L_X3_22 dX3_below_29 rfl (mw_k hm) (mwr_below hm) ?_
          refine r_iload_n (q := 33) dX3_below_32 rfl 1 rfl ?_
          refine r_iload_n (q := 34) dX3_below_33 rfl 2 rfl ?_
          obtain ⟨g103, hw⟩ := hw
          refine r_iastL (q := 35) dX3_below_34 rfl (mwk_below hm) (mwl_below hm) g103 ?_
          refine r_mw_sI hm (fun hm => ?_)
          have hw := hw _ rfl
          refine r_iconst (q := 36) dX3_below_35 rfl kI_1 ?_
          exact r_zret dX3_below_36 rfl (Or.inr rfl) hw
        · have hw := hw.2 c
          refine r_iconst (q := 27) dX3_below_26 rfl kI_0 ?_
          exact r_zret dX3_below_27 rfl (Or.inl rfl) hw
def F_X3_below (h : Hp) (mo : Nat) (x1 : Int32) (x2 : Int32) : Int32 × Hp := (if (isin x1 0 (gI h 1001 mo - 1)) = false then (0, h) else (if x2 = (-1) then (let h102 : Hp := sI h (mo + 5) (ix x1) x2; (1, h102)) else (if (isin x2 0 (gI h 1001 mo - 1)) = false then (0, h) else (if x1 < x2 then (let h104 : Hp := sI h (mo + 5) (ix x1) x2; (1, h104)) else (0, h)))))
def P_X3_below (h : Hp) (mo : Nat) (x1 : Int32) (x2 : Int32) : Prop := ((isin x1 0 (gI h 1001 mo - 1)) = false → True) ∧ ((isin x1 0 (gI h 1001 mo - 1)) = true → (x2 = (-1) → vp_in x1 12) ∧ (¬ x2 = (-1) → ((isin x2 0 (gI h 1001 mo - 1)) = false → True) ∧ ((isin x2 0 (gI h 1001 mo - 1)) = true → (x1 < x2 → vp_in x1 12) ∧ (¬ x1 < x2 → True))))
theorem ct_X3_below {h : Hp} {E : Nat → Hp → Prop} {k n : Nat} {mo : Nat} {x1 : Int32} {x2 : Int32} (hm : MW h mo) (hp : P_X3_below h mo x1 x2) {Q : Int32 → Hp → Prop} (hq : Q (F_X3_below h mo x1 x2).1 (F_X3_below h mo x1 x2).2) : CtI M_X3_below [rV mo, iV x1, iV x2] h k n Q E := by
  unfold P_X3_below at hp
  unfold F_X3_below at hq
  refine b_X3_below_0 hm ?_
  refine ⟨fun c => ?_, fun c => ?_⟩
  · rw [if_pos c] at hq
    have hp := hp.1 c
    exact hq
  · rw [if_neg (by first | exact c | exact fun z => z c | (rw [c]; decide))] at hq
    have hp := hp.2 c
    refine ⟨fun c => ?_, fun c => ?_⟩
    · rw [if_pos c] at hq
      have hp := hp.1 c
      refine ⟨hp, ?_⟩
      intro h102 eh102
      subst eh102
      exact hq
    · rw [if_neg (by first | exact c | exact fun z => z c | (rw [c]; decide))] at hq
      have hp := hp.2 c
      refine ⟨fun c => ?_, fun c => ?_⟩
      · rw [if_pos c] at hq
        have hp := hp.1 c
        exact hq
      · rw [if_neg (by first | exact c | exact fun z => z c | (rw [c]; decide))] at hq
        have hp := hp.2 c
        refine ⟨fun c => ?_, fun c => ?_⟩
        · rw [if_pos c] at hq
          have hp := hp.1 c
          refine ⟨hp, ?_⟩
          intro h104 eh104
          subst eh104
          exact hq
        · rw [if_neg (by first | exact c | exact fun z => z c | (rw [c]; decide))] at hq
          have hp := hp.2 c
          exact hq
theorem b_X0_prove_0 {x1 : Int32} {xo : Nat} {h : Hp} {k n : Nat} {Q : Int32 → Hp → Prop} {E : Nat → Hp → Prop} (hm : XW h xo) (hw : (rfp h xo x1) ∧ (∀ r102 : Nat, r102 = rfv h xo x1 → (r102 = 0 → Q 0 h) ∧ (¬ r102 = 0 → kd h r102 = 3 ∧ ((¬ (gI h 203 r102) = 0 → ∀ h104 : Hp, h104 = pI h 206 r102 ((gI h 206 r102) ||| (shl 1 ((gI h 0 xo) / 365))) → Q 1 h104) ∧ ((gI h 203 r102) = 0 → Q 0 h))))) : Rn M_X0_prove 0 [(0, rV xo), (1, iV x1)] [] h k n (qI Q) E := by
  refine r_aload_n (q := 1) dX0_prove_0 rfl 0 rfl ?_
  refine r_iload_n (q := 2) dX0_prove_1 rfl 1 rfl ?_
  obtain ⟨g101, hw⟩ := hw
  refine r_cVR0 (q := 5) _ [_] N_X0_479 rfl dX0_prove_2 rfl rfl rfl (xw_k hm) rfl ?_
  refine ct_X0_roofAt hm g101 ?_
  have hw := hw _ rfl
  refine r_astore_n (q := 6) (lv' := [(0, _), (1, _), (2, _)]) dX0_prove_5 rfl (Nat.le_of_ble_eq_true rfl) rfl ?_
  refine r_aload_n (q := 7) dX0_prove_6 rfl 2 rfl ?_
  refine r_ifnull (tg := 17) (q := 10) dX0_prove_7 (by decide) rfl (fun c => ?_) (fun c => ?_)
  · have hw := hw.1 c
    refine r_iconst (q := 18) dX0_prove_17 rfl kI_0 ?_
    exact r_zret dX0_prove_18 rfl (Or.inl rfl) hw
  · have hw := hw.2 c
    refine r_aload_n (q := 11) dX0_prove_10 rfl 2 rfl ?_
    obtain ⟨g103, hw⟩ := hw
    refine r_getI (q := 14) L_X0_483 dX0_prove_11 rfl g103 ?_
    refine r_if_ne (tg := 19) (q := 17) dX0_prove_14 (by decide) rfl (fun c => ?_) (fun c => ?_)
    · have hw := hw.1 c
      refine r_aload_n (q := 20) dX0_prove_19 rfl 2 rfl ?_
      refine r_dup (q := 21) dX0_prove_20 rfl rfl ?_
      refine r_getI (q := 24) L_X0_486 dX0_prove_21 rfl g103 ?_
      refine r_iconst (q := 25) dX0_prove_24 rfl kI_1 ?_
      refine r_aload_n (q := 26) dX0_prove_25 rfl 0 rfl ?_
      refine r_getI (q := 29) L_X0_119 dX0_prove_26 rfl (xw_k hm) ?_
      refine r_sipush (q := 32) dX0_prove_29 rfl kS_365 ?_
      refine r_idiv (q := 33) dX0_prove_32 rfl (by decide) ?_
      refine r_ishl (q := 34) dX0_prove_33 rfl ?_
      refine r_ior (q := 35) dX0_prove_34 rfl ?_
      refine r_putI (q := 38) L_X0_486 dX0_prove_35 rfl g103 ?_
      refine r_xw_pI hm (fun hm => ?_)
      refine r_kpI g103 (fun g103 => ?_)
      have hw := hw _ rfl
      refine r_iconst (q := 39) dX0_prove_38 rfl kI_1 ?_
      exact r_zret dX0_prove_39 rfl (Or.inr rfl) hw
    · have hw := hw.2 c
      refine r_iconst (q := 18) dX0_prove_17 rfl kI_0 ?_
      exact r_zret dX0_prove_18 rfl (Or.inl rfl) hw
def F_X0_prove (h : Hp) (xo : Nat) (x1 : Int32) : Int32 × Hp := (let r102 : Nat := rfv h xo x1; (if r102 = 0 then (0, h) else (if ¬ (gI h 203 r102) = 0 then (let h104 : Hp := pI h 206 r102 ((gI h 206 r102) ||| (shl 1 ((gI h 0 xo) / 365))); (1, h104)) else (0, h))))
def P_X0_prove (h : Hp) (xo : Nat) (x1 : Int32) : Prop := (rfp h xo x1) ∧ ((let r102 : Nat := rfv h xo x1; (r102 = 0 → True) ∧ (¬ r102 = 0 → kd h r102 = 3)))
theorem ct_X0_prove {h : Hp} {E : Nat → Hp → Prop} {k n : Nat} {xo : Nat} {x1 : Int32} (hm : XW h xo) (hp : P_X0_prove h xo x1) {Q : Int32 → Hp → Prop} (hq : Q (F_X0_prove h xo x1).1 (F_X0_prove h xo x1).2) : CtI M_X0_prove [rV xo, iV x1] h k n Q E := by
  unfold P_X0_prove at hp
  unfold F_X0_prove at hq
  refine b_X0_prove_0 hm ?_
  refine ⟨hp.1, ?_⟩
  have hp := hp.2
  intro r102 er102
  subst er102
  refine ⟨fun c => ?_, fun c => ?_⟩
  · rw [if_pos c] at hq
    have hp := hp.1 c
    exact hq
  · rw [if_neg (by first | exact c | exact fun z => z c | (rw [c]; decide))] at hq
    have hp := hp.2 c
    refine ⟨hp, ?_⟩
    refine ⟨fun c => ?_, fun c => ?_⟩
    · rw [if_pos c] at hq
      intro h104 eh104
      subst eh104
      exact hq
    · rw [if_neg (by first | exact c | exact fun z => z c | (rw [c]; decide))] at hq
      exact hq
theorem b_X3_prove_0 {x1 : Int32} {mo : Nat} {h : Hp} {k n : Nat} {Q : Int32 → Hp → Prop} {E : Nat → Hp → Prop} (hm : MW h mo) (hw : ((isin x1 0 ((gI h 1002 mo) - 1)) = false → Q 0 h) ∧ ((isin x1 0 ((gI h 1002 mo) - 1)) = true → vp_in x1 30 ∧ ((¬ (eI h (mo + 22) (ix x1)) = 0 → vp_in x1 30 ∧ (vp_in x1 30 ∧ (∀ h104 : Hp, h104 = sI h (mo + 24) (ix x1) ((eI h (mo + 24) (ix x1)) ||| (shl 1 ((gI h 1000 mo) / 365))) → Q 1 h104))) ∧ ((eI h (mo + 22) (ix x1)) = 0 → Q 0 h)))) : Rn M_X3_prove 0 [(0, rV mo), (1, iV x1)] [] h k n (qI Q) E := by
  refine r_iload_n (q := 1) dX3_prove_0 rfl 1 rfl ?_
  refine r_iconst (q := 2) dX3_prove_1 rfl kI_0 ?_
  refine r_aload_n (q := 3) dX3_prove_2 rfl 0 rfl ?_
  refine r_getI (q := 6) L_X3_202 dX3_prove_3 rfl (mw_k hm) ?_
  refine r_iconst (q := 7) dX3_prove_6 rfl kI_1 ?_
  refine r_isub (q := 8) dX3_prove_7 rfl ?_
  refine r_cSI0 (q := 11) [_, _, _] N_X3_194 dX3_prove_8 rfl rfl rfl rfl ?_
  refine ct_X3_isIn  ?_
  refine r_ifb_eq (tg := 23) (q := 14) dX3_prove_11 (by decide) rfl (fun c => ?_) (fun c => ?_)
  · have hw := hw.1 c
    refine r_iconst (q := 24) dX3_prove_23 rfl kI_0 ?_
    exact r_zret dX3_prove_24 rfl (Or.inl rfl) hw
  · have hw := hw.2 c
    refine r_aload_n (q := 15) dX3_prove_14 rfl 0 rfl ?_
    refine r_getR (q := 18) L_X3_74 dX3_prove_15 rfl (mw_k hm) (mwr_barrel hm) ?_
    refine r_iload_n (q := 19) dX3_prove_18 rfl 1 rfl ?_
    obtain ⟨g101, hw⟩ := hw
    refine r_ialdL (q := 20) dX3_prove_19 rfl (mwk_barrel hm) (mwl_barrel hm) g101 ?_
    refine r_if_ne (tg := 25) (q := 23) dX3_prove_20 (by decide) rfl (fun c => ?_) (fun c => ?_)
    · have hw := hw.1 c
      refine r_aload_n (q := 26) dX3_prove_25 rfl 0 rfl ?_
      refine r_getR (q := 29) L_X3_80 dX3_prove_26 rfl (mw_k hm) (mwr_proved hm) ?_
      refine r_iload_n (q := 30) dX3_prove_29 rfl 1 rfl ?_
      refine r_dup2 (q := 31) dX3_prove_30 rfl rfl rfl ?_
      obtain ⟨g102, hw⟩ := hw
      refine r_ialdL (q := 32) dX3_prove_31 rfl (mwk_proved hm) (mwl_proved hm) g102 ?_
      refine r_iconst (q := 33) dX3_prove_32 rfl kI_1 ?_
      refine r_aload_n (q := 34) dX3_prove_33 rfl 0 rfl ?_
      refine r_getI (q := 37) L_X3_212 dX3_prove_34 rfl (mw_k hm) ?_
      refine r_sipush (q := 40) dX3_prove_37 rfl kS_365 ?_
      refine r_idiv (q := 41) dX3_prove_40 rfl (by decide) ?_
      refine r_ishl (q := 42) dX3_prove_41 rfl ?_
      refine r_ior (q := 43) dX3_prove_42 rfl ?_
      obtain ⟨g103, hw⟩ := hw
      refine r_iastL (q := 44) dX3_prove_43 rfl (mwk_proved hm) (mwl_proved hm) g103 ?_
      refine r_mw_sI hm (fun hm => ?_)
      have hw := hw _ rfl
      refine r_iconst (q := 45) dX3_prove_44 rfl kI_1 ?_
      exact r_zret dX3_prove_45 rfl (Or.inr rfl) hw
    · have hw := hw.2 c
      refine r_iconst (q := 24) dX3_prove_23 rfl kI_0 ?_
      exact r_zret dX3_prove_24 rfl (Or.inl rfl) hw
def F_X3_prove (h : Hp) (mo : Nat) (x1 : Int32) : Int32 × Hp := (if (isin x1 0 ((gI h 1002 mo) - 1)) = false then (0, h) else (if ¬ (eI h (mo + 22) (ix x1)) = 0 then (let h104 : Hp := sI h (mo + 24) (ix x1) ((eI h (mo + 24) (ix x1)) ||| (shl 1 ((gI h 1000 mo) / 365))); (1, h104)) else (0, h)))
def P_X3_prove (h : Hp) (mo : Nat) (x1 : Int32) : Prop := ((isin x1 0 ((gI h 1002 mo) - 1)) = false → True) ∧ ((isin x1 0 ((gI h 1002 mo) - 1)) = true → vp_in x1 30 ∧ ((¬ (eI h (mo + 22) (ix x1)) = 0 → vp_in x1 30 ∧ (vp_in x1 30)) ∧ ((eI h (mo + 22) (ix x1)) = 0 → True)))
theorem ct_X3_prove {h : Hp} {E : Nat → Hp → Prop} {k n : Nat} {mo : Nat} {x1 : Int32} (hm : MW h mo) (hp : P_X3_prove h mo x1) {Q : Int32 → Hp → Prop} (hq : Q (F_X3_prove h mo x1).1 (F_X3_prove h mo x1).2) : CtI M_X3_prove [rV mo, iV x1] h k n Q E := by
  unfold P_X3_prove at hp
  unfold F_X3_prove at hq
  refine b_X3_prove_0 hm ?_
  refine ⟨fun c => ?_, fun c => ?_⟩
  · rw [if_pos c] at hq
    have hp := hp.1 c
    exact hq
  · rw [if_neg (by first | exact c | exact fun z => z c | (rw [c]; decide))] at hq
    have hp := hp.2 c
    refine ⟨hp.1, ?_⟩
    have hp := hp.2
    refine ⟨fun c => ?_, fun c => ?_⟩
    · rw [if_pos c] at hq
      have hp := hp.1 c
      refine ⟨hp.1, ?_⟩
      have hp := hp.2
      refine ⟨hp, ?_⟩
      intro h104 eh104
      subst eh104
      exact hq
    · rw [if_neg (by first | exact c | exact fun z => z c | (rw [c]; decide))] at hq
      have hp := hp.2 c
      exact hq
theorem b_X0_look_2_0 {x1 x2 : Int32} {xo : Nat} {h : Hp} {k n : Nat} {Q : Int32 → Hp → Prop} {E : Nat → Hp → Prop} (hm : XW h xo) (hw : (P_X0_bedAt h xo x1) ∧ (∀ r102 : Nat, r102 = V_X0_bedAt h xo x1 → (r102 = 0 → Q (-1) h) ∧ (¬ r102 = 0 → ((isin x2 0 3) = true → kd h r102 = 4 ∧ (∀ h104 : Hp, h104 = pI h 310 r102 x2 → ∀ h105 : Hp, h105 = pI h104 26 xo ((gI h104 26 xo) + 1) → Q (gI h105 26 xo) h105)) ∧ ((isin x2 0 3) = false → Q (-1) h)))) : Rn M_X0_look_2 0 [(0, rV xo), (1, iV x1), (2, iV x2)] [] h k n (qI Q) E := by
  refine r_aload_n (q := 1) dX0_look_2_0 rfl 0 rfl ?_
  refine r_iload_n (q := 2) dX0_look_2_1 rfl 1 rfl ?_
  obtain ⟨g101, hw⟩ := hw
  refine r_cVR0 (q := 5) _ [_] N_X0_132 rfl dX0_look_2_2 rfl rfl rfl (xw_k hm) rfl ?_
  refine ct_X0_bedAt hm g101 ?_
  have hw := hw _ rfl
  refine r_astore_n (q := 6) (lv' := [(0, _), (1, _), (2, _), (3, _)]) dX0_look_2_5 rfl (Nat.le_of_ble_eq_true rfl) rfl ?_
  refine r_aload_n (q := 7) dX0_look_2_6 rfl 3 rfl ?_
  refine r_ifnull (tg := 19) (q := 10) dX0_look_2_7 (by decide) rfl (fun c => ?_) (fun c => ?_)
  · have hw := hw.1 c
    refine r_iconst (q := 20) dX0_look_2_19 rfl kI_m1 ?_
    exact r_iret dX0_look_2_20 rfl hw
  · have hw := hw.2 c
    refine r_iload_n (q := 11) dX0_look_2_10 rfl 2 rfl ?_
    refine r_iconst (q := 12) dX0_look_2_11 rfl kI_0 ?_
    refine r_iconst (q := 13) dX0_look_2_12 rfl kI_3 ?_
    refine r_cSI0 (q := 16) [_, _, _] N_X0_3 dX0_look_2_13 rfl rfl rfl rfl ?_
    refine ct_X0_isIn  ?_
    refine r_ifb_ne (tg := 21) (q := 19) dX0_look_2_16 (by decide) rfl (fun c => ?_) (fun c => ?_)
    · have hw := hw.1 c
      refine r_aload_n (q := 22) dX0_look_2_21 rfl 3 rfl ?_
      refine r_iload_n (q := 23) dX0_look_2_22 rfl 2 rfl ?_
      obtain ⟨g103, hw⟩ := hw
      refine r_putI (q := 26) L_X0_500 dX0_look_2_23 rfl g103 ?_
      refine r_xw_pI hm (fun hm => ?_)
      refine r_kpI g103 (fun g103 => ?_)
      have hw := hw _ rfl
      refine r_aload_n (q := 27) dX0_look_2_26 rfl 0 rfl ?_
      refine r_dup (q := 28) dX0_look_2_27 rfl rfl ?_
      refine r_getI (q := 31) L_X0_502 dX0_look_2_28 rfl (xw_k hm) ?_
      refine r_iconst (q := 32) dX0_look_2_31 rfl kI_1 ?_
      refine r_iadd (q := 33) dX0_look_2_32 rfl ?_
      refine r_putI (q := 36) L_X0_502 dX0_look_2_33 rfl (xw_k hm) ?_
      refine r_xw_pI hm (fun hm => ?_)
      refine r_kpI g103 (fun g103 => ?_)
      have hw := hw _ rfl
      refine r_aload_n (q := 37) dX0_look_2_36 rfl 0 rfl ?_
      refine r_getI (q := 40) L_X0_502 dX0_look_2_37 rfl (xw_k hm) ?_
      exact r_iret dX0_look_2_40 rfl hw
    · have hw := hw.2 c
      refine r_iconst (q := 20) dX0_look_2_19 rfl kI_m1 ?_
      exact r_iret dX0_look_2_20 rfl hw
def F_X0_look_2 (h : Hp) (xo : Nat) (x1 : Int32) (x2 : Int32) : Int32 × Hp := (let r102 : Nat := V_X0_bedAt h xo x1; (if r102 = 0 then ((-1), h) else (if (isin x2 0 3) = true then (let h104 : Hp := pI h 310 r102 x2; (let h105 : Hp := pI h104 26 xo ((gI h104 26 xo) + 1); ((gI h105 26 xo), h105))) else ((-1), h))))
def P_X0_look_2 (h : Hp) (xo : Nat) (x1 : Int32) (x2 : Int32) : Prop := (P_X0_bedAt h xo x1) ∧ ((let r102 : Nat := V_X0_bedAt h xo x1; (r102 = 0 → True) ∧ (¬ r102 = 0 → ((isin x2 0 3) = true → kd h r102 = 4) ∧ ((isin x2 0 3) = false → True))))
theorem ct_X0_look_2 {h : Hp} {E : Nat → Hp → Prop} {k n : Nat} {xo : Nat} {x1 : Int32} {x2 : Int32} (hm : XW h xo) (hp : P_X0_look_2 h xo x1 x2) {Q : Int32 → Hp → Prop} (hq : Q (F_X0_look_2 h xo x1 x2).1 (F_X0_look_2 h xo x1 x2).2) : CtI M_X0_look_2 [rV xo, iV x1, iV x2] h k n Q E := by
  unfold P_X0_look_2 at hp
  unfold F_X0_look_2 at hq
  refine b_X0_look_2_0 hm ?_
  refine ⟨hp.1, ?_⟩
  have hp := hp.2
  intro r102 er102
  subst er102
  refine ⟨fun c => ?_, fun c => ?_⟩
  · rw [if_pos c] at hq
    have hp := hp.1 c
    exact hq
  · rw [if_neg (by first | exact c | exact fun z => z c | (rw [c]; decide))] at hq
    have hp := hp.2 c
    refine ⟨fun c => ?_, fun c => ?_⟩
    · rw [if_pos c] at hq
      have hp := hp.1 c
      refine ⟨hp, ?_⟩
      intro h104 eh104
      subst eh104
      intro h105 eh105
      subst eh105
      exact hq
    · rw [if_neg (by first | exact c | exact fun z => z c | (rw [c]; decide))] at hq
      have hp := hp.2 c
      exact hq
theorem b_X3_look_0 {x1 x2 : Int32} {mo : Nat} {h : Hp} {k n : Nat} {Q : Int32 → Hp → Prop} {E : Nat → Hp → Prop} (hm : MW h mo) (hw : (P_X3_isBed h mo x1) ∧ (((V_X3_isBed h mo x1) = 0 → Q (-1) h) ∧ (¬ (V_X3_isBed h mo x1) = 0 → ((isin x2 0 3) = true → vp_in x1 12 ∧ (∀ h103 : Hp, h103 = sI h (mo + 17) (ix x1) x2 → ∀ h104 : Hp, h104 = pI h103 1005 mo ((gI h103 1005 mo) + 1) → Q (gI h104 1005 mo) h104)) ∧ ((isin x2 0 3) = false → Q (-1) h)))) : Rn M_X3_look 0 [(0, rV mo), (1, iV x1), (2, iV x2)] [] h k n (qI Q) E := by
  refine r_aload_n (q := 1) dX3_look_0 rfl 0 rfl ?_
  refine r_iload_n (q := 2) dX3_look_1 rfl 1 rfl ?_
  obtain ⟨g101, hw⟩ := hw
  refine r_cVI0 (q := 5) _ [_] N_X3_219 rfl dX3_look_2 rfl rfl rfl (mw_k hm) rfl ?_
  refine ct_X3_isBed hm g101 ?_
  refine r_if_eq (tg := 17) (q := 8) dX3_look_5 (by decide) rfl (fun c => ?_) (fun c => ?_)
  · have hw := hw.1 c
    refine r_iconst (q := 18) dX3_look_17 rfl kI_m1 ?_
    exact r_iret dX3_look_18 rfl hw
  · have hw := hw.2 c
    refine r_iload_n (q := 9) dX3_look_8 rfl 2 rfl ?_
    refine r_iconst (q := 10) dX3_look_9 rfl kI_0 ?_
    refine r_iconst (q := 11) dX3_look_10 rfl kI_3 ?_
    refine r_cSI0 (q := 14) [_, _, _] N_X3_194 dX3_look_11 rfl rfl rfl rfl ?_
    refine ct_X3_isIn  ?_
    refine r_ifb_ne (tg := 19) (q := 17) dX3_look_14 (by decide) rfl (fun c => ?_) (fun c => ?_)
    · have hw := hw.1 c
      refine r_aload_n (q := 20) dX3_look_19 rfl 0 rfl ?_
      refine r_getR (q := 23) L_X3_59 dX3_look_20 rfl (mw_k hm) (mwr_looked hm) ?_
      refine r_iload_n (q := 24) dX3_look_23 rfl 1 rfl ?_
      refine r_iload_n (q := 25) dX3_look_24 rfl 2 rfl ?_
      obtain ⟨g102, hw⟩ := hw
      refine r_iastL (q := 26) dX3_look_25 rfl (mwk_looked hm) (mwl_looked hm) g102 ?_
      refine r_mw_sI hm (fun hm => ?_)
      have hw := hw _ rfl
      refine r_aload_n (q := 27) dX3_look_26 rfl 0 rfl ?_
      refine r_dup (q := 28) dX3_look_27 rfl rfl ?_
      refine r_getI (q := 31) L_X3_335 dX3_look_28 rfl (mw_k hm) ?_
      refine r_iconst (q := 32) dX3_look_31 rfl kI_1 ?_
      refine r_iadd (q := 33) dX3_look_32 rfl ?_
      refine r_putI (q := 36) L_X3_335 dX3_look_33 rfl (mw_k hm) ?_
      refine r_mw_pI hm (fun hm => ?_)
      have hw := hw _ rfl
      refine r_aload_n (q := 37) dX3_look_36 rfl 0 rfl ?_
      refine r_getI (q := 40) L_X3_335 dX3_look_37 rfl (mw_k hm) ?_
      exact r_iret dX3_look_40 rfl hw
    · have hw := hw.2 c
      refine r_iconst (q := 18) dX3_look_17 rfl kI_m1 ?_
      exact r_iret dX3_look_18 rfl hw
def F_X3_look (h : Hp) (mo : Nat) (x1 : Int32) (x2 : Int32) : Int32 × Hp := (if (V_X3_isBed h mo x1) = 0 then ((-1), h) else (if (isin x2 0 3) = true then (let h103 : Hp := sI h (mo + 17) (ix x1) x2; (let h104 : Hp := pI h103 1005 mo ((gI h103 1005 mo) + 1); ((gI h104 1005 mo), h104))) else ((-1), h)))
def P_X3_look (h : Hp) (mo : Nat) (x1 : Int32) (x2 : Int32) : Prop := (P_X3_isBed h mo x1) ∧ (((V_X3_isBed h mo x1) = 0 → True) ∧ (¬ (V_X3_isBed h mo x1) = 0 → ((isin x2 0 3) = true → vp_in x1 12) ∧ ((isin x2 0 3) = false → True)))
theorem ct_X3_look {h : Hp} {E : Nat → Hp → Prop} {k n : Nat} {mo : Nat} {x1 : Int32} {x2 : Int32} (hm : MW h mo) (hp : P_X3_look h mo x1 x2) {Q : Int32 → Hp → Prop} (hq : Q (F_X3_look h mo x1 x2).1 (F_X3_look h mo x1 x2).2) : CtI M_X3_look [rV mo, iV x1, iV x2] h k n Q E := by
  unfold P_X3_look at hp
  unfold F_X3_look at hq
  refine b_X3_look_0 hm ?_
  refine ⟨hp.1, ?_⟩
  have hp := hp.2
  refine ⟨fun c => ?_, fun c => ?_⟩
  · rw [if_pos c] at hq
    have hp := hp.1 c
    exact hq
  · rw [if_neg (by first | exact c | exact fun z => z c | (rw [c]; decide))] at hq
    have hp := hp.2 c
    refine ⟨fun c => ?_, fun c => ?_⟩
    · rw [if_pos c] at hq
      have hp := hp.1 c
      refine ⟨hp, ?_⟩
      intro h103 eh103
      subst eh103
      intro h104 eh104
      subst eh104
      exact hq
    · rw [if_neg (by first | exact c | exact fun z => z c | (rw [c]; decide))] at hq
      have hp := hp.2 c
      exact hq
theorem b_X0_close_0 {x1 : Int32} {xo : Nat} {h : Hp} {k n : Nat} {Q : Int32 → Hp → Prop} {E : Nat → Hp → Prop} (hm : XW h xo) (hw : ((isin x1 0 ((gI h 1102 (xo + 22)) - 1)) = false → Q 0 h) ∧ ((isin x1 0 ((gI h 1102 (xo + 22)) - 1)) = true → (ALg h (xo + 22) x1) ∧ (kd h (el h (xo + 22) (ix x1)) = 9 ∧ ((¬ (gI h 806 (el h (xo + 22) (ix x1))) = 0 → (ALg h (xo + 22) x1) ∧ (∀ h104 : Hp, h104 = pI h 806 (el h (xo + 22) (ix x1)) 0 → Q 1 h104)) ∧ ((gI h 806 (el h (xo + 22) (ix x1))) = 0 → Q 0 h))))) : Rn M_X0_close 0 [(0, rV xo), (1, iV x1)] [] h k n (qI Q) E := by
  refine r_iload_n (q := 1) dX0_close_0 rfl 1 rfl ?_
  refine r_iconst (q := 2) dX0_close_1 rfl kI_0 ?_
  refine r_aload_n (q := 3) dX0_close_2 rfl 0 rfl ?_
  refine r_getR (q := 6) L_X0_74 dX0_close_3 rfl (xw_k hm) (xwr_complaints hm) ?_
  refine r_cVI0 (q := 9) _ [] N_X0_77 rfl dX0_close_6 rfl rfl rfl (xwk_complaints hm) rfl ?_
  refine ct_J2_size (xwk_complaints hm) ?_
  refine r_iconst (q := 10) dX0_close_9 rfl kI_1 ?_
  refine r_isub (q := 11) dX0_close_10 rfl ?_
  refine r_cSI0 (q := 14) [_, _, _] N_X0_3 dX0_close_11 rfl rfl rfl rfl ?_
  refine ct_X0_isIn  ?_
  refine r_ifb_eq (tg := 34) (q := 17) dX0_close_14 (by decide) rfl (fun c => ?_) (fun c => ?_)
  · have hw := hw.1 c
    refine r_iconst (q := 35) dX0_close_34 rfl kI_0 ?_
    exact r_zret dX0_close_35 rfl (Or.inl rfl) hw
  · have hw := hw.2 c
    refine r_aload_n (q := 18) dX0_close_17 rfl 0 rfl ?_
    refine r_getR (q := 21) L_X0_74 dX0_close_18 rfl (xw_k hm) (xwr_complaints hm) ?_
    refine r_iload_n (q := 22) dX0_close_21 rfl 1 rfl ?_
    obtain ⟨g101, hw⟩ := hw
    refine r_cVR0 (q := 25) _ [_] N_X0_81 rfl dX0_close_22 rfl rfl rfl (xwk_complaints hm) rfl ?_
    refine ct_J2_get (xwk_complaints hm) g101 ?_
    obtain ⟨g102, hw⟩ := hw
    refine r_cast (q := 28) q1124 rfl dX0_close_25 rfl g102 ?_
    refine r_getI (q := 31) L_X0_510 dX0_close_28 rfl g102 ?_
    refine r_if_ne (tg := 36) (q := 34) dX0_close_31 (by decide) rfl (fun c => ?_) (fun c => ?_)
    · have hw := hw.1 c
      refine r_aload_n (q := 37) dX0_close_36 rfl 0 rfl ?_
      refine r_getR (q := 40) L_X0_74 dX0_close_37 rfl (xw_k hm) (xwr_complaints hm) ?_
      refine r_iload_n (q := 41) dX0_close_40 rfl 1 rfl ?_
      obtain ⟨g103, hw⟩ := hw
      refine r_cVR0 (q := 44) _ [_] N_X0_81 rfl dX0_close_41 rfl rfl rfl (xwk_complaints hm) rfl ?_
      refine ct_J2_get (xwk_complaints hm) g103 ?_
      refine r_cast (q := 47) q1124 rfl dX0_close_44 rfl g102 ?_
      refine r_iconst (q := 48) dX0_close_47 rfl kI_0 ?_
      refine r_putZ (q := 51) L_X0_510 dX0_close_48 rfl g102 (Or.inl rfl) ?_
      refine r_xw_pI hm (fun hm => ?_)
      refine r_kpI g102 (fun g102 => ?_)
      have hw := hw _ rfl
      refine r_iconst (q := 52) dX0_close_51 rfl kI_1 ?_
      exact r_zret dX0_close_52 rfl (Or.inr rfl) hw
    · have hw := hw.2 c
      refine r_iconst (q := 35) dX0_close_34 rfl kI_0 ?_
      exact r_zret dX0_close_35 rfl (Or.inl rfl) hw
def F_X0_close (h : Hp) (xo : Nat) (x1 : Int32) : Int32 × Hp := (if (isin x1 0 ((gI h 1102 (xo + 22)) - 1)) = false then (0, h) else (if ¬ (gI h 806 (el h (xo + 22) (ix x1))) = 0 then (let h104 : Hp := pI h 806 (el h (xo + 22) (ix x1)) 0; (1, h104)) else (0, h)))
def P_X0_close (h : Hp) (xo : Nat) (x1 : Int32) : Prop := ((isin x1 0 ((gI h 1102 (xo + 22)) - 1)) = false → True) ∧ ((isin x1 0 ((gI h 1102 (xo + 22)) - 1)) = true → (ALg h (xo + 22) x1) ∧ (kd h (el h (xo + 22) (ix x1)) = 9 ∧ ((¬ (gI h 806 (el h (xo + 22) (ix x1))) = 0 → (ALg h (xo + 22) x1)) ∧ ((gI h 806 (el h (xo + 22) (ix x1))) = 0 → True))))
theorem ct_X0_close {h : Hp} {E : Nat → Hp → Prop} {k n : Nat} {xo : Nat} {x1 : Int32} (hm : XW h xo) (hp : P_X0_close h xo x1) {Q : Int32 → Hp → Prop} (hq : Q (F_X0_close h xo x1).1 (F_X0_close h xo x1).2) : CtI M_X0_close [rV xo, iV x1] h k n Q E := by
  unfold P_X0_close at hp
  unfold F_X0_close at hq
  refine b_X0_close_0 hm ?_
  refine ⟨fun c => ?_, fun c => ?_⟩
  · rw [if_pos c] at hq
    have hp := hp.1 c
    exact hq
  · rw [if_neg (by first | exact c | exact fun z => z c | (rw [c]; decide))] at hq
    have hp := hp.2 c
    refine ⟨hp.1, ?_⟩
    have hp := hp.2
    refine ⟨hp.1, ?_⟩
    have hp := hp.2
    refine ⟨fun c => ?_, fun c => ?_⟩
    · rw [if_pos c] at hq
      have hp := hp.1 c
      refine ⟨hp, ?_⟩
      intro h104 eh104
      subst eh104
      exact hq
    · rw [if_neg (by first | exact c | exact fun z => z c | (rw [c]; decide))] at hq
      have hp := hp.2 c
      exact hq
theorem b_X3_close_0 {x1 : Int32} {mo : Nat} {h : Hp} {k n : Nat} {Q : Int32 → Hp → Prop} {E : Nat → Hp → Prop} (hm : MW h mo) (hw : ((isin x1 0 ((gI h 1006 mo) - 1)) = false → Q 0 h) ∧ ((isin x1 0 ((gI h 1006 mo) - 1)) = true → vp_in x1 60 ∧ ((¬ (eI h (mo + 49) (ix x1)) = 0 → vp_in x1 60 ∧ (∀ h103 : Hp, h103 = sI h (mo + 49) (ix x1) 0 → Q 1 h103)) ∧ ((eI h (mo + 49) (ix x1)) = 0 → Q 0 h)))) : Rn M_X3_close 0 [(0, rV mo), (1, iV x1)] [] h k n (qI Q) E := by
  refine r_iload_n (q := 1) dX3_close_0 rfl 1 rfl ?_
  refine r_iconst (q := 2) dX3_close_1 rfl kI_0 ?_
  refine r_aload_n (q := 3) dX3_close_2 rfl 0 rfl ?_
  refine r_getI (q := 6) L_X3_338 dX3_close_3 rfl (mw_k hm) ?_
  refine r_iconst (q := 7) dX3_close_6 rfl kI_1 ?_
  refine r_isub (q := 8) dX3_close_7 rfl ?_
  refine r_cSI0 (q := 11) [_, _, _] N_X3_194 dX3_close_8 rfl rfl rfl rfl ?_
  refine ct_X3_isIn  ?_
  refine r_ifb_eq (tg := 23) (q := 14) dX3_close_11 (by decide) rfl (fun c => ?_) (fun c => ?_)
  · have hw := hw.1 c
    refine r_iconst (q := 24) dX3_close_23 rfl kI_0 ?_
    exact r_zret dX3_close_24 rfl (Or.inl rfl) hw
  · have hw := hw.2 c
    refine r_aload_n (q := 15) dX3_close_14 rfl 0 rfl ?_
    refine r_getR (q := 18) L_X3_156 dX3_close_15 rfl (mw_k hm) (mwr_isOpen hm) ?_
    refine r_iload_n (q := 19) dX3_close_18 rfl 1 rfl ?_
    obtain ⟨g101, hw⟩ := hw
    refine r_zaldL (q := 20) dX3_close_19 rfl (mwk_isOpen hm) (mwl_isOpen hm) g101 ?_
    refine r_if_ne (tg := 25) (q := 23) dX3_close_20 (by decide) rfl (fun c => ?_) (fun c => ?_)
    · have hw := hw.1 c
      refine r_aload_n (q := 26) dX3_close_25 rfl 0 rfl ?_
      refine r_getR (q := 29) L_X3_156 dX3_close_26 rfl (mw_k hm) (mwr_isOpen hm) ?_
      refine r_iload_n (q := 30) dX3_close_29 rfl 1 rfl ?_
      refine r_iconst (q := 31) dX3_close_30 rfl kI_0 ?_
      obtain ⟨g102, hw⟩ := hw
      refine r_zastL (q := 32) dX3_close_31 rfl (mwk_isOpen hm) (mwl_isOpen hm) g102 (Or.inl rfl) ?_
      refine r_mw_sI hm (fun hm => ?_)
      have hw := hw _ rfl
      refine r_iconst (q := 33) dX3_close_32 rfl kI_1 ?_
      exact r_zret dX3_close_33 rfl (Or.inr rfl) hw
    · have hw := hw.2 c
      refine r_iconst (q := 24) dX3_close_23 rfl kI_0 ?_
      exact r_zret dX3_close_24 rfl (Or.inl rfl) hw
def F_X3_close (h : Hp) (mo : Nat) (x1 : Int32) : Int32 × Hp := (if (isin x1 0 ((gI h 1006 mo) - 1)) = false then (0, h) else (if ¬ (eI h (mo + 49) (ix x1)) = 0 then (let h103 : Hp := sI h (mo + 49) (ix x1) 0; (1, h103)) else (0, h)))
def P_X3_close (h : Hp) (mo : Nat) (x1 : Int32) : Prop := ((isin x1 0 ((gI h 1006 mo) - 1)) = false → True) ∧ ((isin x1 0 ((gI h 1006 mo) - 1)) = true → vp_in x1 60 ∧ ((¬ (eI h (mo + 49) (ix x1)) = 0 → vp_in x1 60) ∧ ((eI h (mo + 49) (ix x1)) = 0 → True)))
theorem ct_X3_close {h : Hp} {E : Nat → Hp → Prop} {k n : Nat} {mo : Nat} {x1 : Int32} (hm : MW h mo) (hp : P_X3_close h mo x1) {Q : Int32 → Hp → Prop} (hq : Q (F_X3_close h mo x1).1 (F_X3_close h mo x1).2) : CtI M_X3_close [rV mo, iV x1] h k n Q E := by
  unfold P_X3_close at hp
  unfold F_X3_close at hq
  refine b_X3_close_0 hm ?_
  refine ⟨fun c => ?_, fun c => ?_⟩
  · rw [if_pos c] at hq
    have hp := hp.1 c
    exact hq
  · rw [if_neg (by first | exact c | exact fun z => z c | (rw [c]; decide))] at hq
    have hp := hp.2 c
    refine ⟨hp.1, ?_⟩
    have hp := hp.2
    refine ⟨fun c => ?_, fun c => ?_⟩
    · rw [if_pos c] at hq
      have hp := hp.1 c
      refine ⟨hp, ?_⟩
      intro h103 eh103
      subst eh103
      exact hq
    · rw [if_neg (by first | exact c | exact fun z => z c | (rw [c]; decide))] at hq
      have hp := hp.2 c
      exact hq
