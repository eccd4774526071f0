/-! walks -/
set_option maxRecDepth 100000
theorem b_X3_isCorner_0 {x1 : Int32} {mo : Nat} {h : Hp} {k n : Nat} {Q : Int32 → Hp → Prop} {E : Nat → Hp → Prop} (hm : MW h mo) (hw : Q (b1 (isin x1 0 ((gI h 1001 mo) - 1))) h) : Rn M_X3_isCorner 0 [(0, rV mo), (1, iV x1)] [] h k n (qI Q) E := by
  refine r_iload_n (q := 1) dX3_isCorner_0 rfl 1 rfl ?_
  refine r_iconst (q := 2) dX3_isCorner_1 rfl kI_0 ?_
  refine r_aload_n (q := 3) dX3_isCorner_2 rfl 0 rfl ?_
  refine r_getI (q := 6) L_X3_191 dX3_isCorner_3 rfl (mw_k hm) ?_
  refine r_iconst (q := 7) dX3_isCorner_6 rfl kI_1 ?_
  refine r_isub (q := 8) dX3_isCorner_7 rfl ?_
  refine r_cSI0 (q := 11) [_, _, _] N_X3_194 dX3_isCorner_8 rfl rfl rfl rfl ?_
  refine ct_X3_isIn  ?_
  exact r_zret dX3_isCorner_11 rfl (b1_01 _) hw
theorem b_X3_drinkBy_0 {x1 x2 : Int32} {mo : Nat} {h : Hp} {k n : Nat} {Q : Int32 → Hp → Prop} {E : Nat → Hp → Prop} (hm : MW h mo) (hw : vp_in x1 12 ∧ (vp_in (eI h (mo + 9) (ix x1)) 10 ∧ (Q (((eI h (mo + 25) (ix (eI h (mo + 9) (ix x1)))) * (100 - x2)) / 100) h))) : Rn M_X3_drinkBy 0 [(0, rV mo), (1, iV x1), (2, iV x2)] [] h k n (qI Q) E := by
  refine r_aload_n (q := 1) dX3_drinkBy_0 rfl 0 rfl ?_
  refine r_getR (q := 4) L_X3_83 dX3_drinkBy_1 rfl (mw_k hm) (mwr_drinks hm) ?_
  refine r_aload_n (q := 5) dX3_drinkBy_4 rfl 0 rfl ?_
  refine r_getR (q := 8) L_X3_35 dX3_drinkBy_5 rfl (mw_k hm) (mwr_lot hm) ?_
  refine r_iload_n (q := 9) dX3_drinkBy_8 rfl 1 rfl ?_
  obtain ⟨g101, hw⟩ := hw
  refine r_ialdL (q := 10) dX3_drinkBy_9 rfl (mwk_lot hm) (mwl_lot hm) g101 ?_
  obtain ⟨g102, hw⟩ := hw
  refine r_ialdL (q := 11) dX3_drinkBy_10 rfl (mwk_drinks hm) (mwl_drinks hm) g102 ?_
  refine r_bipush (q := 13) dX3_drinkBy_11 rfl kB_100 ?_
  refine r_iload_n (q := 14) dX3_drinkBy_13 rfl 2 rfl ?_
  refine r_isub (q := 15) dX3_drinkBy_14 rfl ?_
  refine r_imul (q := 16) dX3_drinkBy_15 rfl ?_
  refine r_bipush (q := 18) dX3_drinkBy_16 rfl kB_100 ?_
  refine r_idiv (q := 19) dX3_drinkBy_18 rfl (by decide) ?_
  exact r_iret dX3_drinkBy_19 rfl hw
theorem b_X0_isDay_0 {x0 : Int32} {h : Hp} {k n : Nat} {Q : Int32 → Hp → Prop} {E : Nat → Hp → Prop} (hw : Q (b1 (isin x0 0 3649)) h) : Rn M_X0_isDay 0 [(0, iV x0)] [] h k n (qI Q) E := by
  refine r_iload_n (q := 1) dX0_isDay_0 rfl 0 rfl ?_
  refine r_iconst (q := 2) dX0_isDay_1 rfl kI_0 ?_
  refine r_sipush (q := 5) dX0_isDay_2 rfl kS_3649 ?_
  refine r_cSI0 (q := 8) [_, _, _] N_X0_3 dX0_isDay_5 rfl rfl rfl rfl ?_
  refine ct_X0_isIn  ?_
  exact r_zret dX0_isDay_8 rfl (b1_01 _) hw
theorem b_X0_at_0 {x1 : Int32} {xo : Nat} {h : Hp} {k n : Nat} {Q : Nat → Hp → Prop} {E : Nat → Hp → Prop} (hm : XW h xo) (hw : ((isin x1 0 ((gI h 1102 (xo + 2)) - 1)) = false → Q 0 h) ∧ ((isin x1 0 ((gI h 1102 (xo + 2)) - 1)) = true → (ALg h (xo + 2) x1) ∧ (kd h (el h (xo + 2) (ix x1)) = 2 ∧ (Q (el h (xo + 2) (ix x1)) h)))) : Rn M_X0_at 0 [(0, rV xo), (1, iV x1)] [] h k n (qR Q) E := by
  refine r_iload_n (q := 1) dX0_at_0 rfl 1 rfl ?_
  refine r_iconst (q := 2) dX0_at_1 rfl kI_0 ?_
  refine r_aload_n (q := 3) dX0_at_2 rfl 0 rfl ?_
  refine r_getR (q := 6) L_X0_20 dX0_at_3 rfl (xw_k hm) (xwr_corners hm) ?_
  refine r_cVI0 (q := 9) _ [] N_X0_77 rfl dX0_at_6 rfl rfl rfl (xwk_corners hm) rfl ?_
  refine ct_J2_size (xwk_corners hm) ?_
  refine r_iconst (q := 10) dX0_at_9 rfl kI_1 ?_
  refine r_isub (q := 11) dX0_at_10 rfl ?_
  refine r_cSI0 (q := 14) [_, _, _] N_X0_3 dX0_at_11 rfl rfl rfl rfl ?_
  refine ct_X0_isIn  ?_
  refine r_ifb_eq (tg := 31) (q := 17) dX0_at_14 (by decide) rfl (fun c => ?_) (fun c => ?_)
  · have hw := hw.1 c
    refine r_null (q := 32) dX0_at_31 rfl ?_
    exact r_aret dX0_at_32 rfl (Or.inl ⟨_, rfl⟩) hw
  · have hw := hw.2 c
    refine r_aload_n (q := 18) dX0_at_17 rfl 0 rfl ?_
    refine r_getR (q := 21) L_X0_20 dX0_at_18 rfl (xw_k hm) (xwr_corners hm) ?_
    refine r_iload_n (q := 22) dX0_at_21 rfl 1 rfl ?_
    obtain ⟨g101, hw⟩ := hw
    refine r_cVR0 (q := 25) _ [_] N_X0_81 rfl dX0_at_22 rfl rfl rfl (xwk_corners hm) rfl ?_
    refine ct_J2_get (xwk_corners hm) g101 ?_
    obtain ⟨g102, hw⟩ := hw
    refine r_cast (q := 28) q374 rfl dX0_at_25 rfl g102 ?_
    refine r_goto (tg := 32) dX0_at_28 (by decide) ?_
    exact r_aret dX0_at_32 rfl (Or.inl ⟨_, rfl⟩) hw
theorem b_X0_roofAt_0 {x1 : Int32} {xo : Nat} {h : Hp} {k n : Nat} {Q : Nat → Hp → Prop} {E : Nat → Hp → Prop} (hm : XW h xo) (hw : ((isin x1 0 ((gI h 1102 (xo + 3)) - 1)) = false → Q 0 h) ∧ ((isin x1 0 ((gI h 1102 (xo + 3)) - 1)) = true → (ALg h (xo + 3) x1) ∧ (kd h (el h (xo + 3) (ix x1)) = 3 ∧ (Q (el h (xo + 3) (ix x1)) h)))) : Rn M_X0_roofAt 0 [(0, rV xo), (1, iV x1)] [] h k n (qR Q) E := by
  refine r_iload_n (q := 1) dX0_roofAt_0 rfl 1 rfl ?_
  refine r_iconst (q := 2) dX0_roofAt_1 rfl kI_0 ?_
  refine r_aload_n (q := 3) dX0_roofAt_2 rfl 0 rfl ?_
  refine r_getR (q := 6) L_X0_24 dX0_roofAt_3 rfl (xw_k hm) (xwr_roofs hm) ?_
  refine r_cVI0 (q := 9) _ [] N_X0_77 rfl dX0_roofAt_6 rfl rfl rfl (xwk_roofs hm) rfl ?_
  refine ct_J2_size (xwk_roofs hm) ?_
  refine r_iconst (q := 10) dX0_roofAt_9 rfl kI_1 ?_
  refine r_isub (q := 11) dX0_roofAt_10 rfl ?_
  refine r_cSI0 (q := 14) [_, _, _] N_X0_3 dX0_roofAt_11 rfl rfl rfl rfl ?_
  refine ct_X0_isIn  ?_
  refine r_ifb_eq (tg := 31) (q := 17) dX0_roofAt_14 (by decide) rfl (fun c => ?_) (fun c => ?_)
  · have hw := hw.1 c
    refine r_null (q := 32) dX0_roofAt_31 rfl ?_
    exact r_aret dX0_roofAt_32 rfl (Or.inl ⟨_, rfl⟩) hw
  · have hw := hw.2 c
    refine r_aload_n (q := 18) dX0_roofAt_17 rfl 0 rfl ?_
    refine r_getR (q := 21) L_X0_24 dX0_roofAt_18 rfl (xw_k hm) (xwr_roofs hm) ?_
    refine r_iload_n (q := 22) dX0_roofAt_21 rfl 1 rfl ?_
    obtain ⟨g101, hw⟩ := hw
    refine r_cVR0 (q := 25) _ [_] N_X0_81 rfl dX0_roofAt_22 rfl rfl rfl (xwk_roofs hm) rfl ?_
    refine ct_J2_get (xwk_roofs hm) g101 ?_
    obtain ⟨g102, hw⟩ := hw
    refine r_cast (q := 28) q518 rfl dX0_roofAt_25 rfl g102 ?_
    refine r_goto (tg := 32) dX0_roofAt_28 (by decide) ?_
    exact r_aret dX0_roofAt_32 rfl (Or.inl ⟨_, rfl⟩) hw
