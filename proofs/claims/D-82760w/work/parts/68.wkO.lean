/-! walks -/
set_option maxRecDepth 100000
theorem b_X0_tried_0 {x1 x2 : Int32} {xo : Nat} {h : Hp} {k n : Nat} {Q : Int64 → Hp → Prop} {E : Nat → Hp → Prop} (hm : XW h xo) (hw : (x1 < 0 → Q (-1) h) ∧ (¬ x1 < 0 → (CP h xo) ∧ ((¬ (x1 &&& ((frx h xo) ^^^ (-1))) = 0 → Q (-1) h) ∧ ((x1 &&& ((frx h xo) ^^^ (-1))) = 0 → ((isin x2 0 1) = true → CtV M_X2_runs [rV (xo + 13), iV x1] h 0 0 (fun h102 => XW h102 xo ∧ ((¬ x2 = 0 → Q (Int32.toInt64 (gI h102 512 (xo + 13))) h102) ∧ (x2 = 0 → Q (gJ h102 510 (xo + 13)) h102))) E) ∧ ((isin x2 0 1) = false → Q (-1) h))))) : Rn M_X0_tried 0 [(0, rV xo), (1, iV x1), (2, iV x2)] [] h k n (qJ Q) E := by
  refine r_iload_n (q := 1) dX0_tried_0 rfl 1 rfl ?_
  refine r_if_lt (tg := 24) (q := 4) dX0_tried_1 (by decide) rfl (fun c => ?_) (fun c => ?_)
  · have hw := hw.1 c
    refine r_ldc2 (q := 27) dX0_tried_24 rfl q1231 ?_
    exact r_lret dX0_tried_27 rfl hw
  · have hw := hw.2 c
    refine r_iload_n (q := 5) dX0_tried_4 rfl 1 rfl ?_
    refine r_aload_n (q := 6) dX0_tried_5 rfl 0 rfl ?_
    obtain ⟨g101, hw⟩ := hw
    refine r_cVI0 (q := 9) _ [] N_X0_451 rfl dX0_tried_6 rfl rfl rfl (xw_k hm) rfl ?_
    refine cs_X0_free hm g101 ?_
    refine r_iconst (q := 10) dX0_tried_9 rfl kI_m1 ?_
    refine r_ixor (q := 11) dX0_tried_10 rfl ?_
    refine r_iand (q := 12) dX0_tried_11 rfl ?_
    refine r_if_ne (tg := 24) (q := 15) dX0_tried_12 (by decide) rfl (fun c => ?_) (fun c => ?_)
    · have hw := hw.1 c
      refine r_ldc2 (q := 27) dX0_tried_24 rfl q1231 ?_
      exact r_lret dX0_tried_27 rfl hw
    · have hw := hw.2 c
      refine r_iload_n (q := 16) dX0_tried_15 rfl 2 rfl ?_
      refine r_iconst (q := 17) dX0_tried_16 rfl kI_0 ?_
      refine r_iconst (q := 18) dX0_tried_17 rfl kI_1 ?_
      refine r_cSI0 (q := 21) [_, _, _] N_X0_3 dX0_tried_18 rfl rfl rfl rfl ?_
      refine ct_X0_isIn  ?_
      refine r_ifb_ne (tg := 28) (q := 24) dX0_tried_21 (by decide) rfl (fun c => ?_) (fun c => ?_)
      · have hw := hw.1 c
        refine r_aload_n (q := 29) dX0_tried_28 rfl 0 rfl ?_
        refine r_getR (q := 32) L_X0_67 dX0_tried_29 rfl (xw_k hm) (xwr_run hm) ?_
        refine r_iload_n (q := 33) dX0_tried_32 rfl 1 rfl ?_
        refine r_cVV0 (q := 36) _ [_] N_X0_382 rfl dX0_tried_33 rfl rfl rfl (xwk_run hm) rfl ?_
        refine r_monoCV (fun h102 hw => ?_) hw
        obtain ⟨hm, hw⟩ := hw
        refine r_iload_n (q := 37) dX0_tried_36 rfl 2 rfl ?_
        refine r_if_ne (tg := 50) (q := 40) dX0_tried_37 (by decide) rfl (fun c => ?_) (fun c => ?_)
        · have hw := hw.1 c
          refine r_aload_n (q := 51) dX0_tried_50 rfl 0 rfl ?_
          refine r_getR (q := 54) L_X0_67 dX0_tried_51 rfl (xw_k hm) (xwr_run hm) ?_
          refine r_getI (q := 57) L_X0_429 dX0_tried_54 rfl (xwk_run hm) ?_
          refine r_i2l (q := 58) dX0_tried_57 rfl ?_
          exact r_lret dX0_tried_58 rfl hw
        · have hw := hw.2 c
          refine r_aload_n (q := 41) dX0_tried_40 rfl 0 rfl ?_
          refine r_getR (q := 44) L_X0_67 dX0_tried_41 rfl (xw_k hm) (xwr_run hm) ?_
          refine r_getJ (q := 47) L_X0_418 dX0_tried_44 rfl (xwk_run hm) ?_
          refine r_goto (tg := 58) dX0_tried_47 (by decide) ?_
          exact r_lret dX0_tried_58 rfl hw
      · have hw := hw.2 c
        refine r_ldc2 (q := 27) dX0_tried_24 rfl q1231 ?_
        exact r_lret dX0_tried_27 rfl hw
theorem b_X3_tried_0 {x1 x2 : Int32} {mo : Nat} {h : Hp} {k n : Nat} {Q : Int64 → Hp → Prop} {E : Nat → Hp → Prop} (hm : MW h mo) (hw : CtI M_X3_isNew [rV mo, iV x1] h 0 0 (fun x102 h101 => MW h101 mo ∧ ((x102 = 0 → Q (-1) h101) ∧ (¬ x102 = 0 → ((isin x2 0 1) = true → CtV M_X3_falls [rV mo, iV x1] h101 0 0 (fun h103 => MW h103 mo ∧ ((¬ x2 = 0 → Q (Int32.toInt64 (gI h103 1052 mo)) h103) ∧ (x2 = 0 → Q (gJ h103 1049 mo) h103))) E) ∧ ((isin x2 0 1) = false → Q (-1) h101)))) E) : Rn M_X3_tried 0 [(0, rV mo), (1, iV x1), (2, iV x2)] [] h k n (qJ Q) E := by
  refine r_aload_n (q := 1) dX3_tried_0 rfl 0 rfl ?_
  refine r_iload_n (q := 2) dX3_tried_1 rfl 1 rfl ?_
  refine r_cVI0 (q := 5) _ [_] N_X3_310 rfl dX3_tried_2 rfl rfl rfl (mw_k hm) rfl ?_
  refine r_monoCI (fun x102 h101 hw => ?_) hw
  obtain ⟨hm, hw⟩ := hw
  refine r_if_eq (tg := 17) (q := 8) dX3_tried_5 (by decide) rfl (fun c => ?_) (fun c => ?_)
  · have hw := hw.1 c
    refine r_ldc2 (q := 20) dX3_tried_17 rfl q1749 ?_
    exact r_lret dX3_tried_20 rfl hw
  · have hw := hw.2 c
    refine r_iload_n (q := 9) dX3_tried_8 rfl 2 rfl ?_
    refine r_iconst (q := 10) dX3_tried_9 rfl kI_0 ?_
    refine r_iconst (q := 11) dX3_tried_10 rfl kI_1 ?_
    refine r_cSI0 (q := 14) [_, _, _] N_X3_194 dX3_tried_11 rfl rfl rfl rfl ?_
    refine ct_X3_isIn  ?_
    refine r_ifb_ne (tg := 21) (q := 17) dX3_tried_14 (by decide) rfl (fun c => ?_) (fun c => ?_)
    · have hw := hw.1 c
      refine r_aload_n (q := 22) dX3_tried_21 rfl 0 rfl ?_
      refine r_iload_n (q := 23) dX3_tried_22 rfl 1 rfl ?_
      refine r_cVV0 (q := 26) _ [_] N_X3_298 rfl dX3_tried_23 rfl rfl rfl (mw_k hm) rfl ?_
      refine r_monoCV (fun h103 hw => ?_) hw
      obtain ⟨hm, hw⟩ := hw
      refine r_iload_n (q := 27) dX3_tried_26 rfl 2 rfl ?_
      refine r_if_ne (tg := 37) (q := 30) dX3_tried_27 (by decide) rfl (fun c => ?_) (fun c => ?_)
      · have hw := hw.1 c
        refine r_aload_n (q := 38) dX3_tried_37 rfl 0 rfl ?_
        refine r_getI (q := 41) L_X3_275 dX3_tried_38 rfl (mw_k hm) ?_
        refine r_i2l (q := 42) dX3_tried_41 rfl ?_
        exact r_lret dX3_tried_42 rfl hw
      · have hw := hw.2 c
        refine r_aload_n (q := 31) dX3_tried_30 rfl 0 rfl ?_
        refine r_getJ (q := 34) L_X3_266 dX3_tried_31 rfl (mw_k hm) ?_
        refine r_goto (tg := 42) dX3_tried_34 (by decide) ?_
        exact r_lret dX3_tried_42 rfl hw
    · have hw := hw.2 c
      refine r_ldc2 (q := 20) dX3_tried_17 rfl q1749 ?_
      exact r_lret dX3_tried_20 rfl hw
theorem b_X0_helps_0 {x1 x2 : Int32} {xo : Nat} {h : Hp} {k n : Nat} {Q : Int64 → Hp → Prop} {E : Nat → Hp → Prop} (hm : XW h xo) (hw : (atp h xo x1) ∧ (((atv h xo x1) = 0 → Q (-1) h) ∧ (¬ (atv h xo x1) = 0 → (ALg h (xo + 2) x1) ∧ (kd h (el h (xo + 2) (ix x1)) = 2 ∧ ((¬ (gR h 109 (el h (xo + 2) (ix x1))) = 0 → Q (-1) h) ∧ ((gR h 109 (el h (xo + 2) (ix x1))) = 0 → (atp h xo x2) ∧ ((¬ (atv h xo x2) = 0 → CtV M_X2_runs [rV (xo + 13), iV 0] h 0 0 (fun h105 => XW h105 xo ∧ (kd h105 (gR h105 502 (xo + 13)) = 61 ∧ (vp_in x2 (ln h105 (gR h105 502 (xo + 13))) ∧ (∀ x108 : Int32, x108 = eI h105 (gR h105 502 (xo + 13)) (ix x2) → CtV M_X2_runs [rV (xo + 13), iV (shl 1 x1)] h105 0 0 (fun h109 => XW h109 xo ∧ (kd h109 (gR h109 502 (xo + 13)) = 61 ∧ (vp_in x2 (ln h109 (gR h109 502 (xo + 13))) ∧ (Q (Int32.toInt64 (x108 - (eI h109 (gR h109 502 (xo + 13)) (ix x2)))) h109)))) E)))) E) ∧ ((atv h xo x2) = 0 → Q (-1) h)))))))) : Rn M_X0_helps 0 [(0, rV xo), (1, iV x1), (2, iV x2)] [] h k n (qJ Q) E := by
  refine r_aload_n (q := 1) dX0_helps_0 rfl 0 rfl ?_
  refine r_iload_n (q := 2) dX0_helps_1 rfl 1 rfl ?_
  obtain ⟨g101, hw⟩ := hw
  refine r_cVR0 (q := 5) _ [_] N_X0_87 rfl dX0_helps_2 rfl rfl rfl (xw_k hm) rfl ?_
  refine ct_X0_at hm g101 ?_
  refine r_ifnull (tg := 33) (q := 8) dX0_helps_5 (by decide) rfl (fun c => ?_) (fun c => ?_)
  · have hw := hw.1 c
    refine r_ldc2 (q := 36) dX0_helps_33 rfl q1231 ?_
    exact r_lret dX0_helps_36 rfl hw
  · have hw := hw.2 c
    refine r_aload_n (q := 9) dX0_helps_8 rfl 0 rfl ?_
    refine r_getR (q := 12) L_X0_20 dX0_helps_9 rfl (xw_k hm) (xwr_corners hm) ?_
    refine r_iload_n (q := 13) dX0_helps_12 rfl 1 rfl ?_
    obtain ⟨g102, hw⟩ := hw
    refine r_cVR0 (q := 16) _ [_] N_X0_81 rfl dX0_helps_13 rfl rfl rfl (xwk_corners hm) rfl ?_
    refine ct_J2_get (xwk_corners hm) g102 ?_
    obtain ⟨g103, hw⟩ := hw
    refine r_cast (q := 19) q374 rfl dX0_helps_16 rfl g103 ?_
    refine r_getR (q := 22) L_X0_91 dX0_helps_19 rfl g103 rfl ?_
    refine r_ifnonnull (tg := 33) (q := 25) dX0_helps_22 (by decide) rfl (fun c => ?_) (fun c => ?_)
    · have hw := hw.1 c
      refine r_ldc2 (q := 36) dX0_helps_33 rfl q1231 ?_
      exact r_lret dX0_helps_36 rfl hw
    · have hw := hw.2 c
      refine r_aload_n (q := 26) dX0_helps_25 rfl 0 rfl ?_
      refine r_iload_n (q := 27) dX0_helps_26 rfl 2 rfl ?_
      obtain ⟨g104, hw⟩ := hw
      refine r_cVR0 (q := 30) _ [_] N_X0_87 rfl dX0_helps_27 rfl rfl rfl (xw_k hm) rfl ?_
      refine ct_X0_at hm g104 ?_
      refine r_ifnonnull (tg := 37) (q := 33) dX0_helps_30 (by decide) rfl (fun c => ?_) (fun c => ?_)
      · have hw := hw.1 c
        refine r_aload_n (q := 38) dX0_helps_37 rfl 0 rfl ?_
        refine r_getR (q := 41) L_X0_67 dX0_helps_38 rfl (xw_k hm) (xwr_run hm) ?_
        refine r_iconst (q := 42) dX0_helps_41 rfl kI_0 ?_
        refine r_cVV0 (q := 45) _ [_] N_X0_382 rfl dX0_helps_42 rfl rfl rfl (xwk_run hm) rfl ?_
        refine r_monoCV (fun h105 hw => ?_) hw
        obtain ⟨hm, hw⟩ := hw
        refine r_aload_n (q := 46) dX0_helps_45 rfl 0 rfl ?_
        refine r_getR (q := 49) L_X0_67 dX0_helps_46 rfl (xw_k hm) (xwr_run hm) ?_
        refine r_getR (q := 52) L_X0_385 dX0_helps_49 rfl (xwk_run hm) rfl ?_
        refine r_iload_n (q := 53) dX0_helps_52 rfl 2 rfl ?_
        obtain ⟨g106, hw⟩ := hw
        obtain ⟨g107, hw⟩ := hw
        refine r_ialdL (q := 54) dX0_helps_53 rfl g106 rfl g107 ?_
        have hw := hw _ rfl
        refine r_istore_n (q := 55) (lv' := [(0, _), (1, _), (2, _), (3, _)]) dX0_helps_54 rfl (Nat.le_of_ble_eq_true rfl) rfl ?_
        refine r_aload_n (q := 56) dX0_helps_55 rfl 0 rfl ?_
        refine r_getR (q := 59) L_X0_67 dX0_helps_56 rfl (xw_k hm) (xwr_run hm) ?_
        refine r_iconst (q := 60) dX0_helps_59 rfl kI_1 ?_
        refine r_iload_n (q := 61) dX0_helps_60 rfl 1 rfl ?_
        refine r_ishl (q := 62) dX0_helps_61 rfl ?_
        refine r_cVV0 (q := 65) _ [_] N_X0_382 rfl dX0_helps_62 rfl rfl rfl (xwk_run hm) rfl ?_
        refine r_monoCV (fun h109 hw => ?_) hw
        obtain ⟨hm, hw⟩ := hw
        refine r_iload_n (q := 66) dX0_helps_65 rfl 3 rfl ?_
        refine r_aload_n (q := 67) dX0_helps_66 rfl 0 rfl ?_
        refine r_getR (q := 70) L_X0_67 dX0_helps_67 rfl (xw_k hm) (xwr_run hm) ?_
        refine r_getR (q := 73) L_X0_385 dX0_helps_70 rfl (xwk_run hm) rfl ?_
        refine r_iload_n (q := 74) dX0_helps_73 rfl 2 rfl ?_
        obtain ⟨g110, hw⟩ := hw
        obtain ⟨g111, hw⟩ := hw
        refine r_ialdL (q := 75) dX0_helps_74 rfl g110 rfl g111 ?_
        refine r_isub (q := 76) dX0_helps_75 rfl ?_
        refine r_i2l (q := 77) dX0_helps_76 rfl ?_
        exact r_lret dX0_helps_77 rfl hw
      · have hw := hw.2 c
        refine r_ldc2 (q := 36) dX0_helps_33 rfl q1231 ?_
        exact r_lret dX0_helps_36 rfl hw
theorem b_X3_helps_0 {x1 x2 : Int32} {mo : Nat} {h : Hp} {k n : Nat} {Q : Int64 → Hp → Prop} {E : Nat → Hp → Prop} (hm : MW h mo) (hw : ((isin x1 0 (gI h 1001 mo - 1)) = false → Q (-1) h) ∧ ((isin x1 0 (gI h 1001 mo - 1)) = true → vp_in x1 12 ∧ ((¬ (eI h (mo + 6) (ix x1)) = 0 → Q (-1) h) ∧ ((eI h (mo + 6) (ix x1)) = 0 → ((isin x2 0 (gI h 1001 mo - 1)) = true → CtV M_X3_falls [rV mo, iV 0] h 0 0 (fun h102 => MW h102 mo ∧ (vp_in x2 12 ∧ (∀ y104 : Int64, y104 = eJ h102 (mo + 33) (ix x2) → CtV M_X3_falls [rV mo, iV (shl 1 x1)] h102 0 0 (fun h105 => MW h105 mo ∧ (vp_in x2 12 ∧ (Q (y104 - (eJ h105 (mo + 33) (ix x2))) h105))) E))) E) ∧ ((isin x2 0 (gI h 1001 mo - 1)) = false → Q (-1) h))))) : Rn M_X3_helps 0 [(0, rV mo), (1, iV x1), (2, iV x2)] [] h k n (qJ Q) E := by
  refine r_aload_n (q := 1) dX3_helps_0 rfl 0 rfl ?_
  refine r_iload_n (q := 2) dX3_helps_1 rfl 1 rfl ?_
  refine r_cVI0 (q := 5) _ [_] N_X3_198 rfl dX3_helps_2 rfl rfl rfl (mw_k hm) rfl ?_
  refine ct_X3_isCorner hm ?_
  refine r_ifb_eq (tg := 25) (q := 8) dX3_helps_5 (by decide) rfl (fun c => ?_) (fun c => ?_)
  · have hw := hw.1 c
    refine r_ldc2 (q := 28) dX3_helps_25 rfl q1749 ?_
    exact r_lret dX3_helps_28 rfl hw
  · have hw := hw.2 c
    refine r_aload_n (q := 9) dX3_helps_8 rfl 0 rfl ?_
    refine r_getR (q := 12) L_X3_25 dX3_helps_9 rfl (mw_k hm) (mwr_hasBed hm) ?_
    refine r_iload_n (q := 13) dX3_helps_12 rfl 1 rfl ?_
    obtain ⟨g101, hw⟩ := hw
    refine r_zaldL (q := 14) dX3_helps_13 rfl (mwk_hasBed hm) (mwl_hasBed hm) g101 ?_
    refine r_if_ne (tg := 25) (q := 17) dX3_helps_14 (by decide) rfl (fun c => ?_) (fun c => ?_)
    · have hw := hw.1 c
      refine r_ldc2 (q := 28) dX3_helps_25 rfl q1749 ?_
      exact r_lret dX3_helps_28 rfl hw
    · have hw := hw.2 c
      refine r_aload_n (q := 18) dX3_helps_17 rfl 0 rfl ?_
      refine r_iload_n (q := 19) dX3_helps_18 rfl 2 rfl ?_
      refine r_cVI0 (q := 22) _ [_] N_X3_198 rfl dX3_helps_19 rfl rfl rfl (mw_k hm) rfl ?_
      refine ct_X3_isCorner hm ?_
      refine r_ifb_ne (tg := 29) (q := 25) dX3_helps_22 (by decide) rfl (fun c => ?_) (fun c => ?_)
      · have hw := hw.1 c
        refine r_aload_n (q := 30) dX3_helps_29 rfl 0 rfl ?_
        refine r_iconst (q := 31) dX3_helps_30 rfl kI_0 ?_
        refine r_cVV0 (q := 34) _ [_] N_X3_298 rfl dX3_helps_31 rfl rfl rfl (mw_k hm) rfl ?_
        refine r_monoCV (fun h102 hw => ?_) hw
        obtain ⟨hm, hw⟩ := hw
        refine r_aload_n (q := 35) dX3_helps_34 rfl 0 rfl ?_
        refine r_getR (q := 38) L_X3_108 dX3_helps_35 rfl (mw_k hm) (mwr_spiltAt hm) ?_
        refine r_iload_n (q := 39) dX3_helps_38 rfl 2 rfl ?_
        obtain ⟨g103, hw⟩ := hw
        refine r_laldL (q := 40) dX3_helps_39 rfl (mwk_spiltAt hm) (mwl_spiltAt hm) g103 ?_
        have hw := hw _ rfl
        refine r_lstore_n (q := 41) (lv' := [(0, _), (1, _), (2, _), (3, _)]) dX3_helps_40 rfl (Nat.le_of_ble_eq_true rfl) rfl ?_
        refine r_aload_n (q := 42) dX3_helps_41 rfl 0 rfl ?_
        refine r_iconst (q := 43) dX3_helps_42 rfl kI_1 ?_
        refine r_iload_n (q := 44) dX3_helps_43 rfl 1 rfl ?_
        refine r_ishl (q := 45) dX3_helps_44 rfl ?_
        refine r_cVV0 (q := 48) _ [_] N_X3_298 rfl dX3_helps_45 rfl rfl rfl (mw_k hm) rfl ?_
        refine r_monoCV (fun h105 hw => ?_) hw
        obtain ⟨hm, hw⟩ := hw
        refine r_lload_n (q := 49) dX3_helps_48 rfl 3 rfl ?_
        refine r_aload_n (q := 50) dX3_helps_49 rfl 0 rfl ?_
        refine r_getR (q := 53) L_X3_108 dX3_helps_50 rfl (mw_k hm) (mwr_spiltAt hm) ?_
        refine r_iload_n (q := 54) dX3_helps_53 rfl 2 rfl ?_
        obtain ⟨g106, hw⟩ := hw
        refine r_laldL (q := 55) dX3_helps_54 rfl (mwk_spiltAt hm) (mwl_spiltAt hm) g106 ?_
        refine r_lsub (q := 56) dX3_helps_55 rfl ?_
        exact r_lret dX3_helps_56 rfl hw
      · have hw := hw.2 c
        refine r_ldc2 (q := 28) dX3_helps_25 rfl q1749 ?_
        exact r_lret dX3_helps_28 rfl hw
theorem b_X0_best_0 {x1 x2 x3 x4 : Int32} {xo : Nat} {h : Hp} {k n : Nat} {Q : Int64 → Hp → Prop} {E : Nat → Hp → Prop} (hm : XW h xo) (hw : ((isin x1 0 4) = false → Q (-1) h) ∧ ((isin x1 0 4) = true → ((isin x2 0 99999) = false → Q (-1) h) ∧ ((isin x2 0 99999) = true → ((isin x3 0 10000) = false → Q (-1) h) ∧ ((isin x3 0 10000) = true → ((isin x4 0 4) = true → (P_X0_on h xo (gI h 0 xo)) ∧ (∀ r102 : Nat, r102 = V_X0_on h xo (gI h 0 xo) → kd h r102 = 5 ∧ (∀ x104 : Int32, x104 = (gI h 412 r102) + ((gI h 413 r102) * 100) → (CP h xo) ∧ (∀ x106 : Int32, x106 = prkx h xo → Rn M_X0_best 88 [(0, rV xo), (1, iV x1), (2, iV x2), (3, iV x3), (4, iV x4), (5, rV r102), (6, iV x104), (7, iV x106), (8, iV 0), (9, jV (-1)), (11, iV 0)] [] h k n (qJ Q) E)))) ∧ ((isin x4 0 4) = false → Q (-1) h))))) : Rn M_X0_best 0 [(0, rV xo), (1, iV x1), (2, iV x2), (3, iV x3), (4, iV x4)] [] h k n (qJ Q) E := by
  refine r_iload_n (q := 1) dX0_best_0 rfl 1 rfl ?_
  refine r_iconst (q := 2) dX0_best_1 rfl kI_0 ?_
  refine r_iconst (q := 3) dX0_best_2 rfl kI_4 ?_
  refine r_cSI0 (q := 6) [_, _, _] N_X0_3 dX0_best_3 rfl rfl rfl rfl ?_
  refine ct_X0_isIn  ?_
  refine r_ifb_eq (tg := 41) (q := 9) dX0_best_6 (by decide) rfl (fun c => ?_) (fun c => ?_)
  · have hw := hw.1 c
    refine r_ldc2 (q := 44) dX0_best_41 rfl q1231 ?_
    exact r_lret dX0_best_44 rfl hw
  · have hw := hw.2 c
    refine r_iload_n (q := 10) dX0_best_9 rfl 2 rfl ?_
    refine r_iconst (q := 11) dX0_best_10 rfl kI_0 ?_
    refine r_ldcw (q := 14) dX0_best_11 rfl q1264 ?_
    refine r_cSI0 (q := 17) [_, _, _] N_X0_3 dX0_best_14 rfl rfl rfl rfl ?_
    refine ct_X0_isIn  ?_
    refine r_ifb_eq (tg := 41) (q := 20) dX0_best_17 (by decide) rfl (fun c => ?_) (fun c => ?_)
    · have hw := hw.1 c
      refine r_ldc2 (q := 44) dX0_best_41 rfl q1231 ?_
      exact r_lret dX0_best_44 rfl hw
    · have hw := hw.2 c
      refine r_iload_n (q := 21) dX0_best_20 rfl 3 rfl ?_
      refine r_iconst (q := 22) dX0_best_21 rfl kI_0 ?_
      refine r_sipush (q := 25) dX0_best_22 rfl kS_10000 ?_
      refine r_cSI0 (q := 28) [_, _, _] N_X0_3 dX0_best_25 rfl rfl rfl rfl ?_
      refine ct_X0_isIn  ?_
      refine r_ifb_eq (tg := 41) (q := 31) dX0_best_28 (by decide) rfl (fun c => ?_) (fun c => ?_)
      · have hw := hw.1 c
        refine r_ldc2 (q := 44) dX0_best_41 rfl q1231 ?_
        exact r_lret dX0_best_44 rfl hw
      · have hw := hw.2 c
        refine r_iload (q := 33) dX0_best_31 rfl 4 rfl ?_
        refine r_iconst (q := 34) dX0_best_33 rfl kI_0 ?_
        refine r_iconst (q := 35) dX0_best_34 rfl kI_4 ?_
        refine r_cSI0 (q := 38) [_, _, _] N_X0_3 dX0_best_35 rfl rfl rfl rfl ?_
        refine ct_X0_isIn  ?_
        refine r_ifb_ne (tg := 45) (q := 41) dX0_best_38 (by decide) rfl (fun c => ?_) (fun c => ?_)
        · have hw := hw.1 c
          refine r_aload_n (q := 46) dX0_best_45 rfl 0 rfl ?_
          refine r_aload_n (q := 47) dX0_best_46 rfl 0 rfl ?_
          refine r_getI (q := 50) L_X0_119 dX0_best_47 rfl (xw_k hm) ?_
          obtain ⟨g101, hw⟩ := hw
          refine r_cVR0 (q := 53) _ [_] N_X0_122 rfl dX0_best_50 rfl rfl rfl (xw_k hm) rfl ?_
          refine ct_X0_on hm g101 ?_
          have hw := hw _ rfl
          refine r_astore (q := 55) (lv' := [(0, _), (1, _), (2, _), (3, _), (4, _), (5, _)]) dX0_best_53 rfl (Nat.le_of_ble_eq_true rfl) rfl ?_
          refine r_aload (q := 57) dX0_best_55 rfl 5 rfl ?_
          obtain ⟨g103, hw⟩ := hw
          refine r_getI (q := 60) L_X0_307 dX0_best_57 rfl g103 ?_
          refine r_aload (q := 62) dX0_best_60 rfl 5 rfl ?_
          refine r_getI (q := 65) L_X0_311 dX0_best_62 rfl g103 ?_
          refine r_bipush (q := 67) dX0_best_65 rfl kB_100 ?_
          refine r_imul (q := 68) dX0_best_67 rfl ?_
          refine r_iadd (q := 69) dX0_best_68 rfl ?_
          have hw := hw _ rfl
          refine r_istore (q := 71) (lv' := [(0, _), (1, _), (2, _), (3, _), (4, _), (5, _), (6, _)]) dX0_best_69 rfl (Nat.le_of_ble_eq_true rfl) rfl ?_
          refine r_aload_n (q := 72) dX0_best_71 rfl 0 rfl ?_
          obtain ⟨g105, hw⟩ := hw
          refine r_cVI0 (q := 75) _ [] N_X0_117 rfl dX0_best_72 rfl rfl rfl (xw_k hm) rfl ?_
          refine cs_X0_parking hm g105 ?_
          have hw := hw _ rfl
          refine r_istore (q := 77) (lv' := [(0, _), (1, _), (2, _), (3, _), (4, _), (5, _), (6, _), (7, _)]) dX0_best_75 rfl (Nat.le_of_ble_eq_true rfl) rfl ?_
          refine r_iconst (q := 78) dX0_best_77 rfl kI_0 ?_
          refine r_istore (q := 80) (lv' := [(0, _), (1, _), (2, _), (3, _), (4, _), (5, _), (6, _), (7, _), (8, _)]) dX0_best_78 rfl (Nat.le_of_ble_eq_true rfl) rfl ?_
          refine r_ldc2 (q := 83) dX0_best_80 rfl q1231 ?_
          refine r_lstore (q := 85) (lv' := [(0, _), (1, _), (2, _), (3, _), (4, _), (5, _), (6, _), (7, _), (8, _), (9, _)]) dX0_best_83 rfl (Nat.le_of_ble_eq_true rfl) rfl ?_
          refine r_iconst (q := 86) dX0_best_85 rfl kI_0 ?_
          refine r_istore (q := 88) (lv' := [(0, _), (1, _), (2, _), (3, _), (4, _), (5, _), (6, _), (7, _), (8, _), (9, _), (11, _)]) dX0_best_86 rfl (Nat.le_of_ble_eq_true rfl) rfl ?_
          exact hw
        · have hw := hw.2 c
          refine r_ldc2 (q := 44) dX0_best_41 rfl q1231 ?_
          exact r_lret dX0_best_44 rfl hw
theorem b_X0_best_88 {x1 x2 x3 x4 x6 x7 x8 x11 : Int32} {y9 : Int64} {xo r5 : Nat} {h : Hp} {k n : Nat} {Q : Int64 → Hp → Prop} {E : Nat → Hp → Prop} (hm : XW h xo) (hw : ((shl 1 (gI h 1102 (xo + 2))) ≤ x11 → (0 ≤ (lg_cmp y9 0) → CtV M_X2_runs [rV (xo + 13), iV x8] h 0 0 (fun h101 => XW h101 xo ∧ ((x4 = 0 → Q y9 h101) ∧ (¬ x4 = 0 → (x4 = 1 → Q (Int32.toInt64 x8) h101) ∧ (¬ x4 = 1 → (x4 = 2 → Q ((Int32.toInt64 (V_J9_bitCount h101 x8)) * (Int32.toInt64 x6)) h101) ∧ (¬ x4 = 2 → (x4 = 3 → Q (gJ h101 510 (xo + 13)) h101) ∧ (¬ x4 = 3 → Q (Int32.toInt64 (gI h101 512 (xo + 13))) h101)))))) E) ∧ (¬ 0 ≤ (lg_cmp y9 0) → Q (-1) h)) ∧ (¬ (shl 1 (gI h 1102 (xo + 2))) ≤ x11 → ∀ x102 : Int32, x102 = V_J9_bitCount h x11 → (x1 < x102 → ∀ x103 : Int32, x103 = x11 + 1 → Rn M_X0_best 88 [(0, rV xo), (1, iV x1), (2, iV x2), (3, iV x3), (4, iV x4), (5, rV r5), (6, iV x6), (7, iV x7), (8, iV x8), (9, jV y9), (11, iV x103)] [] h k n (qJ Q) E) ∧ (¬ x1 < x102 → (CP h xo) ∧ ((¬ (x11 &&& ((frx h xo) ^^^ (-1))) = 0 → ∀ x105 : Int32, x105 = x11 + 1 → Rn M_X0_best 88 [(0, rV xo), (1, iV x1), (2, iV x2), (3, iV x3), (4, iV x4), (5, rV r5), (6, iV x6), (7, iV x7), (8, iV x8), (9, jV y9), (11, iV x105)] [] h k n (qJ Q) E) ∧ ((x11 &&& ((frx h xo) ^^^ (-1))) = 0 → (0 < (lg_cmp ((Int32.toInt64 x102) * (Int32.toInt64 x6)) (Int32.toInt64 x2)) → ∀ x106 : Int32, x106 = x11 + 1 → Rn M_X0_best 88 [(0, rV xo), (1, iV x1), (2, iV x2), (3, iV x3), (4, iV x4), (5, rV r5), (6, iV x6), (7, iV x7), (8, iV x8), (9, jV y9), (11, iV x106)] [] h k n (qJ Q) E) ∧ (¬ 0 < (lg_cmp ((Int32.toInt64 x102) * (Int32.toInt64 x6)) (Int32.toInt64 x2)) → CtI M_X0_parkingOf [rV xo, iV x11] h 0 0 (fun x108 h107 => XW h107 xo ∧ (kd h107 r5 = 5 ∧ (((x7 + x108) ≤ (gI h107 406 r5) → CtV M_X2_runs [rV (xo + 13), iV x11] h107 0 0 (fun h110 => XW h110 xo ∧ (∀ y111 : Int64, y111 = ((Int32.toInt64 x3) * (Int32.toInt64 (gI h110 512 (xo + 13)))) + (gJ h110 510 (xo + 13)) → ((lg_cmp y9 0) < 0 → ∀ x112 : Int32, x112 = x11 + 1 → Rn M_X0_best 88 [(0, rV xo), (1, iV x1), (2, iV x2), (3, iV x3), (4, iV x4), (5, rV r5), (6, iV x6), (7, iV x7), (8, iV x11), (9, jV y111), (11, iV x112)] [] h110 k n (qJ Q) E) ∧ (¬ (lg_cmp y9 0) < 0 → (0 < (lg_cmp y111 y9) → ∀ x113 : Int32, x113 = x11 + 1 → Rn M_X0_best 88 [(0, rV xo), (1, iV x1), (2, iV x2), (3, iV x3), (4, iV x4), (5, rV r5), (6, iV x6), (7, iV x7), (8, iV x8), (9, jV y9), (11, iV x113)] [] h110 k n (qJ Q) E) ∧ (¬ 0 < (lg_cmp y111 y9) → (¬ (lg_cmp y111 y9) = 0 → ∀ x114 : Int32, x114 = x11 + 1 → Rn M_X0_best 88 [(0, rV xo), (1, iV x1), (2, iV x2), (3, iV x3), (4, iV x4), (5, rV r5), (6, iV x6), (7, iV x7), (8, iV x11), (9, jV y111), (11, iV x114)] [] h110 k n (qJ Q) E) ∧ ((lg_cmp y111 y9) = 0 → (x102 < (V_J9_bitCount h110 x8) → ∀ x115 : Int32, x115 = x11 + 1 → Rn M_X0_best 88 [(0, rV xo), (1, iV x1), (2, iV x2), (3, iV x3), (4, iV x4), (5, rV r5), (6, iV x6), (7, iV x7), (8, iV x11), (9, jV y111), (11, iV x115)] [] h110 k n (qJ Q) E) ∧ (¬ x102 < (V_J9_bitCount h110 x8) → ∀ x116 : Int32, x116 = x11 + 1 → Rn M_X0_best 88 [(0, rV xo), (1, iV x1), (2, iV x2), (3, iV x3), (4, iV x4), (5, rV r5), (6, iV x6), (7, iV x7), (8, iV x8), (9, jV y9), (11, iV x116)] [] h110 k n (qJ Q) E)))))) E) ∧ (¬ (x7 + x108) ≤ (gI h107 406 r5) → ∀ x117 : Int32, x117 = x11 + 1 → Rn M_X0_best 88 [(0, rV xo), (1, iV x1), (2, iV x2), (3, iV x3), (4, iV x4), (5, rV r5), (6, iV x6), (7, iV x7), (8, iV x8), (9, jV y9), (11, iV x117)] [] h107 k n (qJ Q) E)))) E)))))) : Rn M_X0_best 88 [(0, rV xo), (1, iV x1), (2, iV x2), (3, iV x3), (4, iV x4), (5, rV r5), (6, iV x6), (7, iV x7), (8, iV x8), (9, jV y9), (11, iV x11)] [] h k n (qJ Q) E := by
  refine r_iload (q := 90) dX0_best_88 rfl 10 rfl ?_
  refine r_iconst (q := 91) dX0_best_90 rfl kI_1 ?_
  refine r_aload_n (q := 92) dX0_best_91 rfl 0 rfl ?_
  refine r_getR (q := 95) L_X0_20 dX0_best_92 rfl (xw_k hm) (xwr_corners hm) ?_
  refine r_cVI0 (q := 98) _ [] N_X0_77 rfl dX0_best_95 rfl rfl rfl (xwk_corners hm) rfl ?_
  refine ct_J2_size (xwk_corners hm) ?_
  refine r_ishl (q := 99) dX0_best_98 rfl ?_
  refine r_icmp_ge (tg := 240) (q := 102) dX0_best_99 (by decide) rfl (fun c => ?_) (fun c => ?_)
  · have hw := hw.1 c
    refine r_lload (q := 242) dX0_best_240 rfl 9 rfl ?_
    refine r_lconst (q := 243) dX0_best_242 rfl kL_0 ?_
    refine r_lcmp (q := 244) dX0_best_243 rfl ?_
    refine r_if_ge (tg := 251) (q := 247) dX0_best_244 (by decide) rfl (fun c => ?_) (fun c => ?_)
    · have hw := hw.1 c
      refine r_aload_n (q := 252) dX0_best_251 rfl 0 rfl ?_
      refine r_getR (q := 255) L_X0_67 dX0_best_252 rfl (xw_k hm) (xwr_run hm) ?_
      refine r_iload (q := 257) dX0_best_255 rfl 8 rfl ?_
      refine r_cVV0 (q := 260) _ [_] N_X0_382 rfl dX0_best_257 rfl rfl rfl (xwk_run hm) rfl ?_
      refine r_monoCV (fun h101 hw => ?_) hw
      obtain ⟨hm, hw⟩ := hw
      refine r_iload (q := 262) dX0_best_260 rfl 4 rfl ?_
      by_cases c0 : x4 = 0
      · have hw := hw.1 c0
        refine r_tabK (tg := 292) dX0_best_262 c0 (by decide) (by decide) rfl (by decide) ?_
        refine r_lload (q := 294) dX0_best_292 rfl 9 rfl ?_
        exact r_lret dX0_best_294 rfl hw
      · have hw := hw.2 c0
        by_cases c1 : x4 = 1
        · have hw := hw.1 c1
          refine r_tabK (tg := 295) dX0_best_262 c1 (by decide) (by decide) rfl (by decide) ?_
          refine r_iload (q := 297) dX0_best_295 rfl 8 rfl ?_
          refine r_i2l (q := 298) dX0_best_297 rfl ?_
          exact r_lret dX0_best_298 rfl hw
        · have hw := hw.2 c1
          by_cases c2 : x4 = 2
          · have hw := hw.1 c2
            refine r_tabK (tg := 299) dX0_best_262 c2 (by decide) (by decide) rfl (by decide) ?_
            refine r_iload (q := 301) dX0_best_299 rfl 8 rfl ?_
            refine r_cSI0 (q := 304) [_] N_X0_455 dX0_best_301 rfl rfl rfl rfl ?_
            refine ct_J9_bitCount  ?_
            refine r_i2l (q := 305) dX0_best_304 rfl ?_
            refine r_iload (q := 307) dX0_best_305 rfl 6 rfl ?_
            refine r_i2l (q := 308) dX0_best_307 rfl ?_
            refine r_lmul (q := 309) dX0_best_308 rfl ?_
            exact r_lret dX0_best_309 rfl hw
          · have hw := hw.2 c2
            by_cases c3 : x4 = 3
            · have hw := hw.1 c3
              refine r_tabK (tg := 310) dX0_best_262 c3 (by decide) (by decide) rfl (by decide) ?_
              refine r_aload_n (q := 311) dX0_best_310 rfl 0 rfl ?_
              refine r_getR (q := 314) L_X0_67 dX0_best_311 rfl (xw_k hm) (xwr_run hm) ?_
              refine r_getJ (q := 317) L_X0_418 dX0_best_314 rfl (xwk_run hm) ?_
              exact r_lret dX0_best_317 rfl hw
            · have hw := hw.2 c3
              have z0 := lv_neT c0 (show (0 : Int32).toInt = 0 by decide)
              have z1 := lv_neT c1 (show (1 : Int32).toInt = 1 by decide)
              have z2 := lv_neT c2 (show (2 : Int32).toInt = 2 by decide)
              have z3 := lv_neT c3 (show (3 : Int32).toInt = 3 by decide)
              refine r_tabOut (tg := 318) dX0_best_262 (by omega) (by decide) ?_
              refine r_aload_n (q := 319) dX0_best_318 rfl 0 rfl ?_
              refine r_getR (q := 322) L_X0_67 dX0_best_319 rfl (xw_k hm) (xwr_run hm) ?_
              refine r_getI (q := 325) L_X0_429 dX0_best_322 rfl (xwk_run hm) ?_
              refine r_i2l (q := 326) dX0_best_325 rfl ?_
              exact r_lret dX0_best_326 rfl hw
    · have hw := hw.2 c
      refine r_ldc2 (q := 250) dX0_best_247 rfl q1231 ?_
      exact r_lret dX0_best_250 rfl hw
  · have hw := hw.2 c
    refine r_iload (q := 104) dX0_best_102 rfl 10 rfl ?_
    refine r_cSI0 (q := 107) [_] N_X0_455 dX0_best_104 rfl rfl rfl rfl ?_
    refine ct_J9_bitCount  ?_
    have hw := hw _ rfl
    refine r_istore (q := 109) (lv' := [(0, _), (1, _), (2, _), (3, _), (4, _), (5, _), (6, _), (7, _), (8, _), (9, _), (11, _), (12, _)]) dX0_best_107 rfl (Nat.le_of_ble_eq_true rfl) rfl ?_
    refine r_iload (q := 111) dX0_best_109 rfl 11 rfl ?_
    refine r_iload_n (q := 112) dX0_best_111 rfl 1 rfl ?_
    refine r_icmp_gt (tg := 234) (q := 115) dX0_best_112 (by decide) rfl (fun c => ?_) (fun c => ?_)
    · have hw := hw.1 c
      have hw := hw _ rfl
      refine r_iincW (q := 237) (lv' := [(0, _), (1, _), (2, _), (3, _), (4, _), (5, _), (6, _), (7, _), (8, _), (9, _), (11, _), (12, _)]) dX0_best_234 rfl 10 rfl kI_1 (Nat.le_of_ble_eq_true rfl) rfl ?_
      refine r_goto (tg := 88) dX0_best_237 (by decide) ?_
      exact r_sub [0, 1, 2, 3, 4, 5, 6, 7, 8, 9, 10] rfl hw
    · have hw := hw.2 c
      refine r_iload (q := 117) dX0_best_115 rfl 10 rfl ?_
      refine r_aload_n (q := 118) dX0_best_117 rfl 0 rfl ?_
      obtain ⟨g104, hw⟩ := hw
      refine r_cVI0 (q := 121) _ [] N_X0_451 rfl dX0_best_118 rfl rfl rfl (xw_k hm) rfl ?_
      refine cs_X0_free hm g104 ?_
      refine r_iconst (q := 122) dX0_best_121 rfl kI_m1 ?_
      refine r_ixor (q := 123) dX0_best_122 rfl ?_
      refine r_iand (q := 124) dX0_best_123 rfl ?_
      refine r_if_ne (tg := 234) (q := 127) dX0_best_124 (by decide) rfl (fun c => ?_) (fun c => ?_)
      · have hw := hw.1 c
        have hw := hw _ rfl
        refine r_iincW (q := 237) (lv' := [(0, _), (1, _), (2, _), (3, _), (4, _), (5, _), (6, _), (7, _), (8, _), (9, _), (11, _), (12, _)]) dX0_best_234 rfl 10 rfl kI_1 (Nat.le_of_ble_eq_true rfl) rfl ?_
        refine r_goto (tg := 88) dX0_best_237 (by decide) ?_
        exact r_sub [0, 1, 2, 3, 4, 5, 6, 7, 8, 9, 10] rfl hw
      · have hw := hw.2 c
        refine r_iload (q := 129) dX0_best_127 rfl 11 rfl ?_
        refine r_i2l (q := 130) dX0_best_129 rfl ?_
        refine r_iload (q := 132) dX0_best_130 rfl 6 rfl ?_
        refine r_i2l (q := 133) dX0_best_132 rfl ?_
        refine r_lmul (q := 134) dX0_best_133 rfl ?_
        refine r_iload_n (q := 135) dX0_best_134 rfl 2 rfl ?_
        refine r_i2l (q := 136) dX0_best_135 rfl ?_
        refine r_lcmp (q := 137) dX0_best_136 rfl ?_
        refine r_if_gt (tg := 234) (q := 140) dX0_best_137 (by decide) rfl (fun c => ?_) (fun c => ?_)
        · have hw := hw.1 c
          have hw := hw _ rfl
          refine r_iincW (q := 237) (lv' := [(0, _), (1, _), (2, _), (3, _), (4, _), (5, _), (6, _), (7, _), (8, _), (9, _), (11, _), (12, _)]) dX0_best_234 rfl 10 rfl kI_1 (Nat.le_of_ble_eq_true rfl) rfl ?_
          refine r_goto (tg := 88) dX0_best_237 (by decide) ?_
          exact r_sub [0, 1, 2, 3, 4, 5, 6, 7, 8, 9, 10] rfl hw
        · have hw := hw.2 c
          refine r_iload (q := 142) dX0_best_140 rfl 7 rfl ?_
          refine r_aload_n (q := 143) dX0_best_142 rfl 0 rfl ?_
          refine r_iload (q := 145) dX0_best_143 rfl 10 rfl ?_
          refine r_cVI0 (q := 148) _ [_] N_X0_460 rfl dX0_best_145 rfl rfl rfl (xw_k hm) rfl ?_
          refine r_monoCI (fun x108 h107 hw => ?_) hw
          obtain ⟨hm, hw⟩ := hw
          refine r_iadd (q := 149) dX0_best_148 rfl ?_
          refine r_aload (q := 151) dX0_best_149 rfl 5 rfl ?_
          obtain ⟨g109, hw⟩ := hw
          refine r_getI (q := 154) L_X0_126 dX0_best_151 rfl g109 ?_
          refine r_icmp_le (tg := 160) (q := 157) dX0_best_154 (by decide) rfl (fun c => ?_) (fun c => ?_)
          · have hw := hw.1 c
            refine r_aload_n (q := 161) dX0_best_160 rfl 0 rfl ?_
            refine r_getR (q := 164) L_X0_67 dX0_best_161 rfl (xw_k hm) (xwr_run hm) ?_
            refine r_iload (q := 166) dX0_best_164 rfl 10 rfl ?_
            refine r_cVV0 (q := 169) _ [_] N_X0_382 rfl dX0_best_166 rfl rfl rfl (xwk_run hm) rfl ?_
            refine r_monoCV (fun h110 hw => ?_) hw
            obtain ⟨hm, hw⟩ := hw
            refine r_iload_n (q := 170) dX0_best_169 rfl 3 rfl ?_
            refine r_i2l (q := 171) dX0_best_170 rfl ?_
            refine r_aload_n (q := 172) dX0_best_171 rfl 0 rfl ?_
            refine r_getR (q := 175) L_X0_67 dX0_best_172 rfl (xw_k hm) (xwr_run hm) ?_
            refine r_getI (q := 178) L_X0_429 dX0_best_175 rfl (xwk_run hm) ?_
            refine r_i2l (q := 179) dX0_best_178 rfl ?_
            refine r_lmul (q := 180) dX0_best_179 rfl ?_
            refine r_aload_n (q := 181) dX0_best_180 rfl 0 rfl ?_
            refine r_getR (q := 184) L_X0_67 dX0_best_181 rfl (xw_k hm) (xwr_run hm) ?_
            refine r_getJ (q := 187) L_X0_418 dX0_best_184 rfl (xwk_run hm) ?_
            refine r_ladd (q := 188) dX0_best_187 rfl ?_
            have hw := hw _ rfl
            refine r_lstore (q := 190) (lv' := [(0, _), (1, _), (2, _), (3, _), (4, _), (5, _), (6, _), (7, _), (8, _), (9, _), (11, _), (12, _), (13, _)]) dX0_best_188 rfl (Nat.le_of_ble_eq_true rfl) rfl ?_
            refine r_lload (q := 192) dX0_best_190 rfl 9 rfl ?_
            refine r_lconst (q := 193) dX0_best_192 rfl kL_0 ?_
            refine r_lcmp (q := 194) dX0_best_193 rfl ?_
            refine r_if_lt (tg := 226) (q := 197) dX0_best_194 (by decide) rfl (fun c => ?_) (fun c => ?_)
            · have hw := hw.1 c
              refine r_lload (q := 228) dX0_best_226 rfl 12 rfl ?_
              refine r_lstore (q := 230) (lv' := [(0, _), (1, _), (2, _), (3, _), (4, _), (5, _), (6, _), (7, _), (8, _), (9, _), (11, _), (12, _), (13, _)]) dX0_best_228 rfl (Nat.le_of_ble_eq_true rfl) rfl ?_
              refine r_iload (q := 232) dX0_best_230 rfl 10 rfl ?_
              refine r_istore (q := 234) (lv' := [(0, _), (1, _), (2, _), (3, _), (4, _), (5, _), (6, _), (7, _), (8, _), (9, _), (11, _), (12, _), (13, _)]) dX0_best_232 rfl (Nat.le_of_ble_eq_true rfl) rfl ?_
              have hw := hw _ rfl
              refine r_iincW (q := 237) (lv' := [(0, _), (1, _), (2, _), (3, _), (4, _), (5, _), (6, _), (7, _), (8, _), (9, _), (11, _), (12, _), (13, _)]) dX0_best_234 rfl 10 rfl kI_1 (Nat.le_of_ble_eq_true rfl) rfl ?_
              refine r_goto (tg := 88) dX0_best_237 (by decide) ?_
              exact r_sub [0, 1, 2, 3, 4, 5, 6, 7, 8, 9, 10] rfl hw
            · have hw := hw.2 c
              refine r_lload (q := 199) dX0_best_197 rfl 12 rfl ?_
              refine r_lload (q := 201) dX0_best_199 rfl 9 rfl ?_
              refine r_lcmp (q := 202) dX0_best_201 rfl ?_
              refine r_if_gt (tg := 234) (q := 205) dX0_best_202 (by decide) rfl (fun c => ?_) (fun c => ?_)
              · have hw := hw.1 c
                have hw := hw _ rfl
                refine r_iincW (q := 237) (lv' := [(0, _), (1, _), (2, _), (3, _), (4, _), (5, _), (6, _), (7, _), (8, _), (9, _), (11, _), (12, _), (13, _)]) dX0_best_234 rfl 10 rfl kI_1 (Nat.le_of_ble_eq_true rfl) rfl ?_
                refine r_goto (tg := 88) dX0_best_237 (by decide) ?_
                exact r_sub [0, 1, 2, 3, 4, 5, 6, 7, 8, 9, 10] rfl hw
              · have hw := hw.2 c
                refine r_lload (q := 207) dX0_best_205 rfl 12 rfl ?_
                refine r_lload (q := 209) dX0_best_207 rfl 9 rfl ?_
                refine r_lcmp (q := 210) dX0_best_209 rfl ?_
                refine r_if_ne (tg := 226) (q := 213) dX0_best_210 (by decide) rfl (fun c => ?_) (fun c => ?_)
                · have hw := hw.1 c
                  refine r_lload (q := 228) dX0_best_226 rfl 12 rfl ?_
                  refine r_lstore (q := 230) (lv' := [(0, _), (1, _), (2, _), (3, _), (4, _), (5, _), (6, _), (7, _), (8, _), (9, _), (11, _), (12, _), (13, _)]) dX0_best_228 rfl (Nat.le_of_ble_eq_true rfl) rfl ?_
                  refine r_iload (q := 232) dX0_best_230 rfl 10 rfl ?_
                  refine r_istore (q := 234) (lv' := [(0, _), (1, _), (2, _), (3, _), (4, _), (5, _), (6, _), (7, _), (8, _), (9, _), (11, _), (12, _), (13, _)]) dX0_best_232 rfl (Nat.le_of_ble_eq_true rfl) rfl ?_
                  have hw := hw _ rfl
                  refine r_iincW (q := 237) (lv' := [(0, _), (1, _), (2, _), (3, _), (4, _), (5, _), (6, _), (7, _), (8, _), (9, _), (11, _), (12, _), (13, _)]) dX0_best_234 rfl 10 rfl kI_1 (Nat.le_of_ble_eq_true rfl) rfl ?_
                  refine r_goto (tg := 88) dX0_best_237 (by decide) ?_
                  exact r_sub [0, 1, 2, 3, 4, 5, 6, 7, 8, 9, 10] rfl hw
                · have hw := hw.2 c
                  refine r_iload (q := 215) dX0_best_213 rfl 11 rfl ?_
                  refine r_iload (q := 217) dX0_best_215 rfl 8 rfl ?_
                  refine r_cSI0 (q := 220) [_] N_X0_455 dX0_best_217 rfl rfl rfl rfl ?_
                  refine ct_J9_bitCount  ?_
                  refine r_icmp_lt (tg := 226) (q := 223) dX0_best_220 (by decide) rfl (fun c => ?_) (fun c => ?_)
                  · have hw := hw.1 c
                    refine r_lload (q := 228) dX0_best_226 rfl 12 rfl ?_
                    refine r_lstore (q := 230) (lv' := [(0, _), (1, _), (2, _), (3, _), (4, _), (5, _), (6, _), (7, _), (8, _), (9, _), (11, _), (12, _), (13, _)]) dX0_best_228 rfl (Nat.le_of_ble_eq_true rfl) rfl ?_
                    refine r_iload (q := 232) dX0_best_230 rfl 10 rfl ?_
                    refine r_istore (q := 234) (lv' := [(0, _), (1, _), (2, _), (3, _), (4, _), (5, _), (6, _), (7, _), (8, _), (9, _), (11, _), (12, _), (13, _)]) dX0_best_232 rfl (Nat.le_of_ble_eq_true rfl) rfl ?_
                    have hw := hw _ rfl
                    refine r_iincW (q := 237) (lv' := [(0, _), (1, _), (2, _), (3, _), (4, _), (5, _), (6, _), (7, _), (8, _), (9, _), (11, _), (12, _), (13, _)]) dX0_best_234 rfl 10 rfl kI_1 (Nat.le_of_ble_eq_true rfl) rfl ?_
                    refine r_goto (tg := 88) dX0_best_237 (by decide) ?_
                    exact r_sub [0, 1, 2, 3, 4, 5, 6, 7, 8, 9, 10] rfl hw
                  · have hw := hw.2 c
                    refine r_goto (tg := 234) dX0_best_223 (by decide) ?_
                    have hw := hw _ rfl
                    refine r_iincW (q := 237) (lv' := [(0, _), (1, _), (2, _), (3, _), (4, _), (5, _), (6, _), (7, _), (8, _), (9, _), (11, _), (12, _), (13, _)]) dX0_best_234 rfl 10 rfl kI_1 (Nat.le_of_ble_eq_true rfl) rfl ?_
                    refine r_goto (tg := 88) dX0_best_237 (by decide) ?_
                    exact r_sub [0, 1, 2, 3, 4, 5, 6, 7, 8, 9, 10] rfl hw
          · have hw := hw.2 c
            refine r_goto (tg := 234) dX0_best_157 (by decide) ?_
            have hw := hw _ rfl
            refine r_iincW (q := 237) (lv' := [(0, _), (1, _), (2, _), (3, _), (4, _), (5, _), (6, _), (7, _), (8, _), (9, _), (11, _), (12, _)]) dX0_best_234 rfl 10 rfl kI_1 (Nat.le_of_ble_eq_true rfl) rfl ?_
            refine r_goto (tg := 88) dX0_best_237 (by decide) ?_
            exact r_sub [0, 1, 2, 3, 4, 5, 6, 7, 8, 9, 10] rfl hw
theorem b_X3_best_0 {x1 x2 x3 x4 : Int32} {mo : Nat} {h : Hp} {k n : Nat} {Q : Int64 → Hp → Prop} {E : Nat → Hp → Prop} (hm : MW h mo) (hw : ((isin x1 0 4) = false → Q (-1) h) ∧ ((isin x1 0 4) = true → ((isin x2 0 99999) = false → Q (-1) h) ∧ ((isin x2 0 99999) = true → ((isin x3 0 10000) = false → Q (-1) h) ∧ ((isin x3 0 10000) = true → ((isin x4 0 4) = true → (P_X3_now h mo 10) ∧ ((P_X3_now h mo 11) ∧ (∀ x103 : Int32, x103 = (V_X3_now h mo 10) + (100 * (V_X3_now h mo 11)) → Rn M_X3_best 72 [(0, rV mo), (1, iV x1), (2, iV x2), (3, iV x3), (4, iV x4), (5, iV x103), (6, iV (-1)), (7, jV 0), (9, iV 0)] [] h k n (qJ Q) E))) ∧ ((isin x4 0 4) = false → Q (-1) h))))) : Rn M_X3_best 0 [(0, rV mo), (1, iV x1), (2, iV x2), (3, iV x3), (4, iV x4)] [] h k n (qJ Q) E := by
  refine r_iload_n (q := 1) dX3_best_0 rfl 1 rfl ?_
  refine r_iconst (q := 2) dX3_best_1 rfl kI_0 ?_
  refine r_iconst (q := 3) dX3_best_2 rfl kI_4 ?_
  refine r_cSI0 (q := 6) [_, _, _] N_X3_194 dX3_best_3 rfl rfl rfl rfl ?_
  refine ct_X3_isIn  ?_
  refine r_ifb_eq (tg := 41) (q := 9) dX3_best_6 (by decide) rfl (fun c => ?_) (fun c => ?_)
  · have hw := hw.1 c
    refine r_ldc2 (q := 44) dX3_best_41 rfl q1749 ?_
    exact r_lret dX3_best_44 rfl hw
  · have hw := hw.2 c
    refine r_iload_n (q := 10) dX3_best_9 rfl 2 rfl ?_
    refine r_iconst (q := 11) dX3_best_10 rfl kI_0 ?_
    refine r_ldcw (q := 14) dX3_best_11 rfl q1754 ?_
    refine r_cSI0 (q := 17) [_, _, _] N_X3_194 dX3_best_14 rfl rfl rfl rfl ?_
    refine ct_X3_isIn  ?_
    refine r_ifb_eq (tg := 41) (q := 20) dX3_best_17 (by decide) rfl (fun c => ?_) (fun c => ?_)
    · have hw := hw.1 c
      refine r_ldc2 (q := 44) dX3_best_41 rfl q1749 ?_
      exact r_lret dX3_best_44 rfl hw
    · have hw := hw.2 c
      refine r_iload_n (q := 21) dX3_best_20 rfl 3 rfl ?_
      refine r_iconst (q := 22) dX3_best_21 rfl kI_0 ?_
      refine r_sipush (q := 25) dX3_best_22 rfl kS_10000 ?_
      refine r_cSI0 (q := 28) [_, _, _] N_X3_194 dX3_best_25 rfl rfl rfl rfl ?_
      refine ct_X3_isIn  ?_
      refine r_ifb_eq (tg := 41) (q := 31) dX3_best_28 (by decide) rfl (fun c => ?_) (fun c => ?_)
      · have hw := hw.1 c
        refine r_ldc2 (q := 44) dX3_best_41 rfl q1749 ?_
        exact r_lret dX3_best_44 rfl hw
      · have hw := hw.2 c
        refine r_iload (q := 33) dX3_best_31 rfl 4 rfl ?_
        refine r_iconst (q := 34) dX3_best_33 rfl kI_0 ?_
        refine r_iconst (q := 35) dX3_best_34 rfl kI_4 ?_
        refine r_cSI0 (q := 38) [_, _, _] N_X3_194 dX3_best_35 rfl rfl rfl rfl ?_
        refine ct_X3_isIn  ?_
        refine r_ifb_ne (tg := 45) (q := 41) dX3_best_38 (by decide) rfl (fun c => ?_) (fun c => ?_)
        · have hw := hw.1 c
          refine r_aload_n (q := 46) dX3_best_45 rfl 0 rfl ?_
          refine r_bipush (q := 48) dX3_best_46 rfl kB_10 ?_
          obtain ⟨g101, hw⟩ := hw
          refine r_cVI0 (q := 51) _ [_] N_X3_209 rfl dX3_best_48 rfl rfl rfl (mw_k hm) rfl ?_
          refine ct_X3_now hm g101 ?_
          refine r_bipush (q := 53) dX3_best_51 rfl kB_100 ?_
          refine r_aload_n (q := 54) dX3_best_53 rfl 0 rfl ?_
          refine r_bipush (q := 56) dX3_best_54 rfl kB_11 ?_
          obtain ⟨g102, hw⟩ := hw
          refine r_cVI0 (q := 59) _ [_] N_X3_209 rfl dX3_best_56 rfl rfl rfl (mw_k hm) rfl ?_
          refine ct_X3_now hm g102 ?_
          refine r_imul (q := 60) dX3_best_59 rfl ?_
          refine r_iadd (q := 61) dX3_best_60 rfl ?_
          have hw := hw _ rfl
          refine r_istore (q := 63) (lv' := [(0, _), (1, _), (2, _), (3, _), (4, _), (5, _)]) dX3_best_61 rfl (Nat.le_of_ble_eq_true rfl) rfl ?_
          refine r_iconst (q := 64) dX3_best_63 rfl kI_m1 ?_
          refine r_istore (q := 66) (lv' := [(0, _), (1, _), (2, _), (3, _), (4, _), (5, _), (6, _)]) dX3_best_64 rfl (Nat.le_of_ble_eq_true rfl) rfl ?_
          refine r_lconst (q := 67) dX3_best_66 rfl kL_0 ?_
          refine r_lstore (q := 69) (lv' := [(0, _), (1, _), (2, _), (3, _), (4, _), (5, _), (6, _), (7, _)]) dX3_best_67 rfl (Nat.le_of_ble_eq_true rfl) rfl ?_
          refine r_iconst (q := 70) dX3_best_69 rfl kI_0 ?_
          refine r_istore (q := 72) (lv' := [(0, _), (1, _), (2, _), (3, _), (4, _), (5, _), (6, _), (7, _), (9, _)]) dX3_best_70 rfl (Nat.le_of_ble_eq_true rfl) rfl ?_
          exact hw
        · have hw := hw.2 c
          refine r_ldc2 (q := 44) dX3_best_41 rfl q1749 ?_
          exact r_lret dX3_best_44 rfl hw
theorem b_X3_best_72 {x1 x2 x3 x4 x5 x6 x9 : Int32} {y7 : Int64} {mo : Nat} {h : Hp} {k n : Nat} {Q : Int64 → Hp → Prop} {E : Nat → Hp → Prop} (hm : MW h mo) (hw : ((shl 1 (gI h 1001 mo)) ≤ x9 → (¬ x6 = (-1) → CtV M_X3_falls [rV mo, iV x6] h 0 0 (fun h101 => MW h101 mo ∧ ((¬ x4 = 0 → (¬ x4 = 1 → (¬ x4 = 2 → (¬ x4 = 3 → Q (Int32.toInt64 (gI h101 1052 mo)) h101) ∧ (x4 = 3 → Q (gJ h101 1049 mo) h101)) ∧ (x4 = 2 → CtI M_X3_bits [iV x6] h101 0 0 (fun x103 h102 => MW h102 mo ∧ (Q (Int32.toInt64 (x103 * x5)) h102)) E)) ∧ (x4 = 1 → Q (Int32.toInt64 x6) h101)) ∧ (x4 = 0 → Q y7 h101))) E) ∧ (x6 = (-1) → Q (-1) h)) ∧ (¬ (shl 1 (gI h 1001 mo)) ≤ x9 → CtI M_X3_bits [iV x9] h 0 0 (fun x105 h104 => MW h104 mo ∧ ((x1 < x105 → ∀ x106 : Int32, x106 = x9 + 1 → Rn M_X3_best 72 [(0, rV mo), (1, iV x1), (2, iV x2), (3, iV x3), (4, iV x4), (5, iV x5), (6, iV x6), (7, jV y7), (9, iV x106)] [] h104 k n (qJ Q) E) ∧ (¬ x1 < x105 → CtI M_X3_bits [iV x9] h104 0 0 (fun x108 h107 => MW h107 mo ∧ ((x2 < (x108 * x5) → ∀ x109 : Int32, x109 = x9 + 1 → Rn M_X3_best 72 [(0, rV mo), (1, iV x1), (2, iV x2), (3, iV x3), (4, iV x4), (5, iV x5), (6, iV x6), (7, jV y7), (9, iV x109)] [] h107 k n (qJ Q) E) ∧ (¬ x2 < (x108 * x5) → CtI M_X3_isNew [rV mo, iV x9] h107 0 0 (fun x111 h110 => MW h110 mo ∧ ((x111 = 0 → ∀ x112 : Int32, x112 = x9 + 1 → Rn M_X3_best 72 [(0, rV mo), (1, iV x1), (2, iV x2), (3, iV x3), (4, iV x4), (5, iV x5), (6, iV x6), (7, jV y7), (9, iV x112)] [] h110 k n (qJ Q) E) ∧ (¬ x111 = 0 → (CNp h110 mo) ∧ ((P_X3_now h110 mo 4) ∧ (((prks h110 mo x9) ≤ (V_X3_now h110 mo 4) → CtV M_X3_falls [rV mo, iV x9] h110 0 0 (fun h115 => MW h115 mo ∧ (∀ y116 : Int64, y116 = ((Int32.toInt64 x3) * (Int32.toInt64 (gI h115 1052 mo))) + (gJ h115 1049 mo) → (x6 = (-1) → ∀ x117 : Int32, x117 = x9 + 1 → Rn M_X3_best 72 [(0, rV mo), (1, iV x1), (2, iV x2), (3, iV x3), (4, iV x4), (5, iV x5), (6, iV x9), (7, jV y116), (9, iV x117)] [] h115 k n (qJ Q) E) ∧ (¬ x6 = (-1) → (0 < (lg_cmp y116 y7) → ∀ x118 : Int32, x118 = x9 + 1 → Rn M_X3_best 72 [(0, rV mo), (1, iV x1), (2, iV x2), (3, iV x3), (4, iV x4), (5, iV x5), (6, iV x6), (7, jV y7), (9, iV x118)] [] h115 k n (qJ Q) E) ∧ (¬ 0 < (lg_cmp y116 y7) → (¬ (lg_cmp y116 y7) = 0 → ∀ x119 : Int32, x119 = x9 + 1 → Rn M_X3_best 72 [(0, rV mo), (1, iV x1), (2, iV x2), (3, iV x3), (4, iV x4), (5, iV x5), (6, iV x9), (7, jV y116), (9, iV x119)] [] h115 k n (qJ Q) E) ∧ ((lg_cmp y116 y7) = 0 → CtI M_X3_bits [iV x9] h115 0 0 (fun x121 h120 => MW h120 mo ∧ (CtI M_X3_bits [iV x6] h120 0 0 (fun x123 h122 => MW h122 mo ∧ ((x121 < x123 → ∀ x124 : Int32, x124 = x9 + 1 → Rn M_X3_best 72 [(0, rV mo), (1, iV x1), (2, iV x2), (3, iV x3), (4, iV x4), (5, iV x5), (6, iV x9), (7, jV y116), (9, iV x124)] [] h122 k n (qJ Q) E) ∧ (¬ x121 < x123 → ∀ x125 : Int32, x125 = x9 + 1 → Rn M_X3_best 72 [(0, rV mo), (1, iV x1), (2, iV x2), (3, iV x3), (4, iV x4), (5, iV x5), (6, iV x6), (7, jV y7), (9, iV x125)] [] h122 k n (qJ Q) E))) E)) E))))) E) ∧ (¬ (prks h110 mo x9) ≤ (V_X3_now h110 mo 4) → ∀ x126 : Int32, x126 = x9 + 1 → Rn M_X3_best 72 [(0, rV mo), (1, iV x1), (2, iV x2), (3, iV x3), (4, iV x4), (5, iV x5), (6, iV x6), (7, jV y7), (9, iV x126)] [] h110 k n (qJ Q) E)))))) E))) E))) E)) : Rn M_X3_best 72 [(0, rV mo), (1, iV x1), (2, iV x2), (3, iV x3), (4, iV x4), (5, iV x5), (6, iV x6), (7, jV y7), (9, iV x9)] [] h k n (qJ Q) E := by
  refine r_iload (q := 74) dX3_best_72 rfl 8 rfl ?_
  refine r_iconst (q := 75) dX3_best_74 rfl kI_1 ?_
  refine r_aload_n (q := 76) dX3_best_75 rfl 0 rfl ?_
  refine r_getI (q := 79) L_X3_191 dX3_best_76 rfl (mw_k hm) ?_
  refine r_ishl (q := 80) dX3_best_79 rfl ?_
  refine r_icmp_ge (tg := 203) (q := 83) dX3_best_80 (by decide) rfl (fun c => ?_) (fun c => ?_)
  · have hw := hw.1 c
    refine r_iload (q := 205) dX3_best_203 rfl 6 rfl ?_
    refine r_iconst (q := 206) dX3_best_205 rfl kI_m1 ?_
    refine r_icmp_ne (tg := 213) (q := 209) dX3_best_206 (by decide) rfl (fun c => ?_) (fun c => ?_)
    · have hw := hw.1 c
      refine r_aload_n (q := 214) dX3_best_213 rfl 0 rfl ?_
      refine r_iload (q := 216) dX3_best_214 rfl 6 rfl ?_
      refine r_cVV0 (q := 219) _ [_] N_X3_298 rfl dX3_best_216 rfl rfl rfl (mw_k hm) rfl ?_
      refine r_monoCV (fun h101 hw => ?_) hw
      obtain ⟨hm, hw⟩ := hw
      refine r_iload (q := 221) dX3_best_219 rfl 4 rfl ?_
      refine r_if_ne (tg := 229) (q := 224) dX3_best_221 (by decide) rfl (fun c => ?_) (fun c => ?_)
      · have hw := hw.1 c
        refine r_iload (q := 231) dX3_best_229 rfl 4 rfl ?_
        refine r_iconst (q := 232) dX3_best_231 rfl kI_1 ?_
        refine r_icmp_ne (tg := 241) (q := 235) dX3_best_232 (by decide) rfl (fun c => ?_) (fun c => ?_)
        · have hw := hw.1 c
          refine r_iload (q := 243) dX3_best_241 rfl 4 rfl ?_
          refine r_iconst (q := 244) dX3_best_243 rfl kI_2 ?_
          refine r_icmp_ne (tg := 259) (q := 247) dX3_best_244 (by decide) rfl (fun c => ?_) (fun c => ?_)
          · have hw := hw.1 c
            refine r_iload (q := 261) dX3_best_259 rfl 4 rfl ?_
            refine r_iconst (q := 262) dX3_best_261 rfl kI_3 ?_
            refine r_icmp_ne (tg := 272) (q := 265) dX3_best_262 (by decide) rfl (fun c => ?_) (fun c => ?_)
            · have hw := hw.1 c
              refine r_aload_n (q := 273) dX3_best_272 rfl 0 rfl ?_
              refine r_getI (q := 276) L_X3_275 dX3_best_273 rfl (mw_k hm) ?_
              refine r_i2l (q := 277) dX3_best_276 rfl ?_
              exact r_lret dX3_best_277 rfl hw
            · have hw := hw.2 c
              refine r_aload_n (q := 266) dX3_best_265 rfl 0 rfl ?_
              refine r_getJ (q := 269) L_X3_266 dX3_best_266 rfl (mw_k hm) ?_
              refine r_goto (tg := 277) dX3_best_269 (by decide) ?_
              exact r_lret dX3_best_277 rfl hw
          · have hw := hw.2 c
            refine r_iload (q := 249) dX3_best_247 rfl 6 rfl ?_
            refine r_cSI0 (q := 252) [_] N_X3_316 dX3_best_249 rfl rfl rfl rfl ?_
            refine r_monoCI (fun x103 h102 hw => ?_) hw
            obtain ⟨hm, hw⟩ := hw
            refine r_iload (q := 254) dX3_best_252 rfl 5 rfl ?_
            refine r_imul (q := 255) dX3_best_254 rfl ?_
            refine r_i2l (q := 256) dX3_best_255 rfl ?_
            refine r_goto (tg := 277) dX3_best_256 (by decide) ?_
            exact r_lret dX3_best_277 rfl hw
        · have hw := hw.2 c
          refine r_iload (q := 237) dX3_best_235 rfl 6 rfl ?_
          refine r_i2l (q := 238) dX3_best_237 rfl ?_
          refine r_goto (tg := 277) dX3_best_238 (by decide) ?_
          exact r_lret dX3_best_277 rfl hw
      · have hw := hw.2 c
        refine r_lload (q := 226) dX3_best_224 rfl 7 rfl ?_
        refine r_goto (tg := 277) dX3_best_226 (by decide) ?_
        exact r_lret dX3_best_277 rfl hw
    · have hw := hw.2 c
      refine r_ldc2 (q := 212) dX3_best_209 rfl q1749 ?_
      exact r_lret dX3_best_212 rfl hw
  · have hw := hw.2 c
    refine r_iload (q := 85) dX3_best_83 rfl 8 rfl ?_
    refine r_cSI0 (q := 88) [_] N_X3_316 dX3_best_85 rfl rfl rfl rfl ?_
    refine r_monoCI (fun x105 h104 hw => ?_) hw
    obtain ⟨hm, hw⟩ := hw
    refine r_iload_n (q := 89) dX3_best_88 rfl 1 rfl ?_
    refine r_icmp_gt (tg := 197) (q := 92) dX3_best_89 (by decide) rfl (fun c => ?_) (fun c => ?_)
    · have hw := hw.1 c
      have hw := hw _ rfl
      refine r_iincW (q := 200) (lv' := [(0, _), (1, _), (2, _), (3, _), (4, _), (5, _), (6, _), (7, _), (9, _)]) dX3_best_197 rfl 8 rfl kI_1 (Nat.le_of_ble_eq_true rfl) rfl ?_
      refine r_goto (tg := 72) dX3_best_200 (by decide) ?_
      exact hw
    · have hw := hw.2 c
      refine r_iload (q := 94) dX3_best_92 rfl 8 rfl ?_
      refine r_cSI0 (q := 97) [_] N_X3_316 dX3_best_94 rfl rfl rfl rfl ?_
      refine r_monoCI (fun x108 h107 hw => ?_) hw
      obtain ⟨hm, hw⟩ := hw
      refine r_iload (q := 99) dX3_best_97 rfl 5 rfl ?_
      refine r_imul (q := 100) dX3_best_99 rfl ?_
      refine r_iload_n (q := 101) dX3_best_100 rfl 2 rfl ?_
      refine r_icmp_gt (tg := 197) (q := 104) dX3_best_101 (by decide) rfl (fun c => ?_) (fun c => ?_)
      · have hw := hw.1 c
        have hw := hw _ rfl
        refine r_iincW (q := 200) (lv' := [(0, _), (1, _), (2, _), (3, _), (4, _), (5, _), (6, _), (7, _), (9, _)]) dX3_best_197 rfl 8 rfl kI_1 (Nat.le_of_ble_eq_true rfl) rfl ?_
        refine r_goto (tg := 72) dX3_best_200 (by decide) ?_
        exact hw
      · have hw := hw.2 c
        refine r_aload_n (q := 105) dX3_best_104 rfl 0 rfl ?_
        refine r_iload (q := 107) dX3_best_105 rfl 8 rfl ?_
        refine r_cVI0 (q := 110) _ [_] N_X3_310 rfl dX3_best_107 rfl rfl rfl (mw_k hm) rfl ?_
        refine r_monoCI (fun x111 h110 hw => ?_) hw
        obtain ⟨hm, hw⟩ := hw
        refine r_if_eq (tg := 197) (q := 113) dX3_best_110 (by decide) rfl (fun c => ?_) (fun c => ?_)
        · have hw := hw.1 c
          have hw := hw _ rfl
          refine r_iincW (q := 200) (lv' := [(0, _), (1, _), (2, _), (3, _), (4, _), (5, _), (6, _), (7, _), (9, _)]) dX3_best_197 rfl 8 rfl kI_1 (Nat.le_of_ble_eq_true rfl) rfl ?_
          refine r_goto (tg := 72) dX3_best_200 (by decide) ?_
          exact hw
        · have hw := hw.2 c
          refine r_aload_n (q := 114) dX3_best_113 rfl 0 rfl ?_
          refine r_iload (q := 116) dX3_best_114 rfl 8 rfl ?_
          obtain ⟨g113, hw⟩ := hw
          refine r_cVI0 (q := 119) _ [_] N_X3_205 rfl dX3_best_116 rfl rfl rfl (mw_k hm) rfl ?_
          refine cs_X3_parked hm g113 ?_
          refine r_aload_n (q := 120) dX3_best_119 rfl 0 rfl ?_
          refine r_iconst (q := 121) dX3_best_120 rfl kI_4 ?_
          obtain ⟨g114, hw⟩ := hw
          refine r_cVI0 (q := 124) _ [_] N_X3_209 rfl dX3_best_121 rfl rfl rfl (mw_k hm) rfl ?_
          refine ct_X3_now hm g114 ?_
          refine r_icmp_le (tg := 130) (q := 127) dX3_best_124 (by decide) rfl (fun c => ?_) (fun c => ?_)
          · have hw := hw.1 c
            refine r_aload_n (q := 131) dX3_best_130 rfl 0 rfl ?_
            refine r_iload (q := 133) dX3_best_131 rfl 8 rfl ?_
            refine r_cVV0 (q := 136) _ [_] N_X3_298 rfl dX3_best_133 rfl rfl rfl (mw_k hm) rfl ?_
            refine r_monoCV (fun h115 hw => ?_) hw
            obtain ⟨hm, hw⟩ := hw
            refine r_iload_n (q := 137) dX3_best_136 rfl 3 rfl ?_
            refine r_i2l (q := 138) dX3_best_137 rfl ?_
            refine r_aload_n (q := 139) dX3_best_138 rfl 0 rfl ?_
            refine r_getI (q := 142) L_X3_275 dX3_best_139 rfl (mw_k hm) ?_
            refine r_i2l (q := 143) dX3_best_142 rfl ?_
            refine r_lmul (q := 144) dX3_best_143 rfl ?_
            refine r_aload_n (q := 145) dX3_best_144 rfl 0 rfl ?_
            refine r_getJ (q := 148) L_X3_266 dX3_best_145 rfl (mw_k hm) ?_
            refine r_ladd (q := 149) dX3_best_148 rfl ?_
            have hw := hw _ rfl
            refine r_lstore (q := 151) (lv' := [(0, _), (1, _), (2, _), (3, _), (4, _), (5, _), (6, _), (7, _), (9, _), (10, _)]) dX3_best_149 rfl (Nat.le_of_ble_eq_true rfl) rfl ?_
            refine r_iload (q := 153) dX3_best_151 rfl 6 rfl ?_
            refine r_iconst (q := 154) dX3_best_153 rfl kI_m1 ?_
            refine r_icmp_eq (tg := 189) (q := 157) dX3_best_154 (by decide) rfl (fun c => ?_) (fun c => ?_)
            · have hw := hw.1 c
              refine r_iload (q := 191) dX3_best_189 rfl 8 rfl ?_
              refine r_istore (q := 193) (lv' := [(0, _), (1, _), (2, _), (3, _), (4, _), (5, _), (6, _), (7, _), (9, _), (10, _)]) dX3_best_191 rfl (Nat.le_of_ble_eq_true rfl) rfl ?_
              refine r_lload (q := 195) dX3_best_193 rfl 9 rfl ?_
              refine r_lstore (q := 197) (lv' := [(0, _), (1, _), (2, _), (3, _), (4, _), (5, _), (6, _), (7, _), (9, _), (10, _)]) dX3_best_195 rfl (Nat.le_of_ble_eq_true rfl) rfl ?_
              have hw := hw _ rfl
              refine r_iincW (q := 200) (lv' := [(0, _), (1, _), (2, _), (3, _), (4, _), (5, _), (6, _), (7, _), (9, _), (10, _)]) dX3_best_197 rfl 8 rfl kI_1 (Nat.le_of_ble_eq_true rfl) rfl ?_
              refine r_goto (tg := 72) dX3_best_200 (by decide) ?_
              exact r_sub [0, 1, 2, 3, 4, 5, 6, 7, 8] rfl hw
            · have hw := hw.2 c
              refine r_lload (q := 159) dX3_best_157 rfl 9 rfl ?_
              refine r_lload (q := 161) dX3_best_159 rfl 7 rfl ?_
              refine r_lcmp (q := 162) dX3_best_161 rfl ?_
              refine r_if_gt (tg := 197) (q := 165) dX3_best_162 (by decide) rfl (fun c => ?_) (fun c => ?_)
              · have hw := hw.1 c
                have hw := hw _ rfl
                refine r_iincW (q := 200) (lv' := [(0, _), (1, _), (2, _), (3, _), (4, _), (5, _), (6, _), (7, _), (9, _), (10, _)]) dX3_best_197 rfl 8 rfl kI_1 (Nat.le_of_ble_eq_true rfl) rfl ?_
                refine r_goto (tg := 72) dX3_best_200 (by decide) ?_
                exact r_sub [0, 1, 2, 3, 4, 5, 6, 7, 8] rfl hw
              · have hw := hw.2 c
                refine r_lload (q := 167) dX3_best_165 rfl 9 rfl ?_
                refine r_lload (q := 169) dX3_best_167 rfl 7 rfl ?_
                refine r_lcmp (q := 170) dX3_best_169 rfl ?_
                refine r_if_ne (tg := 189) (q := 173) dX3_best_170 (by decide) rfl (fun c => ?_) (fun c => ?_)
                · have hw := hw.1 c
                  refine r_iload (q := 191) dX3_best_189 rfl 8 rfl ?_
                  refine r_istore (q := 193) (lv' := [(0, _), (1, _), (2, _), (3, _), (4, _), (5, _), (6, _), (7, _), (9, _), (10, _)]) dX3_best_191 rfl (Nat.le_of_ble_eq_true rfl) rfl ?_
                  refine r_lload (q := 195) dX3_best_193 rfl 9 rfl ?_
                  refine r_lstore (q := 197) (lv' := [(0, _), (1, _), (2, _), (3, _), (4, _), (5, _), (6, _), (7, _), (9, _), (10, _)]) dX3_best_195 rfl (Nat.le_of_ble_eq_true rfl) rfl ?_
                  have hw := hw _ rfl
                  refine r_iincW (q := 200) (lv' := [(0, _), (1, _), (2, _), (3, _), (4, _), (5, _), (6, _), (7, _), (9, _), (10, _)]) dX3_best_197 rfl 8 rfl kI_1 (Nat.le_of_ble_eq_true rfl) rfl ?_
                  refine r_goto (tg := 72) dX3_best_200 (by decide) ?_
                  exact r_sub [0, 1, 2, 3, 4, 5, 6, 7, 8] rfl hw
                · have hw := hw.2 c
                  refine r_iload (q := 175) dX3_best_173 rfl 8 rfl ?_
                  refine r_cSI0 (q := 178) [_] N_X3_316 dX3_best_175 rfl rfl rfl rfl ?_
                  refine r_monoCI (fun x121 h120 hw => ?_) hw
                  obtain ⟨hm, hw⟩ := hw
                  refine r_iload (q := 180) dX3_best_178 rfl 6 rfl ?_
                  refine r_cSI0 (q := 183) [_] N_X3_316 dX3_best_180 rfl rfl rfl rfl ?_
                  refine r_monoCI (fun x123 h122 hw => ?_) hw
                  obtain ⟨hm, hw⟩ := hw
                  refine r_icmp_lt (tg := 189) (q := 186) dX3_best_183 (by decide) rfl (fun c => ?_) (fun c => ?_)
                  · have hw := hw.1 c
                    refine r_iload (q := 191) dX3_best_189 rfl 8 rfl ?_
                    refine r_istore (q := 193) (lv' := [(0, _), (1, _), (2, _), (3, _), (4, _), (5, _), (6, _), (7, _), (9, _), (10, _)]) dX3_best_191 rfl (Nat.le_of_ble_eq_true rfl) rfl ?_
                    refine r_lload (q := 195) dX3_best_193 rfl 9 rfl ?_
                    refine r_lstore (q := 197) (lv' := [(0, _), (1, _), (2, _), (3, _), (4, _), (5, _), (6, _), (7, _), (9, _), (10, _)]) dX3_best_195 rfl (Nat.le_of_ble_eq_true rfl) rfl ?_
                    have hw := hw _ rfl
                    refine r_iincW (q := 200) (lv' := [(0, _), (1, _), (2, _), (3, _), (4, _), (5, _), (6, _), (7, _), (9, _), (10, _)]) dX3_best_197 rfl 8 rfl kI_1 (Nat.le_of_ble_eq_true rfl) rfl ?_
                    refine r_goto (tg := 72) dX3_best_200 (by decide) ?_
                    exact r_sub [0, 1, 2, 3, 4, 5, 6, 7, 8] rfl hw
                  · have hw := hw.2 c
                    refine r_goto (tg := 197) dX3_best_186 (by decide) ?_
                    have hw := hw _ rfl
                    refine r_iincW (q := 200) (lv' := [(0, _), (1, _), (2, _), (3, _), (4, _), (5, _), (6, _), (7, _), (9, _), (10, _)]) dX3_best_197 rfl 8 rfl kI_1 (Nat.le_of_ble_eq_true rfl) rfl ?_
                    refine r_goto (tg := 72) dX3_best_200 (by decide) ?_
                    exact r_sub [0, 1, 2, 3, 4, 5, 6, 7, 8] rfl hw
          · have hw := hw.2 c
            refine r_goto (tg := 197) dX3_best_127 (by decide) ?_
            have hw := hw _ rfl
            refine r_iincW (q := 200) (lv' := [(0, _), (1, _), (2, _), (3, _), (4, _), (5, _), (6, _), (7, _), (9, _)]) dX3_best_197 rfl 8 rfl kI_1 (Nat.le_of_ble_eq_true rfl) rfl ?_
            refine r_goto (tg := 72) dX3_best_200 (by decide) ?_
            exact hw
