/-! walks -/
set_option maxRecDepth 100000
theorem b_X3_roofsGive_0 {x1 x2 : Int32} {mo : Nat} {h : Hp} {k n : Nat} {Q : Int64 → Hp → Prop} {E : Nat → Hp → Prop} (hm : MW h mo) (hw : Rn M_X3_roofsGive 5 [(0, rV mo), (1, iV x1), (2, iV x2), (3, jV 0), (5, iV 0)] [] h k n (qJ Q) E) : Rn M_X3_roofsGive 0 [(0, rV mo), (1, iV x1), (2, iV x2)] [] h k n (qJ Q) E := by
  refine r_lconst (q := 1) dX3_roofsGive_0 rfl kL_0 ?_
  refine r_lstore_n (q := 2) (lv' := [(0, _), (1, _), (2, _), (3, _)]) dX3_roofsGive_1 rfl (Nat.le_of_ble_eq_true rfl) rfl ?_
  refine r_iconst (q := 3) dX3_roofsGive_2 rfl kI_0 ?_
  refine r_istore (q := 5) (lv' := [(0, _), (1, _), (2, _), (3, _), (5, _)]) dX3_roofsGive_3 rfl (Nat.le_of_ble_eq_true rfl) rfl ?_
  exact hw
theorem b_X3_roofsGive_5 {x1 x2 x5 : Int32} {y3 : Int64} {mo : Nat} {h : Hp} {k n : Nat} {Q : Int64 → Hp → Prop} {E : Nat → Hp → Prop} (hm : MW h mo) (hw : ((gI h 1002 mo) ≤ x5 → Q y3 h) ∧ (¬ (gI h 1002 mo) ≤ x5 → vp_in x5 30 ∧ (((eI h (mo + 19) (ix x5)) = x1 → vp_in x5 30 ∧ (∀ x103 : Int32, x103 = x2 * (eI h (mo + 21) (ix x5)) → vp_in x5 30 ∧ (vp_in x5 30 ∧ (∀ x106 : Int32, x106 = imin x103 ((eI h (mo + 22) (ix x5)) - (eI h (mo + 29) (ix x5))) → vp_in x5 30 ∧ (vp_in x5 30 ∧ (∀ h109 : Hp, h109 = sI h (mo + 29) (ix x5) ((eI h (mo + 29) (ix x5)) + x106) → ∀ h110 : Hp, h110 = pJ h109 1047 mo ((gJ h109 1047 mo) + (Int32.toInt64 x103)) → ∀ y111 : Int64, y111 = y3 + (Int32.toInt64 (x103 - x106)) → ∀ x112 : Int32, x112 = x5 + 1 → Rn M_X3_roofsGive 5 [(0, rV mo), (1, iV x1), (2, iV x2), (3, jV y111), (5, iV x112)] [] h110 k n (qJ Q) E)))))) ∧ (¬ (eI h (mo + 19) (ix x5)) = x1 → ∀ x113 : Int32, x113 = x5 + 1 → Rn M_X3_roofsGive 5 [(0, rV mo), (1, iV x1), (2, iV x2), (3, jV y3), (5, iV x113)] [] h k n (qJ Q) E)))) : Rn M_X3_roofsGive 5 [(0, rV mo), (1, iV x1), (2, iV x2), (3, jV y3), (5, iV x5)] [] h k n (qJ Q) E := by
  refine r_iload (q := 7) dX3_roofsGive_5 rfl 4 rfl ?_
  refine r_aload_n (q := 8) dX3_roofsGive_7 rfl 0 rfl ?_
  refine r_getI (q := 11) L_X3_202 dX3_roofsGive_8 rfl (mw_k hm) ?_
  refine r_icmp_ge (tg := 100) (q := 14) dX3_roofsGive_11 (by decide) rfl (fun c => ?_) (fun c => ?_)
  · have hw := hw.1 c
    refine r_lload_n (q := 101) dX3_roofsGive_100 rfl 3 rfl ?_
    exact r_lret dX3_roofsGive_101 rfl hw
  · have hw := hw.2 c
    refine r_aload_n (q := 15) dX3_roofsGive_14 rfl 0 rfl ?_
    refine r_getR (q := 18) L_X3_65 dX3_roofsGive_15 rfl (mw_k hm) (mwr_roofAt hm) ?_
    refine r_iload (q := 20) dX3_roofsGive_18 rfl 4 rfl ?_
    obtain ⟨g101, hw⟩ := hw
    refine r_ialdL (q := 21) dX3_roofsGive_20 rfl (mwk_roofAt hm) (mwl_roofAt hm) g101 ?_
    refine r_iload_n (q := 22) dX3_roofsGive_21 rfl 1 rfl ?_
    refine r_icmp_eq (tg := 28) (q := 25) dX3_roofsGive_22 (by decide) rfl (fun c => ?_) (fun c => ?_)
    · have hw := hw.1 c
      refine r_iload_n (q := 29) dX3_roofsGive_28 rfl 2 rfl ?_
      refine r_aload_n (q := 30) dX3_roofsGive_29 rfl 0 rfl ?_
      refine r_getR (q := 33) L_X3_71 dX3_roofsGive_30 rfl (mw_k hm) (mwr_roofArea hm) ?_
      refine r_iload (q := 35) dX3_roofsGive_33 rfl 4 rfl ?_
      obtain ⟨g102, hw⟩ := hw
      refine r_ialdL (q := 36) dX3_roofsGive_35 rfl (mwk_roofArea hm) (mwl_roofArea hm) g102 ?_
      refine r_imul (q := 37) dX3_roofsGive_36 rfl ?_
      have hw := hw _ rfl
      refine r_istore (q := 39) (lv' := [(0, _), (1, _), (2, _), (3, _), (5, _), (6, _)]) dX3_roofsGive_37 rfl (Nat.le_of_ble_eq_true rfl) rfl ?_
      refine r_iload (q := 41) dX3_roofsGive_39 rfl 5 rfl ?_
      refine r_aload_n (q := 42) dX3_roofsGive_41 rfl 0 rfl ?_
      refine r_getR (q := 45) L_X3_74 dX3_roofsGive_42 rfl (mw_k hm) (mwr_barrel hm) ?_
      refine r_iload (q := 47) dX3_roofsGive_45 rfl 4 rfl ?_
      obtain ⟨g104, hw⟩ := hw
      refine r_ialdL (q := 48) dX3_roofsGive_47 rfl (mwk_barrel hm) (mwl_barrel hm) g104 ?_
      refine r_aload_n (q := 49) dX3_roofsGive_48 rfl 0 rfl ?_
      refine r_getR (q := 52) L_X3_95 dX3_roofsGive_49 rfl (mw_k hm) (mwr_barrelNow hm) ?_
      refine r_iload (q := 54) dX3_roofsGive_52 rfl 4 rfl ?_
      obtain ⟨g105, hw⟩ := hw
      refine r_ialdL (q := 55) dX3_roofsGive_54 rfl (mwk_barrelNow hm) (mwl_barrelNow hm) g105 ?_
      refine r_isub (q := 56) dX3_roofsGive_55 rfl ?_
      refine r_mmin (q := 59) q1682 dX3_roofsGive_56 rfl rfl ?_
      have hw := hw _ rfl
      refine r_istore (q := 61) (lv' := [(0, _), (1, _), (2, _), (3, _), (5, _), (6, _), (7, _)]) dX3_roofsGive_59 rfl (Nat.le_of_ble_eq_true rfl) rfl ?_
      refine r_aload_n (q := 62) dX3_roofsGive_61 rfl 0 rfl ?_
      refine r_getR (q := 65) L_X3_95 dX3_roofsGive_62 rfl (mw_k hm) (mwr_barrelNow hm) ?_
      refine r_iload (q := 67) dX3_roofsGive_65 rfl 4 rfl ?_
      refine r_dup2 (q := 68) dX3_roofsGive_67 rfl rfl rfl ?_
      obtain ⟨g107, hw⟩ := hw
      refine r_ialdL (q := 69) dX3_roofsGive_68 rfl (mwk_barrelNow hm) (mwl_barrelNow hm) g107 ?_
      refine r_iload (q := 71) dX3_roofsGive_69 rfl 6 rfl ?_
      refine r_iadd (q := 72) dX3_roofsGive_71 rfl ?_
      obtain ⟨g108, hw⟩ := hw
      refine r_iastL (q := 73) dX3_roofsGive_72 rfl (mwk_barrelNow hm) (mwl_barrelNow hm) g108 ?_
      refine r_mw_sI hm (fun hm => ?_)
      have hw := hw _ rfl
      refine r_aload_n (q := 74) dX3_roofsGive_73 rfl 0 rfl ?_
      refine r_dup (q := 75) dX3_roofsGive_74 rfl rfl ?_
      refine r_getJ (q := 78) L_X3_260 dX3_roofsGive_75 rfl (mw_k hm) ?_
      refine r_iload (q := 80) dX3_roofsGive_78 rfl 5 rfl ?_
      refine r_i2l (q := 81) dX3_roofsGive_80 rfl ?_
      refine r_ladd (q := 82) dX3_roofsGive_81 rfl ?_
      refine r_putJ (q := 85) L_X3_260 dX3_roofsGive_82 rfl (mw_k hm) ?_
      refine r_mw_pJ hm (fun hm => ?_)
      have hw := hw _ rfl
      refine r_lload_n (q := 86) dX3_roofsGive_85 rfl 3 rfl ?_
      refine r_iload (q := 88) dX3_roofsGive_86 rfl 5 rfl ?_
      refine r_iload (q := 90) dX3_roofsGive_88 rfl 6 rfl ?_
      refine r_isub (q := 91) dX3_roofsGive_90 rfl ?_
      refine r_i2l (q := 92) dX3_roofsGive_91 rfl ?_
      refine r_ladd (q := 93) dX3_roofsGive_92 rfl ?_
      have hw := hw _ rfl
      refine r_lstore_n (q := 94) (lv' := [(0, _), (1, _), (2, _), (3, _), (5, _), (6, _), (7, _)]) dX3_roofsGive_93 rfl (Nat.le_of_ble_eq_true rfl) rfl ?_
      have hw := hw _ rfl
      refine r_iincW (q := 97) (lv' := [(0, _), (1, _), (2, _), (3, _), (5, _), (6, _), (7, _)]) dX3_roofsGive_94 rfl 4 rfl kI_1 (Nat.le_of_ble_eq_true rfl) rfl ?_
      refine r_goto (tg := 5) dX3_roofsGive_97 (by decide) ?_
      exact r_sub [0, 1, 2, 3, 4] rfl hw
    · have hw := hw.2 c
      refine r_goto (tg := 94) dX3_roofsGive_25 (by decide) ?_
      have hw := hw _ rfl
      refine r_iincW (q := 97) (lv' := [(0, _), (1, _), (2, _), (3, _), (5, _)]) dX3_roofsGive_94 rfl 4 rfl kI_1 (Nat.le_of_ble_eq_true rfl) rfl ?_
      refine r_goto (tg := 5) dX3_roofsGive_97 (by decide) ?_
      exact hw
theorem b_X3_minute_0 {x1 x2 : Int32} {mo : Nat} {h : Hp} {k n : Nat} {Q : Hp → Prop} {E : Nat → Hp → Prop} (hm : MW h mo) (hw : Rn M_X3_minute 5 [(0, rV mo), (1, iV x1), (2, iV x2), (3, jV 0), (5, iV 0)] [] h k n (qV Q) E) : Rn M_X3_minute 0 [(0, rV mo), (1, iV x1), (2, iV x2)] [] h k n (qV Q) E := by
  refine r_lconst (q := 1) dX3_minute_0 rfl kL_0 ?_
  refine r_lstore_n (q := 2) (lv' := [(0, _), (1, _), (2, _), (3, _)]) dX3_minute_1 rfl (Nat.le_of_ble_eq_true rfl) rfl ?_
  refine r_iconst (q := 3) dX3_minute_2 rfl kI_0 ?_
  refine r_istore (q := 5) (lv' := [(0, _), (1, _), (2, _), (3, _), (5, _)]) dX3_minute_3 rfl (Nat.le_of_ble_eq_true rfl) rfl ?_
  exact hw
theorem b_X3_minute_5 {x1 x2 x5 : Int32} {y3 : Int64} {mo : Nat} {h : Hp} {k n : Nat} {Q : Hp → Prop} {E : Nat → Hp → Prop} (hm : MW h mo) (hw : ((gI h 1001 mo) ≤ x5 → Rn M_X3_minute 39 [(0, rV mo), (1, iV x1), (2, iV x2), (3, jV y3), (5, iV 0)] [] h k n (qV Q) E) ∧ (¬ (gI h 1001 mo) ≤ x5 → vp_in x5 12 ∧ (∀ h102 : Hp, h102 = sJ h (mo + 31) (ix x5) 0 → vp_in x5 12 ∧ (∀ h104 : Hp, h104 = sJ h102 (mo + 32) (ix x5) 0 → ∀ x105 : Int32, x105 = x5 + 1 → Rn M_X3_minute 5 [(0, rV mo), (1, iV x1), (2, iV x2), (3, jV y3), (5, iV x105)] [] h104 k n (qV Q) E)))) : Rn M_X3_minute 5 [(0, rV mo), (1, iV x1), (2, iV x2), (3, jV y3), (5, iV x5)] [] h k n (qV Q) E := by
  refine r_iload (q := 7) dX3_minute_5 rfl 4 rfl ?_
  refine r_aload_n (q := 8) dX3_minute_7 rfl 0 rfl ?_
  refine r_getI (q := 11) L_X3_191 dX3_minute_8 rfl (mw_k hm) ?_
  refine r_icmp_ge (tg := 36) (q := 14) dX3_minute_11 (by decide) rfl (fun c => ?_) (fun c => ?_)
  · have hw := hw.1 c
    refine r_iconst (q := 37) dX3_minute_36 rfl kI_0 ?_
    refine r_istore (q := 39) (lv' := [(0, _), (1, _), (2, _), (3, _), (5, _)]) dX3_minute_37 rfl (Nat.le_of_ble_eq_true rfl) rfl ?_
    exact hw
  · have hw := hw.2 c
    refine r_aload_n (q := 15) dX3_minute_14 rfl 0 rfl ?_
    refine r_getR (q := 18) L_X3_101 dX3_minute_15 rfl (mw_k hm) (mwr_street hm) ?_
    refine r_iload (q := 20) dX3_minute_18 rfl 4 rfl ?_
    refine r_lconst (q := 21) dX3_minute_20 rfl kL_0 ?_
    obtain ⟨g101, hw⟩ := hw
    refine r_lastL (q := 22) dX3_minute_21 rfl (mwk_street hm) (mwl_street hm) g101 ?_
    refine r_mw_sJ hm (fun hm => ?_)
    have hw := hw _ rfl
    refine r_aload_n (q := 23) dX3_minute_22 rfl 0 rfl ?_
    refine r_getR (q := 26) L_X3_105 dX3_minute_23 rfl (mw_k hm) (mwr_inPipe hm) ?_
    refine r_iload (q := 28) dX3_minute_26 rfl 4 rfl ?_
    refine r_lconst (q := 29) dX3_minute_28 rfl kL_0 ?_
    obtain ⟨g103, hw⟩ := hw
    refine r_lastL (q := 30) dX3_minute_29 rfl (mwk_inPipe hm) (mwl_inPipe hm) g103 ?_
    refine r_mw_sJ hm (fun hm => ?_)
    have hw := hw _ rfl
    have hw := hw _ rfl
    refine r_iincW (q := 33) (lv' := [(0, _), (1, _), (2, _), (3, _), (5, _)]) dX3_minute_30 rfl 4 rfl kI_1 (Nat.le_of_ble_eq_true rfl) rfl ?_
    refine r_goto (tg := 5) dX3_minute_33 (by decide) ?_
    exact hw
theorem b_X3_minute_39 {x1 x2 x5 : Int32} {y3 : Int64} {mo : Nat} {h : Hp} {k n : Nat} {Q : Hp → Prop} {E : Nat → Hp → Prop} (hm : MW h mo) (hw : ((gI h 1001 mo) ≤ x5 → ∀ h101 : Hp, h101 = pJ h 1050 mo ((gJ h 1050 mo) + y3) → ∀ h102 : Hp, h102 = pJ h101 1051 mo (lmax (gJ h101 1051 mo) y3) → Q h102) ∧ (¬ (gI h 1001 mo) ≤ x5 → vp_in x5 12 ∧ (vp_in x5 12 ∧ (CtJ M_X3_roofsGive [rV mo, iV x5, iV x1] h 0 0 (fun y106 h105 => MW h105 mo ∧ (∀ y107 : Int64, y107 = ((eJ h (mo + 31) (ix x5)) + ((Int32.toInt64 x1) * (Int32.toInt64 (eI h (mo + 1) (ix x5))))) + y106 → vp_in x5 12 ∧ (∀ h109 : Hp, h109 = pJ h105 1047 mo ((gJ h105 1047 mo) + ((Int32.toInt64 x1) * (Int32.toInt64 (eI h105 (mo + 1) (ix x5))))) → (¬ ((shr x2 x5) &&& 1) = 1 → Rn M_X3_minute 112 [(0, rV mo), (1, iV x1), (2, iV x2), (3, jV y3), (5, iV x5), (6, jV y107)] [iV 0] h109 k n (qV Q) E) ∧ (((shr x2 x5) &&& 1) = 1 → Rn M_X3_minute 112 [(0, rV mo), (1, iV x1), (2, iV x2), (3, jV y3), (5, iV x5), (6, jV y107)] [iV 1] h109 k n (qV Q) E)))) E)))) : Rn M_X3_minute 39 [(0, rV mo), (1, iV x1), (2, iV x2), (3, jV y3), (5, iV x5)] [] h k n (qV Q) E := by
  refine r_iload (q := 41) dX3_minute_39 rfl 4 rfl ?_
  refine r_aload_n (q := 42) dX3_minute_41 rfl 0 rfl ?_
  refine r_getI (q := 45) L_X3_191 dX3_minute_42 rfl (mw_k hm) ?_
  refine r_icmp_ge (tg := 472) (q := 48) dX3_minute_45 (by decide) rfl (fun c => ?_) (fun c => ?_)
  · have hw := hw.1 c
    refine r_aload_n (q := 473) dX3_minute_472 rfl 0 rfl ?_
    refine r_dup (q := 474) dX3_minute_473 rfl rfl ?_
    refine r_getJ (q := 477) L_X3_269 dX3_minute_474 rfl (mw_k hm) ?_
    refine r_lload_n (q := 478) dX3_minute_477 rfl 3 rfl ?_
    refine r_ladd (q := 479) dX3_minute_478 rfl ?_
    refine r_putJ (q := 482) L_X3_269 dX3_minute_479 rfl (mw_k hm) ?_
    refine r_mw_pJ hm (fun hm => ?_)
    have hw := hw _ rfl
    refine r_aload_n (q := 483) dX3_minute_482 rfl 0 rfl ?_
    refine r_aload_n (q := 484) dX3_minute_483 rfl 0 rfl ?_
    refine r_getJ (q := 487) L_X3_272 dX3_minute_484 rfl (mw_k hm) ?_
    refine r_lload_n (q := 488) dX3_minute_487 rfl 3 rfl ?_
    refine r_lmax (q := 491) q1740 dX3_minute_488 rfl rfl ?_
    refine r_putJ (q := 494) L_X3_272 dX3_minute_491 rfl (mw_k hm) ?_
    refine r_mw_pJ hm (fun hm => ?_)
    have hw := hw _ rfl
    exact r_vret dX3_minute_494 rfl hw
  · have hw := hw.2 c
    refine r_aload_n (q := 49) dX3_minute_48 rfl 0 rfl ?_
    refine r_getR (q := 52) L_X3_101 dX3_minute_49 rfl (mw_k hm) (mwr_street hm) ?_
    refine r_iload (q := 54) dX3_minute_52 rfl 4 rfl ?_
    obtain ⟨g103, hw⟩ := hw
    refine r_laldL (q := 55) dX3_minute_54 rfl (mwk_street hm) (mwl_street hm) g103 ?_
    refine r_iload_n (q := 56) dX3_minute_55 rfl 1 rfl ?_
    refine r_i2l (q := 57) dX3_minute_56 rfl ?_
    refine r_aload_n (q := 58) dX3_minute_57 rfl 0 rfl ?_
    refine r_getR (q := 61) L_X3_7 dX3_minute_58 rfl (mw_k hm) (mwr_area hm) ?_
    refine r_iload (q := 63) dX3_minute_61 rfl 4 rfl ?_
    obtain ⟨g104, hw⟩ := hw
    refine r_ialdL (q := 64) dX3_minute_63 rfl (mwk_area hm) (mwl_area hm) g104 ?_
    refine r_i2l (q := 65) dX3_minute_64 rfl ?_
    refine r_lmul (q := 66) dX3_minute_65 rfl ?_
    refine r_ladd (q := 67) dX3_minute_66 rfl ?_
    refine r_aload_n (q := 68) dX3_minute_67 rfl 0 rfl ?_
    refine r_iload (q := 70) dX3_minute_68 rfl 4 rfl ?_
    refine r_iload_n (q := 71) dX3_minute_70 rfl 1 rfl ?_
    refine r_cVJ0 (q := 74) _ [_, _] N_X3_282 rfl dX3_minute_71 rfl rfl rfl (mw_k hm) rfl ?_
    refine r_monoCJ (fun y106 h105 hw => ?_) hw
    obtain ⟨hm, hw⟩ := hw
    refine r_ladd (q := 75) dX3_minute_74 rfl ?_
    have hw := hw _ rfl
    refine r_lstore (q := 77) (lv' := [(0, _), (1, _), (2, _), (3, _), (5, _), (6, _)]) dX3_minute_75 rfl (Nat.le_of_ble_eq_true rfl) rfl ?_
    refine r_aload_n (q := 78) dX3_minute_77 rfl 0 rfl ?_
    refine r_dup (q := 79) dX3_minute_78 rfl rfl ?_
    refine r_getJ (q := 82) L_X3_260 dX3_minute_79 rfl (mw_k hm) ?_
    refine r_iload_n (q := 83) dX3_minute_82 rfl 1 rfl ?_
    refine r_i2l (q := 84) dX3_minute_83 rfl ?_
    refine r_aload_n (q := 85) dX3_minute_84 rfl 0 rfl ?_
    refine r_getR (q := 88) L_X3_7 dX3_minute_85 rfl (mw_k hm) (mwr_area hm) ?_
    refine r_iload (q := 90) dX3_minute_88 rfl 4 rfl ?_
    obtain ⟨g108, hw⟩ := hw
    refine r_ialdL (q := 91) dX3_minute_90 rfl (mwk_area hm) (mwl_area hm) g108 ?_
    refine r_i2l (q := 92) dX3_minute_91 rfl ?_
    refine r_lmul (q := 93) dX3_minute_92 rfl ?_
    refine r_ladd (q := 94) dX3_minute_93 rfl ?_
    refine r_putJ (q := 97) L_X3_260 dX3_minute_94 rfl (mw_k hm) ?_
    refine r_mw_pJ hm (fun hm => ?_)
    have hw := hw _ rfl
    refine r_iload_n (q := 98) dX3_minute_97 rfl 2 rfl ?_
    refine r_iload (q := 100) dX3_minute_98 rfl 4 rfl ?_
    refine r_ishr (q := 101) dX3_minute_100 rfl ?_
    refine r_iconst (q := 102) dX3_minute_101 rfl kI_1 ?_
    refine r_iand (q := 103) dX3_minute_102 rfl ?_
    refine r_iconst (q := 104) dX3_minute_103 rfl kI_1 ?_
    refine r_icmp_ne (tg := 111) (q := 107) dX3_minute_104 (by decide) rfl (fun c => ?_) (fun c => ?_)
    · have hw := hw.1 c
      refine r_iconst (q := 112) dX3_minute_111 rfl kI_0 ?_
      exact hw
    · have hw := hw.2 c
      refine r_iconst (q := 108) dX3_minute_107 rfl kI_1 ?_
      refine r_goto (tg := 112) dX3_minute_108 (by decide) ?_
      exact hw
theorem b_X3_minute_112 {x1 x2 x5 a0 : Int32} {y3 y6 : Int64} {mo : Nat} {h : Hp} {k n : Nat} {Q : Hp → Prop} {E : Nat → Hp → Prop} (hm : MW h mo) (hw : vp_in x5 12 ∧ ((¬ (eI h (mo + 6) (ix x5)) = 0 → Rn M_X3_minute 129 [(0, rV mo), (1, iV x1), (2, iV x2), (3, jV y3), (5, iV x5), (6, jV y6), (8, iV a0)] [] h k n (qV Q) E) ∧ ((eI h (mo + 6) (ix x5)) = 0 → (a0 = 0 → Rn M_X3_minute 263 [(0, rV mo), (1, iV x1), (2, iV x2), (3, jV y3), (5, iV x5), (6, jV y6)] [] h k n (qV Q) E) ∧ (¬ a0 = 0 → Rn M_X3_minute 129 [(0, rV mo), (1, iV x1), (2, iV x2), (3, jV y3), (5, iV x5), (6, jV y6), (8, iV a0)] [] h k n (qV Q) E)))) : Rn M_X3_minute 112 [(0, rV mo), (1, iV x1), (2, iV x2), (3, jV y3), (5, iV x5), (6, jV y6)] [iV a0] h k n (qV Q) E := by
  refine r_istore (q := 114) (lv' := [(0, _), (1, _), (2, _), (3, _), (5, _), (6, _), (8, _)]) dX3_minute_112 rfl (Nat.le_of_ble_eq_true rfl) rfl ?_
  refine r_aload_n (q := 115) dX3_minute_114 rfl 0 rfl ?_
  refine r_getR (q := 118) L_X3_25 dX3_minute_115 rfl (mw_k hm) (mwr_hasBed hm) ?_
  refine r_iload (q := 120) dX3_minute_118 rfl 4 rfl ?_
  obtain ⟨g101, hw⟩ := hw
  refine r_zaldL (q := 121) dX3_minute_120 rfl (mwk_hasBed hm) (mwl_hasBed hm) g101 ?_
  refine r_if_ne (tg := 129) (q := 124) dX3_minute_121 (by decide) rfl (fun c => ?_) (fun c => ?_)
  · have hw := hw.1 c
    exact hw
  · have hw := hw.2 c
    refine r_iload (q := 126) dX3_minute_124 rfl 6 rfl ?_
    refine r_if_eq (tg := 263) (q := 129) dX3_minute_126 (by decide) rfl (fun c => ?_) (fun c => ?_)
    · have hw := hw.1 c
      exact r_sub [0, 1, 2, 3, 4, 5] rfl hw
    · have hw := hw.2 c
      exact hw
theorem b_X3_minute_129 {x1 x2 x5 x8 : Int32} {y3 y6 : Int64} {mo : Nat} {h : Hp} {k n : Nat} {Q : Hp → Prop} {E : Nat → Hp → Prop} (hm : MW h mo) (hw : (x8 = 0 → vp_in x5 12 ∧ (Rn M_X3_minute 157 [(0, rV mo), (1, iV x1), (2, iV x2), (3, jV y3), (5, iV x5), (6, jV y6), (8, iV x8)] [jV ((y6 * (Int32.toInt64 (10 - (eI h (mo + 13) (ix x5))))) / 10)] h k n (qV Q) E)) ∧ (¬ x8 = 0 → Rn M_X3_minute 157 [(0, rV mo), (1, iV x1), (2, iV x2), (3, jV y3), (5, iV x5), (6, jV y6), (8, iV x8)] [jV y6] h k n (qV Q) E)) : Rn M_X3_minute 129 [(0, rV mo), (1, iV x1), (2, iV x2), (3, jV y3), (5, iV x5), (6, jV y6), (8, iV x8)] [] h k n (qV Q) E := by
  refine r_iload (q := 131) dX3_minute_129 rfl 6 rfl ?_
  refine r_if_eq (tg := 139) (q := 134) dX3_minute_131 (by decide) rfl (fun c => ?_) (fun c => ?_)
  · have hw := hw.1 c
    refine r_lload (q := 141) dX3_minute_139 rfl 5 rfl ?_
    refine r_bipush (q := 143) dX3_minute_141 rfl kB_10 ?_
    refine r_aload_n (q := 144) dX3_minute_143 rfl 0 rfl ?_
    refine r_getR (q := 147) L_X3_47 dX3_minute_144 rfl (mw_k hm) (mwr_leaves hm) ?_
    refine r_iload (q := 149) dX3_minute_147 rfl 4 rfl ?_
    obtain ⟨g101, hw⟩ := hw
    refine r_ialdL (q := 150) dX3_minute_149 rfl (mwk_leaves hm) (mwl_leaves hm) g101 ?_
    refine r_isub (q := 151) dX3_minute_150 rfl ?_
    refine r_i2l (q := 152) dX3_minute_151 rfl ?_
    refine r_lmul (q := 153) dX3_minute_152 rfl ?_
    refine r_ldc2 (q := 156) dX3_minute_153 rfl q1735 ?_
    refine r_ldiv (q := 157) dX3_minute_156 rfl (by decide) ?_
    exact hw
  · have hw := hw.2 c
    refine r_lload (q := 136) dX3_minute_134 rfl 5 rfl ?_
    refine r_goto (tg := 157) dX3_minute_136 (by decide) ?_
    exact hw
theorem b_X3_minute_157 {x1 x2 x5 x8 : Int32} {y3 y6 b0 : Int64} {mo : Nat} {h : Hp} {k n : Nat} {Q : Hp → Prop} {E : Nat → Hp → Prop} (hm : MW h mo) (hw : (x8 = 0 → vp_in x5 12 ∧ (Rn M_X3_minute 178 [(0, rV mo), (1, iV x1), (2, iV x2), (3, jV y3), (5, iV x5), (6, jV y6), (8, iV x8)] [iV (eI h (mo + 10) (ix x5)), jV b0] h k n (qV Q) E)) ∧ (¬ x8 = 0 → Rn M_X3_minute 178 [(0, rV mo), (1, iV x1), (2, iV x2), (3, jV y3), (5, iV x5), (6, jV y6), (8, iV x8)] [iV 100, jV b0] h k n (qV Q) E)) : Rn M_X3_minute 157 [(0, rV mo), (1, iV x1), (2, iV x2), (3, jV y3), (5, iV x5), (6, jV y6), (8, iV x8)] [jV b0] h k n (qV Q) E := by
  refine r_lstore (q := 159) (lv' := [(0, _), (1, _), (2, _), (3, _), (5, _), (6, _), (8, _), (9, _)]) dX3_minute_157 rfl (Nat.le_of_ble_eq_true rfl) rfl ?_
  refine r_lload (q := 161) dX3_minute_159 rfl 7 rfl ?_
  refine r_iload (q := 163) dX3_minute_161 rfl 6 rfl ?_
  refine r_if_eq (tg := 171) (q := 166) dX3_minute_163 (by decide) rfl (fun c => ?_) (fun c => ?_)
  · have hw := hw.1 c
    refine r_aload_n (q := 172) dX3_minute_171 rfl 0 rfl ?_
    refine r_getR (q := 175) L_X3_38 dX3_minute_172 rfl (mw_k hm) (mwr_bowl hm) ?_
    refine r_iload (q := 177) dX3_minute_175 rfl 4 rfl ?_
    obtain ⟨g101, hw⟩ := hw
    refine r_ialdL (q := 178) dX3_minute_177 rfl (mwk_bowl hm) (mwl_bowl hm) g101 ?_
    exact r_sub [0, 1, 2, 3, 4, 5, 6] rfl hw
  · have hw := hw.2 c
    refine r_bipush (q := 168) dX3_minute_166 rfl kB_100 ?_
    refine r_goto (tg := 178) dX3_minute_168 (by decide) ?_
    exact r_sub [0, 1, 2, 3, 4, 5, 6] rfl hw
theorem b_X3_minute_178 {x1 x2 x5 x8 a0 : Int32} {y3 y6 b1 : Int64} {mo : Nat} {h : Hp} {k n : Nat} {Q : Hp → Prop} {E : Nat → Hp → Prop} (hm : MW h mo) (hw : vp_in x5 12 ∧ (∀ x102 : Int32, x102 = Int64.toInt32 (lmin b1 (Int32.toInt64 (a0 - (eI h (mo + 30) (ix x5))))) → vp_in x5 12 ∧ ((x8 = 0 → (P_X3_drink h mo x5) ∧ (Rn M_X3_minute 223 [(0, rV mo), (1, iV x1), (2, iV x2), (3, jV y3), (5, iV x5), (6, jV y6), (11, iV x102)] [iV (V_X3_drink h mo x5), iV ((eI h (mo + 30) (ix x5)) + x102)] h k n (qV Q) E)) ∧ (¬ x8 = 0 → Rn M_X3_minute 223 [(0, rV mo), (1, iV x1), (2, iV x2), (3, jV y3), (5, iV x5), (6, jV y6), (11, iV x102)] [iV (eI h (mo + 25) (ix 0)), iV ((eI h (mo + 30) (ix x5)) + x102)] h k n (qV Q) E)))) : Rn M_X3_minute 178 [(0, rV mo), (1, iV x1), (2, iV x2), (3, jV y3), (5, iV x5), (6, jV y6), (8, iV x8)] [iV a0, jV b1] h k n (qV Q) E := by
  refine r_aload_n (q := 179) dX3_minute_178 rfl 0 rfl ?_
  refine r_getR (q := 182) L_X3_98 dX3_minute_179 rfl (mw_k hm) (mwr_bowlNow hm) ?_
  refine r_iload (q := 184) dX3_minute_182 rfl 4 rfl ?_
  obtain ⟨g101, hw⟩ := hw
  refine r_ialdL (q := 185) dX3_minute_184 rfl (mwk_bowlNow hm) (mwl_bowlNow hm) g101 ?_
  refine r_isub (q := 186) dX3_minute_185 rfl ?_
  refine r_i2l (q := 187) dX3_minute_186 rfl ?_
  refine r_lmin (q := 190) q1736 dX3_minute_187 rfl rfl ?_
  refine r_l2i (q := 191) dX3_minute_190 rfl ?_
  have hw := hw _ rfl
  refine r_istore (q := 193) (lv' := [(0, _), (1, _), (2, _), (3, _), (5, _), (6, _), (8, _), (11, _)]) dX3_minute_191 rfl (Nat.le_of_ble_eq_true rfl) rfl ?_
  refine r_aload_n (q := 194) dX3_minute_193 rfl 0 rfl ?_
  refine r_getR (q := 197) L_X3_98 dX3_minute_194 rfl (mw_k hm) (mwr_bowlNow hm) ?_
  refine r_iload (q := 199) dX3_minute_197 rfl 4 rfl ?_
  obtain ⟨g103, hw⟩ := hw
  refine r_ialdL (q := 200) dX3_minute_199 rfl (mwk_bowlNow hm) (mwl_bowlNow hm) g103 ?_
  refine r_iload (q := 202) dX3_minute_200 rfl 7 rfl ?_
  refine r_iadd (q := 203) dX3_minute_202 rfl ?_
  refine r_iload (q := 205) dX3_minute_203 rfl 6 rfl ?_
  refine r_if_eq (tg := 217) (q := 208) dX3_minute_205 (by decide) rfl (fun c => ?_) (fun c => ?_)
  · have hw := hw.1 c
    refine r_aload_n (q := 218) dX3_minute_217 rfl 0 rfl ?_
    refine r_iload (q := 220) dX3_minute_218 rfl 4 rfl ?_
    obtain ⟨g104, hw⟩ := hw
    refine r_cVI0 (q := 223) _ [_] N_X3_230 rfl dX3_minute_220 rfl rfl rfl (mw_k hm) rfl ?_
    refine ct_X3_drink hm g104 ?_
    exact r_sub [0, 1, 2, 3, 4, 5, 7] rfl hw
  · have hw := hw.2 c
    refine r_aload_n (q := 209) dX3_minute_208 rfl 0 rfl ?_
    refine r_getR (q := 212) L_X3_83 dX3_minute_209 rfl (mw_k hm) (mwr_drinks hm) ?_
    refine r_iconst (q := 213) dX3_minute_212 rfl kI_0 ?_
    refine r_ialdL (q := 214) dX3_minute_213 rfl (mwk_drinks hm) (mwl_drinks hm) (vp_lit (by decide)) ?_
    refine r_goto (tg := 223) dX3_minute_214 (by decide) ?_
    exact r_sub [0, 1, 2, 3, 4, 5, 7] rfl hw
theorem b_X3_minute_223 {x1 x2 x5 x11 a0 a1 : Int32} {y3 y6 : Int64} {mo : Nat} {h : Hp} {k n : Nat} {Q : Hp → Prop} {E : Nat → Hp → Prop} (hm : MW h mo) (hw : ∀ x101 : Int32, x101 = imin a1 a0 → vp_in x5 12 ∧ (vp_in x5 12 ∧ (∀ h104 : Hp, h104 = sI h (mo + 30) (ix x5) ((eI h (mo + 30) (ix x5)) + (x11 - x101)) → ∀ h105 : Hp, h105 = pJ h104 1048 mo ((gJ h104 1048 mo) + (Int32.toInt64 x101)) → ∀ y106 : Int64, y106 = y6 - (Int32.toInt64 x11) → Rn M_X3_minute 263 [(0, rV mo), (1, iV x1), (2, iV x2), (3, jV y3), (5, iV x5), (6, jV y106)] [] h105 k n (qV Q) E))) : Rn M_X3_minute 223 [(0, rV mo), (1, iV x1), (2, iV x2), (3, jV y3), (5, iV x5), (6, jV y6), (11, iV x11)] [iV a0, iV a1] h k n (qV Q) E := by
  refine r_mmin (q := 226) q1682 dX3_minute_223 rfl rfl ?_
  have hw := hw _ rfl
  refine r_istore (q := 228) (lv' := [(0, _), (1, _), (2, _), (3, _), (5, _), (6, _), (11, _), (12, _)]) dX3_minute_226 rfl (Nat.le_of_ble_eq_true rfl) rfl ?_
  refine r_aload_n (q := 229) dX3_minute_228 rfl 0 rfl ?_
  refine r_getR (q := 232) L_X3_98 dX3_minute_229 rfl (mw_k hm) (mwr_bowlNow hm) ?_
  refine r_iload (q := 234) dX3_minute_232 rfl 4 rfl ?_
  refine r_dup2 (q := 235) dX3_minute_234 rfl rfl rfl ?_
  obtain ⟨g102, hw⟩ := hw
  refine r_ialdL (q := 236) dX3_minute_235 rfl (mwk_bowlNow hm) (mwl_bowlNow hm) g102 ?_
  refine r_iload (q := 238) dX3_minute_236 rfl 6 rfl ?_
  refine r_iload (q := 240) dX3_minute_238 rfl 7 rfl ?_
  refine r_isub (q := 241) dX3_minute_240 rfl ?_
  refine r_iadd (q := 242) dX3_minute_241 rfl ?_
  obtain ⟨g103, hw⟩ := hw
  refine r_iastL (q := 243) dX3_minute_242 rfl (mwk_bowlNow hm) (mwl_bowlNow hm) g103 ?_
  refine r_mw_sI hm (fun hm => ?_)
  have hw := hw _ rfl
  refine r_aload_n (q := 244) dX3_minute_243 rfl 0 rfl ?_
  refine r_dup (q := 245) dX3_minute_244 rfl rfl ?_
  refine r_getJ (q := 248) L_X3_263 dX3_minute_245 rfl (mw_k hm) ?_
  refine r_iload (q := 250) dX3_minute_248 rfl 7 rfl ?_
  refine r_i2l (q := 251) dX3_minute_250 rfl ?_
  refine r_ladd (q := 252) dX3_minute_251 rfl ?_
  refine r_putJ (q := 255) L_X3_263 dX3_minute_252 rfl (mw_k hm) ?_
  refine r_mw_pJ hm (fun hm => ?_)
  have hw := hw _ rfl
  refine r_lload (q := 257) dX3_minute_255 rfl 5 rfl ?_
  refine r_iload (q := 259) dX3_minute_257 rfl 6 rfl ?_
  refine r_i2l (q := 260) dX3_minute_259 rfl ?_
  refine r_lsub (q := 261) dX3_minute_260 rfl ?_
  have hw := hw _ rfl
  refine r_lstore (q := 263) (lv' := [(0, _), (1, _), (2, _), (3, _), (5, _), (6, _), (11, _), (12, _)]) dX3_minute_261 rfl (Nat.le_of_ble_eq_true rfl) rfl ?_
  exact r_sub [0, 1, 2, 3, 4, 5] rfl hw
theorem b_X3_minute_263 {x1 x2 x5 : Int32} {y3 y6 : Int64} {mo : Nat} {h : Hp} {k n : Nat} {Q : Hp → Prop} {E : Nat → Hp → Prop} (hm : MW h mo) (hw : vp_in x5 12 ∧ (∀ y102 : Int64, y102 = y6 + (eJ h (mo + 32) (ix x5)) → vp_in x5 12 ∧ (∀ y104 : Int64, y104 = lmin y102 (Int32.toInt64 (eI h (mo + 2) (ix x5))) → ∀ y105 : Int64, y105 = y102 - y104 → vp_in x5 12 ∧ ((¬ (eI h (mo + 5) (ix x5)) = (-1) → Rn M_X3_minute 318 [(0, rV mo), (1, iV x1), (2, iV x2), (3, jV y3), (5, iV x5), (9, jV y104), (11, jV y105)] [jV (y105 / 2)] h k n (qV Q) E) ∧ ((eI h (mo + 5) (ix x5)) = (-1) → Rn M_X3_minute 318 [(0, rV mo), (1, iV x1), (2, iV x2), (3, jV y3), (5, iV x5), (9, jV y104), (11, jV y105)] [jV 0] h k n (qV Q) E))))) : Rn M_X3_minute 263 [(0, rV mo), (1, iV x1), (2, iV x2), (3, jV y3), (5, iV x5), (6, jV y6)] [] h k n (qV Q) E := by
  refine r_lload (q := 265) dX3_minute_263 rfl 5 rfl ?_
  refine r_aload_n (q := 266) dX3_minute_265 rfl 0 rfl ?_
  refine r_getR (q := 269) L_X3_105 dX3_minute_266 rfl (mw_k hm) (mwr_inPipe hm) ?_
  refine r_iload (q := 271) dX3_minute_269 rfl 4 rfl ?_
  obtain ⟨g101, hw⟩ := hw
  refine r_laldL (q := 272) dX3_minute_271 rfl (mwk_inPipe hm) (mwl_inPipe hm) g101 ?_
  refine r_ladd (q := 273) dX3_minute_272 rfl ?_
  have hw := hw _ rfl
  refine r_lstore (q := 275) (lv' := [(0, _), (1, _), (2, _), (3, _), (5, _), (6, _)]) dX3_minute_273 rfl (Nat.le_of_ble_eq_true rfl) rfl ?_
  refine r_lload (q := 277) dX3_minute_275 rfl 5 rfl ?_
  refine r_aload_n (q := 278) dX3_minute_277 rfl 0 rfl ?_
  refine r_getR (q := 281) L_X3_13 dX3_minute_278 rfl (mw_k hm) (mwr_pipe hm) ?_
  refine r_iload (q := 283) dX3_minute_281 rfl 4 rfl ?_
  obtain ⟨g103, hw⟩ := hw
  refine r_ialdL (q := 284) dX3_minute_283 rfl (mwk_pipe hm) (mwl_pipe hm) g103 ?_
  refine r_i2l (q := 285) dX3_minute_284 rfl ?_
  refine r_lmin (q := 288) q1736 dX3_minute_285 rfl rfl ?_
  have hw := hw _ rfl
  refine r_lstore (q := 290) (lv' := [(0, _), (1, _), (2, _), (3, _), (5, _), (6, _), (9, _)]) dX3_minute_288 rfl (Nat.le_of_ble_eq_true rfl) rfl ?_
  refine r_lload (q := 292) dX3_minute_290 rfl 5 rfl ?_
  refine r_lload (q := 294) dX3_minute_292 rfl 6 rfl ?_
  refine r_lsub (q := 295) dX3_minute_294 rfl ?_
  have hw := hw _ rfl
  refine r_lstore (q := 297) (lv' := [(0, _), (1, _), (2, _), (3, _), (5, _), (6, _), (9, _), (11, _)]) dX3_minute_295 rfl (Nat.le_of_ble_eq_true rfl) rfl ?_
  refine r_aload_n (q := 298) dX3_minute_297 rfl 0 rfl ?_
  refine r_getR (q := 301) L_X3_22 dX3_minute_298 rfl (mw_k hm) (mwr_below hm) ?_
  refine r_iload (q := 303) dX3_minute_301 rfl 4 rfl ?_
  obtain ⟨g106, hw⟩ := hw
  refine r_ialdL (q := 304) dX3_minute_303 rfl (mwk_below hm) (mwl_below hm) g106 ?_
  refine r_iconst (q := 305) dX3_minute_304 rfl kI_m1 ?_
  refine r_icmp_ne (tg := 312) (q := 308) dX3_minute_305 (by decide) rfl (fun c => ?_) (fun c => ?_)
  · have hw := hw.1 c
    refine r_lload (q := 314) dX3_minute_312 rfl 7 rfl ?_
    refine r_ldc2 (q := 317) dX3_minute_314 rfl q1739 ?_
    refine r_ldiv (q := 318) dX3_minute_317 rfl (by decide) ?_
    exact r_sub [0, 1, 2, 3, 4, 6, 7] rfl hw
  · have hw := hw.2 c
    refine r_lconst (q := 309) dX3_minute_308 rfl kL_0 ?_
    refine r_goto (tg := 318) dX3_minute_309 (by decide) ?_
    exact r_sub [0, 1, 2, 3, 4, 6, 7] rfl hw
theorem b_X3_minute_318 {x1 x2 x5 : Int32} {y3 y9 y11 b0 : Int64} {mo : Nat} {h : Hp} {k n : Nat} {Q : Hp → Prop} {E : Nat → Hp → Prop} (hm : MW h mo) (hw : vp_in x5 12 ∧ (vp_in x5 12 ∧ (∀ h103 : Hp, h103 = sJ h (mo + 34) (ix x5) (lmax (eJ h (mo + 34) (ix x5)) y9) → vp_in x5 12 ∧ (vp_in x5 12 ∧ (∀ h106 : Hp, h106 = sJ h103 (mo + 33) (ix x5) ((eJ h103 (mo + 33) (ix x5)) + (y11 - b0)) → ∀ h107 : Hp, h107 = pJ h106 1049 mo ((gJ h106 1049 mo) + (y11 - b0)) → vp_in x5 12 ∧ (((eI h107 (mo + 4) (ix x5)) ≤ 0 → Rn M_X3_minute 413 [(0, rV mo), (1, iV x1), (2, iV x2), (3, jV y3), (5, iV x5), (9, jV y9), (13, jV b0)] [] h107 k n (qV Q) E) ∧ (¬ (eI h107 (mo + 4) (ix x5)) ≤ 0 → vp_in x5 12 ∧ (((lg_cmp y11 (Int32.toInt64 (eI h107 (mo + 4) (ix x5)))) ≤ 0 → Rn M_X3_minute 413 [(0, rV mo), (1, iV x1), (2, iV x2), (3, jV y3), (5, iV x5), (9, jV y9), (13, jV b0)] [] h107 k n (qV Q) E) ∧ (¬ (lg_cmp y11 (Int32.toInt64 (eI h107 (mo + 4) (ix x5)))) ≤ 0 → vp_in x5 12 ∧ (vp_in x5 12 ∧ (∀ h112 : Hp, h112 = sI h107 (mo + 35) (ix x5) ((eI h107 (mo + 35) (ix x5)) + 1) → ∀ h113 : Hp, h113 = pI h112 1052 mo ((gI h112 1052 mo) + 1) → Rn M_X3_minute 413 [(0, rV mo), (1, iV x1), (2, iV x2), (3, jV y3), (5, iV x5), (9, jV y9), (13, jV b0)] [] h113 k n (qV Q) E))))))))))) : Rn M_X3_minute 318 [(0, rV mo), (1, iV x1), (2, iV x2), (3, jV y3), (5, iV x5), (9, jV y9), (11, jV y11)] [jV b0] h k n (qV Q) E := by
  refine r_lstore (q := 320) (lv' := [(0, _), (1, _), (2, _), (3, _), (5, _), (9, _), (11, _), (13, _)]) dX3_minute_318 rfl (Nat.le_of_ble_eq_true rfl) rfl ?_
  refine r_aload_n (q := 321) dX3_minute_320 rfl 0 rfl ?_
  refine r_getR (q := 324) L_X3_111 dX3_minute_321 rfl (mw_k hm) (mwr_mostAt hm) ?_
  refine r_iload (q := 326) dX3_minute_324 rfl 4 rfl ?_
  refine r_aload_n (q := 327) dX3_minute_326 rfl 0 rfl ?_
  refine r_getR (q := 330) L_X3_111 dX3_minute_327 rfl (mw_k hm) (mwr_mostAt hm) ?_
  refine r_iload (q := 332) dX3_minute_330 rfl 4 rfl ?_
  obtain ⟨g101, hw⟩ := hw
  refine r_laldL (q := 333) dX3_minute_332 rfl (mwk_mostAt hm) (mwl_mostAt hm) g101 ?_
  refine r_lload (q := 335) dX3_minute_333 rfl 5 rfl ?_
  refine r_lmax (q := 338) q1740 dX3_minute_335 rfl rfl ?_
  obtain ⟨g102, hw⟩ := hw
  refine r_lastL (q := 339) dX3_minute_338 rfl (mwk_mostAt hm) (mwl_mostAt hm) g102 ?_
  refine r_mw_sJ hm (fun hm => ?_)
  have hw := hw _ rfl
  refine r_aload_n (q := 340) dX3_minute_339 rfl 0 rfl ?_
  refine r_getR (q := 343) L_X3_108 dX3_minute_340 rfl (mw_k hm) (mwr_spiltAt hm) ?_
  refine r_iload (q := 345) dX3_minute_343 rfl 4 rfl ?_
  refine r_dup2 (q := 346) dX3_minute_345 rfl rfl rfl ?_
  obtain ⟨g104, hw⟩ := hw
  refine r_laldL (q := 347) dX3_minute_346 rfl (mwk_spiltAt hm) (mwl_spiltAt hm) g104 ?_
  refine r_lload (q := 349) dX3_minute_347 rfl 6 rfl ?_
  refine r_lload (q := 351) dX3_minute_349 rfl 7 rfl ?_
  refine r_lsub (q := 352) dX3_minute_351 rfl ?_
  refine r_ladd (q := 353) dX3_minute_352 rfl ?_
  obtain ⟨g105, hw⟩ := hw
  refine r_lastL (q := 354) dX3_minute_353 rfl (mwk_spiltAt hm) (mwl_spiltAt hm) g105 ?_
  refine r_mw_sJ hm (fun hm => ?_)
  have hw := hw _ rfl
  refine r_aload_n (q := 355) dX3_minute_354 rfl 0 rfl ?_
  refine r_dup (q := 356) dX3_minute_355 rfl rfl ?_
  refine r_getJ (q := 359) L_X3_266 dX3_minute_356 rfl (mw_k hm) ?_
  refine r_lload (q := 361) dX3_minute_359 rfl 6 rfl ?_
  refine r_lload (q := 363) dX3_minute_361 rfl 7 rfl ?_
  refine r_lsub (q := 364) dX3_minute_363 rfl ?_
  refine r_ladd (q := 365) dX3_minute_364 rfl ?_
  refine r_putJ (q := 368) L_X3_266 dX3_minute_365 rfl (mw_k hm) ?_
  refine r_mw_pJ hm (fun hm => ?_)
  have hw := hw _ rfl
  refine r_aload_n (q := 369) dX3_minute_368 rfl 0 rfl ?_
  refine r_getR (q := 372) L_X3_19 dX3_minute_369 rfl (mw_k hm) (mwr_cellar hm) ?_
  refine r_iload (q := 374) dX3_minute_372 rfl 4 rfl ?_
  obtain ⟨g108, hw⟩ := hw
  refine r_ialdL (q := 375) dX3_minute_374 rfl (mwk_cellar hm) (mwl_cellar hm) g108 ?_
  refine r_if_le (tg := 413) (q := 378) dX3_minute_375 (by decide) rfl (fun c => ?_) (fun c => ?_)
  · have hw := hw.1 c
    exact r_sub [0, 1, 2, 3, 4, 5, 7] rfl hw
  · have hw := hw.2 c
    refine r_lload (q := 380) dX3_minute_378 rfl 6 rfl ?_
    refine r_aload_n (q := 381) dX3_minute_380 rfl 0 rfl ?_
    refine r_getR (q := 384) L_X3_19 dX3_minute_381 rfl (mw_k hm) (mwr_cellar hm) ?_
    refine r_iload (q := 386) dX3_minute_384 rfl 4 rfl ?_
    obtain ⟨g109, hw⟩ := hw
    refine r_ialdL (q := 387) dX3_minute_386 rfl (mwk_cellar hm) (mwl_cellar hm) g109 ?_
    refine r_i2l (q := 388) dX3_minute_387 rfl ?_
    refine r_lcmp (q := 389) dX3_minute_388 rfl ?_
    refine r_if_le (tg := 413) (q := 392) dX3_minute_389 (by decide) rfl (fun c => ?_) (fun c => ?_)
    · have hw := hw.1 c
      exact r_sub [0, 1, 2, 3, 4, 5, 7] rfl hw
    · have hw := hw.2 c
      refine r_aload_n (q := 393) dX3_minute_392 rfl 0 rfl ?_
      refine r_getR (q := 396) L_X3_114 dX3_minute_393 rfl (mw_k hm) (mwr_wetAt hm) ?_
      refine r_iload (q := 398) dX3_minute_396 rfl 4 rfl ?_
      refine r_dup2 (q := 399) dX3_minute_398 rfl rfl rfl ?_
      obtain ⟨g110, hw⟩ := hw
      refine r_ialdL (q := 400) dX3_minute_399 rfl (mwk_wetAt hm) (mwl_wetAt hm) g110 ?_
      refine r_iconst (q := 401) dX3_minute_400 rfl kI_1 ?_
      refine r_iadd (q := 402) dX3_minute_401 rfl ?_
      obtain ⟨g111, hw⟩ := hw
      refine r_iastL (q := 403) dX3_minute_402 rfl (mwk_wetAt hm) (mwl_wetAt hm) g111 ?_
      refine r_mw_sI hm (fun hm => ?_)
      have hw := hw _ rfl
      refine r_aload_n (q := 404) dX3_minute_403 rfl 0 rfl ?_
      refine r_dup (q := 405) dX3_minute_404 rfl rfl ?_
      refine r_getI (q := 408) L_X3_275 dX3_minute_405 rfl (mw_k hm) ?_
      refine r_iconst (q := 409) dX3_minute_408 rfl kI_1 ?_
      refine r_iadd (q := 410) dX3_minute_409 rfl ?_
      refine r_putI (q := 413) L_X3_275 dX3_minute_410 rfl (mw_k hm) ?_
      refine r_mw_pI hm (fun hm => ?_)
      have hw := hw _ rfl
      exact r_sub [0, 1, 2, 3, 4, 5, 7] rfl hw
theorem b_X3_minute_413 {x1 x2 x5 : Int32} {y3 y9 y13 : Int64} {mo : Nat} {h : Hp} {k n : Nat} {Q : Hp → Prop} {E : Nat → Hp → Prop} (hm : MW h mo) (hw : vp_in x5 12 ∧ ((¬ (eI h (mo + 5) (ix x5)) = (-1) → vp_in x5 12 ∧ (vp_in (eI h (mo + 5) (ix x5)) 12 ∧ (vp_in (eI h (mo + 5) (ix x5)) 12 ∧ (∀ h105 : Hp, h105 = sJ h (mo + 32) (ix (eI h (mo + 5) (ix x5))) ((eJ h (mo + 32) (ix (eI h (mo + 5) (ix x5)))) + y9) → vp_in x5 12 ∧ (vp_in (eI h105 (mo + 5) (ix x5)) 12 ∧ (vp_in (eI h105 (mo + 5) (ix x5)) 12 ∧ (∀ h109 : Hp, h109 = sJ h105 (mo + 31) (ix (eI h105 (mo + 5) (ix x5))) ((eJ h105 (mo + 31) (ix (eI h105 (mo + 5) (ix x5)))) + y13) → ∀ x110 : Int32, x110 = x5 + 1 → Rn M_X3_minute 39 [(0, rV mo), (1, iV x1), (2, iV x2), (3, jV y3), (5, iV x110)] [] h109 k n (qV Q) E))))))) ∧ ((eI h (mo + 5) (ix x5)) = (-1) → ∀ y111 : Int64, y111 = y3 + y9 → ∀ x112 : Int32, x112 = x5 + 1 → Rn M_X3_minute 39 [(0, rV mo), (1, iV x1), (2, iV x2), (3, jV y111), (5, iV x112)] [] h k n (qV Q) E))) : Rn M_X3_minute 413 [(0, rV mo), (1, iV x1), (2, iV x2), (3, jV y3), (5, iV x5), (9, jV y9), (13, jV y13)] [] h k n (qV Q) E := by
  refine r_aload_n (q := 414) dX3_minute_413 rfl 0 rfl ?_
  refine r_getR (q := 417) L_X3_22 dX3_minute_414 rfl (mw_k hm) (mwr_below hm) ?_
  refine r_iload (q := 419) dX3_minute_417 rfl 4 rfl ?_
  obtain ⟨g101, hw⟩ := hw
  refine r_ialdL (q := 420) dX3_minute_419 rfl (mwk_below hm) (mwl_below hm) g101 ?_
  refine r_iconst (q := 421) dX3_minute_420 rfl kI_m1 ?_
  refine r_icmp_ne (tg := 432) (q := 424) dX3_minute_421 (by decide) rfl (fun c => ?_) (fun c => ?_)
  · have hw := hw.1 c
    refine r_aload_n (q := 433) dX3_minute_432 rfl 0 rfl ?_
    refine r_getR (q := 436) L_X3_105 dX3_minute_433 rfl (mw_k hm) (mwr_inPipe hm) ?_
    refine r_aload_n (q := 437) dX3_minute_436 rfl 0 rfl ?_
    refine r_getR (q := 440) L_X3_22 dX3_minute_437 rfl (mw_k hm) (mwr_below hm) ?_
    refine r_iload (q := 442) dX3_minute_440 rfl 4 rfl ?_
    obtain ⟨g102, hw⟩ := hw
    refine r_ialdL (q := 443) dX3_minute_442 rfl (mwk_below hm) (mwl_below hm) g102 ?_
    refine r_dup2 (q := 444) dX3_minute_443 rfl rfl rfl ?_
    obtain ⟨g103, hw⟩ := hw
    refine r_laldL (q := 445) dX3_minute_444 rfl (mwk_inPipe hm) (mwl_inPipe hm) g103 ?_
    refine r_lload (q := 447) dX3_minute_445 rfl 5 rfl ?_
    refine r_ladd (q := 448) dX3_minute_447 rfl ?_
    obtain ⟨g104, hw⟩ := hw
    refine r_lastL (q := 449) dX3_minute_448 rfl (mwk_inPipe hm) (mwl_inPipe hm) g104 ?_
    refine r_mw_sJ hm (fun hm => ?_)
    have hw := hw _ rfl
    refine r_aload_n (q := 450) dX3_minute_449 rfl 0 rfl ?_
    refine r_getR (q := 453) L_X3_101 dX3_minute_450 rfl (mw_k hm) (mwr_street hm) ?_
    refine r_aload_n (q := 454) dX3_minute_453 rfl 0 rfl ?_
    refine r_getR (q := 457) L_X3_22 dX3_minute_454 rfl (mw_k hm) (mwr_below hm) ?_
    refine r_iload (q := 459) dX3_minute_457 rfl 4 rfl ?_
    obtain ⟨g106, hw⟩ := hw
    refine r_ialdL (q := 460) dX3_minute_459 rfl (mwk_below hm) (mwl_below hm) g106 ?_
    refine r_dup2 (q := 461) dX3_minute_460 rfl rfl rfl ?_
    obtain ⟨g107, hw⟩ := hw
    refine r_laldL (q := 462) dX3_minute_461 rfl (mwk_street hm) (mwl_street hm) g107 ?_
    refine r_lload (q := 464) dX3_minute_462 rfl 6 rfl ?_
    refine r_ladd (q := 465) dX3_minute_464 rfl ?_
    obtain ⟨g108, hw⟩ := hw
    refine r_lastL (q := 466) dX3_minute_465 rfl (mwk_street hm) (mwl_street hm) g108 ?_
    refine r_mw_sJ hm (fun hm => ?_)
    have hw := hw _ rfl
    have hw := hw _ rfl
    refine r_iincW (q := 469) (lv' := [(0, _), (1, _), (2, _), (3, _), (5, _), (9, _), (13, _)]) dX3_minute_466 rfl 4 rfl kI_1 (Nat.le_of_ble_eq_true rfl) rfl ?_
    refine r_goto (tg := 39) dX3_minute_469 (by decide) ?_
    exact r_sub [0, 1, 2, 3, 4] rfl hw
  · have hw := hw.2 c
    refine r_lload_n (q := 425) dX3_minute_424 rfl 3 rfl ?_
    refine r_lload (q := 427) dX3_minute_425 rfl 5 rfl ?_
    refine r_ladd (q := 428) dX3_minute_427 rfl ?_
    have hw := hw _ rfl
    refine r_lstore_n (q := 429) (lv' := [(0, _), (1, _), (2, _), (3, _), (5, _), (9, _), (13, _)]) dX3_minute_428 rfl (Nat.le_of_ble_eq_true rfl) rfl ?_
    refine r_goto (tg := 466) dX3_minute_429 (by decide) ?_
    have hw := hw _ rfl
    refine r_iincW (q := 469) (lv' := [(0, _), (1, _), (2, _), (3, _), (5, _), (9, _), (13, _)]) dX3_minute_466 rfl 4 rfl kI_1 (Nat.le_of_ble_eq_true rfl) rfl ?_
    refine r_goto (tg := 39) dX3_minute_469 (by decide) ?_
    exact r_sub [0, 1, 2, 3, 4] rfl hw
theorem b_X3_falls_0 {x1 : Int32} {mo : Nat} {h : Hp} {k n : Nat} {Q : Hp → Prop} {E : Nat → Hp → Prop} (hm : MW h mo) (hw : ∀ h101 : Hp, h101 = pJ h 1047 mo 0 → ∀ h102 : Hp, h102 = pJ h101 1048 mo 0 → ∀ h103 : Hp, h103 = pJ h102 1049 mo 0 → ∀ h104 : Hp, h104 = pJ h103 1050 mo 0 → ∀ h105 : Hp, h105 = pJ h104 1051 mo 0 → ∀ h106 : Hp, h106 = pI h105 1052 mo 0 → Rn M_X3_falls 32 [(0, rV mo), (1, iV x1), (2, iV 0)] [] h106 k n (qV Q) E) : Rn M_X3_falls 0 [(0, rV mo), (1, iV x1)] [] h k n (qV Q) E := by
  refine r_aload_n (q := 1) dX3_falls_0 rfl 0 rfl ?_
  refine r_lconst (q := 2) dX3_falls_1 rfl kL_0 ?_
  refine r_putJ (q := 5) L_X3_260 dX3_falls_2 rfl (mw_k hm) ?_
  refine r_mw_pJ hm (fun hm => ?_)
  have hw := hw _ rfl
  refine r_aload_n (q := 6) dX3_falls_5 rfl 0 rfl ?_
  refine r_lconst (q := 7) dX3_falls_6 rfl kL_0 ?_
  refine r_putJ (q := 10) L_X3_263 dX3_falls_7 rfl (mw_k hm) ?_
  refine r_mw_pJ hm (fun hm => ?_)
  have hw := hw _ rfl
  refine r_aload_n (q := 11) dX3_falls_10 rfl 0 rfl ?_
  refine r_lconst (q := 12) dX3_falls_11 rfl kL_0 ?_
  refine r_putJ (q := 15) L_X3_266 dX3_falls_12 rfl (mw_k hm) ?_
  refine r_mw_pJ hm (fun hm => ?_)
  have hw := hw _ rfl
  refine r_aload_n (q := 16) dX3_falls_15 rfl 0 rfl ?_
  refine r_lconst (q := 17) dX3_falls_16 rfl kL_0 ?_
  refine r_putJ (q := 20) L_X3_269 dX3_falls_17 rfl (mw_k hm) ?_
  refine r_mw_pJ hm (fun hm => ?_)
  have hw := hw _ rfl
  refine r_aload_n (q := 21) dX3_falls_20 rfl 0 rfl ?_
  refine r_lconst (q := 22) dX3_falls_21 rfl kL_0 ?_
  refine r_putJ (q := 25) L_X3_272 dX3_falls_22 rfl (mw_k hm) ?_
  refine r_mw_pJ hm (fun hm => ?_)
  have hw := hw _ rfl
  refine r_aload_n (q := 26) dX3_falls_25 rfl 0 rfl ?_
  refine r_iconst (q := 27) dX3_falls_26 rfl kI_0 ?_
  refine r_putI (q := 30) L_X3_275 dX3_falls_27 rfl (mw_k hm) ?_
  refine r_mw_pI hm (fun hm => ?_)
  have hw := hw _ rfl
  refine r_iconst (q := 31) dX3_falls_30 rfl kI_0 ?_
  refine r_istore_n (q := 32) (lv' := [(0, _), (1, _), (2, _)]) dX3_falls_31 rfl (Nat.le_of_ble_eq_true rfl) rfl ?_
  exact hw
theorem b_X3_falls_32 {x1 x2 : Int32} {mo : Nat} {h : Hp} {k n : Nat} {Q : Hp → Prop} {E : Nat → Hp → Prop} (hm : MW h mo) (hw : ((gI h 1002 mo) ≤ x2 → Rn M_X3_falls 60 [(0, rV mo), (1, iV x1), (2, iV 0)] [] h k n (qV Q) E) ∧ (¬ (gI h 1002 mo) ≤ x2 → vp_in x2 30 ∧ (vp_in x2 30 ∧ (∀ h103 : Hp, h103 = sI h (mo + 29) (ix x2) (eI h (mo + 23) (ix x2)) → ∀ x104 : Int32, x104 = x2 + 1 → Rn M_X3_falls 32 [(0, rV mo), (1, iV x1), (2, iV x104)] [] h103 k n (qV Q) E)))) : Rn M_X3_falls 32 [(0, rV mo), (1, iV x1), (2, iV x2)] [] h k n (qV Q) E := by
  refine r_iload_n (q := 33) dX3_falls_32 rfl 2 rfl ?_
  refine r_aload_n (q := 34) dX3_falls_33 rfl 0 rfl ?_
  refine r_getI (q := 37) L_X3_202 dX3_falls_34 rfl (mw_k hm) ?_
  refine r_icmp_ge (tg := 58) (q := 40) dX3_falls_37 (by decide) rfl (fun c => ?_) (fun c => ?_)
  · have hw := hw.1 c
    refine r_iconst (q := 59) dX3_falls_58 rfl kI_0 ?_
    refine r_istore_n (q := 60) (lv' := [(0, _), (1, _), (2, _)]) dX3_falls_59 rfl (Nat.le_of_ble_eq_true rfl) rfl ?_
    exact hw
  · have hw := hw.2 c
    refine r_aload_n (q := 41) dX3_falls_40 rfl 0 rfl ?_
    refine r_getR (q := 44) L_X3_95 dX3_falls_41 rfl (mw_k hm) (mwr_barrelNow hm) ?_
    refine r_iload_n (q := 45) dX3_falls_44 rfl 2 rfl ?_
    refine r_aload_n (q := 46) dX3_falls_45 rfl 0 rfl ?_
    refine r_getR (q := 49) L_X3_77 dX3_falls_46 rfl (mw_k hm) (mwr_has hm) ?_
    refine r_iload_n (q := 50) dX3_falls_49 rfl 2 rfl ?_
    obtain ⟨g101, hw⟩ := hw
    refine r_ialdL (q := 51) dX3_falls_50 rfl (mwk_has hm) (mwl_has hm) g101 ?_
    obtain ⟨g102, hw⟩ := hw
    refine r_iastL (q := 52) dX3_falls_51 rfl (mwk_barrelNow hm) (mwl_barrelNow hm) g102 ?_
    refine r_mw_sI hm (fun hm => ?_)
    have hw := hw _ rfl
    have hw := hw _ rfl
    refine r_iincW (q := 55) (lv' := [(0, _), (1, _), (2, _)]) dX3_falls_52 rfl 2 rfl kI_1 (Nat.le_of_ble_eq_true rfl) rfl ?_
    refine r_goto (tg := 32) dX3_falls_55 (by decide) ?_
    exact hw
theorem b_X3_falls_60 {x1 x2 : Int32} {mo : Nat} {h : Hp} {k n : Nat} {Q : Hp → Prop} {E : Nat → Hp → Prop} (hm : MW h mo) (hw : ((gI h 1001 mo) ≤ x2 → Rn M_X3_falls 133 [(0, rV mo), (1, iV x1), (2, iV 0)] [] h k n (qV Q) E) ∧ (¬ (gI h 1001 mo) ≤ x2 → vp_in x2 12 ∧ (((eI h (mo + 6) (ix x2)) = 0 → Rn M_X3_falls 93 [(0, rV mo), (1, iV x1), (2, iV x2)] [jV 0, jV (gJ h 1048 mo), rV mo] h k n (qV Q) E) ∧ (¬ (eI h (mo + 6) (ix x2)) = 0 → vp_in x2 12 ∧ (Rn M_X3_falls 93 [(0, rV mo), (1, iV x1), (2, iV x2)] [jV (Int32.toInt64 (eI h (mo + 15) (ix x2))), jV (gJ h 1048 mo), rV mo] h k n (qV Q) E))))) : Rn M_X3_falls 60 [(0, rV mo), (1, iV x1), (2, iV x2)] [] h k n (qV Q) E := by
  refine r_iload_n (q := 61) dX3_falls_60 rfl 2 rfl ?_
  refine r_aload_n (q := 62) dX3_falls_61 rfl 0 rfl ?_
  refine r_getI (q := 65) L_X3_191 dX3_falls_62 rfl (mw_k hm) ?_
  refine r_icmp_ge (tg := 131) (q := 68) dX3_falls_65 (by decide) rfl (fun c => ?_) (fun c => ?_)
  · have hw := hw.1 c
    refine r_iconst (q := 132) dX3_falls_131 rfl kI_0 ?_
    refine r_istore_n (q := 133) (lv' := [(0, _), (1, _), (2, _)]) dX3_falls_132 rfl (Nat.le_of_ble_eq_true rfl) rfl ?_
    exact hw
  · have hw := hw.2 c
    refine r_aload_n (q := 69) dX3_falls_68 rfl 0 rfl ?_
    refine r_dup (q := 70) dX3_falls_69 rfl rfl ?_
    refine r_getJ (q := 73) L_X3_263 dX3_falls_70 rfl (mw_k hm) ?_
    refine r_aload_n (q := 74) dX3_falls_73 rfl 0 rfl ?_
    refine r_getR (q := 77) L_X3_25 dX3_falls_74 rfl (mw_k hm) (mwr_hasBed hm) ?_
    refine r_iload_n (q := 78) dX3_falls_77 rfl 2 rfl ?_
    obtain ⟨g101, hw⟩ := hw
    refine r_zaldL (q := 79) dX3_falls_78 rfl (mwk_hasBed hm) (mwl_hasBed hm) g101 ?_
    refine r_if_eq (tg := 92) (q := 82) dX3_falls_79 (by decide) rfl (fun c => ?_) (fun c => ?_)
    · have hw := hw.1 c
      refine r_lconst (q := 93) dX3_falls_92 rfl kL_0 ?_
      exact hw
    · have hw := hw.2 c
      refine r_aload_n (q := 83) dX3_falls_82 rfl 0 rfl ?_
      refine r_getR (q := 86) L_X3_53 dX3_falls_83 rfl (mw_k hm) (mwr_holds hm) ?_
      refine r_iload_n (q := 87) dX3_falls_86 rfl 2 rfl ?_
      obtain ⟨g102, hw⟩ := hw
      refine r_ialdL (q := 88) dX3_falls_87 rfl (mwk_holds hm) (mwl_holds hm) g102 ?_
      refine r_i2l (q := 89) dX3_falls_88 rfl ?_
      refine r_goto (tg := 93) dX3_falls_89 (by decide) ?_
      exact hw
theorem b_X3_falls_93 {x1 x2 : Int32} {b0 b1 : Int64} {mo p2 : Nat} {h : Hp} {k n : Nat} {Q : Hp → Prop} {E : Nat → Hp → Prop} (hm : MW h mo) (hw : kd h p2 = 11 ∧ (∀ h102 : Hp, h102 = pJ h 1048 p2 (b1 + b0) → vp_in x2 12 ∧ (∀ h104 : Hp, h104 = sI h102 (mo + 30) (ix x2) 0 → vp_in x2 12 ∧ (∀ h106 : Hp, h106 = sJ h104 (mo + 33) (ix x2) 0 → vp_in x2 12 ∧ (∀ h108 : Hp, h108 = sJ h106 (mo + 34) (ix x2) 0 → vp_in x2 12 ∧ (∀ h110 : Hp, h110 = sI h108 (mo + 35) (ix x2) 0 → ∀ x111 : Int32, x111 = x2 + 1 → Rn M_X3_falls 60 [(0, rV mo), (1, iV x1), (2, iV x111)] [] h110 k n (qV Q) E)))))) : Rn M_X3_falls 93 [(0, rV mo), (1, iV x1), (2, iV x2)] [jV b0, jV b1, rV p2] h k n (qV Q) E := by
  refine r_ladd (q := 94) dX3_falls_93 rfl ?_
  obtain ⟨g101, hw⟩ := hw
  refine r_putJ (q := 97) L_X3_263 dX3_falls_94 rfl g101 ?_
  refine r_mw_pJ hm (fun hm => ?_)
  refine r_kpJ g101 (fun g101 => ?_)
  have hw := hw _ rfl
  refine r_aload_n (q := 98) dX3_falls_97 rfl 0 rfl ?_
  refine r_getR (q := 101) L_X3_98 dX3_falls_98 rfl (mw_k hm) (mwr_bowlNow hm) ?_
  refine r_iload_n (q := 102) dX3_falls_101 rfl 2 rfl ?_
  refine r_iconst (q := 103) dX3_falls_102 rfl kI_0 ?_
  obtain ⟨g103, hw⟩ := hw
  refine r_iastL (q := 104) dX3_falls_103 rfl (mwk_bowlNow hm) (mwl_bowlNow hm) g103 ?_
  refine r_mw_sI hm (fun hm => ?_)
  refine r_ksI g101 (fun g101 => ?_)
  have hw := hw _ rfl
  refine r_aload_n (q := 105) dX3_falls_104 rfl 0 rfl ?_
  refine r_getR (q := 108) L_X3_108 dX3_falls_105 rfl (mw_k hm) (mwr_spiltAt hm) ?_
  refine r_iload_n (q := 109) dX3_falls_108 rfl 2 rfl ?_
  refine r_lconst (q := 110) dX3_falls_109 rfl kL_0 ?_
  obtain ⟨g105, hw⟩ := hw
  refine r_lastL (q := 111) dX3_falls_110 rfl (mwk_spiltAt hm) (mwl_spiltAt hm) g105 ?_
  refine r_mw_sJ hm (fun hm => ?_)
  refine r_ksJ g101 (fun g101 => ?_)
  have hw := hw _ rfl
  refine r_aload_n (q := 112) dX3_falls_111 rfl 0 rfl ?_
  refine r_getR (q := 115) L_X3_111 dX3_falls_112 rfl (mw_k hm) (mwr_mostAt hm) ?_
  refine r_iload_n (q := 116) dX3_falls_115 rfl 2 rfl ?_
  refine r_lconst (q := 117) dX3_falls_116 rfl kL_0 ?_
  obtain ⟨g107, hw⟩ := hw
  refine r_lastL (q := 118) dX3_falls_117 rfl (mwk_mostAt hm) (mwl_mostAt hm) g107 ?_
  refine r_mw_sJ hm (fun hm => ?_)
  refine r_ksJ g101 (fun g101 => ?_)
  have hw := hw _ rfl
  refine r_aload_n (q := 119) dX3_falls_118 rfl 0 rfl ?_
  refine r_getR (q := 122) L_X3_114 dX3_falls_119 rfl (mw_k hm) (mwr_wetAt hm) ?_
  refine r_iload_n (q := 123) dX3_falls_122 rfl 2 rfl ?_
  refine r_iconst (q := 124) dX3_falls_123 rfl kI_0 ?_
  obtain ⟨g109, hw⟩ := hw
  refine r_iastL (q := 125) dX3_falls_124 rfl (mwk_wetAt hm) (mwl_wetAt hm) g109 ?_
  refine r_mw_sI hm (fun hm => ?_)
  refine r_ksI g101 (fun g101 => ?_)
  have hw := hw _ rfl
  have hw := hw _ rfl
  refine r_iincW (q := 128) (lv' := [(0, _), (1, _), (2, _)]) dX3_falls_125 rfl 2 rfl kI_1 (Nat.le_of_ble_eq_true rfl) rfl ?_
  refine r_goto (tg := 60) dX3_falls_128 (by decide) ?_
  exact hw
theorem b_X3_falls_133 {x1 x2 : Int32} {mo : Nat} {h : Hp} {k n : Nat} {Q : Hp → Prop} {E : Nat → Hp → Prop} (hm : MW h mo) (hw : ((gI h 1003 mo) ≤ x2 → Q h) ∧ (¬ (gI h 1003 mo) ≤ x2 → vp_in x2 30 ∧ (CtV M_X3_minute [rV mo, iV (eI h (mo + 26) (ix x2)), iV x1] h 0 0 (fun h102 => MW h102 mo ∧ (∀ x103 : Int32, x103 = x2 + 1 → Rn M_X3_falls 133 [(0, rV mo), (1, iV x1), (2, iV x103)] [] h102 k n (qV Q) E)) E))) : Rn M_X3_falls 133 [(0, rV mo), (1, iV x1), (2, iV x2)] [] h k n (qV Q) E := by
  refine r_iload_n (q := 134) dX3_falls_133 rfl 2 rfl ?_
  refine r_aload_n (q := 135) dX3_falls_134 rfl 0 rfl ?_
  refine r_getI (q := 138) L_X3_257 dX3_falls_135 rfl (mw_k hm) ?_
  refine r_icmp_ge (tg := 158) (q := 141) dX3_falls_138 (by decide) rfl (fun c => ?_) (fun c => ?_)
  · have hw := hw.1 c
    exact r_vret dX3_falls_158 rfl hw
  · have hw := hw.2 c
    refine r_aload_n (q := 142) dX3_falls_141 rfl 0 rfl ?_
    refine r_aload_n (q := 143) dX3_falls_142 rfl 0 rfl ?_
    refine r_getR (q := 146) L_X3_86 dX3_falls_143 rfl (mw_k hm) (mwr_rain hm) ?_
    refine r_iload_n (q := 147) dX3_falls_146 rfl 2 rfl ?_
    obtain ⟨g101, hw⟩ := hw
    refine r_ialdL (q := 148) dX3_falls_147 rfl (mwk_rain hm) (mwl_rain hm) g101 ?_
    refine r_iload_n (q := 149) dX3_falls_148 rfl 1 rfl ?_
    refine r_cVV0 (q := 152) _ [_, _] N_X3_278 rfl dX3_falls_149 rfl rfl rfl (mw_k hm) rfl ?_
    refine r_monoCV (fun h102 hw => ?_) hw
    obtain ⟨hm, hw⟩ := hw
    have hw := hw _ rfl
    refine r_iincW (q := 155) (lv' := [(0, _), (1, _), (2, _)]) dX3_falls_152 rfl 2 rfl kI_1 (Nat.le_of_ble_eq_true rfl) rfl ?_
    refine r_goto (tg := 133) dX3_falls_155 (by decide) ?_
    exact hw
