/-! walks -/
set_option maxRecDepth 100000
theorem b_X0_feed_0 {x1 x2 x3 x4 x5 : Int32} {xo : Nat} {h : Hp} {k n : Nat} {Q : Int32 → Hp → Prop} {E : Nat → Hp → Prop} (hm : XW h xo) (hw : (((gI h 7 xo) + 20) ≤ 700 → (1 ≤ k ∧ 5 ≤ n) ∧ (∀ r102 : Nat, r102 = nx h → ∀ h103 : Hp, h103 = nA h 0 5 → vp_in 0 (ln h103 r102) ∧ (∀ h105 : Hp, h105 = sI h103 r102 (ix 0) x1 → vp_in 1 (ln h105 r102) ∧ (∀ h108 : Hp, h108 = sI h105 r102 (ix 1) x2 → vp_in 2 (ln h108 r102) ∧ (∀ h110 : Hp, h110 = sI h108 r102 (ix 2) x3 → vp_in 3 (ln h110 r102) ∧ (∀ h112 : Hp, h112 = sI h110 r102 (ix 3) x4 → vp_in 4 (ln h112 r102) ∧ (∀ h114 : Hp, h114 = sI h112 r102 (ix 4) x5 → CtI M_X0_tapes [rV xo, rV r102] h114 0 0 (fun x116 h115 => XW h115 xo ∧ (Q x116 h115)) E))))))) ∧ (¬ ((gI h 7 xo) + 20) ≤ 700 → Q (-1) h)) : Rn M_X0_feed 0 [(0, rV xo), (1, iV x1), (2, iV x2), (3, iV x3), (4, iV x4), (5, iV x5)] [] h k n (qI Q) E := by
  refine r_aload_n (q := 1) dX0_feed_0 rfl 0 rfl ?_
  refine r_getI (q := 4) L_X0_172 dX0_feed_1 rfl (xw_k hm) ?_
  refine r_bipush (q := 6) dX0_feed_4 rfl kB_20 ?_
  refine r_iadd (q := 7) dX0_feed_6 rfl ?_
  refine r_sipush (q := 10) dX0_feed_7 rfl kS_700 ?_
  refine r_icmp_le (tg := 17) (q := 13) dX0_feed_10 (by decide) rfl (fun c => ?_) (fun c => ?_)
  · have hw := hw.1 c
    refine r_aload_n (q := 18) dX0_feed_17 rfl 0 rfl ?_
    refine r_iconst (q := 19) dX0_feed_18 rfl kI_5 ?_
    refine r_wfH (fun wf => ?_)
    obtain ⟨g101, hw⟩ := hw
    refine r_newa (q := 21) (t := 0) (N := 5) (k' := (k - 1)) (n' := (n - 5)) q123 (by decide) rfl dX0_feed_19 rfl (by decide) (by decide) (by decide) (by omega) (by omega) ?_
    have hw := hw _ rfl
    refine r_xw_nA hm (fun hm => ?_)
    have hw := hw _ rfl
    refine r_dup (q := 22) dX0_feed_21 rfl rfl ?_
    refine r_iconst (q := 23) dX0_feed_22 rfl kI_0 ?_
    refine r_iload_n (q := 24) dX0_feed_23 rfl 1 rfl ?_
    obtain ⟨g104, hw⟩ := hw
    refine r_iastL (q := 25) dX0_feed_24 rfl (kd_nA _ _ _) rfl g104 ?_
    refine r_xw_sI hm (fun hm => ?_)
    refine r_ksI (kd_nA _ _ _) (fun g106 => ?_)
    have hw := hw _ rfl
    refine r_dup (q := 26) dX0_feed_25 rfl rfl ?_
    refine r_iconst (q := 27) dX0_feed_26 rfl kI_1 ?_
    refine r_iload_n (q := 28) dX0_feed_27 rfl 2 rfl ?_
    obtain ⟨g107, hw⟩ := hw
    refine r_iastL (q := 29) dX0_feed_28 rfl g106 rfl g107 ?_
    refine r_xw_sI hm (fun hm => ?_)
    refine r_ksI g106 (fun g106 => ?_)
    have hw := hw _ rfl
    refine r_dup (q := 30) dX0_feed_29 rfl rfl ?_
    refine r_iconst (q := 31) dX0_feed_30 rfl kI_2 ?_
    refine r_iload_n (q := 32) dX0_feed_31 rfl 3 rfl ?_
    obtain ⟨g109, hw⟩ := hw
    refine r_iastL (q := 33) dX0_feed_32 rfl g106 rfl g109 ?_
    refine r_xw_sI hm (fun hm => ?_)
    refine r_ksI g106 (fun g106 => ?_)
    have hw := hw _ rfl
    refine r_dup (q := 34) dX0_feed_33 rfl rfl ?_
    refine r_iconst (q := 35) dX0_feed_34 rfl kI_3 ?_
    refine r_iload (q := 37) dX0_feed_35 rfl 4 rfl ?_
    obtain ⟨g111, hw⟩ := hw
    refine r_iastL (q := 38) dX0_feed_37 rfl g106 rfl g111 ?_
    refine r_xw_sI hm (fun hm => ?_)
    refine r_ksI g106 (fun g106 => ?_)
    have hw := hw _ rfl
    refine r_dup (q := 39) dX0_feed_38 rfl rfl ?_
    refine r_iconst (q := 40) dX0_feed_39 rfl kI_4 ?_
    refine r_iload (q := 42) dX0_feed_40 rfl 5 rfl ?_
    obtain ⟨g113, hw⟩ := hw
    refine r_iastL (q := 43) dX0_feed_42 rfl g106 rfl g113 ?_
    refine r_xw_sI hm (fun hm => ?_)
    refine r_ksI g106 (fun g106 => ?_)
    have hw := hw _ rfl
    refine r_cVI0 (q := 46) _ [_] N_X0_175 rfl dX0_feed_43 rfl rfl rfl (xw_k hm) rfl ?_
    refine r_monoCI (fun x116 h115 hw => ?_) hw
    obtain ⟨hm, hw⟩ := hw
    exact r_iret dX0_feed_46 rfl hw
  · have hw := hw.2 c
    refine r_iconst (q := 14) dX0_feed_13 rfl kI_m1 ?_
    refine r_goto (tg := 46) dX0_feed_14 (by decide) ?_
    exact r_iret dX0_feed_46 rfl hw
theorem b_X0_tapes_0 {xo r1 : Nat} {h : Hp} {k n : Nat} {Q : Int32 → Hp → Prop} {E : Nat → Hp → Prop} (hm : XW h xo) (hw : kd h r1 = 61 ∧ (∀ x102 : Int32, x102 = nI (ln h r1) → Rn M_X0_tapes 8 [(0, rV xo), (2, rV r1), (3, iV x102), (4, iV 0)] [] h k n (qI Q) E)) : Rn M_X0_tapes 0 [(0, rV xo), (1, rV r1)] [] h k n (qI Q) E := by
  refine r_aload_n (q := 1) dX0_tapes_0 rfl 1 rfl ?_
  refine r_astore_n (q := 2) (lv' := [(0, _), (1, _), (2, _)]) dX0_tapes_1 rfl (Nat.le_of_ble_eq_true rfl) rfl ?_
  refine r_aload_n (q := 3) dX0_tapes_2 rfl 2 rfl ?_
  obtain ⟨g101, hw⟩ := hw
  refine r_alen (t := 0) (q := 4) dX0_tapes_3 rfl (by decide) (Or.inl g101) ?_
  have hw := hw _ rfl
  refine r_istore_n (q := 5) (lv' := [(0, _), (1, _), (2, _), (3, _)]) dX0_tapes_4 rfl (Nat.le_of_ble_eq_true rfl) rfl ?_
  refine r_iconst (q := 6) dX0_tapes_5 rfl kI_0 ?_
  refine r_istore (q := 8) (lv' := [(0, _), (1, _), (2, _), (3, _), (4, _)]) dX0_tapes_6 rfl (Nat.le_of_ble_eq_true rfl) rfl ?_
  exact r_sub [0, 2, 3, 4] rfl hw
theorem b_X0_tapes_8 {x3 x4 : Int32} {xo r2 : Nat} {h : Hp} {k n : Nat} {Q : Int32 → Hp → Prop} {E : Nat → Hp → Prop} (hm : XW h xo) (hw : (x3 ≤ x4 → Q (gI h 7 xo) h) ∧ (¬ x3 ≤ x4 → kd h r2 = 61 ∧ (vp_in x4 (ln h r2) ∧ (∀ x103 : Int32, x103 = eI h r2 (ix x4) → Rn M_X0_tapes 24 [(0, rV xo), (2, rV r2), (3, iV x3), (4, iV x4), (5, iV x103), (6, iV 24)] [] h k n (qI Q) E)))) : Rn M_X0_tapes 8 [(0, rV xo), (2, rV r2), (3, iV x3), (4, iV x4)] [] h k n (qI Q) E := by
  refine r_iload (q := 10) dX0_tapes_8 rfl 3 rfl ?_
  refine r_iload_n (q := 11) dX0_tapes_10 rfl 2 rfl ?_
  refine r_icmp_ge (tg := 63) (q := 14) dX0_tapes_11 (by decide) rfl (fun c => ?_) (fun c => ?_)
  · have hw := hw.1 c
    refine r_aload_n (q := 64) dX0_tapes_63 rfl 0 rfl ?_
    refine r_getI (q := 67) L_X0_172 dX0_tapes_64 rfl (xw_k hm) ?_
    exact r_iret dX0_tapes_67 rfl hw
  · have hw := hw.2 c
    refine r_aload_n (q := 15) dX0_tapes_14 rfl 1 rfl ?_
    refine r_iload (q := 17) dX0_tapes_15 rfl 3 rfl ?_
    obtain ⟨g101, hw⟩ := hw
    obtain ⟨g102, hw⟩ := hw
    refine r_ialdL (q := 18) dX0_tapes_17 rfl g101 rfl g102 ?_
    have hw := hw _ rfl
    refine r_istore (q := 20) (lv' := [(0, _), (2, _), (3, _), (4, _), (5, _)]) dX0_tapes_18 rfl (Nat.le_of_ble_eq_true rfl) rfl ?_
    refine r_bipush (q := 22) dX0_tapes_20 rfl kB_24 ?_
    refine r_istore (q := 24) (lv' := [(0, _), (2, _), (3, _), (4, _), (5, _), (6, _)]) dX0_tapes_22 rfl (Nat.le_of_ble_eq_true rfl) rfl ?_
    exact hw
theorem b_X0_tapes_24 {x3 x4 x5 x6 : Int32} {xo r2 : Nat} {h : Hp} {k n : Nat} {Q : Int32 → Hp → Prop} {E : Nat → Hp → Prop} (hm : XW h xo) (hw : (x6 < 0 → ∀ x101 : Int32, x101 = x4 + 1 → Rn M_X0_tapes 8 [(0, rV xo), (2, rV r2), (3, iV x3), (4, iV x101)] [] h k n (qI Q) E) ∧ (¬ x6 < 0 → ∀ h102 : Hp, h102 = pI h 7 xo ((gI h 7 xo) + 1) → vp_in (gI h 7 xo) 700 ∧ (∀ h104 : Hp, h104 = sI h102 (xo + 9) (ix (gI h 7 xo)) (tby (tby (shr x5 x6))) → ∀ x105 : Int32, x105 = x6 + (-8) → Rn M_X0_tapes 24 [(0, rV xo), (2, rV r2), (3, iV x3), (4, iV x4), (5, iV x5), (6, iV x105)] [] h104 k n (qI Q) E))) : Rn M_X0_tapes 24 [(0, rV xo), (2, rV r2), (3, iV x3), (4, iV x4), (5, iV x5), (6, iV x6)] [] h k n (qI Q) E := by
  refine r_iload (q := 26) dX0_tapes_24 rfl 5 rfl ?_
  refine r_if_lt (tg := 57) (q := 29) dX0_tapes_26 (by decide) rfl (fun c => ?_) (fun c => ?_)
  · have hw := hw.1 c
    have hw := hw _ rfl
    refine r_iincW (q := 60) (lv' := [(0, _), (2, _), (3, _), (4, _), (5, _), (6, _)]) dX0_tapes_57 rfl 3 rfl kI_1 (Nat.le_of_ble_eq_true rfl) rfl ?_
    refine r_goto (tg := 8) dX0_tapes_60 (by decide) ?_
    exact r_sub [0, 1, 2, 3] rfl hw
  · have hw := hw.2 c
    refine r_aload_n (q := 30) dX0_tapes_29 rfl 0 rfl ?_
    refine r_getR (q := 33) L_X0_39 dX0_tapes_30 rfl (xw_k hm) (xwr_tape hm) ?_
    refine r_aload_n (q := 34) dX0_tapes_33 rfl 0 rfl ?_
    refine r_dup (q := 35) dX0_tapes_34 rfl rfl ?_
    refine r_getI (q := 38) L_X0_172 dX0_tapes_35 rfl (xw_k hm) ?_
    refine r_dup_x1 (q := 39) dX0_tapes_38 rfl rfl rfl ?_
    refine r_iconst (q := 40) dX0_tapes_39 rfl kI_1 ?_
    refine r_iadd (q := 41) dX0_tapes_40 rfl ?_
    refine r_putI (q := 44) L_X0_172 dX0_tapes_41 rfl (xw_k hm) ?_
    refine r_xw_pI hm (fun hm => ?_)
    have hw := hw _ rfl
    refine r_iload (q := 46) dX0_tapes_44 rfl 4 rfl ?_
    refine r_iload (q := 48) dX0_tapes_46 rfl 5 rfl ?_
    refine r_ishr (q := 49) dX0_tapes_48 rfl ?_
    refine r_i2b (q := 50) dX0_tapes_49 rfl ?_
    obtain ⟨g103, hw⟩ := hw
    refine r_bastL (q := 51) dX0_tapes_50 rfl (xwk_tape hm) (xwl_tape hm) g103 ?_
    refine r_xw_sI hm (fun hm => ?_)
    have hw := hw _ rfl
    have hw := hw _ rfl
    refine r_iincW (q := 54) (lv' := [(0, _), (2, _), (3, _), (4, _), (5, _), (6, _)]) dX0_tapes_51 rfl 5 rfl kI_m8 (Nat.le_of_ble_eq_true rfl) rfl ?_
    refine r_goto (tg := 24) dX0_tapes_54 (by decide) ?_
    exact hw
theorem b_X3_feed_0 {x1 x2 x3 x4 x5 : Int32} {mo : Nat} {h : Hp} {k n : Nat} {Q : Int32 → Hp → Prop} {E : Nat → Hp → Prop} (hm : MW h mo) (hw : (((gI h 1077 mo) + 20) ≤ 700 → CtV M_X3_four [rV mo, iV x1] h 0 0 (fun h101 => MW h101 mo ∧ (CtV M_X3_four [rV mo, iV x2] h101 0 0 (fun h102 => MW h102 mo ∧ (CtV M_X3_four [rV mo, iV x3] h102 0 0 (fun h103 => MW h103 mo ∧ (CtV M_X3_four [rV mo, iV x4] h103 0 0 (fun h104 => MW h104 mo ∧ (CtV M_X3_four [rV mo, iV x5] h104 0 0 (fun h105 => MW h105 mo ∧ (Q (gI h105 1077 mo) h105)) E)) E)) E)) E)) E) ∧ (¬ ((gI h 1077 mo) + 20) ≤ 700 → Q (-1) h)) : Rn M_X3_feed 0 [(0, rV mo), (1, iV x1), (2, iV x2), (3, iV x3), (4, iV x4), (5, iV x5)] [] h k n (qI Q) E := by
  refine r_aload_n (q := 1) dX3_feed_0 rfl 0 rfl ?_
  refine r_getI (q := 4) L_X3_341 dX3_feed_1 rfl (mw_k hm) ?_
  refine r_bipush (q := 6) dX3_feed_4 rfl kB_20 ?_
  refine r_iadd (q := 7) dX3_feed_6 rfl ?_
  refine r_sipush (q := 10) dX3_feed_7 rfl kS_700 ?_
  refine r_icmp_le (tg := 15) (q := 13) dX3_feed_10 (by decide) rfl (fun c => ?_) (fun c => ?_)
  · have hw := hw.1 c
    refine r_aload_n (q := 16) dX3_feed_15 rfl 0 rfl ?_
    refine r_iload_n (q := 17) dX3_feed_16 rfl 1 rfl ?_
    refine r_cVV0 (q := 20) _ [_] N_X3_344 rfl dX3_feed_17 rfl rfl rfl (mw_k hm) rfl ?_
    refine r_monoCV (fun h101 hw => ?_) hw
    obtain ⟨hm, hw⟩ := hw
    refine r_aload_n (q := 21) dX3_feed_20 rfl 0 rfl ?_
    refine r_iload_n (q := 22) dX3_feed_21 rfl 2 rfl ?_
    refine r_cVV0 (q := 25) _ [_] N_X3_344 rfl dX3_feed_22 rfl rfl rfl (mw_k hm) rfl ?_
    refine r_monoCV (fun h102 hw => ?_) hw
    obtain ⟨hm, hw⟩ := hw
    refine r_aload_n (q := 26) dX3_feed_25 rfl 0 rfl ?_
    refine r_iload_n (q := 27) dX3_feed_26 rfl 3 rfl ?_
    refine r_cVV0 (q := 30) _ [_] N_X3_344 rfl dX3_feed_27 rfl rfl rfl (mw_k hm) rfl ?_
    refine r_monoCV (fun h103 hw => ?_) hw
    obtain ⟨hm, hw⟩ := hw
    refine r_aload_n (q := 31) dX3_feed_30 rfl 0 rfl ?_
    refine r_iload (q := 33) dX3_feed_31 rfl 4 rfl ?_
    refine r_cVV0 (q := 36) _ [_] N_X3_344 rfl dX3_feed_33 rfl rfl rfl (mw_k hm) rfl ?_
    refine r_monoCV (fun h104 hw => ?_) hw
    obtain ⟨hm, hw⟩ := hw
    refine r_aload_n (q := 37) dX3_feed_36 rfl 0 rfl ?_
    refine r_iload (q := 39) dX3_feed_37 rfl 5 rfl ?_
    refine r_cVV0 (q := 42) _ [_] N_X3_344 rfl dX3_feed_39 rfl rfl rfl (mw_k hm) rfl ?_
    refine r_monoCV (fun h105 hw => ?_) hw
    obtain ⟨hm, hw⟩ := hw
    refine r_aload_n (q := 43) dX3_feed_42 rfl 0 rfl ?_
    refine r_getI (q := 46) L_X3_341 dX3_feed_43 rfl (mw_k hm) ?_
    exact r_iret dX3_feed_46 rfl hw
  · have hw := hw.2 c
    refine r_iconst (q := 14) dX3_feed_13 rfl kI_m1 ?_
    exact r_iret dX3_feed_14 rfl hw
theorem b_X3_four_0 {x1 : Int32} {mo : Nat} {h : Hp} {k n : Nat} {Q : Hp → Prop} {E : Nat → Hp → Prop} (hm : MW h mo) (hw : Rn M_X3_four 3 [(0, rV mo), (1, iV x1), (2, iV 24)] [] h k n (qV Q) E) : Rn M_X3_four 0 [(0, rV mo), (1, iV x1)] [] h k n (qV Q) E := by
  refine r_bipush (q := 2) dX3_four_0 rfl kB_24 ?_
  refine r_istore_n (q := 3) (lv' := [(0, _), (1, _), (2, _)]) dX3_four_2 rfl (Nat.le_of_ble_eq_true rfl) rfl ?_
  exact hw
theorem b_X3_four_3 {x1 x2 : Int32} {mo : Nat} {h : Hp} {k n : Nat} {Q : Hp → Prop} {E : Nat → Hp → Prop} (hm : MW h mo) (hw : (x2 < 0 → Q h) ∧ (¬ x2 < 0 → vp_in (gI h 1077 mo) 700 ∧ (∀ h102 : Hp, h102 = sI h (mo + 57) (ix (gI h 1077 mo)) (tby (tby (shr x1 x2))) → ∀ h103 : Hp, h103 = pI h102 1077 mo ((gI h102 1077 mo) + 1) → ∀ x104 : Int32, x104 = x2 + (-8) → Rn M_X3_four 3 [(0, rV mo), (1, iV x1), (2, iV x104)] [] h103 k n (qV Q) E))) : Rn M_X3_four 3 [(0, rV mo), (1, iV x1), (2, iV x2)] [] h k n (qV Q) E := by
  refine r_iload_n (q := 4) dX3_four_3 rfl 2 rfl ?_
  refine r_if_lt (tg := 36) (q := 7) dX3_four_4 (by decide) rfl (fun c => ?_) (fun c => ?_)
  · have hw := hw.1 c
    exact r_vret dX3_four_36 rfl hw
  · have hw := hw.2 c
    refine r_aload_n (q := 8) dX3_four_7 rfl 0 rfl ?_
    refine r_getR (q := 11) L_X3_180 dX3_four_8 rfl (mw_k hm) (mwr_tape hm) ?_
    refine r_aload_n (q := 12) dX3_four_11 rfl 0 rfl ?_
    refine r_getI (q := 15) L_X3_341 dX3_four_12 rfl (mw_k hm) ?_
    refine r_iload_n (q := 16) dX3_four_15 rfl 1 rfl ?_
    refine r_iload_n (q := 17) dX3_four_16 rfl 2 rfl ?_
    refine r_ishr (q := 18) dX3_four_17 rfl ?_
    refine r_i2b (q := 19) dX3_four_18 rfl ?_
    obtain ⟨g101, hw⟩ := hw
    refine r_bastL (q := 20) dX3_four_19 rfl (mwk_tape hm) (mwl_tape hm) g101 ?_
    refine r_mw_sI hm (fun hm => ?_)
    have hw := hw _ rfl
    refine r_aload_n (q := 21) dX3_four_20 rfl 0 rfl ?_
    refine r_dup (q := 22) dX3_four_21 rfl rfl ?_
    refine r_getI (q := 25) L_X3_341 dX3_four_22 rfl (mw_k hm) ?_
    refine r_iconst (q := 26) dX3_four_25 rfl kI_1 ?_
    refine r_iadd (q := 27) dX3_four_26 rfl ?_
    refine r_putI (q := 30) L_X3_341 dX3_four_27 rfl (mw_k hm) ?_
    refine r_mw_pI hm (fun hm => ?_)
    have hw := hw _ rfl
    have hw := hw _ rfl
    refine r_iincW (q := 33) (lv' := [(0, _), (1, _), (2, _)]) dX3_four_30 rfl 2 rfl kI_m8 (Nat.le_of_ble_eq_true rfl) rfl ?_
    refine r_goto (tg := 3) dX3_four_33 (by decide) ?_
    exact hw
