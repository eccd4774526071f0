/-! walks -/
set_option maxRecDepth 100000
theorem b_X0_fee_0 {x1 x2 : Int32} {xo : Nat} {h : Hp} {k n : Nat} {Q : Int32 → Hp → Prop} {E : Nat → Hp → Prop} (hm : XW h xo) (hw : ((isin x1 0 19) = false → Q (-1) h) ∧ ((isin x1 0 19) = true → ((isin x2 0 9) = true → (P_X0_on h xo (((365 * x2) + 365) - 1)) ∧ (∀ r102 : Nat, r102 = V_X0_on h xo (((365 * x2) + 365) - 1) → Rn M_X0_fee 44 [(0, rV xo), (1, iV x1), (2, iV x2), (3, rV r102), (4, jV 0), (6, iV 0)] [] h k n (qI Q) E)) ∧ ((isin x2 0 9) = false → Q (-1) h))) : Rn M_X0_fee 0 [(0, rV xo), (1, iV x1), (2, iV x2)] [] h k n (qI Q) E := by
  refine r_iload_n (q := 1) dX0_fee_0 rfl 1 rfl ?_
  refine r_iconst (q := 2) dX0_fee_1 rfl kI_0 ?_
  refine r_bipush (q := 4) dX0_fee_2 rfl kB_19 ?_
  refine r_cSI0 (q := 7) [_, _, _] N_X0_3 dX0_fee_4 rfl rfl rfl rfl ?_
  refine ct_X0_isIn  ?_
  refine r_ifb_eq (tg := 20) (q := 10) dX0_fee_7 (by decide) rfl (fun c => ?_) (fun c => ?_)
  · have hw := hw.1 c
    refine r_iconst (q := 21) dX0_fee_20 rfl kI_m1 ?_
    exact r_iret dX0_fee_21 rfl hw
  · have hw := hw.2 c
    refine r_iload_n (q := 11) dX0_fee_10 rfl 2 rfl ?_
    refine r_iconst (q := 12) dX0_fee_11 rfl kI_0 ?_
    refine r_bipush (q := 14) dX0_fee_12 rfl kB_9 ?_
    refine r_cSI0 (q := 17) [_, _, _] N_X0_3 dX0_fee_14 rfl rfl rfl rfl ?_
    refine ct_X0_isIn  ?_
    refine r_ifb_ne (tg := 22) (q := 20) dX0_fee_17 (by decide) rfl (fun c => ?_) (fun c => ?_)
    · have hw := hw.1 c
      refine r_aload_n (q := 23) dX0_fee_22 rfl 0 rfl ?_
      refine r_sipush (q := 26) dX0_fee_23 rfl kS_365 ?_
      refine r_iload_n (q := 27) dX0_fee_26 rfl 2 rfl ?_
      refine r_imul (q := 28) dX0_fee_27 rfl ?_
      refine r_sipush (q := 31) dX0_fee_28 rfl kS_365 ?_
      refine r_iadd (q := 32) dX0_fee_31 rfl ?_
      refine r_iconst (q := 33) dX0_fee_32 rfl kI_1 ?_
      refine r_isub (q := 34) dX0_fee_33 rfl ?_
      obtain ⟨g101, hw⟩ := hw
      refine r_cVR0 (q := 37) _ [_] N_X0_122 rfl dX0_fee_34 rfl rfl rfl (xw_k hm) rfl ?_
      refine ct_X0_on hm g101 ?_
      have hw := hw _ rfl
      refine r_astore_n (q := 38) (lv' := [(0, _), (1, _), (2, _), (3, _)]) dX0_fee_37 rfl (Nat.le_of_ble_eq_true rfl) rfl ?_
      refine r_lconst (q := 39) dX0_fee_38 rfl kL_0 ?_
      refine r_lstore (q := 41) (lv' := [(0, _), (1, _), (2, _), (3, _), (4, _)]) dX0_fee_39 rfl (Nat.le_of_ble_eq_true rfl) rfl ?_
      refine r_iconst (q := 42) dX0_fee_41 rfl kI_0 ?_
      refine r_istore (q := 44) (lv' := [(0, _), (1, _), (2, _), (3, _), (4, _), (6, _)]) dX0_fee_42 rfl (Nat.le_of_ble_eq_true rfl) rfl ?_
      exact hw
    · have hw := hw.2 c
      refine r_iconst (q := 21) dX0_fee_20 rfl kI_m1 ?_
      exact r_iret dX0_fee_21 rfl hw
theorem b_X0_fee_44 {x1 x2 x6 : Int32} {y4 : Int64} {xo r3 : Nat} {h : Hp} {k n : Nat} {Q : Int32 → Hp → Prop} {E : Nat → Hp → Prop} (hm : XW h xo) (hw : ((gI h 1102 (xo + 3)) ≤ x6 → (10 ≤ x1 → Rn M_X0_fee 164 [(0, rV xo), (4, jV y4)] [] h k n (qI Q) E) ∧ (¬ 10 ≤ x1 → kd h r3 = 5 ∧ (vp_in ((10 * x1) + x2) 100 ∧ (∀ y103 : Int64, y103 = y4 - ((Int32.toInt64 (gI h 411 r3)) * (Int32.toInt64 (eI h (xo + 11) (ix ((10 * x1) + x2))))) → Rn M_X0_fee 164 [(0, rV xo), (4, jV y103)] [] h k n (qI Q) E)))) ∧ (¬ (gI h 1102 (xo + 3)) ≤ x6 → (ALg h (xo + 3) x6) ∧ (kd h (el h (xo + 3) (ix x6)) = 3 ∧ (∀ r106 : Nat, r106 = el h (xo + 3) (ix x6) → ((gI h 201 r106) = x1 → kd h r3 = 5 ∧ ((¬ ((shr (gI h 206 r106) x2) &&& 1) = 1 → ∀ y108 : Int64, y108 = y4 + (((Int32.toInt64 (gI h 409 r3)) * (Int32.toInt64 (gI h 202 r106))) - 0) → ∀ x109 : Int32, x109 = x6 + 1 → Rn M_X0_fee 44 [(0, rV xo), (1, iV x1), (2, iV x2), (3, rV r3), (4, jV y108), (6, iV x109)] [] h k n (qI Q) E) ∧ (((shr (gI h 206 r106) x2) &&& 1) = 1 → ∀ y110 : Int64, y110 = y4 + (((Int32.toInt64 (gI h 409 r3)) * (Int32.toInt64 (gI h 202 r106))) - ((Int32.toInt64 (gI h 410 r3)) * (Int32.toInt64 (gI h 203 r106)))) → ∀ x111 : Int32, x111 = x6 + 1 → Rn M_X0_fee 44 [(0, rV xo), (1, iV x1), (2, iV x2), (3, rV r3), (4, jV y110), (6, iV x111)] [] h k n (qI Q) E))) ∧ (¬ (gI h 201 r106) = x1 → ∀ x112 : Int32, x112 = x6 + 1 → Rn M_X0_fee 44 [(0, rV xo), (1, iV x1), (2, iV x2), (3, rV r3), (4, jV y4), (6, iV x112)] [] h k n (qI Q) E))))) : Rn M_X0_fee 44 [(0, rV xo), (1, iV x1), (2, iV x2), (3, rV r3), (4, jV y4), (6, iV x6)] [] h k n (qI Q) E := by
  refine r_iload (q := 46) dX0_fee_44 rfl 5 rfl ?_
  refine r_aload_n (q := 47) dX0_fee_46 rfl 0 rfl ?_
  refine r_getR (q := 50) L_X0_24 dX0_fee_47 rfl (xw_k hm) (xwr_roofs hm) ?_
  refine r_cVI0 (q := 53) _ [] N_X0_77 rfl dX0_fee_50 rfl rfl rfl (xwk_roofs hm) rfl ?_
  refine ct_J2_size (xwk_roofs hm) ?_
  refine r_icmp_ge (tg := 135) (q := 56) dX0_fee_53 (by decide) rfl (fun c => ?_) (fun c => ?_)
  · have hw := hw.1 c
    refine r_iload_n (q := 136) dX0_fee_135 rfl 1 rfl ?_
    refine r_bipush (q := 138) dX0_fee_136 rfl kB_10 ?_
    refine r_icmp_ge (tg := 164) (q := 141) dX0_fee_138 (by decide) rfl (fun c => ?_) (fun c => ?_)
    · have hw := hw.1 c
      exact r_sub [0, 4] rfl hw
    · have hw := hw.2 c
      refine r_lload (q := 143) dX0_fee_141 rfl 4 rfl ?_
      refine r_aload_n (q := 144) dX0_fee_143 rfl 3 rfl ?_
      obtain ⟨g101, hw⟩ := hw
      refine r_getI (q := 147) L_X0_305 dX0_fee_144 rfl g101 ?_
      refine r_i2l (q := 148) dX0_fee_147 rfl ?_
      refine r_aload_n (q := 149) dX0_fee_148 rfl 0 rfl ?_
      refine r_getR (q := 152) L_X0_56 dX0_fee_149 rfl (xw_k hm) (xwr_kept hm) ?_
      refine r_bipush (q := 154) dX0_fee_152 rfl kB_10 ?_
      refine r_iload_n (q := 155) dX0_fee_154 rfl 1 rfl ?_
      refine r_imul (q := 156) dX0_fee_155 rfl ?_
      refine r_iload_n (q := 157) dX0_fee_156 rfl 2 rfl ?_
      refine r_iadd (q := 158) dX0_fee_157 rfl ?_
      obtain ⟨g102, hw⟩ := hw
      refine r_ialdL (q := 159) dX0_fee_158 rfl (xwk_kept hm) (xwl_kept hm) g102 ?_
      refine r_i2l (q := 160) dX0_fee_159 rfl ?_
      refine r_lmul (q := 161) dX0_fee_160 rfl ?_
      refine r_lsub (q := 162) dX0_fee_161 rfl ?_
      have hw := hw _ rfl
      refine r_lstore (q := 164) (lv' := [(0, _), (1, _), (2, _), (3, _), (4, _), (6, _)]) dX0_fee_162 rfl (Nat.le_of_ble_eq_true rfl) rfl ?_
      exact r_sub [0, 4] rfl hw
  · have hw := hw.2 c
    refine r_aload_n (q := 57) dX0_fee_56 rfl 0 rfl ?_
    refine r_getR (q := 60) L_X0_24 dX0_fee_57 rfl (xw_k hm) (xwr_roofs hm) ?_
    refine r_iload (q := 62) dX0_fee_60 rfl 5 rfl ?_
    obtain ⟨g104, hw⟩ := hw
    refine r_cVR0 (q := 65) _ [_] N_X0_81 rfl dX0_fee_62 rfl rfl rfl (xwk_roofs hm) rfl ?_
    refine ct_J2_get (xwk_roofs hm) g104 ?_
    obtain ⟨g105, hw⟩ := hw
    refine r_cast (q := 68) q518 rfl dX0_fee_65 rfl g105 ?_
    have hw := hw _ rfl
    refine r_astore (q := 70) (lv' := [(0, _), (1, _), (2, _), (3, _), (4, _), (6, _), (7, _)]) dX0_fee_68 rfl (Nat.le_of_ble_eq_true rfl) rfl ?_
    refine r_aload (q := 72) dX0_fee_70 rfl 6 rfl ?_
    refine r_getI (q := 75) L_X0_489 dX0_fee_72 rfl g105 ?_
    refine r_iload_n (q := 76) dX0_fee_75 rfl 1 rfl ?_
    refine r_icmp_eq (tg := 82) (q := 79) dX0_fee_76 (by decide) rfl (fun c => ?_) (fun c => ?_)
    · have hw := hw.1 c
      refine r_lload (q := 84) dX0_fee_82 rfl 4 rfl ?_
      refine r_aload_n (q := 85) dX0_fee_84 rfl 3 rfl ?_
      obtain ⟨g107, hw⟩ := hw
      refine r_getI (q := 88) L_X0_298 dX0_fee_85 rfl g107 ?_
      refine r_i2l (q := 89) dX0_fee_88 rfl ?_
      refine r_aload (q := 91) dX0_fee_89 rfl 6 rfl ?_
      refine r_getI (q := 94) L_X0_492 dX0_fee_91 rfl g105 ?_
      refine r_i2l (q := 95) dX0_fee_94 rfl ?_
      refine r_lmul (q := 96) dX0_fee_95 rfl ?_
      refine r_aload (q := 98) dX0_fee_96 rfl 6 rfl ?_
      refine r_getI (q := 101) L_X0_486 dX0_fee_98 rfl g105 ?_
      refine r_iload_n (q := 102) dX0_fee_101 rfl 2 rfl ?_
      refine r_ishr (q := 103) dX0_fee_102 rfl ?_
      refine r_iconst (q := 104) dX0_fee_103 rfl kI_1 ?_
      refine r_iand (q := 105) dX0_fee_104 rfl ?_
      refine r_iconst (q := 106) dX0_fee_105 rfl kI_1 ?_
      refine r_icmp_ne (tg := 124) (q := 109) dX0_fee_106 (by decide) rfl (fun c => ?_) (fun c => ?_)
      · have hw := hw.1 c
        refine r_lconst (q := 125) dX0_fee_124 rfl kL_0 ?_
        refine r_lsub (q := 126) dX0_fee_125 rfl ?_
        refine r_ladd (q := 127) dX0_fee_126 rfl ?_
        have hw := hw _ rfl
        refine r_lstore (q := 129) (lv' := [(0, _), (1, _), (2, _), (3, _), (4, _), (6, _), (7, _)]) dX0_fee_127 rfl (Nat.le_of_ble_eq_true rfl) rfl ?_
        have hw := hw _ rfl
        refine r_iincW (q := 132) (lv' := [(0, _), (1, _), (2, _), (3, _), (4, _), (6, _), (7, _)]) dX0_fee_129 rfl 5 rfl kI_1 (Nat.le_of_ble_eq_true rfl) rfl ?_
        refine r_goto (tg := 44) dX0_fee_132 (by decide) ?_
        exact r_sub [0, 1, 2, 3, 4, 5] rfl hw
      · have hw := hw.2 c
        refine r_aload_n (q := 110) dX0_fee_109 rfl 3 rfl ?_
        refine r_getI (q := 113) L_X0_302 dX0_fee_110 rfl g107 ?_
        refine r_i2l (q := 114) dX0_fee_113 rfl ?_
        refine r_aload (q := 116) dX0_fee_114 rfl 6 rfl ?_
        refine r_getI (q := 119) L_X0_483 dX0_fee_116 rfl g105 ?_
        refine r_i2l (q := 120) dX0_fee_119 rfl ?_
        refine r_lmul (q := 121) dX0_fee_120 rfl ?_
        refine r_goto (tg := 125) dX0_fee_121 (by decide) ?_
        refine r_lsub (q := 126) dX0_fee_125 rfl ?_
        refine r_ladd (q := 127) dX0_fee_126 rfl ?_
        have hw := hw _ rfl
        refine r_lstore (q := 129) (lv' := [(0, _), (1, _), (2, _), (3, _), (4, _), (6, _), (7, _)]) dX0_fee_127 rfl (Nat.le_of_ble_eq_true rfl) rfl ?_
        have hw := hw _ rfl
        refine r_iincW (q := 132) (lv' := [(0, _), (1, _), (2, _), (3, _), (4, _), (6, _), (7, _)]) dX0_fee_129 rfl 5 rfl kI_1 (Nat.le_of_ble_eq_true rfl) rfl ?_
        refine r_goto (tg := 44) dX0_fee_132 (by decide) ?_
        exact r_sub [0, 1, 2, 3, 4, 5] rfl hw
    · have hw := hw.2 c
      refine r_goto (tg := 129) dX0_fee_79 (by decide) ?_
      have hw := hw _ rfl
      refine r_iincW (q := 132) (lv' := [(0, _), (1, _), (2, _), (3, _), (4, _), (6, _), (7, _)]) dX0_fee_129 rfl 5 rfl kI_1 (Nat.le_of_ble_eq_true rfl) rfl ?_
      refine r_goto (tg := 44) dX0_fee_132 (by decide) ?_
      exact r_sub [0, 1, 2, 3, 4, 5] rfl hw
theorem b_X0_fee_164 {y4 : Int64} {xo : Nat} {h : Hp} {k n : Nat} {Q : Int32 → Hp → Prop} {E : Nat → Hp → Prop} (hm : XW h xo) (hw : Q (Int64.toInt32 (lmax 0 y4)) h) : Rn M_X0_fee 164 [(0, rV xo), (4, jV y4)] [] h k n (qI Q) E := by
  refine r_lconst (q := 165) dX0_fee_164 rfl kL_0 ?_
  refine r_lload (q := 167) dX0_fee_165 rfl 1 rfl ?_
  refine r_lmax (q := 170) q1316 dX0_fee_167 rfl rfl ?_
  refine r_l2i (q := 171) dX0_fee_170 rfl ?_
  exact r_iret dX0_fee_171 rfl hw
theorem b_X3_fee_0 {x1 x2 : Int32} {mo : Nat} {h : Hp} {k n : Nat} {Q : Int32 → Hp → Prop} {E : Nat → Hp → Prop} (hm : MW h mo) (hw : ((isin x1 0 19) = false → Q (-1) h) ∧ ((isin x1 0 19) = true → ((isin x2 0 9) = true → ∀ x101 : Int32, x101 = ((365 * x2) + 365) - 1 → Rn M_X3_fee 40 [(0, rV mo), (1, iV x1), (2, iV x2), (3, iV x101), (4, iV 0), (5, iV 0)] [] h k n (qI Q) E) ∧ ((isin x2 0 9) = false → Q (-1) h))) : Rn M_X3_fee 0 [(0, rV mo), (1, iV x1), (2, iV x2)] [] h k n (qI Q) E := by
  refine r_iload_n (q := 1) dX3_fee_0 rfl 1 rfl ?_
  refine r_iconst (q := 2) dX3_fee_1 rfl kI_0 ?_
  refine r_bipush (q := 4) dX3_fee_2 rfl kB_19 ?_
  refine r_cSI0 (q := 7) [_, _, _] N_X3_194 dX3_fee_4 rfl rfl rfl rfl ?_
  refine ct_X3_isIn  ?_
  refine r_ifb_eq (tg := 20) (q := 10) dX3_fee_7 (by decide) rfl (fun c => ?_) (fun c => ?_)
  · have hw := hw.1 c
    refine r_iconst (q := 21) dX3_fee_20 rfl kI_m1 ?_
    exact r_iret dX3_fee_21 rfl hw
  · have hw := hw.2 c
    refine r_iload_n (q := 11) dX3_fee_10 rfl 2 rfl ?_
    refine r_iconst (q := 12) dX3_fee_11 rfl kI_0 ?_
    refine r_bipush (q := 14) dX3_fee_12 rfl kB_9 ?_
    refine r_cSI0 (q := 17) [_, _, _] N_X3_194 dX3_fee_14 rfl rfl rfl rfl ?_
    refine ct_X3_isIn  ?_
    refine r_ifb_ne (tg := 22) (q := 20) dX3_fee_17 (by decide) rfl (fun c => ?_) (fun c => ?_)
    · have hw := hw.1 c
      refine r_sipush (q := 25) dX3_fee_22 rfl kS_365 ?_
      refine r_iload_n (q := 26) dX3_fee_25 rfl 2 rfl ?_
      refine r_imul (q := 27) dX3_fee_26 rfl ?_
      refine r_sipush (q := 30) dX3_fee_27 rfl kS_365 ?_
      refine r_iadd (q := 31) dX3_fee_30 rfl ?_
      refine r_iconst (q := 32) dX3_fee_31 rfl kI_1 ?_
      refine r_isub (q := 33) dX3_fee_32 rfl ?_
      have hw := hw _ rfl
      refine r_istore_n (q := 34) (lv' := [(0, _), (1, _), (2, _), (3, _)]) dX3_fee_33 rfl (Nat.le_of_ble_eq_true rfl) rfl ?_
      refine r_iconst (q := 35) dX3_fee_34 rfl kI_0 ?_
      refine r_istore (q := 37) (lv' := [(0, _), (1, _), (2, _), (3, _), (4, _)]) dX3_fee_35 rfl (Nat.le_of_ble_eq_true rfl) rfl ?_
      refine r_iconst (q := 38) dX3_fee_37 rfl kI_0 ?_
      refine r_istore (q := 40) (lv' := [(0, _), (1, _), (2, _), (3, _), (4, _), (5, _)]) dX3_fee_38 rfl (Nat.le_of_ble_eq_true rfl) rfl ?_
      exact hw
    · have hw := hw.2 c
      refine r_iconst (q := 21) dX3_fee_20 rfl kI_m1 ?_
      exact r_iret dX3_fee_21 rfl hw
theorem b_X3_fee_40 {x1 x2 x3 x4 x5 : Int32} {mo : Nat} {h : Hp} {k n : Nat} {Q : Int32 → Hp → Prop} {E : Nat → Hp → Prop} (hm : MW h mo) (hw : ((gI h 1002 mo) ≤ x5 → (10 ≤ x1 → Rn M_X3_fee 154 [(0, rV mo), (4, iV x4)] [] h k n (qI Q) E) ∧ (¬ 10 ≤ x1 → (LWp h mo) ∧ (vp_in ((10 * x2) + x1) 100 ∧ (∀ x103 : Int32, x103 = x4 - ((lawn h mo x3 9) * (eI h (mo + 28) (ix ((10 * x2) + x1)))) → Rn M_X3_fee 154 [(0, rV mo), (4, iV x103)] [] h k n (qI Q) E)))) ∧ (¬ (gI h 1002 mo) ≤ x5 → vp_in x5 30 ∧ (((eI h (mo + 20) (ix x5)) = x1 → (LWp h mo) ∧ (vp_in x5 30 ∧ (vp_in x5 30 ∧ ((¬ ((shr (eI h (mo + 24) (ix x5)) x2) &&& 1) = 1 → ∀ x108 : Int32, x108 = x4 + (((lawn h mo x3 7) * (eI h (mo + 21) (ix x5))) - 0) → ∀ x109 : Int32, x109 = x5 + 1 → Rn M_X3_fee 40 [(0, rV mo), (1, iV x1), (2, iV x2), (3, iV x3), (4, iV x108), (5, iV x109)] [] h k n (qI Q) E) ∧ (((shr (eI h (mo + 24) (ix x5)) x2) &&& 1) = 1 → (LWp h mo) ∧ (vp_in x5 30 ∧ (∀ x112 : Int32, x112 = x4 + (((lawn h mo x3 7) * (eI h (mo + 21) (ix x5))) - ((lawn h mo x3 8) * (eI h (mo + 22) (ix x5)))) → ∀ x113 : Int32, x113 = x5 + 1 → Rn M_X3_fee 40 [(0, rV mo), (1, iV x1), (2, iV x2), (3, iV x3), (4, iV x112), (5, iV x113)] [] h k n (qI Q) E))))))) ∧ (¬ (eI h (mo + 20) (ix x5)) = x1 → ∀ x114 : Int32, x114 = x5 + 1 → Rn M_X3_fee 40 [(0, rV mo), (1, iV x1), (2, iV x2), (3, iV x3), (4, iV x4), (5, iV x114)] [] h k n (qI Q) E)))) : Rn M_X3_fee 40 [(0, rV mo), (1, iV x1), (2, iV x2), (3, iV x3), (4, iV x4), (5, iV x5)] [] h k n (qI Q) E := by
  refine r_iload (q := 42) dX3_fee_40 rfl 5 rfl ?_
  refine r_aload_n (q := 43) dX3_fee_42 rfl 0 rfl ?_
  refine r_getI (q := 46) L_X3_202 dX3_fee_43 rfl (mw_k hm) ?_
  refine r_icmp_ge (tg := 124) (q := 49) dX3_fee_46 (by decide) rfl (fun c => ?_) (fun c => ?_)
  · have hw := hw.1 c
    refine r_iload_n (q := 125) dX3_fee_124 rfl 1 rfl ?_
    refine r_bipush (q := 127) dX3_fee_125 rfl kB_10 ?_
    refine r_icmp_ge (tg := 154) (q := 130) dX3_fee_127 (by decide) rfl (fun c => ?_) (fun c => ?_)
    · have hw := hw.1 c
      exact r_sub [0, 4] rfl hw
    · have hw := hw.2 c
      refine r_iload (q := 132) dX3_fee_130 rfl 4 rfl ?_
      refine r_aload_n (q := 133) dX3_fee_132 rfl 0 rfl ?_
      refine r_iload_n (q := 134) dX3_fee_133 rfl 3 rfl ?_
      refine r_bipush (q := 136) dX3_fee_134 rfl kB_9 ?_
      obtain ⟨g101, hw⟩ := hw
      refine r_cVI0 (q := 139) _ [_, _] N_X3_332 rfl dX3_fee_136 rfl rfl rfl (mw_k hm) rfl ?_
      refine cs_X3_lawOn hm g101 ?_
      refine r_aload_n (q := 140) dX3_fee_139 rfl 0 rfl ?_
      refine r_getR (q := 143) L_X3_92 dX3_fee_140 rfl (mw_k hm) (mwr_kept hm) ?_
      refine r_bipush (q := 145) dX3_fee_143 rfl kB_10 ?_
      refine r_iload_n (q := 146) dX3_fee_145 rfl 2 rfl ?_
      refine r_imul (q := 147) dX3_fee_146 rfl ?_
      refine r_iload_n (q := 148) dX3_fee_147 rfl 1 rfl ?_
      refine r_iadd (q := 149) dX3_fee_148 rfl ?_
      obtain ⟨g102, hw⟩ := hw
      refine r_ialdL (q := 150) dX3_fee_149 rfl (mwk_kept hm) (mwl_kept hm) g102 ?_
      refine r_imul (q := 151) dX3_fee_150 rfl ?_
      refine r_isub (q := 152) dX3_fee_151 rfl ?_
      have hw := hw _ rfl
      refine r_istore (q := 154) (lv' := [(0, _), (1, _), (2, _), (3, _), (4, _), (5, _)]) dX3_fee_152 rfl (Nat.le_of_ble_eq_true rfl) rfl ?_
      exact r_sub [0, 4] rfl hw
  · have hw := hw.2 c
    refine r_aload_n (q := 50) dX3_fee_49 rfl 0 rfl ?_
    refine r_getR (q := 53) L_X3_68 dX3_fee_50 rfl (mw_k hm) (mwr_owner hm) ?_
    refine r_iload (q := 55) dX3_fee_53 rfl 5 rfl ?_
    obtain ⟨g104, hw⟩ := hw
    refine r_ialdL (q := 56) dX3_fee_55 rfl (mwk_owner hm) (mwl_owner hm) g104 ?_
    refine r_iload_n (q := 57) dX3_fee_56 rfl 1 rfl ?_
    refine r_icmp_eq (tg := 63) (q := 60) dX3_fee_57 (by decide) rfl (fun c => ?_) (fun c => ?_)
    · have hw := hw.1 c
      refine r_iload (q := 65) dX3_fee_63 rfl 4 rfl ?_
      refine r_aload_n (q := 66) dX3_fee_65 rfl 0 rfl ?_
      refine r_iload_n (q := 67) dX3_fee_66 rfl 3 rfl ?_
      refine r_bipush (q := 69) dX3_fee_67 rfl kB_7 ?_
      obtain ⟨g105, hw⟩ := hw
      refine r_cVI0 (q := 72) _ [_, _] N_X3_332 rfl dX3_fee_69 rfl rfl rfl (mw_k hm) rfl ?_
      refine cs_X3_lawOn hm g105 ?_
      refine r_aload_n (q := 73) dX3_fee_72 rfl 0 rfl ?_
      refine r_getR (q := 76) L_X3_71 dX3_fee_73 rfl (mw_k hm) (mwr_roofArea hm) ?_
      refine r_iload (q := 78) dX3_fee_76 rfl 5 rfl ?_
      obtain ⟨g106, hw⟩ := hw
      refine r_ialdL (q := 79) dX3_fee_78 rfl (mwk_roofArea hm) (mwl_roofArea hm) g106 ?_
      refine r_imul (q := 80) dX3_fee_79 rfl ?_
      refine r_aload_n (q := 81) dX3_fee_80 rfl 0 rfl ?_
      refine r_getR (q := 84) L_X3_80 dX3_fee_81 rfl (mw_k hm) (mwr_proved hm) ?_
      refine r_iload (q := 86) dX3_fee_84 rfl 5 rfl ?_
      obtain ⟨g107, hw⟩ := hw
      refine r_ialdL (q := 87) dX3_fee_86 rfl (mwk_proved hm) (mwl_proved hm) g107 ?_
      refine r_iload_n (q := 88) dX3_fee_87 rfl 2 rfl ?_
      refine r_ishr (q := 89) dX3_fee_88 rfl ?_
      refine r_iconst (q := 90) dX3_fee_89 rfl kI_1 ?_
      refine r_iand (q := 91) dX3_fee_90 rfl ?_
      refine r_iconst (q := 92) dX3_fee_91 rfl kI_1 ?_
      refine r_icmp_ne (tg := 113) (q := 95) dX3_fee_92 (by decide) rfl (fun c => ?_) (fun c => ?_)
      · have hw := hw.1 c
        refine r_iconst (q := 114) dX3_fee_113 rfl kI_0 ?_
        refine r_isub (q := 115) dX3_fee_114 rfl ?_
        refine r_iadd (q := 116) dX3_fee_115 rfl ?_
        have hw := hw _ rfl
        refine r_istore (q := 118) (lv' := [(0, _), (1, _), (2, _), (3, _), (4, _), (5, _)]) dX3_fee_116 rfl (Nat.le_of_ble_eq_true rfl) rfl ?_
        have hw := hw _ rfl
        refine r_iincW (q := 121) (lv' := [(0, _), (1, _), (2, _), (3, _), (4, _), (5, _)]) dX3_fee_118 rfl 5 rfl kI_1 (Nat.le_of_ble_eq_true rfl) rfl ?_
        refine r_goto (tg := 40) dX3_fee_121 (by decide) ?_
        exact hw
      · have hw := hw.2 c
        refine r_aload_n (q := 96) dX3_fee_95 rfl 0 rfl ?_
        refine r_iload_n (q := 97) dX3_fee_96 rfl 3 rfl ?_
        refine r_bipush (q := 99) dX3_fee_97 rfl kB_8 ?_
        obtain ⟨g110, hw⟩ := hw
        refine r_cVI0 (q := 102) _ [_, _] N_X3_332 rfl dX3_fee_99 rfl rfl rfl (mw_k hm) rfl ?_
        refine cs_X3_lawOn hm g110 ?_
        refine r_aload_n (q := 103) dX3_fee_102 rfl 0 rfl ?_
        refine r_getR (q := 106) L_X3_74 dX3_fee_103 rfl (mw_k hm) (mwr_barrel hm) ?_
        refine r_iload (q := 108) dX3_fee_106 rfl 5 rfl ?_
        obtain ⟨g111, hw⟩ := hw
        refine r_ialdL (q := 109) dX3_fee_108 rfl (mwk_barrel hm) (mwl_barrel hm) g111 ?_
        refine r_imul (q := 110) dX3_fee_109 rfl ?_
        refine r_goto (tg := 114) dX3_fee_110 (by decide) ?_
        refine r_isub (q := 115) dX3_fee_114 rfl ?_
        refine r_iadd (q := 116) dX3_fee_115 rfl ?_
        have hw := hw _ rfl
        refine r_istore (q := 118) (lv' := [(0, _), (1, _), (2, _), (3, _), (4, _), (5, _)]) dX3_fee_116 rfl (Nat.le_of_ble_eq_true rfl) rfl ?_
        have hw := hw _ rfl
        refine r_iincW (q := 121) (lv' := [(0, _), (1, _), (2, _), (3, _), (4, _), (5, _)]) dX3_fee_118 rfl 5 rfl kI_1 (Nat.le_of_ble_eq_true rfl) rfl ?_
        refine r_goto (tg := 40) dX3_fee_121 (by decide) ?_
        exact hw
    · have hw := hw.2 c
      refine r_goto (tg := 118) dX3_fee_60 (by decide) ?_
      have hw := hw _ rfl
      refine r_iincW (q := 121) (lv' := [(0, _), (1, _), (2, _), (3, _), (4, _), (5, _)]) dX3_fee_118 rfl 5 rfl kI_1 (Nat.le_of_ble_eq_true rfl) rfl ?_
      refine r_goto (tg := 40) dX3_fee_121 (by decide) ?_
      exact hw
theorem b_X3_fee_154 {x4 : Int32} {mo : Nat} {h : Hp} {k n : Nat} {Q : Int32 → Hp → Prop} {E : Nat → Hp → Prop} (hm : MW h mo) (hw : Q (imax 0 x4) h) : Rn M_X3_fee 154 [(0, rV mo), (4, iV x4)] [] h k n (qI Q) E := by
  refine r_iconst (q := 155) dX3_fee_154 rfl kI_0 ?_
  refine r_iload (q := 157) dX3_fee_155 rfl 1 rfl ?_
  refine r_mmax (q := 160) q1677 dX3_fee_157 rfl rfl ?_
  exact r_iret dX3_fee_160 rfl hw
theorem b_X0_worst_0 {x1 : Int32} {xo : Nat} {h : Hp} {k n : Nat} {Q : Int32 → Hp → Prop} {E : Nat → Hp → Prop} (hm : XW h xo) (hw : Rn M_X0_worst 10 [(0, rV xo), (1, iV x1), (2, iV (-1)), (3, iV 0), (4, iV 1), (5, iV 0)] [] h k n (qI Q) E) : Rn M_X0_worst 0 [(0, rV xo), (1, iV x1)] [] h k n (qI Q) E := by
  refine r_iconst (q := 1) dX0_worst_0 rfl kI_m1 ?_
  refine r_istore_n (q := 2) (lv' := [(0, _), (1, _), (2, _)]) dX0_worst_1 rfl (Nat.le_of_ble_eq_true rfl) rfl ?_
  refine r_iconst (q := 3) dX0_worst_2 rfl kI_0 ?_
  refine r_istore_n (q := 4) (lv' := [(0, _), (1, _), (2, _), (3, _)]) dX0_worst_3 rfl (Nat.le_of_ble_eq_true rfl) rfl ?_
  refine r_iconst (q := 5) dX0_worst_4 rfl kI_1 ?_
  refine r_istore (q := 7) (lv' := [(0, _), (1, _), (2, _), (3, _), (4, _)]) dX0_worst_5 rfl (Nat.le_of_ble_eq_true rfl) rfl ?_
  refine r_iconst (q := 8) dX0_worst_7 rfl kI_0 ?_
  refine r_istore (q := 10) (lv' := [(0, _), (1, _), (2, _), (3, _), (4, _), (5, _)]) dX0_worst_8 rfl (Nat.le_of_ble_eq_true rfl) rfl ?_
  exact hw
theorem b_X0_worst_10 {x1 x2 x3 x4 x5 : Int32} {xo : Nat} {h : Hp} {k n : Nat} {Q : Int32 → Hp → Prop} {E : Nat → Hp → Prop} (hm : XW h xo) (hw : (10 ≤ x5 → (0 ≤ x2 → (¬ x1 = 0 → (¬ x1 = 1 → (¬ x1 = 2 → Q (-1) h) ∧ (x1 = 2 → Q x4 h)) ∧ (x1 = 1 → Q x3 h)) ∧ (x1 = 0 → Q x2 h)) ∧ (¬ 0 ≤ x2 → Q (-1) h)) ∧ (¬ 10 ≤ x5 → Rn M_X0_worst 26 [(0, rV xo), (1, iV x1), (2, iV x2), (3, iV x3), (4, iV x4), (5, iV x5), (6, iV 0), (7, iV 0), (8, iV 0)] [] h k n (qI Q) E)) : Rn M_X0_worst 10 [(0, rV xo), (1, iV x1), (2, iV x2), (3, iV x3), (4, iV x4), (5, iV x5)] [] h k n (qI Q) E := by
  refine r_iload (q := 12) dX0_worst_10 rfl 5 rfl ?_
  refine r_bipush (q := 14) dX0_worst_12 rfl kB_10 ?_
  refine r_icmp_ge (tg := 141) (q := 17) dX0_worst_14 (by decide) rfl (fun c => ?_) (fun c => ?_)
  · have hw := hw.1 c
    refine r_iload_n (q := 142) dX0_worst_141 rfl 2 rfl ?_
    refine r_if_ge (tg := 149) (q := 145) dX0_worst_142 (by decide) rfl (fun c => ?_) (fun c => ?_)
    · have hw := hw.1 c
      refine r_iload_n (q := 150) dX0_worst_149 rfl 1 rfl ?_
      refine r_if_ne (tg := 157) (q := 153) dX0_worst_150 (by decide) rfl (fun c => ?_) (fun c => ?_)
      · have hw := hw.1 c
        refine r_iload_n (q := 158) dX0_worst_157 rfl 1 rfl ?_
        refine r_iconst (q := 159) dX0_worst_158 rfl kI_1 ?_
        refine r_icmp_ne (tg := 166) (q := 162) dX0_worst_159 (by decide) rfl (fun c => ?_) (fun c => ?_)
        · have hw := hw.1 c
          refine r_iload_n (q := 167) dX0_worst_166 rfl 1 rfl ?_
          refine r_iconst (q := 168) dX0_worst_167 rfl kI_2 ?_
          refine r_icmp_ne (tg := 176) (q := 171) dX0_worst_168 (by decide) rfl (fun c => ?_) (fun c => ?_)
          · have hw := hw.1 c
            refine r_iconst (q := 177) dX0_worst_176 rfl kI_m1 ?_
            exact r_iret dX0_worst_177 rfl hw
          · have hw := hw.2 c
            refine r_iload (q := 173) dX0_worst_171 rfl 4 rfl ?_
            refine r_goto (tg := 177) dX0_worst_173 (by decide) ?_
            exact r_iret dX0_worst_177 rfl hw
        · have hw := hw.2 c
          refine r_iload_n (q := 163) dX0_worst_162 rfl 3 rfl ?_
          refine r_goto (tg := 177) dX0_worst_163 (by decide) ?_
          exact r_iret dX0_worst_177 rfl hw
      · have hw := hw.2 c
        refine r_iload_n (q := 154) dX0_worst_153 rfl 2 rfl ?_
        refine r_goto (tg := 177) dX0_worst_154 (by decide) ?_
        exact r_iret dX0_worst_177 rfl hw
    · have hw := hw.2 c
      refine r_iconst (q := 146) dX0_worst_145 rfl kI_m1 ?_
      refine r_goto (tg := 177) dX0_worst_146 (by decide) ?_
      exact r_iret dX0_worst_177 rfl hw
  · have hw := hw.2 c
    refine r_iconst (q := 18) dX0_worst_17 rfl kI_0 ?_
    refine r_istore (q := 20) (lv' := [(0, _), (1, _), (2, _), (3, _), (4, _), (5, _), (6, _)]) dX0_worst_18 rfl (Nat.le_of_ble_eq_true rfl) rfl ?_
    refine r_iconst (q := 21) dX0_worst_20 rfl kI_0 ?_
    refine r_istore (q := 23) (lv' := [(0, _), (1, _), (2, _), (3, _), (4, _), (5, _), (6, _), (7, _)]) dX0_worst_21 rfl (Nat.le_of_ble_eq_true rfl) rfl ?_
    refine r_iconst (q := 24) dX0_worst_23 rfl kI_0 ?_
    refine r_istore (q := 26) (lv' := [(0, _), (1, _), (2, _), (3, _), (4, _), (5, _), (6, _), (7, _), (8, _)]) dX0_worst_24 rfl (Nat.le_of_ble_eq_true rfl) rfl ?_
    exact hw
theorem b_X0_worst_26 {x1 x2 x3 x4 x5 x6 x7 x8 : Int32} {xo : Nat} {h : Hp} {k n : Nat} {Q : Int32 → Hp → Prop} {E : Nat → Hp → Prop} (hm : XW h xo) (hw : ((gI h 1102 (xo + 2)) ≤ x8 → (x7 < 2 → ∀ x101 : Int32, x101 = x5 + 1 → Rn M_X0_worst 10 [(0, rV xo), (1, iV x1), (2, iV x2), (3, iV x3), (4, iV x4), (5, iV x101)] [] h k n (qI Q) E) ∧ (¬ x7 < 2 → (x2 < 0 → Rn M_X0_worst 125 [(0, rV xo), (1, iV x1), (5, iV x5), (6, iV x6), (7, iV x7)] [] h k n (qI Q) E) ∧ (¬ x2 < 0 → ((x3 * x7) < (x6 * x4) → Rn M_X0_worst 125 [(0, rV xo), (1, iV x1), (5, iV x5), (6, iV x6), (7, iV x7)] [] h k n (qI Q) E) ∧ (¬ (x3 * x7) < (x6 * x4) → ∀ x102 : Int32, x102 = x5 + 1 → Rn M_X0_worst 10 [(0, rV xo), (1, iV x1), (2, iV x2), (3, iV x3), (4, iV x4), (5, iV x102)] [] h k n (qI Q) E)))) ∧ (¬ (gI h 1102 (xo + 2)) ≤ x8 → (ALg h (xo + 2) x8) ∧ (kd h (el h (xo + 2) (ix x8)) = 2 ∧ (∀ r105 : Nat, r105 = gR h 109 (el h (xo + 2) (ix x8)) → (r105 = 0 → ∀ x106 : Int32, x106 = x8 + 1 → Rn M_X0_worst 26 [(0, rV xo), (1, iV x1), (2, iV x2), (3, iV x3), (4, iV x4), (5, iV x5), (6, iV x6), (7, iV x7), (8, iV x106)] [] h k n (qI Q) E) ∧ (¬ r105 = 0 → kd h r105 = 4 ∧ ((¬ (gI h 301 r105) = x5 → ∀ x108 : Int32, x108 = x8 + 1 → Rn M_X0_worst 26 [(0, rV xo), (1, iV x1), (2, iV x2), (3, iV x3), (4, iV x4), (5, iV x5), (6, iV x6), (7, iV x7), (8, iV x108)] [] h k n (qI Q) E) ∧ ((gI h 301 r105) = x5 → (0 ≤ (gI h 310 r105) → ∀ x109 : Int32, x109 = x6 + (gI h 310 r105) → ∀ x110 : Int32, x110 = x7 + 1 → ∀ x111 : Int32, x111 = x8 + 1 → Rn M_X0_worst 26 [(0, rV xo), (1, iV x1), (2, iV x2), (3, iV x3), (4, iV x4), (5, iV x5), (6, iV x109), (7, iV x110), (8, iV x111)] [] h k n (qI Q) E) ∧ (¬ 0 ≤ (gI h 310 r105) → ∀ x112 : Int32, x112 = x8 + 1 → Rn M_X0_worst 26 [(0, rV xo), (1, iV x1), (2, iV x2), (3, iV x3), (4, iV x4), (5, iV x5), (6, iV x6), (7, iV x7), (8, iV x112)] [] h k n (qI Q) E)))))))) : Rn M_X0_worst 26 [(0, rV xo), (1, iV x1), (2, iV x2), (3, iV x3), (4, iV x4), (5, iV x5), (6, iV x6), (7, iV x7), (8, iV x8)] [] h k n (qI Q) E := by
  refine r_iload (q := 28) dX0_worst_26 rfl 8 rfl ?_
  refine r_aload_n (q := 29) dX0_worst_28 rfl 0 rfl ?_
  refine r_getR (q := 32) L_X0_20 dX0_worst_29 rfl (xw_k hm) (xwr_corners hm) ?_
  refine r_cVI0 (q := 35) _ [] N_X0_77 rfl dX0_worst_32 rfl rfl rfl (xwk_corners hm) rfl ?_
  refine ct_J2_size (xwk_corners hm) ?_
  refine r_icmp_ge (tg := 100) (q := 38) dX0_worst_35 (by decide) rfl (fun c => ?_) (fun c => ?_)
  · have hw := hw.1 c
    refine r_iload (q := 102) dX0_worst_100 rfl 7 rfl ?_
    refine r_iconst (q := 103) dX0_worst_102 rfl kI_2 ?_
    refine r_icmp_lt (tg := 135) (q := 106) dX0_worst_103 (by decide) rfl (fun c => ?_) (fun c => ?_)
    · have hw := hw.1 c
      have hw := hw _ rfl
      refine r_iincW (q := 138) (lv' := [(0, _), (1, _), (2, _), (3, _), (4, _), (5, _), (6, _), (7, _), (8, _)]) dX0_worst_135 rfl 5 rfl kI_1 (Nat.le_of_ble_eq_true rfl) rfl ?_
      refine r_goto (tg := 10) dX0_worst_138 (by decide) ?_
      exact r_sub [0, 1, 2, 3, 4, 5] rfl hw
    · have hw := hw.2 c
      refine r_iload_n (q := 107) dX0_worst_106 rfl 2 rfl ?_
      refine r_if_lt (tg := 125) (q := 110) dX0_worst_107 (by decide) rfl (fun c => ?_) (fun c => ?_)
      · have hw := hw.1 c
        exact r_sub [0, 1, 5, 6, 7] rfl hw
      · have hw := hw.2 c
        refine r_iload (q := 112) dX0_worst_110 rfl 6 rfl ?_
        refine r_iload (q := 114) dX0_worst_112 rfl 4 rfl ?_
        refine r_imul (q := 115) dX0_worst_114 rfl ?_
        refine r_iload_n (q := 116) dX0_worst_115 rfl 3 rfl ?_
        refine r_iload (q := 118) dX0_worst_116 rfl 7 rfl ?_
        refine r_imul (q := 119) dX0_worst_118 rfl ?_
        refine r_icmp_gt (tg := 125) (q := 122) dX0_worst_119 (by decide) rfl (fun c => ?_) (fun c => ?_)
        · have hw := hw.1 c
          exact r_sub [0, 1, 5, 6, 7] rfl hw
        · have hw := hw.2 c
          refine r_goto (tg := 135) dX0_worst_122 (by decide) ?_
          have hw := hw _ rfl
          refine r_iincW (q := 138) (lv' := [(0, _), (1, _), (2, _), (3, _), (4, _), (5, _), (6, _), (7, _), (8, _)]) dX0_worst_135 rfl 5 rfl kI_1 (Nat.le_of_ble_eq_true rfl) rfl ?_
          refine r_goto (tg := 10) dX0_worst_138 (by decide) ?_
          exact r_sub [0, 1, 2, 3, 4, 5] rfl hw
  · have hw := hw.2 c
    refine r_aload_n (q := 39) dX0_worst_38 rfl 0 rfl ?_
    refine r_getR (q := 42) L_X0_20 dX0_worst_39 rfl (xw_k hm) (xwr_corners hm) ?_
    refine r_iload (q := 44) dX0_worst_42 rfl 8 rfl ?_
    obtain ⟨g103, hw⟩ := hw
    refine r_cVR0 (q := 47) _ [_] N_X0_81 rfl dX0_worst_44 rfl rfl rfl (xwk_corners hm) rfl ?_
    refine ct_J2_get (xwk_corners hm) g103 ?_
    obtain ⟨g104, hw⟩ := hw
    refine r_cast (q := 50) q374 rfl dX0_worst_47 rfl g104 ?_
    refine r_getR (q := 53) L_X0_91 dX0_worst_50 rfl g104 rfl ?_
    have hw := hw _ rfl
    refine r_astore (q := 55) (lv' := [(0, _), (1, _), (2, _), (3, _), (4, _), (5, _), (6, _), (7, _), (8, _), (9, _)]) dX0_worst_53 rfl (Nat.le_of_ble_eq_true rfl) rfl ?_
    refine r_aload (q := 57) dX0_worst_55 rfl 9 rfl ?_
    refine r_ifnull (tg := 94) (q := 60) dX0_worst_57 (by decide) rfl (fun c => ?_) (fun c => ?_)
    · have hw := hw.1 c
      have hw := hw _ rfl
      refine r_iincW (q := 97) (lv' := [(0, _), (1, _), (2, _), (3, _), (4, _), (5, _), (6, _), (7, _), (8, _), (9, _)]) dX0_worst_94 rfl 8 rfl kI_1 (Nat.le_of_ble_eq_true rfl) rfl ?_
      refine r_goto (tg := 26) dX0_worst_97 (by decide) ?_
      exact r_sub [0, 1, 2, 3, 4, 5, 6, 7, 8] rfl hw
    · have hw := hw.2 c
      refine r_aload (q := 62) dX0_worst_60 rfl 9 rfl ?_
      obtain ⟨g107, hw⟩ := hw
      refine r_getI (q := 65) L_X0_505 dX0_worst_62 rfl g107 ?_
      refine r_iload (q := 67) dX0_worst_65 rfl 5 rfl ?_
      refine r_icmp_ne (tg := 94) (q := 70) dX0_worst_67 (by decide) rfl (fun c => ?_) (fun c => ?_)
      · have hw := hw.1 c
        have hw := hw _ rfl
        refine r_iincW (q := 97) (lv' := [(0, _), (1, _), (2, _), (3, _), (4, _), (5, _), (6, _), (7, _), (8, _), (9, _)]) dX0_worst_94 rfl 8 rfl kI_1 (Nat.le_of_ble_eq_true rfl) rfl ?_
        refine r_goto (tg := 26) dX0_worst_97 (by decide) ?_
        exact r_sub [0, 1, 2, 3, 4, 5, 6, 7, 8] rfl hw
      · have hw := hw.2 c
        refine r_aload (q := 72) dX0_worst_70 rfl 9 rfl ?_
        refine r_getI (q := 75) L_X0_500 dX0_worst_72 rfl g107 ?_
        refine r_if_ge (tg := 81) (q := 78) dX0_worst_75 (by decide) rfl (fun c => ?_) (fun c => ?_)
        · have hw := hw.1 c
          refine r_iload (q := 83) dX0_worst_81 rfl 6 rfl ?_
          refine r_aload (q := 85) dX0_worst_83 rfl 9 rfl ?_
          refine r_getI (q := 88) L_X0_500 dX0_worst_85 rfl g107 ?_
          refine r_iadd (q := 89) dX0_worst_88 rfl ?_
          have hw := hw _ rfl
          refine r_istore (q := 91) (lv' := [(0, _), (1, _), (2, _), (3, _), (4, _), (5, _), (6, _), (7, _), (8, _), (9, _)]) dX0_worst_89 rfl (Nat.le_of_ble_eq_true rfl) rfl ?_
          have hw := hw _ rfl
          refine r_iincW (q := 94) (lv' := [(0, _), (1, _), (2, _), (3, _), (4, _), (5, _), (6, _), (7, _), (8, _), (9, _)]) dX0_worst_91 rfl 7 rfl kI_1 (Nat.le_of_ble_eq_true rfl) rfl ?_
          have hw := hw _ rfl
          refine r_iincW (q := 97) (lv' := [(0, _), (1, _), (2, _), (3, _), (4, _), (5, _), (6, _), (7, _), (8, _), (9, _)]) dX0_worst_94 rfl 8 rfl kI_1 (Nat.le_of_ble_eq_true rfl) rfl ?_
          refine r_goto (tg := 26) dX0_worst_97 (by decide) ?_
          exact r_sub [0, 1, 2, 3, 4, 5, 6, 7, 8] rfl hw
        · have hw := hw.2 c
          refine r_goto (tg := 94) dX0_worst_78 (by decide) ?_
          have hw := hw _ rfl
          refine r_iincW (q := 97) (lv' := [(0, _), (1, _), (2, _), (3, _), (4, _), (5, _), (6, _), (7, _), (8, _), (9, _)]) dX0_worst_94 rfl 8 rfl kI_1 (Nat.le_of_ble_eq_true rfl) rfl ?_
          refine r_goto (tg := 26) dX0_worst_97 (by decide) ?_
          exact r_sub [0, 1, 2, 3, 4, 5, 6, 7, 8] rfl hw
theorem b_X0_worst_125 {x1 x5 x6 x7 : Int32} {xo : Nat} {h : Hp} {k n : Nat} {Q : Int32 → Hp → Prop} {E : Nat → Hp → Prop} (hm : XW h xo) (hw : ∀ x101 : Int32, x101 = x5 + 1 → Rn M_X0_worst 10 [(0, rV xo), (1, iV x1), (2, iV x5), (3, iV x6), (4, iV x7), (5, iV x101)] [] h k n (qI Q) E) : Rn M_X0_worst 125 [(0, rV xo), (1, iV x1), (5, iV x5), (6, iV x6), (7, iV x7)] [] h k n (qI Q) E := by
  refine r_iload (q := 127) dX0_worst_125 rfl 2 rfl ?_
  refine r_istore_n (q := 128) (lv' := [(0, _), (1, _), (2, _), (5, _), (6, _), (7, _)]) dX0_worst_127 rfl (Nat.le_of_ble_eq_true rfl) rfl ?_
  refine r_iload (q := 130) dX0_worst_128 rfl 4 rfl ?_
  refine r_istore_n (q := 131) (lv' := [(0, _), (1, _), (2, _), (3, _), (5, _), (6, _), (7, _)]) dX0_worst_130 rfl (Nat.le_of_ble_eq_true rfl) rfl ?_
  refine r_iload (q := 133) dX0_worst_131 rfl 6 rfl ?_
  refine r_istore (q := 135) (lv' := [(0, _), (1, _), (2, _), (3, _), (4, _), (5, _), (6, _), (7, _)]) dX0_worst_133 rfl (Nat.le_of_ble_eq_true rfl) rfl ?_
  have hw := hw _ rfl
  refine r_iincW (q := 138) (lv' := [(0, _), (1, _), (2, _), (3, _), (4, _), (5, _), (6, _), (7, _)]) dX0_worst_135 rfl 5 rfl kI_1 (Nat.le_of_ble_eq_true rfl) rfl ?_
  refine r_goto (tg := 10) dX0_worst_138 (by decide) ?_
  exact r_sub [0, 1, 2, 3, 4, 5] rfl hw
theorem b_X3_worst_0 {x1 : Int32} {mo : Nat} {h : Hp} {k n : Nat} {Q : Int32 → Hp → Prop} {E : Nat → Hp → Prop} (hm : MW h mo) (hw : Rn M_X3_worst 10 [(0, rV mo), (1, iV x1), (2, iV (-1)), (3, iV 0), (4, iV 0), (5, iV 0)] [] h k n (qI Q) E) : Rn M_X3_worst 0 [(0, rV mo), (1, iV x1)] [] h k n (qI Q) E := by
  refine r_iconst (q := 1) dX3_worst_0 rfl kI_m1 ?_
  refine r_istore_n (q := 2) (lv' := [(0, _), (1, _), (2, _)]) dX3_worst_1 rfl (Nat.le_of_ble_eq_true rfl) rfl ?_
  refine r_iconst (q := 3) dX3_worst_2 rfl kI_0 ?_
  refine r_istore_n (q := 4) (lv' := [(0, _), (1, _), (2, _), (3, _)]) dX3_worst_3 rfl (Nat.le_of_ble_eq_true rfl) rfl ?_
  refine r_iconst (q := 5) dX3_worst_4 rfl kI_0 ?_
  refine r_istore (q := 7) (lv' := [(0, _), (1, _), (2, _), (3, _), (4, _)]) dX3_worst_5 rfl (Nat.le_of_ble_eq_true rfl) rfl ?_
  refine r_iconst (q := 8) dX3_worst_7 rfl kI_0 ?_
  refine r_istore (q := 10) (lv' := [(0, _), (1, _), (2, _), (3, _), (4, _), (5, _)]) dX3_worst_8 rfl (Nat.le_of_ble_eq_true rfl) rfl ?_
  exact hw
theorem b_X3_worst_10 {x1 x2 x3 x4 x5 : Int32} {mo : Nat} {h : Hp} {k n : Nat} {Q : Int32 → Hp → Prop} {E : Nat → Hp → Prop} (hm : MW h mo) (hw : (10 ≤ x5 → (¬ x2 = (-1) → (¬ x1 = 0 → (¬ x1 = 1 → (¬ x1 = 2 → Q (-1) h) ∧ (x1 = 2 → Q x4 h)) ∧ (x1 = 1 → Q x3 h)) ∧ (x1 = 0 → Q x2 h)) ∧ (x2 = (-1) → Q (-1) h)) ∧ (¬ 10 ≤ x5 → Rn M_X3_worst 26 [(0, rV mo), (1, iV x1), (2, iV x2), (3, iV x3), (4, iV x4), (5, iV x5), (6, iV 0), (7, iV 0), (8, iV 0)] [] h k n (qI Q) E)) : Rn M_X3_worst 10 [(0, rV mo), (1, iV x1), (2, iV x2), (3, iV x3), (4, iV x4), (5, iV x5)] [] h k n (qI Q) E := by
  refine r_iload (q := 12) dX3_worst_10 rfl 5 rfl ?_
  refine r_bipush (q := 14) dX3_worst_12 rfl kB_10 ?_
  refine r_icmp_ge (tg := 134) (q := 17) dX3_worst_14 (by decide) rfl (fun c => ?_) (fun c => ?_)
  · have hw := hw.1 c
    refine r_iload_n (q := 135) dX3_worst_134 rfl 2 rfl ?_
    refine r_iconst (q := 136) dX3_worst_135 rfl kI_m1 ?_
    refine r_icmp_ne (tg := 143) (q := 139) dX3_worst_136 (by decide) rfl (fun c => ?_) (fun c => ?_)
    · have hw := hw.1 c
      refine r_iload_n (q := 144) dX3_worst_143 rfl 1 rfl ?_
      refine r_if_ne (tg := 151) (q := 147) dX3_worst_144 (by decide) rfl (fun c => ?_) (fun c => ?_)
      · have hw := hw.1 c
        refine r_iload_n (q := 152) dX3_worst_151 rfl 1 rfl ?_
        refine r_iconst (q := 153) dX3_worst_152 rfl kI_1 ?_
        refine r_icmp_ne (tg := 160) (q := 156) dX3_worst_153 (by decide) rfl (fun c => ?_) (fun c => ?_)
        · have hw := hw.1 c
          refine r_iload_n (q := 161) dX3_worst_160 rfl 1 rfl ?_
          refine r_iconst (q := 162) dX3_worst_161 rfl kI_2 ?_
          refine r_icmp_ne (tg := 170) (q := 165) dX3_worst_162 (by decide) rfl (fun c => ?_) (fun c => ?_)
          · have hw := hw.1 c
            refine r_iconst (q := 171) dX3_worst_170 rfl kI_m1 ?_
            exact r_iret dX3_worst_171 rfl hw
          · have hw := hw.2 c
            refine r_iload (q := 167) dX3_worst_165 rfl 4 rfl ?_
            refine r_goto (tg := 171) dX3_worst_167 (by decide) ?_
            exact r_iret dX3_worst_171 rfl hw
        · have hw := hw.2 c
          refine r_iload_n (q := 157) dX3_worst_156 rfl 3 rfl ?_
          refine r_goto (tg := 171) dX3_worst_157 (by decide) ?_
          exact r_iret dX3_worst_171 rfl hw
      · have hw := hw.2 c
        refine r_iload_n (q := 148) dX3_worst_147 rfl 2 rfl ?_
        refine r_goto (tg := 171) dX3_worst_148 (by decide) ?_
        exact r_iret dX3_worst_171 rfl hw
    · have hw := hw.2 c
      refine r_iconst (q := 140) dX3_worst_139 rfl kI_m1 ?_
      refine r_goto (tg := 171) dX3_worst_140 (by decide) ?_
      exact r_iret dX3_worst_171 rfl hw
  · have hw := hw.2 c
    refine r_iconst (q := 18) dX3_worst_17 rfl kI_0 ?_
    refine r_istore (q := 20) (lv' := [(0, _), (1, _), (2, _), (3, _), (4, _), (5, _), (6, _)]) dX3_worst_18 rfl (Nat.le_of_ble_eq_true rfl) rfl ?_
    refine r_iconst (q := 21) dX3_worst_20 rfl kI_0 ?_
    refine r_istore (q := 23) (lv' := [(0, _), (1, _), (2, _), (3, _), (4, _), (5, _), (6, _), (7, _)]) dX3_worst_21 rfl (Nat.le_of_ble_eq_true rfl) rfl ?_
    refine r_iconst (q := 24) dX3_worst_23 rfl kI_0 ?_
    refine r_istore (q := 26) (lv' := [(0, _), (1, _), (2, _), (3, _), (4, _), (5, _), (6, _), (7, _), (8, _)]) dX3_worst_24 rfl (Nat.le_of_ble_eq_true rfl) rfl ?_
    exact hw
theorem b_X3_worst_26 {x1 x2 x3 x4 x5 x6 x7 x8 : Int32} {mo : Nat} {h : Hp} {k n : Nat} {Q : Int32 → Hp → Prop} {E : Nat → Hp → Prop} (hm : MW h mo) (hw : ((gI h 1001 mo) ≤ x8 → (x7 < 2 → ∀ x101 : Int32, x101 = x5 + 1 → Rn M_X3_worst 10 [(0, rV mo), (1, iV x1), (2, iV x2), (3, iV x3), (4, iV x4), (5, iV x101)] [] h k n (qI Q) E) ∧ (¬ x7 < 2 → (x2 = (-1) → Rn M_X3_worst 118 [(0, rV mo), (1, iV x1), (5, iV x5), (6, iV x6), (7, iV x7)] [] h k n (qI Q) E) ∧ (¬ x2 = (-1) → ((x3 * x7) < (x6 * x4) → Rn M_X3_worst 118 [(0, rV mo), (1, iV x1), (5, iV x5), (6, iV x6), (7, iV x7)] [] h k n (qI Q) E) ∧ (¬ (x3 * x7) < (x6 * x4) → ∀ x102 : Int32, x102 = x5 + 1 → Rn M_X3_worst 10 [(0, rV mo), (1, iV x1), (2, iV x2), (3, iV x3), (4, iV x4), (5, iV x102)] [] h k n (qI Q) E)))) ∧ (¬ (gI h 1001 mo) ≤ x8 → vp_in x8 12 ∧ (((eI h (mo + 6) (ix x8)) = 0 → ∀ x104 : Int32, x104 = x8 + 1 → Rn M_X3_worst 26 [(0, rV mo), (1, iV x1), (2, iV x2), (3, iV x3), (4, iV x4), (5, iV x5), (6, iV x6), (7, iV x7), (8, iV x104)] [] h k n (qI Q) E) ∧ (¬ (eI h (mo + 6) (ix x8)) = 0 → vp_in x8 12 ∧ ((¬ (eI h (mo + 9) (ix x8)) = x5 → ∀ x106 : Int32, x106 = x8 + 1 → Rn M_X3_worst 26 [(0, rV mo), (1, iV x1), (2, iV x2), (3, iV x3), (4, iV x4), (5, iV x5), (6, iV x6), (7, iV x7), (8, iV x106)] [] h k n (qI Q) E) ∧ ((eI h (mo + 9) (ix x8)) = x5 → vp_in x8 12 ∧ ((¬ (eI h (mo + 17) (ix x8)) = (-1) → vp_in x8 12 ∧ (∀ x109 : Int32, x109 = x6 + (eI h (mo + 17) (ix x8)) → ∀ x110 : Int32, x110 = x7 + 1 → ∀ x111 : Int32, x111 = x8 + 1 → Rn M_X3_worst 26 [(0, rV mo), (1, iV x1), (2, iV x2), (3, iV x3), (4, iV x4), (5, iV x5), (6, iV x109), (7, iV x110), (8, iV x111)] [] h k n (qI Q) E)) ∧ ((eI h (mo + 17) (ix x8)) = (-1) → ∀ x112 : Int32, x112 = x8 + 1 → Rn M_X3_worst 26 [(0, rV mo), (1, iV x1), (2, iV x2), (3, iV x3), (4, iV x4), (5, iV x5), (6, iV x6), (7, iV x7), (8, iV x112)] [] h k n (qI Q) E)))))))) : Rn M_X3_worst 26 [(0, rV mo), (1, iV x1), (2, iV x2), (3, iV x3), (4, iV x4), (5, iV x5), (6, iV x6), (7, iV x7), (8, iV x8)] [] h k n (qI Q) E := by
  refine r_iload (q := 28) dX3_worst_26 rfl 8 rfl ?_
  refine r_aload_n (q := 29) dX3_worst_28 rfl 0 rfl ?_
  refine r_getI (q := 32) L_X3_191 dX3_worst_29 rfl (mw_k hm) ?_
  refine r_icmp_ge (tg := 92) (q := 35) dX3_worst_32 (by decide) rfl (fun c => ?_) (fun c => ?_)
  · have hw := hw.1 c
    refine r_iload (q := 94) dX3_worst_92 rfl 7 rfl ?_
    refine r_iconst (q := 95) dX3_worst_94 rfl kI_2 ?_
    refine r_icmp_lt (tg := 128) (q := 98) dX3_worst_95 (by decide) rfl (fun c => ?_) (fun c => ?_)
    · have hw := hw.1 c
      have hw := hw _ rfl
      refine r_iincW (q := 131) (lv' := [(0, _), (1, _), (2, _), (3, _), (4, _), (5, _), (6, _), (7, _), (8, _)]) dX3_worst_128 rfl 5 rfl kI_1 (Nat.le_of_ble_eq_true rfl) rfl ?_
      refine r_goto (tg := 10) dX3_worst_131 (by decide) ?_
      exact r_sub [0, 1, 2, 3, 4, 5] rfl hw
    · have hw := hw.2 c
      refine r_iload_n (q := 99) dX3_worst_98 rfl 2 rfl ?_
      refine r_iconst (q := 100) dX3_worst_99 rfl kI_m1 ?_
      refine r_icmp_eq (tg := 118) (q := 103) dX3_worst_100 (by decide) rfl (fun c => ?_) (fun c => ?_)
      · have hw := hw.1 c
        exact r_sub [0, 1, 5, 6, 7] rfl hw
      · have hw := hw.2 c
        refine r_iload (q := 105) dX3_worst_103 rfl 6 rfl ?_
        refine r_iload (q := 107) dX3_worst_105 rfl 4 rfl ?_
        refine r_imul (q := 108) dX3_worst_107 rfl ?_
        refine r_iload_n (q := 109) dX3_worst_108 rfl 3 rfl ?_
        refine r_iload (q := 111) dX3_worst_109 rfl 7 rfl ?_
        refine r_imul (q := 112) dX3_worst_111 rfl ?_
        refine r_icmp_gt (tg := 118) (q := 115) dX3_worst_112 (by decide) rfl (fun c => ?_) (fun c => ?_)
        · have hw := hw.1 c
          exact r_sub [0, 1, 5, 6, 7] rfl hw
        · have hw := hw.2 c
          refine r_goto (tg := 128) dX3_worst_115 (by decide) ?_
          have hw := hw _ rfl
          refine r_iincW (q := 131) (lv' := [(0, _), (1, _), (2, _), (3, _), (4, _), (5, _), (6, _), (7, _), (8, _)]) dX3_worst_128 rfl 5 rfl kI_1 (Nat.le_of_ble_eq_true rfl) rfl ?_
          refine r_goto (tg := 10) dX3_worst_131 (by decide) ?_
          exact r_sub [0, 1, 2, 3, 4, 5] rfl hw
  · have hw := hw.2 c
    refine r_aload_n (q := 36) dX3_worst_35 rfl 0 rfl ?_
    refine r_getR (q := 39) L_X3_25 dX3_worst_36 rfl (mw_k hm) (mwr_hasBed hm) ?_
    refine r_iload (q := 41) dX3_worst_39 rfl 8 rfl ?_
    obtain ⟨g103, hw⟩ := hw
    refine r_zaldL (q := 42) dX3_worst_41 rfl (mwk_hasBed hm) (mwl_hasBed hm) g103 ?_
    refine r_if_eq (tg := 86) (q := 45) dX3_worst_42 (by decide) rfl (fun c => ?_) (fun c => ?_)
    · have hw := hw.1 c
      have hw := hw _ rfl
      refine r_iincW (q := 89) (lv' := [(0, _), (1, _), (2, _), (3, _), (4, _), (5, _), (6, _), (7, _), (8, _)]) dX3_worst_86 rfl 8 rfl kI_1 (Nat.le_of_ble_eq_true rfl) rfl ?_
      refine r_goto (tg := 26) dX3_worst_89 (by decide) ?_
      exact hw
    · have hw := hw.2 c
      refine r_aload_n (q := 46) dX3_worst_45 rfl 0 rfl ?_
      refine r_getR (q := 49) L_X3_35 dX3_worst_46 rfl (mw_k hm) (mwr_lot hm) ?_
      refine r_iload (q := 51) dX3_worst_49 rfl 8 rfl ?_
      obtain ⟨g105, hw⟩ := hw
      refine r_ialdL (q := 52) dX3_worst_51 rfl (mwk_lot hm) (mwl_lot hm) g105 ?_
      refine r_iload (q := 54) dX3_worst_52 rfl 5 rfl ?_
      refine r_icmp_ne (tg := 86) (q := 57) dX3_worst_54 (by decide) rfl (fun c => ?_) (fun c => ?_)
      · have hw := hw.1 c
        have hw := hw _ rfl
        refine r_iincW (q := 89) (lv' := [(0, _), (1, _), (2, _), (3, _), (4, _), (5, _), (6, _), (7, _), (8, _)]) dX3_worst_86 rfl 8 rfl kI_1 (Nat.le_of_ble_eq_true rfl) rfl ?_
        refine r_goto (tg := 26) dX3_worst_89 (by decide) ?_
        exact hw
      · have hw := hw.2 c
        refine r_aload_n (q := 58) dX3_worst_57 rfl 0 rfl ?_
        refine r_getR (q := 61) L_X3_59 dX3_worst_58 rfl (mw_k hm) (mwr_looked hm) ?_
        refine r_iload (q := 63) dX3_worst_61 rfl 8 rfl ?_
        obtain ⟨g107, hw⟩ := hw
        refine r_ialdL (q := 64) dX3_worst_63 rfl (mwk_looked hm) (mwl_looked hm) g107 ?_
        refine r_iconst (q := 65) dX3_worst_64 rfl kI_m1 ?_
        refine r_icmp_ne (tg := 71) (q := 68) dX3_worst_65 (by decide) rfl (fun c => ?_) (fun c => ?_)
        · have hw := hw.1 c
          refine r_iload (q := 73) dX3_worst_71 rfl 6 rfl ?_
          refine r_aload_n (q := 74) dX3_worst_73 rfl 0 rfl ?_
          refine r_getR (q := 77) L_X3_59 dX3_worst_74 rfl (mw_k hm) (mwr_looked hm) ?_
          refine r_iload (q := 79) dX3_worst_77 rfl 8 rfl ?_
          obtain ⟨g108, hw⟩ := hw
          refine r_ialdL (q := 80) dX3_worst_79 rfl (mwk_looked hm) (mwl_looked hm) g108 ?_
          refine r_iadd (q := 81) dX3_worst_80 rfl ?_
          have hw := hw _ rfl
          refine r_istore (q := 83) (lv' := [(0, _), (1, _), (2, _), (3, _), (4, _), (5, _), (6, _), (7, _), (8, _)]) dX3_worst_81 rfl (Nat.le_of_ble_eq_true rfl) rfl ?_
          have hw := hw _ rfl
          refine r_iincW (q := 86) (lv' := [(0, _), (1, _), (2, _), (3, _), (4, _), (5, _), (6, _), (7, _), (8, _)]) dX3_worst_83 rfl 7 rfl kI_1 (Nat.le_of_ble_eq_true rfl) rfl ?_
          have hw := hw _ rfl
          refine r_iincW (q := 89) (lv' := [(0, _), (1, _), (2, _), (3, _), (4, _), (5, _), (6, _), (7, _), (8, _)]) dX3_worst_86 rfl 8 rfl kI_1 (Nat.le_of_ble_eq_true rfl) rfl ?_
          refine r_goto (tg := 26) dX3_worst_89 (by decide) ?_
          exact hw
        · have hw := hw.2 c
          refine r_goto (tg := 86) dX3_worst_68 (by decide) ?_
          have hw := hw _ rfl
          refine r_iincW (q := 89) (lv' := [(0, _), (1, _), (2, _), (3, _), (4, _), (5, _), (6, _), (7, _), (8, _)]) dX3_worst_86 rfl 8 rfl kI_1 (Nat.le_of_ble_eq_true rfl) rfl ?_
          refine r_goto (tg := 26) dX3_worst_89 (by decide) ?_
          exact hw
theorem b_X3_worst_118 {x1 x5 x6 x7 : Int32} {mo : Nat} {h : Hp} {k n : Nat} {Q : Int32 → Hp → Prop} {E : Nat → Hp → Prop} (hm : MW h mo) (hw : ∀ x101 : Int32, x101 = x5 + 1 → Rn M_X3_worst 10 [(0, rV mo), (1, iV x1), (2, iV x5), (3, iV x6), (4, iV x7), (5, iV x101)] [] h k n (qI Q) E) : Rn M_X3_worst 118 [(0, rV mo), (1, iV x1), (5, iV x5), (6, iV x6), (7, iV x7)] [] h k n (qI Q) E := by
  refine r_iload (q := 120) dX3_worst_118 rfl 2 rfl ?_
  refine r_istore_n (q := 121) (lv' := [(0, _), (1, _), (2, _), (5, _), (6, _), (7, _)]) dX3_worst_120 rfl (Nat.le_of_ble_eq_true rfl) rfl ?_
  refine r_iload (q := 123) dX3_worst_121 rfl 4 rfl ?_
  refine r_istore_n (q := 124) (lv' := [(0, _), (1, _), (2, _), (3, _), (5, _), (6, _), (7, _)]) dX3_worst_123 rfl (Nat.le_of_ble_eq_true rfl) rfl ?_
  refine r_iload (q := 126) dX3_worst_124 rfl 6 rfl ?_
  refine r_istore (q := 128) (lv' := [(0, _), (1, _), (2, _), (3, _), (4, _), (5, _), (6, _), (7, _)]) dX3_worst_126 rfl (Nat.le_of_ble_eq_true rfl) rfl ?_
  have hw := hw _ rfl
  refine r_iincW (q := 131) (lv' := [(0, _), (1, _), (2, _), (3, _), (4, _), (5, _), (6, _), (7, _)]) dX3_worst_128 rfl 5 rfl kI_1 (Nat.le_of_ble_eq_true rfl) rfl ?_
  refine r_goto (tg := 10) dX3_worst_131 (by decide) ?_
  exact r_sub [0, 1, 2, 3, 4, 5] rfl hw
theorem b_X0_like_0 {x2 x3 : Int32} {xo r1 : Nat} {h : Hp} {k n : Nat} {Q : Nat → Hp → Prop} {E : Nat → Hp → Prop} (hm : XW h xo) (hw : Rn M_X0_like 6 [(0, rV xo), (1, rV r1), (2, iV x2), (3, iV x3), (4, rV 0), (5, iV 0)] [] h k n (qR Q) E) : Rn M_X0_like 0 [(0, rV xo), (1, rV r1), (2, iV x2), (3, iV x3)] [] h k n (qR Q) E := by
  refine r_null (q := 1) dX0_like_0 rfl ?_
  refine r_astore (q := 3) (lv' := [(0, _), (1, _), (2, _), (3, _), (4, _)]) dX0_like_1 rfl (Nat.le_of_ble_eq_true rfl) rfl ?_
  refine r_iconst (q := 4) dX0_like_3 rfl kI_0 ?_
  refine r_istore (q := 6) (lv' := [(0, _), (1, _), (2, _), (3, _), (4, _), (5, _)]) dX0_like_4 rfl (Nat.le_of_ble_eq_true rfl) rfl ?_
  exact hw
theorem b_X0_like_6 {x2 x3 x5 : Int32} {xo r1 r4 : Nat} {h : Hp} {k n : Nat} {Q : Nat → Hp → Prop} {E : Nat → Hp → Prop} (hm : XW h xo) (hw : ((gI h 1102 (xo + 21)) ≤ x5 → Q r4 h) ∧ (¬ (gI h 1102 (xo + 21)) ≤ x5 → (ALg h (xo + 21) x5) ∧ (kd h (el h (xo + 21) (ix x5)) = 8 ∧ (∀ r103 : Nat, r103 = el h (xo + 21) (ix x5) → (P_X8_rained h r103) ∧ (kd h r1 = 8 ∧ ((P_X8_rained h r1) ∧ (∀ y107 : Int64, y107 = labs ((V_X8_rained h r103) - (V_X8_rained h r1)) → (P_X8_day h r103) ∧ ((x2 ≤ (V_X8_day h r103) → ∀ x109 : Int32, x109 = x5 + 1 → Rn M_X0_like 6 [(0, rV xo), (1, rV r1), (2, iV x2), (3, iV x3), (4, rV r4), (5, iV x109)] [] h k n (qR Q) E) ∧ (¬ x2 ≤ (V_X8_day h r103) → (P_X8_rained h r1) ∧ (((lg_cmp (y107 * 100) ((Int32.toInt64 x3) * (V_X8_rained h r1))) ≤ 0 → (r4 = 0 → ∀ x111 : Int32, x111 = x5 + 1 → Rn M_X0_like 6 [(0, rV xo), (1, rV r1), (2, iV x2), (3, iV x3), (4, rV r103), (5, iV x111)] [] h k n (qR Q) E) ∧ (¬ r4 = 0 → kd h r4 = 8 ∧ ((P_X8_rained h r4) ∧ ((P_X8_rained h r1) ∧ ((0 < (lg_cmp y107 (labs ((V_X8_rained h r4) - (V_X8_rained h r1)))) → ∀ x115 : Int32, x115 = x5 + 1 → Rn M_X0_like 6 [(0, rV xo), (1, rV r1), (2, iV x2), (3, iV x3), (4, rV r4), (5, iV x115)] [] h k n (qR Q) E) ∧ (¬ 0 < (lg_cmp y107 (labs ((V_X8_rained h r4) - (V_X8_rained h r1)))) → ∀ x116 : Int32, x116 = x5 + 1 → Rn M_X0_like 6 [(0, rV xo), (1, rV r1), (2, iV x2), (3, iV x3), (4, rV r103), (5, iV x116)] [] h k n (qR Q) E)))))) ∧ (¬ (lg_cmp (y107 * 100) ((Int32.toInt64 x3) * (V_X8_rained h r1))) ≤ 0 → ∀ x117 : Int32, x117 = x5 + 1 → Rn M_X0_like 6 [(0, rV xo), (1, rV r1), (2, iV x2), (3, iV x3), (4, rV r4), (5, iV x117)] [] h k n (qR Q) E))))))))))) : Rn M_X0_like 6 [(0, rV xo), (1, rV r1), (2, iV x2), (3, iV x3), (4, rV r4), (5, iV x5)] [] h k n (qR Q) E := by
  refine r_iload (q := 8) dX0_like_6 rfl 5 rfl ?_
  refine r_aload_n (q := 9) dX0_like_8 rfl 0 rfl ?_
  refine r_getR (q := 12) L_X0_71 dX0_like_9 rfl (xw_k hm) (xwr_storms hm) ?_
  refine r_cVI0 (q := 15) _ [] N_X0_77 rfl dX0_like_12 rfl rfl rfl (xwk_storms hm) rfl ?_
  refine ct_J2_size (xwk_storms hm) ?_
  refine r_icmp_ge (tg := 110) (q := 18) dX0_like_15 (by decide) rfl (fun c => ?_) (fun c => ?_)
  · have hw := hw.1 c
    refine r_aload (q := 112) dX0_like_110 rfl 4 rfl ?_
    exact r_aret dX0_like_112 rfl (Or.inl ⟨_, rfl⟩) hw
  · have hw := hw.2 c
    refine r_aload_n (q := 19) dX0_like_18 rfl 0 rfl ?_
    refine r_getR (q := 22) L_X0_71 dX0_like_19 rfl (xw_k hm) (xwr_storms hm) ?_
    refine r_iload (q := 24) dX0_like_22 rfl 5 rfl ?_
    obtain ⟨g101, hw⟩ := hw
    refine r_cVR0 (q := 27) _ [_] N_X0_81 rfl dX0_like_24 rfl rfl rfl (xwk_storms hm) rfl ?_
    refine ct_J2_get (xwk_storms hm) g101 ?_
    obtain ⟨g102, hw⟩ := hw
    refine r_cast (q := 30) q1205 rfl dX0_like_27 rfl g102 ?_
    have hw := hw _ rfl
    refine r_astore (q := 32) (lv' := [(0, _), (1, _), (2, _), (3, _), (4, _), (5, _), (6, _)]) dX0_like_30 rfl (Nat.le_of_ble_eq_true rfl) rfl ?_
    refine r_aload (q := 34) dX0_like_32 rfl 6 rfl ?_
    obtain ⟨g104, hw⟩ := hw
    refine r_cVJ0 (q := 37) _ [] N_X0_442 rfl dX0_like_34 rfl rfl rfl g102 rfl ?_
    refine ct_X8_rained g104 ?_
    refine r_aload_n (q := 38) dX0_like_37 rfl 1 rfl ?_
    obtain ⟨g105, hw⟩ := hw
    obtain ⟨g106, hw⟩ := hw
    refine r_cVJ0 (q := 41) _ [] N_X0_442 rfl dX0_like_38 rfl rfl rfl g105 rfl ?_
    refine ct_X8_rained g106 ?_
    refine r_lsub (q := 42) dX0_like_41 rfl ?_
    refine r_labs (q := 45) q1287 dX0_like_42 rfl rfl ?_
    have hw := hw _ rfl
    refine r_lstore (q := 47) (lv' := [(0, _), (1, _), (2, _), (3, _), (4, _), (5, _), (6, _), (7, _)]) dX0_like_45 rfl (Nat.le_of_ble_eq_true rfl) rfl ?_
    refine r_aload (q := 49) dX0_like_47 rfl 6 rfl ?_
    obtain ⟨g108, hw⟩ := hw
    refine r_cVI0 (q := 52) _ [] N_X0_440 rfl dX0_like_49 rfl rfl rfl g102 rfl ?_
    refine ct_X8_day g108 ?_
    refine r_iload_n (q := 53) dX0_like_52 rfl 2 rfl ?_
    refine r_icmp_ge (tg := 104) (q := 56) dX0_like_53 (by decide) rfl (fun c => ?_) (fun c => ?_)
    · have hw := hw.1 c
      have hw := hw _ rfl
      refine r_iincW (q := 107) (lv' := [(0, _), (1, _), (2, _), (3, _), (4, _), (5, _), (6, _), (7, _)]) dX0_like_104 rfl 5 rfl kI_1 (Nat.le_of_ble_eq_true rfl) rfl ?_
      refine r_goto (tg := 6) dX0_like_107 (by decide) ?_
      exact r_sub [0, 1, 2, 3, 4, 5] rfl hw
    · have hw := hw.2 c
      refine r_lload (q := 58) dX0_like_56 rfl 7 rfl ?_
      refine r_ldc2 (q := 61) dX0_like_58 rfl q1290 ?_
      refine r_lmul (q := 62) dX0_like_61 rfl ?_
      refine r_iload_n (q := 63) dX0_like_62 rfl 3 rfl ?_
      refine r_i2l (q := 64) dX0_like_63 rfl ?_
      refine r_aload_n (q := 65) dX0_like_64 rfl 1 rfl ?_
      obtain ⟨g110, hw⟩ := hw
      refine r_cVJ0 (q := 68) _ [] N_X0_442 rfl dX0_like_65 rfl rfl rfl g105 rfl ?_
      refine ct_X8_rained g110 ?_
      refine r_lmul (q := 69) dX0_like_68 rfl ?_
      refine r_lcmp (q := 70) dX0_like_69 rfl ?_
      refine r_if_le (tg := 76) (q := 73) dX0_like_70 (by decide) rfl (fun c => ?_) (fun c => ?_)
      · have hw := hw.1 c
        refine r_aload (q := 78) dX0_like_76 rfl 4 rfl ?_
        refine r_ifnull (tg := 100) (q := 81) dX0_like_78 (by decide) rfl (fun c => ?_) (fun c => ?_)
        · have hw := hw.1 c
          refine r_aload (q := 102) dX0_like_100 rfl 6 rfl ?_
          refine r_astore (q := 104) (lv' := [(0, _), (1, _), (2, _), (3, _), (4, _), (5, _), (6, _), (7, _)]) dX0_like_102 rfl (Nat.le_of_ble_eq_true rfl) rfl ?_
          have hw := hw _ rfl
          refine r_iincW (q := 107) (lv' := [(0, _), (1, _), (2, _), (3, _), (4, _), (5, _), (6, _), (7, _)]) dX0_like_104 rfl 5 rfl kI_1 (Nat.le_of_ble_eq_true rfl) rfl ?_
          refine r_goto (tg := 6) dX0_like_107 (by decide) ?_
          exact r_sub [0, 1, 2, 3, 4, 5] rfl hw
        · have hw := hw.2 c
          refine r_lload (q := 83) dX0_like_81 rfl 7 rfl ?_
          refine r_aload (q := 85) dX0_like_83 rfl 4 rfl ?_
          obtain ⟨g112, hw⟩ := hw
          obtain ⟨g113, hw⟩ := hw
          refine r_cVJ0 (q := 88) _ [] N_X0_442 rfl dX0_like_85 rfl rfl rfl g112 rfl ?_
          refine ct_X8_rained g113 ?_
          refine r_aload_n (q := 89) dX0_like_88 rfl 1 rfl ?_
          obtain ⟨g114, hw⟩ := hw
          refine r_cVJ0 (q := 92) _ [] N_X0_442 rfl dX0_like_89 rfl rfl rfl g105 rfl ?_
          refine ct_X8_rained g114 ?_
          refine r_lsub (q := 93) dX0_like_92 rfl ?_
          refine r_labs (q := 96) q1287 dX0_like_93 rfl rfl ?_
          refine r_lcmp (q := 97) dX0_like_96 rfl ?_
          refine r_if_gt (tg := 104) (q := 100) dX0_like_97 (by decide) rfl (fun c => ?_) (fun c => ?_)
          · have hw := hw.1 c
            have hw := hw _ rfl
            refine r_iincW (q := 107) (lv' := [(0, _), (1, _), (2, _), (3, _), (4, _), (5, _), (6, _), (7, _)]) dX0_like_104 rfl 5 rfl kI_1 (Nat.le_of_ble_eq_true rfl) rfl ?_
            refine r_goto (tg := 6) dX0_like_107 (by decide) ?_
            exact r_sub [0, 1, 2, 3, 4, 5] rfl hw
          · have hw := hw.2 c
            refine r_aload (q := 102) dX0_like_100 rfl 6 rfl ?_
            refine r_astore (q := 104) (lv' := [(0, _), (1, _), (2, _), (3, _), (4, _), (5, _), (6, _), (7, _)]) dX0_like_102 rfl (Nat.le_of_ble_eq_true rfl) rfl ?_
            have hw := hw _ rfl
            refine r_iincW (q := 107) (lv' := [(0, _), (1, _), (2, _), (3, _), (4, _), (5, _), (6, _), (7, _)]) dX0_like_104 rfl 5 rfl kI_1 (Nat.le_of_ble_eq_true rfl) rfl ?_
            refine r_goto (tg := 6) dX0_like_107 (by decide) ?_
            exact r_sub [0, 1, 2, 3, 4, 5] rfl hw
      · have hw := hw.2 c
        refine r_goto (tg := 104) dX0_like_73 (by decide) ?_
        have hw := hw _ rfl
        refine r_iincW (q := 107) (lv' := [(0, _), (1, _), (2, _), (3, _), (4, _), (5, _), (6, _), (7, _)]) dX0_like_104 rfl 5 rfl kI_1 (Nat.le_of_ble_eq_true rfl) rfl ?_
        refine r_goto (tg := 6) dX0_like_107 (by decide) ?_
        exact r_sub [0, 1, 2, 3, 4, 5] rfl hw
theorem b_X3_like_0 {x1 x2 : Int32} {mo : Nat} {h : Hp} {k n : Nat} {Q : Int32 → Hp → Prop} {E : Nat → Hp → Prop} (hm : MW h mo) (hw : Rn M_X3_like 8 [(0, rV mo), (1, iV x1), (2, iV x2), (3, iV (-1)), (4, jV 0), (6, iV 0)] [] h k n (qI Q) E) : Rn M_X3_like 0 [(0, rV mo), (1, iV x1), (2, iV x2)] [] h k n (qI Q) E := by
  refine r_iconst (q := 1) dX3_like_0 rfl kI_m1 ?_
  refine r_istore_n (q := 2) (lv' := [(0, _), (1, _), (2, _), (3, _)]) dX3_like_1 rfl (Nat.le_of_ble_eq_true rfl) rfl ?_
  refine r_lconst (q := 3) dX3_like_2 rfl kL_0 ?_
  refine r_lstore (q := 5) (lv' := [(0, _), (1, _), (2, _), (3, _), (4, _)]) dX3_like_3 rfl (Nat.le_of_ble_eq_true rfl) rfl ?_
  refine r_iconst (q := 6) dX3_like_5 rfl kI_0 ?_
  refine r_istore (q := 8) (lv' := [(0, _), (1, _), (2, _), (3, _), (4, _), (6, _)]) dX3_like_6 rfl (Nat.le_of_ble_eq_true rfl) rfl ?_
  exact hw
theorem b_X3_like_8 {x1 x2 x3 x6 : Int32} {y4 : Int64} {mo : Nat} {h : Hp} {k n : Nat} {Q : Int32 → Hp → Prop} {E : Nat → Hp → Prop} (hm : MW h mo) (hw : ((gI h 1004 mo) ≤ x6 → Q x3 h) ∧ (¬ (gI h 1004 mo) ≤ x6 → vp_in x6 40 ∧ (vp_in x1 40 ∧ (∀ y103 : Int64, y103 = labs ((eJ h (mo + 36) (ix x6)) - (eJ h (mo + 36) (ix x1))) → vp_in x6 40 ∧ ((x2 ≤ (eI h (mo + 41) (ix x6)) → ∀ x105 : Int32, x105 = x6 + 1 → Rn M_X3_like 8 [(0, rV mo), (1, iV x1), (2, iV x2), (3, iV x3), (4, jV y4), (6, iV x105)] [] h k n (qI Q) E) ∧ (¬ x2 ≤ (eI h (mo + 41) (ix x6)) → (P_X3_now h mo 12) ∧ (vp_in x1 40 ∧ ((0 < (lg_cmp (y103 * 100) ((Int32.toInt64 (V_X3_now h mo 12)) * (eJ h (mo + 36) (ix x1)))) → ∀ x108 : Int32, x108 = x6 + 1 → Rn M_X3_like 8 [(0, rV mo), (1, iV x1), (2, iV x2), (3, iV x3), (4, jV y4), (6, iV x108)] [] h k n (qI Q) E) ∧ (¬ 0 < (lg_cmp (y103 * 100) ((Int32.toInt64 (V_X3_now h mo 12)) * (eJ h (mo + 36) (ix x1)))) → (x3 = (-1) → ∀ x109 : Int32, x109 = x6 + 1 → Rn M_X3_like 8 [(0, rV mo), (1, iV x1), (2, iV x2), (3, iV x6), (4, jV y103), (6, iV x109)] [] h k n (qI Q) E) ∧ (¬ x3 = (-1) → ((lg_cmp y103 y4) ≤ 0 → ∀ x110 : Int32, x110 = x6 + 1 → Rn M_X3_like 8 [(0, rV mo), (1, iV x1), (2, iV x2), (3, iV x6), (4, jV y103), (6, iV x110)] [] h k n (qI Q) E) ∧ (¬ (lg_cmp y103 y4) ≤ 0 → ∀ x111 : Int32, x111 = x6 + 1 → Rn M_X3_like 8 [(0, rV mo), (1, iV x1), (2, iV x2), (3, iV x3), (4, jV y4), (6, iV x111)] [] h k n (qI Q) E))))))))))) : Rn M_X3_like 8 [(0, rV mo), (1, iV x1), (2, iV x2), (3, iV x3), (4, jV y4), (6, iV x6)] [] h k n (qI Q) E := by
  refine r_iload (q := 10) dX3_like_8 rfl 5 rfl ?_
  refine r_aload_n (q := 11) dX3_like_10 rfl 0 rfl ?_
  refine r_getI (q := 14) L_X3_295 dX3_like_11 rfl (mw_k hm) ?_
  refine r_icmp_ge (tg := 100) (q := 17) dX3_like_14 (by decide) rfl (fun c => ?_) (fun c => ?_)
  · have hw := hw.1 c
    refine r_iload_n (q := 101) dX3_like_100 rfl 3 rfl ?_
    exact r_iret dX3_like_101 rfl hw
  · have hw := hw.2 c
    refine r_aload_n (q := 18) dX3_like_17 rfl 0 rfl ?_
    refine r_getR (q := 21) L_X3_117 dX3_like_18 rfl (mw_k hm) (mwr_stormRain hm) ?_
    refine r_iload (q := 23) dX3_like_21 rfl 5 rfl ?_
    obtain ⟨g101, hw⟩ := hw
    refine r_laldL (q := 24) dX3_like_23 rfl (mwk_stormRain hm) (mwl_stormRain hm) g101 ?_
    refine r_aload_n (q := 25) dX3_like_24 rfl 0 rfl ?_
    refine r_getR (q := 28) L_X3_117 dX3_like_25 rfl (mw_k hm) (mwr_stormRain hm) ?_
    refine r_iload_n (q := 29) dX3_like_28 rfl 1 rfl ?_
    obtain ⟨g102, hw⟩ := hw
    refine r_laldL (q := 30) dX3_like_29 rfl (mwk_stormRain hm) (mwl_stormRain hm) g102 ?_
    refine r_lsub (q := 31) dX3_like_30 rfl ?_
    refine r_labs (q := 34) q1793 dX3_like_31 rfl rfl ?_
    have hw := hw _ rfl
    refine r_lstore (q := 36) (lv' := [(0, _), (1, _), (2, _), (3, _), (4, _), (6, _), (7, _)]) dX3_like_34 rfl (Nat.le_of_ble_eq_true rfl) rfl ?_
    refine r_aload_n (q := 37) dX3_like_36 rfl 0 rfl ?_
    refine r_getR (q := 40) L_X3_132 dX3_like_37 rfl (mw_k hm) (mwr_stormDay hm) ?_
    refine r_iload (q := 42) dX3_like_40 rfl 5 rfl ?_
    obtain ⟨g104, hw⟩ := hw
    refine r_ialdL (q := 43) dX3_like_42 rfl (mwk_stormDay hm) (mwl_stormDay hm) g104 ?_
    refine r_iload_n (q := 44) dX3_like_43 rfl 2 rfl ?_
    refine r_icmp_ge (tg := 94) (q := 47) dX3_like_44 (by decide) rfl (fun c => ?_) (fun c => ?_)
    · have hw := hw.1 c
      have hw := hw _ rfl
      refine r_iincW (q := 97) (lv' := [(0, _), (1, _), (2, _), (3, _), (4, _), (6, _), (7, _)]) dX3_like_94 rfl 5 rfl kI_1 (Nat.le_of_ble_eq_true rfl) rfl ?_
      refine r_goto (tg := 8) dX3_like_97 (by decide) ?_
      exact r_sub [0, 1, 2, 3, 4, 5] rfl hw
    · have hw := hw.2 c
      refine r_lload (q := 49) dX3_like_47 rfl 6 rfl ?_
      refine r_ldc2 (q := 52) dX3_like_49 rfl q1794 ?_
      refine r_lmul (q := 53) dX3_like_52 rfl ?_
      refine r_aload_n (q := 54) dX3_like_53 rfl 0 rfl ?_
      refine r_bipush (q := 56) dX3_like_54 rfl kB_12 ?_
      obtain ⟨g106, hw⟩ := hw
      refine r_cVI0 (q := 59) _ [_] N_X3_209 rfl dX3_like_56 rfl rfl rfl (mw_k hm) rfl ?_
      refine ct_X3_now hm g106 ?_
      refine r_i2l (q := 60) dX3_like_59 rfl ?_
      refine r_aload_n (q := 61) dX3_like_60 rfl 0 rfl ?_
      refine r_getR (q := 64) L_X3_117 dX3_like_61 rfl (mw_k hm) (mwr_stormRain hm) ?_
      refine r_iload_n (q := 65) dX3_like_64 rfl 1 rfl ?_
      obtain ⟨g107, hw⟩ := hw
      refine r_laldL (q := 66) dX3_like_65 rfl (mwk_stormRain hm) (mwl_stormRain hm) g107 ?_
      refine r_lmul (q := 67) dX3_like_66 rfl ?_
      refine r_lcmp (q := 68) dX3_like_67 rfl ?_
      refine r_if_gt (tg := 94) (q := 71) dX3_like_68 (by decide) rfl (fun c => ?_) (fun c => ?_)
      · have hw := hw.1 c
        have hw := hw _ rfl
        refine r_iincW (q := 97) (lv' := [(0, _), (1, _), (2, _), (3, _), (4, _), (6, _), (7, _)]) dX3_like_94 rfl 5 rfl kI_1 (Nat.le_of_ble_eq_true rfl) rfl ?_
        refine r_goto (tg := 8) dX3_like_97 (by decide) ?_
        exact r_sub [0, 1, 2, 3, 4, 5] rfl hw
      · have hw := hw.2 c
        refine r_iload_n (q := 72) dX3_like_71 rfl 3 rfl ?_
        refine r_iconst (q := 73) dX3_like_72 rfl kI_m1 ?_
        refine r_icmp_eq (tg := 87) (q := 76) dX3_like_73 (by decide) rfl (fun c => ?_) (fun c => ?_)
        · have hw := hw.1 c
          refine r_iload (q := 89) dX3_like_87 rfl 5 rfl ?_
          refine r_istore_n (q := 90) (lv' := [(0, _), (1, _), (2, _), (3, _), (4, _), (6, _), (7, _)]) dX3_like_89 rfl (Nat.le_of_ble_eq_true rfl) rfl ?_
          refine r_lload (q := 92) dX3_like_90 rfl 6 rfl ?_
          refine r_lstore (q := 94) (lv' := [(0, _), (1, _), (2, _), (3, _), (4, _), (6, _), (7, _)]) dX3_like_92 rfl (Nat.le_of_ble_eq_true rfl) rfl ?_
          have hw := hw _ rfl
          refine r_iincW (q := 97) (lv' := [(0, _), (1, _), (2, _), (3, _), (4, _), (6, _), (7, _)]) dX3_like_94 rfl 5 rfl kI_1 (Nat.le_of_ble_eq_true rfl) rfl ?_
          refine r_goto (tg := 8) dX3_like_97 (by decide) ?_
          exact r_sub [0, 1, 2, 3, 4, 5] rfl hw
        · have hw := hw.2 c
          refine r_lload (q := 78) dX3_like_76 rfl 6 rfl ?_
          refine r_lload (q := 80) dX3_like_78 rfl 4 rfl ?_
          refine r_lcmp (q := 81) dX3_like_80 rfl ?_
          refine r_if_le (tg := 87) (q := 84) dX3_like_81 (by decide) rfl (fun c => ?_) (fun c => ?_)
          · have hw := hw.1 c
            refine r_iload (q := 89) dX3_like_87 rfl 5 rfl ?_
            refine r_istore_n (q := 90) (lv' := [(0, _), (1, _), (2, _), (3, _), (4, _), (6, _), (7, _)]) dX3_like_89 rfl (Nat.le_of_ble_eq_true rfl) rfl ?_
            refine r_lload (q := 92) dX3_like_90 rfl 6 rfl ?_
            refine r_lstore (q := 94) (lv' := [(0, _), (1, _), (2, _), (3, _), (4, _), (6, _), (7, _)]) dX3_like_92 rfl (Nat.le_of_ble_eq_true rfl) rfl ?_
            have hw := hw _ rfl
            refine r_iincW (q := 97) (lv' := [(0, _), (1, _), (2, _), (3, _), (4, _), (6, _), (7, _)]) dX3_like_94 rfl 5 rfl kI_1 (Nat.le_of_ble_eq_true rfl) rfl ?_
            refine r_goto (tg := 8) dX3_like_97 (by decide) ?_
            exact r_sub [0, 1, 2, 3, 4, 5] rfl hw
          · have hw := hw.2 c
            refine r_goto (tg := 94) dX3_like_84 (by decide) ?_
            have hw := hw _ rfl
            refine r_iincW (q := 97) (lv' := [(0, _), (1, _), (2, _), (3, _), (4, _), (6, _), (7, _)]) dX3_like_94 rfl 5 rfl kI_1 (Nat.le_of_ble_eq_true rfl) rfl ?_
            refine r_goto (tg := 8) dX3_like_97 (by decide) ?_
            exact r_sub [0, 1, 2, 3, 4, 5] rfl hw
theorem b_X0_compare_0 {x1 x2 : Int32} {xo : Nat} {h : Hp} {k n : Nat} {Q : Int64 → Hp → Prop} {E : Nat → Hp → Prop} (hm : XW h xo) (hw : ((isin x1 0 3649) = false → Q (-1) h) ∧ ((isin x1 0 3649) = true → ((isin x2 0 3) = true → (P_X0_on h xo (gI h 0 xo)) ∧ (kd h (V_X0_on h xo (gI h 0 xo)) = 5 ∧ (∀ x103 : Int32, x103 = gI h 414 (V_X0_on h xo (gI h 0 xo)) → Rn M_X0_compare 44 [(0, rV xo), (1, iV x1), (2, iV x2), (3, iV x103), (4, jV 0), (6, jV 0), (8, jV 0), (10, iV 0)] [] h k n (qJ Q) E))) ∧ ((isin x2 0 3) = false → Q (-1) h))) : Rn M_X0_compare 0 [(0, rV xo), (1, iV x1), (2, iV x2)] [] h k n (qJ Q) E := by
  refine r_iload_n (q := 1) dX0_compare_0 rfl 1 rfl ?_
  refine r_cSI0 (q := 4) [_] N_X0_326 dX0_compare_1 rfl rfl rfl rfl ?_
  refine ct_X0_isDay  ?_
  refine r_ifb_eq (tg := 16) (q := 7) dX0_compare_4 (by decide) rfl (fun c => ?_) (fun c => ?_)
  · have hw := hw.1 c
    refine r_ldc2 (q := 19) dX0_compare_16 rfl q1231 ?_
    exact r_lret dX0_compare_19 rfl hw
  · have hw := hw.2 c
    refine r_iload_n (q := 8) dX0_compare_7 rfl 2 rfl ?_
    refine r_iconst (q := 9) dX0_compare_8 rfl kI_0 ?_
    refine r_iconst (q := 10) dX0_compare_9 rfl kI_3 ?_
    refine r_cSI0 (q := 13) [_, _, _] N_X0_3 dX0_compare_10 rfl rfl rfl rfl ?_
    refine ct_X0_isIn  ?_
    refine r_ifb_ne (tg := 20) (q := 16) dX0_compare_13 (by decide) rfl (fun c => ?_) (fun c => ?_)
    · have hw := hw.1 c
      refine r_aload_n (q := 21) dX0_compare_20 rfl 0 rfl ?_
      refine r_aload_n (q := 22) dX0_compare_21 rfl 0 rfl ?_
      refine r_getI (q := 25) L_X0_119 dX0_compare_22 rfl (xw_k hm) ?_
      obtain ⟨g101, hw⟩ := hw
      refine r_cVR0 (q := 28) _ [_] N_X0_122 rfl dX0_compare_25 rfl rfl rfl (xw_k hm) rfl ?_
      refine ct_X0_on hm g101 ?_
      obtain ⟨g102, hw⟩ := hw
      refine r_getI (q := 31) L_X0_313 dX0_compare_28 rfl g102 ?_
      have hw := hw _ rfl
      refine r_istore_n (q := 32) (lv' := [(0, _), (1, _), (2, _), (3, _)]) dX0_compare_31 rfl (Nat.le_of_ble_eq_true rfl) rfl ?_
      refine r_lconst (q := 33) dX0_compare_32 rfl kL_0 ?_
      refine r_lstore (q := 35) (lv' := [(0, _), (1, _), (2, _), (3, _), (4, _)]) dX0_compare_33 rfl (Nat.le_of_ble_eq_true rfl) rfl ?_
      refine r_lconst (q := 36) dX0_compare_35 rfl kL_0 ?_
      refine r_lstore (q := 38) (lv' := [(0, _), (1, _), (2, _), (3, _), (4, _), (6, _)]) dX0_compare_36 rfl (Nat.le_of_ble_eq_true rfl) rfl ?_
      refine r_lconst (q := 39) dX0_compare_38 rfl kL_0 ?_
      refine r_lstore (q := 41) (lv' := [(0, _), (1, _), (2, _), (3, _), (4, _), (6, _), (8, _)]) dX0_compare_39 rfl (Nat.le_of_ble_eq_true rfl) rfl ?_
      refine r_iconst (q := 42) dX0_compare_41 rfl kI_0 ?_
      refine r_istore (q := 44) (lv' := [(0, _), (1, _), (2, _), (3, _), (4, _), (6, _), (8, _), (10, _)]) dX0_compare_42 rfl (Nat.le_of_ble_eq_true rfl) rfl ?_
      exact hw
    · have hw := hw.2 c
      refine r_ldc2 (q := 19) dX0_compare_16 rfl q1231 ?_
      exact r_lret dX0_compare_19 rfl hw
theorem b_X0_compare_44 {x1 x2 x3 x10 : Int32} {y4 y6 y8 : Int64} {xo : Nat} {h : Hp} {k n : Nat} {Q : Int64 → Hp → Prop} {E : Nat → Hp → Prop} (hm : XW h xo) (hw : ((gI h 1102 (xo + 21)) ≤ x10 → (¬ x2 = 0 → (¬ x2 = 1 → (¬ x2 = 2 → ((lg_cmp ((y6 - y8) * 100) ((Int32.toInt64 x3) * y6)) ≤ 0 → Q 0 h) ∧ (¬ (lg_cmp ((y6 - y8) * 100) ((Int32.toInt64 x3) * y6)) ≤ 0 → Q 1 h)) ∧ (x2 = 2 → Q y8 h)) ∧ (x2 = 1 → Q y6 h)) ∧ (x2 = 0 → Q y4 h)) ∧ (¬ (gI h 1102 (xo + 21)) ≤ x10 → (ALg h (xo + 21) x10) ∧ (kd h (el h (xo + 21) (ix x10)) = 8 ∧ (∀ r103 : Nat, r103 = el h (xo + 21) (ix x10) → (P_X8_day h r103) ∧ ((x1 ≤ (V_X8_day h r103) → CtR M_X0_like [rV xo, rV r103, iV x1, iV x3] h 0 0 (fun r106 h105 => XW h105 xo ∧ (Rn M_X0_compare 91 [(0, rV xo), (1, iV x1), (2, iV x2), (3, iV x3), (4, jV y4), (6, jV y6), (8, jV y8), (10, iV x10), (11, rV r103)] [rV r106] h105 k n (qJ Q) E)) E) ∧ (¬ x1 ≤ (V_X8_day h r103) → Rn M_X0_compare 91 [(0, rV xo), (1, iV x1), (2, iV x2), (3, iV x3), (4, jV y4), (6, jV y6), (8, jV y8), (10, iV x10), (11, rV r103)] [rV 0] h k n (qJ Q) E)))))) : Rn M_X0_compare 44 [(0, rV xo), (1, iV x1), (2, iV x2), (3, iV x3), (4, jV y4), (6, jV y6), (8, jV y8), (10, iV x10)] [] h k n (qJ Q) E := by
  refine r_iload (q := 46) dX0_compare_44 rfl 7 rfl ?_
  refine r_aload_n (q := 47) dX0_compare_46 rfl 0 rfl ?_
  refine r_getR (q := 50) L_X0_71 dX0_compare_47 rfl (xw_k hm) (xwr_storms hm) ?_
  refine r_cVI0 (q := 53) _ [] N_X0_77 rfl dX0_compare_50 rfl rfl rfl (xwk_storms hm) rfl ?_
  refine ct_J2_size (xwk_storms hm) ?_
  refine r_icmp_ge (tg := 133) (q := 56) dX0_compare_53 (by decide) rfl (fun c => ?_) (fun c => ?_)
  · have hw := hw.1 c
    refine r_iload_n (q := 134) dX0_compare_133 rfl 2 rfl ?_
    refine r_if_ne (tg := 142) (q := 137) dX0_compare_134 (by decide) rfl (fun c => ?_) (fun c => ?_)
    · have hw := hw.1 c
      refine r_iload_n (q := 143) dX0_compare_142 rfl 2 rfl ?_
      refine r_iconst (q := 144) dX0_compare_143 rfl kI_1 ?_
      refine r_icmp_ne (tg := 152) (q := 147) dX0_compare_144 (by decide) rfl (fun c => ?_) (fun c => ?_)
      · have hw := hw.1 c
        refine r_iload_n (q := 153) dX0_compare_152 rfl 2 rfl ?_
        refine r_iconst (q := 154) dX0_compare_153 rfl kI_2 ?_
        refine r_icmp_ne (tg := 162) (q := 157) dX0_compare_154 (by decide) rfl (fun c => ?_) (fun c => ?_)
        · have hw := hw.1 c
          refine r_lload (q := 164) dX0_compare_162 rfl 5 rfl ?_
          refine r_lload (q := 166) dX0_compare_164 rfl 6 rfl ?_
          refine r_lsub (q := 167) dX0_compare_166 rfl ?_
          refine r_ldc2 (q := 170) dX0_compare_167 rfl q1290 ?_
          refine r_lmul (q := 171) dX0_compare_170 rfl ?_
          refine r_iload_n (q := 172) dX0_compare_171 rfl 3 rfl ?_
          refine r_i2l (q := 173) dX0_compare_172 rfl ?_
          refine r_lload (q := 175) dX0_compare_173 rfl 5 rfl ?_
          refine r_lmul (q := 176) dX0_compare_175 rfl ?_
          refine r_lcmp (q := 177) dX0_compare_176 rfl ?_
          refine r_if_le (tg := 184) (q := 180) dX0_compare_177 (by decide) rfl (fun c => ?_) (fun c => ?_)
          · have hw := hw.1 c
            refine r_lconst (q := 185) dX0_compare_184 rfl kL_0 ?_
            exact r_lret dX0_compare_185 rfl hw
          · have hw := hw.2 c
            refine r_lconst (q := 181) dX0_compare_180 rfl kL_1 ?_
            refine r_goto (tg := 185) dX0_compare_181 (by decide) ?_
            exact r_lret dX0_compare_185 rfl hw
        · have hw := hw.2 c
          refine r_lload (q := 159) dX0_compare_157 rfl 6 rfl ?_
          refine r_goto (tg := 185) dX0_compare_159 (by decide) ?_
          exact r_lret dX0_compare_185 rfl hw
      · have hw := hw.2 c
        refine r_lload (q := 149) dX0_compare_147 rfl 5 rfl ?_
        refine r_goto (tg := 185) dX0_compare_149 (by decide) ?_
        exact r_lret dX0_compare_185 rfl hw
    · have hw := hw.2 c
      refine r_lload (q := 139) dX0_compare_137 rfl 4 rfl ?_
      refine r_goto (tg := 185) dX0_compare_139 (by decide) ?_
      exact r_lret dX0_compare_185 rfl hw
  · have hw := hw.2 c
    refine r_aload_n (q := 57) dX0_compare_56 rfl 0 rfl ?_
    refine r_getR (q := 60) L_X0_71 dX0_compare_57 rfl (xw_k hm) (xwr_storms hm) ?_
    refine r_iload (q := 62) dX0_compare_60 rfl 7 rfl ?_
    obtain ⟨g101, hw⟩ := hw
    refine r_cVR0 (q := 65) _ [_] N_X0_81 rfl dX0_compare_62 rfl rfl rfl (xwk_storms hm) rfl ?_
    refine ct_J2_get (xwk_storms hm) g101 ?_
    obtain ⟨g102, hw⟩ := hw
    refine r_cast (q := 68) q1205 rfl dX0_compare_65 rfl g102 ?_
    have hw := hw _ rfl
    refine r_astore (q := 70) (lv' := [(0, _), (1, _), (2, _), (3, _), (4, _), (6, _), (8, _), (10, _), (11, _)]) dX0_compare_68 rfl (Nat.le_of_ble_eq_true rfl) rfl ?_
    refine r_aload (q := 72) dX0_compare_70 rfl 8 rfl ?_
    obtain ⟨g104, hw⟩ := hw
    refine r_cVI0 (q := 75) _ [] N_X0_440 rfl dX0_compare_72 rfl rfl rfl g102 rfl ?_
    refine ct_X8_day g104 ?_
    refine r_iload_n (q := 76) dX0_compare_75 rfl 1 rfl ?_
    refine r_icmp_ge (tg := 83) (q := 79) dX0_compare_76 (by decide) rfl (fun c => ?_) (fun c => ?_)
    · have hw := hw.1 c
      refine r_aload_n (q := 84) dX0_compare_83 rfl 0 rfl ?_
      refine r_aload (q := 86) dX0_compare_84 rfl 8 rfl ?_
      refine r_iload_n (q := 87) dX0_compare_86 rfl 1 rfl ?_
      refine r_iload_n (q := 88) dX0_compare_87 rfl 3 rfl ?_
      refine r_cVR0 (q := 91) _ [_, _, _] N_X0_469 rfl dX0_compare_88 rfl rfl rfl (xw_k hm) rfl ?_
      refine r_monoCR (fun r106 h105 hw => ?_) hw
      obtain ⟨hm, hw⟩ := hw
      exact hw
    · have hw := hw.2 c
      refine r_null (q := 80) dX0_compare_79 rfl ?_
      refine r_goto (tg := 91) dX0_compare_80 (by decide) ?_
      exact hw
theorem b_X0_compare_91 {x1 x2 x3 x10 : Int32} {y4 y6 y8 : Int64} {xo r11 p0 : Nat} {h : Hp} {k n : Nat} {Q : Int64 → Hp → Prop} {E : Nat → Hp → Prop} (hm : XW h xo) (hw : (¬ p0 = 0 → ∀ y101 : Int64, y101 = y4 + 1 → kd h p0 = 8 ∧ ((P_X8_spilt h p0) ∧ (∀ y104 : Int64, y104 = y6 + (V_X8_spilt h p0) → kd h r11 = 8 ∧ ((P_X8_spilt h r11) ∧ (∀ y107 : Int64, y107 = y8 + (V_X8_spilt h r11) → ∀ x108 : Int32, x108 = x10 + 1 → Rn M_X0_compare 44 [(0, rV xo), (1, iV x1), (2, iV x2), (3, iV x3), (4, jV y101), (6, jV y104), (8, jV y107), (10, iV x108)] [] h k n (qJ Q) E))))) ∧ (p0 = 0 → ∀ x109 : Int32, x109 = x10 + 1 → Rn M_X0_compare 44 [(0, rV xo), (1, iV x1), (2, iV x2), (3, iV x3), (4, jV y4), (6, jV y6), (8, jV y8), (10, iV x109)] [] h k n (qJ Q) E)) : Rn M_X0_compare 91 [(0, rV xo), (1, iV x1), (2, iV x2), (3, iV x3), (4, jV y4), (6, jV y6), (8, jV y8), (10, iV x10), (11, rV r11)] [rV p0] h k n (qJ Q) E := by
  refine r_astore (q := 93) (lv' := [(0, _), (1, _), (2, _), (3, _), (4, _), (6, _), (8, _), (10, _), (11, _), (12, _)]) dX0_compare_91 rfl (Nat.le_of_ble_eq_true rfl) rfl ?_
  refine r_aload (q := 95) dX0_compare_93 rfl 9 rfl ?_
  refine r_ifnonnull (tg := 101) (q := 98) dX0_compare_95 (by decide) rfl (fun c => ?_) (fun c => ?_)
  · have hw := hw.1 c
    refine r_lload (q := 103) dX0_compare_101 rfl 4 rfl ?_
    refine r_lconst (q := 104) dX0_compare_103 rfl kL_1 ?_
    refine r_ladd (q := 105) dX0_compare_104 rfl ?_
    have hw := hw _ rfl
    refine r_lstore (q := 107) (lv' := [(0, _), (1, _), (2, _), (3, _), (4, _), (6, _), (8, _), (10, _), (11, _), (12, _)]) dX0_compare_105 rfl (Nat.le_of_ble_eq_true rfl) rfl ?_
    refine r_lload (q := 109) dX0_compare_107 rfl 5 rfl ?_
    refine r_aload (q := 111) dX0_compare_109 rfl 9 rfl ?_
    obtain ⟨g102, hw⟩ := hw
    obtain ⟨g103, hw⟩ := hw
    refine r_cVJ0 (q := 114) _ [] N_X0_445 rfl dX0_compare_111 rfl rfl rfl g102 rfl ?_
    refine ct_X8_spilt g103 ?_
    refine r_ladd (q := 115) dX0_compare_114 rfl ?_
    have hw := hw _ rfl
    refine r_lstore (q := 117) (lv' := [(0, _), (1, _), (2, _), (3, _), (4, _), (6, _), (8, _), (10, _), (11, _), (12, _)]) dX0_compare_115 rfl (Nat.le_of_ble_eq_true rfl) rfl ?_
    refine r_lload (q := 119) dX0_compare_117 rfl 6 rfl ?_
    refine r_aload (q := 121) dX0_compare_119 rfl 8 rfl ?_
    obtain ⟨g105, hw⟩ := hw
    obtain ⟨g106, hw⟩ := hw
    refine r_cVJ0 (q := 124) _ [] N_X0_445 rfl dX0_compare_121 rfl rfl rfl g105 rfl ?_
    refine ct_X8_spilt g106 ?_
    refine r_ladd (q := 125) dX0_compare_124 rfl ?_
    have hw := hw _ rfl
    refine r_lstore (q := 127) (lv' := [(0, _), (1, _), (2, _), (3, _), (4, _), (6, _), (8, _), (10, _), (11, _), (12, _)]) dX0_compare_125 rfl (Nat.le_of_ble_eq_true rfl) rfl ?_
    have hw := hw _ rfl
    refine r_iincW (q := 130) (lv' := [(0, _), (1, _), (2, _), (3, _), (4, _), (6, _), (8, _), (10, _), (11, _), (12, _)]) dX0_compare_127 rfl 7 rfl kI_1 (Nat.le_of_ble_eq_true rfl) rfl ?_
    refine r_goto (tg := 44) dX0_compare_130 (by decide) ?_
    exact r_sub [0, 1, 2, 3, 4, 5, 6, 7] rfl hw
  · have hw := hw.2 c
    refine r_goto (tg := 127) dX0_compare_98 (by decide) ?_
    have hw := hw _ rfl
    refine r_iincW (q := 130) (lv' := [(0, _), (1, _), (2, _), (3, _), (4, _), (6, _), (8, _), (10, _), (11, _), (12, _)]) dX0_compare_127 rfl 7 rfl kI_1 (Nat.le_of_ble_eq_true rfl) rfl ?_
    refine r_goto (tg := 44) dX0_compare_130 (by decide) ?_
    exact r_sub [0, 1, 2, 3, 4, 5, 6, 7] rfl hw
theorem b_X3_compare_0 {x1 x2 : Int32} {mo : Nat} {h : Hp} {k n : Nat} {Q : Int64 → Hp → Prop} {E : Nat → Hp → Prop} (hm : MW h mo) (hw : ((isin x1 0 3649) = false → Q (-1) h) ∧ ((isin x1 0 3649) = true → ((isin x2 0 3) = true → Rn M_X3_compare 35 [(0, rV mo), (1, iV x1), (2, iV x2), (3, iV 0), (4, jV 0), (6, jV 0), (8, iV 0)] [] h k n (qJ Q) E) ∧ ((isin x2 0 3) = false → Q (-1) h))) : Rn M_X3_compare 0 [(0, rV mo), (1, iV x1), (2, iV x2)] [] h k n (qJ Q) E := by
  refine r_iload_n (q := 1) dX3_compare_0 rfl 1 rfl ?_
  refine r_iconst (q := 2) dX3_compare_1 rfl kI_0 ?_
  refine r_sipush (q := 5) dX3_compare_2 rfl kS_3649 ?_
  refine r_cSI0 (q := 8) [_, _, _] N_X3_194 dX3_compare_5 rfl rfl rfl rfl ?_
  refine ct_X3_isIn  ?_
  refine r_ifb_eq (tg := 20) (q := 11) dX3_compare_8 (by decide) rfl (fun c => ?_) (fun c => ?_)
  · have hw := hw.1 c
    refine r_ldc2 (q := 23) dX3_compare_20 rfl q1749 ?_
    exact r_lret dX3_compare_23 rfl hw
  · have hw := hw.2 c
    refine r_iload_n (q := 12) dX3_compare_11 rfl 2 rfl ?_
    refine r_iconst (q := 13) dX3_compare_12 rfl kI_0 ?_
    refine r_iconst (q := 14) dX3_compare_13 rfl kI_3 ?_
    refine r_cSI0 (q := 17) [_, _, _] N_X3_194 dX3_compare_14 rfl rfl rfl rfl ?_
    refine ct_X3_isIn  ?_
    refine r_ifb_ne (tg := 24) (q := 20) dX3_compare_17 (by decide) rfl (fun c => ?_) (fun c => ?_)
    · have hw := hw.1 c
      refine r_iconst (q := 25) dX3_compare_24 rfl kI_0 ?_
      refine r_istore_n (q := 26) (lv' := [(0, _), (1, _), (2, _), (3, _)]) dX3_compare_25 rfl (Nat.le_of_ble_eq_true rfl) rfl ?_
      refine r_lconst (q := 27) dX3_compare_26 rfl kL_0 ?_
      refine r_lstore (q := 29) (lv' := [(0, _), (1, _), (2, _), (3, _), (4, _)]) dX3_compare_27 rfl (Nat.le_of_ble_eq_true rfl) rfl ?_
      refine r_lconst (q := 30) dX3_compare_29 rfl kL_0 ?_
      refine r_lstore (q := 32) (lv' := [(0, _), (1, _), (2, _), (3, _), (4, _), (6, _)]) dX3_compare_30 rfl (Nat.le_of_ble_eq_true rfl) rfl ?_
      refine r_iconst (q := 33) dX3_compare_32 rfl kI_0 ?_
      refine r_istore (q := 35) (lv' := [(0, _), (1, _), (2, _), (3, _), (4, _), (6, _), (8, _)]) dX3_compare_33 rfl (Nat.le_of_ble_eq_true rfl) rfl ?_
      exact hw
    · have hw := hw.2 c
      refine r_ldc2 (q := 23) dX3_compare_20 rfl q1749 ?_
      exact r_lret dX3_compare_23 rfl hw
theorem b_X3_compare_35 {x1 x2 x3 x8 : Int32} {y4 y6 : Int64} {mo : Nat} {h : Hp} {k n : Nat} {Q : Int64 → Hp → Prop} {E : Nat → Hp → Prop} (hm : MW h mo) (hw : ((gI h 1004 mo) ≤ x8 → (¬ x2 = 0 → (¬ x2 = 1 → (¬ x2 = 2 → (P_X3_now h mo 12) ∧ (((lg_cmp ((y4 - y6) * 100) ((Int32.toInt64 (V_X3_now h mo 12)) * y4)) ≤ 0 → Rn M_X3_compare 167 [(0, rV mo)] [iV 0] h k n (qJ Q) E) ∧ (¬ (lg_cmp ((y4 - y6) * 100) ((Int32.toInt64 (V_X3_now h mo 12)) * y4)) ≤ 0 → Rn M_X3_compare 167 [(0, rV mo)] [iV 1] h k n (qJ Q) E))) ∧ (x2 = 2 → Q y6 h)) ∧ (x2 = 1 → Q y4 h)) ∧ (x2 = 0 → Q (Int32.toInt64 x3) h)) ∧ (¬ (gI h 1004 mo) ≤ x8 → vp_in x8 40 ∧ ((x1 ≤ (eI h (mo + 41) (ix x8)) → CtI M_X3_like [rV mo, iV x8, iV x1] h 0 0 (fun x104 h103 => MW h103 mo ∧ (Rn M_X3_compare 66 [(0, rV mo), (1, iV x1), (2, iV x2), (3, iV x3), (4, jV y4), (6, jV y6), (8, iV x8)] [iV x104] h103 k n (qJ Q) E)) E) ∧ (¬ x1 ≤ (eI h (mo + 41) (ix x8)) → Rn M_X3_compare 66 [(0, rV mo), (1, iV x1), (2, iV x2), (3, iV x3), (4, jV y4), (6, jV y6), (8, iV x8)] [iV (-1)] h k n (qJ Q) E)))) : Rn M_X3_compare 35 [(0, rV mo), (1, iV x1), (2, iV x2), (3, iV x3), (4, jV y4), (6, jV y6), (8, iV x8)] [] h k n (qJ Q) E := by
  refine r_iload (q := 37) dX3_compare_35 rfl 6 rfl ?_
  refine r_aload_n (q := 38) dX3_compare_37 rfl 0 rfl ?_
  refine r_getI (q := 41) L_X3_295 dX3_compare_38 rfl (mw_k hm) ?_
  refine r_icmp_ge (tg := 110) (q := 44) dX3_compare_41 (by decide) rfl (fun c => ?_) (fun c => ?_)
  · have hw := hw.1 c
    refine r_iload_n (q := 111) dX3_compare_110 rfl 2 rfl ?_
    refine r_if_ne (tg := 119) (q := 114) dX3_compare_111 (by decide) rfl (fun c => ?_) (fun c => ?_)
    · have hw := hw.1 c
      refine r_iload_n (q := 120) dX3_compare_119 rfl 2 rfl ?_
      refine r_iconst (q := 121) dX3_compare_120 rfl kI_1 ?_
      refine r_icmp_ne (tg := 129) (q := 124) dX3_compare_121 (by decide) rfl (fun c => ?_) (fun c => ?_)
      · have hw := hw.1 c
        refine r_iload_n (q := 130) dX3_compare_129 rfl 2 rfl ?_
        refine r_iconst (q := 131) dX3_compare_130 rfl kI_2 ?_
        refine r_icmp_ne (tg := 139) (q := 134) dX3_compare_131 (by decide) rfl (fun c => ?_) (fun c => ?_)
        · have hw := hw.1 c
          refine r_lload (q := 141) dX3_compare_139 rfl 4 rfl ?_
          refine r_lload (q := 143) dX3_compare_141 rfl 5 rfl ?_
          refine r_lsub (q := 144) dX3_compare_143 rfl ?_
          refine r_ldc2 (q := 147) dX3_compare_144 rfl q1794 ?_
          refine r_lmul (q := 148) dX3_compare_147 rfl ?_
          refine r_aload_n (q := 149) dX3_compare_148 rfl 0 rfl ?_
          refine r_bipush (q := 151) dX3_compare_149 rfl kB_12 ?_
          obtain ⟨g101, hw⟩ := hw
          refine r_cVI0 (q := 154) _ [_] N_X3_209 rfl dX3_compare_151 rfl rfl rfl (mw_k hm) rfl ?_
          refine ct_X3_now hm g101 ?_
          refine r_i2l (q := 155) dX3_compare_154 rfl ?_
          refine r_lload (q := 157) dX3_compare_155 rfl 4 rfl ?_
          refine r_lmul (q := 158) dX3_compare_157 rfl ?_
          refine r_lcmp (q := 159) dX3_compare_158 rfl ?_
          refine r_if_le (tg := 166) (q := 162) dX3_compare_159 (by decide) rfl (fun c => ?_) (fun c => ?_)
          · have hw := hw.1 c
            refine r_iconst (q := 167) dX3_compare_166 rfl kI_0 ?_
            exact r_sub [0] rfl hw
          · have hw := hw.2 c
            refine r_iconst (q := 163) dX3_compare_162 rfl kI_1 ?_
            refine r_goto (tg := 167) dX3_compare_163 (by decide) ?_
            exact r_sub [0] rfl hw
        · have hw := hw.2 c
          refine r_lload (q := 136) dX3_compare_134 rfl 5 rfl ?_
          refine r_goto (tg := 171) dX3_compare_136 (by decide) ?_
          exact r_lret dX3_compare_171 rfl hw
      · have hw := hw.2 c
        refine r_lload (q := 126) dX3_compare_124 rfl 4 rfl ?_
        refine r_goto (tg := 171) dX3_compare_126 (by decide) ?_
        exact r_lret dX3_compare_171 rfl hw
    · have hw := hw.2 c
      refine r_iload_n (q := 115) dX3_compare_114 rfl 3 rfl ?_
      refine r_i2l (q := 116) dX3_compare_115 rfl ?_
      refine r_goto (tg := 171) dX3_compare_116 (by decide) ?_
      exact r_lret dX3_compare_171 rfl hw
  · have hw := hw.2 c
    refine r_aload_n (q := 45) dX3_compare_44 rfl 0 rfl ?_
    refine r_getR (q := 48) L_X3_132 dX3_compare_45 rfl (mw_k hm) (mwr_stormDay hm) ?_
    refine r_iload (q := 50) dX3_compare_48 rfl 6 rfl ?_
    obtain ⟨g102, hw⟩ := hw
    refine r_ialdL (q := 51) dX3_compare_50 rfl (mwk_stormDay hm) (mwl_stormDay hm) g102 ?_
    refine r_iload_n (q := 52) dX3_compare_51 rfl 1 rfl ?_
    refine r_icmp_ge (tg := 59) (q := 55) dX3_compare_52 (by decide) rfl (fun c => ?_) (fun c => ?_)
    · have hw := hw.1 c
      refine r_aload_n (q := 60) dX3_compare_59 rfl 0 rfl ?_
      refine r_iload (q := 62) dX3_compare_60 rfl 6 rfl ?_
      refine r_iload_n (q := 63) dX3_compare_62 rfl 1 rfl ?_
      refine r_cVI0 (q := 66) _ [_, _] N_X3_329 rfl dX3_compare_63 rfl rfl rfl (mw_k hm) rfl ?_
      refine r_monoCI (fun x104 h103 hw => ?_) hw
      obtain ⟨hm, hw⟩ := hw
      exact hw
    · have hw := hw.2 c
      refine r_iconst (q := 56) dX3_compare_55 rfl kI_m1 ?_
      refine r_goto (tg := 66) dX3_compare_56 (by decide) ?_
      exact hw
theorem b_X3_compare_66 {x1 x2 x3 x8 a0 : Int32} {y4 y6 : Int64} {mo : Nat} {h : Hp} {k n : Nat} {Q : Int64 → Hp → Prop} {E : Nat → Hp → Prop} (hm : MW h mo) (hw : (¬ a0 = (-1) → ∀ x101 : Int32, x101 = x3 + 1 → vp_in a0 40 ∧ (∀ y103 : Int64, y103 = y4 + (eJ h (mo + 37) (ix a0)) → vp_in x8 40 ∧ (∀ y105 : Int64, y105 = y6 + (eJ h (mo + 37) (ix x8)) → ∀ x106 : Int32, x106 = x8 + 1 → Rn M_X3_compare 35 [(0, rV mo), (1, iV x1), (2, iV x2), (3, iV x101), (4, jV y103), (6, jV y105), (8, iV x106)] [] h k n (qJ Q) E))) ∧ (a0 = (-1) → ∀ x107 : Int32, x107 = x8 + 1 → Rn M_X3_compare 35 [(0, rV mo), (1, iV x1), (2, iV x2), (3, iV x3), (4, jV y4), (6, jV y6), (8, iV x107)] [] h k n (qJ Q) E)) : Rn M_X3_compare 66 [(0, rV mo), (1, iV x1), (2, iV x2), (3, iV x3), (4, jV y4), (6, jV y6), (8, iV x8)] [iV a0] h k n (qJ Q) E := by
  refine r_istore (q := 68) (lv' := [(0, _), (1, _), (2, _), (3, _), (4, _), (6, _), (8, _), (9, _)]) dX3_compare_66 rfl (Nat.le_of_ble_eq_true rfl) rfl ?_
  refine r_iload (q := 70) dX3_compare_68 rfl 7 rfl ?_
  refine r_iconst (q := 71) dX3_compare_70 rfl kI_m1 ?_
  refine r_icmp_ne (tg := 77) (q := 74) dX3_compare_71 (by decide) rfl (fun c => ?_) (fun c => ?_)
  · have hw := hw.1 c
    have hw := hw _ rfl
    refine r_iincW (q := 80) (lv' := [(0, _), (1, _), (2, _), (3, _), (4, _), (6, _), (8, _), (9, _)]) dX3_compare_77 rfl 3 rfl kI_1 (Nat.le_of_ble_eq_true rfl) rfl ?_
    refine r_lload (q := 82) dX3_compare_80 rfl 4 rfl ?_
    refine r_aload_n (q := 83) dX3_compare_82 rfl 0 rfl ?_
    refine r_getR (q := 86) L_X3_120 dX3_compare_83 rfl (mw_k hm) (mwr_stormSpilt hm) ?_
    refine r_iload (q := 88) dX3_compare_86 rfl 7 rfl ?_
    obtain ⟨g102, hw⟩ := hw
    refine r_laldL (q := 89) dX3_compare_88 rfl (mwk_stormSpilt hm) (mwl_stormSpilt hm) g102 ?_
    refine r_ladd (q := 90) dX3_compare_89 rfl ?_
    have hw := hw _ rfl
    refine r_lstore (q := 92) (lv' := [(0, _), (1, _), (2, _), (3, _), (4, _), (6, _), (8, _), (9, _)]) dX3_compare_90 rfl (Nat.le_of_ble_eq_true rfl) rfl ?_
    refine r_lload (q := 94) dX3_compare_92 rfl 5 rfl ?_
    refine r_aload_n (q := 95) dX3_compare_94 rfl 0 rfl ?_
    refine r_getR (q := 98) L_X3_120 dX3_compare_95 rfl (mw_k hm) (mwr_stormSpilt hm) ?_
    refine r_iload (q := 100) dX3_compare_98 rfl 6 rfl ?_
    obtain ⟨g104, hw⟩ := hw
    refine r_laldL (q := 101) dX3_compare_100 rfl (mwk_stormSpilt hm) (mwl_stormSpilt hm) g104 ?_
    refine r_ladd (q := 102) dX3_compare_101 rfl ?_
    have hw := hw _ rfl
    refine r_lstore (q := 104) (lv' := [(0, _), (1, _), (2, _), (3, _), (4, _), (6, _), (8, _), (9, _)]) dX3_compare_102 rfl (Nat.le_of_ble_eq_true rfl) rfl ?_
    have hw := hw _ rfl
    refine r_iincW (q := 107) (lv' := [(0, _), (1, _), (2, _), (3, _), (4, _), (6, _), (8, _), (9, _)]) dX3_compare_104 rfl 6 rfl kI_1 (Nat.le_of_ble_eq_true rfl) rfl ?_
    refine r_goto (tg := 35) dX3_compare_107 (by decide) ?_
    exact r_sub [0, 1, 2, 3, 4, 5, 6] rfl hw
  · have hw := hw.2 c
    refine r_goto (tg := 104) dX3_compare_74 (by decide) ?_
    have hw := hw _ rfl
    refine r_iincW (q := 107) (lv' := [(0, _), (1, _), (2, _), (3, _), (4, _), (6, _), (8, _), (9, _)]) dX3_compare_104 rfl 6 rfl kI_1 (Nat.le_of_ble_eq_true rfl) rfl ?_
    refine r_goto (tg := 35) dX3_compare_107 (by decide) ?_
    exact r_sub [0, 1, 2, 3, 4, 5, 6] rfl hw
theorem b_X3_compare_167 {a0 : Int32} {mo : Nat} {h : Hp} {k n : Nat} {Q : Int64 → Hp → Prop} {E : Nat → Hp → Prop} (hm : MW h mo) (hw : Q (Int32.toInt64 (b1 (nz a0))) h) : Rn M_X3_compare 167 [(0, rV mo)] [iV a0] h k n (qJ Q) E := by
  refine r_cSI0 (q := 170) [_] N_X3_319 dX3_compare_167 rfl rfl rfl rfl ?_
  refine ct_X3_one  ?_
  refine r_i2l (q := 171) dX3_compare_170 rfl ?_
  exact r_lret dX3_compare_171 rfl hw
