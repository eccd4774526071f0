/-! walks -/
set_option maxRecDepth 100000
theorem b_X0_crew_0 {x1 x2 : Int32} {xo : Nat} {h : Hp} {k n : Nat} {Q : Int32 → Hp → Prop} {E : Nat → Hp → Prop} (hm : XW h xo) (hw : ((isin x1 0 60) = false → Q (-1) h) ∧ ((isin x1 0 60) = true → ((isin x2 0 2) = true → (CP h xo) ∧ (∀ x102 : Int32, x102 = ((frx h xo) ^^^ (-1)) &&& ((shl 1 (gI h 1102 (xo + 2))) - 1) → Rn M_X0_crew 52 [(0, rV xo), (1, iV x1), (2, iV x2), (3, iV 0), (4, iV 0), (5, iV 0), (6, iV x102), (7, iV 1)] [] h k n (qI Q) E)) ∧ ((isin x2 0 2) = false → Q (-1) h))) : Rn M_X0_crew 0 [(0, rV xo), (1, iV x1), (2, iV x2)] [] h k n (qI Q) E := by
  refine r_iload_n (q := 1) dX0_crew_0 rfl 1 rfl ?_
  refine r_iconst (q := 2) dX0_crew_1 rfl kI_0 ?_
  refine r_bipush (q := 4) dX0_crew_2 rfl kB_60 ?_
  refine r_cSI0 (q := 7) [_, _, _] N_X0_3 dX0_crew_4 rfl rfl rfl rfl ?_
  refine ct_X0_isIn  ?_
  refine r_ifb_eq (tg := 19) (q := 10) dX0_crew_7 (by decide) rfl (fun c => ?_) (fun c => ?_)
  · have hw := hw.1 c
    refine r_iconst (q := 20) dX0_crew_19 rfl kI_m1 ?_
    exact r_iret dX0_crew_20 rfl hw
  · have hw := hw.2 c
    refine r_iload_n (q := 11) dX0_crew_10 rfl 2 rfl ?_
    refine r_iconst (q := 12) dX0_crew_11 rfl kI_0 ?_
    refine r_iconst (q := 13) dX0_crew_12 rfl kI_2 ?_
    refine r_cSI0 (q := 16) [_, _, _] N_X0_3 dX0_crew_13 rfl rfl rfl rfl ?_
    refine ct_X0_isIn  ?_
    refine r_ifb_ne (tg := 21) (q := 19) dX0_crew_16 (by decide) rfl (fun c => ?_) (fun c => ?_)
    · have hw := hw.1 c
      refine r_iconst (q := 22) dX0_crew_21 rfl kI_0 ?_
      refine r_istore_n (q := 23) (lv' := [(0, _), (1, _), (2, _), (3, _)]) dX0_crew_22 rfl (Nat.le_of_ble_eq_true rfl) rfl ?_
      refine r_iconst (q := 24) dX0_crew_23 rfl kI_0 ?_
      refine r_istore (q := 26) (lv' := [(0, _), (1, _), (2, _), (3, _), (4, _)]) dX0_crew_24 rfl (Nat.le_of_ble_eq_true rfl) rfl ?_
      refine r_iconst (q := 27) dX0_crew_26 rfl kI_0 ?_
      refine r_istore (q := 29) (lv' := [(0, _), (1, _), (2, _), (3, _), (4, _), (5, _)]) dX0_crew_27 rfl (Nat.le_of_ble_eq_true rfl) rfl ?_
      refine r_aload_n (q := 30) dX0_crew_29 rfl 0 rfl ?_
      obtain ⟨g101, hw⟩ := hw
      refine r_cVI0 (q := 33) _ [] N_X0_451 rfl dX0_crew_30 rfl rfl rfl (xw_k hm) rfl ?_
      refine cs_X0_free hm g101 ?_
      refine r_iconst (q := 34) dX0_crew_33 rfl kI_m1 ?_
      refine r_ixor (q := 35) dX0_crew_34 rfl ?_
      refine r_iconst (q := 36) dX0_crew_35 rfl kI_1 ?_
      refine r_aload_n (q := 37) dX0_crew_36 rfl 0 rfl ?_
      refine r_getR (q := 40) L_X0_20 dX0_crew_37 rfl (xw_k hm) (xwr_corners hm) ?_
      refine r_cVI0 (q := 43) _ [] N_X0_77 rfl dX0_crew_40 rfl rfl rfl (xwk_corners hm) rfl ?_
      refine ct_J2_size (xwk_corners hm) ?_
      refine r_ishl (q := 44) dX0_crew_43 rfl ?_
      refine r_iconst (q := 45) dX0_crew_44 rfl kI_1 ?_
      refine r_isub (q := 46) dX0_crew_45 rfl ?_
      refine r_iand (q := 47) dX0_crew_46 rfl ?_
      have hw := hw _ rfl
      refine r_istore (q := 49) (lv' := [(0, _), (1, _), (2, _), (3, _), (4, _), (5, _), (6, _)]) dX0_crew_47 rfl (Nat.le_of_ble_eq_true rfl) rfl ?_
      refine r_iconst (q := 50) dX0_crew_49 rfl kI_1 ?_
      refine r_istore (q := 52) (lv' := [(0, _), (1, _), (2, _), (3, _), (4, _), (5, _), (6, _), (7, _)]) dX0_crew_50 rfl (Nat.le_of_ble_eq_true rfl) rfl ?_
      exact hw
    · have hw := hw.2 c
      refine r_iconst (q := 20) dX0_crew_19 rfl kI_m1 ?_
      exact r_iret dX0_crew_20 rfl hw
theorem b_X0_crew_52 {x1 x2 x3 x4 x5 x6 x7 : Int32} {xo : Nat} {h : Hp} {k n : Nat} {Q : Int32 → Hp → Prop} {E : Nat → Hp → Prop} (hm : XW h xo) (hw : ((shl 1 (gI h 1102 (xo + 2))) ≤ x7 → (¬ x2 = 0 → (¬ x2 = 1 → Q x5 h) ∧ (x2 = 1 → Q x3 h)) ∧ (x2 = 0 → Q x4 h)) ∧ (¬ (shl 1 (gI h 1102 (xo + 2))) ≤ x7 → ∀ x101 : Int32, x101 = (31 - (V_J9_numberOfLeadingZeros h x7)) + (2 * (V_J9_bitCount h x7)) → (¬ (x7 &&& (x6 ^^^ (-1))) = 0 → ∀ x102 : Int32, x102 = x7 + 1 → Rn M_X0_crew 52 [(0, rV xo), (1, iV x1), (2, iV x2), (3, iV x3), (4, iV x4), (5, iV x5), (6, iV x6), (7, iV x102)] [] h k n (qI Q) E) ∧ ((x7 &&& (x6 ^^^ (-1))) = 0 → (x101 ≤ x1 → Rn M_X0_crew 109 [(0, rV xo), (1, iV x1), (2, iV x2), (3, iV x3), (4, iV x4), (5, iV x5), (6, iV x6), (7, iV x7), (8, iV x101), (9, iV 0), (10, iV 0)] [] h k n (qI Q) E) ∧ (¬ x101 ≤ x1 → ∀ x103 : Int32, x103 = x7 + 1 → Rn M_X0_crew 52 [(0, rV xo), (1, iV x1), (2, iV x2), (3, iV x3), (4, iV x4), (5, iV x5), (6, iV x6), (7, iV x103)] [] h k n (qI Q) E)))) : Rn M_X0_crew 52 [(0, rV xo), (1, iV x1), (2, iV x2), (3, iV x3), (4, iV x4), (5, iV x5), (6, iV x6), (7, iV x7)] [] h k n (qI Q) E := by
  refine r_iload (q := 54) dX0_crew_52 rfl 7 rfl ?_
  refine r_iconst (q := 55) dX0_crew_54 rfl kI_1 ?_
  refine r_aload_n (q := 56) dX0_crew_55 rfl 0 rfl ?_
  refine r_getR (q := 59) L_X0_20 dX0_crew_56 rfl (xw_k hm) (xwr_corners hm) ?_
  refine r_cVI0 (q := 62) _ [] N_X0_77 rfl dX0_crew_59 rfl rfl rfl (xwk_corners hm) rfl ?_
  refine ct_J2_size (xwk_corners hm) ?_
  refine r_ishl (q := 63) dX0_crew_62 rfl ?_
  refine r_icmp_ge (tg := 192) (q := 66) dX0_crew_63 (by decide) rfl (fun c => ?_) (fun c => ?_)
  · have hw := hw.1 c
    refine r_iload_n (q := 193) dX0_crew_192 rfl 2 rfl ?_
    refine r_if_ne (tg := 201) (q := 196) dX0_crew_193 (by decide) rfl (fun c => ?_) (fun c => ?_)
    · have hw := hw.1 c
      refine r_iload_n (q := 202) dX0_crew_201 rfl 2 rfl ?_
      refine r_iconst (q := 203) dX0_crew_202 rfl kI_1 ?_
      refine r_icmp_ne (tg := 210) (q := 206) dX0_crew_203 (by decide) rfl (fun c => ?_) (fun c => ?_)
      · have hw := hw.1 c
        refine r_iload (q := 212) dX0_crew_210 rfl 5 rfl ?_
        exact r_iret dX0_crew_212 rfl hw
      · have hw := hw.2 c
        refine r_iload_n (q := 207) dX0_crew_206 rfl 3 rfl ?_
        refine r_goto (tg := 212) dX0_crew_207 (by decide) ?_
        exact r_iret dX0_crew_212 rfl hw
    · have hw := hw.2 c
      refine r_iload (q := 198) dX0_crew_196 rfl 4 rfl ?_
      refine r_goto (tg := 212) dX0_crew_198 (by decide) ?_
      exact r_iret dX0_crew_212 rfl hw
  · have hw := hw.2 c
    refine r_bipush (q := 68) dX0_crew_66 rfl kB_31 ?_
    refine r_iload (q := 70) dX0_crew_68 rfl 7 rfl ?_
    refine r_cSI0 (q := 73) [_] N_X0_473 dX0_crew_70 rfl rfl rfl rfl ?_
    refine ct_J9_numberOfLeadingZeros  ?_
    refine r_isub (q := 74) dX0_crew_73 rfl ?_
    refine r_iconst (q := 75) dX0_crew_74 rfl kI_2 ?_
    refine r_iload (q := 77) dX0_crew_75 rfl 7 rfl ?_
    refine r_cSI0 (q := 80) [_] N_X0_455 dX0_crew_77 rfl rfl rfl rfl ?_
    refine ct_J9_bitCount  ?_
    refine r_imul (q := 81) dX0_crew_80 rfl ?_
    refine r_iadd (q := 82) dX0_crew_81 rfl ?_
    have hw := hw _ rfl
    refine r_istore (q := 84) (lv' := [(0, _), (1, _), (2, _), (3, _), (4, _), (5, _), (6, _), (7, _), (8, _)]) dX0_crew_82 rfl (Nat.le_of_ble_eq_true rfl) rfl ?_
    refine r_iload (q := 86) dX0_crew_84 rfl 7 rfl ?_
    refine r_iload (q := 88) dX0_crew_86 rfl 6 rfl ?_
    refine r_iconst (q := 89) dX0_crew_88 rfl kI_m1 ?_
    refine r_ixor (q := 90) dX0_crew_89 rfl ?_
    refine r_iand (q := 91) dX0_crew_90 rfl ?_
    refine r_if_ne (tg := 186) (q := 94) dX0_crew_91 (by decide) rfl (fun c => ?_) (fun c => ?_)
    · have hw := hw.1 c
      have hw := hw _ rfl
      refine r_iincW (q := 189) (lv' := [(0, _), (1, _), (2, _), (3, _), (4, _), (5, _), (6, _), (7, _), (8, _)]) dX0_crew_186 rfl 7 rfl kI_1 (Nat.le_of_ble_eq_true rfl) rfl ?_
      refine r_goto (tg := 52) dX0_crew_189 (by decide) ?_
      exact r_sub [0, 1, 2, 3, 4, 5, 6, 7] rfl hw
    · have hw := hw.2 c
      refine r_iload (q := 96) dX0_crew_94 rfl 8 rfl ?_
      refine r_iload_n (q := 97) dX0_crew_96 rfl 1 rfl ?_
      refine r_icmp_le (tg := 103) (q := 100) dX0_crew_97 (by decide) rfl (fun c => ?_) (fun c => ?_)
      · have hw := hw.1 c
        refine r_iconst (q := 104) dX0_crew_103 rfl kI_0 ?_
        refine r_istore (q := 106) (lv' := [(0, _), (1, _), (2, _), (3, _), (4, _), (5, _), (6, _), (7, _), (8, _), (9, _)]) dX0_crew_104 rfl (Nat.le_of_ble_eq_true rfl) rfl ?_
        refine r_iconst (q := 107) dX0_crew_106 rfl kI_0 ?_
        refine r_istore (q := 109) (lv' := [(0, _), (1, _), (2, _), (3, _), (4, _), (5, _), (6, _), (7, _), (8, _), (9, _), (10, _)]) dX0_crew_107 rfl (Nat.le_of_ble_eq_true rfl) rfl ?_
        exact hw
      · have hw := hw.2 c
        refine r_goto (tg := 186) dX0_crew_100 (by decide) ?_
        have hw := hw _ rfl
        refine r_iincW (q := 189) (lv' := [(0, _), (1, _), (2, _), (3, _), (4, _), (5, _), (6, _), (7, _), (8, _)]) dX0_crew_186 rfl 7 rfl kI_1 (Nat.le_of_ble_eq_true rfl) rfl ?_
        refine r_goto (tg := 52) dX0_crew_189 (by decide) ?_
        exact r_sub [0, 1, 2, 3, 4, 5, 6, 7] rfl hw
theorem b_X0_crew_109 {x1 x2 x3 x4 x5 x6 x7 x8 x9 x10 : Int32} {xo : Nat} {h : Hp} {k n : Nat} {Q : Int32 → Hp → Prop} {E : Nat → Hp → Prop} (hm : XW h xo) (hw : ((gI h 1102 (xo + 2)) ≤ x10 → (x4 < x9 → ∀ x101 : Int32, x101 = x7 + 1 → Rn M_X0_crew 52 [(0, rV xo), (1, iV x1), (2, iV x2), (3, iV x7), (4, iV x9), (5, iV x8), (6, iV x6), (7, iV x101)] [] h k n (qI Q) E) ∧ (¬ x4 < x9 → ∀ x102 : Int32, x102 = x7 + 1 → Rn M_X0_crew 52 [(0, rV xo), (1, iV x1), (2, iV x2), (3, iV x3), (4, iV x4), (5, iV x5), (6, iV x6), (7, iV x102)] [] h k n (qI Q) E)) ∧ (¬ (gI h 1102 (xo + 2)) ≤ x10 → (¬ ((shr x7 x10) &&& 1) = 1 → ∀ x103 : Int32, x103 = x9 + 0 → ∀ x104 : Int32, x104 = x10 + 1 → Rn M_X0_crew 109 [(0, rV xo), (1, iV x1), (2, iV x2), (3, iV x3), (4, iV x4), (5, iV x5), (6, iV x6), (7, iV x7), (8, iV x8), (9, iV x103), (10, iV x104)] [] h k n (qI Q) E) ∧ (((shr x7 x10) &&& 1) = 1 → (ALg h (xo + 2) x10) ∧ (kd h (el h (xo + 2) (ix x10)) = 2 ∧ (kd h (gR h 109 (el h (xo + 2) (ix x10))) = 4 ∧ ((P_X6_more h (gR h 109 (el h (xo + 2) (ix x10)))) ∧ (∀ x109 : Int32, x109 = x9 + (V_X6_more h (gR h 109 (el h (xo + 2) (ix x10)))) → ∀ x110 : Int32, x110 = x10 + 1 → Rn M_X0_crew 109 [(0, rV xo), (1, iV x1), (2, iV x2), (3, iV x3), (4, iV x4), (5, iV x5), (6, iV x6), (7, iV x7), (8, iV x8), (9, iV x109), (10, iV x110)] [] h k n (qI Q) E))))))) : Rn M_X0_crew 109 [(0, rV xo), (1, iV x1), (2, iV x2), (3, iV x3), (4, iV x4), (5, iV x5), (6, iV x6), (7, iV x7), (8, iV x8), (9, iV x9), (10, iV x10)] [] h k n (qI Q) E := by
  refine r_iload (q := 111) dX0_crew_109 rfl 10 rfl ?_
  refine r_aload_n (q := 112) dX0_crew_111 rfl 0 rfl ?_
  refine r_getR (q := 115) L_X0_20 dX0_crew_112 rfl (xw_k hm) (xwr_corners hm) ?_
  refine r_cVI0 (q := 118) _ [] N_X0_77 rfl dX0_crew_115 rfl rfl rfl (xwk_corners hm) rfl ?_
  refine ct_J2_size (xwk_corners hm) ?_
  refine r_icmp_ge (tg := 165) (q := 121) dX0_crew_118 (by decide) rfl (fun c => ?_) (fun c => ?_)
  · have hw := hw.1 c
    refine r_iload (q := 167) dX0_crew_165 rfl 9 rfl ?_
    refine r_iload (q := 169) dX0_crew_167 rfl 4 rfl ?_
    refine r_icmp_gt (tg := 175) (q := 172) dX0_crew_169 (by decide) rfl (fun c => ?_) (fun c => ?_)
    · have hw := hw.1 c
      refine r_iload (q := 177) dX0_crew_175 rfl 9 rfl ?_
      refine r_istore (q := 179) (lv' := [(0, _), (1, _), (2, _), (3, _), (4, _), (5, _), (6, _), (7, _), (8, _), (9, _), (10, _)]) dX0_crew_177 rfl (Nat.le_of_ble_eq_true rfl) rfl ?_
      refine r_iload (q := 181) dX0_crew_179 rfl 7 rfl ?_
      refine r_istore_n (q := 182) (lv' := [(0, _), (1, _), (2, _), (3, _), (4, _), (5, _), (6, _), (7, _), (8, _), (9, _), (10, _)]) dX0_crew_181 rfl (Nat.le_of_ble_eq_true rfl) rfl ?_
      refine r_iload (q := 184) dX0_crew_182 rfl 8 rfl ?_
      refine r_istore (q := 186) (lv' := [(0, _), (1, _), (2, _), (3, _), (4, _), (5, _), (6, _), (7, _), (8, _), (9, _), (10, _)]) dX0_crew_184 rfl (Nat.le_of_ble_eq_true rfl) rfl ?_
      have hw := hw _ rfl
      refine r_iincW (q := 189) (lv' := [(0, _), (1, _), (2, _), (3, _), (4, _), (5, _), (6, _), (7, _), (8, _), (9, _), (10, _)]) dX0_crew_186 rfl 7 rfl kI_1 (Nat.le_of_ble_eq_true rfl) rfl ?_
      refine r_goto (tg := 52) dX0_crew_189 (by decide) ?_
      exact r_sub [0, 1, 2, 3, 4, 5, 6, 7] rfl hw
    · have hw := hw.2 c
      refine r_goto (tg := 186) dX0_crew_172 (by decide) ?_
      have hw := hw _ rfl
      refine r_iincW (q := 189) (lv' := [(0, _), (1, _), (2, _), (3, _), (4, _), (5, _), (6, _), (7, _), (8, _), (9, _), (10, _)]) dX0_crew_186 rfl 7 rfl kI_1 (Nat.le_of_ble_eq_true rfl) rfl ?_
      refine r_goto (tg := 52) dX0_crew_189 (by decide) ?_
      exact r_sub [0, 1, 2, 3, 4, 5, 6, 7] rfl hw
  · have hw := hw.2 c
    refine r_iload (q := 123) dX0_crew_121 rfl 9 rfl ?_
    refine r_iload (q := 125) dX0_crew_123 rfl 7 rfl ?_
    refine r_iload (q := 127) dX0_crew_125 rfl 10 rfl ?_
    refine r_ishr (q := 128) dX0_crew_127 rfl ?_
    refine r_iconst (q := 129) dX0_crew_128 rfl kI_1 ?_
    refine r_iand (q := 130) dX0_crew_129 rfl ?_
    refine r_iconst (q := 131) dX0_crew_130 rfl kI_1 ?_
    refine r_icmp_ne (tg := 155) (q := 134) dX0_crew_131 (by decide) rfl (fun c => ?_) (fun c => ?_)
    · have hw := hw.1 c
      refine r_iconst (q := 156) dX0_crew_155 rfl kI_0 ?_
      refine r_iadd (q := 157) dX0_crew_156 rfl ?_
      have hw := hw _ rfl
      refine r_istore (q := 159) (lv' := [(0, _), (1, _), (2, _), (3, _), (4, _), (5, _), (6, _), (7, _), (8, _), (9, _), (10, _)]) dX0_crew_157 rfl (Nat.le_of_ble_eq_true rfl) rfl ?_
      have hw := hw _ rfl
      refine r_iincW (q := 162) (lv' := [(0, _), (1, _), (2, _), (3, _), (4, _), (5, _), (6, _), (7, _), (8, _), (9, _), (10, _)]) dX0_crew_159 rfl 10 rfl kI_1 (Nat.le_of_ble_eq_true rfl) rfl ?_
      refine r_goto (tg := 109) dX0_crew_162 (by decide) ?_
      exact hw
    · have hw := hw.2 c
      refine r_aload_n (q := 135) dX0_crew_134 rfl 0 rfl ?_
      refine r_getR (q := 138) L_X0_20 dX0_crew_135 rfl (xw_k hm) (xwr_corners hm) ?_
      refine r_iload (q := 140) dX0_crew_138 rfl 10 rfl ?_
      obtain ⟨g105, hw⟩ := hw
      refine r_cVR0 (q := 143) _ [_] N_X0_81 rfl dX0_crew_140 rfl rfl rfl (xwk_corners hm) rfl ?_
      refine ct_J2_get (xwk_corners hm) g105 ?_
      obtain ⟨g106, hw⟩ := hw
      refine r_cast (q := 146) q374 rfl dX0_crew_143 rfl g106 ?_
      refine r_getR (q := 149) L_X0_91 dX0_crew_146 rfl g106 rfl ?_
      obtain ⟨g107, hw⟩ := hw
      obtain ⟨g108, hw⟩ := hw
      refine r_cVI0 (q := 152) _ [] N_X0_476 rfl dX0_crew_149 rfl rfl rfl g107 rfl ?_
      refine ct_X6_more g108 ?_
      refine r_goto (tg := 156) dX0_crew_152 (by decide) ?_
      refine r_iadd (q := 157) dX0_crew_156 rfl ?_
      have hw := hw _ rfl
      refine r_istore (q := 159) (lv' := [(0, _), (1, _), (2, _), (3, _), (4, _), (5, _), (6, _), (7, _), (8, _), (9, _), (10, _)]) dX0_crew_157 rfl (Nat.le_of_ble_eq_true rfl) rfl ?_
      have hw := hw _ rfl
      refine r_iincW (q := 162) (lv' := [(0, _), (1, _), (2, _), (3, _), (4, _), (5, _), (6, _), (7, _), (8, _), (9, _), (10, _)]) dX0_crew_159 rfl 10 rfl kI_1 (Nat.le_of_ble_eq_true rfl) rfl ?_
      refine r_goto (tg := 109) dX0_crew_162 (by decide) ?_
      exact hw
theorem b_X3_crew_0 {x1 x2 : Int32} {mo : Nat} {h : Hp} {k n : Nat} {Q : Int32 → Hp → Prop} {E : Nat → Hp → Prop} (hm : MW h mo) (hw : ((isin x1 0 60) = false → Q (-1) h) ∧ ((isin x1 0 60) = true → ((isin x2 0 2) = true → Rn M_X3_crew 32 [(0, rV mo), (1, iV x1), (2, iV x2), (3, iV 0), (4, iV 0), (5, iV 0), (6, iV 1)] [] h k n (qI Q) E) ∧ ((isin x2 0 2) = false → Q (-1) h))) : Rn M_X3_crew 0 [(0, rV mo), (1, iV x1), (2, iV x2)] [] h k n (qI Q) E := by
  refine r_iload_n (q := 1) dX3_crew_0 rfl 1 rfl ?_
  refine r_iconst (q := 2) dX3_crew_1 rfl kI_0 ?_
  refine r_bipush (q := 4) dX3_crew_2 rfl kB_60 ?_
  refine r_cSI0 (q := 7) [_, _, _] N_X3_194 dX3_crew_4 rfl rfl rfl rfl ?_
  refine ct_X3_isIn  ?_
  refine r_ifb_eq (tg := 19) (q := 10) dX3_crew_7 (by decide) rfl (fun c => ?_) (fun c => ?_)
  · have hw := hw.1 c
    refine r_iconst (q := 20) dX3_crew_19 rfl kI_m1 ?_
    exact r_iret dX3_crew_20 rfl hw
  · have hw := hw.2 c
    refine r_iload_n (q := 11) dX3_crew_10 rfl 2 rfl ?_
    refine r_iconst (q := 12) dX3_crew_11 rfl kI_0 ?_
    refine r_iconst (q := 13) dX3_crew_12 rfl kI_2 ?_
    refine r_cSI0 (q := 16) [_, _, _] N_X3_194 dX3_crew_13 rfl rfl rfl rfl ?_
    refine ct_X3_isIn  ?_
    refine r_ifb_ne (tg := 21) (q := 19) dX3_crew_16 (by decide) rfl (fun c => ?_) (fun c => ?_)
    · have hw := hw.1 c
      refine r_iconst (q := 22) dX3_crew_21 rfl kI_0 ?_
      refine r_istore_n (q := 23) (lv' := [(0, _), (1, _), (2, _), (3, _)]) dX3_crew_22 rfl (Nat.le_of_ble_eq_true rfl) rfl ?_
      refine r_iconst (q := 24) dX3_crew_23 rfl kI_0 ?_
      refine r_istore (q := 26) (lv' := [(0, _), (1, _), (2, _), (3, _), (4, _)]) dX3_crew_24 rfl (Nat.le_of_ble_eq_true rfl) rfl ?_
      refine r_iconst (q := 27) dX3_crew_26 rfl kI_0 ?_
      refine r_istore (q := 29) (lv' := [(0, _), (1, _), (2, _), (3, _), (4, _), (5, _)]) dX3_crew_27 rfl (Nat.le_of_ble_eq_true rfl) rfl ?_
      refine r_iconst (q := 30) dX3_crew_29 rfl kI_1 ?_
      refine r_istore (q := 32) (lv' := [(0, _), (1, _), (2, _), (3, _), (4, _), (5, _), (6, _)]) dX3_crew_30 rfl (Nat.le_of_ble_eq_true rfl) rfl ?_
      exact hw
    · have hw := hw.2 c
      refine r_iconst (q := 20) dX3_crew_19 rfl kI_m1 ?_
      exact r_iret dX3_crew_20 rfl hw
theorem b_X3_crew_32 {x1 x2 x3 x4 x5 x6 : Int32} {mo : Nat} {h : Hp} {k n : Nat} {Q : Int32 → Hp → Prop} {E : Nat → Hp → Prop} (hm : MW h mo) (hw : ((shl 1 (gI h 1001 mo)) ≤ x6 → (¬ x2 = 0 → (¬ x2 = 1 → Q x5 h) ∧ (x2 = 1 → Q x3 h)) ∧ (x2 = 0 → Q x4 h)) ∧ (¬ (shl 1 (gI h 1001 mo)) ≤ x6 → Rn M_X3_crew 55 [(0, rV mo), (1, iV x1), (2, iV x2), (3, iV x3), (4, iV x4), (5, iV x5), (6, iV x6), (7, iV 0), (8, iV 0), (9, iV 1), (10, iV 0)] [] h k n (qI Q) E)) : Rn M_X3_crew 32 [(0, rV mo), (1, iV x1), (2, iV x2), (3, iV x3), (4, iV x4), (5, iV x5), (6, iV x6)] [] h k n (qI Q) E := by
  refine r_iload (q := 34) dX3_crew_32 rfl 6 rfl ?_
  refine r_iconst (q := 35) dX3_crew_34 rfl kI_1 ?_
  refine r_aload_n (q := 36) dX3_crew_35 rfl 0 rfl ?_
  refine r_getI (q := 39) L_X3_191 dX3_crew_36 rfl (mw_k hm) ?_
  refine r_ishl (q := 40) dX3_crew_39 rfl ?_
  refine r_icmp_ge (tg := 208) (q := 43) dX3_crew_40 (by decide) rfl (fun c => ?_) (fun c => ?_)
  · have hw := hw.1 c
    refine r_iload_n (q := 209) dX3_crew_208 rfl 2 rfl ?_
    refine r_if_ne (tg := 217) (q := 212) dX3_crew_209 (by decide) rfl (fun c => ?_) (fun c => ?_)
    · have hw := hw.1 c
      refine r_iload_n (q := 218) dX3_crew_217 rfl 2 rfl ?_
      refine r_iconst (q := 219) dX3_crew_218 rfl kI_1 ?_
      refine r_icmp_ne (tg := 226) (q := 222) dX3_crew_219 (by decide) rfl (fun c => ?_) (fun c => ?_)
      · have hw := hw.1 c
        refine r_iload (q := 228) dX3_crew_226 rfl 5 rfl ?_
        exact r_iret dX3_crew_228 rfl hw
      · have hw := hw.2 c
        refine r_iload_n (q := 223) dX3_crew_222 rfl 3 rfl ?_
        refine r_goto (tg := 228) dX3_crew_223 (by decide) ?_
        exact r_iret dX3_crew_228 rfl hw
    · have hw := hw.2 c
      refine r_iload (q := 214) dX3_crew_212 rfl 4 rfl ?_
      refine r_goto (tg := 228) dX3_crew_214 (by decide) ?_
      exact r_iret dX3_crew_228 rfl hw
  · have hw := hw.2 c
    refine r_iconst (q := 44) dX3_crew_43 rfl kI_0 ?_
    refine r_istore (q := 46) (lv' := [(0, _), (1, _), (2, _), (3, _), (4, _), (5, _), (6, _), (7, _)]) dX3_crew_44 rfl (Nat.le_of_ble_eq_true rfl) rfl ?_
    refine r_iconst (q := 47) dX3_crew_46 rfl kI_0 ?_
    refine r_istore (q := 49) (lv' := [(0, _), (1, _), (2, _), (3, _), (4, _), (5, _), (6, _), (7, _), (8, _)]) dX3_crew_47 rfl (Nat.le_of_ble_eq_true rfl) rfl ?_
    refine r_iconst (q := 50) dX3_crew_49 rfl kI_1 ?_
    refine r_istore (q := 52) (lv' := [(0, _), (1, _), (2, _), (3, _), (4, _), (5, _), (6, _), (7, _), (8, _), (9, _)]) dX3_crew_50 rfl (Nat.le_of_ble_eq_true rfl) rfl ?_
    refine r_iconst (q := 53) dX3_crew_52 rfl kI_0 ?_
    refine r_istore (q := 55) (lv' := [(0, _), (1, _), (2, _), (3, _), (4, _), (5, _), (6, _), (7, _), (8, _), (9, _), (10, _)]) dX3_crew_53 rfl (Nat.le_of_ble_eq_true rfl) rfl ?_
    exact hw
theorem b_X3_crew_55 {x1 x2 x3 x4 x5 x6 x7 x8 x9 x10 : Int32} {mo : Nat} {h : Hp} {k n : Nat} {Q : Int32 → Hp → Prop} {E : Nat → Hp → Prop} (hm : MW h mo) (hw : ((gI h 1001 mo) ≤ x10 → (x9 = 0 → ∀ x101 : Int32, x101 = x6 + 1 → Rn M_X3_crew 32 [(0, rV mo), (1, iV x1), (2, iV x2), (3, iV x3), (4, iV x4), (5, iV x5), (6, iV x101)] [] h k n (qI Q) E) ∧ (¬ x9 = 0 → CtI M_X3_bits [iV x6] h 0 0 (fun x103 h102 => MW h102 mo ∧ ((x1 < (x8 + (2 * x103)) → ∀ x104 : Int32, x104 = x6 + 1 → Rn M_X3_crew 32 [(0, rV mo), (1, iV x1), (2, iV x2), (3, iV x3), (4, iV x4), (5, iV x5), (6, iV x104)] [] h102 k n (qI Q) E) ∧ (¬ x1 < (x8 + (2 * x103)) → (x4 < x7 → CtI M_X3_bits [iV x6] h102 0 0 (fun x106 h105 => MW h105 mo ∧ (∀ x107 : Int32, x107 = x8 + (2 * x106) → ∀ x108 : Int32, x108 = x6 + 1 → Rn M_X3_crew 32 [(0, rV mo), (1, iV x1), (2, iV x2), (3, iV x6), (4, iV x7), (5, iV x107), (6, iV x108)] [] h105 k n (qI Q) E)) E) ∧ (¬ x4 < x7 → ∀ x109 : Int32, x109 = x6 + 1 → Rn M_X3_crew 32 [(0, rV mo), (1, iV x1), (2, iV x2), (3, iV x3), (4, iV x4), (5, iV x5), (6, iV x109)] [] h102 k n (qI Q) E)))) E)) ∧ (¬ (gI h 1001 mo) ≤ x10 → (¬ ((shr x6 x10) &&& 1) = 0 → (x9 = 0 → Rn M_X3_crew 97 [(0, rV mo), (1, iV x1), (2, iV x2), (3, iV x3), (4, iV x4), (5, iV x5), (6, iV x6), (7, iV x7), (8, iV x8), (10, iV x10)] [iV 0] h k n (qI Q) E) ∧ (¬ x9 = 0 → vp_in x10 12 ∧ (((eI h (mo + 6) (ix x10)) = 0 → Rn M_X3_crew 97 [(0, rV mo), (1, iV x1), (2, iV x2), (3, iV x3), (4, iV x4), (5, iV x5), (6, iV x6), (7, iV x7), (8, iV x8), (10, iV x10)] [iV 0] h k n (qI Q) E) ∧ (¬ (eI h (mo + 6) (ix x10)) = 0 → Rn M_X3_crew 97 [(0, rV mo), (1, iV x1), (2, iV x2), (3, iV x3), (4, iV x4), (5, iV x5), (6, iV x6), (7, iV x7), (8, iV x8), (10, iV x10)] [iV 1] h k n (qI Q) E)))) ∧ (((shr x6 x10) &&& 1) = 0 → ∀ x111 : Int32, x111 = x10 + 1 → Rn M_X3_crew 55 [(0, rV mo), (1, iV x1), (2, iV x2), (3, iV x3), (4, iV x4), (5, iV x5), (6, iV x6), (7, iV x7), (8, iV x8), (9, iV x9), (10, iV x111)] [] h k n (qI Q) E))) : Rn M_X3_crew 55 [(0, rV mo), (1, iV x1), (2, iV x2), (3, iV x3), (4, iV x4), (5, iV x5), (6, iV x6), (7, iV x7), (8, iV x8), (9, iV x9), (10, iV x10)] [] h k n (qI Q) E := by
  refine r_iload (q := 57) dX3_crew_55 rfl 10 rfl ?_
  refine r_aload_n (q := 58) dX3_crew_57 rfl 0 rfl ?_
  refine r_getI (q := 61) L_X3_191 dX3_crew_58 rfl (mw_k hm) ?_
  refine r_icmp_ge (tg := 154) (q := 64) dX3_crew_61 (by decide) rfl (fun c => ?_) (fun c => ?_)
  · have hw := hw.1 c
    refine r_iload (q := 156) dX3_crew_154 rfl 9 rfl ?_
    refine r_if_eq (tg := 202) (q := 159) dX3_crew_156 (by decide) rfl (fun c => ?_) (fun c => ?_)
    · have hw := hw.1 c
      have hw := hw _ rfl
      refine r_iincW (q := 205) (lv' := [(0, _), (1, _), (2, _), (3, _), (4, _), (5, _), (6, _), (7, _), (8, _), (9, _), (10, _)]) dX3_crew_202 rfl 6 rfl kI_1 (Nat.le_of_ble_eq_true rfl) rfl ?_
      refine r_goto (tg := 32) dX3_crew_205 (by decide) ?_
      exact r_sub [0, 1, 2, 3, 4, 5, 6] rfl hw
    · have hw := hw.2 c
      refine r_iload (q := 161) dX3_crew_159 rfl 8 rfl ?_
      refine r_iconst (q := 162) dX3_crew_161 rfl kI_2 ?_
      refine r_iload (q := 164) dX3_crew_162 rfl 6 rfl ?_
      refine r_cSI0 (q := 167) [_] N_X3_316 dX3_crew_164 rfl rfl rfl rfl ?_
      refine r_monoCI (fun x103 h102 hw => ?_) hw
      obtain ⟨hm, hw⟩ := hw
      refine r_imul (q := 168) dX3_crew_167 rfl ?_
      refine r_iadd (q := 169) dX3_crew_168 rfl ?_
      refine r_iload_n (q := 170) dX3_crew_169 rfl 1 rfl ?_
      refine r_icmp_gt (tg := 202) (q := 173) dX3_crew_170 (by decide) rfl (fun c => ?_) (fun c => ?_)
      · have hw := hw.1 c
        have hw := hw _ rfl
        refine r_iincW (q := 205) (lv' := [(0, _), (1, _), (2, _), (3, _), (4, _), (5, _), (6, _), (7, _), (8, _), (9, _), (10, _)]) dX3_crew_202 rfl 6 rfl kI_1 (Nat.le_of_ble_eq_true rfl) rfl ?_
        refine r_goto (tg := 32) dX3_crew_205 (by decide) ?_
        exact r_sub [0, 1, 2, 3, 4, 5, 6] rfl hw
      · have hw := hw.2 c
        refine r_iload (q := 175) dX3_crew_173 rfl 7 rfl ?_
        refine r_iload (q := 177) dX3_crew_175 rfl 4 rfl ?_
        refine r_icmp_gt (tg := 183) (q := 180) dX3_crew_177 (by decide) rfl (fun c => ?_) (fun c => ?_)
        · have hw := hw.1 c
          refine r_iload (q := 185) dX3_crew_183 rfl 6 rfl ?_
          refine r_istore_n (q := 186) (lv' := [(0, _), (1, _), (2, _), (3, _), (4, _), (5, _), (6, _), (7, _), (8, _), (9, _), (10, _)]) dX3_crew_185 rfl (Nat.le_of_ble_eq_true rfl) rfl ?_
          refine r_iload (q := 188) dX3_crew_186 rfl 7 rfl ?_
          refine r_istore (q := 190) (lv' := [(0, _), (1, _), (2, _), (3, _), (4, _), (5, _), (6, _), (7, _), (8, _), (9, _), (10, _)]) dX3_crew_188 rfl (Nat.le_of_ble_eq_true rfl) rfl ?_
          refine r_iload (q := 192) dX3_crew_190 rfl 8 rfl ?_
          refine r_iconst (q := 193) dX3_crew_192 rfl kI_2 ?_
          refine r_iload (q := 195) dX3_crew_193 rfl 6 rfl ?_
          refine r_cSI0 (q := 198) [_] N_X3_316 dX3_crew_195 rfl rfl rfl rfl ?_
          refine r_monoCI (fun x106 h105 hw => ?_) hw
          obtain ⟨hm, hw⟩ := hw
          refine r_imul (q := 199) dX3_crew_198 rfl ?_
          refine r_iadd (q := 200) dX3_crew_199 rfl ?_
          have hw := hw _ rfl
          refine r_istore (q := 202) (lv' := [(0, _), (1, _), (2, _), (3, _), (4, _), (5, _), (6, _), (7, _), (8, _), (9, _), (10, _)]) dX3_crew_200 rfl (Nat.le_of_ble_eq_true rfl) rfl ?_
          have hw := hw _ rfl
          refine r_iincW (q := 205) (lv' := [(0, _), (1, _), (2, _), (3, _), (4, _), (5, _), (6, _), (7, _), (8, _), (9, _), (10, _)]) dX3_crew_202 rfl 6 rfl kI_1 (Nat.le_of_ble_eq_true rfl) rfl ?_
          refine r_goto (tg := 32) dX3_crew_205 (by decide) ?_
          exact r_sub [0, 1, 2, 3, 4, 5, 6] rfl hw
        · have hw := hw.2 c
          refine r_goto (tg := 202) dX3_crew_180 (by decide) ?_
          have hw := hw _ rfl
          refine r_iincW (q := 205) (lv' := [(0, _), (1, _), (2, _), (3, _), (4, _), (5, _), (6, _), (7, _), (8, _), (9, _), (10, _)]) dX3_crew_202 rfl 6 rfl kI_1 (Nat.le_of_ble_eq_true rfl) rfl ?_
          refine r_goto (tg := 32) dX3_crew_205 (by decide) ?_
          exact r_sub [0, 1, 2, 3, 4, 5, 6] rfl hw
  · have hw := hw.2 c
    refine r_iload (q := 66) dX3_crew_64 rfl 6 rfl ?_
    refine r_iload (q := 68) dX3_crew_66 rfl 10 rfl ?_
    refine r_ishr (q := 69) dX3_crew_68 rfl ?_
    refine r_iconst (q := 70) dX3_crew_69 rfl kI_1 ?_
    refine r_iand (q := 71) dX3_crew_70 rfl ?_
    refine r_if_ne (tg := 77) (q := 74) dX3_crew_71 (by decide) rfl (fun c => ?_) (fun c => ?_)
    · have hw := hw.1 c
      refine r_iload (q := 79) dX3_crew_77 rfl 9 rfl ?_
      refine r_if_eq (tg := 96) (q := 82) dX3_crew_79 (by decide) rfl (fun c => ?_) (fun c => ?_)
      · have hw := hw.1 c
        refine r_iconst (q := 97) dX3_crew_96 rfl kI_0 ?_
        exact r_sub [0, 1, 2, 3, 4, 5, 6, 7, 8, 10] rfl hw
      · have hw := hw.2 c
        refine r_aload_n (q := 83) dX3_crew_82 rfl 0 rfl ?_
        refine r_getR (q := 86) L_X3_25 dX3_crew_83 rfl (mw_k hm) (mwr_hasBed hm) ?_
        refine r_iload (q := 88) dX3_crew_86 rfl 10 rfl ?_
        obtain ⟨g110, hw⟩ := hw
        refine r_zaldL (q := 89) dX3_crew_88 rfl (mwk_hasBed hm) (mwl_hasBed hm) g110 ?_
        refine r_if_eq (tg := 96) (q := 92) dX3_crew_89 (by decide) rfl (fun c => ?_) (fun c => ?_)
        · have hw := hw.1 c
          refine r_iconst (q := 97) dX3_crew_96 rfl kI_0 ?_
          exact r_sub [0, 1, 2, 3, 4, 5, 6, 7, 8, 10] rfl hw
        · have hw := hw.2 c
          refine r_iconst (q := 93) dX3_crew_92 rfl kI_1 ?_
          refine r_goto (tg := 97) dX3_crew_93 (by decide) ?_
          exact r_sub [0, 1, 2, 3, 4, 5, 6, 7, 8, 10] rfl hw
    · have hw := hw.2 c
      refine r_goto (tg := 148) dX3_crew_74 (by decide) ?_
      have hw := hw _ rfl
      refine r_iincW (q := 151) (lv' := [(0, _), (1, _), (2, _), (3, _), (4, _), (5, _), (6, _), (7, _), (8, _), (9, _), (10, _)]) dX3_crew_148 rfl 10 rfl kI_1 (Nat.le_of_ble_eq_true rfl) rfl ?_
      refine r_goto (tg := 55) dX3_crew_151 (by decide) ?_
      exact hw
theorem b_X3_crew_97 {x1 x2 x3 x4 x5 x6 x7 x8 x10 a0 : Int32} {mo : Nat} {h : Hp} {k n : Nat} {Q : Int32 → Hp → Prop} {E : Nat → Hp → Prop} (hm : MW h mo) (hw : vp_in x10 12 ∧ ((¬ (eI h (mo + 6) (ix x10)) = 0 → vp_in x10 12 ∧ ((vp_in x10 12 ∧ vp_in (eI h (mo + 9) (ix x10)) 10) ∧ ((P_X3_drink h mo x10) ∧ (∀ x105 : Int32, x105 = x7 + ((((eI h (mo + 25) (ix (eI h (mo + 9) (ix x10)))) * (100 - (imax 0 ((eI h (mo + 12) (ix x10)) - 30)))) / 100) - (V_X3_drink h mo x10)) → ∀ x106 : Int32, x106 = x10 + 1 → Rn M_X3_crew 55 [(0, rV mo), (1, iV x1), (2, iV x2), (3, iV x3), (4, iV x4), (5, iV x5), (6, iV x6), (7, iV x105), (8, iV x10), (9, iV a0), (10, iV x106)] [] h k n (qI Q) E)))) ∧ ((eI h (mo + 6) (ix x10)) = 0 → ∀ x107 : Int32, x107 = x10 + 1 → Rn M_X3_crew 55 [(0, rV mo), (1, iV x1), (2, iV x2), (3, iV x3), (4, iV x4), (5, iV x5), (6, iV x6), (7, iV x7), (8, iV x8), (9, iV a0), (10, iV x107)] [] h k n (qI Q) E))) : Rn M_X3_crew 97 [(0, rV mo), (1, iV x1), (2, iV x2), (3, iV x3), (4, iV x4), (5, iV x5), (6, iV x6), (7, iV x7), (8, iV x8), (10, iV x10)] [iV a0] h k n (qI Q) E := by
  refine r_istore (q := 99) (lv' := [(0, _), (1, _), (2, _), (3, _), (4, _), (5, _), (6, _), (7, _), (8, _), (9, _), (10, _)]) dX3_crew_97 rfl (Nat.le_of_ble_eq_true rfl) rfl ?_
  refine r_aload_n (q := 100) dX3_crew_99 rfl 0 rfl ?_
  refine r_getR (q := 103) L_X3_25 dX3_crew_100 rfl (mw_k hm) (mwr_hasBed hm) ?_
  refine r_iload (q := 105) dX3_crew_103 rfl 10 rfl ?_
  obtain ⟨g101, hw⟩ := hw
  refine r_zaldL (q := 106) dX3_crew_105 rfl (mwk_hasBed hm) (mwl_hasBed hm) g101 ?_
  refine r_if_ne (tg := 112) (q := 109) dX3_crew_106 (by decide) rfl (fun c => ?_) (fun c => ?_)
  · have hw := hw.1 c
    refine r_iload (q := 114) dX3_crew_112 rfl 10 rfl ?_
    refine r_istore (q := 116) (lv' := [(0, _), (1, _), (2, _), (3, _), (4, _), (5, _), (6, _), (7, _), (8, _), (9, _), (10, _)]) dX3_crew_114 rfl (Nat.le_of_ble_eq_true rfl) rfl ?_
    refine r_iload (q := 118) dX3_crew_116 rfl 7 rfl ?_
    refine r_aload_n (q := 119) dX3_crew_118 rfl 0 rfl ?_
    refine r_iload (q := 121) dX3_crew_119 rfl 10 rfl ?_
    refine r_iconst (q := 122) dX3_crew_121 rfl kI_0 ?_
    refine r_aload_n (q := 123) dX3_crew_122 rfl 0 rfl ?_
    refine r_getR (q := 126) L_X3_44 dX3_crew_123 rfl (mw_k hm) (mwr_clog hm) ?_
    refine r_iload (q := 128) dX3_crew_126 rfl 10 rfl ?_
    obtain ⟨g102, hw⟩ := hw
    refine r_ialdL (q := 129) dX3_crew_128 rfl (mwk_clog hm) (mwl_clog hm) g102 ?_
    refine r_bipush (q := 131) dX3_crew_129 rfl kB_30 ?_
    refine r_isub (q := 132) dX3_crew_131 rfl ?_
    refine r_mmax (q := 135) q1677 dX3_crew_132 rfl rfl ?_
    obtain ⟨g103, hw⟩ := hw
    refine r_cVI0 (q := 138) _ [_, _] N_X3_215 rfl dX3_crew_135 rfl rfl rfl (mw_k hm) rfl ?_
    refine ct_X3_drinkBy hm g103 ?_
    refine r_aload_n (q := 139) dX3_crew_138 rfl 0 rfl ?_
    refine r_iload (q := 141) dX3_crew_139 rfl 10 rfl ?_
    obtain ⟨g104, hw⟩ := hw
    refine r_cVI0 (q := 144) _ [_] N_X3_230 rfl dX3_crew_141 rfl rfl rfl (mw_k hm) rfl ?_
    refine ct_X3_drink hm g104 ?_
    refine r_isub (q := 145) dX3_crew_144 rfl ?_
    refine r_iadd (q := 146) dX3_crew_145 rfl ?_
    have hw := hw _ rfl
    refine r_istore (q := 148) (lv' := [(0, _), (1, _), (2, _), (3, _), (4, _), (5, _), (6, _), (7, _), (8, _), (9, _), (10, _)]) dX3_crew_146 rfl (Nat.le_of_ble_eq_true rfl) rfl ?_
    have hw := hw _ rfl
    refine r_iincW (q := 151) (lv' := [(0, _), (1, _), (2, _), (3, _), (4, _), (5, _), (6, _), (7, _), (8, _), (9, _), (10, _)]) dX3_crew_148 rfl 10 rfl kI_1 (Nat.le_of_ble_eq_true rfl) rfl ?_
    refine r_goto (tg := 55) dX3_crew_151 (by decide) ?_
    exact hw
  · have hw := hw.2 c
    refine r_goto (tg := 148) dX3_crew_109 (by decide) ?_
    have hw := hw _ rfl
    refine r_iincW (q := 151) (lv' := [(0, _), (1, _), (2, _), (3, _), (4, _), (5, _), (6, _), (7, _), (8, _), (9, _), (10, _)]) dX3_crew_148 rfl 10 rfl kI_1 (Nat.le_of_ble_eq_true rfl) rfl ?_
    refine r_goto (tg := 55) dX3_crew_151 (by decide) ?_
    exact hw
