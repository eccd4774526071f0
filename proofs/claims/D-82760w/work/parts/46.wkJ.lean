/-! walks -/
set_option maxRecDepth 100000
theorem b_X0_law_0 {x1 x2 : Int32} {xo : Nat} {h : Hp} {k n : Nat} {Q : Int32 → Hp → Prop} {E : Nat → Hp → Prop} (hm : XW h xo) (hw : ((isin x1 0 3649) = true → (P_X0_on h xo x1) ∧ (∀ r102 : Nat, r102 = V_X0_on h xo x1 → ((isin x2 13 20) = false → (x2 = 0 → kd h r102 = 5 ∧ (Q (gI h 402 r102) h)) ∧ (¬ x2 = 0 → (x2 = 1 → kd h r102 = 5 ∧ (Q (gI h 403 r102) h)) ∧ (¬ x2 = 1 → (x2 = 2 → kd h r102 = 5 ∧ (Q (gI h 404 r102) h)) ∧ (¬ x2 = 2 → (x2 = 3 → kd h r102 = 5 ∧ (Q (gI h 405 r102) h)) ∧ (¬ x2 = 3 → (x2 = 4 → kd h r102 = 5 ∧ (Q (gI h 406 r102) h)) ∧ (¬ x2 = 4 → (x2 = 5 → kd h r102 = 5 ∧ (Q (gI h 407 r102) h)) ∧ (¬ x2 = 5 → (x2 = 6 → kd h r102 = 5 ∧ (Q (gI h 408 r102) h)) ∧ (¬ x2 = 6 → (x2 = 7 → kd h r102 = 5 ∧ (Q (gI h 409 r102) h)) ∧ (¬ x2 = 7 → (x2 = 8 → kd h r102 = 5 ∧ (Q (gI h 410 r102) h)) ∧ (¬ x2 = 8 → (x2 = 9 → kd h r102 = 5 ∧ (Q (gI h 411 r102) h)) ∧ (¬ x2 = 9 → (x2 = 10 → kd h r102 = 5 ∧ (Q (gI h 412 r102) h)) ∧ (¬ x2 = 10 → (x2 = 11 → kd h r102 = 5 ∧ (Q (gI h 413 r102) h)) ∧ (¬ x2 = 11 → (x2 = 12 → kd h r102 = 5 ∧ (Q (gI h 414 r102) h)) ∧ (¬ x2 = 12 → (x2 = 13 → Q (-1) h) ∧ (¬ x2 = 13 → (x2 = 14 → Q (-1) h) ∧ (¬ x2 = 14 → (x2 = 15 → Q (-1) h) ∧ (¬ x2 = 15 → (x2 = 16 → Q (-1) h) ∧ (¬ x2 = 16 → (x2 = 17 → Q (-1) h) ∧ (¬ x2 = 17 → (x2 = 18 → Q (-1) h) ∧ (¬ x2 = 18 → (x2 = 19 → Q (-1) h) ∧ (¬ x2 = 19 → (x2 = 20 → Q (-1) h) ∧ (¬ x2 = 20 → (x2 = 21 → kd h r102 = 5 ∧ (kd h (gR h 401 r102) = 12 ∧ (Q (gI h 1102 (gR h 401 r102)) h))) ∧ (¬ x2 = 21 → (x2 = 22 → (CP h xo) ∧ (Q (frcx h xo x1) h)) ∧ (¬ x2 = 22 → Q (-1) h)))))))))))))))))))))))) ∧ ((isin x2 13 20) = true → (¬ (irm x2 2) = 1 → kd h r102 = 5 ∧ (kd h (gR h 417 r102) = 61 ∧ (vp_in ((x2 - 14) / 2) (ln h (gR h 417 r102)) ∧ (Q (eI h (gR h 417 r102) (ix ((x2 - 14) / 2))) h)))) ∧ ((irm x2 2) = 1 → kd h r102 = 5 ∧ (kd h (gR h 416 r102) = 61 ∧ (vp_in ((x2 - 13) / 2) (ln h (gR h 416 r102)) ∧ (Q (eI h (gR h 416 r102) (ix ((x2 - 13) / 2))) h))))))) ∧ ((isin x1 0 3649) = false → Q (-1) h)) : Rn M_X0_law 0 [(0, rV xo), (1, iV x1), (2, iV x2)] [] h k n (qI Q) E := by
  refine r_iload_n (q := 1) dX0_law_0 rfl 1 rfl ?_
  refine r_cSI0 (q := 4) [_] N_X0_326 dX0_law_1 rfl rfl rfl rfl ?_
  refine ct_X0_isDay  ?_
  refine r_ifb_ne (tg := 9) (q := 7) dX0_law_4 (by decide) rfl (fun c => ?_) (fun c => ?_)
  · have hw := hw.1 c
    refine r_aload_n (q := 10) dX0_law_9 rfl 0 rfl ?_
    refine r_iload_n (q := 11) dX0_law_10 rfl 1 rfl ?_
    obtain ⟨g101, hw⟩ := hw
    refine r_cVR0 (q := 14) _ [_] N_X0_122 rfl dX0_law_11 rfl rfl rfl (xw_k hm) rfl ?_
    refine ct_X0_on hm g101 ?_
    have hw := hw _ rfl
    refine r_astore_n (q := 15) (lv' := [(0, _), (1, _), (2, _), (3, _)]) dX0_law_14 rfl (Nat.le_of_ble_eq_true rfl) rfl ?_
    refine r_iload_n (q := 16) dX0_law_15 rfl 2 rfl ?_
    refine r_bipush (q := 18) dX0_law_16 rfl kB_13 ?_
    refine r_bipush (q := 20) dX0_law_18 rfl kB_20 ?_
    refine r_cSI0 (q := 23) [_, _, _] N_X0_3 dX0_law_20 rfl rfl rfl rfl ?_
    refine ct_X0_isIn  ?_
    refine r_ifb_eq (tg := 59) (q := 26) dX0_law_23 (by decide) rfl (fun c => ?_) (fun c => ?_)
    · have hw := hw.1 c
      refine r_iload_n (q := 60) dX0_law_59 rfl 2 rfl ?_
      by_cases c0 : x2 = 0
      · have hw := hw.1 c0
        refine r_tabK (tg := 168) dX0_law_60 c0 (by decide) (by decide) rfl (by decide) ?_
        refine r_aload_n (q := 169) dX0_law_168 rfl 3 rfl ?_
        obtain ⟨g103, hw⟩ := hw
        refine r_getI (q := 172) L_X0_286 dX0_law_169 rfl g103 ?_
        exact r_iret dX0_law_172 rfl hw
      · have hw := hw.2 c0
        by_cases c1 : x2 = 1
        · have hw := hw.1 c1
          refine r_tabK (tg := 173) dX0_law_60 c1 (by decide) (by decide) rfl (by decide) ?_
          refine r_aload_n (q := 174) dX0_law_173 rfl 3 rfl ?_
          obtain ⟨g104, hw⟩ := hw
          refine r_getI (q := 177) L_X0_287 dX0_law_174 rfl g104 ?_
          exact r_iret dX0_law_177 rfl hw
        · have hw := hw.2 c1
          by_cases c2 : x2 = 2
          · have hw := hw.1 c2
            refine r_tabK (tg := 178) dX0_law_60 c2 (by decide) (by decide) rfl (by decide) ?_
            refine r_aload_n (q := 179) dX0_law_178 rfl 3 rfl ?_
            obtain ⟨g105, hw⟩ := hw
            refine r_getI (q := 182) L_X0_290 dX0_law_179 rfl g105 ?_
            exact r_iret dX0_law_182 rfl hw
          · have hw := hw.2 c2
            by_cases c3 : x2 = 3
            · have hw := hw.1 c3
              refine r_tabK (tg := 183) dX0_law_60 c3 (by decide) (by decide) rfl (by decide) ?_
              refine r_aload_n (q := 184) dX0_law_183 rfl 3 rfl ?_
              obtain ⟨g106, hw⟩ := hw
              refine r_getI (q := 187) L_X0_293 dX0_law_184 rfl g106 ?_
              exact r_iret dX0_law_187 rfl hw
            · have hw := hw.2 c3
              by_cases c4 : x2 = 4
              · have hw := hw.1 c4
                refine r_tabK (tg := 188) dX0_law_60 c4 (by decide) (by decide) rfl (by decide) ?_
                refine r_aload_n (q := 189) dX0_law_188 rfl 3 rfl ?_
                obtain ⟨g107, hw⟩ := hw
                refine r_getI (q := 192) L_X0_126 dX0_law_189 rfl g107 ?_
                exact r_iret dX0_law_192 rfl hw
              · have hw := hw.2 c4
                by_cases c5 : x2 = 5
                · have hw := hw.1 c5
                  refine r_tabK (tg := 193) dX0_law_60 c5 (by decide) (by decide) rfl (by decide) ?_
                  refine r_aload_n (q := 194) dX0_law_193 rfl 3 rfl ?_
                  obtain ⟨g108, hw⟩ := hw
                  refine r_getI (q := 197) L_X0_295 dX0_law_194 rfl g108 ?_
                  exact r_iret dX0_law_197 rfl hw
                · have hw := hw.2 c5
                  by_cases c6 : x2 = 6
                  · have hw := hw.1 c6
                    refine r_tabK (tg := 198) dX0_law_60 c6 (by decide) (by decide) rfl (by decide) ?_
                    refine r_aload_n (q := 199) dX0_law_198 rfl 3 rfl ?_
                    obtain ⟨g109, hw⟩ := hw
                    refine r_getI (q := 202) L_X0_296 dX0_law_199 rfl g109 ?_
                    exact r_iret dX0_law_202 rfl hw
                  · have hw := hw.2 c6
                    by_cases c7 : x2 = 7
                    · have hw := hw.1 c7
                      refine r_tabK (tg := 203) dX0_law_60 c7 (by decide) (by decide) rfl (by decide) ?_
                      refine r_aload_n (q := 204) dX0_law_203 rfl 3 rfl ?_
                      obtain ⟨g110, hw⟩ := hw
                      refine r_getI (q := 207) L_X0_298 dX0_law_204 rfl g110 ?_
                      exact r_iret dX0_law_207 rfl hw
                    · have hw := hw.2 c7
                      by_cases c8 : x2 = 8
                      · have hw := hw.1 c8
                        refine r_tabK (tg := 208) dX0_law_60 c8 (by decide) (by decide) rfl (by decide) ?_
                        refine r_aload_n (q := 209) dX0_law_208 rfl 3 rfl ?_
                        obtain ⟨g111, hw⟩ := hw
                        refine r_getI (q := 212) L_X0_302 dX0_law_209 rfl g111 ?_
                        exact r_iret dX0_law_212 rfl hw
                      · have hw := hw.2 c8
                        by_cases c9 : x2 = 9
                        · have hw := hw.1 c9
                          refine r_tabK (tg := 213) dX0_law_60 c9 (by decide) (by decide) rfl (by decide) ?_
                          refine r_aload_n (q := 214) dX0_law_213 rfl 3 rfl ?_
                          obtain ⟨g112, hw⟩ := hw
                          refine r_getI (q := 217) L_X0_305 dX0_law_214 rfl g112 ?_
                          exact r_iret dX0_law_217 rfl hw
                        · have hw := hw.2 c9
                          by_cases c10 : x2 = 10
                          · have hw := hw.1 c10
                            refine r_tabK (tg := 218) dX0_law_60 c10 (by decide) (by decide) rfl (by decide) ?_
                            refine r_aload_n (q := 219) dX0_law_218 rfl 3 rfl ?_
                            obtain ⟨g113, hw⟩ := hw
                            refine r_getI (q := 222) L_X0_307 dX0_law_219 rfl g113 ?_
                            exact r_iret dX0_law_222 rfl hw
                          · have hw := hw.2 c10
                            by_cases c11 : x2 = 11
                            · have hw := hw.1 c11
                              refine r_tabK (tg := 223) dX0_law_60 c11 (by decide) (by decide) rfl (by decide) ?_
                              refine r_aload_n (q := 224) dX0_law_223 rfl 3 rfl ?_
                              obtain ⟨g114, hw⟩ := hw
                              refine r_getI (q := 227) L_X0_311 dX0_law_224 rfl g114 ?_
                              exact r_iret dX0_law_227 rfl hw
                            · have hw := hw.2 c11
                              by_cases c12 : x2 = 12
                              · have hw := hw.1 c12
                                refine r_tabK (tg := 228) dX0_law_60 c12 (by decide) (by decide) rfl (by decide) ?_
                                refine r_aload_n (q := 229) dX0_law_228 rfl 3 rfl ?_
                                obtain ⟨g115, hw⟩ := hw
                                refine r_getI (q := 232) L_X0_313 dX0_law_229 rfl g115 ?_
                                exact r_iret dX0_law_232 rfl hw
                              · have hw := hw.2 c12
                                by_cases c13 : x2 = 13
                                · have hw := hw.1 c13
                                  refine r_tabK (tg := 247) dX0_law_60 c13 (by decide) (by decide) rfl (by decide) ?_
                                  refine r_iconst (q := 248) dX0_law_247 rfl kI_m1 ?_
                                  exact r_iret dX0_law_248 rfl hw
                                · have hw := hw.2 c13
                                  by_cases c14 : x2 = 14
                                  · have hw := hw.1 c14
                                    refine r_tabK (tg := 247) dX0_law_60 c14 (by decide) (by decide) rfl (by decide) ?_
                                    refine r_iconst (q := 248) dX0_law_247 rfl kI_m1 ?_
                                    exact r_iret dX0_law_248 rfl hw
                                  · have hw := hw.2 c14
                                    by_cases c15 : x2 = 15
                                    · have hw := hw.1 c15
                                      refine r_tabK (tg := 247) dX0_law_60 c15 (by decide) (by decide) rfl (by decide) ?_
                                      refine r_iconst (q := 248) dX0_law_247 rfl kI_m1 ?_
                                      exact r_iret dX0_law_248 rfl hw
                                    · have hw := hw.2 c15
                                      by_cases c16 : x2 = 16
                                      · have hw := hw.1 c16
                                        refine r_tabK (tg := 247) dX0_law_60 c16 (by decide) (by decide) rfl (by decide) ?_
                                        refine r_iconst (q := 248) dX0_law_247 rfl kI_m1 ?_
                                        exact r_iret dX0_law_248 rfl hw
                                      · have hw := hw.2 c16
                                        by_cases c17 : x2 = 17
                                        · have hw := hw.1 c17
                                          refine r_tabK (tg := 247) dX0_law_60 c17 (by decide) (by decide) rfl (by decide) ?_
                                          refine r_iconst (q := 248) dX0_law_247 rfl kI_m1 ?_
                                          exact r_iret dX0_law_248 rfl hw
                                        · have hw := hw.2 c17
                                          by_cases c18 : x2 = 18
                                          · have hw := hw.1 c18
                                            refine r_tabK (tg := 247) dX0_law_60 c18 (by decide) (by decide) rfl (by decide) ?_
                                            refine r_iconst (q := 248) dX0_law_247 rfl kI_m1 ?_
                                            exact r_iret dX0_law_248 rfl hw
                                          · have hw := hw.2 c18
                                            by_cases c19 : x2 = 19
                                            · have hw := hw.1 c19
                                              refine r_tabK (tg := 247) dX0_law_60 c19 (by decide) (by decide) rfl (by decide) ?_
                                              refine r_iconst (q := 248) dX0_law_247 rfl kI_m1 ?_
                                              exact r_iret dX0_law_248 rfl hw
                                            · have hw := hw.2 c19
                                              by_cases c20 : x2 = 20
                                              · have hw := hw.1 c20
                                                refine r_tabK (tg := 247) dX0_law_60 c20 (by decide) (by decide) rfl (by decide) ?_
                                                refine r_iconst (q := 248) dX0_law_247 rfl kI_m1 ?_
                                                exact r_iret dX0_law_248 rfl hw
                                              · have hw := hw.2 c20
                                                by_cases c21 : x2 = 21
                                                · have hw := hw.1 c21
                                                  refine r_tabK (tg := 233) dX0_law_60 c21 (by decide) (by decide) rfl (by decide) ?_
                                                  refine r_aload_n (q := 234) dX0_law_233 rfl 3 rfl ?_
                                                  obtain ⟨g116, hw⟩ := hw
                                                  refine r_getR (q := 237) L_X0_280 dX0_law_234 rfl g116 rfl ?_
                                                  obtain ⟨g117, hw⟩ := hw
                                                  refine r_cVI0 (q := 240) _ [] N_X0_77 rfl dX0_law_237 rfl rfl rfl g117 rfl ?_
                                                  refine ct_J2_size g117 ?_
                                                  exact r_iret dX0_law_240 rfl hw
                                                · have hw := hw.2 c21
                                                  by_cases c22 : x2 = 22
                                                  · have hw := hw.1 c22
                                                    refine r_tabK (tg := 241) dX0_law_60 c22 (by decide) (by decide) rfl (by decide) ?_
                                                    refine r_aload_n (q := 242) dX0_law_241 rfl 0 rfl ?_
                                                    refine r_iload_n (q := 243) dX0_law_242 rfl 1 rfl ?_
                                                    obtain ⟨g118, hw⟩ := hw
                                                    refine r_cVI0 (q := 246) _ [_] N_X0_168 rfl dX0_law_243 rfl rfl rfl (xw_k hm) rfl ?_
                                                    refine cs_X0_numberOn hm g118 ?_
                                                    exact r_iret dX0_law_246 rfl hw
                                                  · have hw := hw.2 c22
                                                    have z0 := lv_neT c0 (show (0 : Int32).toInt = 0 by decide)
                                                    have z1 := lv_neT c1 (show (1 : Int32).toInt = 1 by decide)
                                                    have z2 := lv_neT c2 (show (2 : Int32).toInt = 2 by decide)
                                                    have z3 := lv_neT c3 (show (3 : Int32).toInt = 3 by decide)
                                                    have z4 := lv_neT c4 (show (4 : Int32).toInt = 4 by decide)
                                                    have z5 := lv_neT c5 (show (5 : Int32).toInt = 5 by decide)
                                                    have z6 := lv_neT c6 (show (6 : Int32).toInt = 6 by decide)
                                                    have z7 := lv_neT c7 (show (7 : Int32).toInt = 7 by decide)
                                                    have z8 := lv_neT c8 (show (8 : Int32).toInt = 8 by decide)
                                                    have z9 := lv_neT c9 (show (9 : Int32).toInt = 9 by decide)
                                                    have z10 := lv_neT c10 (show (10 : Int32).toInt = 10 by decide)
                                                    have z11 := lv_neT c11 (show (11 : Int32).toInt = 11 by decide)
                                                    have z12 := lv_neT c12 (show (12 : Int32).toInt = 12 by decide)
                                                    have z13 := lv_neT c13 (show (13 : Int32).toInt = 13 by decide)
                                                    have z14 := lv_neT c14 (show (14 : Int32).toInt = 14 by decide)
                                                    have z15 := lv_neT c15 (show (15 : Int32).toInt = 15 by decide)
                                                    have z16 := lv_neT c16 (show (16 : Int32).toInt = 16 by decide)
                                                    have z17 := lv_neT c17 (show (17 : Int32).toInt = 17 by decide)
                                                    have z18 := lv_neT c18 (show (18 : Int32).toInt = 18 by decide)
                                                    have z19 := lv_neT c19 (show (19 : Int32).toInt = 19 by decide)
                                                    have z20 := lv_neT c20 (show (20 : Int32).toInt = 20 by decide)
                                                    have z21 := lv_neT c21 (show (21 : Int32).toInt = 21 by decide)
                                                    have z22 := lv_neT c22 (show (22 : Int32).toInt = 22 by decide)
                                                    refine r_tabOut (tg := 247) dX0_law_60 (by omega) (by decide) ?_
                                                    refine r_iconst (q := 248) dX0_law_247 rfl kI_m1 ?_
                                                    exact r_iret dX0_law_248 rfl hw
    · have hw := hw.2 c
      refine r_iload_n (q := 27) dX0_law_26 rfl 2 rfl ?_
      refine r_iconst (q := 28) dX0_law_27 rfl kI_2 ?_
      refine r_irem (q := 29) dX0_law_28 rfl (by decide) ?_
      refine r_iconst (q := 30) dX0_law_29 rfl kI_1 ?_
      refine r_icmp_ne (tg := 47) (q := 33) dX0_law_30 (by decide) rfl (fun c => ?_) (fun c => ?_)
      · have hw := hw.1 c
        refine r_aload_n (q := 48) dX0_law_47 rfl 3 rfl ?_
        obtain ⟨g119, hw⟩ := hw
        refine r_getR (q := 51) L_X0_250 dX0_law_48 rfl g119 rfl ?_
        refine r_iload_n (q := 52) dX0_law_51 rfl 2 rfl ?_
        refine r_bipush (q := 54) dX0_law_52 rfl kB_14 ?_
        refine r_isub (q := 55) dX0_law_54 rfl ?_
        refine r_iconst (q := 56) dX0_law_55 rfl kI_2 ?_
        refine r_idiv (q := 57) dX0_law_56 rfl (by decide) ?_
        obtain ⟨g120, hw⟩ := hw
        obtain ⟨g121, hw⟩ := hw
        refine r_ialdL (q := 58) dX0_law_57 rfl g120 rfl g121 ?_
        exact r_iret dX0_law_58 rfl hw
      · have hw := hw.2 c
        refine r_aload_n (q := 34) dX0_law_33 rfl 3 rfl ?_
        obtain ⟨g122, hw⟩ := hw
        refine r_getR (q := 37) L_X0_247 dX0_law_34 rfl g122 rfl ?_
        refine r_iload_n (q := 38) dX0_law_37 rfl 2 rfl ?_
        refine r_bipush (q := 40) dX0_law_38 rfl kB_13 ?_
        refine r_isub (q := 41) dX0_law_40 rfl ?_
        refine r_iconst (q := 42) dX0_law_41 rfl kI_2 ?_
        refine r_idiv (q := 43) dX0_law_42 rfl (by decide) ?_
        obtain ⟨g123, hw⟩ := hw
        obtain ⟨g124, hw⟩ := hw
        refine r_ialdL (q := 44) dX0_law_43 rfl g123 rfl g124 ?_
        refine r_goto (tg := 58) dX0_law_44 (by decide) ?_
        exact r_iret dX0_law_58 rfl hw
  · have hw := hw.2 c
    refine r_iconst (q := 8) dX0_law_7 rfl kI_m1 ?_
    exact r_iret dX0_law_8 rfl hw
def V_X0_law (h : Hp) (xo : Nat) (x1 : Int32) (x2 : Int32) : Int32 := (if (isin x1 0 3649) = true then (let r102 : Nat := V_X0_on h xo x1; (if (isin x2 13 20) = false then (if x2 = 0 then (gI h 402 r102) else (if x2 = 1 then (gI h 403 r102) else (if x2 = 2 then (gI h 404 r102) else (if x2 = 3 then (gI h 405 r102) else (if x2 = 4 then (gI h 406 r102) else (if x2 = 5 then (gI h 407 r102) else (if x2 = 6 then (gI h 408 r102) else (if x2 = 7 then (gI h 409 r102) else (if x2 = 8 then (gI h 410 r102) else (if x2 = 9 then (gI h 411 r102) else (if x2 = 10 then (gI h 412 r102) else (if x2 = 11 then (gI h 413 r102) else (if x2 = 12 then (gI h 414 r102) else (if x2 = 13 then (-1) else (if x2 = 14 then (-1) else (if x2 = 15 then (-1) else (if x2 = 16 then (-1) else (if x2 = 17 then (-1) else (if x2 = 18 then (-1) else (if x2 = 19 then (-1) else (if x2 = 20 then (-1) else (if x2 = 21 then (gI h 1102 (gR h 401 r102)) else (if x2 = 22 then (frcx h xo x1) else (-1)))))))))))))))))))))))) else (if ¬ (irm x2 2) = 1 then (eI h (gR h 417 r102) (ix ((x2 - 14) / 2))) else (eI h (gR h 416 r102) (ix ((x2 - 13) / 2)))))) else (-1))
def P_X0_law (h : Hp) (xo : Nat) (x1 : Int32) (x2 : Int32) : Prop := ((isin x1 0 3649) = true → (P_X0_on h xo x1) ∧ ((let r102 : Nat := V_X0_on h xo x1; ((isin x2 13 20) = false → (x2 = 0 → kd h r102 = 5) ∧ (¬ x2 = 0 → (x2 = 1 → kd h r102 = 5) ∧ (¬ x2 = 1 → (x2 = 2 → kd h r102 = 5) ∧ (¬ x2 = 2 → (x2 = 3 → kd h r102 = 5) ∧ (¬ x2 = 3 → (x2 = 4 → kd h r102 = 5) ∧ (¬ x2 = 4 → (x2 = 5 → kd h r102 = 5) ∧ (¬ x2 = 5 → (x2 = 6 → kd h r102 = 5) ∧ (¬ x2 = 6 → (x2 = 7 → kd h r102 = 5) ∧ (¬ x2 = 7 → (x2 = 8 → kd h r102 = 5) ∧ (¬ x2 = 8 → (x2 = 9 → kd h r102 = 5) ∧ (¬ x2 = 9 → (x2 = 10 → kd h r102 = 5) ∧ (¬ x2 = 10 → (x2 = 11 → kd h r102 = 5) ∧ (¬ x2 = 11 → (x2 = 12 → kd h r102 = 5) ∧ (¬ x2 = 12 → (x2 = 13 → True) ∧ (¬ x2 = 13 → (x2 = 14 → True) ∧ (¬ x2 = 14 → (x2 = 15 → True) ∧ (¬ x2 = 15 → (x2 = 16 → True) ∧ (¬ x2 = 16 → (x2 = 17 → True) ∧ (¬ x2 = 17 → (x2 = 18 → True) ∧ (¬ x2 = 18 → (x2 = 19 → True) ∧ (¬ x2 = 19 → (x2 = 20 → True) ∧ (¬ x2 = 20 → (x2 = 21 → kd h r102 = 5 ∧ (kd h (gR h 401 r102) = 12)) ∧ (¬ x2 = 21 → (x2 = 22 → (CP h xo)) ∧ (¬ x2 = 22 → True)))))))))))))))))))))))) ∧ ((isin x2 13 20) = true → (¬ (irm x2 2) = 1 → kd h r102 = 5 ∧ (kd h (gR h 417 r102) = 61 ∧ (vp_in ((x2 - 14) / 2) (ln h (gR h 417 r102))))) ∧ ((irm x2 2) = 1 → kd h r102 = 5 ∧ (kd h (gR h 416 r102) = 61 ∧ (vp_in ((x2 - 13) / 2) (ln h (gR h 416 r102))))))))) ∧ ((isin x1 0 3649) = false → True)
theorem ct_X0_law {h : Hp} {E : Nat → Hp → Prop} {k n : Nat} {xo : Nat} {x1 : Int32} {x2 : Int32} (hm : XW h xo) (hp : P_X0_law h xo x1 x2) {Q : Int32 → Hp → Prop} (hq : Q (V_X0_law h xo x1 x2) h) : CtI M_X0_law [rV xo, iV x1, iV x2] h k n Q E := by
  unfold P_X0_law at hp
  unfold V_X0_law at hq
  refine b_X0_law_0 hm ?_
  refine ⟨fun c => ?_, fun c => ?_⟩
  · rw [if_pos c] at hq
    have hp := hp.1 c
    refine ⟨hp.1, ?_⟩
    have hp := hp.2
    intro r102 er102
    subst er102
    refine ⟨fun c => ?_, fun c => ?_⟩
    · rw [if_pos c] at hq
      have hp := hp.1 c
      refine ⟨fun c => ?_, fun c => ?_⟩
      · rw [if_pos c] at hq
        have hp := hp.1 c
        refine ⟨hp, ?_⟩
        exact hq
      · rw [if_neg (by first | exact c | exact fun z => z c | (rw [c]; decide))] at hq
        have hp := hp.2 c
        refine ⟨fun c => ?_, fun c => ?_⟩
        · rw [if_pos c] at hq
          have hp := hp.1 c
          refine ⟨hp, ?_⟩
          exact hq
        · rw [if_neg (by first | exact c | exact fun z => z c | (rw [c]; decide))] at hq
          have hp := hp.2 c
          refine ⟨fun c => ?_, fun c => ?_⟩
          · rw [if_pos c] at hq
            have hp := hp.1 c
            refine ⟨hp, ?_⟩
            exact hq
          · rw [if_neg (by first | exact c | exact fun z => z c | (rw [c]; decide))] at hq
            have hp := hp.2 c
            refine ⟨fun c => ?_, fun c => ?_⟩
            · rw [if_pos c] at hq
              have hp := hp.1 c
              refine ⟨hp, ?_⟩
              exact hq
            · rw [if_neg (by first | exact c | exact fun z => z c | (rw [c]; decide))] at hq
              have hp := hp.2 c
              refine ⟨fun c => ?_, fun c => ?_⟩
              · rw [if_pos c] at hq
                have hp := hp.1 c
                refine ⟨hp, ?_⟩
                exact hq
              · rw [if_neg (by first | exact c | exact fun z => z c | (rw [c]; decide))] at hq
                have hp := hp.2 c
                refine ⟨fun c => ?_, fun c => ?_⟩
                · rw [if_pos c] at hq
                  have hp := hp.1 c
                  refine ⟨hp, ?_⟩
                  exact hq
                · rw [if_neg (by first | exact c | exact fun z => z c | (rw [c]; decide))] at hq
                  have hp := hp.2 c
                  refine ⟨fun c => ?_, fun c => ?_⟩
                  · rw [if_pos c] at hq
                    have hp := hp.1 c
                    refine ⟨hp, ?_⟩
                    exact hq
                  · rw [if_neg (by first | exact c | exact fun z => z c | (rw [c]; decide))] at hq
                    have hp := hp.2 c
                    refine ⟨fun c => ?_, fun c => ?_⟩
                    · rw [if_pos c] at hq
                      have hp := hp.1 c
                      refine ⟨hp, ?_⟩
                      exact hq
                    · rw [if_neg (by first | exact c | exact fun z => z c | (rw [c]; decide))] at hq
                      have hp := hp.2 c
                      refine ⟨fun c => ?_, fun c => ?_⟩
                      · rw [if_pos c] at hq
                        have hp := hp.1 c
                        refine ⟨hp, ?_⟩
                        exact hq
                      · rw [if_neg (by first | exact c | exact fun z => z c | (rw [c]; decide))] at hq
                        have hp := hp.2 c
                        refine ⟨fun c => ?_, fun c => ?_⟩
                        · rw [if_pos c] at hq
                          have hp := hp.1 c
                          refine ⟨hp, ?_⟩
                          exact hq
                        · rw [if_neg (by first | exact c | exact fun z => z c | (rw [c]; decide))] at hq
                          have hp := hp.2 c
                          refine ⟨fun c => ?_, fun c => ?_⟩
                          · rw [if_pos c] at hq
                            have hp := hp.1 c
                            refine ⟨hp, ?_⟩
                            exact hq
                          · rw [if_neg (by first | exact c | exact fun z => z c | (rw [c]; decide))] at hq
                            have hp := hp.2 c
                            refine ⟨fun c => ?_, fun c => ?_⟩
                            · rw [if_pos c] at hq
                              have hp := hp.1 c
                              refine ⟨hp, ?_⟩
                              exact hq
                            · rw [if_neg (by first | exact c | exact fun z => z c | (rw [c]; decide))] at hq
                              have hp := hp.2 c
                              refine ⟨fun c => ?_, fun c => ?_⟩
                              · rw [if_pos c] at hq
                                have hp := hp.1 c
                                refine ⟨hp, ?_⟩
                                exact hq
                              · rw [if_neg (by first | exact c | exact fun z => z c | (rw [c]; decide))] at hq
                                have hp := hp.2 c
                                refine ⟨fun c => ?_, fun c => ?_⟩
                                · rw [if_pos c] at hq
                                  have hp := hp.1 c
                                  exact hq
                                · rw [if_neg (by first | exact c | exact fun z => z c | (rw [c]; decide))] at hq
                                  have hp := hp.2 c
                                  refine ⟨fun c => ?_, fun c => ?_⟩
                                  · rw [if_pos c] at hq
                                    have hp := hp.1 c
                                    exact hq
                                  · rw [if_neg (by first | exact c | exact fun z => z c | (rw [c]; decide))] at hq
                                    have hp := hp.2 c
                                    refine ⟨fun c => ?_, fun c => ?_⟩
                                    · rw [if_pos c] at hq
                                      have hp := hp.1 c
                                      exact hq
                                    · rw [if_neg (by first | exact c | exact fun z => z c | (rw [c]; decide))] at hq
                                      have hp := hp.2 c
                                      refine ⟨fun c => ?_, fun c => ?_⟩
                                      · rw [if_pos c] at hq
                                        have hp := hp.1 c
                                        exact hq
                                      · rw [if_neg (by first | exact c | exact fun z => z c | (rw [c]; decide))] at hq
                                        have hp := hp.2 c
                                        refine ⟨fun c => ?_, fun c => ?_⟩
                                        · rw [if_pos c] at hq
                                          have hp := hp.1 c
                                          exact hq
                                        · rw [if_neg (by first | exact c | exact fun z => z c | (rw [c]; decide))] at hq
                                          have hp := hp.2 c
                                          refine ⟨fun c => ?_, fun c => ?_⟩
                                          · rw [if_pos c] at hq
                                            have hp := hp.1 c
                                            exact hq
                                          · rw [if_neg (by first | exact c | exact fun z => z c | (rw [c]; decide))] at hq
                                            have hp := hp.2 c
                                            refine ⟨fun c => ?_, fun c => ?_⟩
                                            · rw [if_pos c] at hq
                                              have hp := hp.1 c
                                              exact hq
                                            · rw [if_neg (by first | exact c | exact fun z => z c | (rw [c]; decide))] at hq
                                              have hp := hp.2 c
                                              refine ⟨fun c => ?_, fun c => ?_⟩
                                              · rw [if_pos c] at hq
                                                have hp := hp.1 c
                                                exact hq
                                              · rw [if_neg (by first | exact c | exact fun z => z c | (rw [c]; decide))] at hq
                                                have hp := hp.2 c
                                                refine ⟨fun c => ?_, fun c => ?_⟩
                                                · rw [if_pos c] at hq
                                                  have hp := hp.1 c
                                                  refine ⟨hp.1, ?_⟩
                                                  have hp := hp.2
                                                  refine ⟨hp, ?_⟩
                                                  exact hq
                                                · rw [if_neg (by first | exact c | exact fun z => z c | (rw [c]; decide))] at hq
                                                  have hp := hp.2 c
                                                  refine ⟨fun c => ?_, fun c => ?_⟩
                                                  · rw [if_pos c] at hq
                                                    have hp := hp.1 c
                                                    refine ⟨hp, ?_⟩
                                                    exact hq
                                                  · rw [if_neg (by first | exact c | exact fun z => z c | (rw [c]; decide))] at hq
                                                    have hp := hp.2 c
                                                    exact hq
    · rw [if_neg (by first | exact c | exact fun z => z c | (rw [c]; decide))] at hq
      have hp := hp.2 c
      refine ⟨fun c => ?_, fun c => ?_⟩
      · rw [if_pos c] at hq
        have hp := hp.1 c
        refine ⟨hp.1, ?_⟩
        have hp := hp.2
        refine ⟨hp.1, ?_⟩
        have hp := hp.2
        refine ⟨hp, ?_⟩
        exact hq
      · rw [if_neg (by first | exact c | exact fun z => z c | (rw [c]; decide))] at hq
        have hp := hp.2 c
        refine ⟨hp.1, ?_⟩
        have hp := hp.2
        refine ⟨hp.1, ?_⟩
        have hp := hp.2
        refine ⟨hp, ?_⟩
        exact hq
  · rw [if_neg (by first | exact c | exact fun z => z c | (rw [c]; decide))] at hq
    have hp := hp.2 c
    exact hq
