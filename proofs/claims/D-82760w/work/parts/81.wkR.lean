/-! walks -/
set_option maxRecDepth 100000
theorem b_X0_storm_0 {xo : Nat} {h : Hp} {k n : Nat} {Q : Int32 → Hp → Prop} {E : Nat → Hp → Prop} (hm : XW h xo) (hw : (¬ (gI h 1102 (xo + 21)) = 40 → CtV M_X2_runs [rV (xo + 13), iV 0] h 0 0 (fun h101 => XW h101 xo ∧ (Rn M_X0_storm 24 [(0, rV xo), (1, iV 0)] [] h101 k n (qI Q) E)) E) ∧ ((gI h 1102 (xo + 21)) = 40 → Q (-1) h)) : Rn M_X0_storm 0 [(0, rV xo)] [] h k n (qI Q) E := by
  refine r_aload_n (q := 1) dX0_storm_0 rfl 0 rfl ?_
  refine r_getR (q := 4) L_X0_71 dX0_storm_1 rfl (xw_k hm) (xwr_storms hm) ?_
  refine r_cVI0 (q := 7) _ [] N_X0_77 rfl dX0_storm_4 rfl rfl rfl (xwk_storms hm) rfl ?_
  refine ct_J2_size (xwk_storms hm) ?_
  refine r_bipush (q := 9) dX0_storm_7 rfl kB_40 ?_
  refine r_icmp_ne (tg := 14) (q := 12) dX0_storm_9 (by decide) rfl (fun c => ?_) (fun c => ?_)
  · have hw := hw.1 c
    refine r_aload_n (q := 15) dX0_storm_14 rfl 0 rfl ?_
    refine r_getR (q := 18) L_X0_67 dX0_storm_15 rfl (xw_k hm) (xwr_run hm) ?_
    refine r_iconst (q := 19) dX0_storm_18 rfl kI_0 ?_
    refine r_cVV0 (q := 22) _ [_] N_X0_382 rfl dX0_storm_19 rfl rfl rfl (xwk_run hm) rfl ?_
    refine r_monoCV (fun h101 hw => ?_) hw
    obtain ⟨hm, hw⟩ := hw
    refine r_iconst (q := 23) dX0_storm_22 rfl kI_0 ?_
    refine r_istore_n (q := 24) (lv' := [(0, _), (1, _)]) dX0_storm_23 rfl (Nat.le_of_ble_eq_true rfl) rfl ?_
    exact hw
  · have hw := hw.2 c
    refine r_iconst (q := 13) dX0_storm_12 rfl kI_m1 ?_
    exact r_iret dX0_storm_13 rfl hw
theorem b_X0_storm_24 {x1 : Int32} {xo : Nat} {h : Hp} {k n : Nat} {Q : Int32 → Hp → Prop} {E : Nat → Hp → Prop} (hm : XW h xo) (hw : ((gI h 1102 (xo + 2)) ≤ x1 → Rn M_X0_storm 137 [(0, rV xo), (1, iV 0)] [] h k n (qI Q) E) ∧ (¬ (gI h 1102 (xo + 2)) ≤ x1 → (ALg h (xo + 2) x1) ∧ (kd h (el h (xo + 2) (ix x1)) = 2 ∧ (∀ r103 : Nat, r103 = el h (xo + 2) (ix x1) → kd h (gR h 502 (xo + 13)) = 61 ∧ (vp_in x1 (ln h (gR h 502 (xo + 13))) ∧ (∀ h106 : Hp, h106 = pI h 106 r103 (eI h (gR h 502 (xo + 13)) (ix x1)) → kd h106 (gR h106 504 (xo + 13)) = 61 ∧ (vp_in x1 (ln h106 (gR h106 504 (xo + 13))) ∧ (∀ h109 : Hp, h109 = pI h106 107 r103 (eI h106 (gR h106 504 (xo + 13)) (ix x1)) → kd h109 (gR h109 503 (xo + 13)) = 61 ∧ (vp_in x1 (ln h109 (gR h109 503 (xo + 13))) ∧ (∀ h112 : Hp, h112 = pI h109 108 r103 (eI h109 (gR h109 503 (xo + 13)) (ix x1)) → (¬ (gR h112 109 r103) = 0 → kd h112 (gR h112 109 r103) = 4 ∧ (∀ h114 : Hp, h114 = pJ h112 18 xo ((gJ h112 18 xo) + (Int32.toInt64 (gI h112 308 (gR h112 109 r103)))) → kd h114 (gR h114 500 (xo + 13)) = 61 ∧ (vp_in x1 (ln h114 (gR h114 500 (xo + 13))) ∧ (kd h114 (gR h114 109 r103) = 4 ∧ (∀ h118 : Hp, h118 = pI h114 308 (gR h114 109 r103) (eI h114 (gR h114 500 (xo + 13)) (ix x1)) → ∀ x119 : Int32, x119 = x1 + 1 → Rn M_X0_storm 24 [(0, rV xo), (1, iV x119)] [] h118 k n (qI Q) E))))) ∧ ((gR h112 109 r103) = 0 → ∀ x120 : Int32, x120 = x1 + 1 → Rn M_X0_storm 24 [(0, rV xo), (1, iV x120)] [] h112 k n (qI Q) E))))))))))) : Rn M_X0_storm 24 [(0, rV xo), (1, iV x1)] [] h k n (qI Q) E := by
  refine r_iload_n (q := 25) dX0_storm_24 rfl 1 rfl ?_
  refine r_aload_n (q := 26) dX0_storm_25 rfl 0 rfl ?_
  refine r_getR (q := 29) L_X0_20 dX0_storm_26 rfl (xw_k hm) (xwr_corners hm) ?_
  refine r_cVI0 (q := 32) _ [] N_X0_77 rfl dX0_storm_29 rfl rfl rfl (xwk_corners hm) rfl ?_
  refine ct_J2_size (xwk_corners hm) ?_
  refine r_icmp_ge (tg := 135) (q := 35) dX0_storm_32 (by decide) rfl (fun c => ?_) (fun c => ?_)
  · have hw := hw.1 c
    refine r_iconst (q := 136) dX0_storm_135 rfl kI_0 ?_
    refine r_istore_n (q := 137) (lv' := [(0, _), (1, _)]) dX0_storm_136 rfl (Nat.le_of_ble_eq_true rfl) rfl ?_
    exact hw
  · have hw := hw.2 c
    refine r_aload_n (q := 36) dX0_storm_35 rfl 0 rfl ?_
    refine r_getR (q := 39) L_X0_20 dX0_storm_36 rfl (xw_k hm) (xwr_corners hm) ?_
    refine r_iload_n (q := 40) dX0_storm_39 rfl 1 rfl ?_
    obtain ⟨g101, hw⟩ := hw
    refine r_cVR0 (q := 43) _ [_] N_X0_81 rfl dX0_storm_40 rfl rfl rfl (xwk_corners hm) rfl ?_
    refine ct_J2_get (xwk_corners hm) g101 ?_
    obtain ⟨g102, hw⟩ := hw
    refine r_cast (q := 46) q374 rfl dX0_storm_43 rfl g102 ?_
    have hw := hw _ rfl
    refine r_astore_n (q := 47) (lv' := [(0, _), (1, _), (2, _)]) dX0_storm_46 rfl (Nat.le_of_ble_eq_true rfl) rfl ?_
    refine r_aload_n (q := 48) dX0_storm_47 rfl 2 rfl ?_
    refine r_aload_n (q := 49) dX0_storm_48 rfl 0 rfl ?_
    refine r_getR (q := 52) L_X0_67 dX0_storm_49 rfl (xw_k hm) (xwr_run hm) ?_
    refine r_getR (q := 55) L_X0_385 dX0_storm_52 rfl (xwk_run hm) rfl ?_
    refine r_iload_n (q := 56) dX0_storm_55 rfl 1 rfl ?_
    obtain ⟨g104, hw⟩ := hw
    obtain ⟨g105, hw⟩ := hw
    refine r_ialdL (q := 57) dX0_storm_56 rfl g104 rfl g105 ?_
    refine r_putI (q := 60) L_X0_388 dX0_storm_57 rfl g102 ?_
    refine r_xw_pI hm (fun hm => ?_)
    refine r_kpI g102 (fun g102 => ?_)
    refine r_kpI g104 (fun g104 => ?_)
    have hw := hw _ rfl
    refine r_aload_n (q := 61) dX0_storm_60 rfl 2 rfl ?_
    refine r_aload_n (q := 62) dX0_storm_61 rfl 0 rfl ?_
    refine r_getR (q := 65) L_X0_67 dX0_storm_62 rfl (xw_k hm) (xwr_run hm) ?_
    refine r_getR (q := 68) L_X0_391 dX0_storm_65 rfl (xwk_run hm) rfl ?_
    refine r_iload_n (q := 69) dX0_storm_68 rfl 1 rfl ?_
    obtain ⟨g107, hw⟩ := hw
    obtain ⟨g108, hw⟩ := hw
    refine r_ialdL (q := 70) dX0_storm_69 rfl g107 rfl g108 ?_
    refine r_putI (q := 73) L_X0_394 dX0_storm_70 rfl g102 ?_
    refine r_xw_pI hm (fun hm => ?_)
    refine r_kpI g102 (fun g102 => ?_)
    refine r_kpI g104 (fun g104 => ?_)
    refine r_kpI g107 (fun g107 => ?_)
    have hw := hw _ rfl
    refine r_aload_n (q := 74) dX0_storm_73 rfl 2 rfl ?_
    refine r_aload_n (q := 75) dX0_storm_74 rfl 0 rfl ?_
    refine r_getR (q := 78) L_X0_67 dX0_storm_75 rfl (xw_k hm) (xwr_run hm) ?_
    refine r_getR (q := 81) L_X0_396 dX0_storm_78 rfl (xwk_run hm) rfl ?_
    refine r_iload_n (q := 82) dX0_storm_81 rfl 1 rfl ?_
    obtain ⟨g110, hw⟩ := hw
    obtain ⟨g111, hw⟩ := hw
    refine r_ialdL (q := 83) dX0_storm_82 rfl g110 rfl g111 ?_
    refine r_putI (q := 86) L_X0_399 dX0_storm_83 rfl g102 ?_
    refine r_xw_pI hm (fun hm => ?_)
    refine r_kpI g102 (fun g102 => ?_)
    refine r_kpI g104 (fun g104 => ?_)
    refine r_kpI g107 (fun g107 => ?_)
    refine r_kpI g110 (fun g110 => ?_)
    have hw := hw _ rfl
    refine r_aload_n (q := 87) dX0_storm_86 rfl 2 rfl ?_
    refine r_getR (q := 90) L_X0_91 dX0_storm_87 rfl g102 rfl ?_
    refine r_ifnonnull (tg := 96) (q := 93) dX0_storm_90 (by decide) rfl (fun c => ?_) (fun c => ?_)
    · have hw := hw.1 c
      refine r_aload_n (q := 97) dX0_storm_96 rfl 0 rfl ?_
      refine r_dup (q := 98) dX0_storm_97 rfl rfl ?_
      refine r_getJ (q := 101) L_X0_345 dX0_storm_98 rfl (xw_k hm) ?_
      refine r_aload_n (q := 102) dX0_storm_101 rfl 2 rfl ?_
      refine r_getR (q := 105) L_X0_91 dX0_storm_102 rfl g102 rfl ?_
      obtain ⟨g113, hw⟩ := hw
      refine r_getI (q := 108) L_X0_401 dX0_storm_105 rfl g113 ?_
      refine r_i2l (q := 109) dX0_storm_108 rfl ?_
      refine r_ladd (q := 110) dX0_storm_109 rfl ?_
      refine r_putJ (q := 113) L_X0_345 dX0_storm_110 rfl (xw_k hm) ?_
      refine r_xw_pJ hm (fun hm => ?_)
      refine r_kpJ g102 (fun g102 => ?_)
      refine r_kpJ g104 (fun g104 => ?_)
      refine r_kpJ g107 (fun g107 => ?_)
      refine r_kpJ g110 (fun g110 => ?_)
      refine r_kpJ g113 (fun g113 => ?_)
      have hw := hw _ rfl
      refine r_aload_n (q := 114) dX0_storm_113 rfl 2 rfl ?_
      refine r_getR (q := 117) L_X0_91 dX0_storm_114 rfl g102 rfl ?_
      refine r_aload_n (q := 118) dX0_storm_117 rfl 0 rfl ?_
      refine r_getR (q := 121) L_X0_67 dX0_storm_118 rfl (xw_k hm) (xwr_run hm) ?_
      refine r_getR (q := 124) L_X0_402 dX0_storm_121 rfl (xwk_run hm) rfl ?_
      refine r_iload_n (q := 125) dX0_storm_124 rfl 1 rfl ?_
      obtain ⟨g115, hw⟩ := hw
      obtain ⟨g116, hw⟩ := hw
      refine r_ialdL (q := 126) dX0_storm_125 rfl g115 rfl g116 ?_
      obtain ⟨g117, hw⟩ := hw
      refine r_putI (q := 129) L_X0_401 dX0_storm_126 rfl g117 ?_
      refine r_xw_pI hm (fun hm => ?_)
      refine r_kpI g102 (fun g102 => ?_)
      refine r_kpI g104 (fun g104 => ?_)
      refine r_kpI g107 (fun g107 => ?_)
      refine r_kpI g110 (fun g110 => ?_)
      refine r_kpI g113 (fun g113 => ?_)
      refine r_kpI g115 (fun g115 => ?_)
      refine r_kpI g117 (fun g117 => ?_)
      have hw := hw _ rfl
      have hw := hw _ rfl
      refine r_iincW (q := 132) (lv' := [(0, _), (1, _), (2, _)]) dX0_storm_129 rfl 1 rfl kI_1 (Nat.le_of_ble_eq_true rfl) rfl ?_
      refine r_goto (tg := 24) dX0_storm_132 (by decide) ?_
      exact r_sub [0, 1] rfl hw
    · have hw := hw.2 c
      refine r_goto (tg := 129) dX0_storm_93 (by decide) ?_
      have hw := hw _ rfl
      refine r_iincW (q := 132) (lv' := [(0, _), (1, _), (2, _)]) dX0_storm_129 rfl 1 rfl kI_1 (Nat.le_of_ble_eq_true rfl) rfl ?_
      refine r_goto (tg := 24) dX0_storm_132 (by decide) ?_
      exact r_sub [0, 1] rfl hw
theorem b_X0_storm_137 {x1 : Int32} {xo : Nat} {h : Hp} {k n : Nat} {Q : Int32 → Hp → Prop} {E : Nat → Hp → Prop} (hm : XW h xo) (hw : ((gI h 1102 (xo + 3)) ≤ x1 → ∀ h101 : Hp, h101 = pJ h 17 xo ((gJ h 17 xo) + (gJ h 508 (xo + 13))) → ∀ h102 : Hp, h102 = pJ h101 18 xo ((gJ h101 18 xo) + (gJ h101 509 (xo + 13))) → ∀ h103 : Hp, h103 = pJ h102 19 xo ((gJ h102 19 xo) + (gJ h102 510 (xo + 13))) → ∀ h104 : Hp, h104 = pJ h103 20 xo ((gJ h103 20 xo) + (gJ h103 511 (xo + 13))) → (1 ≤ k ∧ 5 ≤ n) ∧ (∀ r106 : Nat, r106 = nx h104 → ∀ h107 : Hp, h107 = nO h104 7 → CtV M_X8_init [rV r106, iV (gI h107 0 xo), jV (gJ h107 508 (xo + 13)), jV (gJ h107 510 (xo + 13)), iV (gI h107 512 (xo + 13)), iV (gI h107 513 (xo + 13))] h107 0 0 (fun h108 => XW h108 xo ∧ (∃ k110 n111 k112 n113 : Nat, k110 + k112 ≤ (k - 1) ∧ n111 + n113 ≤ (n - 5) ∧ CtI M_J2_add [rV (xo + 21), rV r106] h108 k110 n111 (fun x114 h109 => XW h109 xo ∧ (Q ((gI h109 1102 (xo + 21)) - 1) h109)) E)) E)) ∧ (¬ (gI h 1102 (xo + 3)) ≤ x1 → (ALg h (xo + 3) x1) ∧ (kd h (el h (xo + 3) (ix x1)) = 3 ∧ (kd h (gR h 501 (xo + 13)) = 61 ∧ (vp_in x1 (ln h (gR h 501 (xo + 13))) ∧ (∀ h119 : Hp, h119 = pI h 205 (el h (xo + 3) (ix x1)) (eI h (gR h 501 (xo + 13)) (ix x1)) → ∀ x120 : Int32, x120 = x1 + 1 → Rn M_X0_storm 137 [(0, rV xo), (1, iV x120)] [] h119 k n (qI Q) E)))))) : Rn M_X0_storm 137 [(0, rV xo), (1, iV x1)] [] h k n (qI Q) E := by
  refine r_iload_n (q := 138) dX0_storm_137 rfl 1 rfl ?_
  refine r_aload_n (q := 139) dX0_storm_138 rfl 0 rfl ?_
  refine r_getR (q := 142) L_X0_24 dX0_storm_139 rfl (xw_k hm) (xwr_roofs hm) ?_
  refine r_cVI0 (q := 145) _ [] N_X0_77 rfl dX0_storm_142 rfl rfl rfl (xwk_roofs hm) rfl ?_
  refine ct_J2_size (xwk_roofs hm) ?_
  refine r_icmp_ge (tg := 177) (q := 148) dX0_storm_145 (by decide) rfl (fun c => ?_) (fun c => ?_)
  · have hw := hw.1 c
    refine r_aload_n (q := 178) dX0_storm_177 rfl 0 rfl ?_
    refine r_dup (q := 179) dX0_storm_178 rfl rfl ?_
    refine r_getJ (q := 182) L_X0_408 dX0_storm_179 rfl (xw_k hm) ?_
    refine r_aload_n (q := 183) dX0_storm_182 rfl 0 rfl ?_
    refine r_getR (q := 186) L_X0_67 dX0_storm_183 rfl (xw_k hm) (xwr_run hm) ?_
    refine r_getJ (q := 189) L_X0_411 dX0_storm_186 rfl (xwk_run hm) ?_
    refine r_ladd (q := 190) dX0_storm_189 rfl ?_
    refine r_putJ (q := 193) L_X0_408 dX0_storm_190 rfl (xw_k hm) ?_
    refine r_xw_pJ hm (fun hm => ?_)
    have hw := hw _ rfl
    refine r_aload_n (q := 194) dX0_storm_193 rfl 0 rfl ?_
    refine r_dup (q := 195) dX0_storm_194 rfl rfl ?_
    refine r_getJ (q := 198) L_X0_345 dX0_storm_195 rfl (xw_k hm) ?_
    refine r_aload_n (q := 199) dX0_storm_198 rfl 0 rfl ?_
    refine r_getR (q := 202) L_X0_67 dX0_storm_199 rfl (xw_k hm) (xwr_run hm) ?_
    refine r_getJ (q := 205) L_X0_414 dX0_storm_202 rfl (xwk_run hm) ?_
    refine r_ladd (q := 206) dX0_storm_205 rfl ?_
    refine r_putJ (q := 209) L_X0_345 dX0_storm_206 rfl (xw_k hm) ?_
    refine r_xw_pJ hm (fun hm => ?_)
    have hw := hw _ rfl
    refine r_aload_n (q := 210) dX0_storm_209 rfl 0 rfl ?_
    refine r_dup (q := 211) dX0_storm_210 rfl rfl ?_
    refine r_getJ (q := 214) L_X0_416 dX0_storm_211 rfl (xw_k hm) ?_
    refine r_aload_n (q := 215) dX0_storm_214 rfl 0 rfl ?_
    refine r_getR (q := 218) L_X0_67 dX0_storm_215 rfl (xw_k hm) (xwr_run hm) ?_
    refine r_getJ (q := 221) L_X0_418 dX0_storm_218 rfl (xwk_run hm) ?_
    refine r_ladd (q := 222) dX0_storm_221 rfl ?_
    refine r_putJ (q := 225) L_X0_416 dX0_storm_222 rfl (xw_k hm) ?_
    refine r_xw_pJ hm (fun hm => ?_)
    have hw := hw _ rfl
    refine r_aload_n (q := 226) dX0_storm_225 rfl 0 rfl ?_
    refine r_dup (q := 227) dX0_storm_226 rfl rfl ?_
    refine r_getJ (q := 230) L_X0_421 dX0_storm_227 rfl (xw_k hm) ?_
    refine r_aload_n (q := 231) dX0_storm_230 rfl 0 rfl ?_
    refine r_getR (q := 234) L_X0_67 dX0_storm_231 rfl (xw_k hm) (xwr_run hm) ?_
    refine r_getJ (q := 237) L_X0_424 dX0_storm_234 rfl (xwk_run hm) ?_
    refine r_ladd (q := 238) dX0_storm_237 rfl ?_
    refine r_putJ (q := 241) L_X0_421 dX0_storm_238 rfl (xw_k hm) ?_
    refine r_xw_pJ hm (fun hm => ?_)
    have hw := hw _ rfl
    refine r_aload_n (q := 242) dX0_storm_241 rfl 0 rfl ?_
    refine r_getR (q := 245) L_X0_71 dX0_storm_242 rfl (xw_k hm) (xwr_storms hm) ?_
    refine r_wfH (fun wf => ?_)
    obtain ⟨g105, hw⟩ := hw
    refine r_new (q := 248) (k' := (k - 1)) (n' := (n - 5)) K_X0_427 dX0_storm_245 rfl (by omega) (by omega) ?_
    have hw := hw _ rfl
    refine r_xw_nO hm (fun hm => ?_)
    have hw := hw _ rfl
    refine r_dup (q := 249) dX0_storm_248 rfl rfl ?_
    refine r_aload_n (q := 250) dX0_storm_249 rfl 0 rfl ?_
    refine r_getI (q := 253) L_X0_119 dX0_storm_250 rfl (xw_k hm) ?_
    refine r_aload_n (q := 254) dX0_storm_253 rfl 0 rfl ?_
    refine r_getR (q := 257) L_X0_67 dX0_storm_254 rfl (xw_k hm) (xwr_run hm) ?_
    refine r_getJ (q := 260) L_X0_411 dX0_storm_257 rfl (xwk_run hm) ?_
    refine r_aload_n (q := 261) dX0_storm_260 rfl 0 rfl ?_
    refine r_getR (q := 264) L_X0_67 dX0_storm_261 rfl (xw_k hm) (xwr_run hm) ?_
    refine r_getJ (q := 267) L_X0_418 dX0_storm_264 rfl (xwk_run hm) ?_
    refine r_aload_n (q := 268) dX0_storm_267 rfl 0 rfl ?_
    refine r_getR (q := 271) L_X0_67 dX0_storm_268 rfl (xw_k hm) (xwr_run hm) ?_
    refine r_getI (q := 274) L_X0_429 dX0_storm_271 rfl (xwk_run hm) ?_
    refine r_aload_n (q := 275) dX0_storm_274 rfl 0 rfl ?_
    refine r_getR (q := 278) L_X0_67 dX0_storm_275 rfl (xw_k hm) (xwr_run hm) ?_
    refine r_getI (q := 281) L_X0_432 dX0_storm_278 rfl (xwk_run hm) ?_
    refine r_cIV0 (q := 284) _ [_, _, _, _, _] N_X0_435 rfl rfl dX0_storm_281 rfl rfl rfl (by rw [(kd_nO _ _)]; decide) ?_
    refine r_monoCV (fun h108 hw => ?_) hw
    obtain ⟨hm, hw⟩ := hw
    obtain ⟨k110, n111, k112, n113, hk, hn, hw⟩ := hw
    refine r_cVI (q := 287) _ [_] N_X0_100 rfl dX0_storm_284 rfl rfl rfl (xwk_storms hm) rfl hk hn ?_
    refine r_monoCI (fun x114 h109 hw => ?_) hw
    obtain ⟨hm, hw⟩ := hw
    refine r_pop (q := 288) dX0_storm_287 rfl rfl ?_
    refine r_aload_n (q := 289) dX0_storm_288 rfl 0 rfl ?_
    refine r_getR (q := 292) L_X0_71 dX0_storm_289 rfl (xw_k hm) (xwr_storms hm) ?_
    refine r_cVI0 (q := 295) _ [] N_X0_77 rfl dX0_storm_292 rfl rfl rfl (xwk_storms hm) rfl ?_
    refine ct_J2_size (xwk_storms hm) ?_
    refine r_iconst (q := 296) dX0_storm_295 rfl kI_1 ?_
    refine r_isub (q := 297) dX0_storm_296 rfl ?_
    exact r_iret dX0_storm_297 rfl hw
  · have hw := hw.2 c
    refine r_aload_n (q := 149) dX0_storm_148 rfl 0 rfl ?_
    refine r_getR (q := 152) L_X0_24 dX0_storm_149 rfl (xw_k hm) (xwr_roofs hm) ?_
    refine r_iload_n (q := 153) dX0_storm_152 rfl 1 rfl ?_
    obtain ⟨g115, hw⟩ := hw
    refine r_cVR0 (q := 156) _ [_] N_X0_81 rfl dX0_storm_153 rfl rfl rfl (xwk_roofs hm) rfl ?_
    refine ct_J2_get (xwk_roofs hm) g115 ?_
    obtain ⟨g116, hw⟩ := hw
    refine r_cast (q := 159) q518 rfl dX0_storm_156 rfl g116 ?_
    refine r_aload_n (q := 160) dX0_storm_159 rfl 0 rfl ?_
    refine r_getR (q := 163) L_X0_67 dX0_storm_160 rfl (xw_k hm) (xwr_run hm) ?_
    refine r_getR (q := 166) L_X0_405 dX0_storm_163 rfl (xwk_run hm) rfl ?_
    refine r_iload_n (q := 167) dX0_storm_166 rfl 1 rfl ?_
    obtain ⟨g117, hw⟩ := hw
    obtain ⟨g118, hw⟩ := hw
    refine r_ialdL (q := 168) dX0_storm_167 rfl g117 rfl g118 ?_
    refine r_putI (q := 171) L_X0_368 dX0_storm_168 rfl g116 ?_
    refine r_xw_pI hm (fun hm => ?_)
    refine r_kpI g116 (fun g116 => ?_)
    refine r_kpI g117 (fun g117 => ?_)
    have hw := hw _ rfl
    have hw := hw _ rfl
    refine r_iincW (q := 174) (lv' := [(0, _), (1, _)]) dX0_storm_171 rfl 1 rfl kI_1 (Nat.le_of_ble_eq_true rfl) rfl ?_
    refine r_goto (tg := 137) dX0_storm_174 (by decide) ?_
    exact hw
theorem b_X3_storm_0 {mo : Nat} {h : Hp} {k n : Nat} {Q : Int32 → Hp → Prop} {E : Nat → Hp → Prop} (hm : MW h mo) (hw : (¬ (gI h 1004 mo) = 40 → CtV M_X3_falls [rV mo, iV 0] h 0 0 (fun h101 => MW h101 mo ∧ (Rn M_X3_storm 18 [(0, rV mo), (1, iV 0)] [] h101 k n (qI Q) E)) E) ∧ ((gI h 1004 mo) = 40 → Q (-1) h)) : Rn M_X3_storm 0 [(0, rV mo)] [] h k n (qI Q) E := by
  refine r_aload_n (q := 1) dX3_storm_0 rfl 0 rfl ?_
  refine r_getI (q := 4) L_X3_295 dX3_storm_1 rfl (mw_k hm) ?_
  refine r_bipush (q := 6) dX3_storm_4 rfl kB_40 ?_
  refine r_icmp_ne (tg := 11) (q := 9) dX3_storm_6 (by decide) rfl (fun c => ?_) (fun c => ?_)
  · have hw := hw.1 c
    refine r_aload_n (q := 12) dX3_storm_11 rfl 0 rfl ?_
    refine r_iconst (q := 13) dX3_storm_12 rfl kI_0 ?_
    refine r_cVV0 (q := 16) _ [_] N_X3_298 rfl dX3_storm_13 rfl rfl rfl (mw_k hm) rfl ?_
    refine r_monoCV (fun h101 hw => ?_) hw
    obtain ⟨hm, hw⟩ := hw
    refine r_iconst (q := 17) dX3_storm_16 rfl kI_0 ?_
    refine r_istore_n (q := 18) (lv' := [(0, _), (1, _)]) dX3_storm_17 rfl (Nat.le_of_ble_eq_true rfl) rfl ?_
    exact hw
  · have hw := hw.2 c
    refine r_iconst (q := 10) dX3_storm_9 rfl kI_m1 ?_
    exact r_iret dX3_storm_10 rfl hw
theorem b_X3_storm_18 {x1 : Int32} {mo : Nat} {h : Hp} {k n : Nat} {Q : Int32 → Hp → Prop} {E : Nat → Hp → Prop} (hm : MW h mo) (hw : ((gI h 1002 mo) ≤ x1 → Rn M_X3_storm 46 [(0, rV mo), (1, iV 0)] [] h k n (qI Q) E) ∧ (¬ (gI h 1002 mo) ≤ x1 → vp_in x1 30 ∧ (vp_in x1 30 ∧ (∀ h103 : Hp, h103 = sI h (mo + 23) (ix x1) (eI h (mo + 29) (ix x1)) → ∀ x104 : Int32, x104 = x1 + 1 → Rn M_X3_storm 18 [(0, rV mo), (1, iV x104)] [] h103 k n (qI Q) E)))) : Rn M_X3_storm 18 [(0, rV mo), (1, iV x1)] [] h k n (qI Q) E := by
  refine r_iload_n (q := 19) dX3_storm_18 rfl 1 rfl ?_
  refine r_aload_n (q := 20) dX3_storm_19 rfl 0 rfl ?_
  refine r_getI (q := 23) L_X3_202 dX3_storm_20 rfl (mw_k hm) ?_
  refine r_icmp_ge (tg := 44) (q := 26) dX3_storm_23 (by decide) rfl (fun c => ?_) (fun c => ?_)
  · have hw := hw.1 c
    refine r_iconst (q := 45) dX3_storm_44 rfl kI_0 ?_
    refine r_istore_n (q := 46) (lv' := [(0, _), (1, _)]) dX3_storm_45 rfl (Nat.le_of_ble_eq_true rfl) rfl ?_
    exact hw
  · have hw := hw.2 c
    refine r_aload_n (q := 27) dX3_storm_26 rfl 0 rfl ?_
    refine r_getR (q := 30) L_X3_77 dX3_storm_27 rfl (mw_k hm) (mwr_has hm) ?_
    refine r_iload_n (q := 31) dX3_storm_30 rfl 1 rfl ?_
    refine r_aload_n (q := 32) dX3_storm_31 rfl 0 rfl ?_
    refine r_getR (q := 35) L_X3_95 dX3_storm_32 rfl (mw_k hm) (mwr_barrelNow hm) ?_
    refine r_iload_n (q := 36) dX3_storm_35 rfl 1 rfl ?_
    obtain ⟨g101, hw⟩ := hw
    refine r_ialdL (q := 37) dX3_storm_36 rfl (mwk_barrelNow hm) (mwl_barrelNow hm) g101 ?_
    obtain ⟨g102, hw⟩ := hw
    refine r_iastL (q := 38) dX3_storm_37 rfl (mwk_has hm) (mwl_has hm) g102 ?_
    refine r_mw_sI hm (fun hm => ?_)
    have hw := hw _ rfl
    have hw := hw _ rfl
    refine r_iincW (q := 41) (lv' := [(0, _), (1, _)]) dX3_storm_38 rfl 1 rfl kI_1 (Nat.le_of_ble_eq_true rfl) rfl ?_
    refine r_goto (tg := 18) dX3_storm_41 (by decide) ?_
    exact hw
theorem b_X3_storm_46 {x1 : Int32} {mo : Nat} {h : Hp} {k n : Nat} {Q : Int32 → Hp → Prop} {E : Nat → Hp → Prop} (hm : MW h mo) (hw : ((gI h 1001 mo) ≤ x1 → ∀ h101 : Hp, h101 = pJ h 1035 mo ((gJ h 1035 mo) + (gJ h 1047 mo)) → ∀ h102 : Hp, h102 = pJ h101 1036 mo ((gJ h101 1036 mo) + (gJ h101 1048 mo)) → ∀ h103 : Hp, h103 = pJ h102 1037 mo ((gJ h102 1037 mo) + (gJ h102 1049 mo)) → ∀ h104 : Hp, h104 = pJ h103 1038 mo ((gJ h103 1038 mo) + (gJ h103 1050 mo)) → vp_in (gI h104 1004 mo) 40 ∧ (∀ h106 : Hp, h106 = sI h104 (mo + 41) (ix (gI h104 1004 mo)) (gI h104 1000 mo) → vp_in (gI h106 1004 mo) 40 ∧ (∀ h108 : Hp, h108 = sJ h106 (mo + 36) (ix (gI h106 1004 mo)) (gJ h106 1047 mo) → vp_in (gI h108 1004 mo) 40 ∧ (∀ h110 : Hp, h110 = sJ h108 (mo + 37) (ix (gI h108 1004 mo)) (gJ h108 1049 mo) → vp_in (gI h110 1004 mo) 40 ∧ (∀ h112 : Hp, h112 = sI h110 (mo + 42) (ix (gI h110 1004 mo)) (gI h110 1052 mo) → vp_in (gI h112 1004 mo) 40 ∧ (∀ h114 : Hp, h114 = sJ h112 (mo + 38) (ix (gI h112 1004 mo)) (gJ h112 1051 mo) → ∀ h115 : Hp, h115 = pI h114 1004 mo ((gI h114 1004 mo) + 1) → Q ((gI h115 1004 mo) - 1) h115)))))) ∧ (¬ (gI h 1001 mo) ≤ x1 → vp_in x1 12 ∧ (vp_in x1 12 ∧ (∀ h118 : Hp, h118 = sI h (mo + 15) (ix x1) (eI h (mo + 30) (ix x1)) → vp_in x1 12 ∧ (vp_in x1 12 ∧ (∀ h121 : Hp, h121 = sJ h118 (mo + 39) (ix x1) (eJ h118 (mo + 33) (ix x1)) → vp_in x1 12 ∧ (vp_in x1 12 ∧ (∀ h124 : Hp, h124 = sJ h121 (mo + 40) (ix x1) (eJ h121 (mo + 34) (ix x1)) → vp_in x1 12 ∧ (vp_in x1 12 ∧ (∀ h127 : Hp, h127 = sI h124 (mo + 43) (ix x1) (eI h124 (mo + 35) (ix x1)) → ∀ x128 : Int32, x128 = x1 + 1 → Rn M_X3_storm 46 [(0, rV mo), (1, iV x128)] [] h127 k n (qI Q) E)))))))))) : Rn M_X3_storm 46 [(0, rV mo), (1, iV x1)] [] h k n (qI Q) E := by
  refine r_iload_n (q := 47) dX3_storm_46 rfl 1 rfl ?_
  refine r_aload_n (q := 48) dX3_storm_47 rfl 0 rfl ?_
  refine r_getI (q := 51) L_X3_191 dX3_storm_48 rfl (mw_k hm) ?_
  refine r_icmp_ge (tg := 108) (q := 54) dX3_storm_51 (by decide) rfl (fun c => ?_) (fun c => ?_)
  · have hw := hw.1 c
    refine r_aload_n (q := 109) dX3_storm_108 rfl 0 rfl ?_
    refine r_dup (q := 110) dX3_storm_109 rfl rfl ?_
    refine r_getJ (q := 113) L_X3_301 dX3_storm_110 rfl (mw_k hm) ?_
    refine r_aload_n (q := 114) dX3_storm_113 rfl 0 rfl ?_
    refine r_getJ (q := 117) L_X3_260 dX3_storm_114 rfl (mw_k hm) ?_
    refine r_ladd (q := 118) dX3_storm_117 rfl ?_
    refine r_putJ (q := 121) L_X3_301 dX3_storm_118 rfl (mw_k hm) ?_
    refine r_mw_pJ hm (fun hm => ?_)
    have hw := hw _ rfl
    refine r_aload_n (q := 122) dX3_storm_121 rfl 0 rfl ?_
    refine r_dup (q := 123) dX3_storm_122 rfl rfl ?_
    refine r_getJ (q := 126) L_X3_233 dX3_storm_123 rfl (mw_k hm) ?_
    refine r_aload_n (q := 127) dX3_storm_126 rfl 0 rfl ?_
    refine r_getJ (q := 130) L_X3_263 dX3_storm_127 rfl (mw_k hm) ?_
    refine r_ladd (q := 131) dX3_storm_130 rfl ?_
    refine r_putJ (q := 134) L_X3_233 dX3_storm_131 rfl (mw_k hm) ?_
    refine r_mw_pJ hm (fun hm => ?_)
    have hw := hw _ rfl
    refine r_aload_n (q := 135) dX3_storm_134 rfl 0 rfl ?_
    refine r_dup (q := 136) dX3_storm_135 rfl rfl ?_
    refine r_getJ (q := 139) L_X3_304 dX3_storm_136 rfl (mw_k hm) ?_
    refine r_aload_n (q := 140) dX3_storm_139 rfl 0 rfl ?_
    refine r_getJ (q := 143) L_X3_266 dX3_storm_140 rfl (mw_k hm) ?_
    refine r_ladd (q := 144) dX3_storm_143 rfl ?_
    refine r_putJ (q := 147) L_X3_304 dX3_storm_144 rfl (mw_k hm) ?_
    refine r_mw_pJ hm (fun hm => ?_)
    have hw := hw _ rfl
    refine r_aload_n (q := 148) dX3_storm_147 rfl 0 rfl ?_
    refine r_dup (q := 149) dX3_storm_148 rfl rfl ?_
    refine r_getJ (q := 152) L_X3_307 dX3_storm_149 rfl (mw_k hm) ?_
    refine r_aload_n (q := 153) dX3_storm_152 rfl 0 rfl ?_
    refine r_getJ (q := 156) L_X3_269 dX3_storm_153 rfl (mw_k hm) ?_
    refine r_ladd (q := 157) dX3_storm_156 rfl ?_
    refine r_putJ (q := 160) L_X3_307 dX3_storm_157 rfl (mw_k hm) ?_
    refine r_mw_pJ hm (fun hm => ?_)
    have hw := hw _ rfl
    refine r_aload_n (q := 161) dX3_storm_160 rfl 0 rfl ?_
    refine r_getR (q := 164) L_X3_132 dX3_storm_161 rfl (mw_k hm) (mwr_stormDay hm) ?_
    refine r_aload_n (q := 165) dX3_storm_164 rfl 0 rfl ?_
    refine r_getI (q := 168) L_X3_295 dX3_storm_165 rfl (mw_k hm) ?_
    refine r_aload_n (q := 169) dX3_storm_168 rfl 0 rfl ?_
    refine r_getI (q := 172) L_X3_212 dX3_storm_169 rfl (mw_k hm) ?_
    obtain ⟨g105, hw⟩ := hw
    refine r_iastL (q := 173) dX3_storm_172 rfl (mwk_stormDay hm) (mwl_stormDay hm) g105 ?_
    refine r_mw_sI hm (fun hm => ?_)
    have hw := hw _ rfl
    refine r_aload_n (q := 174) dX3_storm_173 rfl 0 rfl ?_
    refine r_getR (q := 177) L_X3_117 dX3_storm_174 rfl (mw_k hm) (mwr_stormRain hm) ?_
    refine r_aload_n (q := 178) dX3_storm_177 rfl 0 rfl ?_
    refine r_getI (q := 181) L_X3_295 dX3_storm_178 rfl (mw_k hm) ?_
    refine r_aload_n (q := 182) dX3_storm_181 rfl 0 rfl ?_
    refine r_getJ (q := 185) L_X3_260 dX3_storm_182 rfl (mw_k hm) ?_
    obtain ⟨g107, hw⟩ := hw
    refine r_lastL (q := 186) dX3_storm_185 rfl (mwk_stormRain hm) (mwl_stormRain hm) g107 ?_
    refine r_mw_sJ hm (fun hm => ?_)
    have hw := hw _ rfl
    refine r_aload_n (q := 187) dX3_storm_186 rfl 0 rfl ?_
    refine r_getR (q := 190) L_X3_120 dX3_storm_187 rfl (mw_k hm) (mwr_stormSpilt hm) ?_
    refine r_aload_n (q := 191) dX3_storm_190 rfl 0 rfl ?_
    refine r_getI (q := 194) L_X3_295 dX3_storm_191 rfl (mw_k hm) ?_
    refine r_aload_n (q := 195) dX3_storm_194 rfl 0 rfl ?_
    refine r_getJ (q := 198) L_X3_266 dX3_storm_195 rfl (mw_k hm) ?_
    obtain ⟨g109, hw⟩ := hw
    refine r_lastL (q := 199) dX3_storm_198 rfl (mwk_stormSpilt hm) (mwl_stormSpilt hm) g109 ?_
    refine r_mw_sJ hm (fun hm => ?_)
    have hw := hw _ rfl
    refine r_aload_n (q := 200) dX3_storm_199 rfl 0 rfl ?_
    refine r_getR (q := 203) L_X3_135 dX3_storm_200 rfl (mw_k hm) (mwr_stormWet hm) ?_
    refine r_aload_n (q := 204) dX3_storm_203 rfl 0 rfl ?_
    refine r_getI (q := 207) L_X3_295 dX3_storm_204 rfl (mw_k hm) ?_
    refine r_aload_n (q := 208) dX3_storm_207 rfl 0 rfl ?_
    refine r_getI (q := 211) L_X3_275 dX3_storm_208 rfl (mw_k hm) ?_
    obtain ⟨g111, hw⟩ := hw
    refine r_iastL (q := 212) dX3_storm_211 rfl (mwk_stormWet hm) (mwl_stormWet hm) g111 ?_
    refine r_mw_sI hm (fun hm => ?_)
    have hw := hw _ rfl
    refine r_aload_n (q := 213) dX3_storm_212 rfl 0 rfl ?_
    refine r_getR (q := 216) L_X3_123 dX3_storm_213 rfl (mw_k hm) (mwr_stormMost hm) ?_
    refine r_aload_n (q := 217) dX3_storm_216 rfl 0 rfl ?_
    refine r_getI (q := 220) L_X3_295 dX3_storm_217 rfl (mw_k hm) ?_
    refine r_aload_n (q := 221) dX3_storm_220 rfl 0 rfl ?_
    refine r_getJ (q := 224) L_X3_272 dX3_storm_221 rfl (mw_k hm) ?_
    obtain ⟨g113, hw⟩ := hw
    refine r_lastL (q := 225) dX3_storm_224 rfl (mwk_stormMost hm) (mwl_stormMost hm) g113 ?_
    refine r_mw_sJ hm (fun hm => ?_)
    have hw := hw _ rfl
    refine r_aload_n (q := 226) dX3_storm_225 rfl 0 rfl ?_
    refine r_dup (q := 227) dX3_storm_226 rfl rfl ?_
    refine r_getI (q := 230) L_X3_295 dX3_storm_227 rfl (mw_k hm) ?_
    refine r_iconst (q := 231) dX3_storm_230 rfl kI_1 ?_
    refine r_iadd (q := 232) dX3_storm_231 rfl ?_
    refine r_putI (q := 235) L_X3_295 dX3_storm_232 rfl (mw_k hm) ?_
    refine r_mw_pI hm (fun hm => ?_)
    have hw := hw _ rfl
    refine r_aload_n (q := 236) dX3_storm_235 rfl 0 rfl ?_
    refine r_getI (q := 239) L_X3_295 dX3_storm_236 rfl (mw_k hm) ?_
    refine r_iconst (q := 240) dX3_storm_239 rfl kI_1 ?_
    refine r_isub (q := 241) dX3_storm_240 rfl ?_
    exact r_iret dX3_storm_241 rfl hw
  · have hw := hw.2 c
    refine r_aload_n (q := 55) dX3_storm_54 rfl 0 rfl ?_
    refine r_getR (q := 58) L_X3_53 dX3_storm_55 rfl (mw_k hm) (mwr_holds hm) ?_
    refine r_iload_n (q := 59) dX3_storm_58 rfl 1 rfl ?_
    refine r_aload_n (q := 60) dX3_storm_59 rfl 0 rfl ?_
    refine r_getR (q := 63) L_X3_98 dX3_storm_60 rfl (mw_k hm) (mwr_bowlNow hm) ?_
    refine r_iload_n (q := 64) dX3_storm_63 rfl 1 rfl ?_
    obtain ⟨g116, hw⟩ := hw
    refine r_ialdL (q := 65) dX3_storm_64 rfl (mwk_bowlNow hm) (mwl_bowlNow hm) g116 ?_
    obtain ⟨g117, hw⟩ := hw
    refine r_iastL (q := 66) dX3_storm_65 rfl (mwk_holds hm) (mwl_holds hm) g117 ?_
    refine r_mw_sI hm (fun hm => ?_)
    have hw := hw _ rfl
    refine r_aload_n (q := 67) dX3_storm_66 rfl 0 rfl ?_
    refine r_getR (q := 70) L_X3_126 dX3_storm_67 rfl (mw_k hm) (mwr_toldSpilt hm) ?_
    refine r_iload_n (q := 71) dX3_storm_70 rfl 1 rfl ?_
    refine r_aload_n (q := 72) dX3_storm_71 rfl 0 rfl ?_
    refine r_getR (q := 75) L_X3_108 dX3_storm_72 rfl (mw_k hm) (mwr_spiltAt hm) ?_
    refine r_iload_n (q := 76) dX3_storm_75 rfl 1 rfl ?_
    obtain ⟨g119, hw⟩ := hw
    refine r_laldL (q := 77) dX3_storm_76 rfl (mwk_spiltAt hm) (mwl_spiltAt hm) g119 ?_
    obtain ⟨g120, hw⟩ := hw
    refine r_lastL (q := 78) dX3_storm_77 rfl (mwk_toldSpilt hm) (mwl_toldSpilt hm) g120 ?_
    refine r_mw_sJ hm (fun hm => ?_)
    have hw := hw _ rfl
    refine r_aload_n (q := 79) dX3_storm_78 rfl 0 rfl ?_
    refine r_getR (q := 82) L_X3_129 dX3_storm_79 rfl (mw_k hm) (mwr_toldMost hm) ?_
    refine r_iload_n (q := 83) dX3_storm_82 rfl 1 rfl ?_
    refine r_aload_n (q := 84) dX3_storm_83 rfl 0 rfl ?_
    refine r_getR (q := 87) L_X3_111 dX3_storm_84 rfl (mw_k hm) (mwr_mostAt hm) ?_
    refine r_iload_n (q := 88) dX3_storm_87 rfl 1 rfl ?_
    obtain ⟨g122, hw⟩ := hw
    refine r_laldL (q := 89) dX3_storm_88 rfl (mwk_mostAt hm) (mwl_mostAt hm) g122 ?_
    obtain ⟨g123, hw⟩ := hw
    refine r_lastL (q := 90) dX3_storm_89 rfl (mwk_toldMost hm) (mwl_toldMost hm) g123 ?_
    refine r_mw_sJ hm (fun hm => ?_)
    have hw := hw _ rfl
    refine r_aload_n (q := 91) dX3_storm_90 rfl 0 rfl ?_
    refine r_getR (q := 94) L_X3_138 dX3_storm_91 rfl (mw_k hm) (mwr_toldWet hm) ?_
    refine r_iload_n (q := 95) dX3_storm_94 rfl 1 rfl ?_
    refine r_aload_n (q := 96) dX3_storm_95 rfl 0 rfl ?_
    refine r_getR (q := 99) L_X3_114 dX3_storm_96 rfl (mw_k hm) (mwr_wetAt hm) ?_
    refine r_iload_n (q := 100) dX3_storm_99 rfl 1 rfl ?_
    obtain ⟨g125, hw⟩ := hw
    refine r_ialdL (q := 101) dX3_storm_100 rfl (mwk_wetAt hm) (mwl_wetAt hm) g125 ?_
    obtain ⟨g126, hw⟩ := hw
    refine r_iastL (q := 102) dX3_storm_101 rfl (mwk_toldWet hm) (mwl_toldWet hm) g126 ?_
    refine r_mw_sI hm (fun hm => ?_)
    have hw := hw _ rfl
    have hw := hw _ rfl
    refine r_iincW (q := 105) (lv' := [(0, _), (1, _)]) dX3_storm_102 rfl 1 rfl kI_1 (Nat.le_of_ble_eq_true rfl) rfl ?_
    refine r_goto (tg := 46) dX3_storm_105 (by decide) ?_
    exact hw
