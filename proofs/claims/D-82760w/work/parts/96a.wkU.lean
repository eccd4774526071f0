/-! walks -/
set_option maxRecDepth 100000
theorem bz_X0_on_0 {x1 : Int32} {xo : Nat} {h : Hp} {k n : Nat} {Q : Nat → Hp → Prop} {E : Nat → Hp → Prop} (hm : XW h xo) (hw : CtI M_X0_numberOn [rV xo, iV x1] h 0 0 (fun x102 h101 => XW h101 xo ∧ ((0 ≤ x102 → CtI M_X0_numberOn [rV xo, iV x1] h101 0 0 (fun x104 h103 => XW h103 xo ∧ ((ALg h103 (xo + 4) x104) ∧ (kd h103 (el h103 (xo + 4) (ix x104)) = 5 ∧ (Q (el h103 (xo + 4) (ix x104)) h103)))) E) ∧ (¬ 0 ≤ x102 → Q (xo + 5) h101))) E) : Rn M_X0_on 0 [(0, rV xo), (1, iV x1)] [] h k n (qR Q) E := by
  refine r_aload_n (q := 1) dX0_on_0 rfl 0 rfl ?_
  refine r_iload_n (q := 2) dX0_on_1 rfl 1 rfl ?_
  refine r_cVI0 (q := 5) _ [_] N_X0_168 rfl dX0_on_2 rfl rfl rfl (xw_k hm) rfl ?_
  refine r_monoCI (fun x102 h101 hw => ?_) hw
  obtain ⟨hm, hw⟩ := hw
  refine r_if_ge (tg := 15) (q := 8) dX0_on_5 (by decide) rfl (fun c => ?_) (fun c => ?_)
  · have hw := hw.1 c
    refine r_aload_n (q := 16) dX0_on_15 rfl 0 rfl ?_
    refine r_getR (q := 19) L_X0_27 dX0_on_16 rfl (xw_k hm) (xwr_rules hm) ?_
    refine r_aload_n (q := 20) dX0_on_19 rfl 0 rfl ?_
    refine r_iload_n (q := 21) dX0_on_20 rfl 1 rfl ?_
    refine r_cVI0 (q := 24) _ [_] N_X0_168 rfl dX0_on_21 rfl rfl rfl (xw_k hm) rfl ?_
    refine r_monoCI (fun x104 h103 hw => ?_) hw
    obtain ⟨hm, hw⟩ := hw
    obtain ⟨g105, hw⟩ := hw
    refine r_cVR0 (q := 27) _ [_] N_X0_81 rfl dX0_on_24 rfl rfl rfl (xwk_rules hm) rfl ?_
    refine ct_J2_get (xwk_rules hm) g105 ?_
    obtain ⟨g106, hw⟩ := hw
    refine r_cast (q := 30) q124 rfl dX0_on_27 rfl g106 ?_
    exact r_aret dX0_on_30 rfl (Or.inl ⟨_, rfl⟩) hw
  · have hw := hw.2 c
    refine r_aload_n (q := 9) dX0_on_8 rfl 0 rfl ?_
    refine r_getR (q := 12) L_X0_35 dX0_on_9 rfl (xw_k hm) (xwr_bare hm) ?_
    refine r_goto (tg := 30) dX0_on_12 (by decide) ?_
    exact r_aret dX0_on_30 rfl (Or.inl ⟨_, rfl⟩) hw
