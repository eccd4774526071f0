/-! walks -/
set_option maxRecDepth 100000
theorem b_X3_now_0 {x1 : Int32} {mo : Nat} {h : Hp} {k n : Nat} {Q : Int32 → Hp → Prop} {E : Nat → Hp → Prop} (hm : MW h mo) (hw : (LWp h mo) ∧ (Q (lawn h mo (gI h 1000 mo) x1) h)) : Rn M_X3_now 0 [(0, rV mo), (1, iV x1)] [] h k n (qI Q) E := by
  refine r_aload_n (q := 1) dX3_now_0 rfl 0 rfl ?_
  refine r_aload_n (q := 2) dX3_now_1 rfl 0 rfl ?_
  refine r_getI (q := 5) L_X3_212 dX3_now_2 rfl (mw_k hm) ?_
  refine r_iload_n (q := 6) dX3_now_5 rfl 1 rfl ?_
  obtain ⟨g101, hw⟩ := hw
  refine r_cVI0 (q := 9) _ [_, _] N_X3_332 rfl dX3_now_6 rfl rfl rfl (mw_k hm) rfl ?_
  refine cs_X3_lawOn hm g101 ?_
  exact r_iret dX3_now_9 rfl hw
def V_X3_now (h : Hp) (mo : Nat) (x1 : Int32) : Int32 := (lawn h mo (gI h 1000 mo) x1)
def P_X3_now (h : Hp) (mo : Nat) (x1 : Int32) : Prop := (LWp h mo)
theorem ct_X3_now {h : Hp} {E : Nat → Hp → Prop} {k n : Nat} {mo : Nat} {x1 : Int32} (hm : MW h mo) (hp : P_X3_now h mo x1) {Q : Int32 → Hp → Prop} (hq : Q (V_X3_now h mo x1) h) : CtI M_X3_now [rV mo, iV x1] h k n Q E := by
  unfold P_X3_now at hp
  unfold V_X3_now at hq
  refine b_X3_now_0 hm ?_
  refine ⟨hp, ?_⟩
  exact hq
theorem b_X0_on_0 {x1 : Int32} {xo : Nat} {h : Hp} {k n : Nat} {Q : Nat → Hp → Prop} {E : Nat → Hp → Prop} (hm : XW h xo) (hw : (CP h xo) ∧ ((0 ≤ (frcx h xo x1) → (CP h xo) ∧ ((ALg h (xo + 4) (frcx h xo x1)) ∧ (kd h (el h (xo + 4) (ix (frcx h xo x1))) = 5 ∧ (Q (el h (xo + 4) (ix (frcx h xo x1))) h)))) ∧ (¬ 0 ≤ (frcx h xo x1) → Q (xo + 5) h))) : Rn M_X0_on 0 [(0, rV xo), (1, iV x1)] [] h k n (qR Q) E := by
  refine r_aload_n (q := 1) dX0_on_0 rfl 0 rfl ?_
  refine r_iload_n (q := 2) dX0_on_1 rfl 1 rfl ?_
  obtain ⟨g101, hw⟩ := hw
  refine r_cVI0 (q := 5) _ [_] N_X0_168 rfl dX0_on_2 rfl rfl rfl (xw_k hm) rfl ?_
  refine cs_X0_numberOn hm g101 ?_
  refine r_if_ge (tg := 15) (q := 8) dX0_on_5 (by decide) rfl (fun c => ?_) (fun c => ?_)
  · have hw := hw.1 c
    refine r_aload_n (q := 16) dX0_on_15 rfl 0 rfl ?_
    refine r_getR (q := 19) L_X0_27 dX0_on_16 rfl (xw_k hm) (xwr_rules hm) ?_
    refine r_aload_n (q := 20) dX0_on_19 rfl 0 rfl ?_
    refine r_iload_n (q := 21) dX0_on_20 rfl 1 rfl ?_
    obtain ⟨g102, hw⟩ := hw
    refine r_cVI0 (q := 24) _ [_] N_X0_168 rfl dX0_on_21 rfl rfl rfl (xw_k hm) rfl ?_
    refine cs_X0_numberOn hm g102 ?_
    obtain ⟨g103, hw⟩ := hw
    refine r_cVR0 (q := 27) _ [_] N_X0_81 rfl dX0_on_24 rfl rfl rfl (xwk_rules hm) rfl ?_
    refine ct_J2_get (xwk_rules hm) g103 ?_
    obtain ⟨g104, hw⟩ := hw
    refine r_cast (q := 30) q124 rfl dX0_on_27 rfl g104 ?_
    exact r_aret dX0_on_30 rfl (Or.inl ⟨_, rfl⟩) hw
  · have hw := hw.2 c
    refine r_aload_n (q := 9) dX0_on_8 rfl 0 rfl ?_
    refine r_getR (q := 12) L_X0_35 dX0_on_9 rfl (xw_k hm) (xwr_bare hm) ?_
    refine r_goto (tg := 30) dX0_on_12 (by decide) ?_
    exact r_aret dX0_on_30 rfl (Or.inl ⟨_, rfl⟩) hw
def V_X0_on (h : Hp) (xo : Nat) (x1 : Int32) : Nat := (if 0 ≤ (frcx h xo x1) then (el h (xo + 4) (ix (frcx h xo x1))) else (xo + 5))
def P_X0_on (h : Hp) (xo : Nat) (x1 : Int32) : Prop := (CP h xo) ∧ ((0 ≤ (frcx h xo x1) → (CP h xo) ∧ ((ALg h (xo + 4) (frcx h xo x1)) ∧ (kd h (el h (xo + 4) (ix (frcx h xo x1))) = 5))) ∧ (¬ 0 ≤ (frcx h xo x1) → True))
theorem ct_X0_on {h : Hp} {E : Nat → Hp → Prop} {k n : Nat} {xo : Nat} {x1 : Int32} (hm : XW h xo) (hp : P_X0_on h xo x1) {Q : Nat → Hp → Prop} (hq : Q (V_X0_on h xo x1) h) : CtR M_X0_on [rV xo, iV x1] h k n Q E := by
  unfold P_X0_on at hp
  unfold V_X0_on at hq
  refine b_X0_on_0 hm ?_
  refine ⟨hp.1, ?_⟩
  have hp := hp.2
  refine ⟨fun c => ?_, fun c => ?_⟩
  · rw [if_pos c] at hq
    have hp := hp.1 c
    refine ⟨hp.1, ?_⟩
    have hp := hp.2
    refine ⟨hp.1, ?_⟩
    have hp := hp.2
    refine ⟨hp, ?_⟩
    exact hq
  · rw [if_neg (by first | exact c | exact fun z => z c | (rw [c]; decide))] at hq
    have hp := hp.2 c
    exact hq
