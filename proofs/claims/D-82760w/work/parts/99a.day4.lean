/-! a day: the ghost heap; the rules that are on -/
set_option maxRecDepth 100000
section
variable {h g a : Hp} {x i : Nat} {E : Nat → Hp → Prop} {k n : Nat}
theorem mx_dm : DM g (mx a g x) x := ⟨fun _ _ h1 h2 => eI_mM h1 h2, fun f _ => gI_mM f⟩
theorem now_mx (w : Int32) : V_X3_now (mx a g x) (x + 23) w = V_X3_now g (x + 23) w := by
  unfold V_X3_now
  rw [gI_mM, mx_dm.qlw]
theorem drk_mx (c : Int32) : V_X3_drink (mx a g x) (x + 23) c = V_X3_drink g (x + 23) c := mx_dm.drk c
theorem ag1_mx : ag1 (mx a g x) x i = mx a (ag1 g x i) x := by
  unfold ag1 mo2 mo1
  rw [mxM_sI (by decide) (by decide), now_mx, eI_mM (by decide) (by decide), eI_mM (by decide) (by decide), eI_mM (by decide) (by decide)]
theorem ag2_mx : ag2 (mx a g x) x i = mx a (ag2 g x i) x := by
  unfold ag2
  rw [now_mx, now_mx, gI_mM, eI_mM (by decide) (by decide), eI_mM (by decide) (by decide)]
  by_cases c : isFb (irm (gI g 1000 (x + 23)) 365) (V_X3_now g (x + 23) 1) (V_X3_now g (x + 23) 2) = true
  · rw [if_pos c, if_pos c, mxM_sI (by decide) (by decide)]
  · rw [if_neg c, if_neg c]
theorem snk_mx : snk (mx a g x) x i = snk g x i := by
  unfold snk
  rw [drk_mx, eI_mM (by decide) (by decide)]
theorem ag3_mx : ag3 (mx a g x) x i = mx a (ag3 g x i) x := by
  unfold ag3
  rw [mxM_pJ, mxM_sI (by decide) (by decide), snk_mx, gJ_mM, eI_mM (by decide) (by decide)]
theorem ag4_mx : ag4 (mx a g x) x i = mx a (ag4 g x i) x := by
  unfold ag4
  rw [mxM_sI (by decide) (by decide), eI_mM (by decide) (by decide), eI_mM (by decide) (by decide)]
theorem ag5_mx : ag5 (mx a g x) x i = mx a (ag5 g x i) x := by
  unfold ag5
  rw [now_mx, eI_mM (by decide) (by decide)]
  by_cases c : eI g (x + 23 + 16) i = V_X3_now g (x + 23) 6 + 1
  · rw [if_pos c, if_pos c]; exact cmM_mx _ _
  · rw [if_neg c, if_neg c]
theorem ag6_mx : ag6 (mx a g x) x i = mx a (ag6 g x i) x := by
  unfold ag6
  rw [now_mx, gI_mM, eI_mM (by decide) (by decide)]
  by_cases c : irm (gI g 1000 (x + 23)) 365 = 60
  · rw [if_pos c, if_pos c]
    by_cases d : eI g (x + 23 + 14) i ≤ V_X3_now g (x + 23) 5
    · rw [if_pos d, if_pos d, mxM_sI (by decide) (by decide)]
    · rw [if_neg d, if_neg d, mxM_sI (by decide) (by decide), mxM_sI (by decide) (by decide)]
  · rw [if_neg c, if_neg c]
theorem agM_mx : agM (mx a g x) x i = mx a (agM g x i) x := by
  unfold agM
  rw [ag1_mx, ag2_mx, ag3_mx, ag4_mx, ag5_mx, ag6_mx]
/-- cells that are not the model's -/
theorem gI_mK (M : kd h (x + 23) = 11) {b c f : Nat} (hk : kd h b = c) (hc : c ≠ 11) : gI (mx h g x) f b = gI h f b := gI_mX (fun e => hc (by rw [← hk, e]; exact M))
theorem ALg_mx {b : Nat} (hb : b ≠ x + 23) {v : Int32} (H : ALg (mx h g x) b v) : ALg h b v := by
  unfold ALg at H ⊢
  rw [gI_mX hb, kd_mx, gR_mx, ln_mx] at H
  exact H
theorem nU_mx : nU (mx a g x) x = nU g x := by unfold nU; rw [gI_mM]
theorem cx_numberOn (H : CP (mx h g x) x) {d : Int32} {Q : Int32 → Hp → Prop} (hq : Q (frcx g x d) h) : CtI M_X0_numberOn [rV x, iV d] h k n Q E := by
  have X := XW_mx H.xw
  have M : kd h (x + 23) = 11 := mw_k (MW_mx H.mw)
  have sz : gI (mx h g x) 1102 (x + 4) = gI h 1102 (x + 4) := gI_mX (by omega)
  refine b_X0_numberOn_0 X ?_
  rw [← nI0]
  refine itr_loop (inv := fun i v => Rn M_X0_numberOn 4 [(0, rV x), (1, iV d), (2, iV v), (3, iV (nI i))] [] h k n (qI Q) E) (f := frcF (eI g (x + 23 + 51)) d) (m := nU g x) (fun i v hi hw => ?_) ?_
  · have hi' : i < nU (mx h g x) x := by rw [nU_mx]; exact hi
    obtain ⟨a1, a2, a3, a4⟩ := H.rulI hi'
    have b2 := (H.pu.2 i hi').2.2.1
    rw [el_mx] at b2 a4
    rw [gI_mK M (c := 5) a4 (by decide), eI_mM (by decide) (by decide)] at b2
    rw [sz] at a1
    refine b_X0_numberOn_4 X ⟨fun c => absurd c a1, fun _ => ?_⟩
    rw [a3, b2]
    refine ⟨ALg_mx (by omega) a2, a4, fun c => ?_, fun c => ?_⟩
    all_goals (rintro _ rfl; rw [nI_add1]; simpa [frcF, c] using hw)
  · have := H.rulE
    rw [sz, nU_mx] at this
    exact b_X0_numberOn_4 X ⟨fun _ => hq, fun c => absurd this c⟩
/-- the rules object that is on -/
def onG (h g : Hp) (x : Nat) (d : Int32) : Nat := if 0 ≤ frcx g x d then el h (x + 4) (ix (frcx g x d)) else x + 5
theorem onG_V (d : Int32) : V_X0_on (mx h g x) x d = onG h g x d := by
  have e : frcx (mx h g x) x d = frcx g x d := by unfold frcx; rw [nU_mx, eI_mM (by decide) (by decide)]
  unfold V_X0_on onG
  rw [e, el_mx]
theorem cx_on (H : CP (mx h g x) x) {d : Int32} {Q : Nat → Hp → Prop} (hq : Q (onG h g x d) h) : CtR M_X0_on [rV x, iV d] h k n Q E := by
  have X := XW_mx H.xw
  have p := (H.on d).1
  have e : frcx (mx h g x) x d = frcx g x d := by unfold frcx; rw [nU_mx, eI_mM (by decide) (by decide)]
  unfold P_X0_on at p
  rw [e, el_mx] at p
  unfold onG at hq
  refine bz_X0_on_0 X (cx_numberOn H ⟨X, fun c => cx_numberOn H ⟨X, ?_⟩, fun c => ?_⟩)
  · rw [if_pos c] at hq
    obtain ⟨-, q1, q2⟩ := p.2.1 c
    exact ⟨ALg_mx (by omega) q1, q2, hq⟩
  · rw [if_neg c] at hq; exact hq
end
