/-! a day: the component's bed, water -/
set_option maxRecDepth 100000
section
variable {h g h' g' : Hp} {x i r : Nat} {E : Nat → Hp → Prop} {k n : Nat}
theorem pI_pJ_comm {f a f' a' : Nat} {v : Int32} {w : Int64} : pI (pJ h f' a' w) f a v = pJ (pI h f a v) f' a' w := by
  refine hp_ext (by rw [nx_pI, nx_pJ, nx_pJ, nx_pI]) (by rw [kd_pI, kd_pJ, kd_pJ, kd_pI]) (by rw [ln_pI, ln_pJ, ln_pJ, ln_pI]) ?_ ?_ (by rw [gR_pI, gR_pJ, gR_pJ, gR_pI]) (by rw [eI_pI, eI_pJ, eI_pJ, eI_pI]) (by rw [eJ_pI, eJ_pJ, eJ_pJ, eJ_pI]) (by rw [eR_pI, eR_pJ, eR_pJ, eR_pI]) (by rw [kc_pI, kc_pJ, kc_pJ, kc_pI])
  · funext p q; rw [gI_pI, gI_pJ, gI_pJ, gI_pI]
  · funext p q; rw [gJ_pI, gJ_pJ, gJ_pJ, gJ_pI]
theorem bedp_mx : bedp (mx h g x) x i = bedp h x i := by unfold bedp; rw [gR_mx, el_mx]
theorem snk_bd (H : CP (mx h g x) x) (hi : i < nC g x) : bd (snk g x i) 0 500 ∧ bd (eI g (x + 23 + 15) i - snk g x i) 0 500 := by
  have hC := H.nC_le.2
  rw [nC_mx] at hC
  have hd := drk_bd H.mdb (i := i) (by rw [nC_mx]; exact hi)
  rw [drk_mx] at hd
  have h2 : bd (20 : Int32) 0 20 := ⟨by decide, by decide⟩
  obtain ⟨m1, m2, m3⟩ := i32m h2 hd (by decide)
  have h1 := (bd_g H (i := i) (by omega)).2.2.1
  have a1 := h1.1
  have a2 := h1.2
  have e : (snk g x i).toInt = min (eI g (x + 23 + 15) i).toInt ((20 : Int32).toInt * (V_X3_drink g (x + 23) (nI i)).toInt) := by unfold snk; rw [imin_toInt, m1]
  have hs : bd (snk g x i) 0 500 := by unfold bd; rw [e]; omega
  refine ⟨hs, ?_⟩
  unfold bd
  rw [i32_sub (by have := hs.1; have := hs.2; omega) (by have := hs.1; have := hs.2; omega), e]
  omega
/-- the water of a bed: the coupling -/
theorem cp_water (H : CP (mx h g x) x) (hi : i < nC g x) (hb : eI g (x + 23 + 6) i = 1) {s : Int32} (es : s = if eI g (x + 23 + 15) i - snk g x i ≤ 0 then 0 else eI g (x + 23 + 16) i + 1) : CP (mx (pJ (pI (pI h 308 (bedp h x i) (eI g (x + 23 + 15) i - snk g x i)) 309 (bedp h x i) s) 18 x (gJ h 18 x + Int32.toInt64 (snk g x i))) (ag4 (ag3 g x i) x i) x) x := by
  obtain ⟨k4, gm, ne, t1, t2, t3, t4, t5, t6, t7, t8, t9, t10⟩ := bed_mx H hi hb
  have hv := (snk_bd H hi).2
  have hd : gJ h 18 x = gJ g 1036 (x + 23) := by
    have := H.pn.2.2.2.2.2.2.1
    rw [gJ_mX (by omega), gJ_mM] at this
    exact this
  have K1 := cp_holds H (i := i) (v := eI g (x + 23 + 15) i - snk g x i) (by rw [nC_mx]; exact hi) (by rw [eI_mM (by decide) (by decide)]; exact hb) hv
  rw [bedp_mx, ← mx_pI ne, ← mxM_sI (by decide) (by decide)] at K1
  have K2 := cp_drunk K1 (v := gJ h 18 x + Int32.toInt64 (snk g x i))
  rw [← mx_pJ (by omega), ← mxM_pJ, hd] at K2
  have e3 : ag3 g x i = pJ (sI g (x + 23 + 15) i (eI g (x + 23 + 15) i - snk g x i)) 1036 (x + 23) (gJ g 1036 (x + 23) + Int32.toInt64 (snk g x i)) := by unfold ag3; rfl
  rw [← e3] at K2
  have A := kp_ag3 (g := g) (x := x) (i := i)
  have e4 : ag4 (ag3 g x i) x i = sI (ag3 g x i) (x + 23 + 16) i s := by
    unfold ag4
    have a1 : eI (ag3 g x i) (x + 23 + 15) i = eI g (x + 23 + 15) i - snk g x i := by rw [e3, eI_pJ, eI_sI, if_pos ⟨rfl, rfl⟩]
    have a2 : eI (ag3 g x i) (x + 23 + 16) i = eI g (x + 23 + 16) i := by rw [e3, eI_pJ, eI_sI_ne (by omega)]
    rw [a1, a2, ← es]
  have hs : bd s (-2147483648) 2147483647 := ⟨by have := Int32.le_toInt s; omega, by have := Int32.toInt_lt s; omega⟩
  have K3 := cp_stands K2 (i := i) (v := s) (by rw [nC_mx]; unfold nC; rw [A.gi (by decide)]; exact hi) (by rw [eI_mM (by decide) (by decide), A.ei (by decide)]; exact hb) hs
  rw [bedp_mx] at K3
  have eb : bedp (pJ (pI h 308 (bedp h x i) (eI g (x + 23 + 15) i - snk g x i)) 18 x (gJ g 1036 (x + 23) + Int32.toInt64 (snk g x i))) x i = bedp h x i := by unfold bedp; rw [gR_pJ, gR_pI, el_pJ, el_pI]
  rw [eb, ← mx_pI ne, ← mxM_sI (by decide) (by decide), ← e4, pI_pJ_comm, ← hd] at K3
  exact K3
theorem cx_dries (H : CP (mx h g x) x) (hi : i < nC g x) (hb : eI g (x + 23 + 6) i = 1) {Q : Int32 → Hp → Prop} (hq : ∀ s, (s = if eI g (x + 23 + 15) i - snk g x i ≤ 0 then 0 else eI g (x + 23 + 16) i + 1) → Q (snk g x i) (pI (pI h 308 (bedp h x i) (eI g (x + 23 + 15) i - snk g x i)) 309 (bedp h x i) s)) : CtI M_X6_dries [rV (bedp h x i)] h k n Q E := by
  obtain ⟨k4, gm, ne, t1, t2, t3, t4, t5, t6, t7, t8, t9, t10⟩ := bed_mx H hi hb
  have X := XW_mx H.xw
  have hC := H.nC_le.2
  rw [nC_mx] at hC
  obtain ⟨el1, el2⟩ := bd_nI (hi := 9) (bd_g H (i := i) (by omega)).2.2.2.2
  have vl : vp_in (eI g (x + 23 + 9) i) 10 := by rw [el1]; exact vin_nI (by omega) (by decide)
  have pd : P_X6_drink h (bedp h x i) := by
    unfold P_X6_drink P_X6_drinkBy
    rw [t1, t3, xwr_drinks X, xwk_drinks X, xwl_drinks X]
    exact ⟨k4, k4, xw_k X, rfl, vl⟩
  have vd : V_X6_drink h (bedp h x i) = V_X3_drink g (x + 23) (nI i) := by
    have hdr := (H.pa.1 (ix (eI g (x + 23 + 9) i)) (by omega)).1
    rw [eI_mX (by omega), eI_mM (by decide) (by decide)] at hdr
    unfold V_X6_drink V_X6_drinkBy V_X3_drink
    rw [t1, t3, xwr_drinks X, t5, ix_nI (by omega), hdr]
  refine b_X6_dries_0 ⟨k4, pd, ?_⟩
  rw [t8, vd]
  have es : imin (eI g (x + 23 + 15) i) (20 * V_X3_drink g (x + 23) (nI i)) = snk g x i := rfl
  rw [es]
  intro v ev h1 e1
  rw [ev] at e1
  have g1 : gI h1 308 (bedp h x i) = eI g (x + 23 + 15) i - snk g x i := by rw [e1, gI_pI, if_pos ⟨rfl, rfl⟩]
  have g2 : gI h1 309 (bedp h x i) = eI g (x + 23 + 16) i := by rw [e1, gI_pI, if_neg (fun z => absurd z.1 (by decide))]; exact t9
  have k1 : kd h1 (bedp h x i) = 4 := by rw [e1, kd_pI]; exact k4
  have L43 : ∀ s, (s = if eI g (x + 23 + 15) i - snk g x i ≤ 0 then 0 else eI g (x + 23 + 16) i + 1) → Rn M_X6_dries 43 [(0, rV (bedp h x i)), (1, iV v)] [iV s, rV (bedp h x i)] h1 k n (qI Q) E := by
    intro s hs
    refine b_X6_dries_43 ⟨k1, ?_⟩
    rintro _ rfl
    rw [ev, e1]
    exact hq s hs
  rw [g1, g2]
  exact ⟨fun c => L43 _ (by rw [if_pos c]), fun c => L43 _ (by rw [if_neg c])⟩
end
