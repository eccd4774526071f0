/-! a day: the component's beds -/
set_option maxRecDepth 100000
section
variable {h g h' g' a h0 g0 : Hp} {x i r : Nat} {E : Nat → Hp → Prop} {k n : Nat}
theorem Kp.qC (A : Kp g g' x) : nC g' x = nC g x := by unfold nC; rw [A.gi (by decide)]
theorem cx_beds (B0 : Bd h0 g0 h0 g0 x r) {y : Int32} (ey : y = irm (gI g0 1000 (x + 23)) 365) (hk : 2 * (nP (bedsM g0 x) x - nP g0 x) ≤ k) (hn : 250 * (nP (bedsM g0 x) x - nP g0 x) ≤ n) {Q : Hp → Prop} (hq : ∀ h', Bd h0 g0 h' (bedsM g0 x) x r → Q h') : CtV M_X0_beds [rV x, rV r, iV y] h0 k n Q E := by
  have hm : nC g0 x ≤ 12 := by have := B0.1.nC_le.2; rw [nC_mx] at this; exact this
  have loop : ∀ h k n, Bd h0 g0 h g0 x r → nP (itr (byD x) 0 (nC g0 x - 0) g0) x = nP (bedsM g0 x) x → 2 * (nP (bedsM g0 x) x - nP g0 x) ≤ k → 250 * (nP (bedsM g0 x) x - nP g0 x) ≤ n → Rn M_X0_beds 2 [(0, rV x), (1, rV r), (2, iV y), (3, iV (nI 0))] [] h k n (qV Q) E := by
    refine itr_loop (inv := fun i g => ∀ h k n, Bd h0 g0 h g x r → nP (itr (byD x) i (nC g0 x - i) g) x = nP (bedsM g0 x) x → 2 * (nP (bedsM g0 x) x - nP g x) ≤ k → 250 * (nP (bedsM g0 x) x - nP g x) ≤ n → Rn M_X0_beds 2 [(0, rV x), (1, rV r), (2, iV y), (3, iV (nI i))] [] h k n (qV Q) E) (f := byD x) (m := nC g0 x) (s := g0) (fun i g hi ih h k n B hN hk hn => ?_) (fun h k n B _ _ _ => ?_)
    · refine r_wfH fun wf => ?_
      obtain ⟨H, fr0, F0, A0, U⟩ := B
      have B : Bd h0 g0 h g x r := ⟨H, fr0, F0, A0, U⟩
      have eC : nC g x = nC g0 x := A0.qC
      have hig : i < nC g x := by rw [eC]; exact hi
      have hP60 : nP g x ≤ 60 := by have := H.nP_le.2; rw [nP_mx] at this; exact this
      have eit : itr (byD x) i (nC g0 x - i) g = itr (byD x) (i + 1) (nC g0 x - (i + 1)) (byD x i g) := by
        rw [show nC g0 x - i = (nC g0 x - (i + 1)) + 1 by omega]; rfl
      rw [eit] at hN
      have X := XW_mx H.xw
      obtain ⟨c1, c2, c3, c4, c5⟩ := H.corI (i := i) (by rw [nC_mx]; exact hig)
      have sz : gI (mx h g x) 1102 (x + 2) = gI h 1102 (x + 2) := gI_mX (by omega)
      rw [sz] at c1
      rw [kd_mx, el_mx] at c4
      have bI := H.bedI (i := i) wf (by rw [nC_mx]; exact hig)
      rw [gR_mx, el_mx, eI_mM (by decide) (by decide)] at bI
      refine b_X0_beds_2 X ?_
      rw [c3]
      refine ⟨fun z => absurd z c1, fun _ => ⟨ALg_mx (by omega) c2, c4, ?_⟩⟩
      rintro _ rfl
      refine ⟨fun hb => ?_, fun hb => ?_⟩
      rotate_left
      · have e0 : byD x i g = g := by unfold byD; rw [if_pos (bI.1.mp hb)]
        rintro _ rfl
        rw [nI_add1]
        rw [e0] at ih hN
        exact ih h k n B hN hk hn
      have hb0 : ¬ eI g (x + 23 + 6) i = 0 := fun z => hb (bI.1.mpr z)
      have hb1 : eI g (x + 23 + 6) i = 1 := (bI.2 hb0).1
      have eg : byD x i g = agM g x i := by unfold byD; rw [if_neg hb0]
      rw [eg] at ih hN
      have np := nP_agM (i := i) hP60
      have npm : nP (agM g x i) x ≤ 60 := by omega
      have npN := (nP_itrD npm (nC g0 x - (i + 1)) (i + 1)).1
      rw [hN] at npN
      have k4 := (bed_mx H hig hb1).1
      have eb0 : gR h 109 (el h (x + 2) i) = bedp h x i := rfl
      rw [eb0]
      refine ⟨k4, cx_clogs H hig hb1 U (fun h1 K1 fr1 F1 => ⟨XW_mx K1.xw, ?_⟩)⟩
      have B1 := B.step K1 fr1 F1 kp_ag1
      have L0 := CP.lc H
      have eb1 : bedp h1 x i = bedp h x i := F1.bed L0.1 hig (L0.2 i hig)
      have hig1 : i < nC (ag1 g x i) x := by unfold nC; rw [(kp_ag1 (g := g) (x := x) (i := i)).gi (by decide)]; exact hig
      have hbg1 : eI (ag1 g x i) (x + 23 + 6) i = 1 := by rw [(kp_ag1 (g := g) (x := x) (i := i)).ei (by decide)]; exact hb1
      have et : ∀ {g1}, Kp g g1 x → y = irm (gI g1 1000 (x + 23)) 365 := fun A => by rw [A.gi (by decide), A0.gi (by decide)]; exact ey
      rw [← eb1]
      refine ⟨(bed_mx K1 hig1 hbg1).1, cx_fall K1 hig1 hbg1 B1.2.2.2.2 (et kp_ag1) (fun h2 K2 fr2 F2 => ⟨XW_mx K2.xw, ?_⟩)⟩
      have B2 := B1.step K2 fr2 F2 kp_ag2
      have A2 : Kp g (ag2 (ag1 g x i) x i) x := kp_ag1.trans kp_ag2
      have L1 := CP.lc K1
      have eb2 : bedp h2 x i = bedp h1 x i := F2.bed L1.1 hig1 (L1.2 i hig1)
      have hig2 : i < nC (ag2 (ag1 g x i) x i) x := by rw [A2.qC]; exact hig
      have hbg2 : eI (ag2 (ag1 g x i) x i) (x + 23 + 6) i = 1 := by rw [A2.ei (by decide)]; exact hb1
      generalize hg2 : ag2 (ag1 g x i) x i = g2 at K2 B2 A2 hig2 hbg2
      have egM : agM g x i = ag6 (ag5 (ag4 (ag3 g2 x i) x i) x i) x i := by unfold agM; rw [hg2]
      rw [egM] at ih hN np npm npN
      obtain ⟨k42, gm2, ne2, t1, t2, t3, t4, t5, t6, t7, t8, t9, t10⟩ := bed_mx K2 hig2 hbg2
      rw [← eb2]
      refine ⟨k42, cx_dries K2 hig2 hbg2 (fun s hs => ⟨?_, ?_⟩)⟩
      · exact XW_pI (XW_pI (XW_mx K2.xw))
      intro h3 e3
      have K3 := cp_water K2 hig2 hbg2 hs
      rw [← e3] at K3
      have fr3 : mx h3 h2 x = h3 := by rw [e3, mx_pJ (by omega), mx_pI ne2, mx_pI ne2, mx_self]
      have F3 : Frm h2 h3 x := by rw [e3]; exact ((Frm.refl.vI (by decide) (by decide)).vI (by decide) (by decide)).vJ
      have B3 := B2.step K3 fr3 F3 (kp_ag3.trans kp_ag4)
      have A3 : Kp g (ag4 (ag3 g2 x i) x i) x := A2.trans (kp_ag3.trans kp_ag4)
      have L2 := CP.lc K2
      have eb3 : bedp h3 x i = bedp h2 x i := F3.bed L2.1 hig2 (L2.2 i hig2)
      generalize hg4 : ag4 (ag3 g2 x i) x i = g4 at K3 B3 A3 ih hN np npm npN
      have hig3 : i < nC g4 x := by rw [A3.qC]; exact hig
      have hbg3 : eI g4 (x + 23 + 6) i = 1 := by rw [A3.ei (by decide)]; exact hb1
      have np4 : nP g4 x = nP g x := by rw [← hg4, ← hg2]; exact nP_ag14
      have np5 := nP_ag5 (g := g4) (x := x) (i := i) (by rw [np4]; exact hP60)
      have U3 := B3.2.2.2.2
      obtain ⟨k43, gm3, ne3, v1, v2, v3, v4, v5, v6, v7, v8, v9, v10⟩ := bed_mx K3 hig3 hbg3
      rw [nP_ag6] at np npm npN
      have L90 : ∀ h5 g5 k5 n5, Bd h0 g0 h5 g5 x r → g5 = ag5 g4 x i → bedp h5 x i = bedp h3 x i → 2 * (nP (bedsM g0 x) x - nP g5 x) ≤ k5 → 250 * (nP (bedsM g0 x) x - nP g5 x) ≤ n5 → Rn M_X0_beds 90 [(0, rV x), (1, rV r), (2, iV y), (3, iV (nI i)), (4, rV (bedp h3 x i))] [] h5 k5 n5 (qV Q) E := by
        intro h5 g5 k5 n5 B5 e5 eb5 hk5 hn5
        have A5 : Kp g g5 x := by rw [e5]; exact A3.trans kp_ag5
        have hig5 : i < nC g5 x := by rw [A5.qC]; exact hig
        have hbg5 : eI g5 (x + 23 + 6) i = 1 := by rw [A5.ei (by decide)]; exact hb1
        rw [← e5] at ih hN
        have ey5 := et A5
        refine b_X0_beds_90 (XW_mx B5.1.xw) ⟨fun z => ?_, fun z => ?_⟩
        · have e6 : ag6 g5 x i = g5 := by unfold ag6; rw [if_neg (by rw [← ey5]; exact z)]
          rintro _ rfl
          rw [nI_add1]
          rw [e6] at ih hN
          exact ih h5 k5 n5 B5 hN hk5 hn5
        · rw [← eb5]
          refine ⟨(bed_mx B5.1 hig5 hbg5).1, cx_spring B5.1 hig5 hbg5 B5.2.2.2.2 (by rw [← ey5]; exact z) (fun h6 K6 fr6 F6 => ⟨XW_mx K6.xw, ?_⟩)⟩
          rintro _ rfl
          rw [nI_add1]
          exact ih h6 k5 n5 (B5.step K6 fr6 F6 kp_ag6) hN (by rw [nP_ag6]; exact hk5) (by rw [nP_ag6]; exact hn5)
      rw [← eb3]
      refine ⟨k43, U3.1, ?_⟩
      rw [v9, U3.2.2.2.2.2.2]
      refine ⟨fun z => ?_, fun z => ?_⟩
      · have e5 : ag5 g4 x i = g4 := by unfold ag5; rw [if_neg z]
        exact L90 h3 g4 k n B3 e5.symm rfl (by rw [np4]; exact hk) (by rw [np4]; exact hn)
      · have e5 : ag5 g4 x i = cmM g4 x (nI i) 2 := by unfold ag5; rw [if_pos z]
        rw [e5] at np5 np npm npN
        rw [v2]
        refine ⟨2 * (nP (cmM g4 x (nI i) 2) x - nP g4 x), 250 * (nP (cmM g4 x (nI i) 2) x - nP g4 x), k - 2 * (nP (cmM g4 x (nI i) 2) x - nP g4 x), n - 250 * (nP (cmM g4 x (nI i) 2) x - nP g4 x), by omega, by omega, ?_⟩
        refine cx_complains K3 hig3 (Nat.le_refl _) (Nat.le_refl _) (fun h4 K4 fr4 F4 => ⟨XW_mx K4.xw, ?_⟩)
        have L3 := CP.lc K3
        exact L90 h4 _ _ _ (B3.step K4 fr4 F4 kp_cmM) e5.symm (F4.bed L3.1 hig3 (L3.2 i hig3)) (by omega) (by omega)
    · have H := B.1
      have eC : nC (itr (byD x) 0 (nC g0 x) g0) x = nC g0 x := B.2.2.2.1.qC
      have z := H.corE
      rw [gI_mX (by omega), nC_mx, eC] at z
      exact b_X0_beds_2 (XW_mx H.xw) ⟨fun _ => hq h B, fun c => absurd z c⟩
  have := loop h0 k n B0 rfl hk hn
  rw [nI0] at this
  exact b_X0_beds_0 (XW_mx B0.1.xw) this
end
