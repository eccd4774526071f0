/-! lists: made, added to -/
set_option maxRecDepth 100000
theorem nx_cpR (h : Hp) (a b c d e : Nat) : nx (cpR h a b c d e) = nx h := (rfl)
theorem kd_cpR (h : Hp) (a b c d e : Nat) : kd (cpR h a b c d e) = kd h := (rfl)
theorem ln_cpR (h : Hp) (a b c d e : Nat) : ln (cpR h a b c d e) = ln h := (rfl)
theorem kc_cpR (h : Hp) (a b c d e : Nat) : kc (cpR h a b c d e) = kc h := (rfl)
theorem gI_cpR (h : Hp) (a b c d e : Nat) : gI (cpR h a b c d e) = gI h := (rfl)
theorem gJ_cpR (h : Hp) (a b c d e : Nat) : gJ (cpR h a b c d e) = gJ h := (rfl)
theorem gR_cpR (h : Hp) (a b c d e : Nat) : gR (cpR h a b c d e) = gR h := (rfl)
theorem eI_cpR (h : Hp) (a b c d e : Nat) : eI (cpR h a b c d e) = eI h := (rfl)
theorem eJ_cpR (h : Hp) (a b c d e : Nat) : eJ (cpR h a b c d e) = eJ h := (rfl)
theorem eR_cpR (h : Hp) (a b c d e i j : Nat) : eR (cpR h a b c d e) i j = if i = c ∧ d ≤ j ∧ j < d + e then eR h a (b + (j - d)) else eR h i j := (rfl)
/-- a list a of m things, one added: b -/
def AddR (h h' : Hp) (a b m : Nat) : Prop := (kc h' = kc h ∧ nx h ≤ nx h' ∧ ∀ c, kd h c ≠ 0 → kd h' c = kd h c ∧ ln h' c = ln h c ∧ eI h' c = eI h c ∧ eJ h' c = eJ h c) ∧
  (∀ f c, ¬ (c = a ∧ (f = 1100 ∨ f = 1102)) → gI h' f c = gI h f c) ∧ gJ h' = gJ h ∧ (∀ f c, ¬ (c = a ∧ f = 1101) → gR h' f c = gR h f c) ∧ (∀ c i, kd h c ≠ 0 → ¬ (c = gR h 1101 a ∧ i = m ∧ kd h c = 65) → eR h' c i = eR h c i) ∧
  (gI h' 1102 a = nI (m + 1) ∧ ((gR h' 1101 a = gR h 1101 a ∧ kd h (gR h 1101 a) = 65) ∨ gR h' 1101 a = nx h) ∧ kd h' (gR h' 1101 a) = 65 ∧ m + 1 ≤ ln h' (gR h' 1101 a) ∧ ln h' (gR h' 1101 a) ≤ 60000) ∧ (∀ i, i < m → el h' a i = el h a i) ∧ el h' a m = b ∧ ∀ c, kd h c = 0 → kd h' c = 0 ∨ (c = nx h ∧ kd h' c = 65)
section
variable {h : Hp} {E : Nat → Hp → Prop} {k n : Nat}
theorem ct_J2_init {a : Nat} (hk : kd h a = 12) {Q : Hp → Prop} (hq : Q (pR (pI h 1100 a 0) 1101 a (kc h 0))) : CtV M_J2_init [rV a] h k n Q E := by
  have hz : kd h a ≠ 0 := by rw [hk]; decide
  refine b_J2_init_0 ⟨hz, b_J1_init_0 ⟨hz, b_J0_init_0 ⟨hz, hk, ?_⟩⟩⟩
  rintro _ rfl
  refine ⟨hk, ?_⟩
  rintro _ rfl
  exact hq
theorem nI_sub1 {m : Nat} (hm : m < 2 ^ 30) : nI (m + 1) - nI m = 1 := by
  apply i32_ext
  rw [i32_sub (by rw [nI_toInt (by omega), nI_toInt (by omega)]; omega) (by rw [nI_toInt (by omega), nI_toInt (by omega)]; omega), nI_toInt (by omega), nI_toInt (by omega), toI_1]
  omega
def grw (m : Nat) : Nat := m + max 1 (m / 2)
theorem ct_newLength {m : Nat} (hm : m < 4096) {Q : Int32 → Hp → Prop} (hq : Q (nI (grw m)) h) : CtI M_J3_newLength [iV (nI m), iV 1, iV (shr (nI m) 1)] h k n Q E := by
  have e1 : nI m + imax 1 (shr (nI m) 1) = nI (grw m) := by
    rw [(and1_nI m hm).2]
    unfold imax grw
    rw [show (1 : Int32) = nI 1 by decide]
    by_cases c : 1 < m / 2
    · rw [if_pos ((nIlt (by decide) (by omega)).mpr c), nIadd]; congr 1; omega
    · rw [if_neg (fun z => c ((nIlt (by decide) (by omega)).mp z)), nIadd]; congr 1; omega
  refine b_J3_newLength_0 ?_
  rw [e1]
  rintro _ rfl
  have g1 : (nI (grw m)).toInt = grw m := nI_toInt (by unfold grw; omega)
  refine ⟨fun c => ?_, fun _ => ⟨fun c => ?_, fun _ => hq⟩⟩
  · rw [i32_le, g1, toI_0] at c; unfold grw at c; omega
  · rw [i32_lt, g1, show (2147483639 : Int32).toInt = 2147483639 by decide] at c; unfold grw at c; omega
theorem AddR.mk0 {a b m : Nat} {v : Int32} (wf : wfH h) (hk : kd h (gR h 1101 a) = 65) (hl : m < ln h (gR h 1101 a)) (hl2 : ln h (gR h 1101 a) ≤ 60000) : AddR h (pI (sR (pI h 1100 a v) (gR h 1101 a) m b) 1102 a (nI m + 1)) a b m := by
  refine ⟨⟨rfl, Nat.le_refl _, fun c _ => ⟨rfl, rfl, rfl, rfl⟩⟩, fun f c hn => ?_, rfl, fun f c _ => rfl, fun c i _ hn => ?_, ⟨?_, Or.inl ⟨rfl, hk⟩, hk, hl, hl2⟩, fun i hi => ?_, ?_, fun c hc => Or.inl hc⟩
  · rw [gI_pI, gI_sR, gI_pI, if_neg (fun z => hn ⟨z.2, Or.inr z.1⟩), if_neg (fun z => hn ⟨z.2, Or.inl z.1⟩)]
  · rw [eR_pI, eR_sR, if_neg (fun z => hn ⟨z.1, z.2, by rw [z.1]; exact hk⟩), eR_pI]
  · rw [gI_pI, if_pos ⟨rfl, rfl⟩, nI_add1]
  · unfold el
    rw [eR_pI, gR_pI, gR_sR, gR_pI, eR_sR, if_neg (fun z => by omega), eR_pI]
  · unfold el
    rw [eR_pI, gR_pI, gR_sR, gR_pI, eR_sR, if_pos ⟨rfl, rfl⟩]
/-- behind a growth: g holds the old things in a new array -/
theorem AddR.mk1 {g : Hp} {a b m L : Nat} (wf : wfH h) (ha : kd h a = 12) (e1 : kc g = kc h ∧ nx g = nx h + 1 ∧ (∀ c, kd g c = if c = nx h then 65 else kd h c) ∧ (∀ c, ln g c = if c = nx h then L else ln h c)) (e2 : ∀ c, c ≠ nx h → eI g c = eI h c ∧ eJ g c = eJ h c ∧ eR g c = eR h c) (e3 : (∀ f c, ¬ (c = a ∧ f = 1100) → gI g f c = gI h f c) ∧ gJ g = gJ h ∧ gR g = gR h) (e4 : ∀ i, i < m → eR g (nx h) i = el h a i) (hL : m < L) (hL2 : L ≤ 60000) : AddR h (pI (sR (pR g 1101 a (nx h)) (nx h) m b) 1102 a (nI m + 1)) a b m := by
  have hne : ∀ c, kd h c ≠ 0 → c ≠ nx h := fun c hc => Nat.ne_of_lt (wf.lt rfl hc).2
  have ea : gR (pI (sR (pR g 1101 a (nx h)) (nx h) m b) 1102 a (nI m + 1)) 1101 a = nx h := by rw [gR_pI, gR_sR, gR_pR, if_pos ⟨rfl, rfl⟩]
  refine ⟨⟨e1.1, by rw [nx_pI, nx_sR, nx_pR, e1.2.1]; omega, fun c hc => ⟨?_, ?_, (e2 c (hne c hc)).1, (e2 c (hne c hc)).2.1⟩⟩, fun f c hn => ?_, e3.2.1, fun f c hn => ?_, fun c i hc hn => ?_, ⟨?_, Or.inr ea, ?_, ?_, ?_⟩, fun i hi => ?_, ?_, fun c hc => ?_⟩
  · rw [kd_pI, kd_sR, kd_pR, e1.2.2.1, if_neg (hne c hc)]
  · rw [ln_pI, ln_sR, ln_pR, e1.2.2.2, if_neg (hne c hc)]
  · rw [gI_pI, gI_sR, gI_pR, if_neg (fun z => hn ⟨z.2, Or.inr z.1⟩)]
    exact e3.1 f c (fun z => hn ⟨z.1, Or.inl z.2⟩)
  · rw [gR_pI, gR_sR, gR_pR, if_neg (fun z => hn ⟨z.2, z.1⟩), e3.2.2]
  · rw [eR_pI, eR_sR, if_neg (fun z => hne c hc z.1), eR_pR, (e2 c (hne c hc)).2.2]
  · rw [gI_pI, if_pos ⟨rfl, rfl⟩, nI_add1]
  · rw [ea, kd_pI, kd_sR, kd_pR, e1.2.2.1, if_pos rfl]
  · rw [ea, ln_pI, ln_sR, ln_pR, e1.2.2.2, if_pos rfl]; exact hL
  · rw [ea, ln_pI, ln_sR, ln_pR, e1.2.2.2, if_pos rfl]; exact hL2
  · have : el (pI (sR (pR g 1101 a (nx h)) (nx h) m b) 1102 a (nI m + 1)) a i = eR (pI (sR (pR g 1101 a (nx h)) (nx h) m b) 1102 a (nI m + 1)) (nx h) i := by unfold el; rw [ea]
    rw [this, eR_pI, eR_sR, if_neg (fun z => by omega), eR_pR]
    exact e4 i hi
  · have : el (pI (sR (pR g 1101 a (nx h)) (nx h) m b) 1102 a (nI m + 1)) a m = eR (pI (sR (pR g 1101 a (nx h)) (nx h) m b) 1102 a (nI m + 1)) (nx h) m := by unfold el; rw [ea]
    rw [this, eR_pI, eR_sR, if_pos ⟨rfl, rfl⟩]
  · rw [kd_pI, kd_sR, kd_pR, e1.2.2.1]
    by_cases z : c = nx h
    · right; exact ⟨z, if_pos z⟩
    · left; rw [if_neg z]; exact hc
theorem ct_add {a b m c0 : Nat} {R0 : String} {T0 : u_T} {N0 : Nat} (H : ALk h a m) (h75 : kd h (kc h 0) = 75) (h0 : ln h (kc h 0) = 0) (hb : OkR h b) (hel : ∀ i, i < m → kd h (el h a i) = c0 + 1) (hc : xcl[c0]? = some (R0, T0, N0)) (hw : Cond.castable R0 "java/lang/Object" ∈ lw_tbl) (hm : m ≤ 100) (hk : 1 ≤ k) (hn : 200 ≤ n) {Q : Int32 → Hp → Prop} (hq : ∀ h', AddR h h' a b m → Q 1 h') : CtI M_J2_add [rV a, rV b] h k n Q E := by
  refine r_wfH fun wf => ?_
  obtain ⟨g1, g2, g3, g4, g5⟩ := H
  have h65 : kd h (gR h 1101 a) = 65 ∨ kd h (gR h 1101 a) = 75 := by
    rcases g4 with z | ⟨z, -⟩
    · exact Or.inl z
    · rw [z]; exact Or.inr h75
  have hane : a ≠ nx h := Nat.ne_of_lt (wf.lt g1 (by decide)).2
  have harr : gR h 1101 a ≠ nx h := by
    rcases h65 with z | z <;> exact Nat.ne_of_lt (wf.lt z (by decide)).2
  refine b_J2_add_0 ⟨g1, ?_⟩
  rintro _ rfl
  refine ⟨k, n, 0, 0, by omega, by omega, ?_⟩
  rw [gR_pI, gI_pI, if_neg (fun z => absurd z.1 (by decide)), g2]
  -- the things behind a growth
  have last : ∀ (h2 : Hp) (r : Nat) (k2 n2 : Nat), kd h2 r = 65 → m < ln h2 r → OkR h2 b → kd h2 a = 12 → AddR h (pI (sR h2 r m b) 1102 a (nI m + 1)) a b m → Rn M_J2_add_2 11 [(0, rV a), (1, rV b), (2, rV r), (3, iV (nI m))] [] h2 k2 n2 (qV (fun h' => Q 1 h')) E := by
    intro h2 r k2 n2 z1 z2 z3 z4 z5
    refine b_J2_add_2_11 ⟨z1, by rw [vin_iff, nI_toInt (by omega)]; omega, z3, ?_⟩
    rw [ix_nI (by omega)]
    rintro _ rfl
    refine ⟨z4, ?_⟩
    rintro _ rfl
    exact hq _ z5
  refine b_J2_add_2_0 ⟨h65, fun c => ?_, fun c => ⟨g1, k, n, 0, 0, by omega, by omega, ?_⟩⟩
  · have hlt : m < ln h (gR h 1101 a) := by
      rcases Nat.lt_or_ge m (ln h (gR h 1101 a)) with z | z
      · exact z
      · exact absurd (by rw [ln_pI]; congr 1; omega) c
    have hk65 : kd h (gR h 1101 a) = 65 := by
      rcases g4 with z | ⟨z, z2⟩
      · exact z
      · rw [z, h0] at hlt; omega
    exact last _ _ _ _ hk65 hlt hb g1 (AddR.mk0 wf hk65 hlt g5)
  · have hfull : ln h (gR h 1101 a) = m := by
      rw [ln_pI] at c
      exact (nI_inj (by omega) (by omega) c).symm
    refine b_J2_grow_0 ⟨g1, k, n, 0, 0, by omega, by omega, ?_⟩
    rw [gI_pI, if_neg (fun z => absurd z.1 (by decide)), g2, nI_add1]
    -- a new array of L places that holds the old things
    have okb : ∀ L : Nat, OkR (nA (pI h 1100 a (gI h 1100 a + 1)) 4 L) b := fun L => by
      obtain ⟨cb, Rb, Tb, Nb, y1, y2, y3⟩ := hb
      exact ⟨cb, Rb, Tb, Nb, y1, y2, kd_nA_old (h := pI h 1100 a (gI h 1100 a + 1)) wf y3 (by omega)⟩
    have kda : ∀ L : Nat, kd (nA (pI h 1100 a (gI h 1100 a + 1)) 4 L) a = 12 := fun L => kd_nA_old (h := pI h 1100 a (gI h 1100 a + 1)) wf g1 (by decide)
    have kdn : ∀ L : Nat, ∀ c, kd (nA (pI h 1100 a (gI h 1100 a + 1)) 4 L) c = if c = nx h then 65 else kd h c := fun L c => by rw [kd_nA_at, nx_pI, kd_pI]
    have lnn : ∀ L : Nat, ∀ c, ln (nA (pI h 1100 a (gI h 1100 a + 1)) 4 L) c = if c = nx h then L else ln h c := fun L c => by rw [ln_nA_at, nx_pI, ln_pI]
    have gin : ∀ L : Nat, (∀ f c, ¬ (c = a ∧ f = 1100) → gI (nA (pI h 1100 a (gI h 1100 a + 1)) 4 L) f c = gI h f c) := fun L f c z => by rw [gI_nA, gI_pI, if_neg (fun y => z ⟨y.2, y.1⟩)]
    have ern : ∀ L : Nat, ∀ c, c ≠ nx h → eI (nA (pI h 1100 a (gI h 1100 a + 1)) 4 L) c = eI h c ∧ eJ (nA (pI h 1100 a (gI h 1100 a + 1)) 4 L) c = eJ h c ∧ eR (nA (pI h 1100 a (gI h 1100 a + 1)) 4 L) c = eR h c := fun L c z => by
      refine ⟨?_, ?_, ?_⟩ <;> funext i
      · rw [eI_nA, nx_pI, if_neg z, eI_pI]
      · rw [eJ_nA, nx_pI, if_neg z, eJ_pI]
      · rw [eR_nA, nx_pI, if_neg z, eR_pI]
    have grown : kd h (gR h 1101 a) = 65 → Rn M_J2_grow_2 20 [(0, rV a), (1, iV (nI (m + 1))), (2, iV (nI m))] [] (pI h 1100 a (gI h 1100 a + 1)) k n (qR (fun r108 h103 => Rn M_J2_add_2 11 [(0, rV a), (1, rV b), (2, rV r108), (3, iV (nI m))] [] h103 0 0 (qV (fun h' => Q 1 h')) E)) E := by
      intro hk65
      have hgw : m < grw m ∧ grw m ≤ 200 := by unfold grw; omega
      refine b_J2_grow_2_20 ?_
      rw [nI_sub1 (by omega)]
      refine ct_newLength (by omega) ⟨g1, k, n, 0, 0, by omega, by omega, ?_⟩
      rw [gR_pI]
      refine b_J5_copyOf_0 ⟨h65, k, n, 0, 0, by omega, by omega, ?_⟩
      refine b_J5_copyOf_2_0 ⟨fun z => absurd rfl z, fun _ => ?_⟩
      have ixg : ix (nI (grw m)) = grw m := ix_nI (by omega)
      rw [ixg]
      refine ⟨⟨hk, by omega, by rw [i32_lt, nI_toInt (by omega), toI_0]; omega, by omega⟩, ?_⟩
      rintro _ rfl _ rfl
      have e5 : ln (nA (pI h 1100 a (gI h 1100 a + 1)) 4 (grw m)) (gR h 1101 a) = m := by rw [lnn, if_neg harr, hfull]
      have k5 : kd (nA (pI h 1100 a (gI h 1100 a + 1)) 4 (grw m)) (gR h 1101 a) = 65 := by rw [kdn, if_neg harr]; exact hk65
      have mn : imin (nI m) (nI (grw m)) = nI m := by unfold imin; rw [if_neg (fun z => by rw [nIlt (by omega) (by omega)] at z; omega)]
      rw [e5, mn, show ix 0 = 0 by decide, ix_nI (show m < 2 ^ 31 by omega), nx_pI]
      refine ⟨Or.inl k5, ⟨Or.inl k5, by rw [kdn, if_pos rfl], by decide, by decide, by rw [i32_lt, nI_toInt (by omega), toI_0]; omega, ?_, ?_, ?_⟩, ?_⟩
      · rw [e5, show ix 0 = 0 by decide, ix_nI (by omega)]; omega
      · rw [lnn, if_pos rfl, show ix 0 = 0 by decide, ix_nI (by omega)]; omega
      · refine ⟨c0, R0, T0, N0, hc, hw, fun i hi => Or.inr ?_⟩
        rw [ix_nI (by omega)] at hi
        rw [show ix 0 = 0 by decide, Nat.zero_add, (ern _ _ harr).2.2]
        have h2 := hel i hi
        have hne : el h a i ≠ nx h := Nat.ne_of_lt (wf.lt h2 (by omega)).2
        rw [kdn]
        rw [if_neg (show ¬ eR h (gR h 1101 a) i = nx h from hne)]
        exact h2
      · rintro _ rfl
        refine ⟨by rw [kd_cpR]; exact kda _, ?_⟩
        rintro _ rfl
        refine last _ _ _ _ (by rw [kd_pR, kd_cpR, kdn, if_pos rfl]) (by rw [ln_pR, ln_cpR, lnn, if_pos rfl]; exact hgw.1) ?_ (by rw [kd_pR, kd_cpR]; exact kda _) ?_
        · exact okb (grw m)
        · refine AddR.mk1 (L := grw m) wf g1 ⟨rfl, by rw [nx_cpR, nx_nA, nx_pI], fun c => by rw [kd_cpR]; exact kdn _ c, fun c => by rw [ln_cpR]; exact lnn _ c⟩ (fun c z => ?_) ⟨fun f c z => by rw [gI_cpR]; exact gin _ f c z, rfl, rfl⟩ (fun i hi => ?_) hgw.1 (by omega)
          · obtain ⟨w1, w2, w3⟩ := ern (grw m) c z
            refine ⟨by rw [eI_cpR]; exact w1, by rw [eJ_cpR]; exact w2, ?_⟩
            funext i
            rw [eR_cpR, if_neg (fun y => z y.1), w3]
          · rw [eR_cpR, if_pos ⟨rfl, by omega, by omega⟩, Nat.zero_add, Nat.sub_zero, (ern _ _ harr).2.2]
            rfl
    refine b_J2_grow_2_0 ⟨g1, h65, ?_⟩
    rw [gR_pI, ln_pI, hfull]
    rintro _ rfl
    rcases g4 with z | ⟨z, z2⟩
    · refine ⟨fun _ => grown z, fun _ => ⟨fun y => ?_, fun _ => grown z⟩⟩
      have y : gR h 1101 a = kc h 0 := y
      rw [y, h75] at z; exact absurd z (by decide)
    · subst z2
      refine ⟨fun y => absurd y (by decide), fun _ => ⟨fun _ => ?_, fun y => absurd z y⟩⟩
      have e10 : ix (imax 10 (nI (0 + 1))) = 10 := by decide
      rw [e10]
      refine ⟨⟨hk, by omega, by decide, by decide⟩, ?_⟩
      rintro _ rfl _ rfl _ rfl
      rw [nx_pI]
      refine last _ _ _ _ (by rw [kd_pR, kdn, if_pos rfl]) (by rw [ln_pR, lnn, if_pos rfl]; decide) (okb 10) (by rw [kd_pR]; exact kda _) ?_
      exact AddR.mk1 (L := 10) wf g1 ⟨rfl, by rw [nx_nA, nx_pI], kdn _, lnn _⟩ (ern _) ⟨gin _, rfl, rfl⟩ (fun i hi => absurd hi (by omega)) (by decide) (by decide)
end
