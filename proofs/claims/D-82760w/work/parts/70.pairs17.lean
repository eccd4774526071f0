/-! pairs: best -/
set_option maxRecDepth 100000
section
variable {h0 h : Hp} {x : Nat} {E : Nat → Hp → Prop} {k n : Nat} {R : Hp → Prop}
def pkG (h : Hp) (x : Nat) (s : Int32) (i : Nat) (v : Int32) : Int32 := if shr s (nI i) &&& 1 = 1 then v + eI h (x + 23 + 3) i else v + 0
def pkof (h : Hp) (x : Nat) (s : Int32) : Int32 := itr (pkG h x s) 0 (nC h x) 0
theorem cs_X0_parkingOf (H : CP h x) {s : Int32} {Q : Int32 → Hp → Prop} (hq : Q (pkof h x s) h) : CtI M_X0_parkingOf [rV x, iV s] h k n Q E := by
  refine b_X0_parkingOf_0 H.xw ?_
  rw [← nI0]
  refine itr_loop (inv := fun i v => Rn M_X0_parkingOf 4 [(0, rV x), (1, iV s), (2, iV v), (3, iV (nI i))] [] h k n (qI Q) E) (f := pkG h x s) (m := nC h x) (fun i v hi hw => ?_) ?_
  · obtain ⟨a1, a2, a3, a4, a5⟩ := H.corI hi
    have b2 := (H.pc i hi).1.2.2.2.2.1
    refine b_X0_parkingOf_4 H.xw ⟨fun c => absurd c a1, fun _ => ?_⟩
    rw [a3, b2]
    unfold pkG at hw
    refine ⟨fun c => ?_, fun c => ⟨a2, a4, ?_⟩⟩
    · rintro _ rfl _ rfl; rw [nI_add1]; rw [if_neg c] at hw; exact hw
    · rintro _ rfl _ rfl; rw [nI_add1]; rw [if_pos c] at hw; exact hw
  · refine b_X0_parkingOf_4 H.xw ⟨fun _ => ?_, fun c => absurd H.corE c⟩
    rw [nI0]; exact hq
theorem parkG_def (h : Hp) (x : Nat) (s : Int32) (i : Nat) (v : Int32) : pkG h x s i v = if shr s (nI i) &&& 1 = 1 then v + eI h (x + 23 + 3) i else v + 0 := rfl
theorem parkF_def (h : Hp) (mo : Nat) (i : Nat) (v : Int32) : parkF h mo i v = v + (if eI h (mo + 6) i = 0 then 0 else eI h (mo + 3) i) := rfl
theorem parkS_def (h : Hp) (mo : Nat) (s : Int32) (i : Nat) (v : Int32) : parkS h mo s i v = v + (if eI h (mo + 6) i = 0 ∧ ¬ shr s (nI i) &&& 1 = 1 then 0 else eI h (mo + 3) i) := rfl
theorem i32_sw (a b c : Int32) : a + b + c = a + c + b := by rw [Int32.add_assoc, Int32.add_comm b c, ← Int32.add_assoc]
theorem pk_sum (H : CP h x) {s : Nat} (hs : s < 2 ^ nC h x) (hf : frS h x s) : prkx h x + pkof h x (nI s) = prks h (x + 23) (nI s) := by
  have hn := H.nC_le
  have h12 := pow12 hn.2
  unfold prks
  rw [hn.1, ix_nI (by omega)]
  unfold prkx pkof
  have key : ∀ m, m ≤ nC h x → itr (parkF h (x + 23)) 0 m 0 + itr (pkG h x (nI s)) 0 m 0 = itr (parkS h (x + 23) (nI s)) 0 m 0 := by
    intro m
    induction m with
    | zero => intro _; rfl
    | succ m ih =>
      intro hm
      have ih := ih (by omega)
      rw [itr_succ, itr_succ, itr_succ, Nat.zero_add, parkF_def, parkG_def, parkS_def, ← ih]
      by_cases c : shr (nI s) (nI m) &&& 1 = 1
      · have hb : eI h (x + 23 + 6) m = 0 := hf m (by omega) (by
          have := (shr_bit (by omega)).mp c
          rw [bt_nI (by omega) (by omega)] at this
          exact this)
        rw [if_pos hb, if_pos c, if_neg (fun z => z.2 c), Int32.add_zero, ← Int32.add_assoc]
      · rw [if_neg c, Int32.add_zero]
        by_cases hb : eI h (x + 23 + 6) m = 0
        · rw [if_pos hb, if_pos ⟨hb, c⟩, Int32.add_zero, Int32.add_zero]
        · rw [if_neg hb, if_neg (fun z => hb z.1)]
          exact i32_sw _ _ _
  exact key _ (Nat.le_refl _)
/-- what a set is worth -/
def wtI (h : Hp) (x : Nat) (s : Int32) : Int32 := Int32.ofInt (rnS h x s 512 0)
def alJ (h : Hp) (x : Nat) (s : Int32) : Int64 := Int64.ofInt (rnS h x s 510 0)
def vlS (h : Hp) (x : Nat) (w s : Int32) : Int64 := Int32.toInt64 w * Int32.toInt64 (wtI h x s) + alJ h x s
theorem wtI_eq {v : Int32} {s : Int32} (e : v.toInt = rnS h x s 512 0) : v = wtI h x s := by unfold wtI; rw [← e, Int32.ofInt_toInt]
theorem alJ_eq {v : Int64} {s : Int32} (e : v.toInt = rnS h x s 510 0) : v = alJ h x s := by unfold alJ; rw [← e, Int64.ofInt_toInt]
theorem vlS_nn (D : MDB h x) {w s : Int32} (hw : bd w 0 10000) : 0 ≤ (vlS h x w s).toInt := by
  have I := rnS_bd D s
  have hm : ix (gI h 1003 (x + 23)) ≤ 30 := (bd_nI (hi := 30) D.1.2.2.1).2
  have hmn : ix (gI h 1003 (x + 23)) * nC h x ≤ 30 * 12 := Nat.mul_le_mul hm D.1.1
  have hmn' : ((ix (gI h 1003 (x + 23)) * nC h x : Nat) : Int) ≤ 360 := by exact_mod_cast hmn
  have b1 := I.2.2.2.2.2.2.1
  have b2 := I.2.2.2.2.1
  have e1 : (wtI h x s).toInt = rnS h x s 512 0 := by unfold wtI; exact Int32.toInt_ofInt_of_le (by omega) (by omega)
  have e2 : (alJ h x s).toInt = rnS h x s 510 0 := by unfold alJ; exact Int64.toInt_ofInt_of_le (by omega) (by omega)
  have hb : bd (wtI h x s) 0 360 := ⟨by rw [e1]; exact b1.1, by rw [e1]; omega⟩
  obtain ⟨m1, m2, m3⟩ := i64m hw hb (by decide) (by decide)
  unfold vlS
  rw [i64_add (by rw [m1, e2]; omega) (by rw [m1, e2]; omega), m1, e2]
  omega
/-- a set that may be taken -/
def okB (h : Hp) (x : Nat) (a b each : Int32) (s : Nat) : Prop := ¬ a < nI (pop s) ∧ frS h x s ∧ ¬ b < nI (pop s) * each ∧ prks h (x + 23) (nI s) ≤ lawn h (x + 23) (gI h 1000 (x + 23)) 4
/-- better than the best yet -/
def btB (h : Hp) (x : Nat) (w : Int32) (s : Nat) (v : Int32 × Int64) : Prop := v.1 = -1 ∨ (¬ 0 < lg_cmp (vlS h x w (nI s)) v.2 ∧ ¬ (lg_cmp (vlS h x w (nI s)) v.2 = 0 ∧ ¬ nI (pop s) < V_J9_bitCount h00 v.1))
noncomputable def bsF (h : Hp) (x : Nat) (a b w each : Int32) (s : Nat) (v : Int32 × Int64) : Int32 × Int64 := cif (okB h x a b each s ∧ btB h x w s v) (nI s, vlS h x w (nI s)) v
def bsP (s : Nat) (v : Int32 × Int64) : Prop := v.1 = -1 ∨ ((∃ b, b < s ∧ v.1 = nI b) ∧ 0 ≤ v.2.toInt)
theorem bsF_P (D : MDB h x) {a b w each : Int32} (hw : bd w 0 10000) {s : Nat} {v : Int32 × Int64} (P : bsP s v) : bsP (s + 1) (bsF h x a b w each s v) := by
  unfold bsF
  by_cases c : okB h x a b each s ∧ btB h x w s v
  · rw [cif_pos c]; exact Or.inr ⟨⟨s, by omega, rfl⟩, vlS_nn D hw⟩
  · rw [cif_neg c]
    rcases P with e | ⟨⟨q, hq, e⟩, g⟩
    · exact Or.inl e
    · exact Or.inr ⟨⟨q, by omega, e⟩, g⟩
theorem pr_best (H : CP h x) {a b w d : Int32} (hR : ∀ h', CP h' x → R h') : CtJ M_X0_best [rV x, iV a, iV b, iV w, iV d] h k n (fun r h1 => CtJ M_X3_best [rV (x + 23), iV a, iV b, iV w, iV d] h1 0 0 (fun r2 h2 => r = r2 ∧ R h2) E) E := by
  have g := hR _ H
  have D := H.mdb
  have hn := H.nC_le
  have h12 := pow12 hn.2
  have p0 : 1 ≤ 2 ^ nC h x := Nat.one_le_two_pow
  by_cases c1 : isin a 0 4 = true
  rotate_left
  · have c : isin a 0 4 = false := by simpa using c1
    exact b_X0_best_0 H.xw ⟨fun _ => b_X3_best_0 H.mw ⟨fun _ => ⟨rfl, g⟩, fun y => absurd y c1⟩, fun y => absurd y c1⟩
  have c1f : ¬ isin a 0 4 = false := by rw [c1]; decide
  by_cases c2 : isin b 0 99999 = true
  rotate_left
  · have c : isin b 0 99999 = false := by simpa using c2
    exact b_X0_best_0 H.xw ⟨fun y => absurd y c1f, fun _ => ⟨fun _ => b_X3_best_0 H.mw ⟨fun y => absurd y c1f, fun _ => ⟨fun _ => ⟨rfl, g⟩, fun y => absurd y c2⟩⟩, fun y => absurd y c2⟩⟩
  have c2f : ¬ isin b 0 99999 = false := by rw [c2]; decide
  by_cases c3 : isin w 0 10000 = true
  rotate_left
  · have c : isin w 0 10000 = false := by simpa using c3
    exact b_X0_best_0 H.xw ⟨fun y => absurd y c1f, fun _ => ⟨fun y => absurd y c2f, fun _ => ⟨fun _ => b_X3_best_0 H.mw ⟨fun y => absurd y c1f, fun _ => ⟨fun y => absurd y c2f, fun _ => ⟨fun _ => ⟨rfl, g⟩, fun y => absurd y c3⟩⟩⟩, fun y => absurd y c3⟩⟩⟩
  have c3f : ¬ isin w 0 10000 = false := by rw [c3]; decide
  by_cases c4 : isin d 0 4 = true
  rotate_left
  · have c : isin d 0 4 = false := by simpa using c4
    exact b_X0_best_0 H.xw ⟨fun y => absurd y c1f, fun _ => ⟨fun y => absurd y c2f, fun _ => ⟨fun y => absurd y c3f, fun _ => ⟨fun y => absurd y c4, fun _ => b_X3_best_0 H.mw ⟨fun y => absurd y c1f, fun _ => ⟨fun y => absurd y c2f, fun _ => ⟨fun y => absurd y c3f, fun _ => ⟨fun y => absurd y c4, fun _ => ⟨rfl, g⟩⟩⟩⟩⟩⟩⟩⟩⟩
  have c4f : ¬ isin d 0 4 = false := by rw [c4]; decide
  have hw : bd w 0 10000 := by have := isin_bd c3; exact this
  have ha : bd a 0 4 := by have := isin_bd c1; exact this
  have hb : bd b 0 99999 := by have := isin_bd c2; exact this
  obtain ⟨o1, o2, o3, o4⟩ := H.on (gI h 0 x)
  have et := H.pn.1
  rw [et] at o1 o2 o3 o4
  obtain ⟨ho, -, -, -, -, u5, -, -, -, -, -, u11, u12, -, -⟩ := o2
  have now : ∀ q, V_X3_now h (x + 23) q = lawn h (x + 23) (gI h 1000 (x + 23)) q := fun q => rfl
  have pnow : ∀ h1, SC h h1 x → ∀ q, P_X3_now h1 (x + 23) q := fun h1 C q => (C.cp H).lwp
  have e2 : shl 1 (nI (nC h x)) = nI (2 ^ nC h x) := shl_nI (by omega)
  have B10 := o4 10
  have B11 := o4 11
  have eEach : ∃ each : Int32, each = lawn h (x + 23) (gI h 1000 (x + 23)) 10 + 100 * lawn h (x + 23) (gI h 1000 (x + 23)) 11 ∧ bd each 0 1010000 := by
    refine ⟨_, rfl, ?_⟩
    have m1 := i32m (a := 100) (b := lawn h (x + 23) (gI h 1000 (x + 23)) 11) (A := 100) (B := 9999) ⟨by decide, by decide⟩ B11 (by decide)
    have b1 := B10.1
    have b2 := B10.2
    have b3 := B11.1
    have b4 := B11.2
    unfold bd
    rw [i32_add (by omega) (by omega), m1.1, toI_100]
    omega
  obtain ⟨each, eE, hE⟩ := eEach
  -- the cost, on both sides
  have cost : ∀ s, s < 2 ^ nC h x → ¬ a < nI (pop s) → (0 < lg_cmp (Int32.toInt64 (nI (pop s)) * Int32.toInt64 each) (Int32.toInt64 b) ↔ b < nI (pop s) * each) := by
    intro s hs hp
    rw [i32_lt, nI_toInt (by have := pop_le 12 s; unfold pop; omega)] at hp
    have hp4 : bd (nI (pop s)) 0 4 := ⟨by rw [nI_toInt (by have := pop_le 12 s; unfold pop; omega)]; omega, by rw [nI_toInt (by have := pop_le 12 s; unfold pop; omega)]; have := ha.2; omega⟩
    have m1 := i32m hp4 hE (by decide)
    have m2 := mul_bd hp4.1 hp4.2 hE.1 hE.2
    rw [lg_cmp_gt, i64_lt, i32_lt, m1.1, i64_mul (by rw [to64, to64]; omega) (by rw [to64, to64]; omega), to64, to64, to64]
  have fin : ∀ h1 (v0 : Int64), SC h h1 x → (∀ v : Int32 × Int64, v = itr (bsF h x a b w each) 0 (2 ^ nC h x) (-1, 0) → (v.1 = -1 → v0 = -1) ∧ (¬ v.1 = -1 → (d = 0 → v0 = v.2) ∧ (d = 1 → v0 = Int32.toInt64 v.1) ∧ (d = 2 → v0 = Int32.toInt64 (V_J9_bitCount h00 v.1 * each)) ∧ (d = 3 → v0 = alJ h x v.1) ∧ (¬ d = 0 → ¬ d = 1 → ¬ d = 2 → ¬ d = 3 → v0 = Int32.toInt64 (wtI h x v.1)))) → CtJ M_X3_best [rV (x + 23), iV a, iV b, iV w, iV d] h1 0 0 (fun r2 h2 => v0 = r2 ∧ R h2) E := by
    intro h1 v0 C0 fv
    refine b_X3_best_0 (C0.mw H.mw) ⟨fun y => absurd y c1f, fun _ => ⟨fun y => absurd y c2f, fun _ => ⟨fun y => absurd y c3f, fun _ => ⟨fun _ => ⟨pnow h1 C0 _, pnow h1 C0 _, ?_⟩, fun y => absurd y c4f⟩⟩⟩⟩
    have en : V_X3_now h1 (x + 23) 10 + 100 * V_X3_now h1 (x + 23) 11 = each := by
      rw [eE]
      have : ∀ q, V_X3_now h1 (x + 23) q = lawn h (x + 23) (gI h 1000 (x + 23)) q := fun q => by
        show lawn h1 (x + 23) (gI h1 1000 (x + 23)) q = _
        rw [C0.dm.qlw, C0.dm.g (by decide)]
      rw [this, this]
    rw [en]
    rintro each rfl
    rw [← nI0]
    refine itr_loop (inv := fun s v => ∀ h1, SC h h1 x → bsP s v → (v = itr (bsF h x a b w each) 0 s (-1, 0)) → Rn M_X3_best 72 [(0, rV (x + 23)), (1, iV a), (2, iV b), (3, iV w), (4, iV d), (5, iV each), (6, iV v.1), (7, jV v.2), (9, iV (nI s))] [] h1 0 0 (qJ (fun r2 h2 => v0 = r2 ∧ R h2)) E) (f := bsF h x a b w each) (m := 2 ^ nC h x) (s := (-1, 0)) (fun s v hs ih h1 C P hv => ?_) (fun h1 C P hv => ?_) h1 C0 (Or.inl rfl) rfl
    · have hM := C.mw H.mw
      have D1 := C.dm.mdb D
      have ihn : ∀ h2 (v' : Int32 × Int64), SC h h2 x → v' = bsF h x a b w each s v → Rn M_X3_best 72 [(0, rV (x + 23)), (1, iV a), (2, iV b), (3, iV w), (4, iV d), (5, iV each), (6, iV v'.1), (7, jV v'.2), (9, iV (nI s + 1))] [] h2 0 0 (qJ (fun r2 h2 => v0 = r2 ∧ R h2)) E := by
        rintro h2 v' C2 rfl
        rw [nI_add1]
        refine ih h2 C2 (bsF_P D hw P) ?_
        rw [hv, itr_succ, Nat.zero_add]
      have skip : ∀ h2, SC h h2 x → ¬ (okB h x a b each s ∧ btB h x w s v) → Rn M_X3_best 72 [(0, rV (x + 23)), (1, iV a), (2, iV b), (3, iV w), (4, iV d), (5, iV each), (6, iV v.1), (7, jV v.2), (9, iV (nI s + 1))] [] h2 0 0 (qJ (fun r2 h2 => v0 = r2 ∧ R h2)) E := fun h2 C2 z => ihn h2 v C2 (by unfold bsF; rw [cif_neg z])
      have take : ∀ h2, SC h h2 x → (okB h x a b each s ∧ btB h x w s v) → Rn M_X3_best 72 [(0, rV (x + 23)), (1, iV a), (2, iV b), (3, iV w), (4, iV d), (5, iV each), (6, iV (nI s)), (7, jV (vlS h x w (nI s))), (9, iV (nI s + 1))] [] h2 0 0 (qJ (fun r2 h2 => v0 = r2 ∧ R h2)) E := fun h2 C2 z => ihn h2 (nI s, vlS h x w (nI s)) C2 (by unfold bsF; rw [cif_pos z])
      refine b_X3_best_72 hM ?_
      rw [C.gi (f := 1001) (by decide), hn.1, e2]
      refine ⟨fun c => ?_, fun _ => ?_⟩
      · rw [nIle (by omega) (by omega)] at c; omega
      refine ct_X3_bits (by omega) ⟨hM, fun f1 => ?_, fun f1 => ct_X3_bits (by omega) ⟨hM, fun f2 => ?_, fun f2 => ct_isNew hM D1 (fun r hr hi => ⟨hM, fun f3 => ?_, fun f3 => ⟨(C.cp H).cnp, pnow h1 C _, ?_⟩⟩)⟩⟩
      · rintro _ rfl; exact skip h1 C (fun z => z.1.1 f1)
      · rintro _ rfl; exact skip h1 C (fun z => z.1.2.2.1 f2)
      · rw [C.dm.qts] at hi
        rintro _ rfl
        refine skip h1 C (fun z => ?_)
        rw [hi.mpr ⟨s, hs, rfl, z.1.2.1⟩] at f3
        exact absurd f3 (by decide)
      have hfs : frS h x s := by
        rw [C.dm.qts] at hi
        rcases hr with z | z
        · exact absurd z f3
        · obtain ⟨t, ht, e, hf⟩ := hi.mp z
          rw [nI_inj (by omega) (by omega) e]; exact hf
      have en4 : V_X3_now h1 (x + 23) 4 = lawn h (x + 23) (gI h 1000 (x + 23)) 4 := by
        show lawn h1 (x + 23) (gI h1 1000 (x + 23)) 4 = _
        rw [C.dm.qlw, C.dm.g (by decide)]
      rw [C.dm.qpk, en4]
      refine ⟨fun f4 => ?_, fun f4 => ?_⟩
      rotate_left
      · rintro _ rfl; exact skip h1 C (fun z => f4 z.1.2.2.2)
      have ok : okB h x a b each s := ⟨f1, hfs, f2, f4⟩
      refine ct_falls hM D1 (fun h2 W => ⟨W.1.mw hM, ?_⟩)
      have C2 := C.trans W.1
      have q1 : gI h2 1052 (x + 23) = wtI h x (nI s) := wtI_eq ((W.2 512 0 (Or.inr (Or.inr (Or.inr ⟨by decide, rfl⟩))) (by decide) (by decide)).trans (by rw [C.dm.rn]))
      have q2 : gJ h2 1049 (x + 23) = alJ h x (nI s) := alJ_eq ((W.2 510 0 (Or.inr (Or.inr (Or.inr ⟨by decide, rfl⟩))) (by decide) (by decide)).trans (by rw [C.dm.rn]))
      rw [q1, q2]
      rintro _ rfl
      refine ⟨fun f5 => ?_, fun f5 => ⟨fun f6 => ?_, fun f6 => ⟨fun f7 => ?_, fun f7 => ?_⟩⟩⟩
      · rintro _ rfl; exact take h2 C2 ⟨ok, Or.inl f5⟩
      · rintro _ rfl
        refine skip h2 C2 (fun z => ?_)
        rcases z.2 with y | y
        · exact f5 y
        · exact y.1 f6
      · rintro _ rfl; exact take h2 C2 ⟨ok, Or.inr ⟨f6, fun y => f7 y.1⟩⟩
      · obtain ⟨q, hq, eq⟩ : ∃ q, q < s ∧ v.1 = nI q := by
          rcases P with y | y
          · exact absurd y f5
          · exact y.1
        have ebc : V_J9_bitCount h00 v.1 = nI (pop q) := by rw [eq, bitc_pop q (by omega)]
        refine ct_X3_bits (by omega) ⟨C2.mw H.mw, ?_⟩
        rw [eq]
        refine ct_X3_bits (by omega) ⟨C2.mw H.mw, fun f8 => ?_, fun f8 => ?_⟩
        · rintro _ rfl
          refine take h2 C2 ⟨ok, Or.inr ⟨f6, fun y => ?_⟩⟩
          rw [ebc] at y; exact y.2 f8
        · rintro _ rfl
          rw [← eq]
          refine skip h2 C2 (fun z => ?_)
          rcases z.2 with y | y
          · exact f5 y
          · exact y.2 ⟨f7, by rw [ebc]; exact f8⟩
    · have hM := C.mw H.mw
      have D1 := C.dm.mdb D
      obtain ⟨w1, w2⟩ := fv _ rfl
      refine b_X3_best_72 hM ⟨fun _ => ⟨fun f => ?_, fun f => ⟨w1 f, hR _ (C.cp H)⟩⟩, fun c => absurd ?_ c⟩
      rotate_left
      · rw [C.gi (f := 1001) (by decide), hn.1, e2]; exact Int32.le_refl _
      obtain ⟨v1, v2, v3, v4, v5⟩ := w2 f
      generalize itr (bsF h x a b w each) 0 (2 ^ nC h x) (-1, 0) = v at P f v1 v2 v3 v4 v5 ⊢
      obtain ⟨q, hq, eq⟩ : ∃ q, q < 2 ^ nC h x ∧ v.1 = nI q := by
        rcases P with y | y
        · exact absurd y f
        · exact y.1
      refine ct_falls hM D1 (fun h2 W => ?_)
      have C2 := C.trans W.1
      have gg := hR _ (C2.cp H)
      have q1 : gI h2 1052 (x + 23) = wtI h x v.1 := wtI_eq ((W.2 512 0 (Or.inr (Or.inr (Or.inr ⟨by decide, rfl⟩))) (by decide) (by decide)).trans (by rw [C.dm.rn]))
      have q2 : gJ h2 1049 (x + 23) = alJ h x v.1 := alJ_eq ((W.2 510 0 (Or.inr (Or.inr (Or.inr ⟨by decide, rfl⟩))) (by decide) (by decide)).trans (by rw [C.dm.rn]))
      rw [q1, q2]
      refine ⟨W.1.mw hM, fun d0 => ⟨fun d1 => ⟨fun d2 => ⟨fun d3 => ⟨v5 d0 d1 d2 d3, gg⟩, fun d3 => ⟨v4 d3, gg⟩⟩, fun d2 => ?_⟩, fun d1 => ⟨v2 d1, gg⟩⟩, fun d0 => ⟨v1 d0, gg⟩⟩
      have v3 := v3 d2
      rw [eq, bitc_pop q (by omega)] at v3
      rw [eq]
      exact ct_X3_bits (by omega) ⟨C2.mw H.mw, v3, gg⟩
  refine b_X0_best_0 H.xw ⟨fun y => absurd y c1f, fun _ => ⟨fun y => absurd y c2f, fun _ => ⟨fun y => absurd y c3f, fun _ => ⟨fun _ => ?_, fun y => absurd y c4f⟩⟩⟩⟩
  rw [et]
  refine ⟨o1, ?_⟩
  generalize V_X0_on h x (gI h 1000 (x + 23)) = r5 at ho u5 u11 u12 ⊢
  rintro r5 rfl
  refine ⟨ho, ?_⟩
  rw [u11, u12, Int32.mul_comm, ← eE]
  rintro each rfl
  refine ⟨H, ?_⟩
  rintro _ rfl
  -- the component's best: 0 and -1 for none
  have X0L := itr_loop (inv := fun s v => ∀ h1, SC h h1 x → bsP s v → (v = itr (bsF h x a b w each) 0 s (-1, 0)) → Rn M_X0_best 88 [(0, rV x), (1, iV a), (2, iV b), (3, iV w), (4, iV d), (5, rV r5), (6, iV each), (7, iV (prkx h x)), (8, iV (if v.1 = -1 then 0 else v.1)), (9, jV (if v.1 = -1 then -1 else v.2)), (11, iV (nI s))] [] h1 k n (qJ (fun r h1 => CtJ M_X3_best [rV (x + 23), iV a, iV b, iV w, iV d] h1 0 0 (fun r2 h2 => r = r2 ∧ R h2) E)) E) (f := bsF h x a b w each) (m := 2 ^ nC h x) (s := (-1, 0)) (fun s v hs ih h1 C P hv => ?_) (fun h1 C P hv => ?_) h (SC.refl h x) (Or.inl rfl) rfl
  · rw [nI0] at X0L; exact X0L
  · have H1 := C.cp H
    have ihn : ∀ h2 (v' : Int32 × Int64), SC h h2 x → v' = bsF h x a b w each s v → Rn M_X0_best 88 [(0, rV x), (1, iV a), (2, iV b), (3, iV w), (4, iV d), (5, rV r5), (6, iV each), (7, iV (prkx h x)), (8, iV (if v'.1 = -1 then 0 else v'.1)), (9, jV (if v'.1 = -1 then -1 else v'.2)), (11, iV (nI s + 1))] [] h2 k n (qJ (fun r h1 => CtJ M_X3_best [rV (x + 23), iV a, iV b, iV w, iV d] h1 0 0 (fun r2 h2 => r = r2 ∧ R h2) E)) E := by
      rintro h2 v' C2 rfl
      rw [nI_add1]
      refine ih h2 C2 (bsF_P D hw P) ?_
      rw [hv, itr_succ, Nat.zero_add]
    have sne : ¬ nI s = -1 := nI_nm1 (by omega)
    have skip : ∀ h2, SC h h2 x → ¬ (okB h x a b each s ∧ btB h x w s v) → Rn M_X0_best 88 [(0, rV x), (1, iV a), (2, iV b), (3, iV w), (4, iV d), (5, rV r5), (6, iV each), (7, iV (prkx h x)), (8, iV (if v.1 = -1 then 0 else v.1)), (9, jV (if v.1 = -1 then -1 else v.2)), (11, iV (nI s + 1))] [] h2 k n (qJ (fun r h1 => CtJ M_X3_best [rV (x + 23), iV a, iV b, iV w, iV d] h1 0 0 (fun r2 h2 => r = r2 ∧ R h2) E)) E := fun h2 C2 z => ihn h2 v C2 (by unfold bsF; rw [cif_neg z])
    have take : ∀ h2, SC h h2 x → (okB h x a b each s ∧ btB h x w s v) → Rn M_X0_best 88 [(0, rV x), (1, iV a), (2, iV b), (3, iV w), (4, iV d), (5, rV r5), (6, iV each), (7, iV (prkx h x)), (8, iV (nI s)), (9, jV (vlS h x w (nI s))), (11, iV (nI s + 1))] [] h2 k n (qJ (fun r h1 => CtJ M_X3_best [rV (x + 23), iV a, iV b, iV w, iV d] h1 0 0 (fun r2 h2 => r = r2 ∧ R h2) E)) E := fun h2 C2 z => by
      have := ihn h2 (nI s, vlS h x w (nI s)) C2 (by unfold bsF; rw [cif_pos z])
      simp only [if_neg sne] at this
      exact this
    have ebc : V_J9_bitCount h1 (nI s) = nI (pop s) := by rw [bitc_h, bitc_pop s (by omega)]
    refine b_X0_best_88 H1.xw ?_
    rw [C.gi (f := 1102) (by decide), H.size2, hn.1, e2, ebc]
    refine ⟨fun c => ?_, fun _ => ?_⟩
    · rw [nIle (by omega) (by omega)] at c; omega
    rintro _ rfl
    refine ⟨fun f1 => ?_, fun f1 => ⟨H1, fun f2 => ?_, fun f2 => ?_⟩⟩
    · rintro _ rfl; exact skip h1 C (fun z => z.1.1 f1)
    · rintro _ rfl
      refine skip h1 C (fun z => f2 ?_)
      have := (free_ok (a := nI s) H1).mpr (by rw [C.dm.qts]; exact ⟨s, hs, rfl, z.1.2.1⟩)
      exact this.2
    have hfs : frS h x s := by
      have := (free_ok (a := nI s) H1).mp ⟨by rw [i32_lt, toI_0, nI_toInt (by omega)]; omega, f2⟩
      rw [C.dm.qts] at this
      obtain ⟨t, ht, e, hf⟩ := this
      rw [nI_inj (by omega) (by omega) e]; exact hf
    rw [cost s hs f1]
    refine ⟨fun f3 => ?_, fun f3 => ?_⟩
    · rintro _ rfl; exact skip h1 C (fun z => z.1.2.2.1 f3)
    refine cs_X0_parkingOf H1 ⟨H1.xw, ?_⟩
    have epk : pkof h1 x (nI s) = pkof h x (nI s) := by unfold pkof pkG; simp only [C.qC, C.eiM (o := 3) (by decide)]
    rw [C.k, C.gi (f := 406) (by decide), u5, epk, pk_sum H hs hfs]
    refine ⟨ho, fun f4 => ?_, fun f4 => ?_⟩
    rotate_left
    · rintro _ rfl; exact skip h1 C (fun z => f4 z.1.2.2.2)
    have ok : okB h x a b each s := ⟨f1, hfs, f3, f4⟩
    refine ct_runs H1 (fun h2 W => ⟨(W.1.cp H1).xw, ?_⟩)
    have C2 := C.trans W.1
    have q1 : gI h2 512 (x + 13) = wtI h x (nI s) := wtI_eq ((W.2.2 512 0 (Or.inr (Or.inr (Or.inr ⟨by decide, rfl⟩))) (by decide) (by decide)).trans (by rw [C.dm.rn]))
    have q2 : gJ h2 510 (x + 13) = alJ h x (nI s) := alJ_eq ((W.2.2 510 0 (Or.inr (Or.inr (Or.inr ⟨by decide, rfl⟩))) (by decide) (by decide)).trans (by rw [C.dm.rn]))
    rw [q1, q2]
    rintro _ rfl
    by_cases vm : v.1 = -1
    · refine ⟨fun f5 => ?_, fun f5 => ?_⟩
      · rintro _ rfl; exact take h2 C2 ⟨ok, Or.inl vm⟩
      · exfalso
        rw [if_pos vm] at f5
        exact f5 (by decide)
    · have vnn : 0 ≤ v.2.toInt := by
        rcases P with y | y
        · exact absurd y vm
        · exact y.2
      have skip := skip h2 C2
      rw [if_neg vm, if_neg vm] at skip ⊢
      refine ⟨fun f5 => ?_, fun f5 => ⟨fun f6 => ?_, fun f6 => ⟨fun f7 => ?_, fun f7 => ⟨fun f8 => ?_, fun f8 => ?_⟩⟩⟩⟩
      · exfalso
        rw [lg_cmp_lt, i64_lt, toL_0] at f5
        omega
      · rintro _ rfl
        refine skip (fun z => ?_)
        rcases z.2 with y | y
        · exact vm y
        · exact y.1 f6
      · rintro _ rfl; exact take h2 C2 ⟨ok, Or.inr ⟨f6, fun y => f7 y.1⟩⟩
      · rintro _ rfl
        rw [bitc_h] at f8
        exact take h2 C2 ⟨ok, Or.inr ⟨f6, fun y => y.2 f8⟩⟩
      · rintro _ rfl
        rw [bitc_h] at f8
        refine skip (fun z => ?_)
        rcases z.2 with y | y
        · exact vm y
        · exact y.2 ⟨f7, f8⟩
  · have H1 := C.cp H
    refine b_X0_best_88 H1.xw ⟨fun _ => ?_, fun c => absurd ?_ c⟩
    rotate_left
    · rw [C.gi (f := 1102) (by decide), H.size2, hn.1, e2]; exact Int32.le_refl _
    generalize hv0 : itr (bsF h x a b w each) 0 (2 ^ nC h x) (-1, 0) = v at P fin ⊢
    by_cases vm : v.1 = -1
    · rw [if_pos vm, if_pos vm]
      refine ⟨fun f => absurd f (by decide), fun _ => fin h1 _ C (fun v' e => ?_)⟩
      subst e
      exact ⟨fun _ => rfl, fun z => absurd vm z⟩
    · rw [if_neg vm, if_neg vm]
      have vnn : 0 ≤ v.2.toInt := by
        rcases P with y | y
        · exact absurd y vm
        · exact y.2
      refine ⟨fun _ => ?_, fun f => absurd ?_ f⟩
      rotate_left
      · rw [lg_cmp_ge, i64_le, toL_0]; exact vnn
      obtain ⟨q, hq, eq⟩ : ∃ q, q < 2 ^ nC h x ∧ v.1 = nI q := by
        rcases P with y | y
        · exact absurd y vm
        · exact y.1
      refine ct_runs H1 (fun h2 W => ⟨(W.1.cp H1).xw, ?_⟩)
      have C2 := C.trans W.1
      have q1 : gI h2 512 (x + 13) = wtI h x v.1 := wtI_eq ((W.2.2 512 0 (Or.inr (Or.inr (Or.inr ⟨by decide, rfl⟩))) (by decide) (by decide)).trans (by rw [C.dm.rn]))
      have q2 : gJ h2 510 (x + 13) = alJ h x v.1 := alJ_eq ((W.2.2 510 0 (Or.inr (Or.inr (Or.inr ⟨by decide, rfl⟩))) (by decide) (by decide)).trans (by rw [C.dm.rn]))
      rw [q1, q2]
      -- the number of beds of the best set is small where it was taken
      have small : ¬ a < nI (pop q) := by
        have := itr_inv (f := bsF h x a b w each) (P := fun s v => v.1 = -1 ∨ ∃ q, q < s ∧ v.1 = nI q ∧ ¬ a < nI (pop q)) (t := 2 ^ nC h x) (i := 0) (v := (-1, 0)) (fun s u _ hs hu => ?_) (Or.inl rfl)
        · rw [hv0, Nat.zero_add] at this
          rcases this with y | ⟨t, ht, y1, y2⟩
          · exact absurd y vm
          · have := nI_inj (by omega) (by omega) (eq.symm.trans y1)
            rw [this]; exact y2
        · unfold bsF
          by_cases c : okB h x a b each s ∧ btB h x w s u
          · rw [cif_pos c]; exact Or.inr ⟨s, by omega, rfl, c.1.1⟩
          · rw [cif_neg c]
            rcases hu with y | ⟨t, ht, y1, y2⟩
            · exact Or.inl y
            · exact Or.inr ⟨t, by omega, y1, y2⟩
      have e64 : Int32.toInt64 (V_J9_bitCount h2 v.1) * Int32.toInt64 each = Int32.toInt64 (V_J9_bitCount h00 v.1 * each) := by
        rw [bitc_h, eq, bitc_pop q (by omega)]
        have hp4 : bd (nI (pop q)) 0 4 := by
          have hpl : pop q < 2 ^ 31 := by have := pop_le 12 q; unfold pop; omega
          rw [i32_lt, nI_toInt hpl] at small
          exact ⟨by rw [nI_toInt hpl]; omega, by rw [nI_toInt hpl]; have := ha.2; omega⟩
        have m1 := i32m hp4 hE (by decide)
        have m2 := mul_bd hp4.1 hp4.2 hE.1 hE.2
        apply i64_ext
        rw [to64, m1.1, i64_mul (by rw [to64, to64]; omega) (by rw [to64, to64]; omega), to64, to64]
      refine ⟨fun d0 => ?_, fun d0 => ⟨fun d1 => ?_, fun d1 => ⟨fun d2 => ?_, fun d2 => ⟨fun d3 => ?_, fun d3 => ?_⟩⟩⟩⟩
      · refine fin h2 _ C2 (fun v' e => ?_)
        subst e
        exact ⟨fun z => absurd z vm, fun _ => ⟨fun _ => rfl, fun z => absurd (d0.symm.trans z) (by decide), fun z => absurd (d0.symm.trans z) (by decide), fun z => absurd (d0.symm.trans z) (by decide), fun z => absurd d0 z⟩⟩
      · refine fin h2 _ C2 (fun v' e => ?_)
        subst e
        exact ⟨fun z => absurd z vm, fun _ => ⟨fun z => absurd z d0, fun _ => rfl, fun z => absurd (d1.symm.trans z) (by decide), fun z => absurd (d1.symm.trans z) (by decide), fun _ z => absurd d1 z⟩⟩
      · refine fin h2 _ C2 (fun v' e => ?_)
        subst e
        exact ⟨fun z => absurd z vm, fun _ => ⟨fun z => absurd z d0, fun z => absurd z d1, fun _ => e64, fun z => absurd (d2.symm.trans z) (by decide), fun _ _ z => absurd d2 z⟩⟩
      · refine fin h2 _ C2 (fun v' e => ?_)
        subst e
        exact ⟨fun z => absurd z vm, fun _ => ⟨fun z => absurd z d0, fun z => absurd z d1, fun z => absurd z d2, fun _ => rfl, fun _ _ _ z => absurd d3 z⟩⟩
      · refine fin h2 _ C2 (fun v' e => ?_)
        subst e
        exact ⟨fun z => absurd z vm, fun _ => ⟨fun z => absurd z d0, fun z => absurd z d1, fun z => absurd z d2, fun z => absurd z d3, fun _ _ _ _ => rfl⟩⟩
end
