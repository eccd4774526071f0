/-! pairs: crew -/
set_option maxRecDepth 100000
noncomputable def cif {α : Type} (c : Prop) (a b : α) : α := @ite α c (Classical.propDecidable c) a b
theorem cif_pos {α : Type} {c : Prop} {a b : α} (h : c) : cif c a b = a := if_pos h
theorem cif_neg {α : Type} {c : Prop} {a b : α} (h : ¬ c) : cif c a b = b := if_neg h
section
variable {h : Hp} {x mo : Nat} {E : Nat → Hp → Prop} {k n : Nat} {R : Hp → Prop} {Q : Int32 → Hp → Prop}
def crG (h : Hp) (x s : Nat) (i : Nat) (v : Int32) : Int32 := if bt (nI s) i = true then v + moreV h x i else v
def crS (h : Hp) (x s : Nat) : Int32 := itr (crG h x s) 0 (nC h x) 0
def hrs (s : Nat) : Int32 := (31 - V_J9_numberOfLeadingZeros h00 (nI s)) + 2 * nI (pop s)
noncomputable def crewF (h : Hp) (x : Nat) (a : Int32) (s : Nat) (v : Int32 × Int32 × Int32) : Int32 × Int32 × Int32 := cif (okS h x s ∧ hrs s ≤ a ∧ v.2.1 < crS h x s) (nI s, crS h x s, hrs s) v
/-- what the reference adds up for a set: sum, last, whether all have beds -/
def crM (h : Hp) (x s : Nat) (i : Nat) (v : Int32 × Int32 × Int32) : Int32 × Int32 × Int32 := if bt (nI s) i = true then (if eI h (x + 23 + 6) i = 0 then (v.1, v.2.1, 0) else (v.1 + moreV h x i, nI i, v.2.2)) else v
theorem crM_def (h : Hp) (x s i : Nat) (v : Int32 × Int32 × Int32) : crM h x s i v = if bt (nI s) i = true then (if eI h (x + 23 + 6) i = 0 then (v.1, v.2.1, 0) else (v.1 + moreV h x i, nI i, v.2.2)) else v := rfl
theorem crG_def (h : Hp) (x s i : Nat) (v : Int32) : crG h x s i v = if bt (nI s) i = true then v + moreV h x i else v := rfl
theorem lastF_def (p : Int32) (i : Nat) (v : Int32) : lastF p i v = if shr p (nI i) &&& 1 = 1 then nI i else v := rfl
theorem crM_ok {s : Nat} (hs : okS h x s) : itr (crM h x s) 0 (nC h x) (0, 0, 1) = (crS h x s, itr (lastF (nI s)) 0 (nC h x) 0, 1) ∨ 12 < nC h x := by
  rcases Nat.lt_or_ge 12 (nC h x) with z | hn
  · exact Or.inr z
  left
  have := itr_inv (f := crM h x s) (P := fun i v => v = (itr (crG h x s) 0 i 0, itr (lastF (nI s)) 0 i 0, 1)) (t := nC h x) (i := 0) (v := (0, 0, 1)) (fun j w _ hj hw => ?_) rfl
  · rw [Nat.zero_add] at this; exact this
  · have hsm : bt (nI s) j = true → s < 2 ^ 31 → s.testBit j = true := fun c z => by rw [bt_nI z (by omega)] at c; exact c
    subst hw
    rw [itr_succ, itr_succ, Nat.zero_add]
    rw [crM_def, crG_def, lastF_def]
    have sb := shr_bit (c := nI s) (y := j) (by omega)
    by_cases c : bt (nI s) j = true
    · have hb : ¬ eI h (x + 23 + 6) j = 0 ∨ ¬ s < 2 ^ 31 := by
        rcases Nat.lt_or_ge s (2 ^ 31) with z | z
        · exact Or.inl (hs j (by omega) (hsm c z))
        · exact Or.inr (by omega)
      by_cases hb2 : eI h (x + 23 + 6) j = 0
      · rcases hb with z | z
        · exact absurd hb2 z
        · have : s.testBit j = true := by
            have c2 : (BitVec.ofNat 32 s).getLsbD j = true := c
            rw [BitVec.getLsbD_ofNat] at c2
            simp at c2
            exact c2.2
          exact absurd hb2 (hs j (by omega) this)
      · simp [c, hb2, sb]
    · simp [c, sb]
theorem crM_no {s : Nat} (hs : ¬ okS h x s) (h1 : s < 2 ^ 31) (hn : nC h x ≤ 12) : (itr (crM h x s) 0 (nC h x) (0, 0, 1)).2.2 = 0 := by
  have key : ∀ m, m ≤ 12 → (∃ y, y < m ∧ s.testBit y = true ∧ eI h (x + 23 + 6) y = 0) → (itr (crM h x s) 0 m (0, 0, 1)).2.2 = 0 := by
    intro m
    induction m with
    | zero => rintro _ ⟨y, hy, -⟩; omega
    | succ m ih =>
      rintro hm ⟨y, hy, h2, h3⟩
      rw [itr_succ, Nat.zero_add]
      unfold crM
      by_cases e : y = m
      · subst e
        rw [if_pos (by rw [bt_nI h1 (by omega)]; exact h2), if_pos h3]
      · have := ih (by omega) ⟨y, by omega, h2, h3⟩
        by_cases c : bt (nI s) m = true
        · rw [if_pos c]
          by_cases d : eI h (x + 23 + 6) m = 0
          · rw [if_pos d]
          · rw [if_neg d]; exact this
        · rw [if_neg c]; exact this
  refine key _ hn ?_
  by_cases c : ∃ y, y < nC h x ∧ s.testBit y = true ∧ eI h (x + 23 + 6) y = 0
  · exact c
  · exact absurd (fun y h1 h2 h3 => c ⟨y, h1, h2, h3⟩) hs
theorem crM_01 {s m : Nat} : (itr (crM h x s) 0 m (0, 0, 1)).2.2 = 0 ∨ (itr (crM h x s) 0 m (0, 0, 1)).2.2 = 1 := by
  have := itr_inv (f := crM h x s) (P := fun i v => v.2.2 = 0 ∨ v.2.2 = 1) (t := m) (i := 0) (v := (0, 0, 1)) (fun j w _ hj hw => ?_) (Or.inr rfl)
  · exact this
  · unfold crM
    by_cases c : bt (nI s) j = true
    · rw [if_pos c]
      by_cases d : eI h (x + 23 + 6) j = 0
      · rw [if_pos d]; exact Or.inl rfl
      · rw [if_neg d]; exact hw
    · rw [if_neg c]; exact hw
theorem pr_crew (H : CP h x) {a b : Int32} (hR : ∀ h', CP h' x → R h') : CtI M_X0_crew [rV x, iV a, iV b] h k n (fun r h1 => CtI M_X3_crew [rV (x + 23), iV a, iV b] h1 0 0 (fun r2 h2 => r = r2 ∧ R h2) E) E := by
  refine r_wfH fun wf => ?_
  have g := hR _ H
  have hn := H.nC_le
  have h12 := pow12 hn.2
  have p0 : 1 ≤ 2 ^ nC h x := Nat.one_le_two_pow
  by_cases ca : isin a 0 60 = true
  rotate_left
  · have c : isin a 0 60 = false := by simpa using ca
    exact b_X0_crew_0 H.xw ⟨fun _ => b_X3_crew_0 H.mw ⟨fun _ => ⟨rfl, g⟩, fun d => absurd d ca⟩, fun d => absurd d ca⟩
  by_cases cb : isin b 0 2 = true
  rotate_left
  · have c : isin b 0 2 = false := by simpa using cb
    exact b_X0_crew_0 H.xw ⟨fun d => absurd (ca.symm.trans d) (by decide), fun _ => ⟨fun d => absurd d cb, fun _ => b_X3_crew_0 H.mw ⟨fun d => absurd (ca.symm.trans d) (by decide), fun _ => ⟨fun d => absurd d cb, fun _ => ⟨rfl, g⟩⟩⟩⟩⟩
  have e2 : shl 1 (nI (nC h x)) = nI (2 ^ nC h x) := shl_nI (by omega)
  have fin : ∀ v0 : Int32, ((¬ b = 0 → ¬ b = 1 → v0 = (itr (crewF h x a) 1 (2 ^ nC h x - 1) (0, 0, 0)).2.2) ∧ (¬ b = 0 → b = 1 → v0 = (itr (crewF h x a) 1 (2 ^ nC h x - 1) (0, 0, 0)).1) ∧ (b = 0 → v0 = (itr (crewF h x a) 1 (2 ^ nC h x - 1) (0, 0, 0)).2.1)) → CtI M_X3_crew [rV (x + 23), iV a, iV b] h 0 0 (fun r2 h2 => v0 = r2 ∧ R h2) E := by
    intro v0 ⟨q1, q2, q3⟩
    refine b_X3_crew_0 H.mw ⟨fun d => absurd (ca.symm.trans d) (by decide), fun _ => ⟨fun _ => ?_, fun d => absurd (cb.symm.trans d) (by decide)⟩⟩
    have L := itr_loopA (f := crewF h x a) (inv := fun s v => Rn M_X3_crew 32 [(0, rV (x + 23)), (1, iV a), (2, iV b), (3, iV v.1), (4, iV v.2.1), (5, iV v.2.2), (6, iV (nI s))] [] h 0 0 (qI (fun r2 h2 => v0 = r2 ∧ R h2)) E ∨ s = 0) (m := 2 ^ nC h x) (fun s v hs hw => ?_) (2 ^ nC h x - 1) 1 (0, 0, 0) (by omega) (Or.inl ?_)
    · rcases L with L | L
      · exact L
      · exact absurd L (by decide)
    · by_cases s0 : s = 0
      · exact Or.inr s0
      left
      rcases hw with hw | hw
      rotate_left
      · omega
      refine b_X3_crew_32 H.mw ⟨fun c => ?_, fun _ => ?_⟩
      · rw [hn.1, e2, nIle (by omega) (by omega)] at c; omega
      rw [← nI0]
      refine itr_loop (inv := fun i u => (u.2.2 = 0 ∨ u.2.2 = 1) → Rn M_X3_crew 55 [(0, rV (x + 23)), (1, iV a), (2, iV b), (3, iV v.1), (4, iV v.2.1), (5, iV v.2.2), (6, iV (nI s)), (7, iV u.1), (8, iV u.2.1), (9, iV u.2.2), (10, iV (nI i))] [] h 0 0 (qI (fun r2 h2 => v0 = r2 ∧ R h2)) E) (f := crM h x s) (m := nC h x) (s := (nI 0, nI 0, 1)) (fun i u hi hw hu => ?_) ?_ (Or.inr rfl)
      · have vi : vp_in (nI i) 12 := vin_nI (by omega) (by decide)
        have ei : ix (nI i) = i := ix_nI (by omega)
        refine b_X3_crew_55 H.mw ⟨fun c => absurd c (by rw [hn.1, nIle (by omega) (by omega)]; omega), fun _ => ?_⟩
        rw [shr_bit0 (by omega), ei]
        unfold crM at hw
        refine ⟨fun c => ?_, fun c => ?_⟩
        · have c : bt (nI s) i = true := by simpa using c
          have k97 : ∀ z : Int32, (¬ eI h (x + 23 + 6) i = 0 → z = u.2.2) → (eI h (x + 23 + 6) i = 0 → z = 0) → Rn M_X3_crew 97 [(0, rV (x + 23)), (1, iV a), (2, iV b), (3, iV v.1), (4, iV v.2.1), (5, iV v.2.2), (6, iV (nI s)), (7, iV u.1), (8, iV u.2.1), (10, iV (nI i))] [iV z] h 0 0 (qI (fun r2 h2 => v0 = r2 ∧ R h2)) E := by
            intro z z1 z2
            refine b_X3_crew_97 H.mw ⟨vi, ?_⟩
            rw [ei]
            refine ⟨fun d => ?_, fun d => ?_⟩
            · obtain ⟨m1, m2, m3, m4, m5, m6⟩ := H.more wf hi d
              refine ⟨vi, ⟨vi, m5⟩, m6, ?_⟩
              rintro _ rfl _ rfl
              rw [nI_add1, z1 d]
              rw [if_pos c, if_neg d] at hw
              exact hw hu
            · rintro _ rfl
              rw [nI_add1, z2 d]
              rw [if_pos c, if_pos d] at hw
              exact hw (Or.inl rfl)
          refine ⟨fun d => k97 0 (fun _ => d.symm) (fun _ => rfl), fun d => ⟨vi, fun f => k97 0 (fun z => absurd f z) (fun _ => rfl), fun f => k97 1 (fun _ => ?_) (fun z => absurd z f)⟩⟩
          rcases hu with z | z
          · exact absurd z d
          · exact z.symm
        · rintro _ rfl
          rw [nI_add1]
          rw [if_neg (by rw [c]; decide)] at hw
          exact hw hu
      · intro hu
        rw [nI0] at *
        refine b_X3_crew_55 H.mw ⟨fun _ => ?_, fun c => absurd (by rw [hn.1]; exact Int32.le_refl _) c⟩
        by_cases ok : okS h x s
        · have e3 : itr (crM h x s) 0 (nC h x) (0, 0, 1) = (crS h x s, 31 - V_J9_numberOfLeadingZeros h00 (nI s), 1) := by
            rcases crM_ok (h := h) (x := x) ok with z | z
            · rw [z, last_set hn.2 hs s0]
            · omega
          rw [e3]
          refine ⟨fun c => absurd (show (1 : Int32) = 0 from c) (by decide), fun _ => ct_X3_bits (by omega) ⟨H.mw, fun c => ?_, fun c => ⟨fun d => ct_X3_bits (by omega) ⟨H.mw, ?_⟩, fun d => ?_⟩⟩⟩
          · rintro _ rfl
            rw [nI_add1]
            unfold crewF at hw
            rw [cif_neg (fun z => i32_not_lt.mpr z.2.1 c)] at hw
            exact hw
          · rintro _ rfl _ rfl
            rw [nI_add1]
            unfold crewF at hw
            rw [cif_pos ⟨ok, i32_not_lt.mp c, d⟩] at hw
            exact hw
          · rintro _ rfl
            rw [nI_add1]
            unfold crewF at hw
            rw [cif_neg (fun z => d z.2.2)] at hw
            exact hw
        · have e3 := crM_no (h := h) (x := x) ok (by omega) hn.2
          refine ⟨fun _ => ?_, fun c => absurd e3 c⟩
          rintro _ rfl
          rw [nI_add1]
          unfold crewF at hw
          rw [cif_neg (fun z => ok z.1)] at hw
          exact hw
    · refine b_X3_crew_32 H.mw ⟨fun _ => ⟨fun c0 => ⟨fun c1 => ⟨q1 c0 c1, g⟩, fun c1 => ⟨q2 c0 c1, g⟩⟩, fun c0 => ⟨q3 c0, g⟩⟩, fun c => absurd (by rw [hn.1, e2]; exact Int32.le_refl _) c⟩
  refine b_X0_crew_0 H.xw ⟨fun d => absurd (ca.symm.trans d) (by decide), fun _ => ⟨fun _ => ⟨H, ?_⟩, fun d => absurd (cb.symm.trans d) (by decide)⟩⟩
  rw [H.size2, hn.1]
  intro bz ebz
  have L := itr_loopA (f := crewF h x a) (inv := fun s v => Rn M_X0_crew 52 [(0, rV x), (1, iV a), (2, iV b), (3, iV v.1), (4, iV v.2.1), (5, iV v.2.2), (6, iV bz), (7, iV (nI s))] [] h k n (qI (fun r h1 => CtI M_X3_crew [rV (x + 23), iV a, iV b] h1 0 0 (fun r2 h2 => r = r2 ∧ R h2) E)) E ∨ s = 0) (m := 2 ^ nC h x) (fun s v hs hw => ?_) (2 ^ nC h x - 1) 1 (0, 0, 0) (by omega) (Or.inl ?_)
  · rcases L with L | L
    · exact L
    · exact absurd L (by decide)
  · by_cases s0 : s = 0
    · exact Or.inr s0
    left
    rcases hw with hw | hw
    rotate_left
    · omega
    have hb := busy_ok H hs
    rw [← ebz] at hb
    have ehr : (31 - V_J9_numberOfLeadingZeros h (nI s)) + 2 * V_J9_bitCount h (nI s) = hrs s := by
      unfold hrs
      rw [nlz_h, bitc_h, bitc_pop s (by omega)]
    refine b_X0_crew_52 H.xw ⟨fun c => ?_, fun _ => ?_⟩
    · rw [H.size2, hn.1, e2, nIle (by omega) (by omega)] at c; omega
    rw [ehr, hb]
    rintro _ rfl
    have skip : ¬ (okS h x s ∧ hrs s ≤ a ∧ v.2.1 < crS h x s) → Rn M_X0_crew 52 [(0, rV x), (1, iV a), (2, iV b), (3, iV v.1), (4, iV v.2.1), (5, iV v.2.2), (6, iV bz), (7, iV (nI s + 1))] [] h k n (qI (fun r h1 => CtI M_X3_crew [rV (x + 23), iV a, iV b] h1 0 0 (fun r2 h2 => r = r2 ∧ R h2) E)) E := fun z => by
      rw [nI_add1]
      unfold crewF at hw
      rw [cif_neg z] at hw
      exact hw
    refine ⟨fun c => ?_, fun ok => ⟨fun c => ?_, fun c => ?_⟩⟩
    · rintro _ rfl; exact skip (fun z => c z.1)
    rotate_left
    · rintro _ rfl; exact skip (fun z => c z.2.1)
    rw [← nI0]
    refine itr_loop (inv := fun i u => Rn M_X0_crew 109 [(0, rV x), (1, iV a), (2, iV b), (3, iV v.1), (4, iV v.2.1), (5, iV v.2.2), (6, iV bz), (7, iV (nI s)), (8, iV (hrs s)), (9, iV u), (10, iV (nI i))] [] h k n (qI (fun r h1 => CtI M_X3_crew [rV (x + 23), iV a, iV b] h1 0 0 (fun r2 h2 => r = r2 ∧ R h2) E)) E) (f := crG h x s) (m := nC h x) (s := nI 0) (fun i u hi hw => ?_) ?_
    · obtain ⟨a1, a2, a3, a4, a5⟩ := H.corI hi
      refine b_X0_crew_109 H.xw ⟨fun c => absurd c a1, fun _ => ?_⟩
      rw [shr_bit (by omega), a3]
      unfold crG at hw
      refine ⟨fun c => ?_, fun c => ?_⟩
      · rintro _ rfl _ rfl
        rw [nI_add1, Int32.add_zero]
        rw [if_neg c] at hw
        exact hw
      · have hb2 : ¬ eI h (x + 23 + 6) i = 0 := ok i hi (by rw [bt_nI (by omega) (by omega)] at c; exact c)
        obtain ⟨m1, m2, m3, m4, m5, m6⟩ := H.more wf hi hb2
        refine ⟨a2, a4, ((H.bedI wf hi).2 hb2).2.1, m1, ?_⟩
        rintro _ rfl _ rfl
        rw [nI_add1, m2]
        rw [if_pos c] at hw
        exact hw
    · refine b_X0_crew_109 H.xw ⟨fun _ => ⟨fun d => ?_, fun d => ?_⟩, fun c => absurd H.corE c⟩
      · rintro _ rfl
        rw [nI_add1]
        rw [nI0] at *
        unfold crewF at hw
        rw [cif_pos ⟨ok, c, d⟩] at hw
        exact hw
      · rintro _ rfl
        rw [nI0] at *
        exact skip (fun z => d z.2.2)
  · refine b_X0_crew_52 H.xw ⟨fun _ => ⟨fun c0 => ⟨fun c1 => ?_, fun c1 => ?_⟩, fun c0 => ?_⟩, fun c => absurd (by rw [H.size2, hn.1, e2]; exact Int32.le_refl _) c⟩
    · exact fin _ ⟨fun _ _ => rfl, fun _ z => absurd z c1, fun z => absurd z c0⟩
    · exact fin _ ⟨fun _ z => absurd c1 z, fun _ _ => rfl, fun z => absurd z c0⟩
    · exact fin _ ⟨fun z => absurd c0 z, fun z => absurd c0 z, fun _ => rfl⟩
end
