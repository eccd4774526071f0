/-! counts and sums -/
set_option maxRecDepth 100000
section
variable {h : Hp} {x mo : Nat} {E : Nat → Hp → Prop} {k n : Nat} {Q : Int32 → Hp → Prop} {QJ : Int64 → Hp → Prop} {R : Hp → Prop}
def bdF (h : Hp) (x : Nat) (s : Int32) (i : Nat) (v : Int32) : Int32 := v + (if eI h (x + 23 + 6) i = 0 then 0 else if s = 0 then 1 else if eI h (x + 23 + 8) i = 0 then 1 else 0)
def bdx (h : Hp) (x : Nat) (s : Int32) : Int32 := itr (bdF h x s) 0 (nC h x) 0
theorem cs_X0_bedsThat (hm : XW h x) (H : CP h x) {s : Int32} (hq : Q (bdx h x s) h) : CtI M_X0_bedsThat [rV x, iV s] h k n Q E := by
  refine r_wfH fun wf => ?_
  refine b_X0_bedsThat_0 H.xw ?_
  rw [← nI0]
  refine itr_loop (inv := fun i v => Rn M_X0_bedsThat 4 [(0, rV x), (1, iV s), (2, iV v), (3, iV (nI i))] [] h k n (qI Q) E) (f := bdF h x s) (m := nC h x) (fun i v hi hw => ?_) ?_
  · obtain ⟨a1, a2, a3, a4, a5⟩ := H.corI hi
    obtain ⟨b1, b2⟩ := H.bedI wf hi
    refine b_X0_bedsThat_4 H.xw ⟨fun c => absurd c a1, fun _ => ?_⟩
    rw [a3, b1]
    refine ⟨a2, a4, fun c => ?_, fun c => ⟨fun d => ?_, fun d => ⟨a2, (b2 c).2.1, ?_⟩⟩⟩
    · rintro _ rfl _ rfl; rw [nI_add1]; simpa [bdF, c] using hw
    · rintro _ rfl _ rfl; rw [nI_add1]; simpa [bdF, c, d] using hw
    · rw [(b2 c).2.2.2.1.2.2.2.2.2.2]
      refine ⟨fun e => ?_, fun e => ?_⟩
      all_goals (rintro _ rfl _ rfl; rw [nI_add1]; simpa [bdF, c, d, e] using hw)
  · refine b_X0_bedsThat_4 H.xw ⟨fun _ => ?_, fun c => absurd H.corE c⟩
    rw [nI0]; exact hq
def opF (h : Hp) (x : Nat) (i : Nat) (v : Int32) : Int32 := v + b1 (nz (eI h (x + 23 + 49) i))
def opx (h : Hp) (x : Nat) : Int32 := itr (opF h x) 0 (nP h x) 0
theorem cs_X0_open (hm : XW h x) (H : CP h x) (hq : Q (opx h x) h) : CtI M_X0_open [rV x] h k n Q E := by
  refine b_X0_open_0 H.xw ?_
  rw [← nI0]
  refine itr_loop (inv := fun i v => Rn M_X0_open 4 [(0, rV x), (1, iV v), (2, iV (nI i))] [] h k n (qI Q) E) (f := opF h x) (m := nP h x) (fun i v hi hw => ?_) ?_
  · obtain ⟨a1, a2, a3, a4⟩ := H.comI hi
    have b2 := (H.pp.1 i hi).2.2.2.2.2.2.2.2.1
    refine b_X0_open_4 H.xw ⟨fun c => absurd c a1, fun _ => ?_⟩
    rw [a3, b2]
    refine ⟨a2, a4, fun c => ?_, fun c => ?_⟩
    all_goals (rintro _ rfl _ rfl; rw [nI_add1]; simpa [opF, c, b1, nz] using hw)
  · refine b_X0_open_4 H.xw ⟨fun _ => ?_, fun c => absurd H.comE c⟩
    rw [nI0]; exact hq
theorem X3_count_3 (H : CP h x) (hq : Q (bdx h x 0) h) : Rn M_X3_count 85 [(0, rV (x + 23)), (2, iV 0), (3, iV 0)] [] h k n (qI Q) E := by
  have hn := H.nC_le
  rw [← nI0]
  refine itr_loop (inv := fun i v => Rn M_X3_count 85 [(0, rV (x + 23)), (2, iV v), (3, iV (nI i))] [] h k n (qI Q) E) (f := bdF h x 0) (m := nC h x) (fun i v hi hw => ?_) ?_
  · refine b_X3_count_85 H.mw ⟨fun c => absurd c (by rw [hn.1, nIle (by omega) (by omega)]; omega), fun _ => ⟨vin_nI (by omega) (by decide), ?_⟩⟩
    rw [ix_nI (by omega)]
    rintro _ rfl _ rfl
    rw [nI_add1]
    by_cases c : eI h (x + 23 + 6) i = 0 <;> simpa [bdF, c, b1, nz] using hw
  · refine b_X3_count_85 H.mw ⟨fun _ => ?_, fun c => absurd (by rw [hn.1]; exact Int32.le_refl _) c⟩
    rw [nI0]; exact hq
theorem X3_count_10 (H : CP h x) (hq : Q (opx h x) h) : Rn M_X3_count 146 [(0, rV (x + 23)), (2, iV 0), (3, iV 0)] [] h k n (qI Q) E := by
  have hn := H.nP_le
  rw [← nI0]
  refine itr_loop (inv := fun i v => Rn M_X3_count 146 [(0, rV (x + 23)), (2, iV v), (3, iV (nI i))] [] h k n (qI Q) E) (f := opF h x) (m := nP h x) (fun i v hi hw => ?_) ?_
  · refine b_X3_count_146 H.mw ⟨fun c => absurd c (by rw [hn.1, nIle (by omega) (by omega)]; omega), fun _ => ⟨vin_nI (by omega) (by decide), ?_⟩⟩
    rw [ix_nI (by omega)]
    rintro _ rfl _ rfl
    rw [nI_add1]
    exact hw
  · refine b_X3_count_146 H.mw ⟨fun _ => ?_, fun c => absurd (by rw [hn.1]; exact Int32.le_refl _) c⟩
    rw [nI0]; exact hq
theorem X3_count_11 (H : CP h x) (hq : Q (bdx h x 1) h) : Rn M_X3_count 176 [(0, rV (x + 23)), (2, iV 0), (3, iV 0)] [] h k n (qI Q) E := by
  have hn := H.nC_le
  rw [← nI0]
  refine itr_loop (inv := fun i v => Rn M_X3_count 176 [(0, rV (x + 23)), (2, iV v), (3, iV (nI i))] [] h k n (qI Q) E) (f := bdF h x 1) (m := nC h x) (fun i v hi hw => ?_) ?_
  · have vi : vp_in (nI i) 12 := vin_nI (by omega) (by decide)
    refine b_X3_count_176 H.mw ⟨fun c => absurd c (by rw [hn.1, nIle (by omega) (by omega)]; omega), fun _ => ⟨vi, ?_⟩⟩
    rw [ix_nI (by omega)]
    refine ⟨fun c => ?_, fun c => ⟨vi, fun d => ?_, fun d => ?_⟩⟩
    all_goals (refine b_X3_count_208 H.mw ?_; rintro _ rfl _ rfl; rw [nI_add1])
    · simpa [bdF, c, b1, nz] using hw
    · simpa [bdF, c, d, b1, nz] using hw
    · simpa [bdF, c, d, b1, nz] using hw
  · refine b_X3_count_176 H.mw ⟨fun _ => ?_, fun c => absurd (by rw [hn.1]; exact Int32.le_refl _) c⟩
    rw [nI0]; exact hq
theorem prks_0 (H : CP h x) : prks h (x + 23) 0 = prkx h x := by
  unfold prks prkx
  have : ix (gI h 1001 (x + 23)) = nC h x := rfl
  rw [this]
  have hn := H.nC_le.2
  refine itr_congr fun j _ hj w => ?_
  have : ¬ shr 0 (nI j) &&& 1 = 1 := by rw [shr_bit (by omega), bt_zero]; decide
  simp [parkS, parkF, this]
/-- what lies in bowls, in barrels -/
def smB (h : Hp) (x : Nat) (i : Nat) (v : Int64) : Int64 := v + Int32.toInt64 (eI h (x + 23 + 15) i)
def smR (h : Hp) (x : Nat) (i : Nat) (v : Int64) : Int64 := v + Int32.toInt64 (eI h (x + 23 + 23) i)
theorem pr_sum (H : CP h x) {a : Int32} (hR : ∀ h', CP h' x → R h') : CtJ M_X0_sum [rV x, iV a] h k n (fun r h1 => CtJ M_X3_sum [rV (x + 23), iV a] h1 0 0 (fun r2 h2 => r = r2 ∧ R h2) E) E := by
  refine r_wfH fun wf => ?_
  have hn := H.nC_le
  have hr := H.nR_le
  refine b_X0_sum_0 H.xw ?_
  rw [← nI0]
  refine itr_loop (inv := fun i v => Rn M_X0_sum 8 [(0, rV x), (1, iV a), (2, jV v), (4, jV 0), (6, iV (nI i))] [] h k n _ E) (f := smB h x) (m := nC h x) (fun i v hi hw => ?_) ?_
  · obtain ⟨a1, a2, a3, a4, a5⟩ := H.corI hi
    obtain ⟨b1, b2⟩ := H.bedI wf hi
    refine b_X0_sum_8 H.xw ⟨fun c => absurd c a1, fun _ => ?_⟩
    rw [a3, b1]
    refine ⟨a2, a4, fun c => ⟨a2, (b2 c).2.1, ?_⟩, fun c => ?_⟩
    · rw [(b2 c).2.2.2.1.2.2.2.1]
      rintro _ rfl _ rfl; rw [nI_add1]; exact hw
    · rintro _ rfl _ rfl; rw [nI_add1]
      have : eI h (x + 23 + 15) i = 0 := ((H.px i (by omega)).2.1 c).2.2.2.1
      unfold smB at hw
      rw [this] at hw
      exact hw
  · refine b_X0_sum_8 H.xw ⟨fun _ => ?_, fun c => absurd H.corE c⟩
    rw [← nI0]
    refine itr_loop (inv := fun i v => Rn M_X0_sum 73 [(0, rV x), (1, iV a), (2, jV (itr (smB h x) 0 (nC h x) 0)), (4, jV v), (6, iV (nI i))] [] h k n _ E) (f := smR h x) (m := nR h x) (fun i v hi hw => ?_) ?_
    · obtain ⟨a1, a2, a3, a4, a5⟩ := H.rofI hi
      refine b_X0_sum_73 H.xw ⟨fun c => absurd c a1, fun _ => ?_⟩
      rw [a3, (H.pr i hi).1.2.2.2.2.2.2.1]
      refine ⟨a2, a4, ?_⟩
      rintro _ rfl _ rfl; rw [nI_add1]; exact hw
    · have fin : ∀ v0 : Int64, (a = 0 → v0 = gJ h 1035 (x + 23)) → (a = 1 → v0 = gJ h 1036 (x + 23)) → (a = 2 → v0 = gJ h 1037 (x + 23)) → (a = 3 → v0 = gJ h 1038 (x + 23)) → (a = 4 → v0 = itr (smB h x) 0 (nC h x) 0) → (a = 5 → v0 = gJ h 1039 (x + 23)) → (a = 6 → v0 = itr (smR h x) 0 (nR h x) 0) → (a ≠ 0 → a ≠ 1 → a ≠ 2 → a ≠ 3 → a ≠ 4 → a ≠ 5 → a ≠ 6 → v0 = -1) → CtJ M_X3_sum [rV (x + 23), iV a] h 0 0 (fun r2 h2 => v0 = r2 ∧ R h2) E := by
        intro v0 e0 e1 e2 e3 e4 e5 e6 e7
        have g := hR _ H
        refine b_X3_sum_0 H.mw ⟨fun c => ⟨e0 c, g⟩, fun c0 => ⟨fun c => ⟨e1 c, g⟩, fun c1 => ⟨fun c => ⟨e2 c, g⟩, fun c2 => ⟨fun c => ⟨e3 c, g⟩, fun c3 => ⟨fun c => ?_, fun c4 => ⟨fun c => ⟨e5 c, g⟩, fun c5 => ⟨fun c => ?_, fun c6 => ⟨e7 c0 c1 c2 c3 c4 c5 c6, g⟩⟩⟩⟩⟩⟩⟩⟩
        · rw [← nI0]
          refine itr_loop (inv := fun i v => Rn M_X3_sum 67 [(0, rV (x + 23)), (2, jV v), (4, iV (nI i))] [] h 0 0 _ E) (f := smB h x) (m := nC h x) (fun i v hi hw => ?_) ?_
          · refine b_X3_sum_67 H.mw ⟨fun c => absurd c (by rw [hn.1, nIle (by omega) (by omega)]; omega), fun _ => ⟨vin_nI (by omega) (by decide), ?_⟩⟩
            rw [ix_nI (by omega)]
            rintro _ rfl _ rfl
            rw [nI_add1]; exact hw
          · exact b_X3_sum_67 H.mw ⟨fun _ => ⟨e4 c, g⟩, fun c => absurd (by rw [hn.1]; exact Int32.le_refl _) c⟩
        · rw [← nI0]
          refine itr_loop (inv := fun i v => Rn M_X3_sum 103 [(0, rV (x + 23)), (2, jV v), (4, iV (nI i))] [] h 0 0 _ E) (f := smR h x) (m := nR h x) (fun i v hi hw => ?_) ?_
          · refine b_X3_sum_103 H.mw ⟨fun c => absurd c (by rw [hr.1, nIle (by omega) (by omega)]; omega), fun _ => ⟨vin_nI (by omega) (by decide), ?_⟩⟩
            rw [ix_nI (by omega)]
            rintro _ rfl _ rfl
            rw [nI_add1]; exact hw
          · exact b_X3_sum_103 H.mw ⟨fun _ => ⟨e6 c, g⟩, fun c => absurd (by rw [hr.1]; exact Int32.le_refl _) c⟩
      obtain ⟨-, -, -, -, -, n6, n7, n8, n9, n10⟩ := H.pn
      refine b_X0_sum_73 H.xw ⟨fun _ => ?_, fun c => absurd H.rofE c⟩
      rw [n6, n7, n8, n9, n10]
      refine ⟨fun c => ?_, fun c0 => ⟨fun c => ?_, fun c1 => ⟨fun c => ?_, fun c2 => ⟨fun c => ?_, fun c3 => ⟨fun c => ?_, fun c4 => ⟨fun c => ?_, fun c5 => ⟨fun c => ?_, fun c6 => ?_⟩⟩⟩⟩⟩⟩⟩
      all_goals (try subst c)
      all_goals (refine fin _ ?_ ?_ ?_ ?_ ?_ ?_ ?_ ?_ <;> first | exact fun _ => rfl | exact fun z => absurd z (by decide) | exact fun z => absurd z ‹_› | exact fun _ _ _ _ _ _ _ => rfl | (intro z0 z1 z2 z3 z4 z5 z6; exact absurd rfl ‹_›))
end
