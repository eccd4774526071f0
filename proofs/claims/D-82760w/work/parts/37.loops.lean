/-! loops that only read -/
set_option maxRecDepth 100000
def itr {α : Type} (f : Nat → α → α) : Nat → Nat → α → α
  | _, 0, v => v
  | i, t + 1, v => itr f (i + 1) t (f i v)
theorem itr_loopA {α : Type} {f : Nat → α → α} {inv : Nat → α → Prop} {m : Nat} (step : ∀ i s, i < m → inv (i + 1) (f i s) → inv i s) : ∀ t i s, i + t = m → inv m (itr f i t s) → inv i s
  | 0, i, s, e, h => by have : i = m := by omega
                        subst this; exact h
  | t + 1, i, s, e, h => step i s (by omega) (itr_loopA step t (i + 1) (f i s) (by omega) h)
theorem itr_loop {α : Type} {f : Nat → α → α} {inv : Nat → α → Prop} {m : Nat} (step : ∀ i s, i < m → inv (i + 1) (f i s) → inv i s) {s : α} (h : inv m (itr f 0 m s)) : inv 0 s := itr_loopA step m 0 s (by omega) h
theorem itr_congr {α : Type} {f g : Nat → α → α} : ∀ {t i : Nat} {v : α}, (∀ j, i ≤ j → j < i + t → ∀ w, f j w = g j w) → itr f i t v = itr g i t v
  | 0, _, _, _ => rfl
  | t + 1, i, v, h => by
    show itr f (i + 1) t (f i v) = itr g (i + 1) t (g i v)
    rw [h i (by omega) (by omega)]
    exact itr_congr fun j h1 h2 w => h j (by omega) (by omega) w
theorem itr_inv {α : Type} {f : Nat → α → α} {P : Nat → α → Prop} : ∀ {t i : Nat} {v : α}, (∀ j w, i ≤ j → j < i + t → P j w → P (j + 1) (f j w)) → P i v → P (i + t) (itr f i t v)
  | 0, _, _, _, h => h
  | t + 1, i, v, h, h0 => by
    have := itr_inv (t := t) (i := i + 1) (v := f i v) (P := P) (fun j w h1 h2 h3 => h j w (by omega) (by omega) h3) (h i v (by omega) (by omega) h0)
    rw [show i + 1 + t = i + (t + 1) by omega] at this
    exact this
theorem nIle {a b : Nat} (ha : a < 2 ^ 31) (hb : b < 2 ^ 31) : nI a ≤ nI b ↔ a ≤ b := by rw [i32_le, nI_toInt ha, nI_toInt hb]; omega
theorem nIlt {a b : Nat} (ha : a < 2 ^ 31) (hb : b < 2 ^ 31) : nI a < nI b ↔ a < b := by rw [i32_lt, nI_toInt ha, nI_toInt hb]; omega
theorem nI0 : nI 0 = 0 := by decide
theorem vin_nI {a m : Nat} (h : a < m) (hm : m < 2 ^ 31) : vp_in (nI a) m := by rw [vin_iff, nI_toInt (by omega)]; omega
section
variable {h : Hp} {x mo : Nat} {E : Nat → Hp → Prop} {k n : Nat} {Q : Int32 → Hp → Prop}
theorem CP.corI (H : CP h x) {i : Nat} (hi : i < nC h x) : ¬ gI h 1102 (x + 2) ≤ nI i ∧ ALg h (x + 2) (nI i) ∧ ix (nI i) = i ∧ kd h (el h (x + 2) i) = 2 ∧ vp_in (nI i) 12 := by
  have hn := H.nC_le
  have hal := H.pl.1.g (i := nI i) (by rw [nI_toInt (by omega)]; omega) (by rw [nI_toInt (by omega)]; omega)
  refine ⟨?_, hal, ix_nI (by omega), (H.pc i hi).1.1, vin_nI (by omega) (by decide)⟩
  rw [H.size2, hn.1, nIle (by omega) (by omega)]; omega
theorem CP.corE (H : CP h x) : gI h 1102 (x + 2) ≤ nI (nC h x) := by rw [H.size2, H.nC_le.1]; exact Int32.le_refl _
theorem CP.rofI (H : CP h x) {i : Nat} (hi : i < nR h x) : ¬ gI h 1102 (x + 3) ≤ nI i ∧ ALg h (x + 3) (nI i) ∧ ix (nI i) = i ∧ kd h (el h (x + 3) i) = 3 ∧ vp_in (nI i) 30 := by
  have hn := H.nR_le
  have hal := H.pl.2.1.g (i := nI i) (by rw [nI_toInt (by omega)]; omega) (by rw [nI_toInt (by omega)]; omega)
  refine ⟨?_, hal, ix_nI (by omega), (H.pr i hi).1.1, vin_nI (by omega) (by decide)⟩
  rw [H.size3, hn.1, nIle (by omega) (by omega)]; omega
theorem CP.rofE (H : CP h x) : gI h 1102 (x + 3) ≤ nI (nR h x) := by rw [H.size3, H.nR_le.1]; exact Int32.le_refl _
theorem CP.rulI (H : CP h x) {i : Nat} (hi : i < nU h x) : ¬ gI h 1102 (x + 4) ≤ nI i ∧ ALg h (x + 4) (nI i) ∧ ix (nI i) = i ∧ kd h (el h (x + 4) i) = 5 := by
  have hn := H.nU_le
  have hal := H.pl.2.2.1.g (i := nI i) (by rw [nI_toInt (by omega)]; omega) (by rw [nI_toInt (by omega)]; omega)
  refine ⟨?_, hal, ix_nI (by omega), (H.pu.2 i hi).1.1⟩
  rw [H.size4, hn.1, nIle (by omega) (by omega)]; omega
theorem CP.rulE (H : CP h x) : gI h 1102 (x + 4) ≤ nI (nU h x) := by rw [H.size4, H.nU_le.1]; exact Int32.le_refl _
theorem CP.comI (H : CP h x) {i : Nat} (hi : i < nP h x) : ¬ gI h 1102 (x + 22) ≤ nI i ∧ ALg h (x + 22) (nI i) ∧ ix (nI i) = i ∧ kd h (el h (x + 22) i) = 9 := by
  have hn := H.nP_le
  have hal := H.pl.2.2.2.2.g (i := nI i) (by rw [nI_toInt (by omega)]; omega) (by rw [nI_toInt (by omega)]; omega)
  refine ⟨?_, hal, ix_nI (by omega), (H.pp.1 i hi).1⟩
  rw [H.size22, hn.1, nIle (by omega) (by omega)]; omega
theorem CP.comE (H : CP h x) : gI h 1102 (x + 22) ≤ nI (nP h x) := by rw [H.size22, H.nP_le.1]; exact Int32.le_refl _
/-- a bed or none -/
theorem CP.bedI (H : CP h x) (wf : wfH h) {i : Nat} (hi : i < nC h x) : (gR h 109 (el h (x + 2) i) = 0 ↔ eI h (x + 23 + 6) i = 0) ∧ (¬ eI h (x + 23 + 6) i = 0 → eI h (x + 23 + 6) i = 1 ∧ kd h (gR h 109 (el h (x + 2) i)) = 4 ∧ CPb1 h x i (el h (x + 2) i) (gR h 109 (el h (x + 2) i)) ∧ CPb2 h x i (gR h 109 (el h (x + 2) i)) ∧ CPb3 h x i (gR h 109 (el h (x + 2) i))) := by
  rcases H.pb i hi with ⟨e1, e2⟩ | ⟨e1, e2, e3, e4⟩
  · exact ⟨⟨fun _ => e1, fun _ => e2⟩, fun z => absurd e1 z⟩
  · have e5 := Nat.ne_of_gt (wf.lt e2.1 (by decide)).1
    exact ⟨⟨fun z => absurd z e5, fun z => absurd (e1.symm.trans z) (by decide)⟩, fun _ => ⟨e1, e2.1, e2, e3, e4⟩⟩
def parkF (h : Hp) (mo : Nat) (i : Nat) (v : Int32) : Int32 := v + (if eI h (mo + 6) i = 0 then 0 else eI h (mo + 3) i)
theorem ct_X0_parking (H : CP h x) (hq : Q (itr (parkF h (x + 23)) 0 (nC h x) 0) h) : CtI M_X0_parking [rV x] h k n Q E := by
  refine r_wfH fun wf => ?_
  refine b_X0_parking_0 H.xw ?_
  rw [← nI0]
  refine itr_loop (inv := fun i v => Rn M_X0_parking 4 [(0, rV x), (1, iV v), (2, iV (nI i))] [] h k n (qI Q) E) (f := parkF h (x + 23)) (m := nC h x) (fun i v hi hw => ?_) ?_
  · obtain ⟨a1, a2, a3, a4, a5⟩ := H.corI hi
    have b1 := (H.bedI wf hi).1
    have b2 := (H.pc i hi).1.2.2.2.2.1
    refine b_X0_parking_4 H.xw ⟨fun c => absurd c a1, fun _ => ?_⟩
    rw [a3, b1, b2]
    refine ⟨a2, a4, fun c => ⟨a2, ?_⟩, fun c => ?_⟩
    all_goals (rintro _ rfl _ rfl; rw [nI_add1]; simpa [parkF, c] using hw)
  · refine b_X0_parking_4 H.xw ⟨fun _ => ?_, fun c => absurd H.corE c⟩
    rw [nI0] at *; exact hq
def parkS (h : Hp) (mo : Nat) (s : Int32) (i : Nat) (v : Int32) : Int32 := v + (if eI h (mo + 6) i = 0 ∧ ¬ shr s (nI i) &&& 1 = 1 then 0 else eI h (mo + 3) i)
theorem ct_X3_parked (hm : MW h mo) {nc : Nat} (hn : gI h 1001 mo = nI nc) (hc : nc ≤ 12) {s : Int32} (hq : Q (itr (parkS h mo s) 0 nc 0) h) : CtI M_X3_parked [rV mo, iV s] h k n Q E := by
  refine b_X3_parked_0 hm ?_
  rw [← nI0]
  refine itr_loop (inv := fun i v => Rn M_X3_parked 4 [(0, rV mo), (1, iV s), (2, iV v), (3, iV (nI i))] [] h k n (qI Q) E) (f := parkS h mo s) (m := nc) (fun i v hi hw => ?_) ?_
  · have a1 : ¬ gI h 1001 mo ≤ nI i := by rw [hn, nIle (by omega) (by omega)]; omega
    have a3 : ix (nI i) = i := ix_nI (by omega)
    have a5 : vp_in (nI i) 12 := vin_nI (by omega) (by decide)
    refine b_X3_parked_4 hm ⟨fun c => absurd c a1, fun _ => ?_⟩
    rw [a3]
    refine ⟨a5, fun c => ?_, fun c => ⟨fun d => ?_, fun d => ?_⟩⟩
    · refine b_X3_parked_31 hm ⟨a5, ?_⟩
      rw [a3]
      rintro _ rfl _ rfl; rw [nI_add1]; simpa [parkS, c] using hw
    · rintro _ rfl _ rfl; rw [nI_add1]; simpa [parkS, c, d] using hw
    · refine b_X3_parked_31 hm ⟨a5, ?_⟩
      rw [a3]
      rintro _ rfl _ rfl; rw [nI_add1]; simpa [parkS, c, d] using hw
  · refine b_X3_parked_4 hm ⟨fun _ => ?_, fun c => absurd (by rw [hn]; exact Int32.le_refl _) c⟩
    rw [nI0] at *; exact hq
end
