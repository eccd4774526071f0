/-! sets of corners as numbers; how many bits, which is the last -/
set_option maxRecDepth 100000
theorem bt_one {y : Nat} (hy : y < 32) : bt 1 y = decide (y = 0) := by
  have : ∀ y, y < 32 → bt 1 y = decide (y = 0) := by decide
  exact this y hy
theorem and1_01 (v : Int32) : v &&& 1 = 0 ∨ v &&& 1 = 1 := by
  by_cases c : bt v 0 = true
  · right
    apply bt_ext
    intro y hy
    rw [bt_and, bt_one hy]
    by_cases e : y = 0
    · subst e; simp [c]
    · simp [e]
  · left
    apply bt_ext
    intro y hy
    rw [bt_and, bt_one hy, bt_zero]
    by_cases e : y = 0
    · subst e; simpa using c
    · simp [e]
theorem shr_bit0 {c : Int32} {y : Nat} (hy : y < 32) : (shr c (nI y) &&& 1 = 0) ↔ bt c y = false := by
  have h1 := shr_bit (c := c) hy
  rcases and1_01 (shr c (nI y)) with z | z
  · constructor
    · intro _
      by_cases e : bt c y = true
      · exact absurd (z.symm.trans (h1.mpr e)) (by decide)
      · simpa using e
    · intro _; exact z
  · constructor
    · intro w; exact absurd (z.symm.trans w) (by decide)
    · intro w; rw [h1.mp z] at w; exact absurd w (by decide)
theorem bt_xor1 (a : Int32) {y : Nat} (hy : y < 32) : bt (a ^^^ (-1)) y = !bt a y := by
  have e : (-1 : Int32).toBitVec.getLsbD y = true := by
    have : ∀ y, y < 32 → (-1 : Int32).toBitVec.getLsbD y = true := by decide
    exact this y hy
  unfold bt
  rw [Int32.toBitVec_xor, BitVec.getLsbD_xor, e]
  simp
theorem tb_lt {s m y : Nat} (hs : s < 2 ^ m) (h : s.testBit y = true) : y < m := by
  rcases Nat.lt_or_ge y m with z | z
  · exact z
  · have : s < 2 ^ y := Nat.lt_of_lt_of_le hs (Nat.pow_le_pow_right (by decide) z)
    rw [Nat.testBit_lt_two_pow this] at h
    exact absurd h (by decide)
/-- how many bits -/
def popN : Nat → Nat → Nat
  | 0, _ => 0
  | f + 1, s => s % 2 + popN f (s / 2)
def pop (s : Nat) : Nat := popN 12 s
theorem and1_nI : ∀ s, s < 4096 → nI s &&& 1 = nI (s % 2) ∧ shr (nI s) 1 = nI (s / 2) := by decide +kernel
theorem bitc_pop : ∀ s, s < 4096 → V_J9_bitCount h00 (nI s) = nI (pop s) := by decide +kernel
theorem bitc_h (h : Hp) (v : Int32) : V_J9_bitCount h v = V_J9_bitCount h00 v := rfl
theorem nlz_set : ∀ s, s < 4096 → s = 0 ∨ 31 - V_J9_numberOfLeadingZeros h00 (nI s) = itr (lastF (nI s)) 0 12 0 := by decide +kernel
theorem pop_le : ∀ f s, popN f s ≤ f
  | 0, _ => Nat.le_refl _
  | f + 1, s => by
    show s % 2 + popN f (s / 2) ≤ f + 1
    have := pop_le f (s / 2)
    omega
theorem ct_X3_bits {h : Hp} {k n : Nat} {E : Nat → Hp → Prop} {Q : Int32 → Hp → Prop} {s : Nat} (hs : s < 4096) (hq : Q (nI (pop s)) h) : CtI M_X3_bits [iV (nI s)] h k n Q E := by
  refine b_X3_bits_0 ?_
  have key : ∀ f s c, s < 2 ^ f → s < 4096 → Q (nI (c + popN f s)) h → Rn M_X3_bits 4 [(1, iV (nI c)), (2, iV (nI s))] [] h k n (qI Q) E := by
    intro f
    induction f with
    | zero =>
      intro s c h1 h2 hq
      have : s = 0 := by simpa using h1
      subst this
      exact b_X3_bits_4 ⟨fun _ => hq, fun c => absurd (by decide) c⟩
    | succ f ih =>
      intro s c h1 h2 hq
      obtain ⟨e1, e2⟩ := and1_nI s h2
      by_cases z : s = 0
      · subst z
        have e3 : ∀ f, popN f 0 = 0 := fun f => by
          induction f with
          | zero => rfl
          | succ f ih => show 0 % 2 + popN f (0 / 2) = 0; simpa using ih
        rw [e3] at hq
        exact b_X3_bits_4 ⟨fun _ => hq, fun c => absurd (by decide) c⟩
      · refine b_X3_bits_4 ⟨fun c => ?_, fun _ => ?_⟩
        · rw [← nI0, nIle (by omega) (by omega)] at c; omega
        · rintro _ rfl _ rfl
          rw [e1, e2, nIadd]
          refine ih (s / 2) (c + s % 2) ?_ (by omega) ?_
          · rw [Nat.pow_succ] at h1; omega
          · have e4 : popN (f + 1) s = s % 2 + popN f (s / 2) := rfl
            rw [e4, ← Nat.add_assoc] at hq
            exact hq
  rw [← nI0]
  exact key 12 s 0 (by omega) hs (by rw [Nat.zero_add]; exact hq)
theorem pow12 {m : Nat} (hm : m ≤ 12) : 2 ^ m ≤ 4096 := by
  have : 2 ^ m ≤ 2 ^ 12 := Nat.pow_le_pow_right (by decide) hm
  simpa using this
theorem ones {m : Nat} (hm : m ≤ 12) {y : Nat} (hy : y < 32) : bt (shl 1 (nI m) - 1) y = decide (y < m) := by
  have : ∀ m, m ≤ 12 → ∀ y, y < 32 → bt (shl 1 (nI m) - 1) y = decide (y < m) := by decide +kernel
  exact this m hm y hy
theorem itr_append {α : Type} {f : Nat → α → α} : ∀ {a i b : Nat} {v : α}, itr f i (a + b) v = itr f (i + a) b (itr f i a v)
  | 0, i, b, v => by show itr f i (0 + b) v = itr f (i + 0) b v; rw [Nat.zero_add, Nat.add_zero]
  | a + 1, i, b, v => by
    rw [show a + 1 + b = (a + b) + 1 by omega]
    show itr f (i + 1) (a + b) (f i v) = itr f (i + (a + 1)) b (itr f (i + 1) a (f i v))
    rw [itr_append, show i + 1 + a = i + (a + 1) by omega]
theorem itr_id {α : Type} {f : Nat → α → α} : ∀ {t i : Nat} {v : α}, (∀ j w, i ≤ j → j < i + t → f j w = w) → itr f i t v = v
  | 0, _, _, _ => rfl
  | t + 1, i, v, h => by
    show itr f (i + 1) t (f i v) = v
    rw [h i v (by omega) (by omega)]
    exact itr_id fun j w h1 h2 => h j w (by omega) (by omega)
theorem itr_succ {α : Type} {f : Nat → α → α} {t i : Nat} {v : α} : itr f i (t + 1) v = f (i + t) (itr f i t v) := by
  rw [itr_append]; rfl
/-- the last bit of a set of the first m -/
theorem last_set {s m : Nat} (hm : m ≤ 12) (hs : s < 2 ^ m) (h0 : s ≠ 0) : 31 - V_J9_numberOfLeadingZeros h00 (nI s) = itr (lastF (nI s)) 0 m 0 := by
  have h1 := pow12 hm
  rcases nlz_set s (by omega) with z | z
  · exact absurd z h0
  · rw [z, show 12 = m + (12 - m) by omega, itr_append]
    refine itr_id fun j w h2 h3 => ?_
    unfold lastF
    rw [if_neg]
    intro c
    have c := (shr_bit (by omega)).mp c
    rw [bt_nI (by omega) (by omega)] at c
    have := tb_lt hs c
    omega
section
variable {h : Hp} {x mo : Nat} {E : Nat → Hp → Prop} {k n : Nat} {R : Hp → Prop} {Q : Int32 → Hp → Prop}
/-- a set of corners that all have beds; that all have none -/
def okS (h : Hp) (x s : Nat) : Prop := ∀ y, y < nC h x → s.testBit y = true → ¬ eI h (x + 23 + 6) y = 0
def frS (h : Hp) (x s : Nat) : Prop := ∀ y, y < nC h x → s.testBit y = true → eI h (x + 23 + 6) y = 0
theorem busy_bt (H : CP h x) {y : Nat} (hy : y < 32) : bt ((frx h x ^^^ (-1)) &&& (shl 1 (nI (nC h x)) - 1)) y = decide (y < nC h x ∧ ¬ eI h (x + 23 + 6) y = 0) := by
  rw [bt_and, bt_xor1 _ hy, frx_bt H hy, ones H.nC_le.2 hy]
  by_cases c1 : y < nC h x <;> by_cases c2 : eI h (x + 23 + 6) y = 0 <;> simp [c1, c2]
theorem and_zero {a b : Int32} : a &&& b = 0 ↔ ∀ y, y < 32 → bt a y = true → bt b y = false := by
  constructor
  · intro e y hy ha
    have := congrArg (fun v => bt v y) e
    simp only [bt_and, bt_zero, ha, Bool.true_and] at this
    exact this
  · intro e
    apply bt_ext
    intro y hy
    rw [bt_and, bt_zero]
    by_cases c : bt a y = true
    · rw [c, e y hy c]; rfl
    · have : bt a y = false := by simpa using c
      rw [this]; rfl
theorem busy_ok (H : CP h x) {s : Nat} (hs : s < 2 ^ nC h x) : nI s &&& (((frx h x ^^^ (-1)) &&& (shl 1 (nI (nC h x)) - 1)) ^^^ (-1)) = 0 ↔ okS h x s := by
  have hn := H.nC_le.2
  have h1 := pow12 hn
  rw [and_zero]
  constructor
  · intro e y hy ht
    have := e y (by omega) (by rw [bt_nI (by omega) (by omega)]; exact ht)
    rw [bt_xor1 _ (by omega), busy_bt H (by omega)] at this
    simp [hy] at this
    exact this
  · intro e y hy ht
    rw [bt_nI (by omega) hy] at ht
    have hy2 := tb_lt hs ht
    rw [bt_xor1 _ hy, busy_bt H hy]
    simp [hy2, e y hy2 ht]
/-- a bed drinks as the model's row does -/
def moreV (h : Hp) (x i : Nat) : Int32 := ((eI h (x + 23 + 25) (ix (eI h (x + 23 + 9) i))) * (100 - imax 0 (eI h (x + 23 + 12) i - 30))) / 100 - V_X3_drink h (x + 23) (nI i)
theorem CP.more (H : CP h x) (wf : wfH h) {i : Nat} (hi : i < nC h x) (g : ¬ eI h (x + 23 + 6) i = 0) : P_X6_more h (gR h 109 (el h (x + 2) i)) ∧ V_X6_more h (gR h 109 (el h (x + 2) i)) = moreV h x i ∧ P_X6_drink h (gR h 109 (el h (x + 2) i)) ∧ V_X6_drink h (gR h 109 (el h (x + 2) i)) = V_X3_drink h (x + 23) (nI i) ∧ vp_in (eI h (x + 23 + 9) i) 10 ∧ P_X3_drink h (x + 23) (nI i) := by
  have hn := H.nC_le.2
  obtain ⟨q0, q1, q2, q3, q4⟩ := (H.bedI wf hi).2 g
  obtain ⟨b1, b2, b3, b4, b5, b6, b7⟩ := q2
  obtain ⟨c1, c2, c3, c4, c5, c6, c7⟩ := q3
  obtain ⟨w1, w2, w3, w4, w5, w6, w7, w8, w9, w10, w11, w12⟩ := (H.px i (by omega)).1
  have vl : vp_in (eI h (x + 23 + 9) i) 10 := by rw [vin_iff]; exact ⟨w1.1, by have := w1.2; omega⟩
  have vi : vp_in (nI i) 12 := vin_nI (by omega) (by decide)
  have hx0 := xw_k H.xw
  have hx1 := xwr_drinks H.xw
  have hx2 := xwk_drinks H.xw
  have hx3 := xwl_drinks H.xw
  have ed : eI h (x + 1) (ix (eI h (x + 23 + 9) i)) = eI h (x + 23 + 25) (ix (eI h (x + 23 + 9) i)) := (H.pa.1 _ (by have := (bd_nI (hi := 9) w1).2; omega)).1
  have e3 : ix (nI i) = i := ix_nI (by omega)
  refine ⟨?_, ?_, ?_, ?_, vl, ?_⟩
  · simp [P_X6_more, P_X6_drink, P_X6_drinkBy, b1, b2, b4, hx0, hx1, hx2, hx3, vl]
  · simp [V_X6_more, V_X6_drink, V_X6_drinkBy, moreV, V_X3_drink, b2, b4, hx1, c1, ed, e3]
  · simp [P_X6_drink, P_X6_drinkBy, b1, b2, b4, hx0, hx1, hx2, hx3, vl]
  · simp [V_X6_drink, V_X6_drinkBy, V_X3_drink, b2, b4, hx1, c1, ed, e3]
  · simp [P_X3_drink, vi, e3, vl]
end
