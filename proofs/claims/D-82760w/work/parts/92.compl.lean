/-! complain: the reference -/
set_option maxRecDepth 100000
/-- the last below m that has p -/
def fdn (p : Nat → Bool) : Nat → Option Nat
  | 0 => none
  | m + 1 => if p m then some m else fdn p m
theorem fdn_none {p : Nat → Bool} : ∀ {m}, (∀ j, j < m → p j = false) → fdn p m = none
  | 0, _ => rfl
  | m + 1, hp => by
    show (if p m then some m else fdn p m) = none
    rw [if_neg (by rw [hp m (by omega)]; decide)]
    exact fdn_none fun j hj => hp j (by omega)
theorem fdn_uniq {p : Nat → Bool} {j : Nat} (hj : p j = true) : ∀ {m}, j < m → (∀ i, i < m → p i = true → i = j) → fdn p m = some j
  | 0, h, _ => absurd h (by omega)
  | m + 1, h, hu => by
    show (if p m then some m else fdn p m) = some j
    by_cases c : p m = true
    · rw [if_pos c, hu m (by omega) c]
    · rw [if_neg c]
      have : j ≠ m := fun e => c (by rw [← e]; exact hj)
      exact fdn_uniq hj (by omega) fun i hi => hu i (by omega)
theorem fdn_some {p : Nat → Bool} {j : Nat} : ∀ {m}, fdn p m = some j → j < m ∧ p j = true
  | 0, h => by simp [fdn] at h
  | m + 1, h => by
    have h' : (if p m then some m else fdn p m) = some j := h
    by_cases c : p m = true
    · rw [if_pos c] at h'
      have : m = j := Option.some.inj h'
      rw [← this]; exact ⟨by omega, c⟩
    · rw [if_neg c] at h'
      have := fdn_some h'
      exact ⟨by omega, this.2⟩
section
variable (g : Hp) (x : Nat)
/-- an open complaint that one may join -/
def hit (c kd : Int32) (j : Nat) : Bool := decide (¬ eI g (x + 23 + 49) j = 0) && decide (eI g (x + 23 + 44) j = c) && decide (eI g (x + 23 + 45) j = kd) && decide (gI g 1000 (x + 23) - eI g (x + 23 + 47) j ≤ 7)
def cmN (m : Nat) (c kd : Int32) : Hp := pI (sI (sI (sI (sI (sI (sI g (x + 23 + 44) m c) (x + 23 + 45) m kd) (x + 23 + 46) m (gI g 1000 (x + 23))) (x + 23 + 47) m (gI g 1000 (x + 23))) (x + 23 + 48) m 1) (x + 23 + 49) m 1) 1006 (x + 23) (nI (m + 1))
def cmJ (j : Nat) : Hp := sI (sI g (x + 23 + 47) j (gI g 1000 (x + 23))) (x + 23 + 48) j (eI g (x + 23 + 48) j + 1)
def cmM (c kd : Int32) : Hp := match fdn (hit g x c kd) (nP g x) with
  | some j => cmJ g x j
  | none => if nP g x = 60 then g else cmN g x (nP g x) c kd
def cmA (c kd : Int32) : Int32 := match fdn (hit g x c kd) (nP g x) with
  | some j => nI j
  | none => if nP g x = 60 then -1 else nI (nP g x)
end
section
variable {h g : Hp} {x : Nat} {E : Nat → Hp → Prop} {k n : Nat} {Q : Int32 → Hp → Prop}
theorem hit_t {c kd : Int32} {j : Nat} : hit g x c kd j = true ↔ ¬ eI g (x + 23 + 49) j = 0 ∧ eI g (x + 23 + 44) j = c ∧ eI g (x + 23 + 45) j = kd ∧ gI g 1000 (x + 23) - eI g (x + 23 + 47) j ≤ 7 := by
  unfold hit
  simp only [Bool.and_eq_true, decide_eq_true_eq, and_assoc]
theorem nI_pm {m : Nat} : nI (m + 1) - 1 = nI m := by rw [← nI_add1]; exact Int32.add_sub_cancel _ _
theorem nI_p1 {m : Nat} : nI m + (-1) = nI m - 1 := by rw [Int32.sub_eq_add_neg]
theorem ct_cmM (hM : MW g (x + 23)) (hP : bd (gI g 1006 (x + 23)) 0 60) {c kd : Int32} (h1 : isin c 0 (gI g 1001 (x + 23) - 1) = true) (h2 : isin kd 0 3 = true) (hq : Q (cmA g x c kd) (cmM g x c kd)) : CtI M_X3_complain [rV (x + 23), iV c, iV kd] g k n Q E := by
  obtain ⟨em, hm⟩ := bd_nI (hi := 60) hP
  have eP : gI g 1006 (x + 23) = nI (nP g x) := em
  have hP60 : nP g x ≤ 60 := hm
  have f1 : ¬ isin c 0 (gI g 1001 (x + 23) - 1) = false := by rw [h1]; decide
  have f2 : ¬ isin kd 0 3 = false := by rw [h2]; decide
  have t60 : (60 : Int32) = nI 60 := by decide
  have loop : ∀ m, m ≤ nP g x → fdn (hit g x c kd) (nP g x) = fdn (hit g x c kd) m → Rn M_X3_complain 26 [(0, rV (x + 23)), (1, iV c), (2, iV kd), (3, iV (nI m - 1))] [] g k n (qI Q) E := by
    intro m
    induction m with
    | zero =>
      intro _ hf
      have hf0 : fdn (hit g x c kd) (nP g x) = none := hf
      refine b_X3_complain_26 hM ⟨fun _ => ?_, fun z => absurd (by decide) z⟩
      unfold cmA cmM at hq
      rw [hf0] at hq
      rw [eP]
      refine ⟨fun z => ?_, fun z => ?_⟩
      · have hne : ¬ nP g x = 60 := fun e => z (by rw [e, t60])
        have hlt : nP g x < 60 := by omega
        simp only [if_neg hne] at hq
        have v60 : vp_in (nI (nP g x)) 60 := vin_nI hlt (by decide)
        rw [ix_nI (by omega)]
        refine ⟨v60, ?_⟩
        intro g1 e1
        rw [show gI g1 1006 (x + 23) = nI (nP g x) by rw [e1, gI_sI]; exact eP, ix_nI (by omega)]
        refine ⟨v60, ?_⟩
        intro g2 e2
        rw [show gI g2 1006 (x + 23) = nI (nP g x) by rw [e2, gI_sI, e1, gI_sI]; exact eP, ix_nI (by omega), show gI g2 1000 (x + 23) = gI g 1000 (x + 23) by rw [e2, gI_sI, e1, gI_sI]]
        refine ⟨v60, ?_⟩
        intro g3 e3
        rw [show gI g3 1006 (x + 23) = nI (nP g x) by rw [e3, gI_sI, e2, gI_sI, e1, gI_sI]; exact eP, ix_nI (by omega), show gI g3 1000 (x + 23) = gI g 1000 (x + 23) by rw [e3, gI_sI, e2, gI_sI, e1, gI_sI]]
        refine ⟨v60, ?_⟩
        intro g4 e4
        rw [show gI g4 1006 (x + 23) = nI (nP g x) by rw [e4, gI_sI, e3, gI_sI, e2, gI_sI, e1, gI_sI]; exact eP, ix_nI (by omega)]
        refine ⟨v60, ?_⟩
        intro g5 e5
        rw [show gI g5 1006 (x + 23) = nI (nP g x) by rw [e5, gI_sI, e4, gI_sI, e3, gI_sI, e2, gI_sI, e1, gI_sI]; exact eP, ix_nI (by omega)]
        refine ⟨v60, ?_⟩
        intro g6 e6
        rw [show gI g6 1006 (x + 23) = nI (nP g x) by rw [e6, gI_sI, e5, gI_sI, e4, gI_sI, e3, gI_sI, e2, gI_sI, e1, gI_sI]; exact eP, nI_add1]
        intro g7 e7
        rw [show gI g7 1006 (x + 23) = nI (nP g x + 1) by rw [e7, gI_pI, if_pos ⟨rfl, rfl⟩], nI_pm, e7, e6, e5, e4, e3, e2, e1]
        exact hq
      · have e : nP g x = 60 := nI_inj (by omega) (by decide) (z.trans t60)
        simp only [if_pos e] at hq
        exact hq
    | succ m ih =>
      intro hm1 hf
      have hx := ih (by omega)
      refine b_X3_complain_26 hM ?_
      rw [nI_pm, ix_nI (by omega)]
      have vm : vp_in (nI m) 60 := vin_nI (by omega) (by decide)
      have hs : fdn (hit g x c kd) (m + 1) = if hit g x c kd m then some m else fdn (hit g x c kd) m := rfl
      have skip : hit g x c kd m = false → ∀ y : Int32, y = nI m + (-1) → Rn M_X3_complain 26 [(0, rV (x + 23)), (1, iV c), (2, iV kd), (3, iV y)] [] g k n (qI Q) E := fun hh y ey => by
        rw [ey, nI_p1]
        exact hx (by rw [hf, hs, if_neg (by rw [hh]; decide)])
      have nh : ∀ {P : Prop}, (hit g x c kd m = true → P) → ¬ P → hit g x c kd m = false := fun f z => by
        cases e : hit g x c kd m
        · rfl
        · exact absurd (f e) z
      refine ⟨fun z => ?_, fun _ => ⟨vm, fun z1 => skip (nh (fun z => (hit_t.mp z).1) (fun z => z z1)), fun z1 => ⟨vm, fun z2 => skip (nh (fun z => (hit_t.mp z).2.1) z2), fun z2 => ⟨vm, fun z3 => skip (nh (fun z => (hit_t.mp z).2.2.1) z3), fun z3 => ⟨vm, fun z4 => ⟨vm, ?_⟩, fun z4 => skip (nh (fun z => (hit_t.mp z).2.2.2) z4)⟩⟩⟩⟩⟩
      · rw [i32_lt, nI_toInt (by omega), toI_0] at z; omega
      have hh : hit g x c kd m = true := hit_t.mpr ⟨z1, z2, z3, z4⟩
      unfold cmA cmM at hq
      rw [hf, hs, if_pos hh] at hq
      intro g1 e1
      refine ⟨vm, vm, ?_⟩
      intro g2 e2
      rw [e2, e1, eI_sI_ne (by omega)]
      exact hq
  refine b_X3_complain_0 hM ⟨fun z => absurd z f1, fun _ => ⟨fun _ => ?_, fun z => absurd z f2⟩⟩
  rintro _ rfl
  rw [eP]
  exact loop _ (Nat.le_refl _) rfl
end
