/-! the corners without beds, as bits; bits of sets -/
set_option maxRecDepth 100000
section
variable {h : Hp} {x mo : Nat} {E : Nat → Hp → Prop} {k n : Nat} {R : Hp → Prop} {Q : Int32 → Hp → Prop}
def frF (h : Hp) (x : Nat) (i : Nat) (v : Int32) : Int32 := if eI h (x + 23 + 6) i = 0 then v ||| shl 1 (nI i) else v ||| 0
def frx (h : Hp) (x : Nat) : Int32 := itr (frF h x) 0 (nC h x) 0
theorem cs_X0_free (hm : XW h x) (H : CP h x) (hq : Q (frx h x) h) : CtI M_X0_free [rV x] h k n Q E := by
  refine r_wfH fun wf => ?_
  refine b_X0_free_0 H.xw ?_
  rw [← nI0]
  refine itr_loop (inv := fun i v => Rn M_X0_free 4 [(0, rV x), (1, iV v), (2, iV (nI i))] [] h k n (qI Q) E) (f := frF h x) (m := nC h x) (fun i v hi hw => ?_) ?_
  · obtain ⟨a1, a2, a3, a4, a5⟩ := H.corI hi
    obtain ⟨q1, q2⟩ := H.bedI wf hi
    refine b_X0_free_4 H.xw ⟨fun c => absurd c a1, fun _ => ?_⟩
    rw [a3, q1]
    unfold frF at hw
    refine ⟨a2, a4, fun c => ?_, fun c => ?_⟩
    · rintro _ rfl _ rfl; rw [nI_add1]; rw [if_neg c] at hw; exact hw
    · rintro _ rfl _ rfl; rw [nI_add1]; rw [if_pos c] at hw; exact hw
  · refine b_X0_free_4 H.xw ⟨fun _ => ?_, fun c => absurd H.corE c⟩
    rw [nI0]; exact hq
/-- the bits of the corners without beds -/
theorem frx_bt (H : CP h x) {y : Nat} (hy : y < 32) : bt (frx h x) y = decide (y < nC h x ∧ eI h (x + 23 + 6) y = 0) := by
  have hn := H.nC_le.2
  have := itr_inv (f := frF h x) (P := fun i v => bt v y = decide (y < i ∧ eI h (x + 23 + 6) y = 0)) (t := nC h x) (i := 0) (v := 0) (fun j w _ hj hw => ?_) (by rw [bt_zero]; simp)
  · rw [Nat.zero_add] at this; exact this
  · unfold frF
    by_cases c : eI h (x + 23 + 6) j = 0
    · rw [if_pos c, bt_or, hw, bt_shl1 (by omega) hy]
      by_cases e : y = j
      · subst e; simp [c]
      · have : y < j + 1 ↔ y < j := by omega
        simp [e, this]
    · rw [if_neg c, bt_or, hw, bt_zero]
      by_cases e : y = j
      · subst e; simp [c]
      · have : y < j + 1 ↔ y < j := by omega
        simp [this]
end
