/-! a day: the component's bed, leaves and water -/
set_option maxRecDepth 100000
section
variable {h g h' g' : Hp} {x i r : Nat} {E : Nat → Hp → Prop} {k n : Nat}
theorem fall_b {y : Int32} : V_X1_isFall h r y = if isFb y (gI h 403 r) (gI h 404 r) = true then 1 else 0 := by
  unfold V_X1_isFall isFb
  by_cases c1 : gI h 404 r < gI h 403 r
  · rw [if_pos c1, if_pos c1]
    by_cases c2 : gI h 403 r ≤ y
    · simp [c2]
    · by_cases c3 : gI h 404 r < y
      · simp [c2, c3]
      · simp [c2, c3]
  · rw [if_neg c1, if_neg c1]
    by_cases c2 : y < gI h 403 r
    · have : isin y (gI h 403 r) (gI h 404 r) = false := isin_f.mpr (fun z => i32_not_le.mpr c2 z.1)
      rw [if_pos c2, this]; decide
    · by_cases c3 : gI h 404 r < y
      · have : isin y (gI h 403 r) (gI h 404 r) = false := isin_f.mpr (fun z => i32_not_le.mpr c3 z.2)
        rw [if_neg c2, if_pos c3, this]; decide
      · have : isin y (gI h 403 r) (gI h 404 r) = true := isin_t.mpr ⟨i32_not_lt.mp c2, i32_not_lt.mp c3⟩
        rw [if_neg c2, if_neg c3, this]; decide
theorem cx_fall (H : CP (mx h g x) x) (hi : i < nC g x) (hb : eI g (x + 23 + 6) i = 1) (U : RU h g x r) {y : Int32} (ey : y = irm (gI g 1000 (x + 23)) 365) {Q : Hp → Prop} (hq : ∀ h', CP (mx h' (ag2 g x i) x) x → mx h' h x = h' → Frm h h' x → Q h') : CtV M_X6_fall [rV (bedp h x i), rV r, iV y] h k n Q E := by
  obtain ⟨k4, gm, ne, t1, t2, t3, t4, t5, t6, t7, t8, t9, t10⟩ := bed_mx H hi hb
  have hC := H.nC_le.2
  rw [nC_mx] at hC
  have ef : V_X1_isFall h r y = if isFb (irm (gI g 1000 (x + 23)) 365) (V_X3_now g (x + 23) 1) (V_X3_now g (x + 23) 2) = true then 1 else 0 := by rw [fall_b, ey, U.2.2.1, U.2.2.2.1]
  by_cases c : isFb (irm (gI g 1000 (x + 23)) 365) (V_X3_now g (x + 23) 1) (V_X3_now g (x + 23) 2) = true
  · have e2 : ag2 g x i = sI g (x + 23 + 13) i (imin 10 (eI g (x + 23 + 13) i + (if eI g (x + 23 + 7) i = 0 then 1 else 2))) := by unfold ag2; rw [if_pos c]
    rw [if_pos c] at ef
    rw [e2] at hq
    have L27 : ∀ a0, a0 = (if eI g (x + 23 + 7) i = 0 then (1 : Int32) else 2) → Rn M_X6_fall 27 [(0, rV (bedp h x i))] [iV a0, iV (gI h 306 (bedp h x i)), iV 10, rV (bedp h x i)] h k n (qV Q) E := by
      intro a0 ea
      have ha : bd a0 1 2 := by
        rw [ea]
        by_cases z : eI g (x + 23 + 7) i = 0
        · rw [if_pos z]; exact ⟨by decide, by decide⟩
        · rw [if_neg z]; exact ⟨by decide, by decide⟩
      refine b_X6_fall_27 ⟨k4, ?_⟩
      rw [t6]
      intro h' e'
      rw [← ea] at hq
      have hv : bd (imin 10 (eI g (x + 23 + 13) i + a0)) 0 10 := by
        have h1 := (bd_g H (i := i) (by omega)).2.1
        have a1 := h1.1; have a2 := h1.2; have a3 := ha.1; have a4 := ha.2
        unfold bd
        rw [imin_toInt, i32_add (by omega) (by omega), toI_10]
        omega
      have K := cp_leaves H (i := i) (v := imin 10 (eI g (x + 23 + 13) i + a0)) (by rw [nC_mx]; exact hi) (by rw [eI_mM (by decide) (by decide)]; exact hb) hv
      have eb : bedp (mx h g x) x i = bedp h x i := by unfold bedp; rw [gR_mx, el_mx]
      rw [eb, ← mx_pI ne, ← mxM_sI (by decide) (by decide), ← e'] at K
      refine hq h' K ?_ ?_
      · rw [e', mx_pI ne, mx_self]
      · rw [e']; exact Frm.refl.vI (by decide) (by decide)
    refine b_X6_fall_0 ?_
    rw [ef, t4]
    refine ⟨U.1, U.1, fun z => absurd z (by decide), fun _ => ⟨k4, fun z => L27 _ (by rw [if_pos z]), fun z => L27 _ (by rw [if_neg z])⟩⟩
  · have e2 : ag2 g x i = g := by unfold ag2; rw [if_neg c]
    rw [if_neg c] at ef
    rw [e2] at hq
    refine b_X6_fall_0 ?_
    rw [ef]
    exact ⟨U.1, U.1, fun _ => hq h H mx_self Frm.refl, fun z => absurd rfl z⟩
end
