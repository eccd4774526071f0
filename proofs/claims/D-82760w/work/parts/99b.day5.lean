/-! a day: the component's bed -/
set_option maxRecDepth 100000
/-- the rules object's numbers -/
def RU (h g : Hp) (x r : Nat) : Prop := kd h r = 5 ∧ gI h 402 r = V_X3_now g (x + 23) 0 ∧ gI h 403 r = V_X3_now g (x + 23) 1 ∧ gI h 404 r = V_X3_now g (x + 23) 2 ∧ gI h 405 r = V_X3_now g (x + 23) 3 ∧ gI h 407 r = V_X3_now g (x + 23) 5 ∧ gI h 408 r = V_X3_now g (x + 23) 6
section
variable {h g h' g' : Hp} {x i r : Nat} {E : Nat → Hp → Prop} {k n : Nat}
theorem RU.fr (U : RU h g x r) (A : Frm h h' x) (B : Kp g g' x) : RU h' g' x r := by
  obtain ⟨u0, u1, u2, u3, u4, u5, u6⟩ := U
  have hz : kd h r ≠ 0 := by rw [u0]; decide
  obtain ⟨a1, a2, a3, a4⟩ := A.1.2.2 r hz
  unfold RU
  rw [a1, a3 402 (by decide), a3 403 (by decide), a3 404 (by decide), a3 405 (by decide), a3 407 (by decide), a3 408 (by decide), B.now, B.now, B.now, B.now, B.now, B.now]
  exact ⟨u0, u1, u2, u3, u4, u5, u6⟩
theorem ru_on (H : CP (mx h g x) x) : RU h g x (onG h g x (gI g 1000 (x + 23))) := by
  have M : kd h (x + 23) = 11 := mw_k (MW_mx H.mw)
  have U := (H.on (gI g 1000 (x + 23))).2.1
  rw [onG_V] at U
  generalize onG h g x (gI g 1000 (x + 23)) = r at U
  have lw : ∀ w, lawn (mx h g x) (x + 23) (gI g 1000 (x + 23)) w = V_X3_now g (x + 23) w := fun w => by rw [mx_dm.qlw]; rfl
  obtain ⟨u0, u1, u2, u3, u4, u5, u6, u7, -⟩ := U
  have k0 : kd h r = 5 := u0
  rw [gI_mK M k0 (by decide)] at u1 u2 u3 u4 u6 u7
  exact ⟨k0, u1.trans (lw 0), u2.trans (lw 1), u3.trans (lw 2), u4.trans (lw 3), u6.trans (lw 5), u7.trans (lw 6)⟩
theorem now_bd (H : CP (mx h g x) x) (w : Int32) : bd (V_X3_now g (x + 23) w) 0 9999 := by
  have := (H.on (gI g 1000 (x + 23))).2.2.2 w
  rw [mx_dm.qlw] at this
  exact this
/-- a bed on both sides -/
theorem bed_mx (H : CP (mx h g x) x) (hi : i < nC g x) (hb : eI g (x + 23 + 6) i = 1) : kd h (bedp h x i) = 4 ∧ (∀ f, gI (mx h g x) f (bedp h x i) = gI h f (bedp h x i)) ∧ bedp h x i ≠ x + 23 ∧ gR h 313 (bedp h x i) = x ∧ gR h 300 (bedp h x i) = el h (x + 2) i ∧ gI h 301 (bedp h x i) = eI g (x + 23 + 9) i ∧ gI h 304 (bedp h x i) = eI g (x + 23 + 7) i ∧ gI h 305 (bedp h x i) = eI g (x + 23 + 12) i ∧ gI h 306 (bedp h x i) = eI g (x + 23 + 13) i ∧ gI h 307 (bedp h x i) = eI g (x + 23 + 14) i ∧ gI h 308 (bedp h x i) = eI g (x + 23 + 15) i ∧ gI h 309 (bedp h x i) = eI g (x + 23 + 16) i ∧ gI h 312 (bedp h x i) = eI g (x + 23 + 8) i := by
  have M : kd h (x + 23) = 11 := mw_k (MW_mx H.mw)
  have hi' : i < nC (mx h g x) x := by rw [nC_mx]; exact hi
  rcases H.pb i hi' with ⟨b1, -⟩ | ⟨-, b2, b3, -⟩
  · rw [eI_mM (by decide) (by decide), hb] at b1; exact absurd b1 (by decide)
  obtain ⟨c1, c2, c3, c4, c5, c6, c7⟩ := b2
  obtain ⟨d1, d2, d3, d4, d5, d6, d7⟩ := b3
  have k4 : kd h (bedp h x i) = 4 := c1
  have ne : bedp h x i ≠ x + 23 := fun e => by rw [e, M] at k4; exact absurd k4 (by decide)
  have c2' : gR h 313 (bedp h x i) = x := c2
  have c3' : gR h 300 (bedp h x i) = el h (x + 2) i := c3
  have gm : ∀ f, gI (mx h g x) f (bedp h x i) = gI h f (bedp h x i) := fun f => gI_mX ne
  have eb : gR (mx h g x) 109 (el (mx h g x) (x + 2) i) = bedp h x i := by unfold bedp; rw [gR_mx, el_mx]
  rw [eb, gm, eI_mM (by decide) (by decide)] at c4 c7 d1 d2 d3 d4 d5 d7
  exact ⟨k4, gm, ne, c2', c3', c4, c7, d1, d2, d3, d4, d5, d7⟩
theorem bd_g (H : CP (mx h g x) x) (hi : i < 12) : bd (eI g (x + 23 + 12) i) 0 100 ∧ bd (eI g (x + 23 + 13) i) 0 10 ∧ bd (eI g (x + 23 + 15) i) 0 500 ∧ bd (eI g (x + 23 + 6) i) 0 1 ∧ bd (eI g (x + 23 + 9) i) 0 9 := by
  obtain ⟨⟨w1, -, -, -, -, w6, w7, -, w9, -⟩, -, w3, -⟩ := H.px i hi
  rw [eI_mM (by decide) (by decide)] at w1 w6 w7 w9 w3
  exact ⟨w6, w7, w9, w3, w1⟩
theorem mo1_bd (H : CP (mx h g x) x) : bd (mo1 g x i) 0 9999 := by
  have h1 := now_bd H 0
  unfold mo1
  by_cases c : eI g (x + 23 + 7) i = 0
  · rw [if_pos c]; exact h1
  · rw [if_neg c]
    unfold bd
    rw [i32_div (by have := h1.1; omega) (by decide)]
    have e : (2 : Int32).toInt = 2 := by decide
    rw [e]
    have := h1.1; have := h1.2
    omega
theorem mo2_bd (H : CP (mx h g x) x) : bd (mo2 g x i) 0 19998 := by
  have h1 := mo1_bd H (i := i)
  have e : (2 : Int32).toInt = 2 := by decide
  unfold mo2
  by_cases c : eI g (x + 23 + 8) i = 0
  · rw [if_pos c]
    have h2 : bd (2 : Int32) 0 2 := ⟨by decide, by decide⟩
    obtain ⟨m1, m2, m3⟩ := i32m h1 h2 (by decide)
    unfold bd
    rw [m1, e]
    have := h1.1; have := h1.2
    omega
  · rw [if_neg c]; exact ⟨h1.1, by have := h1.2; omega⟩
theorem cx_clogs (H : CP (mx h g x) x) (hi : i < nC g x) (hb : eI g (x + 23 + 6) i = 1) (U : RU h g x r) {Q : Hp → Prop} (hq : ∀ h', CP (mx h' (ag1 g x i) x) x → mx h' h x = h' → Frm h h' x → Q h') : CtV M_X6_clogs [rV (bedp h x i), rV r] h k n Q E := by
  obtain ⟨k4, gm, ne, t1, t2, t3, t4, t5, t6, t7, t8, t9, t10⟩ := bed_mx H hi hb
  have hC := H.nC_le.2
  rw [nC_mx] at hC
  have L42 : ∀ a0, a0 = mo2 g x i → Rn M_X6_clogs 42 [(0, rV (bedp h x i))] [iV a0, iV (gI h 305 (bedp h x i)), iV 100, rV (bedp h x i)] h k n (qV Q) E := by
    intro a0 ea
    refine b_X6_clogs_42 ⟨k4, ?_⟩
    rw [ea, t5]
    intro h' e'
    have hv : bd (imin 100 (eI g (x + 23 + 12) i + mo2 g x i)) 0 100 := by
      have h1 := (bd_g H (i := i) (by omega)).1
      have h2 := mo2_bd H (i := i)
      have a1 := h1.1; have a2 := h1.2; have a3 := h2.1; have a4 := h2.2
      unfold bd
      rw [imin_toInt, i32_add (by omega) (by omega), toI_100]
      omega
    have K := cp_clog H (i := i) (v := imin 100 (eI g (x + 23 + 12) i + mo2 g x i)) (by rw [nC_mx]; exact hi) (by rw [eI_mM (by decide) (by decide)]; exact hb) hv
    have eb : bedp (mx h g x) x i = bedp h x i := by unfold bedp; rw [gR_mx, el_mx]
    rw [eb, ← mx_pI ne, ← mxM_sI (by decide) (by decide), ← e'] at K
    refine hq h' K ?_ ?_
    · rw [e', mx_pI ne, mx_self]
    · rw [e']; exact Frm.refl.vI (by decide) (by decide)
  have L20 : ∀ a0, a0 = mo1 g x i → Rn M_X6_clogs 20 [(0, rV (bedp h x i))] [iV a0] h k n (qV Q) E := by
    intro a0 ea
    refine b_X6_clogs_20 ?_
    rw [t10]
    refine ⟨k4, fun c => L42 _ ?_, fun c => L42 _ ?_⟩
    · unfold mo2; rw [if_pos c, ea, Int32.mul_comm]
    · unfold mo2; rw [if_neg c]; exact ea
  refine b_X6_clogs_0 ?_
  rw [t4, U.2.1]
  refine ⟨k4, fun c => ⟨U.1, L20 _ ?_⟩, fun c => ⟨U.1, L20 _ ?_⟩⟩
  · unfold mo1; rw [if_pos c]
  · unfold mo1; rw [if_neg c]
end
