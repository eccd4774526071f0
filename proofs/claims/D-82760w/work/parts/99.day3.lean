/-! a day: the reference's ages -/
set_option maxRecDepth 100000
section
variable {g : Hp} {x i : Nat} {E : Nat → Hp → Prop} {k n : Nat} {Q : Hp → Prop}
theorem ct_ages (hM : MW g (x + 23)) (hL : LWp g (x + 23)) (hi : i < nC g x) (hc : gI g 1001 (x + 23) = nI (nC g x)) (h12 : nC g x ≤ 12) (hlot : vp_in (eI g (x + 23 + 9) i) 10) (hP : bd (gI g 1006 (x + 23)) 0 60) (hq : Q (agM g x i)) : CtV M_X3_ages [rV (x + 23), iV (nI i)] g k n Q E := by
  have vi : vp_in (nI i) 12 := vin_nI (by omega) (by decide)
  have ei : ix (nI i) = i := ix_nI (by omega)
  have hin : isin (nI i) 0 (gI g 1001 (x + 23) - 1) = true := by
    rw [isin_t, hc, i32_le, i32_le, toI_0, nI_toInt (by omega), nI_m1 (by omega)]
    omega
  generalize ey : irm (gI g 1000 (x + 23)) 365 = y
  have L232 : ∀ g5, Kp g g5 x → Q (ag6 g5 x i) → Rn M_X3_ages 232 [(0, rV (x + 23)), (1, iV (nI i)), (3, iV y)] [] g5 k n (qV Q) E := by
    intro g5 A hq
    unfold ag6 at hq
    rw [A.gi (f := 1000) (by decide), ey] at hq
    have hM5 := A.mw hM
    refine b_X3_ages_232 hM5 ?_
    rw [ei]
    refine ⟨fun z => ⟨vi, A.lwp hL, fun c => ?_, fun c => ⟨vi, ?_⟩⟩, fun z => ?_⟩
    · rw [if_pos z, if_pos c] at hq
      refine b_X3_ages_260 hM5 ?_
      rw [ei]
      refine ⟨vi, ?_⟩
      rintro _ rfl
      exact hq
    · rw [if_pos z, if_neg c] at hq
      rintro _ rfl
      refine b_X3_ages_260 (MW_sI hM5) ?_
      rw [ei]
      refine ⟨vi, ?_⟩
      rintro _ rfl
      exact hq
    · rw [if_neg z] at hq; exact hq
  have L207 : ∀ g3 a0, Kp g g3 x → bd (gI g3 1006 (x + 23)) 0 60 → a0 = (if eI g3 (x + 23 + 15) i ≤ 0 then 0 else eI g3 (x + 23 + 16) i + 1) → Q (ag6 (ag5 (ag4 g3 x i) x i) x i) → Rn M_X3_ages 207 [(0, rV (x + 23)), (1, iV (nI i)), (3, iV y)] [iV a0, iV (nI i), rV (x + 23 + 16)] g3 k n (qV Q) E := by
    intro g3 a0 A hP3 ea hq
    have hM3 := A.mw hM
    refine b_X3_ages_207 hM3 ?_
    rw [ei]
    refine ⟨mwk_stands hM3, by rw [mwl_stands hM3]; exact vi, ?_⟩
    intro g4 e4
    have e4' : g4 = ag4 g3 x i := by rw [e4, ea]; rfl
    have A4 : Kp g g4 x := by rw [e4']; exact A.trans kp_ag4
    have hM4 := A4.mw hM
    rw [← e4'] at hq
    unfold ag5 at hq
    refine ⟨vi, A4.lwp hL, fun c => ?_, fun c => ?_⟩
    · rw [if_neg c] at hq
      exact L232 g4 A4 hq
    · rw [if_pos c] at hq
      refine ct_cmM hM4 (by rw [e4, gI_sI]; exact hP3) (by rw [A4.gi (by decide)]; exact hin) (by decide) ⟨?_, L232 _ (A4.trans kp_cmM) hq⟩
      exact (A4.trans kp_cmM).mw hM
  have L139 : ∀ g2, Kp g g2 x → bd (gI g2 1006 (x + 23)) 0 60 → Q (ag6 (ag5 (ag4 (ag3 g2 x i) x i) x i) x i) → Rn M_X3_ages 139 [(0, rV (x + 23)), (1, iV (nI i)), (3, iV y)] [] g2 k n (qV Q) E := by
    intro g2 A hP2 hq
    have hM2 := A.mw hM
    refine b_X3_ages_139 hM2 ?_
    rw [ei]
    refine ⟨vi, ⟨vi, vi, by rw [ei, A.ei (o := 9) (by decide)]; exact hlot⟩, ?_⟩
    rintro _ rfl
    refine ⟨vi, vi, ?_⟩
    intro g3 e3 g3' e3'
    rw [e3, gJ_sI] at e3'
    have e3a : g3' = ag3 g2 x i := by rw [e3']; rfl
    have A3 : Kp g g3' x := by rw [e3a]; exact A.trans kp_ag3
    have hP3 : bd (gI g3' 1006 (x + 23)) 0 60 := by rw [e3', gI_pJ, gI_sI]; exact hP2
    rw [← e3a] at hq
    refine ⟨vi, fun c => L207 g3' 0 A3 hP3 (by rw [if_pos c]) hq, fun c => ⟨vi, L207 g3' _ A3 hP3 (by rw [if_neg c]) hq⟩⟩
  have L32 : ∀ m2, m2 = mo2 g x i → Rn M_X3_ages 32 [(0, rV (x + 23)), (1, iV (nI i)), (2, iV m2)] [] g k n (qV Q) E := by
    intro m2 em
    refine b_X3_ages_32 hM ?_
    rw [ei]
    refine ⟨vi, vi, ?_⟩
    intro g1 e1
    have e1' : g1 = ag1 g x i := by rw [e1, em]; rfl
    have A1 : Kp g g1 x := by rw [e1']; exact kp_ag1
    have hM1 := A1.mw hM
    have hP1 : bd (gI g1 1006 (x + 23)) 0 60 := by rw [e1, gI_sI]; exact hP
    have hq1 : Q (ag6 (ag5 (ag4 (ag3 (ag2 g1 x i) x i) x i) x i) x i) := by rw [e1']; exact hq
    have ey1 : irm (gI g1 1000 (x + 23)) 365 = y := by rw [A1.gi (by decide)]; exact ey
    rw [ey1]
    intro y2 ey2
    rw [ey2]
    refine ⟨A1.lwp hL, ?_⟩
    intro la ela
    refine ⟨A1.lwp hL, ?_⟩
    intro lb elb
    have yes : isFb y la lb = true → Rn M_X3_ages 107 [(0, rV (x + 23)), (1, iV (nI i)), (3, iV y)] [] g1 k n (qV Q) E := by
      intro hf
      have hf' : isFb (irm (gI g1 1000 (x + 23)) 365) (V_X3_now g1 (x + 23) 1) (V_X3_now g1 (x + 23) 2) = true := by rw [ey1, ← ela, ← elb]; exact hf
      have e2 : ag2 g1 x i = sI g1 (x + 23 + 13) i (imin 10 (eI g1 (x + 23 + 13) i + (if eI g1 (x + 23 + 7) i = 0 then 1 else 2))) := by unfold ag2; rw [if_pos hf']
      rw [e2] at hq1
      have fin : ∀ a0, a0 = (if eI g1 (x + 23 + 7) i = 0 then (1 : Int32) else 2) → Rn M_X3_ages 134 [(0, rV (x + 23)), (1, iV (nI i)), (3, iV y)] [iV a0, iV (eI g1 (x + 23 + 13) i), iV 10, iV (nI i), rV (x + 23 + 13)] g1 k n (qV Q) E := by
        intro a0 ea
        refine b_X3_ages_134 hM1 ?_
        rw [ei]
        refine ⟨mwk_leaves hM1, by rw [mwl_leaves hM1]; exact vi, ?_⟩
        rintro _ rfl
        refine L139 _ (A1.wI (by decide)) (by rw [gI_sI]; exact hP1) ?_
        rw [ea]; exact hq1
      refine b_X3_ages_107 hM1 ?_
      rw [ei]
      exact ⟨vi, vi, fun c => fin 1 (by rw [if_pos c]), fun c => fin 2 (by rw [if_neg c])⟩
    have no : isFb y la lb = false → Rn M_X3_ages 139 [(0, rV (x + 23)), (1, iV (nI i)), (3, iV y)] [] g1 k n (qV Q) E := by
      intro hf
      have hf' : ¬ isFb (irm (gI g1 1000 (x + 23)) 365) (V_X3_now g1 (x + 23) 1) (V_X3_now g1 (x + 23) 2) = true := by rw [ey1, ← ela, ← elb, hf]; decide
      have e2 : ag2 g1 x i = g1 := by unfold ag2; rw [if_neg hf']
      rw [e2] at hq1
      exact L139 g1 A1 hP1 hq1
    refine ⟨fun z1 => ⟨fun z2 => yes ?_, fun z2 => ⟨fun z3 => no ?_, fun z3 => yes ?_⟩⟩, fun z1 => ⟨fun z2 => no ?_, fun z2 => yes ?_⟩⟩
    · unfold isFb; rw [if_pos z1]; simp [z2]
    · unfold isFb; rw [if_pos z1]; simp [z2, z3]
    · unfold isFb; rw [if_pos z1]; simp [z3]
    · unfold isFb; rw [if_neg z1]; exact z2
    · unfold isFb; rw [if_neg z1]; exact z2
  have L19 : ∀ m1, m1 = mo1 g x i → Rn M_X3_ages 19 [(0, rV (x + 23)), (1, iV (nI i)), (2, iV m1)] [] g k n (qV Q) E := by
    intro m1 em
    refine b_X3_ages_19 hM ?_
    rw [ei]
    refine ⟨vi, fun c => L32 m1 (by unfold mo2; rw [if_neg c]; exact em), fun c => ?_⟩
    rintro _ rfl
    exact L32 _ (by unfold mo2; rw [if_pos c, em])
  refine b_X3_ages_0 hM ⟨hL, ?_⟩
  rintro _ rfl
  rw [ei]
  refine ⟨vi, fun c => L19 _ (by unfold mo1; rw [if_pos c]), fun c => ?_⟩
  rintro _ rfl
  exact L19 _ (by unfold mo1; rw [if_neg c])
end
