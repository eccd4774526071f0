/-! a day: all beds, how many complaints come -/
set_option maxRecDepth 100000
def byD (x i : Nat) (g : Hp) : Hp := if eI g (x + 23 + 6) i = 0 then g else agM g x i
def bedsM (g : Hp) (x : Nat) : Hp := itr (byD x) 0 (nC g x) g
section
variable {h g h' g' a : Hp} {x i r : Nat} {E : Nat → Hp → Prop} {k n : Nat}
theorem nP_ag14 : nP (ag4 (ag3 (ag2 (ag1 g x i) x i) x i) x i) x = nP g x := by
  have e1 : ∀ g, gI (ag1 g x i) = gI g := fun g => by unfold ag1; rw [gI_sI]
  have e2 : ∀ g, gI (ag2 g x i) = gI g := fun g => by
    unfold ag2
    by_cases c : isFb (irm (gI g 1000 (x + 23)) 365) (V_X3_now g (x + 23) 1) (V_X3_now g (x + 23) 2) = true
    · rw [if_pos c, gI_sI]
    · rw [if_neg c]
  have e3 : ∀ g, gI (ag3 g x i) = gI g := fun g => by unfold ag3; rw [gI_pJ, gI_sI]
  have e4 : ∀ g, gI (ag4 g x i) = gI g := fun g => by unfold ag4; rw [gI_sI]
  unfold nP
  rw [e4, e3, e2, e1]
theorem nP_ag6 : nP (ag6 g x i) x = nP g x := by
  have e : gI (ag6 g x i) = gI g := by
    unfold ag6
    by_cases c : irm (gI g 1000 (x + 23)) 365 = 60
    · rw [if_pos c, gI_sI]
      by_cases d : eI g (x + 23 + 14) i ≤ V_X3_now g (x + 23) 5
      · rw [if_pos d]
      · rw [if_neg d, gI_sI]
    · rw [if_neg c]
  unfold nP
  rw [e]
theorem nP_ag5 (hP : nP g x ≤ 60) : nP (ag5 g x i) x = nP g x ∨ (nP (ag5 g x i) x = nP g x + 1 ∧ nP g x < 60) := by
  unfold ag5
  by_cases c : eI g (x + 23 + 16) i = V_X3_now g (x + 23) 6 + 1
  · rw [if_pos c]; exact nP_cmM hP _ _
  · rw [if_neg c]; exact Or.inl rfl
theorem nP_agM (hP : nP g x ≤ 60) : nP (agM g x i) x = nP g x ∨ (nP (agM g x i) x = nP g x + 1 ∧ nP g x < 60) := by
  unfold agM
  rw [nP_ag6]
  have := nP_ag5 (g := ag4 (ag3 (ag2 (ag1 g x i) x i) x i) x i) (x := x) (i := i) (by rw [nP_ag14]; exact hP)
  rw [nP_ag14] at this
  exact this
theorem nP_byD (hP : nP g x ≤ 60) : nP g x ≤ nP (byD x i g) x ∧ nP (byD x i g) x ≤ 60 := by
  unfold byD
  by_cases c : eI g (x + 23 + 6) i = 0
  · rw [if_pos c]; exact ⟨Nat.le_refl _, hP⟩
  · rw [if_neg c]
    have := nP_agM (i := i) hP
    omega
theorem nP_itrD (hP : nP g x ≤ 60) : ∀ t i, nP g x ≤ nP (itr (byD x) i t g) x ∧ nP (itr (byD x) i t g) x ≤ 60 := by
  intro t
  induction t generalizing g with
  | zero => intro i; exact ⟨Nat.le_refl _, hP⟩
  | succ t ih =>
    intro i
    have h1 := nP_byD (i := i) hP
    have h2 := ih (g := byD x i g) h1.2 (i + 1)
    exact ⟨Nat.le_trans h1.1 h2.1, h2.2⟩
theorem byD_mx : byD x i (mx a g x) = mx a (byD x i g) x := by
  unfold byD
  rw [eI_mM (by decide) (by decide)]
  by_cases c : eI g (x + 23 + 6) i = 0
  · rw [if_pos c, if_pos c]
  · rw [if_neg c, if_neg c]; exact agM_mx
theorem itrD_mx : ∀ t i, itr (byD x) i t (mx a g x) = mx a (itr (byD x) i t g) x := by
  intro t
  induction t generalizing g with
  | zero => intro i; rfl
  | succ t ih =>
    intro i
    show itr (byD x) (i + 1) t (byD x i (mx a g x)) = mx a (itr (byD x) (i + 1) t (byD x i g)) x
    rw [byD_mx, ih]
theorem bedsM_mx : bedsM (mx a g x) x = mx a (bedsM g x) x := by
  unfold bedsM
  rw [nC_mx, itrD_mx]
theorem kp_byD : Kp g (byD x i g) x := by
  unfold byD
  by_cases c : eI g (x + 23 + 6) i = 0
  · rw [if_pos c]; exact Kp.refl
  · rw [if_neg c]; exact kp_agM
theorem kp_itrD : ∀ t i, Kp g (itr (byD x) i t g) x := by
  intro t
  induction t generalizing g with
  | zero => intro i; exact Kp.refl
  | succ t ih =>
    intro i
    exact kp_byD.trans (ih (g := byD x i g) (i + 1))
end
