/-! a day: the reference's beds -/
set_option maxRecDepth 100000
section
variable (g : Hp) (x i : Nat)
def mo1 : Int32 := if eI g (x + 23 + 7) i = 0 then V_X3_now g (x + 23) 0 else V_X3_now g (x + 23) 0 / 2
def mo2 : Int32 := if eI g (x + 23 + 8) i = 0 then mo1 g x i * 2 else mo1 g x i
def ag1 : Hp := sI g (x + 23 + 12) i (imin 100 (eI g (x + 23 + 12) i + mo2 g x i))
end
section
variable (g : Hp) (x i : Nat)
def isFb (y a b : Int32) : Bool := if b < a then decide (a ≤ y) || !decide (b < y) else isin y a b
def ag2 : Hp := if isFb (irm (gI g 1000 (x + 23)) 365) (V_X3_now g (x + 23) 1) (V_X3_now g (x + 23) 2) = true then sI g (x + 23 + 13) i (imin 10 (eI g (x + 23 + 13) i + (if eI g (x + 23 + 7) i = 0 then 1 else 2))) else g
def snk : Int32 := imin (eI g (x + 23 + 15) i) (20 * V_X3_drink g (x + 23) (nI i))
def ag3 : Hp := pJ (sI g (x + 23 + 15) i (eI g (x + 23 + 15) i - snk g x i)) 1036 (x + 23) (gJ g 1036 (x + 23) + Int32.toInt64 (snk g x i))
def ag4 : Hp := sI g (x + 23 + 16) i (if eI g (x + 23 + 15) i ≤ 0 then 0 else eI g (x + 23 + 16) i + 1)
def ag5 : Hp := if eI g (x + 23 + 16) i = V_X3_now g (x + 23) 6 + 1 then cmM g x (nI i) 2 else g
def ag6 : Hp := if irm (gI g 1000 (x + 23)) 365 = 60 then sI (if eI g (x + 23 + 14) i ≤ V_X3_now g (x + 23) 5 then g else sI g (x + 23 + 8) i 0) (x + 23 + 14) i 0 else g
def agM : Hp := ag6 (ag5 (ag4 (ag3 (ag2 (ag1 g x i) x i) x i) x i) x i) x i
end
section
variable {g g' : Hp} {x i : Nat} {E : Nat → Hp → Prop} {k n : Nat}
def dyL : List Nat := [1, 2, 3, 4, 5, 6, 7, 9, 10, 11, 17, 18, 19, 20, 21, 22, 23, 24, 25, 26, 27, 28, 41, 42, 43, 50, 51, 52, 53, 54, 55, 56, 57]
/-- what a bed's day does not write -/
def Kp (g g' : Hp) (x : Nat) : Prop := nx g' = nx g ∧ kd g' = kd g ∧ ln g' = ln g ∧ gR g' = gR g ∧ (∀ f, f ≠ 1006 → gI g' f = gI g f) ∧ (∀ o, o ∈ dyL → eI g' (x + 23 + o) = eI g (x + 23 + o))
theorem Kp.refl : Kp g g x := ⟨rfl, rfl, rfl, rfl, fun _ _ => rfl, fun _ _ => rfl⟩
theorem Kp.trans {g1 : Hp} (A : Kp g g1 x) (B : Kp g1 g' x) : Kp g g' x := by
  obtain ⟨a1, a2, a3, a4, a5, a6⟩ := A
  obtain ⟨b1, b2, b3, b4, b5, b6⟩ := B
  exact ⟨b1.trans a1, b2.trans a2, b3.trans a3, b4.trans a4, fun f z => (b5 f z).trans (a5 f z), fun o z => (b6 o z).trans (a6 o z)⟩
theorem Kp.wI (A : Kp g g' x) {o j : Nat} {v : Int32} (ho : o ∉ dyL) : Kp g (sI g' (x + 23 + o) j v) x := by
  obtain ⟨a1, a2, a3, a4, a5, a6⟩ := A
  refine ⟨by rw [nx_sI]; exact a1, by rw [kd_sI]; exact a2, by rw [ln_sI]; exact a3, by rw [gR_sI]; exact a4, fun f z => by rw [gI_sI]; exact a5 f z, fun p hp => ?_⟩
  rw [eI_sI_ne (fun e => ho (by rw [show o = p by omega]; exact hp))]
  exact a6 p hp
theorem Kp.vJ (A : Kp g g' x) {f a : Nat} {v : Int64} : Kp g (pJ g' f a v) x := by
  obtain ⟨a1, a2, a3, a4, a5, a6⟩ := A
  refine ⟨by rw [nx_pJ]; exact a1, by rw [kd_pJ]; exact a2, by rw [ln_pJ]; exact a3, by rw [gR_pJ]; exact a4, fun f z => by rw [gI_pJ]; exact a5 f z, fun p hp => by rw [eI_pJ]; exact a6 p hp⟩
theorem Kp.vC (A : Kp g g' x) {a : Nat} {v : Int32} : Kp g (pI g' 1006 a v) x := by
  obtain ⟨a1, a2, a3, a4, a5, a6⟩ := A
  refine ⟨by rw [nx_pI]; exact a1, by rw [kd_pI]; exact a2, by rw [ln_pI]; exact a3, by rw [gR_pI]; exact a4, fun f z => ?_, fun p hp => by rw [eI_pI]; exact a6 p hp⟩
  rw [gI_pI_ne (fun e => z e.symm)]; exact a5 f z
theorem Kp.mw (A : Kp g g' x) {mo : Nat} (H : MW g mo) : MW g' mo := ⟨by rw [A.2.1]; exact H.1, fun q hq => by rw [A.2.2.2.1, A.2.1, A.2.2.1]; exact H.2 q hq⟩
theorem Kp.gi (A : Kp g g' x) {f : Nat} (hf : f ≠ 1006) : gI g' f (x + 23) = gI g f (x + 23) := by rw [A.2.2.2.2.1 f hf]
theorem Kp.ei (A : Kp g g' x) {o : Nat} (ho : o ∈ dyL) : eI g' (x + 23 + o) = eI g (x + 23 + o) := A.2.2.2.2.2 o ho
theorem Kp.now (A : Kp g g' x) (w : Int32) : V_X3_now g' (x + 23) w = V_X3_now g (x + 23) w := by
  unfold V_X3_now lawn lawv
  simp only [A.gi (f := 1067) (by decide), A.gi (f := 1000) (by decide), A.ei (o := 50) (by decide), A.ei (o := 51) (by decide), A.ei (o := 52) (by decide), A.ei (o := 53) (by decide), A.ei (o := 54) (by decide), A.ei (o := 55) (by decide)]
theorem Kp.lwp (A : Kp g g' x) (H : LWp g (x + 23)) : LWp g' (x + 23) := by
  unfold LWp at H ⊢
  rw [A.gi (f := 1067) (by decide), A.ei (o := 50) (by decide)]
  exact H
theorem kp_ag1 : Kp g (ag1 g x i) x := by unfold ag1; exact Kp.refl.wI (by decide)
theorem kp_ag2 : Kp g (ag2 g x i) x := by
  unfold ag2
  by_cases c : isFb (irm (gI g 1000 (x + 23)) 365) (V_X3_now g (x + 23) 1) (V_X3_now g (x + 23) 2) = true
  · rw [if_pos c]; exact Kp.refl.wI (by decide)
  · rw [if_neg c]; exact Kp.refl
theorem kp_ag3 : Kp g (ag3 g x i) x := by unfold ag3; exact (Kp.refl.wI (by decide)).vJ
theorem kp_ag4 : Kp g (ag4 g x i) x := by unfold ag4; exact Kp.refl.wI (by decide)
theorem kp_cmM {c kk : Int32} : Kp g (cmM g x c kk) x := by
  unfold cmM
  cases fdn (hit g x c kk) (nP g x) with
  | some j => show Kp g (cmJ g x j) x; unfold cmJ; exact (Kp.refl.wI (by decide)).wI (by decide)
  | none =>
    show Kp g (if nP g x = 60 then g else cmN g x (nP g x) c kk) x
    by_cases e : nP g x = 60
    · rw [if_pos e]; exact Kp.refl
    · rw [if_neg e]; unfold cmN
      exact ((((((Kp.refl.wI (by decide)).wI (by decide)).wI (by decide)).wI (by decide)).wI (by decide)).wI (by decide)).vC
theorem kp_ag5 : Kp g (ag5 g x i) x := by
  unfold ag5
  by_cases c : eI g (x + 23 + 16) i = V_X3_now g (x + 23) 6 + 1
  · rw [if_pos c]; exact kp_cmM
  · rw [if_neg c]; exact Kp.refl
theorem kp_ag6 : Kp g (ag6 g x i) x := by
  unfold ag6
  by_cases c : irm (gI g 1000 (x + 23)) 365 = 60
  · rw [if_pos c]
    by_cases d : eI g (x + 23 + 14) i ≤ V_X3_now g (x + 23) 5
    · rw [if_pos d]; exact Kp.refl.wI (by decide)
    · rw [if_neg d]; exact (Kp.refl.wI (by decide)).wI (by decide)
  · rw [if_neg c]; exact Kp.refl
theorem kp_agM : Kp g (agM g x i) x := by
  unfold agM
  exact ((((kp_ag1.trans kp_ag2).trans kp_ag3).trans kp_ag4).trans kp_ag5).trans kp_ag6
end
