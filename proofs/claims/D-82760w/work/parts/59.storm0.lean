/-! a storm, in whole numbers: what both sides compute. S a j: the number j of the row a
 (14 bowls, 15 barrels, 16 spills, 17 wet, 18 most, 19 pipe, 20 street, 508 rain, 509 drinks, 510 all, 511 end, 512 wets, 513 most at the end) -/
set_option maxRecDepth 100000
abbrev St : Type := Nat → Nat → Int
def newS (s : Int32) (i : Nat) : Bool := decide (shr s (nI i) &&& 1 = 1)
section
variable (h : Hp) (x : Nat)
def rfI (u : Int) (r : Nat) (S : St) : Int := min (u * (eI h (x + 23 + 21) r).toInt) ((eI h (x + 23 + 22) r).toInt - S 15 r)
def rfN (u : Int) (r : Nat) (p : St × Int) : St × Int := (up2 (up2 p.1 508 0 (p.1 508 0 + u * (eI h (x + 23 + 21) r).toInt)) 15 r (p.1 15 r + rfI h x u r p.1), p.2 + (u * (eI h (x + 23 + 21) r).toInt - rfI h x u r p.1))
def rfF (u : Int) (i r : Nat) (p : St × Int) : St × Int := if eI h (x + 23 + 19) r = nI i then rfN h x u r p else p
def rfA (u : Int) (i : Nat) (S : St) : St × Int := itr (rfF h x u i) 0 (nR h x) (S, 0)
/-- a bed, old or new -/
def tkH (s : Int32) (i : Nat) : Bool := decide (¬ eI h (x + 23 + 6) i = 0) || newS s i
def tkC (s : Int32) (i : Nat) : Int := if newS s i then 100 else (eI h (x + 23 + 10) i).toInt
def tkL (s : Int32) (i : Nat) (c : Int) : Int := if newS s i then c else c * (10 - (eI h (x + 23 + 13) i).toInt) / 10
def tkD (s : Int32) (i : Nat) : Int := if newS s i then (eI h (x + 23 + 25) 0).toInt else (V_X3_drink h (x + 23) (nI i)).toInt
def tkI (s : Int32) (i : Nat) (S : St) (c : Int) : Int := if tkH h x s i then min (tkL h x s i c) (tkC h x s i - S 14 i) else 0
def tkV (s : Int32) (i : Nat) (S : St) (c : Int) : Int := min (S 14 i + tkI h x s i S c) (tkD h x s i)
def tkS (s : Int32) (i : Nat) (S : St) (c : Int) : St := if tkH h x s i then up2 (up2 S 14 i (S 14 i + tkI h x s i S c - tkV h x s i S c)) 509 0 (S 509 0 + tkV h x s i S c) else S
/-- what comes to a corner, goes into its pipe, goes beyond it -/
def cmS (u : Int) (i : Nat) (S : St) : Int := S 20 i + u * (eI h (x + 23 + 1) i).toInt + (rfA h x u i S).2
def s2S (u : Int) (i : Nat) (S : St) : St := up2 (rfA h x u i S).1 508 0 ((rfA h x u i S).1 508 0 + u * (eI h (x + 23 + 1) i).toInt)
def ppS (u : Int) (s : Int32) (i : Nat) (S : St) : Int := S 19 i + cmS h x u i S - tkI h x s i (s2S h x u i S) (cmS h x u i S)
def bbS (u : Int) (s : Int32) (i : Nat) (S : St) : Int := max 0 (ppS h x u s i S - (eI h (x + 23 + 2) i).toInt)
def toS (i : Nat) : Nat := if eI h (x + 23 + 5) i = -1 then nC h x else ix (eI h (x + 23 + 5) i)
def onS (u : Int) (s : Int32) (i : Nat) (S : St) : Int := if eI h (x + 23 + 5) i = -1 then 0 else bbS h x u s i S / 2
def s3S (u : Int) (s : Int32) (i : Nat) (S : St) : St := tkS h x s i (s2S h x u i S) (cmS h x u i S)
def s5S (u : Int) (s : Int32) (i : Nat) (S : St) : St := up2 (up2 (s3S h x u s i S) 19 (toS h x i) (S 19 (toS h x i) + (ppS h x u s i S - bbS h x u s i S))) 20 (toS h x i) (S 20 (toS h x i) + onS h x u s i S)
def s8S (u : Int) (s : Int32) (i : Nat) (S : St) : St := up2 (up2 (up2 (s5S h x u s i S) 16 i (S 16 i + (bbS h x u s i S - onS h x u s i S))) 510 0 (S 510 0 + (bbS h x u s i S - onS h x u s i S))) 18 i (max (S 18 i) (ppS h x u s i S - bbS h x u s i S))
def stc (u : Int) (s : Int32) (i : Nat) (S : St) : St := if 0 < (eI h (x + 23 + 4) i).toInt ∧ (eI h (x + 23 + 4) i).toInt < bbS h x u s i S then up2 (up2 (s8S h x u s i S) 17 i (S 17 i + 1)) 512 0 (S 512 0 + 1) else s8S h x u s i S
/-- a minute; a storm -/
def zrS (S : St) : St := fun a j => if a = 19 ∨ a = 20 then 0 else S a j
def mnT (u : Int) (s : Int32) (S : St) : St := itr (stc h x u s) 0 (nC h x) (zrS S)
def mnS (u : Int) (s : Int32) (S : St) : St := up2 (up2 (mnT h x u s S) 511 0 (mnT h x u s S 511 0 + mnT h x u s S 19 (nC h x))) 513 0 (max (mnT h x u s S 513 0) (mnT h x u s S 19 (nC h x)))
def i0S : St := fun a j => if a = 15 then (eI h (x + 23 + 23) j).toInt else 0
def rnS (s : Int32) : St := itr (fun m S => mnS h x (eI h (x + 23 + 26) m).toInt s S) 0 (ix (gI h 1003 (x + 23))) (i0S h x)
/-- the bounds that the reference's rows keep -/
def MDB : Prop := (nC h x ≤ 12 ∧ nR h x ≤ 30 ∧ bd (gI h 1003 (x + 23)) 0 30 ∧ gI h 1001 (x + 23) = nI (nC h x) ∧ gI h 1002 (x + 23) = nI (nR h x)) ∧ (∀ i, i < nC h x → CPv1 h x i) ∧ (∀ i, i < 12 → CPw1 h x i ∧ bd (eI h (x + 23 + 6) i) 0 1) ∧ (∀ i, i < nR h x → CPr2 h x i) ∧ (∀ j, j < 10 → bd (eI h (x + 23 + 25) j) 1 100) ∧ ∀ j, j < 30 → bd (eI h (x + 23 + 26) j) 0 50
end
section
variable {h : Hp} {x : Nat}
theorem CP.mdb (H : CP h x) : MDB h x := ⟨⟨H.nC_le.2, H.nR_le.2, H.po.2.2.2.1, H.nC_le.1, H.nR_le.1⟩, H.pv, fun i hi => ⟨(H.px i hi).1, (H.px i hi).2.2.1⟩, fun i hi => (H.pr i hi).2, fun j hj => (H.pa.1 j hj).2, fun j hj => (H.pa.2.2.2.1 j hj).2⟩
theorem up2_ne {S : St} {a j : Nat} {v : Int} {a' j' : Nat} (hn : a' ≠ a ∨ j' ≠ j) : up2 S a j v a' j' = S a' j' := by
  unfold up2
  rw [if_neg]
  rintro ⟨e1, e2⟩
  rcases hn with z | z
  · exact z e1
  · exact z e2
theorem up2_at {S : St} {a j : Nat} {v : Int} : up2 S a j v a j = v := by unfold up2; rw [if_pos ⟨rfl, rfl⟩]
/-- sums -/
def sm (f : Nat → Int) (k : Nat) : Nat → Int
  | 0 => 0
  | t + 1 => sm f k t + f (k + t)
theorem sm_head (f : Nat → Int) (k : Nat) : ∀ t, sm f k (t + 1) = f k + sm f (k + 1) t
  | 0 => by show (0 : Int) + f (k + 0) = f k + 0; simp
  | t + 1 => by
    show sm f k (t + 1) + f (k + (t + 1)) = f k + (sm f (k + 1) t + f (k + 1 + t))
    rw [sm_head f k t, show k + (t + 1) = k + 1 + t by omega]
    omega
theorem sm_congr {f g : Nat → Int} {k : Nat} : ∀ {t}, (∀ j, k ≤ j → j < k + t → g j = f j) → sm g k t = sm f k t
  | 0, _ => rfl
  | t + 1, h => by
    show sm g k t + g (k + t) = sm f k t + f (k + t)
    rw [sm_congr (fun j h1 h2 => h j h1 (by omega)), h (k + t) (by omega) (by omega)]
theorem sm_upd {f g : Nat → Int} {k to : Nat} {d : Int} (hn : ∀ j, j ≠ to → g j = f j) (ht : g to = f to + d) : ∀ {t}, k ≤ to → to < k + t → sm g k t = sm f k t + d
  | 0, h1, h2 => absurd h2 (by omega)
  | t + 1, h1, h2 => by
    show sm g k t + g (k + t) = sm f k t + f (k + t) + d
    by_cases e : to = k + t
    · rw [sm_congr (f := f) (fun j h3 h4 => hn j (by omega)), ← e, ht]; omega
    · rw [sm_upd hn ht h1 (by omega), hn (k + t) (by omega)]; omega
theorem sm_nn {f : Nat → Int} {k : Nat} : ∀ {t}, (∀ j, k ≤ j → j < k + t → 0 ≤ f j) → 0 ≤ sm f k t
  | 0, _ => Int.le_refl _
  | t + 1, h => by
    show 0 ≤ sm f k t + f (k + t)
    have h1 := sm_nn (f := f) (k := k) (t := t) (fun j a b => h j a (by omega))
    have h2 := h (k + t) (by omega) (by omega)
    omega
theorem mul_bd2 {a b A B : Int} (h1 : 0 ≤ a) (h2 : a ≤ A) (h3 : 0 ≤ b) (h4 : b ≤ B) : 0 ≤ a * b ∧ a * b ≤ A * B := mul_bd h1 h2 h3 h4
theorem rfI_bd (D : MDB h x) {u : Int} (hu : 0 ≤ u ∧ u ≤ 50) {r : Nat} (hr : r < nR h x) {S : St} (hS : 0 ≤ S 15 r ∧ S 15 r ≤ 200) : 0 ≤ u * (eI h (x + 23 + 21) r).toInt ∧ u * (eI h (x + 23 + 21) r).toInt ≤ 2500 ∧ -200 ≤ rfI h x u r S ∧ rfI h x u r S ≤ u * (eI h (x + 23 + 21) r).toInt ∧ 0 ≤ S 15 r + rfI h x u r S ∧ S 15 r + rfI h x u r S ≤ 200 ∧ rfI h x u r S ≤ 2500 := by
  obtain ⟨-, -, a1, a2, -, -⟩ := D.2.2.2.1 r hr
  have m := mul_bd hu.1 hu.2 (Int.le_trans (by decide) a1.1) a1.2
  have b1 := a2.1
  have b2 := a2.2
  unfold rfI
  generalize u * (eI h (x + 23 + 21) r).toInt = f at m ⊢
  generalize (eI h (x + 23 + 22) r).toInt = b at b1 b2 ⊢
  omega
/-- what holds after some roofs -/
def rfP (S : St) (nr : Nat) (q : Nat) (p : St × Int) : Prop := (∀ a j, a ≠ 15 → a ≠ 508 → p.1 a j = S a j) ∧ (∀ r, r < nr → 0 ≤ p.1 15 r ∧ p.1 15 r ≤ 200) ∧ S 508 0 ≤ p.1 508 0 ∧ p.1 508 0 ≤ S 508 0 + 2500 * (q : Int) ∧ 0 ≤ p.2 ∧ p.2 ≤ 2700 * (q : Int)
theorem rfP_step (D : MDB h x) {u : Int} (hu : 0 ≤ u ∧ u ≤ 50) {r : Nat} (hr : r < nR h x) {S : St} {q : Nat} {p : St × Int} (P : rfP S (nR h x) q p) : rfP S (nR h x) (q + 1) (rfN h x u r p) := by
  obtain ⟨p1, p2, p3, p4, p5, p6⟩ := P
  obtain ⟨b1, b2, b3, b4, b5, b6, b7⟩ := rfI_bd D hu hr (p2 r hr)
  unfold rfN
  refine ⟨fun a j h1 h2 => ?_, fun r' hr' => ?_, ?_, ?_, ?_, ?_⟩
  · show up2 (up2 p.1 508 0 _) 15 r _ a j = S a j
    rw [up2_ne (Or.inl h1), up2_ne (Or.inl h2)]; exact p1 a j h1 h2
  · show 0 ≤ up2 (up2 p.1 508 0 _) 15 r _ 15 r' ∧ up2 (up2 p.1 508 0 _) 15 r _ 15 r' ≤ 200
    by_cases e : r' = r
    · subst e; rw [up2_at]; exact ⟨b5, b6⟩
    · rw [up2_ne (Or.inr e), up2_ne (Or.inl (by decide))]; exact p2 r' hr'
  · show S 508 0 ≤ up2 (up2 p.1 508 0 (p.1 508 0 + u * (eI h (x + 23 + 21) r).toInt)) 15 r (p.1 15 r + rfI h x u r p.1) 508 0
    rw [up2_ne (Or.inl (by decide)), up2_at]; omega
  · show up2 (up2 p.1 508 0 (p.1 508 0 + u * (eI h (x + 23 + 21) r).toInt)) 15 r (p.1 15 r + rfI h x u r p.1) 508 0 ≤ _
    rw [up2_ne (Or.inl (by decide)), up2_at]; push_cast; omega
  · show 0 ≤ p.2 + _; omega
  · show p.2 + _ ≤ _; push_cast; omega
theorem rfP_weak {S : St} {nr q : Nat} {p : St × Int} (P : rfP S nr q p) : rfP S nr (q + 1) p := by
  obtain ⟨p1, p2, p3, p4, p5, p6⟩ := P
  exact ⟨p1, p2, p3, by push_cast; omega, p5, by push_cast; omega⟩
theorem rfA_bd (D : MDB h x) {u : Int} (hu : 0 ≤ u ∧ u ≤ 50) {i : Nat} {S : St} (hS : ∀ r, r < nR h x → 0 ≤ S 15 r ∧ S 15 r ≤ 200) : ∀ m, m ≤ nR h x → rfP S (nR h x) m (itr (rfF h x u i) 0 m (S, 0)) := by
  intro m hm
  have := itr_inv (f := rfF h x u i) (P := fun r p => rfP S (nR h x) r p) (t := m) (i := 0) (v := (S, 0)) (fun r p _ hr P => ?_) ⟨fun _ _ _ _ => rfl, hS, Int.le_refl _, by simp, Int.le_refl _, by simp⟩
  · rw [Nat.zero_add] at this; exact this
  · unfold rfF
    by_cases c : eI h (x + 23 + 19) r = nI i
    · rw [if_pos c]; exact rfP_step D hu (by omega) P
    · rw [if_neg c]; exact rfP_weak P
/-- what holds all through a storm, N corners and m minutes on -/
def Iv (h : Hp) (x : Nat) (s : Int32) (N m : Nat) (S : St) : Prop := (∀ j, j < nC h x → (0 ≤ S 14 j ∧ S 14 j ≤ tkC h x s j) ∧ (0 ≤ S 16 j ∧ S 16 j ≤ 1032000 * (N : Int)) ∧ (0 ≤ S 17 j ∧ S 17 j ≤ (N : Int)) ∧ 0 ≤ S 18 j ∧ S 18 j ≤ 1032000) ∧ (∀ r, r < nR h x → 0 ≤ S 15 r ∧ S 15 r ≤ 200) ∧ (0 ≤ S 508 0 ∧ S 508 0 ≤ 1032000 * (N : Int)) ∧ (0 ≤ S 509 0 ∧ S 509 0 ≤ 1032000 * (N : Int)) ∧ (0 ≤ S 510 0 ∧ S 510 0 ≤ 1032000 * (N : Int)) ∧ (0 ≤ S 511 0 ∧ S 511 0 ≤ 1032000 * (m : Int)) ∧ (0 ≤ S 512 0 ∧ S 512 0 ≤ (N : Int)) ∧ 0 ≤ S 513 0 ∧ S 513 0 ≤ 1032000
/-- .. and within a minute, before the corner k -/
def Ip (nc k : Nat) (S : St) : Prop := (∀ j, j ≤ nc → 0 ≤ S 19 j ∧ 0 ≤ S 20 j) ∧ sm (fun j => S 19 j + S 20 j) k (nc + 1 - k) ≤ 86000 * (k : Int)
theorem tkC_bd (D : MDB h x) (s : Int32) {i : Nat} (hi : i < nC h x) : 0 ≤ tkC h x s i ∧ tkC h x s i ≤ 500 := by
  have hb := (D.2.2.1 i (by have := D.1.1; omega)).1.2.1
  unfold tkC
  by_cases c : newS s i = true
  · rw [if_pos c]; decide
  · rw [if_neg c]; exact ⟨hb.1, hb.2⟩
theorem drk_bd (D : MDB h x) {i : Nat} (hi : i < nC h x) : bd (V_X3_drink h (x + 23) (nI i)) 0 100 := by
  obtain ⟨w1, -, -, -, -, w6, -⟩ := (D.2.2.1 i (by have := D.1.1; omega)).1
  have hl := bd_nI (hi := 9) w1
  have hd := D.2.2.2.2.1 (ix (eI h (x + 23 + 9) i)) (by omega)
  have e3 : ix (nI i) = i := ix_nI (by have := D.1.1; omega)
  unfold V_X3_drink
  rw [e3]
  have s1 : ((100 : Int32) - eI h (x + 23 + 12) i).toInt = 100 - (eI h (x + 23 + 12) i).toInt := by
    rw [i32_sub (by rw [toI_100]; have := w6.1; have := w6.2; omega) (by rw [toI_100]; have := w6.1; have := w6.2; omega), toI_100]
  have hb : bd (100 - eI h (x + 23 + 12) i) 0 100 := ⟨by rw [s1]; have := w6.2; omega, by rw [s1]; have := w6.1; omega⟩
  have hd' : bd (eI h (x + 23 + 25) (ix (eI h (x + 23 + 9) i))) 0 100 := ⟨by have := hd.1; omega, hd.2⟩
  obtain ⟨m1, m2, m3⟩ := i32m hd' hb (by decide)
  unfold bd
  rw [i32_div (by rw [m1]; exact m2) (by rw [toI_100]; decide), m1, toI_100]
  omega
theorem tkD_bd (D : MDB h x) (s : Int32) {i : Nat} (hi : i < nC h x) : 0 ≤ tkD h x s i ∧ tkD h x s i ≤ 100 := by
  unfold tkD
  by_cases c : newS s i = true
  · rw [if_pos c]
    have := D.2.2.2.2.1 0 (by decide)
    exact ⟨by have := this.1; omega, this.2⟩
  · rw [if_neg c]
    exact drk_bd D hi
/-- the numbers of a corner's step, in bounds -/
theorem stc_bd (D : MDB h x) {u : Int} (hu : 0 ≤ u ∧ u ≤ 50) {s : Int32} {k N m : Nat} (hk : k < nC h x) {S : St} (I : Iv h x s N m S) (P : Ip (nC h x) k S) :
    rfP S (nR h x) (nR h x) (rfA h x u k S) ∧ (0 ≤ u * (eI h (x + 23 + 1) k).toInt ∧ u * (eI h (x + 23 + 1) k).toInt ≤ 5000) ∧ (0 ≤ cmS h x u k S ∧ cmS h x u k S ≤ S 20 k + 86000) ∧ (0 ≤ tkL h x s k (cmS h x u k S) ∧ tkL h x s k (cmS h x u k S) ≤ cmS h x u k S) ∧ (0 ≤ tkI h x s k (s2S h x u k S) (cmS h x u k S) ∧ tkI h x s k (s2S h x u k S) (cmS h x u k S) ≤ cmS h x u k S ∧ S 14 k + tkI h x s k (s2S h x u k S) (cmS h x u k S) ≤ tkC h x s k) ∧
    (0 ≤ tkV h x s k (s2S h x u k S) (cmS h x u k S) ∧ tkV h x s k (s2S h x u k S) (cmS h x u k S) ≤ 100 ∧ tkV h x s k (s2S h x u k S) (cmS h x u k S) ≤ S 14 k + tkI h x s k (s2S h x u k S) (cmS h x u k S)) ∧ (0 ≤ ppS h x u s k S ∧ ppS h x u s k S ≤ S 19 k + S 20 k + 86000 ∧ ppS h x u s k S ≤ 1032000) ∧ (0 ≤ bbS h x u s k S ∧ bbS h x u s k S ≤ ppS h x u s k S) ∧ (0 ≤ onS h x u s k S ∧ onS h x u s k S ≤ bbS h x u s k S) ∧ (k < toS h x k ∧ toS h x k ≤ nC h x) ∧ (S 19 k + S 20 k ≤ 86000 * (k : Int)) ∧ (s2S h x u k S) 14 k = S 14 k := by
  have hn := D.1.1
  have R := rfA_bd D hu (i := k) I.2.1 (nR h x) (Nat.le_refl _)
  have hv := D.2.1 k hk
  obtain ⟨v1, v2, v3, v4, v5⟩ := hv
  have am := mul_bd hu.1 hu.2 (Int.le_trans (by decide) v1.1) v1.2
  have hr30 := D.1.2.1
  have e14 : (s2S h x u k S) 14 k = S 14 k := by
    unfold s2S
    rw [up2_ne (Or.inl (by decide))]
    exact R.1 14 k (by decide) (by decide)
  have cm : 0 ≤ cmS h x u k S ∧ cmS h x u k S ≤ S 20 k + 86000 := by
    have r5 := R.2.2.2.2.1
    have r6 := R.2.2.2.2.2
    have p20 := (P.1 k (by omega)).2
    unfold cmS
    have : (nR h x : Int) ≤ 30 := by exact_mod_cast hr30
    change 0 ≤ (rfA h x u k S).2 at r5
    change (rfA h x u k S).2 ≤ _ at r6
    generalize (rfA h x u k S).2 = v at r5 r6 ⊢
    generalize u * (eI h (x + 23 + 1) k).toInt = f at am ⊢
    omega
  have lv := (D.2.2.1 k (by omega)).1.2.2.2.2.2.2.1
  have tl : 0 ≤ tkL h x s k (cmS h x u k S) ∧ tkL h x s k (cmS h x u k S) ≤ cmS h x u k S := by
    unfold tkL
    by_cases c : newS s k = true
    · rw [if_pos c]; exact ⟨cm.1, Int.le_refl _⟩
    · rw [if_neg c]
      have g1 := lv.1
      have g2 := lv.2
      have m0 := cm.1
      generalize cmS h x u k S = c0 at m0 ⊢
      generalize (eI h (x + 23 + 13) k).toInt = l at g1 g2 ⊢
      have h1 : 0 ≤ c0 * (10 - l) := Int.mul_nonneg m0 (by omega)
      have h2 : c0 * (10 - l) ≤ c0 * 10 := Int.mul_le_mul_of_nonneg_left (by omega) m0
      omega
  have cc := tkC_bd D s hk
  have dd := tkD_bd D s hk
  have i14 := (I.1 k hk).1
  have ti : 0 ≤ tkI h x s k (s2S h x u k S) (cmS h x u k S) ∧ tkI h x s k (s2S h x u k S) (cmS h x u k S) ≤ cmS h x u k S ∧ S 14 k + tkI h x s k (s2S h x u k S) (cmS h x u k S) ≤ tkC h x s k := by
    unfold tkI
    rw [e14]
    by_cases c : tkH h x s k = true
    · rw [if_pos c]; omega
    · rw [if_neg c]; omega
  have tv : 0 ≤ tkV h x s k (s2S h x u k S) (cmS h x u k S) ∧ tkV h x s k (s2S h x u k S) (cmS h x u k S) ≤ 100 ∧ tkV h x s k (s2S h x u k S) (cmS h x u k S) ≤ S 14 k + tkI h x s k (s2S h x u k S) (cmS h x u k S) := by
    unfold tkV
    rw [e14]
    omega
  have p19 := P.1 k (by omega)
  have ps : S 19 k + S 20 k ≤ 86000 * (k : Int) := by
    have h1 := P.2
    rw [show nC h x + 1 - k = (nC h x - k) + 1 by omega, sm_head] at h1
    have h2 := sm_nn (f := fun j => S 19 j + S 20 j) (k := k + 1) (t := nC h x - k) (fun j a b => by have := P.1 j (by omega); omega)
    omega
  have pp : 0 ≤ ppS h x u s k S ∧ ppS h x u s k S ≤ S 19 k + S 20 k + 86000 ∧ ppS h x u s k S ≤ 1032000 := by
    unfold ppS
    have : (k : Int) ≤ 11 := by omega
    omega
  have bb : 0 ≤ bbS h x u s k S ∧ bbS h x u s k S ≤ ppS h x u s k S := by
    have := v2.1
    unfold bbS
    omega
  have on : 0 ≤ onS h x u s k S ∧ onS h x u s k S ≤ bbS h x u s k S := by
    unfold onS
    by_cases c : eI h (x + 23 + 5) k = -1
    · rw [if_pos c]; exact ⟨Int.le_refl _, bb.1⟩
    · rw [if_neg c]; omega
  have tt : k < toS h x k ∧ toS h x k ≤ nC h x := by
    unfold toS
    rcases v5 with c | ⟨c1, c2⟩
    · rw [if_pos c]; omega
    · rw [if_neg (fun e => by rw [e, toI_m1] at c1; omega)]
      have := ix_toInt (x := eI h (x + 23 + 5) k) (by omega)
      omega
  exact ⟨R, am, cm, tl, ti, tv, pp, bb, on, tt, ps, e14⟩
theorem s3S_o {u : Int} {s : Int32} {k : Nat} {S : St} (R : rfP S (nR h x) (nR h x) (rfA h x u k S)) {a j : Nat} (h1 : a ≠ 15) (h2 : a ≠ 508) (h3 : a ≠ 14) (h4 : a ≠ 509) : s3S h x u s k S a j = S a j := by
  have e : s2S h x u k S a j = S a j := by
    unfold s2S
    rw [up2_ne (Or.inl h2)]
    exact R.1 a j h1 h2
  unfold s3S tkS
  by_cases c : tkH h x s k = true
  · rw [if_pos c, up2_ne (Or.inl h4), up2_ne (Or.inl h3)]; exact e
  · rw [if_neg c]; exact e
/-- each row after a corner's step -/
theorem stc_at {u : Int} {s : Int32} {k : Nat} {S : St} (R : rfP S (nR h x) (nR h x) (rfA h x u k S)) (a j : Nat) : stc h x u s k S a j =
    if a = 17 ∧ j = k then (if 0 < (eI h (x + 23 + 4) k).toInt ∧ (eI h (x + 23 + 4) k).toInt < bbS h x u s k S then S 17 k + 1 else S 17 k) else
    if a = 512 ∧ j = 0 then (if 0 < (eI h (x + 23 + 4) k).toInt ∧ (eI h (x + 23 + 4) k).toInt < bbS h x u s k S then S 512 0 + 1 else S 512 0) else
    if a = 18 ∧ j = k then max (S 18 k) (ppS h x u s k S - bbS h x u s k S) else
    if a = 510 ∧ j = 0 then S 510 0 + (bbS h x u s k S - onS h x u s k S) else
    if a = 16 ∧ j = k then S 16 k + (bbS h x u s k S - onS h x u s k S) else
    if a = 20 ∧ j = toS h x k then S 20 (toS h x k) + onS h x u s k S else
    if a = 19 ∧ j = toS h x k then S 19 (toS h x k) + (ppS h x u s k S - bbS h x u s k S) else s3S h x u s k S a j := by
  have o17 : s3S h x u s k S 17 k = S 17 k := s3S_o R (by decide) (by decide) (by decide) (by decide)
  have o512 : s3S h x u s k S 512 0 = S 512 0 := s3S_o R (by decide) (by decide) (by decide) (by decide)
  unfold stc s8S s5S
  by_cases c : 0 < (eI h (x + 23 + 4) k).toInt ∧ (eI h (x + 23 + 4) k).toInt < bbS h x u s k S
  · simp only [if_pos c]
    unfold up2
    by_cases c1 : a = 17 ∧ j = k
    · obtain ⟨rfl, rfl⟩ := c1; simp
    · by_cases c2 : a = 512 ∧ j = 0
      · obtain ⟨rfl, rfl⟩ := c2; simp
      · simp only [if_neg c1, if_neg c2]
  · simp only [if_neg c]
    unfold up2
    by_cases c1 : a = 17 ∧ j = k
    · obtain ⟨rfl, rfl⟩ := c1; simp [o17]
    · by_cases c2 : a = 512 ∧ j = 0
      · obtain ⟨rfl, rfl⟩ := c2; simp [o512]
      · simp only [if_neg c1, if_neg c2]
theorem stc_inv (D : MDB h x) {u : Int} (hu : 0 ≤ u ∧ u ≤ 50) {s : Int32} {k N m : Nat} (hk : k < nC h x) {S : St} (I : Iv h x s N m S) (P : Ip (nC h x) k S) : Iv h x s (N + 1) m (stc h x u s k S) ∧ Ip (nC h x) (k + 1) (stc h x u s k S) := by
  obtain ⟨R, am, cm, tl, ti, tv, pp, bb, on, tt, ps, e14⟩ := stc_bd D hu hk I P
  have AT := stc_at (s := s) R
  have hr30 : (nR h x : Int) ≤ 30 := by exact_mod_cast D.1.2.1
  have e15 : ∀ r, s3S h x u s k S 15 r = (rfA h x u k S).1 15 r := fun r => by
    unfold s3S tkS s2S
    by_cases c : tkH h x s k = true
    · rw [if_pos c, up2_ne (Or.inl (by decide)), up2_ne (Or.inl (by decide)), up2_ne (Or.inl (by decide))]
    · rw [if_neg c, up2_ne (Or.inl (by decide))]
  have e14' : ∀ j, j < nC h x → 0 ≤ s3S h x u s k S 14 j ∧ s3S h x u s k S 14 j ≤ tkC h x s j := fun j hj => by
    have i14 := (I.1 j hj).1
    have ej : s2S h x u k S 14 j = S 14 j := by
      unfold s2S
      rw [up2_ne (Or.inl (by decide))]
      exact R.1 14 j (by decide) (by decide)
    unfold s3S tkS
    by_cases c : tkH h x s k = true
    · rw [if_pos c, up2_ne (Or.inl (by decide))]
      by_cases e : j = k
      · subst e
        rw [up2_at, e14]
        omega
      · rw [up2_ne (Or.inr e), ej]; exact i14
    · rw [if_neg c, ej]; exact i14
  have e508 : 0 ≤ s3S h x u s k S 508 0 ∧ s3S h x u s k S 508 0 ≤ S 508 0 + 80000 := by
    have h1 : s3S h x u s k S 508 0 = (rfA h x u k S).1 508 0 + u * (eI h (x + 23 + 1) k).toInt := by
      unfold s3S tkS s2S
      by_cases c : tkH h x s k = true
      · rw [if_pos c, up2_ne (Or.inl (by decide)), up2_ne (Or.inl (by decide)), up2_at]
      · rw [if_neg c, up2_at]
    have r3 := R.2.2.1
    have r4 := R.2.2.2.1
    have := I.2.2.1.1
    rw [h1]; omega
  have e509 : 0 ≤ s3S h x u s k S 509 0 ∧ s3S h x u s k S 509 0 ≤ S 509 0 + 100 := by
    have ej : s2S h x u k S 509 0 = S 509 0 := by
      unfold s2S
      rw [up2_ne (Or.inl (by decide))]
      exact R.1 509 0 (by decide) (by decide)
    have := I.2.2.2.1.1
    unfold s3S tkS
    by_cases c : tkH h x s k = true
    · rw [if_pos c, up2_at, ej]; omega
    · rw [if_neg c, ej]; omega
  have o : ∀ a j, a ≠ 15 → a ≠ 508 → a ≠ 14 → a ≠ 509 → s3S h x u s k S a j = S a j := fun a j => s3S_o R
  refine ⟨⟨fun j hj => ?_, fun r hr => ?_, ?_, ?_, ?_, ?_, ?_, ?_⟩, fun j hj => ?_, ?_⟩
  · obtain ⟨i1, i2, i3, i4⟩ := I.1 j hj
    refine ⟨?_, ?_, ?_, ?_⟩
    · rw [AT]; simp; exact e14' j hj
    · rw [AT]
      by_cases e : j = k
      · subst e; simp; omega
      · simp [e, o 16 j]; omega
    · rw [AT]
      by_cases e : j = k
      · subst e
        simp
        split <;> omega
      · simp [e, o 17 j]; omega
    · rw [AT]
      by_cases e : j = k
      · subst e; simp; omega
      · simp [e, o 18 j]; omega
  · rw [AT]; simp [e15]; exact R.2.1 r hr
  · have := I.2.2.1; rw [AT]; simp; omega
  · have := I.2.2.2.1; rw [AT]; simp; omega
  · have := I.2.2.2.2.1; rw [AT]; simp; omega
  · have := I.2.2.2.2.2.1; rw [AT]; simp [o 511 0]; omega
  · have := I.2.2.2.2.2.2.1; rw [AT]; simp; split <;> omega
  · have := I.2.2.2.2.2.2.2; rw [AT]; simp [o 513 0]; omega
  · have pj := P.1 j hj
    refine ⟨?_, ?_⟩
    · rw [AT]
      by_cases e : j = toS h x k
      · have := P.1 (toS h x k) tt.2
        simp [e]; omega
      · simp [e, o 19 j]; omega
    · rw [AT]
      by_cases e : j = toS h x k
      · have := P.1 (toS h x k) tt.2
        simp [e]; omega
      · simp [e, o 20 j]; omega
  · have h1 := P.2
    rw [show nC h x + 1 - k = (nC h x - k) + 1 by omega, sm_head] at h1
    have h2 : sm (fun j => stc h x u s k S 19 j + stc h x u s k S 20 j) (k + 1) (nC h x - k) = sm (fun j => S 19 j + S 20 j) (k + 1) (nC h x - k) + (ppS h x u s k S - bbS h x u s k S + onS h x u s k S) := by
      refine sm_upd (to := toS h x k) (fun j e => ?_) ?_ (by omega) (by omega)
      · show stc h x u s k S 19 j + stc h x u s k S 20 j = _
        rw [AT, AT]; simp [e, o 19 j, o 20 j]
      · show stc h x u s k S 19 (toS h x k) + stc h x u s k S 20 (toS h x k) = _
        rw [AT, AT]; simp; omega
    rw [show nC h x + 1 - (k + 1) = nC h x - k by omega, h2]
    push_cast
    omega
/-- a whole minute keeps the bounds -/
theorem Iv_zr {s : Int32} {N m : Nat} {S : St} (I : Iv h x s N m S) : Iv h x s N m (zrS S) := I
theorem sm_zero (k : Nat) : ∀ t, sm (fun _ => 0) k t = 0
  | 0 => rfl
  | t + 1 => by show sm (fun _ => 0) k t + 0 = 0; rw [sm_zero k t]; rfl
theorem Ip_zr {nc : Nat} {S : St} : Ip nc 0 (zrS S) := by
  refine ⟨fun j _ => ⟨Int.le_refl _, Int.le_refl _⟩, ?_⟩
  have : (fun j => zrS S 19 j + zrS S 20 j) = fun _ => 0 := rfl
  rw [this, sm_zero]; decide
theorem mnT_inv (D : MDB h x) {u : Int} (hu : 0 ≤ u ∧ u ≤ 50) {s : Int32} {N m : Nat} {S : St} (I : Iv h x s N m S) : ∀ k, k ≤ nC h x → Iv h x s (N + k) m (itr (stc h x u s) 0 k (zrS S)) ∧ Ip (nC h x) k (itr (stc h x u s) 0 k (zrS S)) := by
  intro k hk
  have := itr_inv (f := stc h x u s) (P := fun k S => Iv h x s (N + k) m S ∧ Ip (nC h x) k S) (t := k) (i := 0) (v := zrS S) (fun j w _ hj hw => ?_) ⟨Iv_zr I, Ip_zr⟩
  · rw [Nat.zero_add] at this; exact this
  · exact stc_inv D hu (by omega) hw.1 hw.2
theorem mnS_inv (D : MDB h x) {u : Int} (hu : 0 ≤ u ∧ u ≤ 50) {s : Int32} {N m : Nat} {S : St} (I : Iv h x s N m S) : Iv h x s (N + nC h x) (m + 1) (mnS h x u s S) ∧ (0 ≤ mnT h x u s S 19 (nC h x) ∧ mnT h x u s S 19 (nC h x) ≤ 1032000) := by
  obtain ⟨J, P⟩ := mnT_inv D hu I (nC h x) (Nat.le_refl _)
  have hn := D.1.1
  have p := P.1 (nC h x) (Nat.le_refl _)
  have q := P.2
  rw [show nC h x + 1 - nC h x = 1 by omega] at q
  have q2 : mnT h x u s S 19 (nC h x) + mnT h x u s S 20 (nC h x) ≤ 86000 * (nC h x : Int) := by
    have q1 : sm (fun j => itr (stc h x u s) 0 (nC h x) (zrS S) 19 j + itr (stc h x u s) 0 (nC h x) (zrS S) 20 j) (nC h x) 1 = 0 + (mnT h x u s S 19 (nC h x) + mnT h x u s S 20 (nC h x)) := rfl
    rw [q1] at q; omega
  have b : 0 ≤ mnT h x u s S 19 (nC h x) ∧ mnT h x u s S 19 (nC h x) ≤ 1032000 := by
    have p1 : 0 ≤ mnT h x u s S 19 (nC h x) := p.1
    have p2 : 0 ≤ mnT h x u s S 20 (nC h x) := p.2
    omega
  refine ⟨?_, b⟩
  have J : Iv h x s (N + nC h x) m (mnT h x u s S) := J
  have ne : ∀ a j, a ≠ 511 → a ≠ 513 → mnS h x u s S a j = mnT h x u s S a j := fun a j h1 h2 => by
    unfold mnS; rw [up2_ne (Or.inl h2), up2_ne (Or.inl h1)]
  have e511 : mnS h x u s S 511 0 = mnT h x u s S 511 0 + mnT h x u s S 19 (nC h x) := by
    unfold mnS; rw [up2_ne (Or.inl (by decide)), up2_at]
  have e513 : mnS h x u s S 513 0 = max (mnT h x u s S 513 0) (mnT h x u s S 19 (nC h x)) := by
    unfold mnS; rw [up2_at]
  obtain ⟨j1, j2, j3, j4, j5, j6, j7, j8⟩ := J
  refine ⟨fun j hj => ?_, fun r hr => ?_, ?_, ?_, ?_, ?_, ?_, ?_⟩
  · rw [ne 14 j (by decide) (by decide), ne 16 j (by decide) (by decide), ne 17 j (by decide) (by decide), ne 18 j (by decide) (by decide)]; exact j1 j hj
  · rw [ne 15 r (by decide) (by decide)]; exact j2 r hr
  · rw [ne 508 0 (by decide) (by decide)]; exact j3
  · rw [ne 509 0 (by decide) (by decide)]; exact j4
  · rw [ne 510 0 (by decide) (by decide)]; exact j5
  · rw [e511]; push_cast; omega
  · rw [ne 512 0 (by decide) (by decide)]; exact j7
  · rw [e513]; omega
theorem i0S_inv (D : MDB h x) (s : Int32) : Iv h x s 0 0 (i0S h x) := by
  have e : ∀ a j, a ≠ 15 → i0S h x a j = 0 := fun a j hne => if_neg hne
  have e15 : ∀ j, i0S h x 15 j = (eI h (x + 23 + 23) j).toInt := fun j => if_pos rfl
  refine ⟨fun j hj => ?_, fun r hr => ?_, ?_, ?_, ?_, ?_, ?_, ?_⟩
  · have := (tkC_bd D s hj).1
    rw [e 14 j (by decide), e 16 j (by decide), e 17 j (by decide), e 18 j (by decide)]
    exact ⟨⟨Int.le_refl _, this⟩, ⟨Int.le_refl _, by decide⟩, ⟨Int.le_refl _, by decide⟩, Int.le_refl _, by decide⟩
  · have := (D.2.2.2.1 r hr).2.2.2.2.1
    rw [e15]
    exact ⟨this.1, this.2⟩
  all_goals (rw [e _ _ (by decide)]; exact ⟨by decide, by decide⟩)
/-- m minutes on -/
def rnM (h : Hp) (x : Nat) (s : Int32) (m : Nat) : St := itr (fun m S => mnS h x (eI h (x + 23 + 26) m).toInt s S) 0 m (i0S h x)
theorem rnM_inv (D : MDB h x) (s : Int32) : ∀ m, m ≤ 30 → Iv h x s (m * nC h x) m (rnM h x s m) := by
  intro m hm
  induction m with
  | zero => rw [Nat.zero_mul]; exact i0S_inv D s
  | succ m ih =>
    have ih := ih (by omega)
    have hr := D.2.2.2.2.2 m (by omega)
    have := (mnS_inv D (u := (eI h (x + 23 + 26) m).toInt) ⟨hr.1, hr.2⟩ ih).1
    rw [show (m + 1) * nC h x = m * nC h x + nC h x by rw [Nat.succ_mul]]
    have e : rnM h x s (m + 1) = mnS h x (eI h (x + 23 + 26) m).toInt s (rnM h x s m) := by
      unfold rnM; rw [itr_succ, Nat.zero_add]
    rw [e]; exact this
end
