/-! storm: the reference's half -/
set_option maxRecDepth 100000
section
variable {h h' h2 : Hp} {x : Nat} {E : Nat → Hp → Prop} {k n : Nat} {Q : Int32 → Hp → Prop}
theorem ite_lt1 {α : Type} {i j : Nat} {a b : α} (c : j ≠ i) : (if j < i + 1 then a else b) = if j < i then a else b := by
  by_cases e : j < i
  · rw [if_pos e, if_pos (by omega)]
  · rw [if_neg e, if_neg (by omega)]
/-- without a bed, nothing is held -/
theorem rf_14 {u : Int} {i j : Nat} {S : St} : (rfA h x u i S).1 14 j = S 14 j := by
  unfold rfA
  refine itr_inv (f := rfF h x u i) (P := fun _ (p : St × Int) => p.1 14 j = S 14 j) (t := nR h x) (i := 0) (v := (S, 0)) (fun r p _ _ hp => ?_) rfl
  unfold rfF
  by_cases c : eI h (x + 23 + 19) r = nI i
  · rw [if_pos c]
    unfold rfN
    show up2 (up2 p.1 508 0 (p.1 508 0 + u * (eI h (x + 23 + 21) r).toInt)) 15 r (p.1 15 r + rfI h x u r p.1) 14 j = _
    rw [up2_ne (Or.inl (by decide)), up2_ne (Or.inl (by decide))]; exact hp
  · rw [if_neg c]; exact hp
theorem s3_14 {u : Int} {s : Int32} {i j : Nat} {S : St} (hb : tkH h x s j = false) : s3S h x u s i S 14 j = S 14 j := by
  have e2 : s2S h x u i S 14 j = S 14 j := by unfold s2S; rw [up2_ne (Or.inl (by decide))]; exact rf_14
  unfold s3S tkS
  by_cases c : tkH h x s i = true
  · have hne : j ≠ i := fun e => by rw [e, c] at hb; exact absurd hb (by decide)
    rw [if_pos c, up2_ne (Or.inl (by decide)), up2_ne (Or.inr hne)]; exact e2
  · rw [if_neg c]; exact e2
theorem st_14 {u : Int} {s : Int32} {i j : Nat} {S : St} (hb : tkH h x s j = false) : stc h x u s i S 14 j = S 14 j := by
  have e5 : s8S h x u s i S 14 j = S 14 j := by
    unfold s8S s5S
    rw [up2_ne (Or.inl (by decide)), up2_ne (Or.inl (by decide)), up2_ne (Or.inl (by decide)), up2_ne (Or.inl (by decide)), up2_ne (Or.inl (by decide))]
    exact s3_14 hb
  unfold stc
  by_cases c : 0 < (eI h (x + 23 + 4) i).toInt ∧ (eI h (x + 23 + 4) i).toInt < bbS h x u s i S
  · rw [if_pos c, up2_ne (Or.inl (by decide)), up2_ne (Or.inl (by decide))]; exact e5
  · rw [if_neg c]; exact e5
theorem rn_14 {s : Int32} {j : Nat} (hb : tkH h x s j = false) : rnS h x s 14 j = 0 := by
  unfold rnS
  refine itr_inv (f := fun m S => mnS h x (eI h (x + 23 + 26) m).toInt s S) (P := fun _ (S : St) => S 14 j = 0) (t := ix (gI h 1003 (x + 23))) (i := 0) (v := i0S h x) (fun m S _ _ hS => ?_) (by unfold i0S; rfl)
  show mnS h x (eI h (x + 23 + 26) m).toInt s S 14 j = 0
  unfold mnS
  rw [up2_ne (Or.inl (by decide)), up2_ne (Or.inl (by decide))]
  unfold mnT
  refine itr_inv (f := stc h x (eI h (x + 23 + 26) m).toInt s) (P := fun _ (S : St) => S 14 j = 0) (t := nC h x) (i := 0) (v := zrS S) (fun i S _ _ hS => ?_) ?_
  · show stc h x (eI h (x + 23 + 26) m).toInt s i S 14 j = 0
    rw [st_14 hb]; exact hS
  · show (if (14 = 19 ∨ 14 = 20) then 0 else S 14 j) = 0
    rw [if_neg (by decide)]; exact hS
/-- the reference writes what the run found -/
def MSt (h2 g : Hp) (x i r : Nat) : Prop :=
  (nx g = nx h2 ∧ kd g = kd h2 ∧ ln g = ln h2 ∧ gR g = gR h2 ∧ eR g = eR h2 ∧ kc g = kc h2 ∧ gI g = gI h2 ∧ gJ g = gJ h2) ∧
  (∀ a, a ≠ (x + 23 + 23) → a ≠ (x + 23 + 15) → a ≠ (x + 23 + 43) → eI g a = eI h2 a) ∧ (∀ a, a ≠ (x + 23 + 39) → a ≠ (x + 23 + 40) → eJ g a = eJ h2 a) ∧
  (∀ j, eI g (x + 23 + 23) j = if j < r then eI h2 (x + 23 + 29) j else eI h2 (x + 23 + 23) j) ∧
  ∀ j, eI g (x + 23 + 15) j = (if j < i then eI h2 (x + 23 + 30) j else eI h2 (x + 23 + 15) j) ∧ eJ g (x + 23 + 39) j = (if j < i then eJ h2 (x + 23 + 33) j else eJ h2 (x + 23 + 39) j) ∧ eJ g (x + 23 + 40) j = (if j < i then eJ h2 (x + 23 + 34) j else eJ h2 (x + 23 + 40) j) ∧ eI g (x + 23 + 43) j = (if j < i then eI h2 (x + 23 + 35) j else eI h2 (x + 23 + 43) j)
theorem MSt.mw {g : Hp} {i r mo : Nat} (S : MSt h2 g x i r) (H : MW h2 mo) : MW g mo := ⟨by rw [S.1.2.1]; exact H.1, fun q hq => by rw [S.1.2.2.2.1, S.1.2.1, S.1.2.2.1]; exact H.2 q hq⟩
theorem ms_loops (hM : MW h2 (x + 23)) {nc nr : Nat} (ec : gI h2 1001 (x + 23) = nI nc) (er : gI h2 1002 (x + 23) = nI nr) (hc : nc ≤ 12) (hr : nr ≤ 30) (hq : ∀ g, MSt h2 g x nc nr → Rn M_X3_storm 46 [(0, rV (x + 23)), (1, iV (nI nc))] [] g k n (qI Q) E) : Rn M_X3_storm 18 [(0, rV (x + 23)), (1, iV 0)] [] h2 k n (qI Q) E := by
  have two : ∀ g, MSt h2 g x 0 nr → Rn M_X3_storm 46 [(0, rV (x + 23)), (1, iV (nI 0))] [] g k n (qI Q) E := by
    refine itr_loop (α := Unit) (inv := fun i _ => ∀ g, MSt h2 g x i nr → Rn M_X3_storm 46 [(0, rV (x + 23)), (1, iV (nI i))] [] g k n (qI Q) E) (f := fun _ u => u) (m := nc) (s := ()) (fun i _ hi ih g S => ?_) (fun g S => hq g S)
    have vi : vp_in (nI i) 12 := vin_nI (by omega) (by decide)
    refine b_X3_storm_46 (S.mw hM) ?_
    obtain ⟨a, b1, b2, b3, b4⟩ := S
    rw [a.2.2.2.2.2.2.1, ec, ix_nI (show i < 2 ^ 31 by omega)]
    refine ⟨fun c => ?_, fun _ => ⟨vi, vi, ?_⟩⟩
    · rw [nIle (by omega) (by omega)] at c; omega
    rintro _ rfl
    refine ⟨vi, vi, ?_⟩
    rintro _ rfl
    refine ⟨vi, vi, ?_⟩
    rintro _ rfl
    refine ⟨vi, vi, ?_⟩
    rintro _ rfl _ rfl
    rw [nI_add1]
    simp only [eI_sJ, eJ_sI]
    refine ih _ ⟨a, fun y h1 h2 h3 => ?_, fun y h1 h2 => ?_, fun j => ?_, fun j => ?_⟩
    · funext q
      simp only [eI_sJ, eI_sI]
      rw [if_neg (fun z => h3 z.1), if_neg (fun z => h2 z.1), b1 y h1 h2 h3]
    · funext q
      simp only [eJ_sJ, eJ_sI]
      rw [if_neg (fun z => h2 z.1), if_neg (fun z => h1 z.1), b2 y h1 h2]
    · simp only [eI_sJ, eI_sI]
      rw [if_neg (fun z => by omega), if_neg (fun z => by omega)]
      exact b3 j
    · obtain ⟨y1, y2, y3, y4⟩ := b4 j
      simp only [eI_sJ, eI_sI, eJ_sJ, eJ_sI]
      by_cases c : j = i
      · subst c
        refine ⟨?_, ?_, ?_, ?_⟩
        · rw [if_neg (fun z => by omega), if_pos ⟨trivial, rfl⟩, if_pos (by omega), b1 _ (by omega) (by omega) (by omega)]
        · rw [if_neg (fun z => by omega), if_pos ⟨trivial, rfl⟩, if_pos (by omega), b2 _ (by omega) (by omega)]
        · rw [if_pos ⟨trivial, rfl⟩, if_neg (fun z => by omega), if_pos (by omega), b2 _ (by omega) (by omega)]
        · rw [if_pos ⟨trivial, rfl⟩, if_neg (fun z => by omega), if_pos (by omega), b1 _ (by omega) (by omega) (by omega)]
      · refine ⟨?_, ?_, ?_, ?_⟩
        · rw [ite_lt1 c, ← y1, if_neg (fun z => c z.2), if_neg (fun z => c z.2)]
        · rw [ite_lt1 c, ← y2, if_neg (fun z => c z.2), if_neg (fun z => c z.2)]
        · rw [ite_lt1 c, ← y3, if_neg (fun z => c z.2), if_neg (fun z => c z.2)]
        · rw [ite_lt1 c, ← y4, if_neg (fun z => c z.2), if_neg (fun z => c z.2)]
  have one : ∀ g, MSt h2 g x 0 0 → Rn M_X3_storm 18 [(0, rV (x + 23)), (1, iV (nI 0))] [] g k n (qI Q) E := by
    refine itr_loop (α := Unit) (inv := fun i _ => ∀ g, MSt h2 g x 0 i → Rn M_X3_storm 18 [(0, rV (x + 23)), (1, iV (nI i))] [] g k n (qI Q) E) (f := fun _ u => u) (m := nr) (s := ()) (fun i _ hi ih g S => ?_) (fun g S => ?_)
    · have vi : vp_in (nI i) 30 := vin_nI (by omega) (by decide)
      refine b_X3_storm_18 (S.mw hM) ?_
      obtain ⟨a, b1, b2, b3, b4⟩ := S
      rw [a.2.2.2.2.2.2.1, er, ix_nI (show i < 2 ^ 31 by omega)]
      refine ⟨fun c => ?_, fun _ => ⟨vi, vi, ?_⟩⟩
      · rw [nIle (by omega) (by omega)] at c; omega
      rintro _ rfl _ rfl
      rw [nI_add1]
      refine ih _ ⟨a, fun y h1 h2 h3 => ?_, b2, fun j => ?_, fun j => ?_⟩
      · funext q
        rw [eI_sI, if_neg (fun z => h1 z.1), b1 y h1 h2 h3]
      · rw [eI_sI]
        by_cases c : j = i
        · subst c; rw [if_pos ⟨rfl, rfl⟩, if_pos (by omega), b1 _ (by omega) (by omega) (by omega)]
        · rw [if_neg (fun z => c z.2), ite_lt1 c]; exact b3 j
      · obtain ⟨y1, y2, y3, y4⟩ := b4 j
        exact ⟨(congrFun (eI_sI_ne (show x + 23 + 15 ≠ x + 23 + 23 by omega)) j).trans y1, y2, y3, (congrFun (eI_sI_ne (show x + 23 + 43 ≠ x + 23 + 23 by omega)) j).trans y4⟩
    · refine b_X3_storm_18 (S.mw hM) ?_
      rw [S.1.2.2.2.2.2.2.1, er, ← nI0]
      exact ⟨fun _ => two g S, fun c => absurd (Int32.le_refl _) c⟩
  have := one h2 ⟨⟨rfl, rfl, rfl, rfl, rfl, rfl, rfl, rfl⟩, fun _ _ _ _ => rfl, fun _ _ _ => rfl, fun j => by rw [if_neg (by omega)], fun j => by rw [if_neg (by omega), if_neg (by omega), if_neg (by omega), if_neg (by omega)]; exact ⟨rfl, rfl, rfl, rfl⟩⟩
  rw [nI0] at this
  exact this
end
