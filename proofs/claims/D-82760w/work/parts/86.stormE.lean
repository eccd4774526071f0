/-! storm: the pair -/
set_option maxRecDepth 100000
section
variable {h h' h2 g F : Hp} {x : Nat} {E : Nat → Hp → Prop} {k n : Nat} {Q : Int32 → Hp → Prop}
/-- the reference's record of the storm m -/
def MF (g F : Hp) (x m : Nat) : Prop :=
  SC3 g F x ∧ (∀ f a, ¬ (f = 1004 ∧ a = x + 23) → gI F f a = gI g f a) ∧ gI F 1004 (x + 23) = nI (m + 1) ∧
  (∀ f a, ¬ (a = x + 23 ∧ (f = 1035 ∨ f = 1036 ∨ f = 1037 ∨ f = 1038)) → gJ F f a = gJ g f a) ∧
  (gJ F 1035 (x + 23) = gJ g 1035 (x + 23) + gJ g 1047 (x + 23) ∧ gJ F 1036 (x + 23) = gJ g 1036 (x + 23) + gJ g 1048 (x + 23) ∧ gJ F 1037 (x + 23) = gJ g 1037 (x + 23) + gJ g 1049 (x + 23) ∧ gJ F 1038 (x + 23) = gJ g 1038 (x + 23) + gJ g 1050 (x + 23)) ∧
  (∀ a j, ¬ (j = m ∧ (a = (x + 23 + 41) ∨ a = (x + 23 + 42))) → eI F a j = eI g a j) ∧ (∀ a j, ¬ (j = m ∧ (a = (x + 23 + 36) ∨ a = (x + 23 + 37) ∨ a = (x + 23 + 38))) → eJ F a j = eJ g a j) ∧
  eI F (x + 23 + 41) m = gI g 1000 (x + 23) ∧ eI F (x + 23 + 42) m = gI g 1052 (x + 23) ∧ eJ F (x + 23 + 36) m = gJ g 1047 (x + 23) ∧ eJ F (x + 23 + 37) m = gJ g 1049 (x + 23) ∧ eJ F (x + 23 + 38) m = gJ g 1051 (x + 23)
theorem ms_end (hM : MW g (x + 23)) {m nc : Nat} (ec : gI g 1001 (x + 23) = nI nc) (es : gI g 1004 (x + 23) = nI m) (hm : m < 40) (hq : ∀ F, MF g F x m → Q (nI m) F) : Rn M_X3_storm 46 [(0, rV (x + 23)), (1, iV (nI nc))] [] g k n (qI Q) E := by
  refine b_X3_storm_46 hM ?_
  rw [ec]
  refine ⟨fun _ => ?_, fun c => absurd (Int32.le_refl _) c⟩
  have vm : vp_in (nI m) 40 := vin_nI hm (by decide)
  have em : ix (nI m) = m := ix_nI (by omega)
  intro h1 e1 h2 e2 h3 e3 h4 e4
  have t4 : gI h4 = gI g := by rw [e4, e3, e2, e1]; rfl
  have u1 : ∀ f a, f ≠ 1035 → gJ h1 f a = gJ g f a := fun f a z => by rw [e1, gJ_pJ, if_neg (fun y => z y.1)]
  have u2 : ∀ f a, f ≠ 1036 → gJ h2 f a = gJ h1 f a := fun f a z => by rw [e2, gJ_pJ, if_neg (fun y => z y.1)]
  have u3 : ∀ f a, f ≠ 1037 → gJ h3 f a = gJ h2 f a := fun f a z => by rw [e3, gJ_pJ, if_neg (fun y => z y.1)]
  have u4 : ∀ f a, f ≠ 1038 → gJ h4 f a = gJ h3 f a := fun f a z => by rw [e4, gJ_pJ, if_neg (fun y => z y.1)]
  have j4 : ∀ f a, ¬ (a = x + 23 ∧ (f = 1035 ∨ f = 1036 ∨ f = 1037 ∨ f = 1038)) → gJ h4 f a = gJ g f a := fun f a z => by
    rw [e4, gJ_pJ, if_neg (fun y => z ⟨y.2, by omega⟩), e3, gJ_pJ, if_neg (fun y => z ⟨y.2, by omega⟩), e2, gJ_pJ, if_neg (fun y => z ⟨y.2, by omega⟩), e1, gJ_pJ, if_neg (fun y => z ⟨y.2, by omega⟩)]
  have jj : gJ h4 1035 (x + 23) = gJ g 1035 (x + 23) + gJ g 1047 (x + 23) ∧ gJ h4 1036 (x + 23) = gJ g 1036 (x + 23) + gJ g 1048 (x + 23) ∧ gJ h4 1037 (x + 23) = gJ g 1037 (x + 23) + gJ g 1049 (x + 23) ∧ gJ h4 1038 (x + 23) = gJ g 1038 (x + 23) + gJ g 1050 (x + 23) := by
    refine ⟨?_, ?_, ?_, ?_⟩
    · rw [u4 _ _ (by decide), u3 _ _ (by decide), u2 _ _ (by decide), e1, gJ_pJ, if_pos ⟨rfl, rfl⟩]
    · rw [u4 _ _ (by decide), u3 _ _ (by decide), e2, gJ_pJ, if_pos ⟨rfl, rfl⟩, u1 _ _ (by decide), u1 _ _ (by decide)]
    · rw [u4 _ _ (by decide), e3, gJ_pJ, if_pos ⟨rfl, rfl⟩, u2 _ _ (by decide), u2 _ _ (by decide), u1 _ _ (by decide), u1 _ _ (by decide)]
    · rw [e4, gJ_pJ, if_pos ⟨rfl, rfl⟩, u3 _ _ (by decide), u3 _ _ (by decide), u2 _ _ (by decide), u2 _ _ (by decide), u1 _ _ (by decide), u1 _ _ (by decide)]
  have S4 : SC3 g h4 x := by rw [e4, e3, e2, e1]; exact ((((SC.refl g x).to3.vJ (by decide)).vJ (by decide)).vJ (by decide)).vJ (by decide)
  have x4 : eI h4 = eI g ∧ eJ h4 = eJ g := by rw [e4, e3, e2, e1]; exact ⟨rfl, rfl⟩
  clear e1 e2 e3 e4 u1 u2 u3 u4
  have g4s : gI h4 1004 (x + 23) = nI m := by rw [t4]; exact es
  rw [g4s, em]
  refine ⟨vm, ?_⟩
  intro h5 e5
  have g5 : gI h5 = gI g := by rw [e5, ← t4]; rfl
  have j5 : gJ h5 = gJ h4 := by rw [e5]; rfl
  rw [show gI h5 1004 (x + 23) = nI m by rw [g5]; exact es, em]
  refine ⟨vm, ?_⟩
  intro h6 e6
  have g6 : gI h6 = gI g := by rw [e6, ← g5]; rfl
  have j6 : gJ h6 = gJ h4 := by rw [e6, ← j5]; rfl
  rw [show gI h6 1004 (x + 23) = nI m by rw [g6]; exact es, em]
  refine ⟨vm, ?_⟩
  intro h7 e7
  have g7 : gI h7 = gI g := by rw [e7, ← g6]; rfl
  have j7 : gJ h7 = gJ h4 := by rw [e7, ← j6]; rfl
  rw [show gI h7 1004 (x + 23) = nI m by rw [g7]; exact es, em]
  refine ⟨vm, ?_⟩
  intro h8 e8
  have g8 : gI h8 = gI g := by rw [e8, ← g7]; rfl
  have j8 : gJ h8 = gJ h4 := by rw [e8, ← j7]; rfl
  rw [show gI h8 1004 (x + 23) = nI m by rw [g8]; exact es, em]
  refine ⟨vm, ?_⟩
  intro h9 e9
  have g9 : gI h9 = gI g := by rw [e9, ← g8]; rfl
  have j9 : gJ h9 = gJ h4 := by rw [e9, ← j8]; rfl
  rw [show gI h9 1004 (x + 23) = nI m by rw [g9]; exact es, nI_add1]
  intro F eF
  have gF : gI F 1004 (x + 23) = nI (m + 1) := by rw [eF, gI_pI, if_pos ⟨rfl, rfl⟩]
  have hm1 : nI (m + 1) - 1 = nI m := i32_ext (by rw [nI_m1 (by omega), nI_toInt (by omega)]; omega)
  rw [gF, hm1]
  have n47 : ∀ f, f ≠ 1035 → f ≠ 1036 → f ≠ 1037 → f ≠ 1038 → gJ h4 f (x + 23) = gJ g f (x + 23) := fun f _ _ _ _ => j4 f _ (fun z => by omega)
  refine hq F ⟨?_, fun f a z => ?_, gF, fun f a z => ?_, ?_, fun a j z => ?_, fun a j z => ?_, ?_, ?_, ?_, ?_, ?_⟩
  · rw [eF, e9, e8, e7, e6, e5]
    exact (((((S4.wI (by decide)).wJ (by decide)).wJ (by decide)).wI (by decide)).wJ (by decide)).vI (by decide)
  · rw [eF, gI_pI, if_neg z, g9]
  · rw [eF, gJ_pI, j9]; exact j4 f a z
  · rw [eF, gJ_pI, j9]; exact jj
  · rw [eF, e9, e8, e7, e6, e5]
    simp only [eI_pI, eI_sJ, eI_sI]
    rw [if_neg (fun y => z ⟨y.2, Or.inr y.1⟩), if_neg (fun y => z ⟨y.2, Or.inl y.1⟩), x4.1]
  · rw [eF, e9, e8, e7, e6, e5]
    simp only [eJ_pI, eJ_sJ, eJ_sI]
    rw [if_neg (fun y => z ⟨y.2, Or.inr (Or.inr y.1)⟩), if_neg (fun y => z ⟨y.2, Or.inr (Or.inl y.1)⟩), if_neg (fun y => z ⟨y.2, Or.inl y.1⟩), x4.2]
  · rw [eF, e9, e8, e7, e6, e5]
    simp only [eI_pI, eI_sJ, eI_sI]
    rw [if_neg (fun y => by omega), if_pos ⟨trivial, trivial⟩, t4]
  · rw [eF, e9, e8]
    simp only [eI_pI, eI_sJ, eI_sI]
    rw [if_pos ⟨trivial, trivial⟩, g7]
  · rw [eF, e9, e8, e7, e6]
    simp only [eJ_pI, eJ_sJ, eJ_sI]
    rw [if_neg (fun y => by omega), if_neg (fun y => by omega), if_pos ⟨trivial, trivial⟩, j5, n47 _ (by decide) (by decide) (by decide) (by decide)]
  · rw [eF, e9, e8, e7]
    simp only [eJ_pI, eJ_sJ, eJ_sI]
    rw [if_neg (fun y => by omega), if_pos ⟨trivial, trivial⟩, j6, n47 _ (by decide) (by decide) (by decide) (by decide)]
  · rw [eF, e9]
    simp only [eJ_pI, eJ_sJ, eJ_sI]
    rw [if_pos ⟨trivial, trivial⟩, j8, n47 _ (by decide) (by decide) (by decide) (by decide)]
end
