/-! which rules are on; a number of them -/
set_option maxRecDepth 100000
def frcF (tk : Nat → Int32) (day : Int32) (i : Nat) (b : Int32) : Int32 := if day < tk i then b else nI i
def frc (tk : Nat → Int32) (day : Int32) (m : Nat) : Int32 := itr (frcF tk day) 0 m (-1)
theorem frc_cases (tk : Nat → Int32) (day : Int32) (m : Nat) : frc tk day m = -1 ∨ ∃ r, r < m ∧ frc tk day m = nI r := by
  have := itr_inv (f := frcF tk day) (P := fun i b => b = -1 ∨ ∃ r, r < i ∧ b = nI r) (t := m) (i := 0) (v := -1) (fun j w _ _ hw => ?_) (Or.inl rfl)
  · rw [Nat.zero_add] at this; exact this
  · unfold frcF
    by_cases c : day < tk j
    · rw [if_pos c]
      rcases hw with z | ⟨r, z1, z2⟩
      · exact Or.inl z
      · exact Or.inr ⟨r, by omega, z2⟩
    · rw [if_neg c]; exact Or.inr ⟨j, by omega, rfl⟩
theorem nIadd (a b : Nat) : nI a + nI b = nI (a + b) := by unfold nI; exact (Int32.ofNat_add a b).symm
section
variable {h : Hp} {x mo : Nat} {E : Nat → Hp → Prop} {k n : Nat} {Q : Int32 → Hp → Prop}
theorem ct_X0_numberOn (H : CP h x) {d : Int32} (hq : Q (frc (eI h (x + 23 + 51)) d (nU h x)) h) : CtI M_X0_numberOn [rV x, iV d] h k n Q E := by
  refine b_X0_numberOn_0 H.xw ?_
  rw [← nI0]
  refine itr_loop (inv := fun i v => Rn M_X0_numberOn 4 [(0, rV x), (1, iV d), (2, iV v), (3, iV (nI i))] [] h k n (qI Q) E) (f := frcF (eI h (x + 23 + 51)) d) (m := nU h x) (fun i v hi hw => ?_) ?_
  · obtain ⟨a1, a2, a3, a4⟩ := H.rulI hi
    have b2 := (H.pu.2 i hi).2.2.1
    refine b_X0_numberOn_4 H.xw ⟨fun c => absurd c a1, fun _ => ?_⟩
    rw [a3, b2]
    refine ⟨a2, a4, fun c => ?_, fun c => ?_⟩
    all_goals (rintro _ rfl; rw [nI_add1]; simpa [frcF, c] using hw)
  · exact b_X0_numberOn_4 H.xw ⟨fun _ => hq, fun c => absurd H.rulE c⟩
theorem ct_X3_inForce (hm : MW h mo) {nu : Nat} (hn : gI h 1067 mo = nI nu) (hc : nu ≤ 10) {d : Int32} (hq : Q (frc (eI h (mo + 51)) d nu) h) : CtI M_X3_inForce [rV mo, iV d] h k n Q E := by
  refine b_X3_inForce_0 hm ?_
  rw [← nI0]
  refine itr_loop (inv := fun i v => Rn M_X3_inForce 4 [(0, rV mo), (1, iV d), (2, iV v), (3, iV (nI i))] [] h k n (qI Q) E) (f := frcF (eI h (mo + 51)) d) (m := nu) (fun i v hi hw => ?_) ?_
  · have a1 : ¬ gI h 1067 mo ≤ nI i := by rw [hn, nIle (by omega) (by omega)]; omega
    have a3 : ix (nI i) = i := ix_nI (by omega)
    have a5 : vp_in (nI i) 11 := vin_nI (by omega) (by decide)
    refine b_X3_inForce_4 hm ⟨fun c => absurd c a1, fun _ => ?_⟩
    rw [a3]
    refine ⟨a5, fun c => ?_, fun c => ?_⟩
    all_goals (rintro _ rfl; rw [nI_add1]; simpa [frcF, c] using hw)
  · exact b_X3_inForce_4 hm ⟨fun _ => hq, fun c => absurd (by rw [hn]; exact Int32.le_refl _) c⟩
theorem ct_X3_plain {w : Int32} (hq : Q (pln w) h) : CtI M_X3_plain [iV w] h k n Q E := by
  unfold pln at hq
  refine b_X3_plain_0 ?_
  repeat' (first | (refine ⟨fun c => ?_, fun c => ?_⟩; rw [if_pos c] at hq; exact hq; rw [if_neg c] at hq) | exact hq)
/-- the numbers of the rules in force on a day -/
def lawv (h : Hp) (mo : Nat) (nu : Nat) (d w : Int32) : Int32 := if frc (eI h (mo + 51)) d nu = -1 then pln w else lwR (eI h (mo + 50)) (eI h (mo + 52)) (eI h (mo + 53)) (eI h (mo + 54)) (eI h (mo + 55)) w (ix (frc (eI h (mo + 51)) d nu))
theorem ct_X3_lawOn (hm : MW h mo) {nu : Nat} (hn : gI h 1067 mo = nI nu) (hc : nu ≤ 10) (hs : ∀ r, r < nu → bd (eI h (mo + 50) r) 0 24) {d w : Int32} (hq : Q (lawv h mo nu d w) h) : CtI M_X3_lawOn [rV mo, iV d, iV w] h k n Q E := by
  refine b_X3_lawOn_0 hm ?_
  refine ct_X3_plain ⟨hm, ?_⟩
  refine ct_X3_inForce hm hn hc ⟨hm, ?_⟩
  rintro _ rfl
  unfold lawv at hq
  rcases frc_cases (eI h (mo + 51)) d nu with z | ⟨r, hr, z⟩
  · rw [z] at hq ⊢
    rw [if_pos rfl] at hq
    exact b_X3_lawOn_19 hm ⟨fun _ => hq, fun c => absurd rfl c⟩
  · have zr : ¬ nI r = -1 := fun e => by
      have := congrArg Int32.toInt e
      rw [nI_toInt (by omega), toI_m1] at this; omega
    rw [z] at hq ⊢
    rw [if_neg zr, ix_nI (by omega)] at hq
    obtain ⟨s1, s2⟩ := bd_nI (hi := 24) (hs r hr)
    have e24 : (24 : Int32) * nI r = nI (24 * r) := by unfold nI; rw [Int32.ofNat_mul]; rfl
    have key : ∀ t j, j + t = ix (eI h (mo + 50) r) → Rn M_X3_lawOn 19 [(0, rV mo), (2, iV w), (3, iV (lwS (eI h (mo + 52)) (eI h (mo + 53)) (eI h (mo + 54)) (eI h (mo + 55)) w (24 * r) j)), (4, iV (nI r)), (5, iV (nI (24 * r + j)))] [] h k n (qI Q) E := by
      have hle : ∀ j, j ≤ 24 → ((24 : Int32) * nI r + eI h (mo + 50) r ≤ nI (24 * r + j) ↔ ix (eI h (mo + 50) r) ≤ j) := fun j hj => by
        generalize eI h (mo + 50) r = q at s1 s2 ⊢
        generalize ix q = m at s1 s2 ⊢
        rw [s1, e24, nIadd, nIle (by omega) (by omega)]
        omega
      intro t
      induction t with
      | zero =>
        intro j hj
        refine b_X3_lawOn_19 hm ⟨fun c => absurd c zr, fun _ => ⟨vin_nI (by omega) (by decide), ?_⟩⟩
        rw [ix_nI (by omega)]
        refine ⟨fun _ => ?_, fun c => absurd ((hle j (by omega)).mpr (by omega)) c⟩
        have : j = ix (eI h (mo + 50) r) := by omega
        subst this
        exact hq
      | succ t ih =>
        intro j hj
        have ih := ih (j + 1) (by omega)
        have hv : vp_in (nI (24 * r + j)) 264 := vin_nI (by omega) (by decide)
        have hx : ix (nI (24 * r + j)) = 24 * r + j := ix_nI (by omega)
        rw [show lwS (eI h (mo + 52)) (eI h (mo + 53)) (eI h (mo + 54)) (eI h (mo + 55)) w (24 * r) (j + 1) = stp (eI h (mo + 52)) (eI h (mo + 53)) (eI h (mo + 54)) (eI h (mo + 55)) w (24 * r + j) (lwS (eI h (mo + 52)) (eI h (mo + 53)) (eI h (mo + 54)) (eI h (mo + 55)) w (24 * r) j) from rfl, show 24 * r + (j + 1) = 24 * r + j + 1 by omega, ← nI_add1] at ih
        generalize lwS (eI h (mo + 52)) (eI h (mo + 53)) (eI h (mo + 54)) (eI h (mo + 55)) w (24 * r) j = v at ih ⊢
        generalize hs5 : 24 * r + j = s at ih hv hx ⊢
        unfold stp at ih
        dsimp only at ih
        have k184 : ∀ v, Rn M_X3_lawOn 19 [(0, rV mo), (2, iV w), (3, iV (if eI h (mo + 52) s = 31 ∧ w = 14 + 2 * eI h (mo + 53) s then eI h (mo + 55) s else v)), (4, iV (nI r)), (5, iV (nI s + 1))] [] h k n (qI Q) E → Rn M_X3_lawOn 184 [(0, rV mo), (2, iV w), (3, iV v), (4, iV (nI r)), (5, iV (nI s))] [] h k n (qI Q) E := fun v hw => by
          refine b_X3_lawOn_184 hm ⟨hv, ?_⟩
          rw [hx]
          refine ⟨fun c => ?_, fun c => ⟨hv, fun d => ?_, fun d => ⟨hv, ?_⟩⟩⟩
          · rintro _ rfl; rw [if_neg (fun z => c z.1)] at hw; exact hw
          · rintro _ rfl; rw [if_neg (fun z => d z.2)] at hw; exact hw
          · rintro _ rfl _ rfl; rw [if_pos ⟨c, d⟩] at hw; exact hw
        have k148 : ∀ v, Rn M_X3_lawOn 184 [(0, rV mo), (2, iV w), (3, iV (if eI h (mo + 52) s = 31 ∧ w = 13 + 2 * eI h (mo + 53) s then eI h (mo + 54) s else v)), (4, iV (nI r)), (5, iV (nI s))] [] h k n (qI Q) E → Rn M_X3_lawOn 148 [(0, rV mo), (2, iV w), (3, iV v), (4, iV (nI r)), (5, iV (nI s))] [] h k n (qI Q) E := fun v hw => by
          refine b_X3_lawOn_148 hm ⟨hv, ?_⟩
          rw [hx]
          refine ⟨fun c => ?_, fun c => ⟨hv, fun d => ?_, fun d => ⟨hv, ?_⟩⟩⟩
          · rw [if_neg (fun z => c z.1)] at hw; exact hw
          · rw [if_neg (fun z => d z.2)] at hw; exact hw
          · rintro _ rfl; rw [if_pos ⟨c, d⟩] at hw; exact hw
        have k122 : ∀ v, Rn M_X3_lawOn 148 [(0, rV mo), (2, iV w), (3, iV (if eI h (mo + 52) s = 7 ∧ w = 9 then eI h (mo + 55) s else v)), (4, iV (nI r)), (5, iV (nI s))] [] h k n (qI Q) E → Rn M_X3_lawOn 122 [(0, rV mo), (2, iV w), (3, iV v), (4, iV (nI r)), (5, iV (nI s))] [] h k n (qI Q) E := fun v hw => by
          refine b_X3_lawOn_122 hm ⟨hv, ?_⟩
          rw [hx]
          refine ⟨fun c => ?_, fun c => ⟨fun d => ?_, fun d => ⟨hv, ?_⟩⟩⟩
          · rw [if_neg (fun z => c z.1)] at hw; exact hw
          · rw [if_neg (fun z => d z.2)] at hw; exact hw
          · rintro _ rfl; rw [if_pos ⟨c, d⟩] at hw; exact hw
        have k62 : ∀ v, Rn M_X3_lawOn 122 [(0, rV mo), (2, iV w), (3, iV (if (eI h (mo + 52) s = 1 ∧ w = 2) ∨ (eI h (mo + 52) s = 7 ∧ w = 8) ∨ (eI h (mo + 52) s = 10 ∧ w = 11) then eI h (mo + 54) s else v)), (4, iV (nI r)), (5, iV (nI s))] [] h k n (qI Q) E → Rn M_X3_lawOn 62 [(0, rV mo), (2, iV w), (3, iV v), (4, iV (nI r)), (5, iV (nI s))] [] h k n (qI Q) E := fun v hw => by
          have k96 : ¬ (eI h (mo + 52) s = 1 ∧ w = 2) → ¬ (eI h (mo + 52) s = 7 ∧ w = 8) → Rn M_X3_lawOn 96 [(0, rV mo), (2, iV w), (3, iV v), (4, iV (nI r)), (5, iV (nI s))] [] h k n (qI Q) E := fun u1 u2 => by
            refine b_X3_lawOn_96 hm ⟨hv, ?_⟩
            rw [hx]
            refine ⟨fun c => ?_, fun c => ⟨fun d => ?_, fun d => ⟨hv, ?_⟩⟩⟩
            · rw [if_neg (by rintro (z | z | z); exact u1 z; exact u2 z; exact c z.1)] at hw; exact hw
            · rw [if_neg (by rintro (z | z | z); exact u1 z; exact u2 z; exact d z.2)] at hw; exact hw
            · rintro _ rfl; rw [if_pos (Or.inr (Or.inr ⟨c, d⟩))] at hw; exact hw
          have k78 : ¬ (eI h (mo + 52) s = 1 ∧ w = 2) → Rn M_X3_lawOn 78 [(0, rV mo), (2, iV w), (3, iV v), (4, iV (nI r)), (5, iV (nI s))] [] h k n (qI Q) E := fun u1 => by
            refine b_X3_lawOn_78 hm ⟨hv, ?_⟩
            rw [hx]
            refine ⟨fun c => k96 u1 (fun z => c z.1), fun c => ⟨fun d => ⟨hv, ?_⟩, fun d => k96 u1 (fun z => d z.2)⟩⟩
            rintro _ rfl; rw [if_pos (Or.inr (Or.inl ⟨c, d⟩))] at hw; exact hw
          refine b_X3_lawOn_62 hm ⟨hv, ?_⟩
          rw [hx]
          refine ⟨fun c => k78 (fun z => c z.1), fun c => ⟨fun d => ⟨hv, ?_⟩, fun d => k78 (fun z => d z.2)⟩⟩
          rintro _ rfl; rw [if_pos (Or.inl ⟨c, d⟩)] at hw; exact hw
        refine b_X3_lawOn_19 hm ⟨fun c => absurd c zr, fun _ => ⟨vin_nI (by omega) (by decide), ?_⟩⟩
        rw [ix_nI (show r < 2 ^ 31 by omega)]
        refine ⟨fun c => absurd ((hle j (by omega)).mp (by rw [hs5]; exact c)) (by omega), fun _ => ⟨hv, ?_⟩⟩
        rw [hx]
        refine ⟨fun c => ?_, fun c => ⟨hv, ?_⟩⟩
        · rw [if_neg c] at ih
          exact k62 _ (k122 _ (k148 _ (k184 _ ih)))
        · rintro _ rfl
          rw [if_pos c] at ih
          exact k62 _ (k122 _ (k148 _ (k184 _ ih)))
    have := key (ix (eI h (mo + 50) r)) 0 (by omega)
    rw [e24]
    exact this
/-- what the reference's numbers need -/
def LWp (h : Hp) (mo : Nat) : Prop := bd (gI h 1067 mo) 0 10 ∧ ∀ r, r < ix (gI h 1067 mo) → bd (eI h (mo + 50) r) 0 24
def CNp (h : Hp) (mo : Nat) : Prop := bd (gI h 1001 mo) 0 12
def lawn (h : Hp) (mo : Nat) (d w : Int32) : Int32 := lawv h mo (ix (gI h 1067 mo)) d w
def prks (h : Hp) (mo : Nat) (s : Int32) : Int32 := itr (parkS h mo s) 0 (ix (gI h 1001 mo)) 0
def prkx (h : Hp) (x : Nat) : Int32 := itr (parkF h (x + 23)) 0 (nC h x) 0
def frcx (h : Hp) (x : Nat) (d : Int32) : Int32 := frc (eI h (x + 23 + 51)) d (nU h x)
def frcm (h : Hp) (mo : Nat) (d : Int32) : Int32 := frc (eI h (mo + 51)) d (ix (gI h 1067 mo))
theorem cs_X3_lawOn (hm : MW h mo) (hp : LWp h mo) {d w : Int32} (hq : Q (lawn h mo d w) h) : CtI M_X3_lawOn [rV mo, iV d, iV w] h k n Q E :=
  ct_X3_lawOn hm (bd_nI (hi := 10) hp.1).1 (bd_nI (hi := 10) hp.1).2 hp.2 hq
theorem cs_X3_inForce (hm : MW h mo) (hp : LWp h mo) {d : Int32} (hq : Q (frcm h mo d) h) : CtI M_X3_inForce [rV mo, iV d] h k n Q E :=
  ct_X3_inForce hm (bd_nI (hi := 10) hp.1).1 (bd_nI (hi := 10) hp.1).2 hq
theorem cs_X3_parked (hm : MW h mo) (hp : CNp h mo) {s : Int32} (hq : Q (prks h mo s) h) : CtI M_X3_parked [rV mo, iV s] h k n Q E :=
  ct_X3_parked hm (bd_nI (hi := 12) hp).1 (bd_nI (hi := 12) hp).2 hq
theorem cs_X0_parking (hm : XW h x) (hp : CP h x) (hq : Q (prkx h x) h) : CtI M_X0_parking [rV x] h k n Q E := ct_X0_parking hp hq
theorem cs_X0_numberOn (hm : XW h x) (hp : CP h x) {d : Int32} (hq : Q (frcx h x d) h) : CtI M_X0_numberOn [rV x, iV d] h k n Q E := ct_X0_numberOn hp hq
theorem CP.lwp (H : CP h x) : LWp h (x + 23) := ⟨H.po.2.2.2.2.2.2.1, fun r hr => (H.pu.2 r hr).2.2.2.1⟩
theorem CP.cnp (H : CP h x) : CNp h (x + 23) := H.po.2.1
end
