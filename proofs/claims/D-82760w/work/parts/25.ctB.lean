/-! contracts: at, roofAt, isCorner, drinkBy -/
set_option maxRecDepth 100000
section
variable {h : Hp} {E : Nat → Hp → Prop} {k n : Nat}
theorem ct_X3_isCorner {mo : Nat} (hm : MW h mo) {c : Int32} {Q : Int32 → Hp → Prop} (hq : Q (b1 (isin c 0 (gI h 1001 mo - 1))) h) : CtI M_X3_isCorner [rV mo, iV c] h k n Q E := b_X3_isCorner_0 hm hq
theorem ct_X0_isDay {c : Int32} {Q : Int32 → Hp → Prop} (hq : Q (b1 (isin c 0 3649)) h) : CtI M_X0_isDay [iV c] h k n Q E := b_X0_isDay_0 hq
theorem ct_X0_at {x : Nat} (hm : XW h x) {c : Int32} {Q : Nat → Hp → Prop} (hp : atp h x c) (hq : Q (atv h x c) h) : CtR M_X0_at [rV x, iV c] h k n Q E := by
  refine b_X0_at_0 hm ⟨fun z => ?_, fun z => ⟨(hp z).1, (hp z).2, ?_⟩⟩
  · rwa [show atv h x c = 0 by simp [atv, z]] at hq
  · rwa [show atv h x c = el h (x + 2) (ix c) by simp [atv, z]] at hq
theorem ct_X0_roofAt {x : Nat} (hm : XW h x) {c : Int32} {Q : Nat → Hp → Prop} (hp : rfp h x c) (hq : Q (rfv h x c) h) : CtR M_X0_roofAt [rV x, iV c] h k n Q E := by
  refine b_X0_roofAt_0 hm ⟨fun z => ?_, fun z => ⟨(hp z).1, (hp z).2, ?_⟩⟩
  · rwa [show rfv h x c = 0 by simp [rfv, z]] at hq
  · rwa [show rfv h x c = el h (x + 3) (ix c) by simp [rfv, z]] at hq
theorem ct_X3_drinkBy {mo : Nat} (hm : MW h mo) {c g : Int32} {Q : Int32 → Hp → Prop} (hp : vp_in c 12 ∧ vp_in (eI h (mo + 9) (ix c)) 10) (hq : Q ((eI h (mo + 25) (ix (eI h (mo + 9) (ix c)))) * (100 - g) / 100) h) : CtI M_X3_drinkBy [rV mo, iV c, iV g] h k n Q E := b_X3_drinkBy_0 hm ⟨hp.1, hp.2, hq⟩
end
