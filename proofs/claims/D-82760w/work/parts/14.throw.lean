/-! a throw that leaves the method -/
set_option maxRecDepth 100000
theorem r_athrow {M : MI} {pc : Nat} {lv : List (Nat × AV)} {st : List AV} {h : Hp} {k n : Nat} {Q : AV → Hp → Prop} {E : Nat → Hp → Prop} {a : Nat} (hd : decode (mC M) pc = .ok (.athrow, 1)) (hX : (mX M).isEmpty = true) (ha : kd h a ≠ 0) (hE : E a h) : Rn M pc lv (rV a :: st) h k n Q E := by
  intro G p l e R s m args below meth c mc ms Z H locs cells slots ls X V T hT Y
  obtain ⟨b, rfl, hb⟩ := V.2.2.1.pos ha
  have hcb : c.code = mC M := X.1.2.1
  have hlocks := X.2.2.2.1
  have hxt : c.exceptionTable.toList = [] := by
    have h1 := X.2.2.2.2.2.1
    rw [List.isEmpty_iff.mp hX] at h1
    exact List.map_eq_nil_iff.mp h1
  have v1 := V.1
  have v2 := V.2.1
  obtain ⟨z1, z2, z3, z4, z5⟩ := (stand_widen Y (show cells ≤ mc by omega) (show slots ≤ ms by omega)).athrowLeaves X.1.1 (g := F0 m pc ls ((rV (b + 1) :: st).map vv)) rfl rfl rfl (by rw [hxt]; intro x hx; cases hx) (a := b) (rest := st.map vv) rfl (by rw [hcb]; exact hd)
  refine ⟨_, z1, X.2.2.2.2.2.2.2.2.2.2 (.threw b) h (T.setFrames (.throwing b :: below)) locs hE ?_ ?_ z2 z3 z4 z5⟩
  · show Rp G h T.heap
    rw [hT]; exact V.2.2.1
  · show va_S (Fr G) s.heap T.heap locs
    rw [hT]; exact V.2.2.2.1
