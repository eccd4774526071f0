/-! rows: Math, by the library's own contracts -/
set_option maxRecDepth 100000
def imax (x y : Int32) : Int32 := if x < y then y else x
def imin (x y : Int32) : Int32 := if y < x then y else x
def lmax (x y : Int64) : Int64 := if y < x then x else y
def lmin (x y : Int64) : Int64 := if y < x then y else x
def labs (x : Int64) : Int64 := if 0 < x then x else -x
theorem mw_mmax : Cond.code Lib.Math.max.name Lib.Math.max.code 2 (some .int) ∈ lw_all := q451
theorem ms_mmax : Cond.static Lib.Math.max.name ∈ lw_all := q450
theorem r_mmax {M : MI} {pc q : Nat} {lv : List (Nat × AV)} {st : List AV} {h : Hp} {k n : Nat} {Q : AV → Hp → Prop} {E : Nat → Hp → Prop} {idx : Nat} {x y : Int32} (hl : Cond.methodLink (mY M).cls idx Lib.Math.max.name ∈ lw_all) (hd : decode (mC M) pc = .ok (.invokestatic idx, 3)) (hq : pc + 3 = q) (hok : (Nat.ble 1 (mD M) && Nat.ble (st.map wd).sum 8) = true) (kk : Rn M q lv (iV (imax x y) :: st) h k n Q E) : Rn M pc lv (iV y :: iV x :: st) h k n Q E := by
  subst hq
  intro G p l e R s m args below meth c mc ms Z H locs cells slots ls X V
  obtain ⟨o1, o2⟩ := Bool.and_eq_true_iff.mp hok
  have o1 := Nat.le_of_ble_eq_true o1
  have o2 := Nat.le_of_ble_eq_true o2
  have x1 := X.2.2.2.2.2.2.1
  have x2 := X.2.2.2.2.2.2.2.1
  have x3 := X.2.2.2.2.2.2.2.2.1
  have x4 := X.2.2.2.2.2.2.2.2.2.1
  have v1 := V.1
  have v2 := V.2.1
  exact va_mmax X.1.1 X.1.2.1 (by rw [X.1.2.2.1]; exact V.2.2.2.2.1.symm) X.1.2.2.2.1 (X.1.2.2.2.2 _ hl) (X.1.2.2.2.2 _ ms_mmax) (X.1.2.2.2.2 _ q68) (X.1.2.2.2.2 _ mw_mmax) (by omega) (by rw [wd_sum]; omega) (by omega) (by omega) hd (kk G p l e R s m args below meth c mc ms Z H locs cells slots ls X V)
theorem mw_mmin : Cond.code Lib.Math.min.name Lib.Math.min.code 2 (some .int) ∈ lw_all := q486
theorem ms_mmin : Cond.static Lib.Math.min.name ∈ lw_all := q485
theorem r_mmin {M : MI} {pc q : Nat} {lv : List (Nat × AV)} {st : List AV} {h : Hp} {k n : Nat} {Q : AV → Hp → Prop} {E : Nat → Hp → Prop} {idx : Nat} {x y : Int32} (hl : Cond.methodLink (mY M).cls idx Lib.Math.min.name ∈ lw_all) (hd : decode (mC M) pc = .ok (.invokestatic idx, 3)) (hq : pc + 3 = q) (hok : (Nat.ble 1 (mD M) && Nat.ble (st.map wd).sum 8) = true) (kk : Rn M q lv (iV (imin x y) :: st) h k n Q E) : Rn M pc lv (iV y :: iV x :: st) h k n Q E := by
  subst hq
  intro G p l e R s m args below meth c mc ms Z H locs cells slots ls X V
  obtain ⟨o1, o2⟩ := Bool.and_eq_true_iff.mp hok
  have o1 := Nat.le_of_ble_eq_true o1
  have o2 := Nat.le_of_ble_eq_true o2
  have x1 := X.2.2.2.2.2.2.1
  have x2 := X.2.2.2.2.2.2.2.1
  have x3 := X.2.2.2.2.2.2.2.2.1
  have x4 := X.2.2.2.2.2.2.2.2.2.1
  have v1 := V.1
  have v2 := V.2.1
  exact va_mmin X.1.1 X.1.2.1 (by rw [X.1.2.2.1]; exact V.2.2.2.2.1.symm) X.1.2.2.2.1 (X.1.2.2.2.2 _ hl) (X.1.2.2.2.2 _ ms_mmin) (X.1.2.2.2.2 _ q68) (X.1.2.2.2.2 _ mw_mmin) (by omega) (by rw [wd_sum]; omega) (by omega) (by omega) hd (kk G p l e R s m args below meth c mc ms Z H locs cells slots ls X V)
theorem mw_lmax : Cond.code Lib.MathLoose.max_long.x Lib.MathLoose.max_long.code 4 (some .long) ∈ lw_all := q1318
theorem ms_lmax : Cond.static Lib.MathLoose.max_long.x ∈ lw_all := q1317
theorem r_lmax {M : MI} {pc q : Nat} {lv : List (Nat × AV)} {st : List AV} {h : Hp} {k n : Nat} {Q : AV → Hp → Prop} {E : Nat → Hp → Prop} {idx : Nat} {x y : Int64} (hl : Cond.methodLink (mY M).cls idx Lib.MathLoose.max_long.x ∈ lw_all) (hd : decode (mC M) pc = .ok (.invokestatic idx, 3)) (hq : pc + 3 = q) (hok : (Nat.ble 1 (mD M) && Nat.ble (st.map wd).sum 8) = true) (kk : Rn M q lv (jV (lmax x y) :: st) h k n Q E) : Rn M pc lv (jV y :: jV x :: st) h k n Q E := by
  subst hq
  intro G p l e R s m args below meth c mc ms Z H locs cells slots ls X V
  obtain ⟨o1, o2⟩ := Bool.and_eq_true_iff.mp hok
  have o1 := Nat.le_of_ble_eq_true o1
  have o2 := Nat.le_of_ble_eq_true o2
  have x1 := X.2.2.2.2.2.2.1
  have x2 := X.2.2.2.2.2.2.2.1
  have x3 := X.2.2.2.2.2.2.2.2.1
  have x4 := X.2.2.2.2.2.2.2.2.2.1
  have v1 := V.1
  have v2 := V.2.1
  exact va_mmax_long X.1.1 X.1.2.1 (by rw [X.1.2.2.1]; exact V.2.2.2.2.1.symm) X.1.2.2.2.1 (X.1.2.2.2.2 _ hl) (X.1.2.2.2.2 _ ms_lmax) (X.1.2.2.2.2 _ q68) (X.1.2.2.2.2 _ mw_lmax) (by omega) (by rw [wd_sum]; omega) (by omega) (by omega) hd (kk G p l e R s m args below meth c mc ms Z H locs cells slots ls X V)
theorem mw_lmin : Cond.code Lib.MathLoose.min_long.x Lib.MathLoose.min_long.code 4 (some .long) ∈ lw_all := q1738
theorem ms_lmin : Cond.static Lib.MathLoose.min_long.x ∈ lw_all := q1737
theorem r_lmin {M : MI} {pc q : Nat} {lv : List (Nat × AV)} {st : List AV} {h : Hp} {k n : Nat} {Q : AV → Hp → Prop} {E : Nat → Hp → Prop} {idx : Nat} {x y : Int64} (hl : Cond.methodLink (mY M).cls idx Lib.MathLoose.min_long.x ∈ lw_all) (hd : decode (mC M) pc = .ok (.invokestatic idx, 3)) (hq : pc + 3 = q) (hok : (Nat.ble 1 (mD M) && Nat.ble (st.map wd).sum 8) = true) (kk : Rn M q lv (jV (lmin x y) :: st) h k n Q E) : Rn M pc lv (jV y :: jV x :: st) h k n Q E := by
  subst hq
  intro G p l e R s m args below meth c mc ms Z H locs cells slots ls X V
  obtain ⟨o1, o2⟩ := Bool.and_eq_true_iff.mp hok
  have o1 := Nat.le_of_ble_eq_true o1
  have o2 := Nat.le_of_ble_eq_true o2
  have x1 := X.2.2.2.2.2.2.1
  have x2 := X.2.2.2.2.2.2.2.1
  have x3 := X.2.2.2.2.2.2.2.2.1
  have x4 := X.2.2.2.2.2.2.2.2.2.1
  have v1 := V.1
  have v2 := V.2.1
  exact va_mmin_long X.1.1 X.1.2.1 (by rw [X.1.2.2.1]; exact V.2.2.2.2.1.symm) X.1.2.2.2.1 (X.1.2.2.2.2 _ hl) (X.1.2.2.2.2 _ ms_lmin) (X.1.2.2.2.2 _ q68) (X.1.2.2.2.2 _ mw_lmin) (by omega) (by rw [wd_sum]; omega) (by omega) (by omega) hd (kk G p l e R s m args below meth c mc ms Z H locs cells slots ls X V)
theorem mw_labs : Cond.code Lib.MathLoose.abs_long.x Lib.MathLoose.abs_long.code 2 (some .long) ∈ lw_all := q1289
theorem ms_labs : Cond.static Lib.MathLoose.abs_long.x ∈ lw_all := q1288
theorem r_labs {M : MI} {pc q : Nat} {lv : List (Nat × AV)} {st : List AV} {h : Hp} {k n : Nat} {Q : AV → Hp → Prop} {E : Nat → Hp → Prop} {idx : Nat} {x : Int64} (hl : Cond.methodLink (mY M).cls idx Lib.MathLoose.abs_long.x ∈ lw_all) (hd : decode (mC M) pc = .ok (.invokestatic idx, 3)) (hq : pc + 3 = q) (hok : (Nat.ble 1 (mD M) && Nat.ble (st.map wd).sum 8) = true) (kk : Rn M q lv (jV (labs x) :: st) h k n Q E) : Rn M pc lv (jV x :: st) h k n Q E := by
  subst hq
  intro G p l e R s m args below meth c mc ms Z H locs cells slots ls X V
  obtain ⟨o1, o2⟩ := Bool.and_eq_true_iff.mp hok
  have o1 := Nat.le_of_ble_eq_true o1
  have o2 := Nat.le_of_ble_eq_true o2
  have x1 := X.2.2.2.2.2.2.1
  have x2 := X.2.2.2.2.2.2.2.1
  have x3 := X.2.2.2.2.2.2.2.2.1
  have x4 := X.2.2.2.2.2.2.2.2.2.1
  have v1 := V.1
  have v2 := V.2.1
  exact va_mabs_long X.1.1 X.1.2.1 (by rw [X.1.2.2.1]; exact V.2.2.2.2.1.symm) X.1.2.2.2.1 (X.1.2.2.2.2 _ hl) (X.1.2.2.2.2 _ ms_labs) (X.1.2.2.2.2 _ q68) (X.1.2.2.2.2 _ mw_labs) (by omega) (by rw [wd_sum]; omega) (by omega) (by omega) hd (kk G p l e R s m args below meth c mc ms Z H locs cells slots ls X V)
