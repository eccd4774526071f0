/-! rows: stack, locals, arithmetic, branches -/
set_option maxRecDepth 100000
theorem W.mono {p : Program} {l : Launch} {e : Env} {R : Room} {s : State} {m : MethodId} {args : Array Value} {below : List Frame} {meth : Method} {c : Code} {H : Heap} {locs : List Loc} {cells slots : Nat} {Q Z : State → Prop} {g : JFrame} (w : W p l e R s m args below meth c H locs cells slots Q g) (hq : ∀ t, Q t → Z t) : W p l e R s m args below meth c H locs cells slots Z g := by
  intro T hT X
  obtain ⟨t, a, b⟩ := w T hT X
  exact ⟨t, a, hq t b⟩
def kpL (i : Nat) (v : AV) (q : Nat × AV) : Bool := !(q.1 == i) && (!(q.1 + 1 == i && wd q.2 == 2) && !(wd v == 2 && q.1 == i + 1))
def insL : Nat × AV → List (Nat × AV) → List (Nat × AV)
  | x, [] => [x]
  | x, y :: t => if x.1 < y.1 then x :: y :: t else y :: insL x t
/-- the locals behind a store, by their places in order -/
def lset (lv : List (Nat × AV)) (i : Nat) (v : AV) : List (Nat × AV) := insL (i, v) (lv.filter (kpL i v))
theorem mem_insL {x q : Nat × AV} : ∀ {l : List (Nat × AV)}, q ∈ insL x l → q = x ∨ q ∈ l
  | [], h => by
    simp only [insL, List.mem_singleton] at h
    exact Or.inl h
  | y :: t, h => by
    unfold insL at h
    split at h
    · rcases List.mem_cons.mp h with e | e
      · exact Or.inl e
      · exact Or.inr e
    · rcases List.mem_cons.mp h with e | e
      · exact Or.inr (by rw [e]; exact List.mem_cons_self)
      · rcases mem_insL e with e | e
        · exact Or.inl e
        · exact Or.inr (List.mem_cons_of_mem _ e)
theorem lset_mem {lv : List (Nat × AV)} {i : Nat} {v : AV} {q : Nat × AV} (h : q ∈ lset lv i v) : q = (i, v) ∨ (q ∈ lv ∧ kpL i v q = true) := by
  rcases mem_insL h with e | e
  · exact Or.inl e
  · exact Or.inr (List.mem_filter.mp e)
theorem lset_store {ls : Array Slot} {nL : Nat} {lv : List (Nat × AV)} {i : Nat} {v : AV} (h : lv_has ls nL (lv.map fun q => (q.1, vv q.2))) (hi : i + (wd v - 1) < nL) : ∃ ls', storeLocals ls i (vv v) = some ls' ∧ lv_has ls' nL ((lset lv i v).map fun q => (q.1, vv q.2)) := by
  by_cases hw : wd v = 2
  · obtain ⟨ls', e, h'⟩ := lv_store2 (i := i) (v := vv v) h (by omega) (by rw [vv_cat]; exact hw)
    refine ⟨ls', e, h'.1, h'.2.1, fun q hq => ?_⟩
    obtain ⟨q0, h0, rfl⟩ := List.mem_map.mp hq
    refine h'.2.2 _ ?_
    rcases lset_mem h0 with e0 | ⟨e0, e1⟩
    · rw [e0]; exact List.mem_cons_self
    · refine List.mem_cons_of_mem _ (List.mem_filter.mpr ⟨List.mem_map.mpr ⟨q0, e0, rfl⟩, ?_⟩)
      simp only [kpL, hw, vv_cat] at e1 ⊢
      simp only [Bool.and_eq_true, Bool.not_eq_true', beq_eq_false_iff_ne, Bool.and_eq_false_iff, beq_iff_eq] at e1 ⊢
      obtain ⟨a1, a2, a3⟩ := e1
      refine ⟨a1, ?_, a2⟩
      rcases a3 with a3 | a3
      · exact absurd rfl a3
      · exact a3
  · have hw1 : wd v = 1 := by rcases v with x | x | x <;> first | rfl | exact absurd rfl hw
    obtain ⟨ls', e, h'⟩ := lv_store1 (i := i) (v := vv v) h (by omega) (by rw [vv_cat]; exact hw1)
    refine ⟨ls', e, h'.1, h'.2.1, fun q hq => ?_⟩
    obtain ⟨q0, h0, rfl⟩ := List.mem_map.mp hq
    refine h'.2.2 _ ?_
    rcases lset_mem h0 with e0 | ⟨e0, e1⟩
    · rw [e0]; exact List.mem_cons_self
    · refine List.mem_cons_of_mem _ (List.mem_filter.mpr ⟨List.mem_map.mpr ⟨q0, e0, rfl⟩, ?_⟩)
      simp only [kpL, vv_cat] at e1 ⊢
      simp only [Bool.and_eq_true, Bool.not_eq_true', beq_eq_false_iff_ne, Bool.and_eq_false_iff, beq_iff_eq] at e1 ⊢
      obtain ⟨a1, a2, a3⟩ := e1
      exact ⟨a1, a2⟩
theorem lv_at2 {ls : Array Slot} {nL : Nat} {lv : List (Nat × AV)} (h : lv_has ls nL (lv.map fun q => (q.1, vv q.2))) {j i : Nat} {v : AV} (hj : lv[j]? = some (i, v)) : ls[i]? = some (.val (vv v)) :=
  h.2.2 (i, vv v) (List.mem_map.mpr ⟨(i, v), List.mem_of_getElem? hj, rfl⟩)
/-- remainder, as Java has it -/
def irm (x y : Int32) : Int32 := x - x / y * y
def lrm (x y : Int64) : Int64 := x - x / y * y
def shl (x y : Int32) : Int32 := x <<< (y &&& 31)
def shr (x y : Int32) : Int32 := x >>> (y &&& 31)
def ushr (x y : Int32) : Int32 := (x.toUInt32 >>> (y.toUInt32 &&& Int32.toUInt32 31)).toInt32
def lsl (x : Int64) (y : Int32) : Int64 := x <<< (y.toInt64 &&& 63)
def tby (x : Int32) : Int32 := x.toInt8.toInt32
def tch (x : Int32) : Int32 := (x.toUInt32 % 65536).toInt32
section ROWS
variable {M : MI} {pc q : Nat} {lv : List (Nat × AV)} {st : List AV} {h : Hp} {k n : Nat} {Q : AV → Hp → Prop} {E : Nat → Hp → Prop}
theorem r_iconst {c0 : Int} {v : Int32} (hd : decode (mC M) pc = .ok (.iconst c0, 1)) (hq : pc + 1 = q) (hv : Int32.ofInt c0 = v)
    (kk : Rn M q lv (iV v :: st) h k n Q E) : Rn M pc lv (st) h k n Q E := by
  subst hq
  exact fun G p l e R s m args below meth c mc ms Z H locs cells slots ls X V => lv_iconst X.1.1 X.1.2.1 hd hv (kk G p l e R s m args below meth c mc ms Z H locs cells slots ls X V)
theorem r_bipush {c0 : Int} {v : Int32} (hd : decode (mC M) pc = .ok (.bipush c0, 2)) (hq : pc + 2 = q) (hv : (Int8.ofInt c0).toInt32 = v)
    (kk : Rn M q lv (iV v :: st) h k n Q E) : Rn M pc lv (st) h k n Q E := by
  subst hq
  exact fun G p l e R s m args below meth c mc ms Z H locs cells slots ls X V => lv_bipush X.1.1 X.1.2.1 hd hv (kk G p l e R s m args below meth c mc ms Z H locs cells slots ls X V)
theorem r_sipush {c0 : Int} {v : Int32} (hd : decode (mC M) pc = .ok (.sipush c0, 3)) (hq : pc + 3 = q) (hv : (Int16.ofInt c0).toInt32 = v)
    (kk : Rn M q lv (iV v :: st) h k n Q E) : Rn M pc lv (st) h k n Q E := by
  subst hq
  exact fun G p l e R s m args below meth c mc ms Z H locs cells slots ls X V => lv_sipush X.1.1 X.1.2.1 hd hv (kk G p l e R s m args below meth c mc ms Z H locs cells slots ls X V)
theorem r_lconst {c0 : Fin 2} {v : Int64} (hd : decode (mC M) pc = .ok (.lconst c0, 1)) (hq : pc + 1 = q) (hv : Int64.ofNat (c0 : Nat) = v)
    (kk : Rn M q lv (jV v :: st) h k n Q E) : Rn M pc lv (st) h k n Q E := by
  subst hq
  exact fun G p l e R s m args below meth c mc ms Z H locs cells slots ls X V => lv_lconst X.1.1 X.1.2.1 hd hv (kk G p l e R s m args below meth c mc ms Z H locs cells slots ls X V)
theorem r_null  (hd : decode (mC M) pc = .ok (.aconst_null, 1)) (hq : pc + 1 = q)
    (kk : Rn M q lv (rV 0 :: st) h k n Q E) : Rn M pc lv (st) h k n Q E := by
  subst hq
  exact fun G p l e R s m args below meth c mc ms Z H locs cells slots ls X V => lv_null X.1.1 X.1.2.1 hd (kk G p l e R s m args below meth c mc ms Z H locs cells slots ls X V)
theorem r_ldc {idx : Nat} {v : Int32} (hd : decode (mC M) pc = .ok (.ldc idx, 2)) (hq : pc + 2 = q) (hw : Cond.constant (mY M).cls idx v ∈ lw_all)
    (kk : Rn M q lv (iV v :: st) h k n Q E) : Rn M pc lv (st) h k n Q E := by
  subst hq
  exact fun G p l e R s m args below meth c mc ms Z H locs cells slots ls X V => lv_ldc X.1.1 X.1.2.1 X.1.2.2.2.1 (X.1.2.2.2.2 _ hw) hd (kk G p l e R s m args below meth c mc ms Z H locs cells slots ls X V)
theorem r_ldcw {idx : Nat} {v : Int32} (hd : decode (mC M) pc = .ok (.ldc_w idx, 3)) (hq : pc + 3 = q) (hw : Cond.constant (mY M).cls idx v ∈ lw_all)
    (kk : Rn M q lv (iV v :: st) h k n Q E) : Rn M pc lv (st) h k n Q E := by
  subst hq
  exact fun G p l e R s m args below meth c mc ms Z H locs cells slots ls X V => lv_ldcw X.1.1 X.1.2.1 X.1.2.2.2.1 (X.1.2.2.2.2 _ hw) hd (kk G p l e R s m args below meth c mc ms Z H locs cells slots ls X V)
theorem r_ldc2 {idx : Nat} {v : Int64} (hd : decode (mC M) pc = .ok (.ldc2_w idx, 3)) (hq : pc + 3 = q) (hw : Cond.constantLong (mY M).cls idx v ∈ lw_all)
    (kk : Rn M q lv (jV v :: st) h k n Q E) : Rn M pc lv (st) h k n Q E := by
  subst hq
  exact fun G p l e R s m args below meth c mc ms Z H locs cells slots ls X V => lv_ldc2 X.1.1 X.1.2.1 X.1.2.2.2.1 (X.1.2.2.2.2 _ hw) hd (kk G p l e R s m args below meth c mc ms Z H locs cells slots ls X V)
theorem r_iload {i : Nat} {x : Int32} (hd : decode (mC M) pc = .ok (.iload i, 2)) (hq : pc + 2 = q) (j : Nat) (hj : lv[j]? = some (i, iV x))
    (kk : Rn M q lv (iV x :: st) h k n Q E) : Rn M pc lv (st) h k n Q E := by
  subst hq
  exact fun G p l e R s m args below meth c mc ms Z H locs cells slots ls X V => lv_iload X.1.1 X.1.2.1 hd (lv_at2 V.2.2.2.2 hj) (kk G p l e R s m args below meth c mc ms Z H locs cells slots ls X V)
theorem r_iload_n {f : Fin 4} {x : Int32} (hd : decode (mC M) pc = .ok (.iload_n f, 1)) (hq : pc + 1 = q) (j : Nat) (hj : lv[j]? = some ((f : Nat), iV x))
    (kk : Rn M q lv (iV x :: st) h k n Q E) : Rn M pc lv (st) h k n Q E := by
  subst hq
  exact fun G p l e R s m args below meth c mc ms Z H locs cells slots ls X V => lv_iload_n X.1.1 X.1.2.1 hd rfl (lv_at2 V.2.2.2.2 hj) (kk G p l e R s m args below meth c mc ms Z H locs cells slots ls X V)
theorem r_lload {i : Nat} {x : Int64} (hd : decode (mC M) pc = .ok (.lload i, 2)) (hq : pc + 2 = q) (j : Nat) (hj : lv[j]? = some (i, jV x))
    (kk : Rn M q lv (jV x :: st) h k n Q E) : Rn M pc lv (st) h k n Q E := by
  subst hq
  exact fun G p l e R s m args below meth c mc ms Z H locs cells slots ls X V => lv_lload X.1.1 X.1.2.1 hd (lv_at2 V.2.2.2.2 hj) (kk G p l e R s m args below meth c mc ms Z H locs cells slots ls X V)
theorem r_lload_n {f : Fin 4} {x : Int64} (hd : decode (mC M) pc = .ok (.lload_n f, 1)) (hq : pc + 1 = q) (j : Nat) (hj : lv[j]? = some ((f : Nat), jV x))
    (kk : Rn M q lv (jV x :: st) h k n Q E) : Rn M pc lv (st) h k n Q E := by
  subst hq
  exact fun G p l e R s m args below meth c mc ms Z H locs cells slots ls X V => lv_lload_n X.1.1 X.1.2.1 hd rfl (lv_at2 V.2.2.2.2 hj) (kk G p l e R s m args below meth c mc ms Z H locs cells slots ls X V)
theorem r_aload {i : Nat} {x : Nat} (hd : decode (mC M) pc = .ok (.aload i, 2)) (hq : pc + 2 = q) (j : Nat) (hj : lv[j]? = some (i, rV x))
    (kk : Rn M q lv (rV x :: st) h k n Q E) : Rn M pc lv st h k n Q E := by
  subst hq
  intro G p l e R s m args below meth c mc ms Z H locs cells slots ls X V
  have hl := lv_at2 V.2.2.2.2 hj
  have K := kk G p l e R s m args below meth c mc ms Z H locs cells slots ls X V
  cases x with
  | zero => exact lv_aloadN X.1.1 X.1.2.1 hd hl K
  | succ x => exact lv_aload X.1.1 X.1.2.1 hd hl K
theorem r_aload_n {f : Fin 4} {x : Nat} (hd : decode (mC M) pc = .ok (.aload_n f, 1)) (hq : pc + 1 = q) (j : Nat) (hj : lv[j]? = some ((f : Nat), rV x))
    (kk : Rn M q lv (rV x :: st) h k n Q E) : Rn M pc lv st h k n Q E := by
  subst hq
  intro G p l e R s m args below meth c mc ms Z H locs cells slots ls X V
  have hl := lv_at2 V.2.2.2.2 hj
  have K := kk G p l e R s m args below meth c mc ms Z H locs cells slots ls X V
  cases x with
  | zero => exact lv_aload_nN X.1.1 X.1.2.1 hd rfl hl K
  | succ x => exact lv_aload_n X.1.1 X.1.2.1 hd rfl hl K
theorem r_istore {i : Nat} {x : Int32} {lv' : List (Nat × AV)} (hd : decode (mC M) pc = .ok (.istore i, 2)) (hq : pc + 2 = q) (hn : i < mL M) (hl : lset lv i (iV x) = lv')
    (kk : Rn M q lv' st h k n Q E) : Rn M pc lv (iV x :: st) h k n Q E := by
  subst hq
  subst hl
  intro G p l e R s m args below meth c mc ms Z H locs cells slots ls X V
  obtain ⟨ls', e', h'⟩ := lset_store (i := i) (v := iV x) V.2.2.2.2 (by first | exact hn | (simp only [wd]; omega))
  have K := kk G p l e R s m args below meth c mc ms Z H locs cells slots ls' X ⟨V.1, V.2.1, V.2.2.1, V.2.2.2.1, h'⟩
  intro T hT Y
  obtain ⟨t, a, b⟩ := K T hT Y
  refine ⟨t, ?_, b⟩
  have hx := X.1.1
  have hb := X.1.2.1
  simp only [vv] at e'
  jvm_step Y.here [Y.here.top, ↓top_set Y.here.top, hx, hb, hd, e', List.map_cons, vv]
  exact a
theorem r_istore_n {f : Fin 4} {x : Int32} {lv' : List (Nat × AV)} (hd : decode (mC M) pc = .ok (.istore_n f, 1)) (hq : pc + 1 = q) (hn : (f : Nat) < mL M) (hl : lset lv (f : Nat) (iV x) = lv')
    (kk : Rn M q lv' st h k n Q E) : Rn M pc lv (iV x :: st) h k n Q E := by
  subst hq
  subst hl
  intro G p l e R s m args below meth c mc ms Z H locs cells slots ls X V
  obtain ⟨ls', e', h'⟩ := lset_store (i := (f : Nat)) (v := iV x) V.2.2.2.2 (by first | exact hn | (simp only [wd]; omega))
  have K := kk G p l e R s m args below meth c mc ms Z H locs cells slots ls' X ⟨V.1, V.2.1, V.2.2.1, V.2.2.2.1, h'⟩
  intro T hT Y
  obtain ⟨t, a, b⟩ := K T hT Y
  refine ⟨t, ?_, b⟩
  have hx := X.1.1
  have hb := X.1.2.1
  simp only [vv] at e'
  jvm_step Y.here [Y.here.top, ↓top_set Y.here.top, hx, hb, hd, e', List.map_cons, vv]
  exact a
theorem r_lstore {i : Nat} {x : Int64} {lv' : List (Nat × AV)} (hd : decode (mC M) pc = .ok (.lstore i, 2)) (hq : pc + 2 = q) (hn : i + 1 < mL M) (hl : lset lv i (jV x) = lv')
    (kk : Rn M q lv' st h k n Q E) : Rn M pc lv (jV x :: st) h k n Q E := by
  subst hq
  subst hl
  intro G p l e R s m args below meth c mc ms Z H locs cells slots ls X V
  obtain ⟨ls', e', h'⟩ := lset_store (i := i) (v := jV x) V.2.2.2.2 (by first | exact hn | (simp only [wd]; omega))
  have K := kk G p l e R s m args below meth c mc ms Z H locs cells slots ls' X ⟨V.1, V.2.1, V.2.2.1, V.2.2.2.1, h'⟩
  intro T hT Y
  obtain ⟨t, a, b⟩ := K T hT Y
  refine ⟨t, ?_, b⟩
  have hx := X.1.1
  have hb := X.1.2.1
  simp only [vv] at e'
  jvm_step Y.here [Y.here.top, ↓top_set Y.here.top, hx, hb, hd, e', List.map_cons, vv]
  exact a
theorem r_lstore_n {f : Fin 4} {x : Int64} {lv' : List (Nat × AV)} (hd : decode (mC M) pc = .ok (.lstore_n f, 1)) (hq : pc + 1 = q) (hn : (f : Nat) + 1 < mL M) (hl : lset lv (f : Nat) (jV x) = lv')
    (kk : Rn M q lv' st h k n Q E) : Rn M pc lv (jV x :: st) h k n Q E := by
  subst hq
  subst hl
  intro G p l e R s m args below meth c mc ms Z H locs cells slots ls X V
  obtain ⟨ls', e', h'⟩ := lset_store (i := (f : Nat)) (v := jV x) V.2.2.2.2 (by first | exact hn | (simp only [wd]; omega))
  have K := kk G p l e R s m args below meth c mc ms Z H locs cells slots ls' X ⟨V.1, V.2.1, V.2.2.1, V.2.2.2.1, h'⟩
  intro T hT Y
  obtain ⟨t, a, b⟩ := K T hT Y
  refine ⟨t, ?_, b⟩
  have hx := X.1.1
  have hb := X.1.2.1
  simp only [vv] at e'
  jvm_step Y.here [Y.here.top, ↓top_set Y.here.top, hx, hb, hd, e', List.map_cons, vv]
  exact a
theorem r_astore {i : Nat} {x : Nat} {lv' : List (Nat × AV)} (hd : decode (mC M) pc = .ok (.astore i, 2)) (hq : pc + 2 = q) (hn : i < mL M) (hl : lset lv i (rV x) = lv')
    (kk : Rn M q lv' st h k n Q E) : Rn M pc lv (rV x :: st) h k n Q E := by
  subst hq
  subst hl
  intro G p l e R s m args below meth c mc ms Z H locs cells slots ls X V
  obtain ⟨ls', e', h'⟩ := lset_store (i := i) (v := rV x) V.2.2.2.2 (by first | exact hn | (simp only [wd]; omega))
  have K := kk G p l e R s m args below meth c mc ms Z H locs cells slots ls' X ⟨V.1, V.2.1, V.2.2.1, V.2.2.2.1, h'⟩
  intro T hT Y
  obtain ⟨t, a, b⟩ := K T hT Y
  refine ⟨t, ?_, b⟩
  have hx := X.1.1
  have hb := X.1.2.1
  cases x with
  | zero =>
    simp only [vv, vr] at e'
    jvm_step Y.here [Y.here.top, ↓top_set Y.here.top, hx, hb, hd, e', List.map_cons, vv, vr, Value.isRef]
    exact a
  | succ x =>
    simp only [vv, vr] at e'
    jvm_step Y.here [Y.here.top, ↓top_set Y.here.top, hx, hb, hd, e', List.map_cons, vv, vr, Value.isRef]
    exact a
theorem r_astore_n {f : Fin 4} {x : Nat} {lv' : List (Nat × AV)} (hd : decode (mC M) pc = .ok (.astore_n f, 1)) (hq : pc + 1 = q) (hn : (f : Nat) < mL M) (hl : lset lv (f : Nat) (rV x) = lv')
    (kk : Rn M q lv' st h k n Q E) : Rn M pc lv (rV x :: st) h k n Q E := by
  subst hq
  subst hl
  intro G p l e R s m args below meth c mc ms Z H locs cells slots ls X V
  obtain ⟨ls', e', h'⟩ := lset_store (i := (f : Nat)) (v := rV x) V.2.2.2.2 (by first | exact hn | (simp only [wd]; omega))
  have K := kk G p l e R s m args below meth c mc ms Z H locs cells slots ls' X ⟨V.1, V.2.1, V.2.2.1, V.2.2.2.1, h'⟩
  intro T hT Y
  obtain ⟨t, a, b⟩ := K T hT Y
  refine ⟨t, ?_, b⟩
  have hx := X.1.1
  have hb := X.1.2.1
  cases x with
  | zero =>
    simp only [vv, vr] at e'
    jvm_step Y.here [Y.here.top, ↓top_set Y.here.top, hx, hb, hd, e', List.map_cons, vv, vr, Value.isRef]
    exact a
  | succ x =>
    simp only [vv, vr] at e'
    jvm_step Y.here [Y.here.top, ↓top_set Y.here.top, hx, hb, hd, e', List.map_cons, vv, vr, Value.isRef]
    exact a
theorem r_iinc {i : Nat} {d : Int} {x v : Int32} {lv' : List (Nat × AV)} (hd : decode (mC M) pc = .ok (.iinc i d, 3)) (hq : pc + 3 = q) (j : Nat) (hj : lv[j]? = some (i, iV x)) (hv : x + Int32.ofInt d = v) (hn : i < mL M) (hl : lset lv i (iV v) = lv')
    (kk : Rn M q lv' st h k n Q E) : Rn M pc lv st h k n Q E := by
  subst hq
  subst hl
  subst hv
  intro G p l e R s m args below meth c mc ms Z H locs cells slots ls X V
  have hg := lv_at2 V.2.2.2.2 hj
  obtain ⟨ls', e', h'⟩ := lset_store (i := i) (v := iV (x + Int32.ofInt d)) V.2.2.2.2 (by simpa [wd] using hn)
  have K := kk G p l e R s m args below meth c mc ms Z H locs cells slots ls' X ⟨V.1, V.2.1, V.2.2.1, V.2.2.2.1, h'⟩
  intro T hT Y
  obtain ⟨t, a, b⟩ := K T hT Y
  refine ⟨t, ?_, b⟩
  have hx := X.1.1
  have hb := X.1.2.1
  simp only [vv] at e' hg
  jvm_step Y.here [Y.here.top, ↓top_set Y.here.top, hx, hb, hd, hg, e']
  exact a
theorem r_iadd {x y : Int32} (hd : decode (mC M) pc = .ok (.iadd, 1)) (hq : pc + 1 = q)
    (kk : Rn M q lv (iV (x + y) :: st) h k n Q E) : Rn M pc lv (iV y :: iV x :: st) h k n Q E := by
  subst hq
  exact fun G p l e R s m args below meth c mc ms Z H locs cells slots ls X V => lv_iadd X.1.1 X.1.2.1 hd (kk G p l e R s m args below meth c mc ms Z H locs cells slots ls X V)
theorem r_isub {x y : Int32} (hd : decode (mC M) pc = .ok (.isub, 1)) (hq : pc + 1 = q)
    (kk : Rn M q lv (iV (x - y) :: st) h k n Q E) : Rn M pc lv (iV y :: iV x :: st) h k n Q E := by
  subst hq
  exact fun G p l e R s m args below meth c mc ms Z H locs cells slots ls X V => lv_isub X.1.1 X.1.2.1 hd (kk G p l e R s m args below meth c mc ms Z H locs cells slots ls X V)
theorem r_imul {x y : Int32} (hd : decode (mC M) pc = .ok (.imul, 1)) (hq : pc + 1 = q)
    (kk : Rn M q lv (iV (x * y) :: st) h k n Q E) : Rn M pc lv (iV y :: iV x :: st) h k n Q E := by
  subst hq
  exact fun G p l e R s m args below meth c mc ms Z H locs cells slots ls X V => lv_imul X.1.1 X.1.2.1 hd (kk G p l e R s m args below meth c mc ms Z H locs cells slots ls X V)
theorem r_iand {x y : Int32} (hd : decode (mC M) pc = .ok (.iand, 1)) (hq : pc + 1 = q)
    (kk : Rn M q lv (iV (x &&& y) :: st) h k n Q E) : Rn M pc lv (iV y :: iV x :: st) h k n Q E := by
  subst hq
  exact fun G p l e R s m args below meth c mc ms Z H locs cells slots ls X V => lv_iand X.1.1 X.1.2.1 hd (kk G p l e R s m args below meth c mc ms Z H locs cells slots ls X V)
theorem r_ior {x y : Int32} (hd : decode (mC M) pc = .ok (.ior, 1)) (hq : pc + 1 = q)
    (kk : Rn M q lv (iV (x ||| y) :: st) h k n Q E) : Rn M pc lv (iV y :: iV x :: st) h k n Q E := by
  subst hq
  exact fun G p l e R s m args below meth c mc ms Z H locs cells slots ls X V => lv_ior X.1.1 X.1.2.1 hd (kk G p l e R s m args below meth c mc ms Z H locs cells slots ls X V)
theorem r_ixor {x y : Int32} (hd : decode (mC M) pc = .ok (.ixor, 1)) (hq : pc + 1 = q)
    (kk : Rn M q lv (iV (x ^^^ y) :: st) h k n Q E) : Rn M pc lv (iV y :: iV x :: st) h k n Q E := by
  subst hq
  exact fun G p l e R s m args below meth c mc ms Z H locs cells slots ls X V => lv_ixor X.1.1 X.1.2.1 hd (kk G p l e R s m args below meth c mc ms Z H locs cells slots ls X V)
theorem r_idiv {x y : Int32} (hd : decode (mC M) pc = .ok (.idiv, 1)) (hq : pc + 1 = q) (h0 : ¬ y = 0)
    (kk : Rn M q lv (iV (x / y) :: st) h k n Q E) : Rn M pc lv (iV y :: iV x :: st) h k n Q E := by
  subst hq
  exact fun G p l e R s m args below meth c mc ms Z H locs cells slots ls X V => lv_idiv X.1.1 X.1.2.1 hd h0 (kk G p l e R s m args below meth c mc ms Z H locs cells slots ls X V)
theorem r_irem {x y : Int32} (hd : decode (mC M) pc = .ok (.irem, 1)) (hq : pc + 1 = q) (h0 : ¬ y = 0)
    (kk : Rn M q lv (iV (irm x y) :: st) h k n Q E) : Rn M pc lv (iV y :: iV x :: st) h k n Q E := by
  subst hq
  exact fun G p l e R s m args below meth c mc ms Z H locs cells slots ls X V => lv_irem X.1.1 X.1.2.1 hd h0 (kk G p l e R s m args below meth c mc ms Z H locs cells slots ls X V)
theorem r_ineg {x : Int32} (hd : decode (mC M) pc = .ok (.ineg, 1)) (hq : pc + 1 = q)
    (kk : Rn M q lv (iV (-x) :: st) h k n Q E) : Rn M pc lv (iV x :: st) h k n Q E := by
  subst hq
  exact fun G p l e R s m args below meth c mc ms Z H locs cells slots ls X V => lv_ineg X.1.1 X.1.2.1 hd (kk G p l e R s m args below meth c mc ms Z H locs cells slots ls X V)
theorem r_ishl {x y : Int32} (hd : decode (mC M) pc = .ok (.ishl, 1)) (hq : pc + 1 = q)
    (kk : Rn M q lv (iV (shl x y) :: st) h k n Q E) : Rn M pc lv (iV y :: iV x :: st) h k n Q E := by
  subst hq
  exact fun G p l e R s m args below meth c mc ms Z H locs cells slots ls X V => lv_ishl X.1.1 X.1.2.1 hd (kk G p l e R s m args below meth c mc ms Z H locs cells slots ls X V)
theorem r_ishr {x y : Int32} (hd : decode (mC M) pc = .ok (.ishr, 1)) (hq : pc + 1 = q)
    (kk : Rn M q lv (iV (shr x y) :: st) h k n Q E) : Rn M pc lv (iV y :: iV x :: st) h k n Q E := by
  subst hq
  exact fun G p l e R s m args below meth c mc ms Z H locs cells slots ls X V => lv_ishr X.1.1 X.1.2.1 hd (kk G p l e R s m args below meth c mc ms Z H locs cells slots ls X V)
theorem r_iushr {x y : Int32} (hd : decode (mC M) pc = .ok (.iushr, 1)) (hq : pc + 1 = q)
    (kk : Rn M q lv (iV (ushr x y) :: st) h k n Q E) : Rn M pc lv (iV y :: iV x :: st) h k n Q E := by
  subst hq
  exact fun G p l e R s m args below meth c mc ms Z H locs cells slots ls X V => lv_iushr X.1.1 X.1.2.1 hd rfl (kk G p l e R s m args below meth c mc ms Z H locs cells slots ls X V)
theorem r_ladd {x y : Int64} (hd : decode (mC M) pc = .ok (.ladd, 1)) (hq : pc + 1 = q)
    (kk : Rn M q lv (jV (x + y) :: st) h k n Q E) : Rn M pc lv (jV y :: jV x :: st) h k n Q E := by
  subst hq
  exact fun G p l e R s m args below meth c mc ms Z H locs cells slots ls X V => lv_ladd X.1.1 X.1.2.1 hd (kk G p l e R s m args below meth c mc ms Z H locs cells slots ls X V)
theorem r_lsub {x y : Int64} (hd : decode (mC M) pc = .ok (.lsub, 1)) (hq : pc + 1 = q)
    (kk : Rn M q lv (jV (x - y) :: st) h k n Q E) : Rn M pc lv (jV y :: jV x :: st) h k n Q E := by
  subst hq
  exact fun G p l e R s m args below meth c mc ms Z H locs cells slots ls X V => lv_lsub X.1.1 X.1.2.1 hd (kk G p l e R s m args below meth c mc ms Z H locs cells slots ls X V)
theorem r_lmul {x y : Int64} (hd : decode (mC M) pc = .ok (.lmul, 1)) (hq : pc + 1 = q)
    (kk : Rn M q lv (jV (x * y) :: st) h k n Q E) : Rn M pc lv (jV y :: jV x :: st) h k n Q E := by
  subst hq
  exact fun G p l e R s m args below meth c mc ms Z H locs cells slots ls X V => lv_lmul X.1.1 X.1.2.1 hd (kk G p l e R s m args below meth c mc ms Z H locs cells slots ls X V)
theorem r_land {x y : Int64} (hd : decode (mC M) pc = .ok (.land, 1)) (hq : pc + 1 = q)
    (kk : Rn M q lv (jV (x &&& y) :: st) h k n Q E) : Rn M pc lv (jV y :: jV x :: st) h k n Q E := by
  subst hq
  exact fun G p l e R s m args below meth c mc ms Z H locs cells slots ls X V => lv_land X.1.1 X.1.2.1 hd (kk G p l e R s m args below meth c mc ms Z H locs cells slots ls X V)
theorem r_lor {x y : Int64} (hd : decode (mC M) pc = .ok (.lor, 1)) (hq : pc + 1 = q)
    (kk : Rn M q lv (jV (x ||| y) :: st) h k n Q E) : Rn M pc lv (jV y :: jV x :: st) h k n Q E := by
  subst hq
  exact fun G p l e R s m args below meth c mc ms Z H locs cells slots ls X V => lv_lor X.1.1 X.1.2.1 hd (kk G p l e R s m args below meth c mc ms Z H locs cells slots ls X V)
theorem r_ldiv {x y : Int64} (hd : decode (mC M) pc = .ok (.ldiv, 1)) (hq : pc + 1 = q) (h0 : ¬ y = 0)
    (kk : Rn M q lv (jV (x / y) :: st) h k n Q E) : Rn M pc lv (jV y :: jV x :: st) h k n Q E := by
  subst hq
  exact fun G p l e R s m args below meth c mc ms Z H locs cells slots ls X V => lv_ldiv X.1.1 X.1.2.1 hd h0 (kk G p l e R s m args below meth c mc ms Z H locs cells slots ls X V)
theorem r_lshl {x : Int64} {y : Int32} (hd : decode (mC M) pc = .ok (.lshl, 1)) (hq : pc + 1 = q)
    (kk : Rn M q lv (jV (lsl x y) :: st) h k n Q E) : Rn M pc lv (iV y :: jV x :: st) h k n Q E := by
  subst hq
  exact fun G p l e R s m args below meth c mc ms Z H locs cells slots ls X V => lv_lshl X.1.1 X.1.2.1 hd rfl (kk G p l e R s m args below meth c mc ms Z H locs cells slots ls X V)
theorem r_lcmp {x y : Int64} (hd : decode (mC M) pc = .ok (.lcmp, 1)) (hq : pc + 1 = q)
    (kk : Rn M q lv (iV (lg_cmp x y) :: st) h k n Q E) : Rn M pc lv (jV y :: jV x :: st) h k n Q E := by
  subst hq
  exact fun G p l e R s m args below meth c mc ms Z H locs cells slots ls X V => W.lcmp X.1.1 X.1.2.1 hd (kk G p l e R s m args below meth c mc ms Z H locs cells slots ls X V)
theorem r_i2l {x : Int32} (hd : decode (mC M) pc = .ok (.i2l, 1)) (hq : pc + 1 = q)
    (kk : Rn M q lv (jV x.toInt64 :: st) h k n Q E) : Rn M pc lv (iV x :: st) h k n Q E := by
  subst hq
  exact fun G p l e R s m args below meth c mc ms Z H locs cells slots ls X V => lv_i2l X.1.1 X.1.2.1 hd rfl (kk G p l e R s m args below meth c mc ms Z H locs cells slots ls X V)
theorem r_l2i {x : Int64} (hd : decode (mC M) pc = .ok (.l2i, 1)) (hq : pc + 1 = q)
    (kk : Rn M q lv (iV x.toInt32 :: st) h k n Q E) : Rn M pc lv (jV x :: st) h k n Q E := by
  subst hq
  exact fun G p l e R s m args below meth c mc ms Z H locs cells slots ls X V => lv_l2i X.1.1 X.1.2.1 hd rfl (kk G p l e R s m args below meth c mc ms Z H locs cells slots ls X V)
theorem r_i2b {x : Int32} (hd : decode (mC M) pc = .ok (.i2b, 1)) (hq : pc + 1 = q)
    (kk : Rn M q lv (iV (tby x) :: st) h k n Q E) : Rn M pc lv (iV x :: st) h k n Q E := by
  subst hq
  exact fun G p l e R s m args below meth c mc ms Z H locs cells slots ls X V => lv_i2b X.1.1 X.1.2.1 hd rfl (kk G p l e R s m args below meth c mc ms Z H locs cells slots ls X V)
theorem r_i2c {x : Int32} (hd : decode (mC M) pc = .ok (.i2c, 1)) (hq : pc + 1 = q)
    (kk : Rn M q lv (iV (tch x) :: st) h k n Q E) : Rn M pc lv (iV x :: st) h k n Q E := by
  subst hq
  exact fun G p l e R s m args below meth c mc ms Z H locs cells slots ls X V => lv_i2c X.1.1 X.1.2.1 hd rfl (kk G p l e R s m args below meth c mc ms Z H locs cells slots ls X V)
theorem r_dup {v : AV} (hd : decode (mC M) pc = .ok (.dup, 1)) (hq : pc + 1 = q) (hv : wd v = 1)
    (kk : Rn M q lv (v :: v :: st) h k n Q E) : Rn M pc lv (v :: st) h k n Q E := by
  subst hq
  exact fun G p l e R s m args below meth c mc ms Z H locs cells slots ls X V => lv_dup X.1.1 X.1.2.1 hd (by rw [vv_cat]; exact hv) (kk G p l e R s m args below meth c mc ms Z H locs cells slots ls X V)
theorem r_pop {v : AV} (hd : decode (mC M) pc = .ok (.pop, 1)) (hq : pc + 1 = q) (hv : wd v = 1)
    (kk : Rn M q lv (st) h k n Q E) : Rn M pc lv (v :: st) h k n Q E := by
  subst hq
  exact fun G p l e R s m args below meth c mc ms Z H locs cells slots ls X V => lv_pop X.1.1 X.1.2.1 hd (by rw [vv_cat]; exact hv) (kk G p l e R s m args below meth c mc ms Z H locs cells slots ls X V)
theorem r_dup_x1 {v w : AV} (hd : decode (mC M) pc = .ok (.dup_x1, 1)) (hq : pc + 1 = q) (hv : wd v = 1) (hw : wd w = 1)
    (kk : Rn M q lv (v :: w :: v :: st) h k n Q E) : Rn M pc lv (v :: w :: st) h k n Q E := by
  subst hq
  exact fun G p l e R s m args below meth c mc ms Z H locs cells slots ls X V => lv_dup_x1 X.1.1 X.1.2.1 hd (by rw [vv_cat]; exact hv) (by rw [vv_cat]; exact hw) (kk G p l e R s m args below meth c mc ms Z H locs cells slots ls X V)
theorem r_dup2 {v w : AV} (hd : decode (mC M) pc = .ok (.dup2, 1)) (hq : pc + 1 = q) (hv : wd v = 1) (hw : wd w = 1)
    (kk : Rn M q lv (v :: w :: v :: w :: st) h k n Q E) : Rn M pc lv (v :: w :: st) h k n Q E := by
  subst hq
  exact fun G p l e R s m args below meth c mc ms Z H locs cells slots ls X V => lv_dup2_11 X.1.1 X.1.2.1 hd (by rw [vv_cat]; exact hv) (by rw [vv_cat]; exact hw) (kk G p l e R s m args below meth c mc ms Z H locs cells slots ls X V)
theorem r_dup2l {x : Int64} (hd : decode (mC M) pc = .ok (.dup2, 1)) (hq : pc + 1 = q)
    (kk : Rn M q lv (jV x :: jV x :: st) h k n Q E) : Rn M pc lv (jV x :: st) h k n Q E := by
  subst hq
  exact fun G p l e R s m args below meth c mc ms Z H locs cells slots ls X V => lv_dup2_2 X.1.1 X.1.2.1 hd rfl (kk G p l e R s m args below meth c mc ms Z H locs cells slots ls X V)
theorem r_pop2l {x : Int64} (hd : decode (mC M) pc = .ok (.pop2, 1)) (hq : pc + 1 = q)
    (kk : Rn M q lv (st) h k n Q E) : Rn M pc lv (jV x :: st) h k n Q E := by
  subst hq
  exact fun G p l e R s m args below meth c mc ms Z H locs cells slots ls X V => lv_pop2_2 X.1.1 X.1.2.1 hd rfl (kk G p l e R s m args below meth c mc ms Z H locs cells slots ls X V)
theorem r_if_eq {x : Int32} {off : Int} {tg : Nat} (hd : decode (mC M) pc = .ok (.ifCond .eq off, 3)) (ht : (pc : Int) + off = (tg : Int)) (hq : pc + 3 = q)
    (kt : x = 0 → Rn M tg lv st h k n Q E) (kf : ¬ (x = 0) → Rn M q lv st h k n Q E) : Rn M pc lv (iV x :: st) h k n Q E := by
  subst hq
  exact fun G p l e R s m args below meth c mc ms Z H locs cells slots ls X V => lv_if_eq X.1.1 X.1.2.1 hd ht (fun z => kt z G p l e R s m args below meth c mc ms Z H locs cells slots ls X V) (fun z => kf z G p l e R s m args below meth c mc ms Z H locs cells slots ls X V)
theorem r_icmp_eq {x y : Int32} {off : Int} {tg : Nat} (hd : decode (mC M) pc = .ok (.if_icmp .eq off, 3)) (ht : (pc : Int) + off = (tg : Int)) (hq : pc + 3 = q)
    (kt : x = y → Rn M tg lv st h k n Q E) (kf : ¬ (x = y) → Rn M q lv st h k n Q E) : Rn M pc lv (iV y :: iV x :: st) h k n Q E := by
  subst hq
  exact fun G p l e R s m args below meth c mc ms Z H locs cells slots ls X V => lv_icmp_eq X.1.1 X.1.2.1 hd ht (fun z => kt z G p l e R s m args below meth c mc ms Z H locs cells slots ls X V) (fun z => kf z G p l e R s m args below meth c mc ms Z H locs cells slots ls X V)
theorem r_if_ne {x : Int32} {off : Int} {tg : Nat} (hd : decode (mC M) pc = .ok (.ifCond .ne off, 3)) (ht : (pc : Int) + off = (tg : Int)) (hq : pc + 3 = q)
    (kt : ¬ x = 0 → Rn M tg lv st h k n Q E) (kf : x = 0 → Rn M q lv st h k n Q E) : Rn M pc lv (iV x :: st) h k n Q E := by
  subst hq
  exact fun G p l e R s m args below meth c mc ms Z H locs cells slots ls X V => lv_if_ne X.1.1 X.1.2.1 hd ht (fun z => kt z G p l e R s m args below meth c mc ms Z H locs cells slots ls X V) (fun z => kf z G p l e R s m args below meth c mc ms Z H locs cells slots ls X V)
theorem r_icmp_ne {x y : Int32} {off : Int} {tg : Nat} (hd : decode (mC M) pc = .ok (.if_icmp .ne off, 3)) (ht : (pc : Int) + off = (tg : Int)) (hq : pc + 3 = q)
    (kt : ¬ x = y → Rn M tg lv st h k n Q E) (kf : x = y → Rn M q lv st h k n Q E) : Rn M pc lv (iV y :: iV x :: st) h k n Q E := by
  subst hq
  exact fun G p l e R s m args below meth c mc ms Z H locs cells slots ls X V => lv_icmp_ne X.1.1 X.1.2.1 hd ht (fun z => kt z G p l e R s m args below meth c mc ms Z H locs cells slots ls X V) (fun z => kf z G p l e R s m args below meth c mc ms Z H locs cells slots ls X V)
theorem r_if_lt {x : Int32} {off : Int} {tg : Nat} (hd : decode (mC M) pc = .ok (.ifCond .lt off, 3)) (ht : (pc : Int) + off = (tg : Int)) (hq : pc + 3 = q)
    (kt : x < 0 → Rn M tg lv st h k n Q E) (kf : ¬ (x < 0) → Rn M q lv st h k n Q E) : Rn M pc lv (iV x :: st) h k n Q E := by
  subst hq
  exact fun G p l e R s m args below meth c mc ms Z H locs cells slots ls X V => lv_if_lt X.1.1 X.1.2.1 hd ht (fun z => kt z G p l e R s m args below meth c mc ms Z H locs cells slots ls X V) (fun z => kf z G p l e R s m args below meth c mc ms Z H locs cells slots ls X V)
theorem r_icmp_lt {x y : Int32} {off : Int} {tg : Nat} (hd : decode (mC M) pc = .ok (.if_icmp .lt off, 3)) (ht : (pc : Int) + off = (tg : Int)) (hq : pc + 3 = q)
    (kt : x < y → Rn M tg lv st h k n Q E) (kf : ¬ (x < y) → Rn M q lv st h k n Q E) : Rn M pc lv (iV y :: iV x :: st) h k n Q E := by
  subst hq
  exact fun G p l e R s m args below meth c mc ms Z H locs cells slots ls X V => lv_icmp_lt X.1.1 X.1.2.1 hd ht (fun z => kt z G p l e R s m args below meth c mc ms Z H locs cells slots ls X V) (fun z => kf z G p l e R s m args below meth c mc ms Z H locs cells slots ls X V)
theorem r_if_ge {x : Int32} {off : Int} {tg : Nat} (hd : decode (mC M) pc = .ok (.ifCond .ge off, 3)) (ht : (pc : Int) + off = (tg : Int)) (hq : pc + 3 = q)
    (kt : 0 ≤ x → Rn M tg lv st h k n Q E) (kf : ¬ (0 ≤ x) → Rn M q lv st h k n Q E) : Rn M pc lv (iV x :: st) h k n Q E := by
  subst hq
  exact fun G p l e R s m args below meth c mc ms Z H locs cells slots ls X V => lv_if_ge X.1.1 X.1.2.1 hd ht (fun z => kt z G p l e R s m args below meth c mc ms Z H locs cells slots ls X V) (fun z => kf z G p l e R s m args below meth c mc ms Z H locs cells slots ls X V)
theorem r_icmp_ge {x y : Int32} {off : Int} {tg : Nat} (hd : decode (mC M) pc = .ok (.if_icmp .ge off, 3)) (ht : (pc : Int) + off = (tg : Int)) (hq : pc + 3 = q)
    (kt : y ≤ x → Rn M tg lv st h k n Q E) (kf : ¬ (y ≤ x) → Rn M q lv st h k n Q E) : Rn M pc lv (iV y :: iV x :: st) h k n Q E := by
  subst hq
  exact fun G p l e R s m args below meth c mc ms Z H locs cells slots ls X V => lv_icmp_ge X.1.1 X.1.2.1 hd ht (fun z => kt z G p l e R s m args below meth c mc ms Z H locs cells slots ls X V) (fun z => kf z G p l e R s m args below meth c mc ms Z H locs cells slots ls X V)
theorem r_if_gt {x : Int32} {off : Int} {tg : Nat} (hd : decode (mC M) pc = .ok (.ifCond .gt off, 3)) (ht : (pc : Int) + off = (tg : Int)) (hq : pc + 3 = q)
    (kt : 0 < x → Rn M tg lv st h k n Q E) (kf : ¬ (0 < x) → Rn M q lv st h k n Q E) : Rn M pc lv (iV x :: st) h k n Q E := by
  subst hq
  exact fun G p l e R s m args below meth c mc ms Z H locs cells slots ls X V => lv_if_gt X.1.1 X.1.2.1 hd ht (fun z => kt z G p l e R s m args below meth c mc ms Z H locs cells slots ls X V) (fun z => kf z G p l e R s m args below meth c mc ms Z H locs cells slots ls X V)
theorem r_icmp_gt {x y : Int32} {off : Int} {tg : Nat} (hd : decode (mC M) pc = .ok (.if_icmp .gt off, 3)) (ht : (pc : Int) + off = (tg : Int)) (hq : pc + 3 = q)
    (kt : y < x → Rn M tg lv st h k n Q E) (kf : ¬ (y < x) → Rn M q lv st h k n Q E) : Rn M pc lv (iV y :: iV x :: st) h k n Q E := by
  subst hq
  exact fun G p l e R s m args below meth c mc ms Z H locs cells slots ls X V => lv_icmp_gt X.1.1 X.1.2.1 hd ht (fun z => kt z G p l e R s m args below meth c mc ms Z H locs cells slots ls X V) (fun z => kf z G p l e R s m args below meth c mc ms Z H locs cells slots ls X V)
theorem r_if_le {x : Int32} {off : Int} {tg : Nat} (hd : decode (mC M) pc = .ok (.ifCond .le off, 3)) (ht : (pc : Int) + off = (tg : Int)) (hq : pc + 3 = q)
    (kt : x ≤ 0 → Rn M tg lv st h k n Q E) (kf : ¬ (x ≤ 0) → Rn M q lv st h k n Q E) : Rn M pc lv (iV x :: st) h k n Q E := by
  subst hq
  exact fun G p l e R s m args below meth c mc ms Z H locs cells slots ls X V => lv_if_le X.1.1 X.1.2.1 hd ht (fun z => kt z G p l e R s m args below meth c mc ms Z H locs cells slots ls X V) (fun z => kf z G p l e R s m args below meth c mc ms Z H locs cells slots ls X V)
theorem r_icmp_le {x y : Int32} {off : Int} {tg : Nat} (hd : decode (mC M) pc = .ok (.if_icmp .le off, 3)) (ht : (pc : Int) + off = (tg : Int)) (hq : pc + 3 = q)
    (kt : x ≤ y → Rn M tg lv st h k n Q E) (kf : ¬ (x ≤ y) → Rn M q lv st h k n Q E) : Rn M pc lv (iV y :: iV x :: st) h k n Q E := by
  subst hq
  exact fun G p l e R s m args below meth c mc ms Z H locs cells slots ls X V => lv_icmp_le X.1.1 X.1.2.1 hd ht (fun z => kt z G p l e R s m args below meth c mc ms Z H locs cells slots ls X V) (fun z => kf z G p l e R s m args below meth c mc ms Z H locs cells slots ls X V)
theorem r_goto {off : Int} {tg : Nat} (hd : decode (mC M) pc = .ok (.goto off, 3)) (ht : (pc : Int) + off = (tg : Int)) (kk : Rn M tg lv st h k n Q E) : Rn M pc lv st h k n Q E :=
  fun G p l e R s m args below meth c mc ms Z H locs cells slots ls X V => lv_goto X.1.1 X.1.2.1 hd ht (kk G p l e R s m args below meth c mc ms Z H locs cells slots ls X V)
theorem r_ifnull {a : Nat} {off : Int} {tg : Nat} (hd : decode (mC M) pc = .ok (.ifnull off, 3)) (ht : (pc : Int) + off = (tg : Int)) (hq : pc + 3 = q) (kt : a = 0 → Rn M tg lv st h k n Q E) (kf : ¬ a = 0 → Rn M q lv st h k n Q E) : Rn M pc lv (rV a :: st) h k n Q E := by
  subst hq
  intro G p l e R s m args below meth c mc ms Z H locs cells slots ls X V
  cases a with
  | zero => exact lv_ifnullN X.1.1 X.1.2.1 hd ht (kt rfl G p l e R s m args below meth c mc ms Z H locs cells slots ls X V)
  | succ a => exact lv_ifnull X.1.1 X.1.2.1 hd (kf (fun z => by cases z) G p l e R s m args below meth c mc ms Z H locs cells slots ls X V)
theorem r_ifnonnull {a : Nat} {off : Int} {tg : Nat} (hd : decode (mC M) pc = .ok (.ifnonnull off, 3)) (ht : (pc : Int) + off = (tg : Int)) (hq : pc + 3 = q) (kt : ¬ a = 0 → Rn M tg lv st h k n Q E) (kf : a = 0 → Rn M q lv st h k n Q E) : Rn M pc lv (rV a :: st) h k n Q E := by
  subst hq
  intro G p l e R s m args below meth c mc ms Z H locs cells slots ls X V
  cases a with
  | zero => exact lv_ifnonnullN X.1.1 X.1.2.1 hd (kf rfl G p l e R s m args below meth c mc ms Z H locs cells slots ls X V)
  | succ a => exact lv_ifnonnull X.1.1 X.1.2.1 hd ht (kt (fun z => by cases z) G p l e R s m args below meth c mc ms Z H locs cells slots ls X V)
theorem vr_inj {a b : Nat} : (if a = 0 then none else some (a - 1)) = (if b = 0 then none else some (b - 1) : Option Nat) ↔ a = b := by
  cases a <;> cases b <;> simp
theorem r_acmp_eq {a b : Nat} {off : Int} {tg : Nat} (hd : decode (mC M) pc = .ok (.if_acmp .eq off, 3)) (ht : (pc : Int) + off = (tg : Int)) (hq : pc + 3 = q) (kt : a = b → Rn M tg lv st h k n Q E) (kf : ¬ a = b → Rn M q lv st h k n Q E) : Rn M pc lv (rV b :: rV a :: st) h k n Q E := by
  subst hq
  intro G p l e R s m args below meth c mc ms Z H locs cells slots ls X V
  have w := lv_acmp_eq (p := p) (l := l) (e := e) (R := R) (s := s) (m := m) (args := args) (below := below) (meth := meth) (c := c) (H := H) (locs := locs) (cells := cells) (slots := slots) (Q := Z) (ls := ls) (rest := st.map vv) (rx := if a = 0 then none else some (a - 1)) (ry := if b = 0 then none else some (b - 1)) X.1.1 X.1.2.1 hd ht (fun z => kt (vr_inj.mp z) G p l e R s m args below meth c mc ms Z H locs cells slots ls X V) (fun z => kf (fun y => z (vr_inj.mpr y)) G p l e R s m args below meth c mc ms Z H locs cells slots ls X V)
  rw [← vr_rf, ← vr_rf] at w
  exact w
theorem r_acmp_ne {a b : Nat} {off : Int} {tg : Nat} (hd : decode (mC M) pc = .ok (.if_acmp .ne off, 3)) (ht : (pc : Int) + off = (tg : Int)) (hq : pc + 3 = q) (kt : ¬ a = b → Rn M tg lv st h k n Q E) (kf : a = b → Rn M q lv st h k n Q E) : Rn M pc lv (rV b :: rV a :: st) h k n Q E := by
  subst hq
  intro G p l e R s m args below meth c mc ms Z H locs cells slots ls X V
  have w := lv_acmp_ne (p := p) (l := l) (e := e) (R := R) (s := s) (m := m) (args := args) (below := below) (meth := meth) (c := c) (H := H) (locs := locs) (cells := cells) (slots := slots) (Q := Z) (ls := ls) (rest := st.map vv) (rx := if a = 0 then none else some (a - 1)) (ry := if b = 0 then none else some (b - 1)) X.1.1 X.1.2.1 hd ht (fun z => kt (fun y => z (vr_inj.mpr y)) G p l e R s m args below meth c mc ms Z H locs cells slots ls X V) (fun z => kf (by first | exact vr_inj.mp z | exact vr_inj.mp (Classical.not_not.mp z)) G p l e R s m args below meth c mc ms Z H locs cells slots ls X V)
  rw [← vr_rf, ← vr_rf] at w
  exact w
/-- fewer locals -/
theorem r_sub {lv' : List (Nat × AV)} (js : List Nat) (hj : js.filterMap (fun j => lv[j]?) = lv') (kk : Rn M pc lv' st h k n Q E) : Rn M pc lv st h k n Q E := by
  subst hj
  intro G p l e R s m args below meth c mc ms Z H locs cells slots ls X V
  refine kk G p l e R s m args below meth c mc ms Z H locs cells slots ls X ⟨V.1, V.2.1, V.2.2.1, V.2.2.2.1, V.2.2.2.2.1, V.2.2.2.2.2.1, fun q0 hq0 => ?_⟩
  obtain ⟨q1, h1, rfl⟩ := List.mem_map.mp hq0
  obtain ⟨j, -, hj⟩ := List.mem_filterMap.mp h1
  exact V.2.2.2.2.2.2 _ (List.mem_map.mpr ⟨q1, List.mem_of_getElem? hj, rfl⟩)
/-- less room asked -/
theorem r_room {k' n' : Nat} (hk : k' ≤ k) (hn : n' ≤ n) (kk : Rn M pc lv st h k' n' Q E) : Rn M pc lv st h k n Q E :=
  fun G p l e R s m args below meth c mc ms Z H locs cells slots ls X V => kk G p l e R s m args below meth c mc ms Z H locs cells slots ls X ⟨Nat.le_trans (Nat.add_le_add_left hk _) V.1, Nat.le_trans (Nat.add_le_add_left hn _) V.2.1, V.2.2⟩
/-- another promise -/
theorem r_mono {Q' : AV → Hp → Prop} {E' : Nat → Hp → Prop} (hQ : ∀ v h, Q' v h → Q v h) (hE : ∀ a h, E' a h → E a h) (kk : Rn M pc lv st h k n Q' E') : Rn M pc lv st h k n Q E := by
  intro G p l e R s m args below meth c mc ms Z H locs cells slots ls X V
  refine kk G p l e R s m args below meth c mc ms Z H locs cells slots ls ⟨X.1, X.2.1, X.2.2.1, X.2.2.2.1, X.2.2.2.2.1, X.2.2.2.2.2.1, X.2.2.2.2.2.2.1, X.2.2.2.2.2.2.2.1, X.2.2.2.2.2.2.2.2.1, X.2.2.2.2.2.2.2.2.2.1, fun o h0 t L hO => X.2.2.2.2.2.2.2.2.2.2 o h0 t L ?_⟩ V
  rcases o with (_ | v) | a
  · exact ⟨hO.1, hQ _ _ hO.2⟩
  · obtain ⟨e0, w, e1, e2⟩ := hO
    exact ⟨e0, w, e1, hQ _ _ e2⟩
  · exact hE _ _ hO
/-- the end of a walk, out of the kit's own ends -/
theorem r_end {G : Wd} {p : Program} {l : Launch} {e : Env} {R : Room} {s : State} {m : MethodId} {args : Array Value} {below : List Frame} {meth : Method} {c : Code} {mc ms : Nat} {Z : State → Prop} {H : Heap} {locs : List Loc} {cells slots : Nat} {ls : Array Slot} {v : Option Value} {g : JFrame}
    (X : Cx M G p l e R s m args below meth c mc ms Z Q E) (V : Mv M G s H locs cells slots mc ms ls lv h k n) (hO : Oq (mR M) Q E (.returned v) h)
    (w : W p l e R s m args below meth c H locs mc ms (MQ below (fun _ _ o t => o = .returned v ∧ t.heap = H) args s mc ms (Fr G)) g) : W p l e R s m args below meth c H locs cells slots Z g := by
  refine W.widen (Nat.le_trans (Nat.le_add_right _ _) V.1) (Nat.le_trans (Nat.le_add_right _ _) V.2.1) (w.mono fun t ht => ?_)
  obtain ⟨o, h1, h2, ⟨rfl, h3⟩, L, ⟨-, h4, h5⟩, h6⟩ := ht
  exact X.2.2.2.2.2.2.2.2.2.2 _ h t L hO (by rw [h3]; exact V.2.2.1) ⟨by rw [h3]; exact V.2.2.2.1.1, fun q0 z1 z2 => by rw [h3]; exact V.2.2.2.1.2.1 q0 z1 z2, h6⟩ h1 h2 h4 h5
theorem r_ret {r : Int32} {Qi : Int32 → Hp → Prop} {ty : FieldType} (hd : decode (mC M) pc = .ok (.ireturn, 1)) (hr : mR M = some ty) (hn : narrow ty (.int r) = .int r) (hq : Qi r h) : Rn M pc lv [iV r] h k n (qI Qi) E := by
  intro G p l e R s m args below meth c mc ms Z H locs cells slots ls X V
  have hlocks := X.2.2.2.1
  exact r_end (v := some (.int r)) X V ⟨(by rw [hr]; exact fun z => by cases z), iV r, rfl, r, rfl, hq⟩ (W.zret X.1.1 X.1.2.1 (X.2.2.1.trans hr) hn (fun t ht _ => ⟨rfl, ht⟩) V.2.2.2.1.2.2 hd)
theorem r_iret {r : Int32} {Qi : Int32 → Hp → Prop} (hd : decode (mC M) pc = .ok (.ireturn, 1)) (hr : mR M = some .int) (hq : Qi r h) : Rn M pc lv [iV r] h k n (qI Qi) E := r_ret hd hr rfl hq
theorem nz_b {r : Int32} (h : r = 0 ∨ r = 1) : narrow .boolean (.int r) = .int r := by rcases h with rfl | rfl <;> rfl
theorem r_zret {r : Int32} {Qi : Int32 → Hp → Prop} (hd : decode (mC M) pc = .ok (.ireturn, 1)) (hr : mR M = some .boolean) (h0 : r = 0 ∨ r = 1) (hq : Qi r h) : Rn M pc lv [iV r] h k n (qI Qi) E := r_ret hd hr (nz_b h0) hq
theorem r_lret {r : Int64} {Qi : Int64 → Hp → Prop} (hd : decode (mC M) pc = .ok (.lreturn, 1)) (hr : mR M = some .long) (hq : Qi r h) : Rn M pc lv [jV r] h k n (qJ Qi) E := by
  intro G p l e R s m args below meth c mc ms Z H locs cells slots ls X V
  have hlocks := X.2.2.2.1
  exact r_end (v := some (.long r)) X V ⟨(by rw [hr]; exact fun z => by cases z), jV r, rfl, r, rfl, hq⟩ (W.lret X.1.1 X.1.2.1 (X.2.2.1.trans hr) (fun t ht _ => ⟨rfl, ht⟩) V.2.2.2.1.2.2 hd)
theorem r_vret {Qi : Hp → Prop} (hd : decode (mC M) pc = .ok (.return_, 1)) (hr : mR M = none) (hq : Qi h) : Rn M pc lv [] h k n (qV Qi) E := by
  intro G p l e R s m args below meth c mc ms Z H locs cells slots ls X V
  have hlocks := X.2.2.2.1
  exact r_end (v := none) X V ⟨hr, rfl, hq⟩ (W.vret X.1.1 X.1.2.1 (X.2.2.1.trans hr) (fun t ht _ => ⟨rfl, ht⟩) V.2.2.2.1.2.2 hd)
theorem r_aret {a : Nat} {Qi : Nat → Hp → Prop} {ty : FieldType} (hd : decode (mC M) pc = .ok (.areturn, 1)) (hr : mR M = some ty) (hty : (∃ n, ty = .object n) ∨ ∃ t, ty = .array t) (hq : Qi a h) : Rn M pc lv [rV a] h k n (qR Qi) E := by
  intro G p l e R s m args below meth c mc ms Z H locs cells slots ls X V
  have hlocks := X.2.2.2.1
  exact r_end (v := some (vr a)) X V ⟨(by rw [hr]; exact fun z => by cases z), rV a, rfl, a, rfl, hq⟩ (W.aret X.1.1 X.1.2.1 (X.2.2.1.trans hr) hty (by cases a with | zero => exact Or.inl rfl | succ a => exact Or.inr ⟨a, rfl⟩) (fun t ht _ => ⟨rfl, ht⟩) V.2.2.2.1.2.2 hd)
/-- switches -/
theorem r_tabOut {dflt lo hi : Int} {offs : Array Int} {len : Nat} {x : Int32} {tg : Nat} (hd : decode (mC M) pc = .ok (.tableswitch dflt lo hi offs, len)) (h0 : x.toInt < lo ∨ hi < x.toInt) (ht : (pc : Int) + dflt = (tg : Int)) (kk : Rn M tg lv st h k n Q E) : Rn M pc lv (iV x :: st) h k n Q E :=
  fun G p l e R s m args below meth c mc ms Z H locs cells slots ls X V => lv_tableOut X.1.1 X.1.2.1 hd h0 ht (kk G p l e R s m args below meth c mc ms Z H locs cells slots ls X V)
theorem r_tabIn {dflt lo hi : Int} {offs : Array Int} {len : Nat} {x : Int32} {off : Int} {tg : Nat} (hd : decode (mC M) pc = .ok (.tableswitch dflt lo hi offs, len)) (h1 : ¬ x.toInt < lo) (h2 : ¬ hi < x.toInt) (ho : offs[(x.toInt - lo).toNat]? = some off) (ht : (pc : Int) + off = (tg : Int)) (kk : Rn M tg lv st h k n Q E) : Rn M pc lv (iV x :: st) h k n Q E :=
  fun G p l e R s m args below meth c mc ms Z H locs cells slots ls X V => lv_tableIn X.1.1 X.1.2.1 hd h1 h2 ho ht (kk G p l e R s m args below meth c mc ms Z H locs cells slots ls X V)
theorem r_lookup {dflt : Int} {ps : Array (Int × Int)} {len : Nat} {x : Int32} {off : Int} {tg : Nat} (hd : decode (mC M) pc = .ok (.lookupswitch dflt ps, len)) (hp : (ps.toList.zip (ps.toList.drop 1)).all (fun (a, next) => a.1 < next.1) = true) (ho : Op.lookupswitch.offset ps.toList dflt x.toInt = off) (ht : (pc : Int) + off = (tg : Int)) (kk : Rn M tg lv st h k n Q E) : Rn M pc lv (iV x :: st) h k n Q E :=
  fun G p l e R s m args below meth c mc ms Z H locs cells slots ls X V => lv_lookup X.1.1 X.1.2.1 hd hp ho ht (kk G p l e R s m args below meth c mc ms Z H locs cells slots ls X V)
end ROWS
