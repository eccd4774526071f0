/-! rows: static fields, System.arraycopy, clone of bytes, getClass, class constants, inherited methods -/
set_option maxRecDepth 100000
def cp2 {α : Type} (f : Nat → Nat → α) (s0 sp d dp m : Nat) : Nat → Nat → α := fun a j => if a = d ∧ dp ≤ j ∧ j < dp + m then f s0 (sp + (j - dp)) else f a j
def cpR (h : Hp) (s0 sp d dp m : Nat) : Hp := (nx h, kd h, ln h, gI h, gJ h, gR h, eI h, eJ h, cp2 (eR h) s0 sp d dp m, kc h)
def cpI (h : Hp) (s0 sp d dp m : Nat) : Hp := (nx h, kd h, ln h, gI h, gJ h, gR h, cp2 (eI h) s0 sp d dp m, eJ h, eR h, kc h)
/-- an array's elements are others -/
theorem Rp.arr {G : Wd} {h h' : Hp} {H H' : Heap} {a t : Nat} {cell : Cell} (P : Rp G h H) (hk : kd h (a + 1) = 61 + t) (ht : t < 10) (e : nx h' = nx h ∧ kd h' = kd h ∧ ln h' = ln h ∧ kc h' = kc h ∧ ∀ b q, fvl h' b q = fvl h b q) (he : ∀ b t j, b ≠ a + 1 → eV h' b t j = eV h b t j)
    (e1 : H'[a]? = some cell) (c1 : cell.cls = G.2.1 t ∧ cell.vm.isStatics = false ∧ cell.vm ≠ .unknown ∧ cell.slots.size = ln h (a + 1) ∧ ∀ j, j < ln h (a + 1) → cell.slots[j]? = some (eV h' (a + 1) t j)) (hby : byF h' (a + 1) t) (e2 : H'.size = H.size) (e3 : ∀ q, q ≠ a → H'[q]? = H[q]?) : Rp G h' H' := by
  obtain ⟨r1, r2, r3, r4, r5⟩ := P
  obtain ⟨n1, n2, n3, n4, n5⟩ := e
  have hab : gB G ≤ a := ((r5 a).2.2.1 t hk ht).2
  refine ⟨by rw [e2, n1]; exact r1, ⟨by rw [e2]; exact r2.1, by rw [n4]; exact r2.2.1, fun b hb => (e3 b (by omega)).trans (r2.2.2 b hb)⟩, by rw [n2]; exact r3, fun b hb => by rw [n2]; rw [n1] at hb; exact r4 b hb, fun b => ?_⟩
  by_cases hb : b = a
  · subst hb
    refine ⟨fun c' e z => ?_, fun c' e z => ?_, fun t' e z => ?_, fun t' e z => ?_⟩
    · rw [n2, hk] at e; omega
    · rw [n2, hk] at e; omega
    · rw [n2, hk] at e
      have : t' = t := by omega
      subst this
      exact ⟨⟨⟨cell, e1, c1.1, c1.2.1, c1.2.2.1, by rw [n3]; exact c1.2.2.2.1, fun j hj => c1.2.2.2.2 j (by rw [← n3]; exact hj)⟩, hby⟩, hab⟩
    · rw [n2, hk] at e; omega
  · exact (r5 b).kept (e3 b hb) (by rw [n2]) (fun q => n5 _ _) (by rw [n3]) (fun t' j => he _ _ _ (by omega))
section ROWS2
variable {M M' : MI} {pc q : Nat} {lv : List (Nat × AV)} {st stk : List AV} {h : Hp} {k n k1 n1 k2 n2 : Nat} {Q : AV → Hp → Prop} {E : Nat → Hp → Prop}
theorem r_gets {C f d : String} {w : Hp → AV} {idx : Nat} (hZ : ∀ (G : Wd) (h : Hp) (U : State), kc h = gK G → KC G U → va_Z C f d (vv (w h)) (Fr G) U (gH G)) (hl : Cond.fieldLink (mY M).cls idx C f d ∈ lw_all) (hd : decode (mC M) pc = .ok (.getstatic idx, 3)) (hq : pc + 3 = q) (kk : Rn M q lv (w h :: st) h k n Q E) : Rn M pc lv st h k n Q E := by
  subst hq
  intro G p l e R s m args below meth c0 mc ms Z H locs cells slots ls X V
  obtain ⟨cf, kf, fi, f0, a, cell, h1, h2, h3, h4, h5, h6, h7, h8⟩ := hZ G h s V.2.2.1.2.1.2.1 X.2.1.2.2.2.1.2
  have h8' : a < gB G := Nat.not_le.mp h8
  have hH : H[a]? = some cell := by rw [V.2.2.1.2.1.2.2 a h8']; exact h5
  exact W.gets X.1.1 X.1.2.1 X.1.2.2.2.1 (X.1.2.2.2.2 _ hl) h1 h2 h3 h4 hH (fun e => by rw [e] at h6; cases h6) h7 rfl hd (kk G p l e R s m args below meth c0 mc ms Z H locs cells slots ls X V)
theorem z_empty (G : Wd) (h : Hp) (U : State) (e : kc h = gK G) (K : KC G U) : va_Z "java/util/ArrayList" "DEFAULTCAPACITY_EMPTY_ELEMENTDATA" "[Ljava/lang/Object;" (vv (rV (kc h 0))) (Fr G) U (gH G) := by rw [e]; exact K.1
theorem z_compact (G : Wd) (h : Hp) (U : State) (_ : kc h = gK G) (K : KC G U) : va_Z "java/lang/String" "COMPACT_STRINGS" "Z" (vv (iV 1)) (Fr G) U (gH G) := K.2.1
theorem z_stack (G : Wd) (h : Hp) (U : State) (e : kc h = gK G) (K : KC G U) : va_Z "java/lang/Throwable" "UNASSIGNED_STACK" "[Ljava/lang/StackTraceElement;" (vv (rV (kc h 21))) (Fr G) U (gH G) := by rw [e]; exact K.2.2.1
theorem z_suppr (G : Wd) (h : Hp) (U : State) (e : kc h = gK G) (K : KC G U) : va_Z "java/lang/Throwable" "SUPPRESSED_SENTINEL" "Ljava/util/List;" (vv (rV (kc h 22))) (Fr G) U (gH G) := by rw [e]; exact K.2.2.2.1
theorem ix_nn {z : Int32} (hz : ¬ z < 0) : z.toInt = ((ix z : Nat) : Int) := by
  have e : (0 : Int32).toInt = 0 := by decide
  rw [i32_lt, e] at hz
  exact (ix_toInt (by omega)).symm
theorem nfw : nativeFrameWords "java/lang/System" "arraycopy" 5 ≤ 21 := by decide +kernel
/-- System.arraycopy, whatever the elements -/
theorem x_copy {G : Wd} {p : Program} {l : Launch} {e : Env} {R : Room} {s : State} {m : MethodId} {args : Array Value} {below : List Frame} {meth : Method} {c : Code} {mc ms : Nat} {Z : State → Prop} {H : Heap} {locs : List Loc} {cells slots : Nat} {ls : Array Slot} {idx a0 a1 t : Nat} {sp dp m0 : Int32} {h' : Hp}
    (X : Cx M G p l e R s m args below meth c mc ms Z Q E) (V : Mv M G s H locs cells slots mc ms ls lv h k n) (ht : t = 2 ∨ t = 4) (hl : Cond.methodLink (mY M).cls idx arraycopyName ∈ lw_all) (hd : decode (mC M) pc = .ok (.invokestatic idx, 3)) (hk0 : kd h a0 = 61 + t ∨ kd h a0 = 71 + t) (hk1 : kd h a1 = 61 + t) (g1 : ¬ sp < 0) (g2 : ¬ dp < 0) (g3 : ¬ m0 < 0) (g4 : ix sp + ix m0 ≤ ln h a0) (g5 : ix dp + ix m0 ≤ ln h a1) (hok : (Nat.ble 1 (mD M) && Nat.ble (st.map wd).sum 8) = true)
    (hel : t = 4 → ∃ (c0 : Nat) (R0 : String) (T0 : u_T) (N0 : Nat), xcl[c0]? = some (R0, T0, N0) ∧ Cond.castable R0 "java/lang/Object" ∈ lw_tbl ∧ ∀ i, i < ix m0 → eR h a0 (ix sp + i) = 0 ∨ kd h (eR h a0 (ix sp + i)) = c0 + 1)
    (e0 : nx h' = nx h ∧ kd h' = kd h ∧ ln h' = ln h ∧ kc h' = kc h ∧ ∀ b q, fvl h' b q = fvl h b q) (he : ∀ b t j, b ≠ a1 → eV h' b t j = eV h b t j) (hnew : ∀ j, eV h' a1 t j = if ix dp ≤ j ∧ j < ix dp + ix m0 then eV h a0 t (ix sp + (j - ix dp)) else eV h a1 t j) (kk : Rn M (pc + 3) lv st h' k n Q E) :
    W p l e R s m args below meth c H locs cells slots Z (F0 m pc ls ((iV m0 :: iV dp :: rV a1 :: iV sp :: rV a0 :: st).map vv)) := by
  obtain ⟨o1, o2⟩ := Bool.and_eq_true_iff.mp hok
  have o1 := Nat.le_of_ble_eq_true o1
  have o2 := Nat.le_of_ble_eq_true o2
  have x1 := X.2.2.2.2.2.2.1
  have x2 := X.2.2.2.2.2.2.2.1
  have nf := nfw
  obtain ⟨b0, cs, rfl, c1, c2, c3, c4, c5, c6, c7, -⟩ := arr_at (t := t) X.2.1 V.2.2.1 (by omega) hk0
  obtain ⟨b1, cd, rfl, d1, d2, d3, d4, d5, d6, d7, d8⟩ := arr_at (t := t) X.2.1 V.2.2.1 (by omega) (Or.inl hk1)
  obtain ⟨-, ks, hks, comps, hkks⟩ := c2
  obtain ⟨-, kdd, hkd, compd, hkkd⟩ := d2
  have by0 : t = 2 → ∀ j, j < ln h (b0 + 1) → fits .byte (.int (eI h (b0 + 1) j)) = true := by
    intro z
    rcases hk0 with y | y
    · exact ((V.2.2.1.2.2.2.2 b0).2.2.1 t y (by omega)).1.2 z
    · exact ((V.2.2.1.2.2.2.2 b0).2.2.2 t y (by omega)).2 z
  have by1 : t = 2 → ∀ j, j < ln h (b1 + 1) → fits .byte (.int (eI h (b1 + 1) j)) = true := ((V.2.2.1.2.2.2.2 b1).2.2.1 t hk1 (by omega)).1.2
  intro T hT Y
  have hv : ∀ i, i < ix m0 → cs.slots.getD (ix sp + i) .null = eV h (b0 + 1) t (ix sp + i) := fun i hi => by
    rw [Array.getD_eq_getD_getElem?, c6 _ (by omega)]
    rfl
  have hb : c.code = mC M := X.1.2.1
  obtain ⟨vm', X', step⟩ := Y.arraycopy X.1.1 X.1.2.2.2.1 (X.1.2.2.2.2 _ hl) (X.1.2.2.2.2 _ q489) (X.1.2.2.2.2 _ q488) (X.1.2.2.2.2 _ q70) (src := b0) (dst := b1) (cs := cs) (cd := cd) (srcPos := sp) (destPos := dp) (n := m0) (by rw [hT]; exact c1) (by rw [hT]; exact d1)
    (isStat c3) (isStat d3) c4 d4 hks hkd hkks hkkd (by rcases ht with z | z <;> subst z <;> rfl) g1 g2 g3
    (by rw [ix_nn g1, ix_nn g3, c5]; omega) (by rw [ix_nn g2, ix_nn g3, d5]; omega)
    (fun vm₁ hal i hi => by
      have e := hv i hi
      show fits _ (cs.slots.getD (ix sp + i) .null) = true ∧ (T.setVm vm₁).takes compd (cs.slots.getD (ix sp + i) .null)
      rw [e]
      rcases ht with z | z
      · subst z
        exact ⟨by0 rfl _ (by have : i < ix m0 := hi
                             omega), trivial⟩
      · subst z
        obtain ⟨c0, R0, T0, N0, y1, y2, y3⟩ := hel rfl
        have e4 : eV h (b0 + 1) 4 (ix sp + i) = vr (eR h (b0 + 1) (ix sp + i)) := rfl
        rw [e4]
        rcases y3 i hi with w | w
        · rw [w]; exact ⟨rfl, trivial⟩
        · have hc14 : c0 < 14 := (List.getElem?_eq_some_iff.mp y1).1
          obtain ⟨y, hy, hys⟩ := V.2.2.1.pos (a := eR h (b0 + 1) (ix sp + i)) (by omega)
          rw [hy] at w ⊢
          obtain ⟨⟨r, q1, cv, q2, q3, q4, q5⟩, -⟩ := (V.2.2.1.2.2.2.2 y).1 c0 w (by omega)
          obtain ⟨cx, tx, f1, f2, f3⟩ := Cond.castable_spec (va_Nw.use (A := args) rfl (X.2.1.2.2.2.2 _ y2 rfl))
          have hcls := (X.2.1.1 c0 _ y1).2
          have e1 : cx = G.1.1 c0 := Option.some.inj (f1.symm.trans hcls.1)
          subst e1
          obtain ⟨kA, comp, k1, k2, k3, -⟩ := X.2.1.2.2.1 4 (by omega)
          rw [d7] at hkd
          cases hkd.symm.trans k1
          cases hkkd.symm.trans k2
          have e2 : compd = tx := Option.some.inj (k3.symm.trans f2)
          subst e2
          obtain ⟨kC, hkC, -⟩ := hcls.2
          obtain ⟨kE, hkE, -⟩ := Vm.findClass_spec k3
          obtain ⟨kC', hkC', -⟩ := hal.2.2 _ _ hkC
          obtain ⟨kE', hkE', -⟩ := hal.2.2 _ _ hkE
          refine ⟨rfl, cv, (show T.heap[y]? = some cv by rw [hT]; exact q2), (fun q h => by rw [q4] at h; cases h), ⟨kC', by rw [q3]; exact hkC'⟩, ⟨kE', hkE'⟩, ?_⟩
          show vm₁.assignable _ _ = true
          rw [hal.assignable, q3]
          exact f3)
    (g := F0 m pc ls ((iV m0 :: iV dp :: rV (b1 + 1) :: iV sp :: rV (b0 + 1) :: st).map vv)) rfl (by rw [X.1.2.2.1]; exact V.2.2.2.2.1) (rest := st.map vv) rfl (by rw [hb]; exact hd) (by omega) (by show 2 * 0 + _ + _ ≤ _; rw [wd_sum]; omega)
  have hbl : b1 < H.size := (Array.getElem?_eq_some_iff.mp d1).1
  have hab : gB G ≤ b1 := d8 hk1
  have ec : copied cs cd sp dp m0 = cd.storeRun (ix dp) (cs.stretch (ix sp) (ix m0)) := rfl
  obtain ⟨w1, w2, w3, -, -⟩ := cd.storeRun_facts (ix dp) (cs.stretch (ix sp) (ix m0))
  have hheap : ((T.setVm vm').setCell b1 (copied cs cd sp dp m0)).heap = H.setIfInBounds b1 (copied cs cd sp dp m0) := by rw [← hT]; rfl
  have oq : ∀ q : Nat, q ≠ b1 → (H.setIfInBounds b1 (copied cs cd sp dp m0))[q]? = H[q]? := fun q hq => by simp [Array.getElem?_setIfInBounds, Ne.symm hq]
  have hsl : ∀ j, j < ln h (b1 + 1) → (copied cs cd sp dp m0).slots[j]? = some (eV h' (b1 + 1) t j) := fun j hj => by
    rw [ec, Cell.storeRun_get _ _ _ _ (by rw [Cell.stretch_length, d5]; exact g5), Cell.stretch_length, hnew]
    by_cases y : ix dp ≤ j ∧ j < ix dp + ix m0
    · rw [if_pos y, if_pos y]
      have : (cs.stretch (ix sp) (ix m0))[j - ix dp]? = some (cs.slots.getD (ix sp + (j - ix dp)) .null) := by simp [Cell.stretch, show j - ix dp < ix m0 by omega]
      rw [this, hv _ (by omega)]
    · rw [if_neg y, if_neg y]; exact d6 j hj
  have hby : byF h' (b1 + 1) t := by
    intro z j hj
    rw [e0.2.2.1] at hj
    have e1 := hnew j
    subst z
    have e2 : ∀ (g : Hp) (b j : Nat), eV g b 2 j = .int (eI g b j) := fun _ _ _ => rfl
    rw [e2, e2, e2] at e1
    rw [e1]
    by_cases y : ix dp ≤ j ∧ j < ix dp + ix m0
    · rw [if_pos y]; exact by0 rfl _ (by omega)
    · rw [if_neg y]; exact by1 rfl j hj
  have P := V.2.2.1.arr (cell := copied cs cd sp dp m0) (h' := h') hk1 (by omega) e0 (fun b t j hb => he b t j hb) (show (H.setIfInBounds b1 (copied cs cd sp dp m0))[b1]? = some _ by simp [Array.getElem?_setIfInBounds, hbl]) ⟨by rw [ec, w1]; exact d7, by rw [ec, w2]; exact d3, by rw [ec, w2]; exact d4, by rw [ec, w3]; exact d5, hsl⟩ hby (by simp) oq
  obtain ⟨t', a1', b1'⟩ := kk G p l e R s m args below meth c mc ms Z _ _ cells slots ls X ⟨V.1, V.2.1, P, ⟨by simp; exact V.2.2.2.1.1, fun q z1 z2 => by
      rw [oq q (fun e => z2 (by rw [e]; exact hab))]
      exact V.2.2.2.1.2.1 q z1 z2, fun q hq => by
      rcases List.mem_append.mp hq with h | h
      · exact V.2.2.2.1.2.2 q h
      · obtain ⟨z, -, hz⟩ := List.mem_map.mp h
        rw [← hz]
        exact hab⟩, V.2.2.2.2⟩ _ hheap X'
  exact ⟨t', step t' a1', b1'⟩
theorem r_copyR {idx a0 a1 c0 : Nat} {sp dp m0 : Int32} {R0 : String} {T0 : u_T} {N0 : Nat} (hl : Cond.methodLink (mY M).cls idx arraycopyName ∈ lw_all) (hd : decode (mC M) pc = .ok (.invokestatic idx, 3)) (hq : pc + 3 = q) (hk0 : kd h a0 = 65 ∨ kd h a0 = 75) (hk1 : kd h a1 = 65) (g1 : ¬ sp < 0) (g2 : ¬ dp < 0) (g3 : ¬ m0 < 0) (g4 : ix sp + ix m0 ≤ ln h a0) (g5 : ix dp + ix m0 ≤ ln h a1) (hok : (Nat.ble 1 (mD M) && Nat.ble (st.map wd).sum 8) = true)
    (hc : xcl[c0]? = some (R0, T0, N0)) (hw : Cond.castable R0 "java/lang/Object" ∈ lw_tbl) (hel : ∀ i, i < ix m0 → eR h a0 (ix sp + i) = 0 ∨ kd h (eR h a0 (ix sp + i)) = c0 + 1) (kk : Rn M q lv st (cpR h a0 (ix sp) a1 (ix dp) (ix m0)) k n Q E) : Rn M pc lv (iV m0 :: iV dp :: rV a1 :: iV sp :: rV a0 :: st) h k n Q E := by
  subst hq
  intro G p l e R s m args below meth c mc ms Z H locs cells slots ls X V
  refine x_copy (t := 4) (h' := cpR h a0 (ix sp) a1 (ix dp) (ix m0)) X V (Or.inr rfl) hl hd hk0 hk1 g1 g2 g3 g4 g5 hok (fun _ => ⟨c0, R0, T0, N0, hc, hw, hel⟩) ⟨rfl, rfl, rfl, rfl, fun _ _ => rfl⟩ (fun b t j hb => ?_) (fun j => ?_) kk
  · show (if t = 1 then Value.long (eJ h b j) else if t = 4 then vr (cp2 (eR h) a0 (ix sp) a1 (ix dp) (ix m0) b j) else .int (eI h b j)) = _
    unfold cp2
    simp only [hb, false_and, if_false]
    rfl
  · show vr (cp2 (eR h) a0 (ix sp) a1 (ix dp) (ix m0) a1 j) = _
    unfold cp2
    by_cases c : ix dp ≤ j ∧ j < ix dp + ix m0
    · rw [if_pos ⟨rfl, c⟩, if_pos c]; rfl
    · rw [if_neg (fun z => c z.2), if_neg c]; rfl
theorem r_copyB {idx a0 a1 : Nat} {sp dp m0 : Int32} (hl : Cond.methodLink (mY M).cls idx arraycopyName ∈ lw_all) (hd : decode (mC M) pc = .ok (.invokestatic idx, 3)) (hq : pc + 3 = q) (hk0 : kd h a0 = 63 ∨ kd h a0 = 73) (hk1 : kd h a1 = 63) (g1 : ¬ sp < 0) (g2 : ¬ dp < 0) (g3 : ¬ m0 < 0) (g4 : ix sp + ix m0 ≤ ln h a0) (g5 : ix dp + ix m0 ≤ ln h a1) (hok : (Nat.ble 1 (mD M) && Nat.ble (st.map wd).sum 8) = true)
    (kk : Rn M q lv st (cpI h a0 (ix sp) a1 (ix dp) (ix m0)) k n Q E) : Rn M pc lv (iV m0 :: iV dp :: rV a1 :: iV sp :: rV a0 :: st) h k n Q E := by
  subst hq
  intro G p l e R s m args below meth c mc ms Z H locs cells slots ls X V
  refine x_copy (t := 2) (h' := cpI h a0 (ix sp) a1 (ix dp) (ix m0)) X V (Or.inl rfl) hl hd hk0 hk1 g1 g2 g3 g4 g5 hok (fun z => absurd z (by decide)) ⟨rfl, rfl, rfl, rfl, fun _ _ => rfl⟩ (fun b t j hb => ?_) (fun j => ?_) kk
  · show (if t = 1 then Value.long (eJ h b j) else if t = 4 then vr (eR h b j) else .int (cp2 (eI h) a0 (ix sp) a1 (ix dp) (ix m0) b j)) = _
    unfold cp2
    simp only [hb, false_and, if_false]
    rfl
  · show Value.int (cp2 (eI h) a0 (ix sp) a1 (ix dp) (ix m0) a1 j) = _
    unfold cp2
    by_cases c : ix dp ≤ j ∧ j < ix dp + ix m0
    · rw [if_pos ⟨rfl, c⟩, if_pos c]; rfl
    · rw [if_neg (fun z => c z.2), if_neg c]; rfl
/-- the class of an array of objects, and the constant of that class -/
theorem r_getC {idx a : Nat} (hl : Cond.methodLink (mY M).cls idx ⟨"java/lang/Object", "getClass", "()Ljava/lang/Class;"⟩ ∈ lw_all) (hd : decode (mC M) pc = .ok (.invokevirtual idx, 3)) (hq : pc + 3 = q) (hk : kd h a = 65 ∨ kd h a = 75) (hok : (Nat.ble 1 (mD M) && Nat.ble (st.map wd).sum 8) = true) (kk : Rn M q lv (rV (kc h 20) :: st) h k n Q E) : Rn M pc lv (rV a :: st) h k n Q E := by
  subst hq
  intro G p l e R s m args below meth c mc ms Z H locs cells slots ls X V
  obtain ⟨o1, o2⟩ := Bool.and_eq_true_iff.mp hok
  have o1 := Nat.le_of_ble_eq_true o1
  have o2 := Nat.le_of_ble_eq_true o2
  have x1 := X.2.2.2.2.2.2.1
  have x2 := X.2.2.2.2.2.2.2.1
  obtain ⟨b0, cs, rfl, c1, c2, c3, c4, c5, c6, c7, -⟩ := arr_at (t := 4) X.2.1 V.2.2.1 (by omega) hk
  obtain ⟨kA, comp, k1, k2, k3, k4⟩ := X.2.1.2.2.1 4 (by omega)
  have K := X.2.1.2.2.2.1.2.2.2.2.2.2
  have ek := V.2.2.1.2.1.2.1
  have K2 := kk G p l e R s m args below meth c mc ms Z H locs cells slots ls X V
  have e20 : vv (rV (kc h 20)) = Value.ref (gK G 20 - 1) := by rw [ek]; exact vr_ref K.2
  rw [show (rV (kc h 20) :: st).map vv = Value.ref (gK G 20 - 1) :: st.map vv by rw [← e20]; rfl] at K2
  exact va_getC X.1.1 X.1.2.1 (by rw [X.1.2.2.1]; exact V.2.2.2.2.1.symm) X.1.2.2.2.1 (X.1.2.2.2.2 _ hl) (va_Nw.use rfl (X.2.1.2.2.2.2 _ q1933 rfl)) (X.1.2.2.2.2 _ q1932) (X.1.2.2.2.2 _ q460) (X.1.2.2.2.2 _ q477) K.1 ⟨cs, c1, c3, by rw [c7]; exact k4⟩ (by omega) (by rw [wd_sum]; omega) hd K2
theorem r_ldcM {idx : Nat} (hl : Cond.classLink (mY M).cls idx "[Ljava/lang/Object;" ∈ lw_all) (hd : decode (mC M) pc = .ok (.ldc idx, 2)) (hq : pc + 2 = q) (kk : Rn M q lv (rV (kc h 20) :: st) h k n Q E) : Rn M pc lv st h k n Q E := by
  subst hq
  intro G p l e R s m args below meth c mc ms Z H locs cells slots ls X V
  have K := X.2.1.2.2.2.1.2.2.2.2.2.2
  have ek := V.2.2.1.2.1.2.1
  have K2 := kk G p l e R s m args below meth c mc ms Z H locs cells slots ls X V
  have e20 : vv (rV (kc h 20)) = Value.ref (gK G 20 - 1) := by rw [ek]; exact vr_ref K.2
  rw [show (rV (kc h 20) :: st).map vv = Value.ref (gK G 20 - 1) :: st.map vv by rw [← e20]; rfl] at K2
  exact va_ldcM X.1.1 X.1.2.1 X.1.2.2.2.1 (X.1.2.2.2.2 _ hl) K.1 hd K2
end ROWS2
/-- things of one class, or none -/
def HomR (h : Hp) (a sp m : Nat) : Prop := ∃ (c0 : Nat) (R0 : String) (T0 : u_T) (N0 : Nat), xcl[c0]? = some (R0, T0, N0) ∧ Cond.castable R0 "java/lang/Object" ∈ lw_tbl ∧ ∀ i, i < m → eR h a (sp + i) = 0 ∨ kd h (eR h a (sp + i)) = c0 + 1
def OkR (h : Hp) (b : Nat) : Prop := ∃ (c0 : Nat) (R0 : String) (T0 : u_T) (N0 : Nat), xcl[c0]? = some (R0, T0, N0) ∧ Cond.castable R0 "java/lang/Object" ∈ lw_tbl ∧ kd h b = c0 + 1
def CpR (h : Hp) (a0 a1 : Nat) (sp dp m0 : Int32) : Prop := (kd h a0 = 65 ∨ kd h a0 = 75) ∧ kd h a1 = 65 ∧ ¬ sp < 0 ∧ ¬ dp < 0 ∧ ¬ m0 < 0 ∧ ix sp + ix m0 ≤ ln h a0 ∧ ix dp + ix m0 ≤ ln h a1 ∧ HomR h a0 (ix sp) (ix m0)
def CpB (h : Hp) (a0 a1 : Nat) (sp dp m0 : Int32) : Prop := (kd h a0 = 63 ∨ kd h a0 = 73) ∧ kd h a1 = 63 ∧ ¬ sp < 0 ∧ ¬ dp < 0 ∧ ¬ m0 < 0 ∧ ix sp + ix m0 ≤ ln h a0 ∧ ix dp + ix m0 ≤ ln h a1
section ROWS3
variable {M M' : MI} {pc q : Nat} {lv : List (Nat × AV)} {st stk : List AV} {h : Hp} {k n k1 n1 k2 n2 : Nat} {Q : AV → Hp → Prop} {E : Nat → Hp → Prop}
theorem r_aastG {a b : Nat} {i : Int32} (hd : decode (mC M) pc = .ok (.aastore, 1)) (hq : pc + 1 = q) (hk : kd h a = 65) (hi : vp_in i (ln h a)) (hb : OkR h b) (kk : Rn M q lv st (sR h a (ix i) b) k n Q E) : Rn M pc lv (rV b :: iV i :: rV a :: st) h k n Q E := by
  obtain ⟨c0, R0, T0, N0, g1, g2, g3⟩ := hb
  exact r_aast hd hq hk hi g3 g1 g2 kk
theorem r_copyRG {idx a0 a1 : Nat} {sp dp m0 : Int32} (hl : Cond.methodLink (mY M).cls idx arraycopyName ∈ lw_all) (hd : decode (mC M) pc = .ok (.invokestatic idx, 3)) (hq : pc + 3 = q) (hok : (Nat.ble 1 (mD M) && Nat.ble (st.map wd).sum 8) = true) (hc : CpR h a0 a1 sp dp m0) (kk : Rn M q lv st (cpR h a0 (ix sp) a1 (ix dp) (ix m0)) k n Q E) : Rn M pc lv (iV m0 :: iV dp :: rV a1 :: iV sp :: rV a0 :: st) h k n Q E := by
  obtain ⟨g1, g2, g3, g4, g5, g6, g7, c0, R0, T0, N0, g8, g9, g10⟩ := hc
  exact r_copyR hl hd hq g1 g2 g3 g4 g5 g6 g7 hok g8 g9 g10 kk
theorem r_copyBG {idx a0 a1 : Nat} {sp dp m0 : Int32} (hl : Cond.methodLink (mY M).cls idx arraycopyName ∈ lw_all) (hd : decode (mC M) pc = .ok (.invokestatic idx, 3)) (hq : pc + 3 = q) (hok : (Nat.ble 1 (mD M) && Nat.ble (st.map wd).sum 8) = true) (hc : CpB h a0 a1 sp dp m0) (kk : Rn M q lv st (cpI h a0 (ix sp) a1 (ix dp) (ix m0)) k n Q E) : Rn M pc lv (iV m0 :: iV dp :: rV a1 :: iV sp :: rV a0 :: st) h k n Q E := by
  obtain ⟨g1, g2, g3, g4, g5, g6, g7⟩ := hc
  exact r_copyB hl hd hq g1 g2 g3 g4 g5 g6 g7 hok kk
theorem r_alen2 {a t : Nat} (hd : decode (mC M) pc = .ok (.arraylength, 1)) (hq : pc + 1 = q) (ht : t < 6) (hk : kd h a = 61 + t ∨ kd h a = 71 + t) (kk : Rn M q lv (iV (nI (ln h a)) :: st) h k n Q E) : Rn M pc lv (rV a :: st) h k n Q E := r_alen hd hq ht hk kk
end ROWS3
