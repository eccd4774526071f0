/-! rows: fields, arrays, new cells -/
set_option maxRecDepth 100000
/-- a field's type code and its type fit -/
def fty (t : Nat) (ty : FieldType) : Bool := match ty with
  | .int => t == 0
  | .boolean => t == 0
  | .byte => t == 0
  | .char => t == 0
  | .short => t == 0
  | .long => t == 1
  | .object _ => t == 2
  | .array _ => t == 2
  | _ => false
def ClOk (c : Nat) (R : String) (T : u_T) (N : Nat) (ty : Nat → FieldType) : Prop :=
  xcl[c]? = some (R, T, N) ∧ (∀ w ∈ u_ws R T N, w ∈ lw_all) ∧ (∀ k, k < N → parseFieldDescriptor (T k).2.2.1 = some (ty k)) ∧ (∀ a, a < N → ∀ b, b < N → a ≠ b → (T a).2.1 ≠ (T b).2.1) ∧ (fl c).length = N ∧
  ∀ (k : Nat) (q : Nat × Nat), (fl c)[k]? = some q → q.2 = 100 * c + k ∧ fty q.1 (ty k) = true
theorem fl_ok {c : Nat} {ty : Nat → FieldType} (h : (fl c).zipIdx.all (fun x => x.1.2 == 100 * c + x.2 && fty x.1.1 (ty x.2)) = true) : ∀ (k : Nat) (q : Nat × Nat), (fl c)[k]? = some q → q.2 = 100 * c + k ∧ fty q.1 (ty k) = true := by
  intro k q hk
  have h1 : (q, k) ∈ (fl c).zipIdx := List.mk_mem_zipIdx_iff_getElem?.mpr hk
  have h2 := List.all_eq_true.mp h (q, k) h1
  simpa using h2
theorem ClOk.lt {c : Nat} {R : String} {T : u_T} {N : Nat} {ty : Nat → FieldType} (h : ClOk c R T N ty) : c < 14 := (List.getElem?_eq_some_iff.mp h.1).1
/-- a link to a field: of the class numbered c, its k-th, type code t, number f -/
def FLk (own : String) (idx c k t f : Nat) (ty : FieldType) (fin : Bool) : Prop := ∃ (R : String) (T : u_T) (N : Nat) (tyf : Nat → FieldType) (ref : String), ClOk c R T N tyf ∧ k < N ∧ (fl c)[k]? = some (t, f) ∧ tyf k = ty ∧ (T k).2.2.2 = fin ∧
  (Cond.fieldLink own idx ref (T k).2.1 (T k).2.2.1 ∈ lw_all ∨ ∃ host, Cond.fieldLinkNest own idx ref (T k).2.1 (T k).2.2.1 host ∈ lw_tbl) ∧ (ref = (T k).1 ∨ Cond.sameField ref (T k).1 (T k).2.1 (T k).2.2.1 ∈ lw_all)
/-- a final field's own class -/
def FOk (own : String) (c j : Nat) : Prop := ∀ q : vw_C, xcl[c]? = some q → (q.2.1 j).1 = own
theorem fvl_pI (h : Hp) (f a : Nat) (v : Int32) (b : Nat) (q : Nat × Nat) : fvl (pI h f a v) b q = if q.1 = 0 ∧ q.2 = f ∧ b = a then .int v else fvl h b q := by
  unfold fvl
  by_cases h0 : q.1 = 0
  · by_cases h1 : q.2 = f ∧ b = a
    · simp [h0, h1, pI, gI, up2]
    · simp only [h0, if_true, true_and]
      rw [if_neg h1]
      simp [pI, gI, up2, h1]
  · simp [h0, pI, gJ, gR]
theorem fvl_pJ (h : Hp) (f a : Nat) (v : Int64) (b : Nat) (q : Nat × Nat) : fvl (pJ h f a v) b q = if q.1 = 1 ∧ q.2 = f ∧ b = a then .long v else fvl h b q := by
  unfold fvl
  by_cases h0 : q.1 = 1
  · by_cases h1 : q.2 = f ∧ b = a
    · simp [h0, h1, pJ, gJ, up2]
    · simp only [h0, if_true, true_and, Nat.one_ne_zero, if_false]
      rw [if_neg h1]
      simp [pJ, gJ, up2, h1]
  · simp [h0, pJ, gI, gR]
theorem fvl_pR (h : Hp) (f a v b : Nat) (q : Nat × Nat) : fvl (pR h f a v) b q = if (¬ q.1 = 0 ∧ ¬ q.1 = 1) ∧ q.2 = f ∧ b = a then vr v else fvl h b q := by
  unfold fvl
  by_cases h0 : q.1 = 0
  · simp [h0, pR, gI]
  · by_cases h2 : q.1 = 1
    · simp [h2, pR, gJ]
    · by_cases h1 : q.2 = f ∧ b = a
      · simp [h0, h2, h1, pR, gR, up2]
      · simp only [h0, h2, if_false, not_false_eq_true, true_and]
        rw [if_neg h1]
        simp [pR, gR, up2, h1]
/-- a field set to a value of any kind -/
def pV (h : Hp) (f a : Nat) (v : AV) : Hp := match v with
  | .inl x => pI h f a x
  | .inr (.inl x) => pJ h f a x
  | .inr (.inr x) => pR h f a x
/-- the type code of a value -/
def tcd (v : AV) : Nat := match v with
  | .inl _ => 0
  | .inr (.inl _) => 1
  | .inr (.inr _) => 2
theorem fvl_pV (h : Hp) (f a : Nat) (v : AV) (b : Nat) (q : Nat × Nat) (h3 : q.1 < 3) : fvl (pV h f a v) b q = if q.1 = tcd v ∧ q.2 = f ∧ b = a then vv v else fvl h b q := by
  rcases v with x | x | x
  · exact fvl_pI h f a x b q
  · exact fvl_pJ h f a x b q
  · show fvl (pR h f a x) b q = _
    rw [fvl_pR]
    have e : (¬ q.1 = 0 ∧ ¬ q.1 = 1) ↔ q.1 = tcd (rV x) := by show _ ↔ q.1 = 2; omega
    simp only [e]
    rfl
theorem fvl_pVn (h : Hp) {f a : Nat} (v : AV) {b : Nat} (q : Nat × Nat) (hb : b ≠ a) : fvl (pV h f a v) b q = fvl h b q := by
  rcases v with x | x | x
  · show fvl (pI h f a x) b q = _
    rw [fvl_pI]; simp [hb]
  · show fvl (pJ h f a x) b q = _
    rw [fvl_pJ]; simp [hb]
  · show fvl (pR h f a x) b q = _
    rw [fvl_pR]; simp [hb]
theorem pV_nx (h : Hp) (f a : Nat) (v : AV) : nx (pV h f a v) = nx h := by rcases v with x | x | x <;> rfl
theorem pV_kd (h : Hp) (f a : Nat) (v : AV) : kd (pV h f a v) = kd h := by rcases v with x | x | x <;> rfl
theorem pV_kc (h : Hp) (f a : Nat) (v : AV) : kc (pV h f a v) = kc h := by rcases v with x | x | x <;> rfl
theorem pV_ln (h : Hp) (f a : Nat) (v : AV) : ln (pV h f a v) = ln h := by rcases v with x | x | x <;> rfl
theorem pV_eV (h : Hp) (f a : Nat) (v : AV) (b t j : Nat) : eV (pV h f a v) b t j = eV h b t j := by rcases v with x | x | x <;> rfl
theorem fty_lt {t : Nat} {ty : FieldType} (h : fty t ty = true) : t < 3 := by
  cases ty <;> simp [fty] at h <;> omega
theorem fl_map {c : Nat} {f : Nat × Nat → Value} {k : Nat} {q : Nat × Nat} (h : (fl c)[k]? = some q) : vp_V ((fl c).map f) k = f q := by
  unfold vp_V
  rw [List.getD_eq_getElem?_getD, List.getElem?_map, h]
  rfl
/-- where the cell isn't touched -/
theorem cAt.kept {G : Wd} {h h' : Hp} {H H' : Heap} {a : Nat} (C : cAt G h H a) (hH : H'[a]? = H[a]?) (hk : kd h' (a + 1) = kd h (a + 1)) (hf : ∀ q, fvl h' (a + 1) q = fvl h (a + 1) q) (hl : ln h' (a + 1) = ln h (a + 1)) (he : ∀ t j, eV h' (a + 1) t j = eV h (a + 1) t j) : cAt G h' H' a := by
  obtain ⟨c1, c2, c3, c4⟩ := C
  have hfl : ∀ c, (fl c).map (fvl h' (a + 1)) = (fl c).map (fvl h (a + 1)) := fun c => List.map_congr_left fun q _ => hf q
  have ka : ∀ t, aAt G h H a t → aAt G h' H' a t := by
    rintro t ⟨cl, g1, g2, g3, g4, g5, g6⟩
    exact ⟨cl, by rw [hH]; exact g1, g2, g3, g4, by rw [hl]; exact g5, fun j hj => by rw [he]; exact g6 j (by rw [← hl]; exact hj)⟩
  have kb : ∀ t, byF h (a + 1) t → byF h' (a + 1) t := fun t hb z j hj => by
    have hj' : j < ln h (a + 1) := by rw [← hl]; exact hj
    have h0 := he t j
    have h1 := hb z j hj'
    subst z
    have h2 : Value.int (eI h' (a + 1) j) = .int (eI h (a + 1) j) := h0
    rw [h2]; exact h1
  refine ⟨fun c e z => ⟨?_, (c1 c (hk ▸ e) z).2⟩, fun c e z => ?_, fun t e z => ⟨⟨ka t (c3 t (hk ▸ e) z).1.1, kb t (c3 t (hk ▸ e) z).1.2⟩, (c3 t (hk ▸ e) z).2⟩, fun t e z => ⟨ka t (c4 t (hk ▸ e) z).1, kb t (c4 t (hk ▸ e) z).2⟩⟩
  · unfold oAt
    rw [hfl]
    exact va_at.kept (c1 c (hk ▸ e) z).1 hH
  · obtain ⟨cell, g1, g2, g3, g4, g5⟩ := c2 c (hk ▸ e) z
    exact ⟨cell, by rw [hH]; exact g1, g2, g3, g4, fun k q hq => by rw [hf]; exact g5 k q hq⟩
theorem Rp.pos {G : Wd} {h : Hp} {H : Heap} (R : Rp G h H) {a : Nat} (hk : kd h a ≠ 0) : ∃ b, a = b + 1 ∧ b < H.size := by
  obtain ⟨r1, -, r3, r4, -⟩ := R
  cases a with
  | zero => exact absurd r3 hk
  | succ b =>
    refine ⟨b, rfl, ?_⟩
    rcases Nat.lt_or_ge b H.size with z | z
    · exact z
    · exact absurd (r4 (b + 1) (by omega)) hk
theorem Rp.put {G : Wd} {h : Hp} {H H' : Heap} {a c j t f : Nat} {v : AV} {R : String} {T : u_T} {N : Nat} {ty : Nat → FieldType} {cell : Cell} (P : Rp G h H) (hk : kd h (a + 1) = c + 1) (hC : ClOk c R T N ty) (hj : (fl c)[j]? = some (t, f)) (hv : t = tcd v)
    (hap : ∀ x y, x < N → y < N → x ≠ y → G.1.2 c x ≠ G.1.2 c y) (e0 : H[a]? = some cell) (e1 : H'[a]? = some (cell.setSlot (G.1.2 c j) (vv v))) (e2 : H'.size = H.size) (e3 : ∀ q, q ≠ a → H'[q]? = H[q]?) : Rp G (pV h f (a + 1) v) H' := by
  have hc := hC.lt
  obtain ⟨r1, r2, r3, r4, r5⟩ := P
  have hab : gB G ≤ a := ((r5 a).1 c hk (by omega)).2
  refine ⟨by rw [e2, pV_nx]; exact r1, ⟨by rw [e2]; exact r2.1, by rw [pV_kc]; exact r2.2.1, fun b hb => (e3 b (by omega)).trans (r2.2.2 b hb)⟩, by rw [pV_kd]; exact r3, fun b hb => by rw [pV_kd]; rw [pV_nx] at hb; exact r4 b hb, fun b => ?_⟩
  by_cases hb : b = a
  · subst hb
    obtain ⟨c1, c2, c3, c4⟩ := r5 b
    refine ⟨fun c' e z => ?_, fun c' e z => ?_, fun t' e z => ?_, fun t' e z => ?_⟩
    · rw [pV_kd, hk] at e
      have : c' = c := by omega
      subst this
      obtain ⟨o1, o2⟩ := c1 c' hk z
      refine ⟨?_, o2⟩
      obtain ⟨r, q1, cl, q2, q3, q4, q5⟩ := o1
      have hr : r = (R, T, N) := Option.some.inj (q1.symm.trans hC.1)
      subst hr
      cases e0.symm.trans q2
      refine ⟨_, hC.1, _, e1, q3, q4, fun i hi => ?_⟩
      have hjN : j < N := by rw [← hC.2.2.2.2.1]; exact (List.getElem?_eq_some_iff.mp hj).1
      rw [t_set q5 hap hjN (vv v) i hi]
      obtain ⟨q, hq⟩ : ∃ q, (fl c')[i]? = some q := ⟨_, List.getElem?_eq_getElem (by rw [hC.2.2.2.2.1]; exact hi)⟩
      obtain ⟨f1, f2⟩ := hC.2.2.2.2.2 i q hq
      obtain ⟨f3, f4⟩ := hC.2.2.2.2.2 j _ hj
      simp only at f3
      congr 1
      show updV _ j (vv v) i = vp_V ((fl c').map (fvl (pV h f (b + 1) v) (b + 1))) i
      rw [fl_map hq, fvl_pV _ _ _ _ _ _ (fty_lt f2)]
      unfold updV
      by_cases hij : i = j
      · subst hij
        have hqq : q = (t, f) := Option.some.inj (hq.symm.trans hj)
        rw [if_pos rfl, if_pos (by rw [hqq]; exact ⟨hv, rfl, rfl⟩)]
      · rw [if_neg hij, if_neg (by intro z2; have := z2.2.1; omega)]
        exact fl_map hq
    · rw [pV_kd, hk] at e; omega
    · rw [pV_kd, hk] at e; omega
    · rw [pV_kd, hk] at e; omega
  · exact (r5 b).kept (e3 b hb) (by rw [pV_kd]) (fun q => fvl_pVn h v q (by omega)) (by rw [pV_ln]) (fun t j => pV_eV ..)
/-- an element set -/
def sV (h : Hp) (a i : Nat) (v : AV) : Hp := match v with
  | .inl x => sI h a i x
  | .inr (.inl x) => sJ h a i x
  | .inr (.inr x) => sR h a i x
theorem sV_nx (h : Hp) (f a : Nat) (v : AV) : nx (sV h f a v) = nx h := by rcases v with x | x | x <;> rfl
theorem sV_kd (h : Hp) (f a : Nat) (v : AV) : kd (sV h f a v) = kd h := by rcases v with x | x | x <;> rfl
theorem sV_kc (h : Hp) (f a : Nat) (v : AV) : kc (sV h f a v) = kc h := by rcases v with x | x | x <;> rfl
theorem sV_ln (h : Hp) (f a : Nat) (v : AV) : ln (sV h f a v) = ln h := by rcases v with x | x | x <;> rfl
theorem sV_fvl (h : Hp) (f a : Nat) (v : AV) (b : Nat) (q : Nat × Nat) : fvl (sV h f a v) b q = fvl h b q := by rcases v with x | x | x <;> rfl
/-- the elements' type code of a kind of array -/
def ecd (t : Nat) : Nat := if t = 1 then 1 else if t = 4 then 2 else 0
theorem eV_sV (h : Hp) (a i : Nat) (v : AV) (b t j : Nat) : eV (sV h a i v) b t j = if ecd t = tcd v ∧ b = a ∧ j = i then vv v else eV h b t j := by
  unfold eV ecd
  by_cases h1 : t = 1
  · rcases v with x | x | x
    · simp [h1, sV, sI, eJ, tcd]
    · by_cases hb : b = a ∧ j = i
      · simp [h1, hb, sV, sJ, eJ, tcd, up2, vv]
      · simp only [h1, if_true, tcd, true_and]
        rw [if_neg hb]
        simp [sV, sJ, eJ, up2, hb]
    · simp [h1, sV, sR, eJ, tcd]
  · by_cases h4 : t = 4
    · rcases v with x | x | x
      · simp [h4, sV, sI, eR, tcd]
      · simp [h4, sV, sJ, eR, tcd]
      · by_cases hb : b = a ∧ j = i
        · simp [h4, hb, sV, sR, eR, tcd, up2, vv]
        · have hb2 : ¬ (ecd t = tcd (Sum.inr (Sum.inr x)) ∧ b = a ∧ j = i) := fun z => hb z.2
          unfold ecd at hb2
          rw [if_neg hb2]
          have e1 : eR (sV h a i (Sum.inr (Sum.inr x))) b j = eR h b j := by show up2 (eR h) a i x b j = _; simp only [up2, hb, if_false]
          have e2 : eJ (sV h a i (Sum.inr (Sum.inr x))) b j = eJ h b j := rfl
          have e3 : eI (sV h a i (Sum.inr (Sum.inr x))) b j = eI h b j := rfl
          rw [e1, e2, e3]
    · rcases v with x | x | x
      · by_cases hb : b = a ∧ j = i
        · simp [h1, h4, hb, sV, sI, eI, tcd, up2, vv]
        · simp only [h1, h4, if_false, tcd, true_and]
          rw [if_neg hb]
          simp [sV, sI, eI, up2, hb]
      · simp [h1, h4, sV, sJ, eI, tcd]
      · simp [h1, h4, sV, sR, eI, tcd]
theorem Rp.ast {G : Wd} {h : Hp} {H H' : Heap} {a t i : Nat} {v : AV} {cell : Cell} (P : Rp G h H) (hk : kd h (a + 1) = 61 + t) (ht : t < 10) (hv : ecd t = tcd v) (hi : i < ln h (a + 1)) (hby : t = 2 → fits .byte (vv v) = true)
    (e0 : H[a]? = some cell) (e1 : H'[a]? = some (cell.setSlot i (vv v))) (e2 : H'.size = H.size) (e3 : ∀ q, q ≠ a → H'[q]? = H[q]?) : Rp G (sV h (a + 1) i v) H' := by
  obtain ⟨r1, r2, r3, r4, r5⟩ := P
  have hab : gB G ≤ a := ((r5 a).2.2.1 t hk ht).2
  refine ⟨by rw [e2, sV_nx]; exact r1, ⟨by rw [e2]; exact r2.1, by rw [sV_kc]; exact r2.2.1, fun b hb => (e3 b (by omega)).trans (r2.2.2 b hb)⟩, by rw [sV_kd]; exact r3, fun b hb => by rw [sV_kd]; rw [sV_nx] at hb; exact r4 b hb, fun b => ?_⟩
  by_cases hb : b = a
  · subst hb
    obtain ⟨c1, c2, c3, c4⟩ := r5 b
    refine ⟨fun c' e z => ?_, fun c' e z => ?_, fun t' e z => ?_, fun t' e z => ?_⟩
    · rw [sV_kd, hk] at e; omega
    · rw [sV_kd, hk] at e; omega
    · rw [sV_kd, hk] at e
      have : t' = t := by omega
      subst this
      obtain ⟨⟨⟨cl, q1, q2, q3, q4, q5, q6⟩, ob⟩, o2⟩ := c3 t' hk z
      refine ⟨⟨?_, ?_⟩, o2⟩
      rotate_left
      · intro zt j hj
        rw [sV_ln] at hj
        have h0 := eV_sV h (b + 1) i v (b + 1) t' j
        subst zt
        have h1 : eV (sV h (b + 1) i v) (b + 1) 2 j = .int (eI (sV h (b + 1) i v) (b + 1) j) := rfl
        have h2 : eV h (b + 1) 2 j = .int (eI h (b + 1) j) := rfl
        rw [← h1, h0]
        by_cases hc : ecd 2 = tcd v ∧ b + 1 = b + 1 ∧ j = i
        · rw [if_pos hc]; exact hby rfl
        · rw [if_neg hc, h2]; exact ob rfl j hj
      cases e0.symm.trans q1
      refine ⟨_, e1, q2, q3, q4, by rw [sV_ln, k2_slotsz]; exact q5, fun j hj => ?_⟩
      rw [sV_ln] at hj
      rw [eV_sV]
      by_cases hji : j = i
      · subst hji
        rw [if_pos ⟨hv, rfl, rfl⟩]
        exact Cell.slots_setSlot_self _ (by rw [q5]; exact hj)
      · rw [if_neg (by intro z2; exact hji z2.2.2), slot_ne _ _ (Ne.symm hji)]
        exact q6 j hj
    · rw [sV_kd, hk] at e; omega
  · exact (r5 b).kept (e3 b hb) (by rw [sV_kd]) (fun q => sV_fvl ..) (by rw [sV_ln]) (fun t' j => by rw [eV_sV, if_neg]; intro z; have := z.2.1; omega)
theorem Rp.newO {G : Wd} {h : Hp} {H H' : Heap} {c : Nat} {R : String} {T : u_T} {N : Nat} {ty : Nat → FieldType} (P : Rp G h H) (hC : ClOk c R T N ty) (e1 : t_OB H.size (G.1.1 c) N (G.1.2 c) H' (fun k => defaultValue (ty k))) (e2 : H'.size = H.size + 1) (e3 : ∀ q, q < H.size → H'[q]? = H[q]?) : Rp G (nO h c) H' := by
  have hc := hC.lt
  obtain ⟨r1, r2, r3, r4, r5⟩ := P
  have hk0 : ∀ b, kd (nO h c) b = if b = nx h then c + 1 else kd h b := fun b => rfl
  refine ⟨by rw [e2]; show _ = nx h + 1; omega, ⟨by rw [e2]; exact Nat.le_succ_of_le r2.1, r2.2.1, fun b hb => (e3 b (Nat.lt_of_lt_of_le hb r2.1)).trans (r2.2.2 b hb)⟩, by rw [hk0, if_neg (by omega)]; exact r3, fun b hb => ?_, fun b => ?_⟩
  · have : nx h + 1 ≤ b := hb
    rw [hk0, if_neg (by omega)]
    exact r4 b (by omega)
  · by_cases hb : b = H.size
    · subst hb
      have hk : kd (nO h c) (H.size + 1) = c + 1 := by rw [hk0, if_pos r1]
      refine ⟨fun c' e z => ?_, fun c' e z => ?_, fun t' e z => ?_, fun t' e z => ?_⟩
      · rw [hk] at e
        have : c' = c := by omega
        subst this
        refine ⟨⟨_, hC.1, e1.to fun k hkN => ?_⟩, r2.1⟩
        obtain ⟨q, hq⟩ : ∃ q, (fl c')[k]? = some q := ⟨_, List.getElem?_eq_getElem (by rw [hC.2.2.2.2.1]; exact hkN)⟩
        obtain ⟨f1, f2⟩ := hC.2.2.2.2.2 k q hq
        rw [fl_map hq]
        have z0 : ∀ f, gI (nO h c') f (H.size + 1) = 0 := fun f => by show clr (gI h) (nx h) 0 f (H.size + 1) = 0; unfold clr; rw [if_pos r1]
        have z1 : ∀ f, gJ (nO h c') f (H.size + 1) = 0 := fun f => by show clr (gJ h) (nx h) 0 f (H.size + 1) = 0; unfold clr; rw [if_pos r1]
        have z2 : ∀ f, gR (nO h c') f (H.size + 1) = 0 := fun f => by show clr (gR h) (nx h) 0 f (H.size + 1) = 0; unfold clr; rw [if_pos r1]
        unfold fvl
        rw [z0, z1, z2]
        cases hty : ty k <;> rw [hty] at f2 <;> simp [fty] at f2 <;> simp [f2, defaultValue, vr]
      · rw [hk] at e; omega
      · rw [hk] at e; omega
      · rw [hk] at e; omega
    · rcases Nat.lt_or_ge b H.size with hlt | hge
      · have hne : ¬ b + 1 = nx h := by omega
        refine (r5 b).kept (e3 b hlt) (by rw [hk0, if_neg hne]) (fun q => ?_) rfl (fun t j => rfl)
        unfold fvl
        show (if q.1 = 0 then Value.int (clr (gI h) (nx h) 0 q.2 (b + 1)) else if q.1 = 1 then .long (clr (gJ h) (nx h) 0 q.2 (b + 1)) else vr (clr (gR h) (nx h) 0 q.2 (b + 1))) = _
        simp [clr, hne]
      · have hk : kd (nO h c) (b + 1) = 0 := by rw [hk0, if_neg (by omega)]; exact r4 _ (by omega)
        refine ⟨fun c' e z => ?_, fun c' e z => ?_, fun t' e z => ?_, fun t' e z => ?_⟩ <;> (rw [hk] at e; omega)
theorem Rp.newA {G : Wd} {h : Hp} {H H' : Heap} {t n : Nat} (P : Rp G h H) (ht : t < 5) (e1 : H'[H.size]? = some (arrV (G.2.1 t) n (fun _ => defaultValue (aTy t)))) (e2 : H'.size = H.size + 1) (e3 : ∀ q, q < H.size → H'[q]? = H[q]?) : Rp G (nA h t n) H' := by
  obtain ⟨r1, r2, r3, r4, r5⟩ := P
  have hk0 : ∀ b, kd (nA h t n) b = if b = nx h then 61 + t else kd h b := fun b => rfl
  have hl0 : ∀ b, ln (nA h t n) b = if b = nx h then n else ln h b := fun b => rfl
  refine ⟨by rw [e2]; show _ = nx h + 1; omega, ⟨by rw [e2]; exact Nat.le_succ_of_le r2.1, r2.2.1, fun b hb => (e3 b (Nat.lt_of_lt_of_le hb r2.1)).trans (r2.2.2 b hb)⟩, by rw [hk0, if_neg (by omega)]; exact r3, fun b hb => ?_, fun b => ?_⟩
  · have : nx h + 1 ≤ b := hb
    rw [hk0, if_neg (by omega)]
    exact r4 b (by omega)
  · by_cases hb : b = H.size
    · subst hb
      have hk : kd (nA h t n) (H.size + 1) = 61 + t := by rw [hk0, if_pos r1]
      refine ⟨fun c' e z => ?_, fun c' e z => ?_, fun t' e z => ?_, fun t' e z => ?_⟩
      · rw [hk] at e; omega
      · rw [hk] at e; omega
      · rw [hk] at e
        have : t' = t := by omega
        subst this
        have hbz : byF (nA h t' n) (H.size + 1) t' := fun _ j _ => by
          have z0 : eI (nA h t' n) (H.size + 1) j = 0 := by show cle (eI h) (nx h) 0 (H.size + 1) j = 0; unfold cle; rw [if_pos r1]
          rw [z0]; rfl
        refine ⟨⟨⟨_, e1, rfl, rfl, (fun q => by cases q), by rw [arrV_size, hl0, if_pos r1], fun j hj => ?_⟩, hbz⟩, r2.1⟩
        rw [hl0, if_pos r1] at hj
        rw [arrV_read _ _ hj]
        congr 1
        have z0 : eI (nA h t' n) (H.size + 1) j = 0 := by show cle (eI h) (nx h) 0 (H.size + 1) j = 0; unfold cle; rw [if_pos r1]
        have z1 : eJ (nA h t' n) (H.size + 1) j = 0 := by show cle (eJ h) (nx h) 0 (H.size + 1) j = 0; unfold cle; rw [if_pos r1]
        have z2 : eR (nA h t' n) (H.size + 1) j = 0 := by show cle (eR h) (nx h) 0 (H.size + 1) j = 0; unfold cle; rw [if_pos r1]
        unfold eV
        rw [z0, z1, z2]
        rcases (by omega : t' = 0 ∨ t' = 1 ∨ t' = 2 ∨ t' = 3 ∨ t' = 4) with z | z | z | z | z <;> subst z <;> rfl
      · rw [hk] at e; omega
    · rcases Nat.lt_or_ge b H.size with hlt | hge
      · have hne : ¬ b + 1 = nx h := by omega
        refine (r5 b).kept (e3 b hlt) (by rw [hk0, if_neg hne]) (fun q => rfl) (by rw [hl0, if_neg hne]) (fun t' j => ?_)
        unfold eV
        show (if t' = 1 then Value.long (cle (eJ h) (nx h) 0 (b + 1) j) else if t' = 4 then vr (cle (eR h) (nx h) 0 (b + 1) j) else .int (cle (eI h) (nx h) 0 (b + 1) j)) = _
        simp [cle, hne]
      · have hk : kd (nA h t n) (b + 1) = 0 := by rw [hk0, if_neg (by omega)]; exact r4 _ (by omega)
        refine ⟨fun c' e z => ?_, fun c' e z => ?_, fun t' e z => ?_, fun t' e z => ?_⟩ <;> (rw [hk] at e; omega)
