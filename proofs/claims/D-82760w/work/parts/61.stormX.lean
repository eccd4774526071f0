/-! the component's storm: the heap against the numbers of 59.storm0 -/
set_option maxRecDepth 100000
def vld (nc nr a j : Nat) : Prop := ((a = 14 ∨ a = 16 ∨ a = 17 ∨ a = 18) ∧ j < nc) ∨ (a = 15 ∧ j < nr) ∨ ((a = 19 ∨ a = 20) ∧ j ≤ nc) ∨ ((508 ≤ a ∧ a ≤ 513) ∧ j = 0)
def val (h : Hp) (x a j : Nat) : Int := if a ≤ 20 then (eI h (x + a) j).toInt else if a ≤ 511 then (gJ h a (x + 13)).toInt else (gI h a (x + 13)).toInt
def RX (h : Hp) (x nc nr : Nat) (S : St) : Prop := ∀ a j, vld nc nr a j → val h x a j = S a j
def RXz (h : Hp) (x nc nr : Nat) (S : St) : Prop := ∀ a j, vld nc nr a j → a ≠ 19 → a ≠ 20 → val h x a j = S a j
/-- nothing but scratch has changed since h0 -/
def SC (h0 h : Hp) (x : Nat) : Prop := nx h = nx h0 ∧ kd h = kd h0 ∧ ln h = ln h0 ∧ gR h = gR h0 ∧ eR h = eR h0 ∧ kc h = kc h0 ∧ (∀ f, f ∉ scI → gI h f = gI h0 f) ∧ (∀ f, f ∉ scJ → gJ h f = gJ h0 f) ∧ (∀ a, (∀ o ∈ scA, a ≠ x + o) → eI h a = eI h0 a) ∧ ∀ a, (∀ o ∈ scB, a ≠ x + o) → eJ h a = eJ h0 a
section
variable {h0 h : Hp} {x : Nat}
theorem SC.refl (h : Hp) (x : Nat) : SC h h x := ⟨rfl, rfl, rfl, rfl, rfl, rfl, fun _ _ => rfl, fun _ _ => rfl, fun _ _ => rfl, fun _ _ => rfl⟩
theorem SC.trans {h1 : Hp} (C : SC h0 h1 x) (D : SC h1 h x) : SC h0 h x := by
  obtain ⟨a1, a2, a3, a4, a5, a6, a7, a8, a9, a10⟩ := C
  obtain ⟨b1, b2, b3, b4, b5, b6, b7, b8, b9, b10⟩ := D
  exact ⟨b1.trans a1, b2.trans a2, b3.trans a3, b4.trans a4, b5.trans a5, b6.trans a6, fun f hf => (b7 f hf).trans (a7 f hf), fun f hf => (b8 f hf).trans (a8 f hf), fun a ha => (b9 a ha).trans (a9 a ha), fun a ha => (b10 a ha).trans (a10 a ha)⟩
theorem SC.k (C : SC h0 h x) : kd h = kd h0 := C.2.1
theorem SC.l (C : SC h0 h x) : ln h = ln h0 := C.2.2.1
theorem SC.r (C : SC h0 h x) : gR h = gR h0 := C.2.2.2.1
theorem SC.er (C : SC h0 h x) : eR h = eR h0 := C.2.2.2.2.1
theorem SC.gi (C : SC h0 h x) {f : Nat} (hf : f ∉ scI) : gI h f = gI h0 f := C.2.2.2.2.2.2.1 f hf
theorem SC.gj (C : SC h0 h x) {f : Nat} (hf : f ∉ scJ) : gJ h f = gJ h0 f := C.2.2.2.2.2.2.2.1 f hf
theorem SC.ei (C : SC h0 h x) {a : Nat} (ho : ∀ o ∈ scA, a ≠ x + o) : eI h a = eI h0 a := C.2.2.2.2.2.2.2.2.1 a ho
theorem SC.eiX (C : SC h0 h x) {o : Nat} (ho : o ∉ scA) : eI h (x + o) = eI h0 (x + o) := C.ei fun p hp e => ho (by rw [show o = p by omega]; exact hp)
theorem SC.eiM (C : SC h0 h x) {o : Nat} (ho : 23 + o ∉ scA) : eI h (x + 23 + o) = eI h0 (x + 23 + o) := C.ei fun p hp e => ho (by rw [show 23 + o = p by omega]; exact hp)
theorem SC.ejM (C : SC h0 h x) {o : Nat} (ho : 23 + o ∉ scB) : eJ h (x + 23 + o) = eJ h0 (x + 23 + o) := C.2.2.2.2.2.2.2.2.2 _ fun p hp e => ho (by rw [show 23 + o = p by omega]; exact hp)
theorem SC.e (C : SC h0 h x) : el h = el h0 := by funext a i; unfold el; rw [C.r, C.er]
theorem SC.alg (C : SC h0 h x) (a : Nat) (i : Int32) : ALg h a i = ALg h0 a i := by unfold ALg; rw [C.k, C.r, C.l, C.gi (f := 1102) (by decide)]
theorem SC.qC (C : SC h0 h x) : nC h x = nC h0 x := by unfold nC; rw [C.gi (by decide)]
theorem SC.qR (C : SC h0 h x) : nR h x = nR h0 x := by unfold nR; rw [C.gi (by decide)]
theorem SC.ag (C : SC h0 h x) : Ag h0 h x := ⟨C.2.2.2.2.2.1, Nat.le_of_eq C.1.symm, fun a _ => ⟨by rw [C.k], by rw [C.l], fun f hf => by rw [C.gi hf], fun f hf => by rw [C.gj hf], fun f _ => by rw [C.r], fun i => by rw [C.er], fun ho i => by rw [C.ei ho], fun ho i => by rw [C.2.2.2.2.2.2.2.2.2 a ho]⟩⟩
theorem SC.cp (C : SC h0 h x) (H : CP h0 x) : CP h x := CP_ag C.ag (by unfold ALinj; rw [C.k, C.r]; exact H.pw.2.2.1) H
theorem SC.wI (C : SC h0 h x) {o i : Nat} {v : Int32} (ho : o ∈ scA) : SC h0 (sI h (x + o) i v) x := by
  obtain ⟨a1, a2, a3, a4, a5, a6, a7, a8, a9, a10⟩ := C
  exact ⟨a1, a2, a3, a4, a5, a6, a7, a8, fun a ha => (eI_sI_ne (ha o ho)).trans (a9 a ha), a10⟩
theorem SC.wJ (C : SC h0 h x) {o i : Nat} {v : Int64} (ho : o ∈ scB) : SC h0 (sJ h (x + o) i v) x := by
  obtain ⟨a1, a2, a3, a4, a5, a6, a7, a8, a9, a10⟩ := C
  exact ⟨a1, a2, a3, a4, a5, a6, a7, a8, a9, fun a ha => (eJ_sJ_ne (ha o ho)).trans (a10 a ha)⟩
theorem SC.vI (C : SC h0 h x) {f a : Nat} {v : Int32} (hf : f ∈ scI) : SC h0 (pI h f a v) x := by
  obtain ⟨a1, a2, a3, a4, a5, a6, a7, a8, a9, a10⟩ := C
  exact ⟨a1, a2, a3, a4, a5, a6, fun g hg => (gI_pI_ne (fun e => hg (by rw [← e]; exact hf))).trans (a7 g hg), a8, a9, a10⟩
theorem SC.vJ (C : SC h0 h x) {f a : Nat} {v : Int64} (hf : f ∈ scJ) : SC h0 (pJ h f a v) x := by
  obtain ⟨a1, a2, a3, a4, a5, a6, a7, a8, a9, a10⟩ := C
  exact ⟨a1, a2, a3, a4, a5, a6, a7, fun g hg => (gJ_pJ_ne (fun e => hg (by rw [← e]; exact hf))).trans (a8 g hg), a9, a10⟩
theorem RX.wI {nc nr : Nat} {S : St} (R : RX h x nc nr S) {o j : Nat} {v : Int32} {v' : Int} (ho : o ≤ 20) (hv : v.toInt = v') : RX (sI h (x + o) j v) x nc nr (up2 S o j v') := by
  intro a i ha
  have := R a i ha
  unfold val at this ⊢
  unfold up2
  by_cases c : a ≤ 20
  · rw [if_pos c] at this ⊢
    rw [eI_sI]
    by_cases e : a = o ∧ i = j
    · rw [if_pos e, if_pos (by omega), hv]
    · rw [if_neg e, if_neg (by omega)]; exact this
  · rw [if_neg c] at this ⊢
    rw [if_neg (show ¬ (a = o ∧ i = j) by omega), gJ_sI, gI_sI]
    exact this
theorem vld.zero {nc nr a j : Nat} (v : vld nc nr a j) (h : ¬ a ≤ 20) : j = 0 := by unfold vld at v; omega
theorem RX.vJ {nc nr : Nat} {S : St} (R : RX h x nc nr S) {f : Nat} {v : Int64} {v' : Int} (h1 : 508 ≤ f) (h2 : f ≤ 511) (hv : v.toInt = v') : RX (pJ h f (x + 13) v) x nc nr (up2 S f 0 v') := by
  intro a i ha
  have := R a i ha
  unfold val at this ⊢
  unfold up2
  by_cases c : a ≤ 20
  · rw [if_pos c] at this ⊢
    rw [if_neg (by omega), eI_pJ]; exact this
  · have hz := ha.zero c
    rw [if_neg c] at this ⊢
    by_cases d : a ≤ 511
    · rw [if_pos d] at this ⊢
      rw [gJ_pJ]
      by_cases e : a = f
      · rw [if_pos ⟨e, rfl⟩, if_pos ⟨e, hz⟩, hv]
      · rw [if_neg (fun z => e z.1), if_neg (fun z => e z.1)]; exact this
    · rw [if_neg d] at this ⊢
      rw [if_neg (by omega), gI_pJ]; exact this
theorem RX.vI {nc nr : Nat} {S : St} (R : RX h x nc nr S) {f : Nat} {v : Int32} {v' : Int} (h1 : 512 ≤ f) (hv : v.toInt = v') : RX (pI h f (x + 13) v) x nc nr (up2 S f 0 v') := by
  intro a i ha
  have := R a i ha
  unfold val at this ⊢
  unfold up2
  by_cases c : a ≤ 20
  · rw [if_pos c] at this ⊢
    rw [if_neg (by omega), eI_pI]; exact this
  · have hz := ha.zero c
    rw [if_neg c] at this ⊢
    by_cases d : a ≤ 511
    · rw [if_pos d] at this ⊢
      rw [if_neg (by omega), gJ_pI]; exact this
    · rw [if_neg d] at this ⊢
      rw [gI_pI]
      by_cases e : a = f
      · rw [if_pos ⟨e, rfl⟩, if_pos ⟨e, hz⟩, hv]
      · rw [if_neg (fun z => e z.1), if_neg (fun z => e z.1)]; exact this
theorem RX.e {nc nr : Nat} {S : St} (R : RX h x nc nr S) {a j : Nat} (ha : vld nc nr a j) (h1 : a ≤ 20) : (eI h (x + a) j).toInt = S a j := by have := R a j ha; unfold val at this; rw [if_pos h1] at this; exact this
theorem RX.j {nc nr : Nat} {S : St} (R : RX h x nc nr S) {a : Nat} (h1 : 508 ≤ a) (h2 : a ≤ 511) : (gJ h a (x + 13)).toInt = S a 0 := by have := R a 0 (Or.inr (Or.inr (Or.inr ⟨⟨h1, by omega⟩, rfl⟩))); unfold val at this; rw [if_neg (by omega), if_pos h2] at this; exact this
theorem RX.i {nc nr : Nat} {S : St} (R : RX h x nc nr S) {a : Nat} (h1 : 512 ≤ a) (h2 : a ≤ 513) : (gI h a (x + 13)).toInt = S a 0 := by have := R a 0 (Or.inr (Or.inr (Or.inr ⟨⟨by omega, h2⟩, rfl⟩))); unfold val at this; rw [if_neg (by omega), if_neg (by omega)] at this; exact this
/-- scratch alone, this set, these numbers -/
def WX (h0 h : Hp) (x : Nat) (s : Int32) (S : St) : Prop := SC h0 h x ∧ gI h 507 (x + 13) = s ∧ RX h x (nC h0 x) (nR h0 x) S
def WXz (h0 h : Hp) (x : Nat) (s : Int32) (S : St) : Prop := SC h0 h x ∧ gI h 507 (x + 13) = s ∧ RXz h x (nC h0 x) (nR h0 x) S
theorem WX.wI {s : Int32} {S : St} (R : WX h0 h x s S) {o j : Nat} {v : Int32} {v' : Int} (ho : o ∈ scA) (h1 : o ≤ 20) (hv : v.toInt = v') : WX h0 (sI h (x + o) j v) x s (up2 S o j v') := ⟨R.1.wI ho, R.2.1, R.2.2.wI h1 hv⟩
theorem WX.vJ {s : Int32} {S : St} (R : WX h0 h x s S) {f : Nat} {v : Int64} {v' : Int} (ho : f ∈ scJ) (h1 : 508 ≤ f) (h2 : f ≤ 511) (hv : v.toInt = v') : WX h0 (pJ h f (x + 13) v) x s (up2 S f 0 v') := ⟨R.1.vJ ho, R.2.1, R.2.2.vJ h1 h2 hv⟩
theorem WX.vI {s : Int32} {S : St} (R : WX h0 h x s S) {f : Nat} {v : Int32} {v' : Int} (ho : f ∈ scI) (h1 : 512 ≤ f) (hv : v.toInt = v') : WX h0 (pI h f (x + 13) v) x s (up2 S f 0 v') := ⟨R.1.vI ho, by rw [gI_pI, if_neg (by omega)]; exact R.2.1, R.2.2.vI h1 hv⟩
theorem up2_up2 {S : St} {a j : Nat} {v w : Int} : up2 (up2 S a j v) a j w = up2 S a j w := by
  funext a' j'
  unfold up2
  by_cases c : a' = a ∧ j' = j
  · rw [if_pos c, if_pos c]
  · rw [if_neg c, if_neg c, if_neg c]
theorem WX.to {s : Int32} {S T : St} (R : WX h0 h x s S) (e : S = T) : WX h0 h x s T := by rw [← e]; exact R
/-- over a filtered range, or over all with a question -/
theorem itr_filter {α : Type} (g : Nat → α → α) (p : Nat → Bool) (s : α) : ∀ m, itr (fun j s => g (((List.range m).filter p).getD j 0) s) 0 ((List.range m).filter p).length s = itr (fun r s => if p r = true then g r s else s) 0 m s
  | 0 => rfl
  | m + 1 => by
    have ih := itr_filter g p s m
    rw [itr_succ, Nat.zero_add, ← ih, List.range_succ, List.filter_append]
    by_cases c : p m = true
    · rw [if_pos c, List.filter_cons_of_pos c, List.filter_nil, List.length_append, List.length_singleton, itr_succ, Nat.zero_add]
      generalize hl : (List.range m).filter p = l
      have e1 : (l ++ [m]).getD l.length 0 = m := by simp [List.getD_eq_getElem?_getD]
      rw [e1]
      congr 1
      refine itr_congr fun j _ hj w => ?_
      rw [List.getD_eq_getElem?_getD, List.getD_eq_getElem?_getD, List.getElem?_append_left (by omega)]
    · have c' : p m = false := by simpa using c
      rw [if_neg c, List.filter_cons_of_neg c, List.filter_nil, List.append_nil]
theorem rfs_getD {ra : Nat → Int32} {m i j : Nat} (hj : j < (rfs ra m i).length) : (rfs ra m i).getD j 0 < m ∧ ra ((rfs ra m i).getD j 0) = nI i := by
  have h1 : (rfs ra m i).getD j 0 ∈ rfs ra m i := by
    rw [List.getD_eq_getElem?_getD, List.getElem?_eq_getElem hj]
    exact List.getElem_mem hj
  unfold rfs at h1
  rw [List.mem_filter, List.mem_range] at h1
  exact ⟨h1.1, of_decide_eq_true h1.2⟩
variable {E : Nat → Hp → Prop} {k n : Nat}
theorem ct_roofsOf (H : CP h0 x) {s : Int32} {S : St} (W : WX h0 h x s S) {i : Nat} (hi : i < nC h0 x) {u : Int32} (hu : bd u 0 50) {N m : Nat} (hN : N ≤ 360) (I : Iv h0 x s N m S) {Q : Int32 → Hp → Prop} (hq : ∀ h' v, WX h0 h' x s (rfA h0 x u.toInt i S).1 → v.toInt = (rfA h0 x u.toInt i S).2 → Q v h') : CtI M_X2_roofsOf [rV (x + 13), rV (el h0 (x + 2) i), iV u] h k n Q E := by
  have D := H.mdb
  have hr30 := D.1.2.1
  have hC := (H.pc i hi).1.1
  obtain ⟨q1, q2, q3, q4⟩ := H.pq i hi
  have hfin : rfA h0 x u.toInt i S = itr (fun j p => rfN h0 x u.toInt ((rfs (eI h0 (x + 23 + 19)) (nR h0 x) i).getD j 0) p) 0 (rfs (eI h0 (x + 23 + 19)) (nR h0 x) i).length (S, 0) := by
    unfold rfs
    rw [itr_filter (fun r p => rfN h0 x u.toInt r p)]
    unfold rfA
    refine itr_congr fun j _ _ w => ?_
    unfold rfF
    by_cases c : eI h0 (x + 23 + 19) j = nI i
    · rw [if_pos c, if_pos (decide_eq_true c)]
    · rw [if_neg c, if_neg (by simp [c])]
  have hlen : (rfs (eI h0 (x + 23 + 19)) (nR h0 x) i).length ≤ nR h0 x := by
    unfold rfs
    have := List.length_filter_le (fun j => decide (eI h0 (x + 23 + 19) j = nI i)) (List.range (nR h0 x))
    rw [List.length_range] at this
    exact this
  rw [hfin] at hq
  have hget : ∀ j, j < (rfs (eI h0 (x + 23 + 19)) (nR h0 x) i).length → _ := fun j hj => rfs_getD hj
  generalize rfs (eI h0 (x + 23 + 19)) (nR h0 x) i = l at q2 q3 hq hlen hget
  refine b_X2_roofsOf_0 (W.1.cp H).xw ?_
  rw [← nI0]
  refine itr_loop (inv := fun j p => ∀ h v, WX h0 h x s p.1 → v.toInt = p.2 → rfP S (nR h0 x) j p → Rn M_X2_roofsOf 5 [(0, rV (x + 13)), (1, rV (el h0 (x + 2) i)), (2, iV u), (3, iV v), (4, iV (nI j))] [] h k n (qI Q) E) (f := fun j p => rfN h0 x u.toInt (l.getD j 0) p) (m := l.length) (s := (S, 0)) (fun j p hj ih h v W hv P => ?_) (fun h v W hv P => ?_) h (nI 0) W (by rw [nI0]; exact toI_0) ⟨fun _ _ _ _ => rfl, I.2.1, Int.le_refl _, by simp, Int.le_refl _, by simp⟩
  · obtain ⟨hr, hra⟩ := hget j hj
    have qj := q3 j hj
    generalize l.getD j 0 = r at hr hra qj ih
    obtain ⟨⟨r1, r2, r3, r4, r5, r6, r7, r8⟩, s1, s2, s3, s4, s5, s6⟩ := H.pr r hr
    have C := W.1
    obtain ⟨b1, b2, b3, b4, b5, b6, b7⟩ := rfI_bd D (u := u.toInt) ⟨hu.1, hu.2⟩ hr (P.2.1 r hr)
    have vr : vp_in (nI r) 30 := vin_nI (by omega) (by decide)
    have er : ix (nI r) = r := ix_nI (by omega)
    have e15 : (eI h (x + 15) r).toInt = p.1 15 r := W.2.2.e (Or.inr (Or.inl ⟨rfl, hr⟩)) (by decide)
    have hal : ALg h0 (gR h0 110 (el h0 (x + 2) i)) (nI j) := q2.g (by rw [nI_toInt (by omega)]; omega) (by rw [nI_toInt (by omega)]; omega)
    refine b_X2_roofsOf_5 (C.cp H).xw ?_
    rw [C.k, C.r, C.gi (f := 1102) (by decide), C.alg, C.e, ix_nI (show j < 2 ^ 31 by omega), qj, q2.2.1]
    refine ⟨hC, q2.1, fun c => ?_, fun _ => ⟨hal, r1, ?_⟩⟩
    · rw [nIle (by omega) (by omega)] at c; omega
    rintro _ rfl
    rw [C.gi (f := 200) (by decide), C.gi (f := 202) (by decide), C.gi (f := 203) (by decide), r2, r5, r6, er]
    have m1 : (u * eI h0 (x + 23 + 21) r).toInt = u.toInt * (eI h0 (x + 23 + 21) r).toInt := i32_mul (by omega) (by omega)
    rintro _ rfl
    refine ⟨vr, ?_⟩
    have m2 : (imin (u * eI h0 (x + 23 + 21) r) (eI h0 (x + 23 + 22) r - eI h (x + 15) r)).toInt = rfI h0 x u.toInt r p.1 := by
      have d1 := s4.1
      have d2 := s4.2
      have d3 := P.2.1 r hr
      rw [imin_toInt, m1, i32_sub (by omega) (by omega), e15]
      rfl
    generalize hin : imin (u * eI h0 (x + 23 + 21) r) (eI h0 (x + 23 + 22) r - eI h (x + 15) r) = inn at m2 ⊢
    rintro inn rfl
    have j508 : (gJ h 508 (x + 13)).toInt = p.1 508 0 := W.2.2.j (by decide) (by decide)
    have p3 := P.2.2.1
    have p4 := P.2.2.2.1
    have p5 := P.2.2.2.2.1
    have p6 := P.2.2.2.2.2
    have i3 := I.2.2.1
    have hj30 : (j : Int) ≤ 30 := by omega
    have hN' : (N : Int) ≤ 360 := by exact_mod_cast hN
    have W1 := W.vJ (f := 508) (v := gJ h 508 (x + 13) + Int32.toInt64 (u * eI h0 (x + 23 + 21) r)) (v' := p.1 508 0 + u.toInt * (eI h0 (x + 23 + 21) r).toInt) (by decide) (by decide) (by decide) (by rw [i64_add (by rw [j508, to64, m1]; omega) (by rw [j508, to64, m1]; omega), j508, to64, m1])
    rintro _ rfl
    have e200 : gI (pJ h 508 (x + 13) (gJ h 508 (x + 13) + Int32.toInt64 (u * eI h0 (x + 23 + 21) r))) 200 (el h0 (x + 3) r) = nI r := by rw [gI_pJ, C.gi (f := 200) (by decide)]; exact r2
    rw [e200, er]
    refine ⟨vr, vr, ?_⟩
    rintro _ rfl _ rfl _ rfl
    rw [nI_add1]
    have W2 := W1.wI (o := 15) (j := r) (v := eI (pJ h 508 (x + 13) (gJ h 508 (x + 13) + Int32.toInt64 (u * eI h0 (x + 23 + 21) r))) (x + 15) r + inn) (v' := p.1 15 r + rfI h0 x u.toInt r p.1) (by decide) (by decide) (by
      rw [eI_pJ]
      have d3 := P.2.1 r hr
      rw [i32_add (by rw [e15, m2]; omega) (by rw [e15, m2]; omega), e15, m2])
    refine ih _ _ W2 ?_ (rfP_step D ⟨hu.1, hu.2⟩ hr P)
    show _ = p.2 + (u.toInt * (eI h0 (x + 23 + 21) r).toInt - rfI h0 x u.toInt r p.1)
    have e1 : (u * eI h0 (x + 23 + 21) r - inn).toInt = u.toInt * (eI h0 (x + 23 + 21) r).toInt - rfI h0 x u.toInt r p.1 := by rw [i32_sub (by rw [m1, m2]; omega) (by rw [m1, m2]; omega), m1, m2]
    rw [i32_add (by rw [e1, hv]; omega) (by rw [e1, hv]; omega), e1, hv]
  · have C := W.1
    refine b_X2_roofsOf_5 (C.cp H).xw ?_
    rw [C.k, C.r, C.gi (f := 1102) (by decide), q2.2.1]
    exact ⟨hC, q2.1, fun _ => hq h v W hv, fun c => absurd (Int32.le_refl _) c⟩
theorem i32_div10 {a : Int32} (ha : 0 ≤ a.toInt) : (a / 10).toInt = a.toInt / 10 := by rw [i32_div ha (by decide), toI_10]
theorem i32_div2 {a : Int32} (ha : 0 ≤ a.toInt) : (a / 2).toInt = a.toInt / 2 := by rw [i32_div ha (by decide), toI_2]
theorem ct_takes (H : CP h0 x) {s : Int32} {S : St} (W : WX h0 h x s S) {i : Nat} (hi : i < nC h0 x) {c : Int32} (hc : bd c 0 1032000) (h14 : 0 ≤ S 14 i ∧ S 14 i ≤ tkC h0 x s i) (hl : tkL h0 x s i c.toInt ≤ c.toInt ∧ 0 ≤ tkL h0 x s i c.toInt) (h509 : 0 ≤ S 509 0 ∧ S 509 0 ≤ 400000000) {Q : Int32 → Hp → Prop} (hq : ∀ h' v, WX h0 h' x s (tkS h0 x s i S c.toInt) → v.toInt = tkI h0 x s i S c.toInt → Q v h') : CtI M_X2_takes [rV (x + 13), rV (el h0 (x + 2) i), iV c] h k n Q E := by
  refine r_wfH fun wf => ?_
  have D := H.mdb
  have hn := D.1.1
  have C := W.1
  have hC := (H.pc i hi).1.1
  have hnum := (H.pc i hi).1.2.1
  have wf0 : wfH h0 := by obtain ⟨w1, w2⟩ := wf; rw [C.k] at w1 w2; rw [C.1] at w2; exact ⟨w1, w2⟩
  obtain ⟨bz, bI⟩ := H.bedI wf0 hi
  have vi : vp_in (nI i) 12 := vin_nI (by omega) (by decide)
  have ei : ix (nI i) = i := ix_nI (by omega)
  have cc := tkC_bd D s hi
  have dd := tkD_bd D s hi
  have hc1 := hc.1
  have hc2 := hc.2
  -- the drinking at the end
  by_cases th : tkH h0 x s i = true
  rotate_left
  · have th' : ¬ eI h0 (x + 23 + 6) i = 0 → False := fun z => th (by unfold tkH; simp [z])
    have hb : eI h0 (x + 23 + 6) i = 0 := by
      by_cases z : eI h0 (x + 23 + 6) i = 0
      · exact z
      · exact (th' z).elim
    have nn : ¬ (shr s (nI i) &&& 1 = 1) := fun z => th (by unfold tkH newS; simp [z])
    have e1 : tkS h0 x s i S c.toInt = S := by unfold tkS; rw [if_neg th]
    have e2 : tkI h0 x s i S c.toInt = 0 := by unfold tkI; rw [if_neg th]
    rw [e1, e2] at hq
    refine b_X2_takes_0 (C.cp H).xw ?_
    rw [C.k, C.gi (f := 100) (by decide), W.2.1, hnum]
    refine ⟨hC, fun _ => ?_, fun z => absurd z nn⟩
    refine b_X2_takes_20 (C.cp H).xw ?_
    rw [C.k, C.r]
    exact ⟨hC, fun z => absurd (bz.mpr hb) z, fun _ => ⟨fun z => absurd rfl z, fun _ => hq h 0 W (by decide)⟩⟩
  have eI1 : tkI h0 x s i S c.toInt = min (tkL h0 x s i c.toInt) (tkC h0 x s i - S 14 i) := by unfold tkI; rw [if_pos th]
  have eS1 : tkS h0 x s i S c.toInt = up2 (up2 S 14 i (S 14 i + tkI h0 x s i S c.toInt - tkV h0 x s i S c.toInt)) 509 0 (S 509 0 + tkV h0 x s i S c.toInt) := by unfold tkS; rw [if_pos th]
  have eV1 : tkV h0 x s i S c.toInt = min (S 14 i + tkI h0 x s i S c.toInt) (tkD h0 x s i) := rfl
  generalize hI : tkI h0 x s i S c.toInt = I0 at hq eI1 eS1 eV1
  generalize hV : tkV h0 x s i S c.toInt = V0 at eS1 eV1
  have k138 : ∀ (h : Hp) (inn d b : Int32), WX h0 h x s (up2 S 14 i (S 14 i + I0)) → inn.toInt = I0 → d.toInt = tkD h0 x s i → b.toInt = S 14 i + I0 → Rn M_X2_takes 138 [(0, rV (x + 13)), (1, rV (el h0 (x + 2) i)), (5, iV inn)] [iV d, iV b] h k n (qI Q) E := by
    intro h inn d b W1 g1 g2 g3
    have C := W1.1
    refine b_X2_takes_138 (C.cp H).xw ?_
    have m1 : (imin b d).toInt = V0 := by rw [imin_toInt, g2, g3, eV1]
    generalize imin b d = v at m1 ⊢
    rintro v rfl
    rw [C.k, C.gi (f := 100) (by decide), hnum, ei]
    refine ⟨hC, vi, vi, ?_⟩
    rintro _ rfl _ rfl
    have e14 : (eI h (x + 14) i).toInt = S 14 i + I0 := (W1.2.2.e (Or.inl ⟨Or.inl rfl, hi⟩) (by decide)).trans up2_at
    have j509 : (gJ h 509 (x + 13)).toInt = S 509 0 := (W1.2.2.j (by decide) (by decide)).trans (up2_ne (Or.inl (by decide)))
    have W2 := W1.wI (o := 14) (j := i) (v := eI h (x + 14) i - v) (v' := S 14 i + I0 - V0) (by decide) (by decide) (by rw [i32_sub (by rw [e14, m1]; omega) (by rw [e14, m1]; omega), e14, m1])
    have W3 := W2.vJ (f := 509) (v := gJ (sI h (x + 14) i (eI h (x + 14) i - v)) 509 (x + 13) + Int32.toInt64 v) (v' := S 509 0 + V0) (by decide) (by decide) (by decide) (by rw [gJ_sI, i64_add (by rw [j509, to64, m1]; omega) (by rw [j509, to64, m1]; omega), j509, to64, m1])
    refine hq _ _ (W3.to ?_) g1
    rw [eS1, up2_up2]
  have k77 : ∀ (cap lets : Int32), cap.toInt = tkC h0 x s i → lets.toInt = tkL h0 x s i c.toInt → Rn M_X2_takes 77 [(0, rV (x + 13)), (1, rV (el h0 (x + 2) i)), (3, iV (b1 (newS s i)))] [iV cap, iV lets] h k n (qI Q) E := by
    intro cap lets g1 g2
    refine b_X2_takes_77 (C.cp H).xw ?_
    rw [C.k, C.gi (f := 100) (by decide), hnum, ei]
    have e14 : (eI h (x + 14) i).toInt = S 14 i := W.2.2.e (Or.inl ⟨Or.inl rfl, hi⟩) (by decide)
    have m1 : (imin lets (cap - eI h (x + 14) i)).toInt = I0 := by rw [imin_toInt, i32_sub (by omega) (by omega), g1, g2, e14, eI1]
    generalize imin lets (cap - eI h (x + 14) i) = inn at m1 ⊢
    refine ⟨hC, vi, ?_⟩
    rintro inn rfl
    refine ⟨vi, vi, ?_⟩
    have m2 : (eI h (x + 14) i + inn).toInt = S 14 i + I0 := by rw [i32_add (by omega) (by omega), e14, m1]
    have W1 := W.wI (o := 14) (j := i) (v := eI h (x + 14) i + inn) (v' := S 14 i + I0) (by decide) (by decide) m2
    generalize hg : sI h (x + 14) i (eI h (x + 14) i + inn) = h1 at W1 ⊢
    have e14' : (eI h1 (x + 14) i).toInt = S 14 i + I0 := (W1.2.2.e (Or.inl ⟨Or.inl rfl, hi⟩) (by decide)).trans up2_at
    rintro h1 rfl
    have C1 := W1.1
    have H1 := C1.cp H
    have wf1 : wfH h1 := by obtain ⟨w1, w2⟩ := wf0; rw [← C1.k] at w1 w2; rw [← C1.1] at w2; exact ⟨w1, w2⟩
    rw [C1.gi (f := 100) (by decide), hnum, ei]
    refine ⟨vi, fun z => ?_, fun z => ?_⟩
    · have nw : newS s i = false := b1_eq0.mp z
      have hb : ¬ eI h0 (x + 23 + 6) i = 0 := by
        intro y
        unfold tkH at th
        simp [y, nw] at th
      have hb1 : ¬ eI h1 (x + 23 + 6) i = 0 := by rw [C1.eiM (by decide)]; exact hb
      have hi1 : i < nC h1 x := by rw [C1.qC]; exact hi
      obtain ⟨t1, t2, t3, t4, t5, t6⟩ := H1.more wf1 hi1 hb1
      obtain ⟨u1, u2, u3⟩ := (H1.bedI wf1 hi1).2 hb1
      rw [C1.e] at t3 t4 u2
      refine ⟨u2, t3, ?_⟩
      refine k138 h1 inn _ _ W1 m1 ?_ e14'
      rw [t4]
      unfold tkD
      rw [if_neg (by rw [nw]; decide)]
      unfold V_X3_drink
      rw [C1.eiM (o := 25) (by decide), C1.eiM (o := 9) (by decide), C1.eiM (o := 12) (by decide)]
    · have nw : newS s i = true := b1_ne0.mp z
      have ex := xwr_drinks H1.xw
      have ek := xwk_drinks H1.xw
      have el := xwl_drinks H1.xw
      rw [ex, ek, el]
      refine ⟨rfl, vp_lit (by decide), ?_⟩
      refine k138 h1 inn _ _ W1 m1 ?_ e14'
      unfold tkD
      rw [if_pos nw]
      have := (H1.pa.1 0 (by decide)).1
      rw [show ix 0 = 0 by decide, this, C1.eiM (o := 25) (by decide)]
  have k57 : ∀ (lets : Int32), lets.toInt = tkL h0 x s i c.toInt → Rn M_X2_takes 57 [(0, rV (x + 13)), (1, rV (el h0 (x + 2) i)), (3, iV (b1 (newS s i)))] [iV lets] h k n (qI Q) E := by
    intro lets g2
    refine b_X2_takes_57 (C.cp H).xw ?_
    rw [C.k, C.r, C.gi (f := 302) (by decide)]
    refine ⟨fun z => ?_, fun z => ?_⟩
    · have nw : newS s i = false := b1_eq0.mp z
      have hb : ¬ eI h0 (x + 23 + 6) i = 0 := by
        intro y
        unfold tkH at th
        simp [y, nw] at th
      obtain ⟨u1, u2, u3, -⟩ := bI hb
      refine ⟨hC, u2, k77 _ _ ?_ g2⟩
      rw [u3.2.2.2.2.1]
      unfold tkC
      rw [if_neg (by rw [nw]; decide)]
    · have nw : newS s i = true := b1_ne0.mp z
      refine k77 _ _ ?_ g2
      unfold tkC
      rw [if_pos nw]
      exact toI_100
  have k34 : Rn M_X2_takes 34 [(0, rV (x + 13)), (1, rV (el h0 (x + 2) i)), (2, iV c), (3, iV (b1 (newS s i)))] [] h k n (qI Q) E := by
    refine b_X2_takes_34 (C.cp H).xw ?_
    rw [C.k, C.r, C.gi (f := 306) (by decide)]
    refine ⟨fun z => ?_, fun z => ?_⟩
    · have nw : newS s i = false := b1_eq0.mp z
      have hb : ¬ eI h0 (x + 23 + 6) i = 0 := by
        intro y
        unfold tkH at th
        simp [y, nw] at th
      obtain ⟨u1, u2, u3, u4, -⟩ := bI hb
      refine ⟨hC, u2, k57 _ ?_⟩
      rw [u4.2.1]
      have lv := (D.2.2.1 i (by omega)).1.2.2.2.2.2.2.1
      have l1 := lv.1
      have l2 := lv.2
      have s1 : ((10 : Int32) - eI h0 (x + 23 + 13) i).toInt = 10 - (eI h0 (x + 23 + 13) i).toInt := by rw [i32_sub (by rw [toI_10]; omega) (by rw [toI_10]; omega), toI_10]
      have hb2 : bd (10 - eI h0 (x + 23 + 13) i) 0 10 := ⟨by rw [s1]; omega, by rw [s1]; omega⟩
      obtain ⟨m1, m2, m3⟩ := i32m hc hb2 (by decide)
      unfold tkL
      rw [if_neg (by rw [nw]; decide), i32_div10 (by rw [m1]; exact m2), m1, s1]
    · have nw : newS s i = true := b1_ne0.mp z
      refine k57 _ ?_
      unfold tkL
      rw [if_pos nw]
  have k20 : ∀ z : Int32, z = b1 (newS s i) → Rn M_X2_takes 20 [(0, rV (x + 13)), (1, rV (el h0 (x + 2) i)), (2, iV c)] [iV z] h k n (qI Q) E := by
    rintro _ rfl
    refine b_X2_takes_20 (C.cp H).xw ?_
    rw [C.k, C.r]
    refine ⟨hC, fun _ => k34, fun z => ⟨fun _ => k34, fun y => ?_⟩⟩
    exfalso
    have nw : newS s i = false := b1_eq0.mp y
    have hb := bz.mp z
    unfold tkH at th
    simp [hb, nw] at th
  refine b_X2_takes_0 (C.cp H).xw ?_
  rw [C.k, C.gi (f := 100) (by decide), W.2.1, hnum]
  refine ⟨hC, fun z => k20 0 ?_, fun z => k20 1 ?_⟩
  · unfold newS; simp [z, b1]
  · unfold newS; simp [z, b1]
end
