/-! rows: instructions on the heap -/
set_option maxRecDepth 100000
theorem vr_b (b : Nat) : vr (b + 1) = .ref b := rfl
theorem isStat {cl : Cell} (h : cl.vm.isStatics = false) : ∀ q, cl.vm ≠ .statics q := fun q z => by rw [z] at h; cases h
theorem ArrOfT.at {s : State} {cA : ClassId} {ty : FieldType} (h : ArrOfT s cA ty) {cl : Cell} (h1 : cl.cls = cA) (h2 : cl.vm.isStatics = false) : s.isArrayOf cl ty := by
  obtain ⟨-, kA, h3, comp, h4⟩ := h 0 (fun _ => .null)
  exact ⟨isStat h2, kA, by rw [h1]; exact h3, comp, h4⟩
theorem KK.vaK {G : Wd} {s : State} (h : KK G s) : va_K G.1 xcl [] s := ⟨h.1, fun k q hk => by simp at hk⟩
theorem wd_sum (st : List AV) : ((st.map vv).map fun v => v.category).sum = (st.map wd).sum := by
  rw [List.map_map]
  congr 1
  exact List.map_congr_left fun v _ => vv_cat v
section HROWS
variable {M : MI} {pc q : Nat} {lv : List (Nat × AV)} {st : List AV} {h : Hp} {k n : Nat} {Q : AV → Hp → Prop} {E : Nat → Hp → Prop}
theorem r_get0 {idx c j t f a : Nat} {ty : FieldType} {fin : Bool} {v : AV} (hF : FLk (mY M).cls idx c j t f ty fin) (hd : decode (mC M) pc = .ok (.getfield idx, 3)) (hq : pc + 3 = q) (hk : kd h a = c + 1 ∨ kd h a = c + 31) (hv : fvl h a (t, f) = vv v)
    (kk : Rn M q lv (v :: st) h k n Q E) : Rn M pc lv (rV a :: st) h k n Q E := by
  subst hq
  intro G p l e R s m args below meth c0 mc ms Z H locs cells slots ls X V
  obtain ⟨RR, T, N, tyf, ref, hC, hjN, hj, -, -, hw, hs⟩ := hF
  have hc := hC.lt
  obtain ⟨b, rfl, hb⟩ := V.2.2.1.pos (a := a) (by omega)
  have hcell : ∃ cl : Cell, H[b]? = some cl ∧ cl.vm ≠ .unknown ∧ cl.slots[G.1.2 c j]? = some (vv v) := by
    rcases hk with hk | hk
    · obtain ⟨⟨r, q1, cl, q2, q3, q4, q5⟩, -⟩ := (V.2.2.1.2.2.2.2 b).1 c hk (by omega)
      have hr : r = (RR, T, N) := Option.some.inj (q1.symm.trans hC.1)
      subst hr
      exact ⟨cl, q2, (by rw [q4]; exact fun z => by cases z), (by rw [q5 j hjN, fl_map hj, hv])⟩
    · obtain ⟨cl, q1, q2, q3, q4, q5⟩ := (V.2.2.1.2.2.2.2 b).2.1 c hk (by omega)
      exact ⟨cl, q1, q4, by rw [q5 j _ hj, hv]⟩
  obtain ⟨cl, g1, g2, g3⟩ := hcell
  obtain ⟨hS, hfc, kC, hkC, hkind⟩ := X.2.1.1 c _ hC.1
  obtain ⟨cf, kf, fi, fd, hi, hsl⟩ := hS j hjN
  have hst := (u_facts hfc hkC (u_lays X.1.2.2.2.2 hC.2.1 hjN) hi).1
  have hsame : s.fieldFound? ref (T j).2.1 (T j).2.2.1 = some (cf, kf, fi, fd) := by
    rcases hs with hs | hs
    · rw [hs]; exact hi
    · exact u_same (X.1.2.2.2.2 _ hs) _ hi
  have K := kk G p l e R s m args below meth c0 mc ms Z H locs cells slots ls X V
  rcases hw with hw | ⟨host, hw⟩
  · exact W.getf X.1.1 X.1.2.1 X.1.2.2.2.1 (X.1.2.2.2.2 _ hw) hsame hst g1 g2 (by rw [hsl]; exact g3) rfl rfl hd K
  · exact va_Wgetf X.1.1 X.1.2.1 X.1.2.2.2.1 (va_Nw.use rfl (X.2.1.2.2.2.2 _ hw rfl)) hsame hst g1 g2 (by rw [hsl]; exact g3) rfl rfl hd K
theorem r_getI {idx c j f a : Nat} {ty : FieldType} {fin : Bool} (hF : FLk (mY M).cls idx c j 0 f ty fin) (hd : decode (mC M) pc = .ok (.getfield idx, 3)) (hq : pc + 3 = q) (hk : kd h a = c + 1) (kk : Rn M q lv (iV (gI h f a) :: st) h k n Q E) : Rn M pc lv (rV a :: st) h k n Q E := r_get0 hF hd hq (Or.inl hk) rfl kk
theorem r_getJ {idx c j f a : Nat} {ty : FieldType} {fin : Bool} (hF : FLk (mY M).cls idx c j 1 f ty fin) (hd : decode (mC M) pc = .ok (.getfield idx, 3)) (hq : pc + 3 = q) (hk : kd h a = c + 1) (kk : Rn M q lv (jV (gJ h f a) :: st) h k n Q E) : Rn M pc lv (rV a :: st) h k n Q E := r_get0 hF hd hq (Or.inl hk) rfl kk
theorem r_getR {idx c j f a b : Nat} {ty : FieldType} {fin : Bool} (hF : FLk (mY M).cls idx c j 2 f ty fin) (hd : decode (mC M) pc = .ok (.getfield idx, 3)) (hq : pc + 3 = q) (hk : kd h a = c + 1) (hb : gR h f a = b) (kk : Rn M q lv (rV b :: st) h k n Q E) : Rn M pc lv (rV a :: st) h k n Q E := by
  subst hb
  exact r_get0 hF hd hq (Or.inl hk) rfl kk
theorem r_put0 {idx c j t f a : Nat} {ty : FieldType} {fin : Bool} {v : AV} (hF : FLk (mY M).cls idx c j t f ty fin) (hd : decode (mC M) pc = .ok (.putfield idx, 3)) (hq : pc + 3 = q) (hk : kd h a = c + 1) (hfi : fin = true → (mY M).name = "<init>" ∧ FOk (mY M).cls c j) (ht : t = tcd v) (hn : narrow ty (vv v) = vv v) (hfit : fits ty (vv v) = true)
    (kk : Rn M q lv st (pV h f a v) k n Q E) : Rn M pc lv (v :: rV a :: st) h k n Q E := by
  subst hq
  intro G p l e R s m args below meth c0 mc ms Z H locs cells slots ls X V
  obtain ⟨RR, T, N, tyf, ref, hC, hjN, hj, hty, hfin, hw, hs⟩ := hF
  have hc := hC.lt
  obtain ⟨b, rfl, hb⟩ := V.2.2.1.pos (a := a) (by omega)
  obtain ⟨⟨r, q1, cl, q2, q3, q4, q5⟩, hwr⟩ := (V.2.2.1.2.2.2.2 b).1 c hk (by omega)
  have hr : r = (RR, T, N) := Option.some.inj (q1.symm.trans hC.1)
  subst hr
  obtain ⟨hS, hfc, kC, hkC, hkind⟩ := X.2.1.1 c _ hC.1
  obtain ⟨cf, kf, fi, fd, hi, hsl⟩ := hS j hjN
  have hst := (u_facts hfc hkC (u_lays X.1.2.2.2.2 hC.2.1 hjN) hi).1
  have hsame : s.fieldFound? ref (T j).2.1 (T j).2.2.1 = some (cf, kf, fi, fd) := by
    rcases hs with hs | hs
    · rw [hs]; exact hi
    · exact u_same (X.1.2.2.2.2 _ hs) _ hi
  have hap := va_apart (own := RR) X.1.2.2.2.2 hC.2.1 tyf hC.2.2.1 hC.2.2.2.1 X.2.1.vaK hC.1
  have hpd : parseFieldDescriptor (T j).2.2.1 = some ty := by rw [← hty]; exact hC.2.2.1 j hjN
  have hsz : fd.slot < cl.slots.size := by rw [hsl]; exact k2_hasslot (q5 j hjN)
  have key : ∀ H' : Heap, H'[b]? = some (cl.setSlot fd.slot (vv v)) → H'.size = H.size → (∀ q, q ≠ b → H'[q]? = H[q]?) → W p l e R s m args below meth c0 H' (locs ++ [⟨b, fd.slot⟩]) cells slots Z (F0 m (pc + 3) ls (st.map vv)) := by
    intro H' e1 e2 e3
    rw [hsl] at e1
    exact kk G p l e R s m args below meth c0 mc ms Z H' _ cells slots ls X ⟨V.1, V.2.1, V.2.2.1.put hk hC hj ht hap q2 e1 e2 e3, V.2.2.2.1.put e2 e3 hwr, V.2.2.2.2⟩
  have hlay := X.1.2.2.2.2 _ (hC.2.1 _ (u_in_lay hjN))
  unfold u_lay at hlay
  cases fin with
  | false =>
    rw [if_neg (by rw [hfin]; decide)] at hlay
    have h6 := u_store hfc hkC hkind hlay hi hpd hn hfit
    rcases hw with hw | ⟨host, hw⟩
    · exact W.putK X.1.1 X.1.2.1 (f := fd) ⟨X.1.2.2.2.1, X.1.2.2.2.2 _ hw, ⟨_, _, _, hsame⟩, hst⟩ (by rw [q3]; exact h6) q2 q4 hsz rfl rfl hd key
    · exact va_WputK X.1.1 X.1.2.1 X.1.2.2.2.1 (va_Nw.use rfl (X.2.1.2.2.2.2 _ hw rfl)) hsame hst (by rw [q3]; exact h6) q2 q4 hsz rfl rfl hd key
  | true =>
    rw [if_pos hfin] at hlay
    have hcf : m.cls = cf := by
      obtain ⟨_, _, c', _, _, _, -, -, hf', -, -, -, hown2, -⟩ := Cond.laysFinal_spec hlay
      have e1 : c' = cf := by have := hi.symm.trans hf'; simp at this; exact this.1.symm
      rw [show (T j).1 = (mY M).cls from (hfi rfl).2 _ hC.1] at hown2
      rw [← e1]; exact Option.some.inj (X.1.2.2.2.1.symm.trans hown2)
    have h6 := u_fits hfc hkC hkind (Or.inr hlay) hi hpd hn hfit
    have hin : meth.name = "<init>" := X.2.2.2.2.1.trans (hfi rfl).1
    rcases hw with hw | ⟨host, hw⟩
    · exact W.putFinK X.1.1 X.1.2.1 X.1.2.2.2.1 (X.1.2.2.2.2 _ hw) hsame hst hcf hin (by rw [q3]; exact h6) q2 q4 hsz rfl rfl hd key
    · have ha : b < H.size := (Array.getElem?_eq_some_iff.mp q2).1
      refine va_Wputf X.1.1 X.1.2.1 X.1.2.2.2.1 (va_Nw.use rfl (X.2.1.2.2.2.2 _ hw rfl)) hsame hst (Or.inr ⟨hcf, hin⟩) q2 (by rw [q4]; exact fun h => by cases h) hsz h6.1 (by rw [q4, q3]; exact h6.2) rfl rfl hd ?_
      refine key _ ?_ ?_ ?_
      · simp [Array.getElem?_setIfInBounds, ha]
      · simp
      · intro q hq
        simp [Array.getElem?_setIfInBounds, Ne.symm hq]
theorem r_putI {idx c j f a : Nat} {x : Int32} (hF : FLk (mY M).cls idx c j 0 f .int false) (hd : decode (mC M) pc = .ok (.putfield idx, 3)) (hq : pc + 3 = q) (hk : kd h a = c + 1) (kk : Rn M q lv st (pI h f a x) k n Q E) : Rn M pc lv (iV x :: rV a :: st) h k n Q E := r_put0 (v := iV x) hF hd hq hk (fun z => by cases z) rfl rfl rfl kk
theorem r_putIF {idx c j f a : Nat} {x : Int32} (hF : FLk (mY M).cls idx c j 0 f .int true) (hin : (mY M).name = "<init>" ∧ FOk (mY M).cls c j) (hd : decode (mC M) pc = .ok (.putfield idx, 3)) (hq : pc + 3 = q) (hk : kd h a = c + 1) (kk : Rn M q lv st (pI h f a x) k n Q E) : Rn M pc lv (iV x :: rV a :: st) h k n Q E := r_put0 (v := iV x) hF hd hq hk (fun _ => hin) rfl rfl rfl kk
theorem fits_z {x : Int32} (h : x = 0 ∨ x = 1) : fits .boolean (.int x) = true := by rcases h with rfl | rfl <;> rfl
theorem r_putZ {idx c j f a : Nat} {x : Int32} (hF : FLk (mY M).cls idx c j 0 f .boolean false) (hd : decode (mC M) pc = .ok (.putfield idx, 3)) (hq : pc + 3 = q) (hk : kd h a = c + 1) (hx : x = 0 ∨ x = 1) (kk : Rn M q lv st (pI h f a x) k n Q E) : Rn M pc lv (iV x :: rV a :: st) h k n Q E := r_put0 (v := iV x) hF hd hq hk (fun z => by cases z) rfl (nz_b hx) (fits_z hx) kk
theorem r_putZF {idx c j f a : Nat} {x : Int32} (hF : FLk (mY M).cls idx c j 0 f .boolean true) (hin : (mY M).name = "<init>" ∧ FOk (mY M).cls c j) (hd : decode (mC M) pc = .ok (.putfield idx, 3)) (hq : pc + 3 = q) (hk : kd h a = c + 1) (hx : x = 0 ∨ x = 1) (kk : Rn M q lv st (pI h f a x) k n Q E) : Rn M pc lv (iV x :: rV a :: st) h k n Q E := r_put0 (v := iV x) hF hd hq hk (fun _ => hin) rfl (nz_b hx) (fits_z hx) kk
theorem r_putJ {idx c j f a : Nat} {x : Int64} (hF : FLk (mY M).cls idx c j 1 f .long false) (hd : decode (mC M) pc = .ok (.putfield idx, 3)) (hq : pc + 3 = q) (hk : kd h a = c + 1) (kk : Rn M q lv st (pJ h f a x) k n Q E) : Rn M pc lv (jV x :: rV a :: st) h k n Q E := r_put0 (v := jV x) hF hd hq hk (fun z => by cases z) rfl rfl rfl kk
theorem r_putJF {idx c j f a : Nat} {x : Int64} (hF : FLk (mY M).cls idx c j 1 f .long true) (hin : (mY M).name = "<init>" ∧ FOk (mY M).cls c j) (hd : decode (mC M) pc = .ok (.putfield idx, 3)) (hq : pc + 3 = q) (hk : kd h a = c + 1) (kk : Rn M q lv st (pJ h f a x) k n Q E) : Rn M pc lv (jV x :: rV a :: st) h k n Q E := r_put0 (v := jV x) hF hd hq hk (fun _ => hin) rfl rfl rfl kk
theorem nar_r {ty : FieldType} (hty : (∃ n, ty = .object n) ∨ ∃ t, ty = .array t) (a : Nat) : narrow ty (vr a) = vr a ∧ fits ty (vr a) = true := by
  rcases hty with ⟨n, rfl⟩ | ⟨t, rfl⟩ <;> cases a <;> exact ⟨rfl, rfl⟩
theorem r_putR {idx c j f a x : Nat} {ty : FieldType} (hF : FLk (mY M).cls idx c j 2 f ty false) (hty : (∃ n, ty = .object n) ∨ ∃ t, ty = .array t) (hd : decode (mC M) pc = .ok (.putfield idx, 3)) (hq : pc + 3 = q) (hk : kd h a = c + 1) (kk : Rn M q lv st (pR h f a x) k n Q E) : Rn M pc lv (rV x :: rV a :: st) h k n Q E := r_put0 (v := rV x) hF hd hq hk (fun z => by cases z) rfl (nar_r hty x).1 (nar_r hty x).2 kk
theorem r_putRF {idx c j f a x : Nat} {ty : FieldType} (hF : FLk (mY M).cls idx c j 2 f ty true) (hty : (∃ n, ty = .object n) ∨ ∃ t, ty = .array t) (hin : (mY M).name = "<init>" ∧ FOk (mY M).cls c j) (hd : decode (mC M) pc = .ok (.putfield idx, 3)) (hq : pc + 3 = q) (hk : kd h a = c + 1) (kk : Rn M q lv st (pR h f a x) k n Q E) : Rn M pc lv (rV x :: rV a :: st) h k n Q E := r_put0 (v := rV x) hF hd hq hk (fun _ => hin) rfl (nar_r hty x).1 (nar_r hty x).2 kk
/-- an array's cell -/
theorem arr_at {G : Wd} {H : Heap} {s : State} (K : KK G s) (P : Rp G h H) {a t : Nat} (ht : t < 6) (hk : kd h a = 61 + t ∨ kd h a = 71 + t) : ∃ (b : Nat) (cl : Cell), a = b + 1 ∧ H[b]? = some cl ∧ s.isArrayOf cl (aTy t) ∧ cl.vm.isStatics = false ∧ cl.vm ≠ .unknown ∧ cl.slots.size = ln h a ∧ (∀ j : Nat, j < ln h a → cl.slots[j]? = some (eV h a t j)) ∧ cl.cls = G.2.1 t ∧ (kd h a = 61 + t → gB G ≤ b) := by
  obtain ⟨b, rfl, hb⟩ := P.pos (a := a) (by omega)
  have hA : aAt G h H b t ∧ (kd h (b + 1) = 61 + t → gB G ≤ b) := by
    rcases hk with hk | hk
    · exact ⟨((P.2.2.2.2 b).2.2.1 t hk (by omega)).1.1, fun _ => ((P.2.2.2.2 b).2.2.1 t hk (by omega)).2⟩
    · exact ⟨((P.2.2.2.2 b).2.2.2 t hk (by omega)).1, fun z => by omega⟩
  obtain ⟨⟨cl, g1, g2, g3, g4, g5, g6⟩, g7⟩ := hA
  exact ⟨b, cl, rfl, g1, (K.2.1 t ht).at g2 g3, g3, g4, g5, g6, g2, g7⟩
theorem r_alen {a t : Nat} (hd : decode (mC M) pc = .ok (.arraylength, 1)) (hq : pc + 1 = q) (ht : t < 6) (hk : kd h a = 61 + t ∨ kd h a = 71 + t) (kk : Rn M q lv (iV (nI (ln h a)) :: st) h k n Q E) : Rn M pc lv (rV a :: st) h k n Q E := by
  subst hq
  intro G p l e R s m args below meth c0 mc ms Z H locs cells slots ls X V
  obtain ⟨b, cl, rfl, g1, g2, g3, g4, g5, g6, -⟩ := arr_at X.2.1 V.2.2.1 ht hk
  exact W.alen (n := nI (ln h (b + 1))) X.1.1 X.1.2.1 g1 g2 (by rw [g5]; rfl) rfl rfl hd (kk G p l e R s m args below meth c0 mc ms Z H locs cells slots ls X V)
theorem in_lt {i : Int32} {N : Nat} (hi : vp_in i N) : i.toNatClampNeg < N := Nat.not_le.mp fun z => hi (Or.inr z)
theorem r_iald {a t : Nat} {i : Int32} (hd : decode (mC M) pc = .ok (.iaload, 1)) (hq : pc + 1 = q) (hk : kd h a = 61 + t ∨ kd h a = 71 + t) (ht : t = 0 ∨ t = 5) (hi : vp_in i (ln h a)) (kk : Rn M q lv (iV (eI h a i.toNatClampNeg) :: st) h k n Q E) : Rn M pc lv (iV i :: rV a :: st) h k n Q E := by
  subst hq
  intro G p l e R s m args below meth c0 mc ms Z H locs cells slots ls X V
  obtain ⟨b, cl, rfl, g1, g2, g3, g4, g5, g6, -⟩ := arr_at X.2.1 V.2.2.1 (by omega) hk
  have g2' : s.isArrayOf cl .int := by rcases ht with rfl | rfl <;> exact g2
  exact W.iald (v := .int (eI h (b + 1) i.toNatClampNeg)) X.1.1 X.1.2.1 g1 g2' g4 (by rw [g5]; exact hi) (by rw [g6 _ (in_lt hi)]; rcases ht with rfl | rfl <;> rfl) rfl rfl hd (kk G p l e R s m args below meth c0 mc ms Z H locs cells slots ls X V)
theorem r_lald {a : Nat} {i : Int32} (hd : decode (mC M) pc = .ok (.laload, 1)) (hq : pc + 1 = q) (hk : kd h a = 62) (hi : vp_in i (ln h a)) (kk : Rn M q lv (jV (eJ h a i.toNatClampNeg) :: st) h k n Q E) : Rn M pc lv (iV i :: rV a :: st) h k n Q E := by
  subst hq
  intro G p l e R s m args below meth c0 mc ms Z H locs cells slots ls X V
  obtain ⟨b, cl, rfl, g1, g2, g3, g4, g5, g6, -⟩ := arr_at (t := 1) X.2.1 V.2.2.1 (by omega) (Or.inl hk)
  exact W.lald (v := .long (eJ h (b + 1) i.toNatClampNeg)) X.1.1 X.1.2.1 g1 g2 g4 (by rw [g5]; exact hi) (g6 _ (in_lt hi)) rfl rfl hd (kk G p l e R s m args below meth c0 mc ms Z H locs cells slots ls X V)
theorem r_bald {a : Nat} {i : Int32} (hd : decode (mC M) pc = .ok (.baload, 1)) (hq : pc + 1 = q) (hk : kd h a = 63 ∨ kd h a = 73) (hi : vp_in i (ln h a)) (kk : Rn M q lv (iV (eI h a i.toNatClampNeg) :: st) h k n Q E) : Rn M pc lv (iV i :: rV a :: st) h k n Q E := by
  subst hq
  intro G p l e R s m args below meth c0 mc ms Z H locs cells slots ls X V
  obtain ⟨b, cl, rfl, g1, g2, g3, g4, g5, g6, -⟩ := arr_at (t := 2) X.2.1 V.2.2.1 (by omega) hk
  exact W.bald (v := .int (eI h (b + 1) i.toNatClampNeg)) X.1.1 X.1.2.1 g1 g2 g4 (by rw [g5]; exact hi) (g6 _ (in_lt hi)) rfl rfl hd (kk G p l e R s m args below meth c0 mc ms Z H locs cells slots ls X V)
theorem r_zald {a : Nat} {i : Int32} (hd : decode (mC M) pc = .ok (.baload, 1)) (hq : pc + 1 = q) (hk : kd h a = 64) (hi : vp_in i (ln h a)) (kk : Rn M q lv (iV (eI h a i.toNatClampNeg) :: st) h k n Q E) : Rn M pc lv (iV i :: rV a :: st) h k n Q E := by
  subst hq
  intro G p l e R s m args below meth c0 mc ms Z H locs cells slots ls X V
  obtain ⟨b, cl, rfl, g1, g2, g3, g4, g5, g6, -⟩ := arr_at (t := 3) X.2.1 V.2.2.1 (by omega) (Or.inl hk)
  exact W.zald (v := .int (eI h (b + 1) i.toNatClampNeg)) X.1.1 X.1.2.1 g1 g2 g4 (by rw [g5]; exact hi) (g6 _ (in_lt hi)) rfl rfl hd (kk G p l e R s m args below meth c0 mc ms Z H locs cells slots ls X V)
theorem r_aald {a : Nat} {i : Int32} (hd : decode (mC M) pc = .ok (.aaload, 1)) (hq : pc + 1 = q) (hk : kd h a = 65 ∨ kd h a = 75) (hi : vp_in i (ln h a)) (kk : Rn M q lv (rV (eR h a i.toNatClampNeg) :: st) h k n Q E) : Rn M pc lv (iV i :: rV a :: st) h k n Q E := by
  subst hq
  intro G p l e R s m args below meth c0 mc ms Z H locs cells slots ls X V
  obtain ⟨b, cl, rfl, g1, g2, g3, g4, g5, g6, -⟩ := arr_at (t := 4) X.2.1 V.2.2.1 (by omega) hk
  exact W.aald (v := vr (eR h (b + 1) i.toNatClampNeg)) X.1.1 X.1.2.1 g1 g2 rfl g4 (by rw [g5]; exact hi) (g6 _ (in_lt hi)) rfl rfl hd (kk G p l e R s m args below meth c0 mc ms Z H locs cells slots ls X V)
theorem r_iast {a : Nat} {i x : Int32} (hd : decode (mC M) pc = .ok (.iastore, 1)) (hq : pc + 1 = q) (hk : kd h a = 61) (hi : vp_in i (ln h a)) (kk : Rn M q lv st (sI h a i.toNatClampNeg x) k n Q E) : Rn M pc lv (iV x :: iV i :: rV a :: st) h k n Q E := by
  subst hq
  intro G p l e R s m args below meth c0 mc ms Z H locs cells slots ls X V
  obtain ⟨b, cl, rfl, g1, g2, g3, g4, g5, g6, g7, g8⟩ := arr_at (t := 0) X.2.1 V.2.2.1 (by omega) (Or.inl hk)
  exact W.iast X.1.1 X.1.2.1 g1 g2 g4 (by rw [g5]; exact hi) rfl rfl hd fun H' e1 e2 e3 => kk G p l e R s m args below meth c0 mc ms Z H' _ cells slots ls X ⟨V.1, V.2.1, V.2.2.1.ast (t := 0) (v := iV x) hk (by omega) rfl (in_lt hi) (fun z => by omega) g1 e1 e2 e3, V.2.2.2.1.put e2 e3 (g8 hk), V.2.2.2.2⟩
theorem r_last {a : Nat} {i : Int32} {x : Int64} (hd : decode (mC M) pc = .ok (.lastore, 1)) (hq : pc + 1 = q) (hk : kd h a = 62) (hi : vp_in i (ln h a)) (kk : Rn M q lv st (sJ h a i.toNatClampNeg x) k n Q E) : Rn M pc lv (jV x :: iV i :: rV a :: st) h k n Q E := by
  subst hq
  intro G p l e R s m args below meth c0 mc ms Z H locs cells slots ls X V
  obtain ⟨b, cl, rfl, g1, g2, g3, g4, g5, g6, g7, g8⟩ := arr_at (t := 1) X.2.1 V.2.2.1 (by omega) (Or.inl hk)
  exact W.last X.1.1 X.1.2.1 g1 g2 g4 (by rw [g5]; exact hi) rfl rfl hd fun H' e1 e2 e3 => kk G p l e R s m args below meth c0 mc ms Z H' _ cells slots ls X ⟨V.1, V.2.1, V.2.2.1.ast (t := 1) (v := jV x) hk (by omega) rfl (in_lt hi) (fun z => by omega) g1 e1 e2 e3, V.2.2.2.1.put e2 e3 (g8 hk), V.2.2.2.2⟩
theorem r_bast {a : Nat} {i x : Int32} (hd : decode (mC M) pc = .ok (.bastore, 1)) (hq : pc + 1 = q) (hk : kd h a = 63) (hi : vp_in i (ln h a)) (kk : Rn M q lv st (sI h a i.toNatClampNeg (tby x)) k n Q E) : Rn M pc lv (iV x :: iV i :: rV a :: st) h k n Q E := by
  subst hq
  intro G p l e R s m args below meth c0 mc ms Z H locs cells slots ls X V
  obtain ⟨b, cl, rfl, g1, g2, g3, g4, g5, g6, g7, g8⟩ := arr_at (t := 2) X.2.1 V.2.2.1 (by omega) (Or.inl hk)
  exact W.bast X.1.1 X.1.2.1 g1 g2 g4 (by rw [g5]; exact hi) rfl rfl hd fun H' e1 e2 e3 => kk G p l e R s m args below meth c0 mc ms Z H' _ cells slots ls X ⟨V.1, V.2.1, V.2.2.1.ast (t := 2) (v := iV (tby x)) hk (by omega) rfl (in_lt hi) (fun _ => pk_fb x) g1 e1 e2 e3, V.2.2.2.1.put e2 e3 (g8 hk), V.2.2.2.2⟩
theorem r_zast {a : Nat} {i x : Int32} (hd : decode (mC M) pc = .ok (.bastore, 1)) (hq : pc + 1 = q) (hk : kd h a = 64) (hi : vp_in i (ln h a)) (hx : x = 0 ∨ x = 1) (kk : Rn M q lv st (sI h a i.toNatClampNeg x) k n Q E) : Rn M pc lv (iV x :: iV i :: rV a :: st) h k n Q E := by
  subst hq
  intro G p l e R s m args below meth c0 mc ms Z H locs cells slots ls X V
  obtain ⟨b, cl, rfl, g1, g2, g3, g4, g5, g6, g7, g8⟩ := arr_at (t := 3) X.2.1 V.2.2.1 (by omega) (Or.inl hk)
  exact W.zast X.1.1 X.1.2.1 g1 g2 g4 (by rw [g5]; exact hi) rfl rfl hd fun H' e1 e2 e3 => kk G p l e R s m args below meth c0 mc ms Z H' _ cells slots ls X ⟨V.1, V.2.1, V.2.2.1.ast (t := 3) (v := iV x) hk (by omega) rfl (in_lt hi) (fun z => by omega) g1 (by rw [e1, nz_b hx]; rfl) e2 e3, V.2.2.2.1.put e2 e3 (g8 hk), V.2.2.2.2⟩
/-- an object is put into an array of objects -/
theorem r_aast {a b c : Nat} {i : Int32} {R0 : String} {T : u_T} {N : Nat} (hd : decode (mC M) pc = .ok (.aastore, 1)) (hq : pc + 1 = q) (hk : kd h a = 65) (hi : vp_in i (ln h a)) (hb : kd h b = c + 1) (hc : xcl[c]? = some (R0, T, N)) (hw : Cond.castable R0 "java/lang/Object" ∈ lw_tbl) (kk : Rn M q lv st (sR h a i.toNatClampNeg b) k n Q E) : Rn M pc lv (rV b :: iV i :: rV a :: st) h k n Q E := by
  subst hq
  intro G p l e R s m args below meth c0 mc ms Z H locs cells slots ls X V
  have hc14 : c < 14 := (List.getElem?_eq_some_iff.mp hc).1
  obtain ⟨a, cl, rfl, g1, g2, g3, g4, g5, g6, g7, g8⟩ := arr_at (t := 4) X.2.1 V.2.2.1 (by omega) (Or.inl hk)
  obtain ⟨b, rfl, hbs⟩ := V.2.2.1.pos (a := b) (by omega)
  obtain ⟨⟨r, q1, cv, q2, q3, q4, q5⟩, -⟩ := (V.2.2.1.2.2.2.2 b).1 c hb (by omega)
  obtain ⟨c1, t1, f1, f2, f3⟩ := Cond.castable_spec (va_Nw.use (A := args) rfl (X.2.1.2.2.2.2 _ hw rfl))
  have hcls := (X.2.1.1 c _ hc).2
  have e1 : c1 = G.1.1 c := Option.some.inj (f1.symm.trans hcls.1)
  subst e1
  obtain ⟨kC, hkC, -⟩ := hcls.2
  obtain ⟨kA, comp, k1, k2, k3, -⟩ := X.2.1.2.2.1 4 (by omega)
  have e2 : comp = t1 := Option.some.inj (k3.symm.trans f2)
  subst e2
  obtain ⟨kE, hkE, -⟩ := Vm.findClass_spec k3
  exact W.aast X.1.1 X.1.2.1 g1 (isStat g3) g4 (by rw [g7]; exact k1) k2 rfl hkE ⟨fun z => hi (Or.inl z), by rw [g5]; exact in_lt hi⟩ q2 (fun z w => by rw [q4] at w; cases w) (by rw [q3]; exact hkC) (by rw [q3]; exact f3) rfl rfl hd fun H' e1 e2 e3 => kk G p l e R s m args below meth c0 mc ms Z H' _ cells slots ls X ⟨V.1, V.2.1, V.2.2.1.ast (t := 4) (v := rV (b + 1)) hk (by omega) rfl (in_lt hi) (fun z => by omega) g1 e1 e2 e3, V.2.2.2.1.put e2 e3 (g8 hk), V.2.2.2.2⟩
/-- a link to a class that can be made -/
def CLk (own : String) (idx c N : Nat) : Prop := ∃ (R : String) (T : u_T) (ty : Nat → FieldType), ClOk c R T N ty ∧ Cond.classLink own idx R ∈ lw_all ∧ Cond.instantiable R N ∈ lw_all ∧ Cond.initialized R ∈ lw_all
theorem r_new {idx c N k' n' : Nat} (hL : CLk (mY M).cls idx c N) (hd : decode (mC M) pc = .ok (.new idx, 3)) (hq : pc + 3 = q) (hk : k' + 1 ≤ k) (hn : n' + N ≤ n) (kk : Rn M q lv (rV (nx h) :: st) (nO h c) k' n' Q E) : Rn M pc lv st h k n Q E := by
  subst hq
  intro G p l e R s m args below meth c0 mc ms Z H locs cells slots ls X V
  obtain ⟨RR, T, ty, hC, w1, w2, w3⟩ := hL
  have hKn := X.2.1.1 c _ hC.1
  have v1 := V.1
  have v2 := V.2.1
  have x1 := X.2.2.2.2.2.2.2.2.1
  have x2 := X.2.2.2.2.2.2.2.2.2.1
  refine W.newcK X.1.1 X.1.2.1 X.1.2.2.2.1 (X.1.2.2.2.2 _ w1) (X.1.2.2.2.2 _ w2) (X.1.2.2.2.2 _ w3) rfl hd (by omega) (by omega) hKn.2.1 rfl fun H1 kC hkC e1 z1 o1 => ?_
  have P := V.2.2.1.newO hC (u_born ty X.1.2.2.2.2 hC.2.1 hKn hkC e1 hC.2.2.1) z1 o1
  have K := kk G p l e R s m args below meth c0 mc ms Z H1 locs (cells + 1) (slots + N) ls X ⟨by omega, by omega, P, ⟨Nat.le_trans V.2.2.2.1.1 (by omega), fun x h1 h2 => (o1 x (Nat.lt_of_lt_of_le h1 V.2.2.2.1.1)).trans (V.2.2.2.1.2.1 x h1 h2), V.2.2.2.1.2.2⟩, V.2.2.2.2⟩
  rw [show (rV (nx h) :: st).map vv = Value.ref H.size :: st.map vv by rw [← V.2.2.1.1]; rfl] at K
  exact K
theorem r_newa {at0 : ArrayType} {t N k' n' : Nat} {x : Int32} (hw : Cond.arrayClass (aTy t) ∈ lw_all) (ht : t < 4) (hat : newarray.typeOf at0 = aTy t) (hd : decode (mC M) pc = .ok (.newarray at0, 2)) (hq : pc + 2 = q) (hx : ¬ x < 0) (hN : x.toNatClampNeg = N) (hb : N ≤ 65536) (hk : k' + 1 ≤ k) (hn : n' + N ≤ n) (kk : Rn M q lv (rV (nx h) :: st) (nA h t N) k' n' Q E) : Rn M pc lv (iV x :: st) h k n Q E := by
  subst hq
  intro G p l e R s m args below meth c0 mc ms Z H locs cells slots ls X V
  have v1 := V.1
  have v2 := V.2.1
  have x1 := X.2.2.2.2.2.2.2.2.1
  have x2 := X.2.2.2.2.2.2.2.2.2.1
  have hcb : N * componentBytes (newarray.typeOf at0) ≤ 536870912 := by
    rw [hat]
    have : componentBytes (aTy t) ≤ 8 := by rcases (by omega : t = 0 ∨ t = 1 ∨ t = 2 ∨ t = 3) with z | z | z | z <;> subst z <;> decide
    exact Nat.le_trans (Nat.mul_le_mul hb this) (by decide)
  refine va_newaK X.1.1 X.1.2.1 (by rw [hat]; exact X.1.2.2.2.2 _ hw) rfl hd rfl hx hN hcb (by omega) (by omega) rfl fun H1 cA e1 z1 o1 hAr hNm => ?_
  have hcA : cA = G.2.1 t := by
    have h1 := X.2.1.2.2.1 t (by omega)
    rw [hat] at hNm
    rcases (by omega : t = 0 ∨ t = 1 ∨ t = 2 ∨ t = 3) with z | z | z | z <;> subst z <;> exact Option.some.inj (hNm.symm.trans h1)
  rw [hcA, hat] at e1
  have P := V.2.2.1.newA (by omega) e1 z1 o1
  have K := kk G p l e R s m args below meth c0 mc ms Z H1 locs (cells + 1) (slots + N) ls X ⟨by omega, by omega, P, ⟨Nat.le_trans V.2.2.2.1.1 (by omega), fun x h1 h2 => (o1 x (Nat.lt_of_lt_of_le h1 V.2.2.2.1.1)).trans (V.2.2.2.1.2.1 x h1 h2), V.2.2.2.1.2.2⟩, V.2.2.2.2⟩
  rw [show (rV (nx h) :: st).map vv = Value.ref H.size :: st.map vv by rw [← V.2.2.1.1]; rfl] at K
  exact K
theorem r_newq {idx N k' n' : Nat} {x : Int32} (hw : Cond.classLink (mY M).cls idx "java/lang/Object" ∈ lw_all) (hd : decode (mC M) pc = .ok (.anewarray idx, 3)) (hq : pc + 3 = q) (hx : ¬ x < 0) (hN : x.toNatClampNeg = N) (hb : N ≤ 65536) (hk : k' + 1 ≤ k) (hn : n' + N ≤ n) (kk : Rn M q lv (rV (nx h) :: st) (nA h 4 N) k' n' Q E) : Rn M pc lv (iV x :: st) h k n Q E := by
  subst hq
  subst hN
  intro G p l e R s m args below meth c0 mc ms Z H locs cells slots ls X V
  have v1 := V.1
  have v2 := V.2.1
  have x1 := X.2.2.2.2.2.2.2.2.1
  have x2 := X.2.2.2.2.2.2.2.2.2.1
  refine W.anew X.1.1 X.1.2.1 X.1.2.2.2.1 (X.1.2.2.2.2 _ hw) (va_AO.use X.2.1.2.2.2.1.1) rfl hd rfl hx (by omega) (by omega) (by omega) fun cA kA comp f1 f2 f3 f4 => ?_
  generalize hH1 : H.push ({ cls := cA, slots := Array.replicate x.toNatClampNeg .null, vm := .none } : Cell) = H1
  have z1 : H1.size = H.size + 1 := by rw [← hH1, Array.size_push]
  have e1 : H1[H.size]? = some (arrV cA x.toNatClampNeg (fun _ => .null)) := by rw [← hH1, Array.getElem?_push_size, ← arrV_new]
  have o1 : ∀ q : Nat, q < H.size → H1[q]? = H[q]? := fun q hq => by rw [← hH1, Array.getElem?_push, if_neg (Nat.ne_of_lt hq)]
  obtain ⟨kA', comp', k1, k2, k3, k4⟩ := X.2.1.2.2.1 4 (by omega)
  have hcA : cA = G.2.1 4 := Option.some.inj (f1.symm.trans k4)
  rw [hcA] at e1
  have P := V.2.2.1.newA (t := 4) (by omega) e1 z1 o1
  have K := kk G p l e R s m args below meth c0 mc ms Z H1 locs (cells + 1) (slots + x.toNatClampNeg) ls X ⟨by omega, by omega, P, ⟨Nat.le_trans V.2.2.2.1.1 (by omega), fun x h1 h2 => (o1 x (Nat.lt_of_lt_of_le h1 V.2.2.2.1.1)).trans (V.2.2.2.1.2.1 x h1 h2), V.2.2.2.1.2.2⟩, V.2.2.2.2⟩
  rw [show (rV (nx h) :: st).map vv = Value.ref H.size :: st.map vv by rw [← V.2.2.1.1]; rfl] at K
  exact K
/-- Object() -/
theorem r_objInit {idx a : Nat} (hl : Cond.methodLink (mY M).cls idx objectInit ∈ lw_all) (hi : Cond.instanceMethod objectInit ∈ lw_all) (hco : Cond.code objectInit ⟨#[0xb1]⟩ 1 none ∈ lw_all) (hd : decode (mC M) pc = .ok (.invokespecial idx, 3)) (hq : pc + 3 = q) (ha : kd h a ≠ 0) (hdp : 1 ≤ mD M) (hw : (st.map wd).sum ≤ 8) (kk : Rn M q lv st h k n Q E) : Rn M pc lv (rV a :: st) h k n Q E := by
  subst hq
  intro G p l e R s m args below meth c0 mc ms Z H locs cells slots ls X V
  obtain ⟨b, rfl, hb⟩ := V.2.2.1.pos ha
  have x1 := X.2.2.2.2.2.2.1
  have x2 := X.2.2.2.2.2.2.2.1
  refine W.objInit X.1.1 X.1.2.1 X.1.2.2.2.1 (X.1.2.2.2.2 _ hl) (X.1.2.2.2.2 _ hi) (X.1.2.2.2.2 _ hco) rfl (by rw [X.1.2.2.1]; exact V.2.2.2.2.1) (rest := st.map vv) rfl hd (by omega) ?_ (kk G p l e R s m args below meth c0 mc ms Z H locs cells slots ls X V)
  show 2 * 0 + _ + 12 ≤ _
  rw [wd_sum]
  omega
end HROWS
