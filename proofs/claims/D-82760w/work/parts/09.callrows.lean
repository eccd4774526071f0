/-! rows: calls -/
set_option maxRecDepth 100000
/-- what a call asks of numbers -/
def okC (M M' : MI) (av st : List AV) (np : Nat) : Bool := (mX M).isEmpty && (Nat.ble (mD M' + 1) (mD M) && (Nat.ble (mL M') 21 && (Nat.ble (av.map wd).sum (mL M') && (Nat.ble (st.map wd).sum 8 && Nat.beq av.length np))))
theorem okC_all {M M' : MI} {av st : List AV} {np : Nat} (h : okC M M' av st np = true) : mX M = [] ∧ mD M' + 1 ≤ mD M ∧ mL M' ≤ 21 ∧ (av.map wd).sum ≤ mL M' ∧ (st.map wd).sum ≤ 8 ∧ av.length = np := by
  unfold okC at h
  simp only [Bool.and_eq_true] at h
  obtain ⟨h1, h2, h3, h4, h5, h6⟩ := h
  exact ⟨List.isEmpty_iff.mp h1, Nat.le_of_ble_eq_true h2, Nat.le_of_ble_eq_true h3, Nat.le_of_ble_eq_true h4, Nat.le_of_ble_eq_true h5, Nat.eq_of_beq_eq_true h6⟩
/-- links to methods -/
def MLc (M' : MI) (np : Nat) : Prop := plainName (mY M').cls = true ∧ ((mY M').cls ≠ "java/lang/invoke/MethodHandle" ∧ (mY M').cls ≠ "java/lang/invoke/VarHandle") ∧ (parseMethodDescriptor (mY M').desc).map (fun d => d.parameters.length) = some np ∧ Cond.initialized (mY M').cls ∈ lw_all ∧ cdW M' ∈ lw_all
def MLV (own : String) (idx : Nat) (M' : MI) (np : Nat) : Prop := MLc M' np ∧ Cond.methodLink own idx (mY M') ∈ lw_all ∧ Cond.instanceMethod (mY M') ∈ lw_all ∧ Cond.selects (mY M').cls (mY M') (mY M') ∈ lw_all
def MLS (own : String) (idx : Nat) (M' : MI) (np : Nat) : Prop := MLc M' np ∧ Cond.methodLink own idx (mY M') ∈ lw_all ∧ Cond.static (mY M') ∈ lw_all
def MLI (own : String) (idx : Nat) (M' : MI) (np : Nat) : Prop := MLc M' np ∧ (mY M').name = "<init>" ∧ (Cond.methodLink own idx (mY M') ∈ lw_all ∨ ∃ host, Cond.methodLinkNest own idx (mY M') host ∈ lw_tbl) ∧ Cond.instanceMethod (mY M') ∈ lw_all
theorem np_len {M' : MI} {np : Nat} (h : (parseMethodDescriptor (mY M').desc).map (fun d => d.parameters.length) = some np) {sig : MethodDescriptor} (hs : parseMethodDescriptor (mY M').desc = some sig) : np = sig.parameters.length := by
  rw [hs] at h
  exact (Option.some.inj h).symm
section CALLROWS
variable {M M' : MI} {pc q : Nat} {lv : List (Nat × AV)} {st stk : List AV} {h : Hp} {k n k1 n1 k2 n2 : Nat} {Q Q' : AV → Hp → Prop} {E : Nat → Hp → Prop}
/-- what stands on the stack behind a call -/
def bhd (M' : MI) (w : AV) (st : List AV) : List AV := if mR M' = none then st else w :: st
theorem x_call {G : Wd} {p : Program} {l : Launch} {e : Env} {R : Room} {s : State} {m : MethodId} {args : Array Value} {below : List Frame} {meth : Method} {c : Code} {mc ms : Nat} {Z : State → Prop} {H : Heap} {locs : List Loc} {cells slots : Nat} {ls : Array Slot} {av : List AV} {np : Nat}
    (X : Cx M G p l e R s m args below meth c mc ms Z Q E) (V : Mv M G s H locs cells slots mc ms ls lv h k n) (hL : MLc M' np) (hok : (mX M = [] ∧ mD M' + 1 ≤ mD M ∧ mL M' ≤ 21 ∧ (av.map wd).sum ≤ mL M' ∧ (st.map wd).sum ≤ 8))
    (hk : k1 + k2 ≤ k) (hn : n1 + n2 ≤ n) (R0 : Rn M' 0 (la 0 av) [] h k1 n1 Q' E) (kk : ∀ w h', Q' w h' → Rn M (pc + 3) lv (bhd M' w st) h' k2 n2 Q E)
    {T : State} (hT : T.heap = H) {vm₁ : Vm} (X₁ : Stand p l e R s m args below meth c (T.setVm vm₁) locs cells slots) {mk : MethodId} (hnm : (T.setVm vm₁).methodNamed? (mY M') = some mk) {ig : Instr} (hd : decode (mC M) pc = .ok (ig, 3)) {g0 : JFrame}
    (hstep : ∀ target, (∀ acts, Steps p.tables e below (doInvoke e ((T.setVm vm₁).setTop (F0 m pc ls (st.map vv))) acts mk (av.map vv).toArray).1 target) → Steps p.tables e below (T.setTop g0) target) :
    ∃ t, Steps p.tables e below (T.setTop g0) t ∧ Z t := by
  obtain ⟨o1, o2, o3, o4, o5⟩ := hok
  obtain ⟨l1, l2, l3, l4, l5⟩ := hL
  have x1 := X.2.2.2.2.2.2.1
  have x2 := X.2.2.2.2.2.2.2.1
  have x3 := X.2.2.2.2.2.2.2.2.1
  have x4 := X.2.2.2.2.2.2.2.2.2.1
  have v1 := V.1
  have v2 := V.2.1
  have hb : c.code = mC M := X.1.2.1
  obtain ⟨o, T', L, h', Y, hO, hRp, hF, hL', hr, ht⟩ := x_back R0 l1 o4 X₁ X.1.2.2.2.2 X.2.1 (by show Rp G h T.heap; rw [hT]; exact V.2.2.1) l5 l4 (by omega) (by omega) (by omega) (by omega) (g := F0 m pc ls (st.map vv)) rfl (by rw [X.1.2.2.1]; exact V.2.2.2.2.1) (by rw [hb]; exact hd) (by show 2 * 0 + _ ≤ 8; rw [wd_sum]; omega) hnm
  have hS' : va_S (Fr G) s.heap T'.heap (locs ++ L) := by
    have hz : H.size ≤ T'.heap.size := by rw [← hT]; exact hF.1
    refine ⟨Nat.le_trans V.2.2.2.1.1 hz, fun q0 z1 z2 => ?_, fun q0 hq0 => ?_⟩
    · have := hF.2 q0 (by show q0 < T.heap.size; rw [hT]; exact Nat.lt_of_lt_of_le z1 V.2.2.2.1.1) z2
      rw [this]
      show T.heap[q0]? = _
      rw [hT]
      exact V.2.2.2.1.2.1 q0 z1 z2
    · rcases List.mem_append.mp hq0 with z | z
      · exact V.2.2.2.1.2.2 q0 z
      · exact hL' q0 z
  rcases o with v | x
  · have K : ∃ w : AV, Q' w h' ∧ v.toList ++ st.map vv = (bhd M' w st).map vv := by
      rcases v with _ | v
      · exact ⟨rV 0, hO.2, by unfold bhd; rw [if_pos hO.1]; rfl⟩
      · obtain ⟨e0, w, rfl, e2⟩ := hO
        exact ⟨w, e2, by unfold bhd; rw [if_neg e0]; rfl⟩
    obtain ⟨w, hw, hstk⟩ := K
    obtain ⟨t, a1, b1⟩ := kk w h' hw G p l e R s m args below meth c mc ms Z T'.heap (locs ++ L) (cells + k1) (slots + n1) ls X ⟨by omega, by omega, hRp, hS', V.2.2.2.2⟩ T' rfl Y
    refine ⟨t, hstep t fun acts => ?_, b1⟩
    rw [doInvoke_state]
    refine (hr v rfl).trans ?_
    rw [← hstk] at a1
    exact a1
  · have hlocks := X.2.2.2.1
    have hxt : c.exceptionTable.toList = [] := by
      have := X.2.2.2.2.2.1
      rw [o1] at this
      exact List.map_eq_nil_iff.mp this
    obtain ⟨z1, z2, z3, z4, z5⟩ := (stand_widen Y (show cells + k1 ≤ mc by omega) (show slots + n1 ≤ ms by omega)).leaveThrown x (g := F0 m pc ls (st.map vv)) rfl rfl rfl (by rw [hxt]; intro x hx; cases hx)
    refine ⟨T'.setFrames (.throwing x :: below), hstep _ fun acts => ?_, X.2.2.2.2.2.2.2.2.2.2 (.threw x) h' (T'.setFrames (.throwing x :: below)) (locs ++ L) hO hRp hS' z2 z3 z4 z5⟩
    rw [doInvoke_state]
    exact (ht x rfl).trans z1
theorem r_cS {idx np : Nat} (As : List AV) (hL : MLS (mY M).cls idx M' np) (hd : decode (mC M) pc = .ok (.invokestatic idx, 3)) (hq : pc + 3 = q) (hs : stk = As.reverse ++ st) (hok : okC M M' As st np = true)
    (hk : k1 + k2 ≤ k) (hn : n1 + n2 ≤ n) (R0 : Rn M' 0 (la 0 As) [] h k1 n1 Q' E) (kk : ∀ w h', Q' w h' → Rn M q lv (bhd M' w st) h' k2 n2 Q E) : Rn M pc lv stk h k n Q E := by
  subst hq
  subst hs
  intro G p l e R s m args below meth c mc ms Z H locs cells slots ls X V T hT Y
  obtain ⟨hc, w1, w2⟩ := hL
  obtain ⟨o1, o2, o3, o4, o5, o6⟩ := okC_all hok
  have hts := X.1.2.2.2.2
  have hb : c.code = mC M := X.1.2.1
  obtain ⟨mk, methM, cM, hnamed, hmethM, -, -, -, -, -, -, hsigM⟩ := cdW_spec (hts _ hc.2.2.2.2)
  have hstatic : methM.isStatic = true := Cond.static_spec hnamed hmethM (hts _ w2)
  obtain ⟨kP, hkP, -⟩ := className_of_methodNamed hnamed
  have hinitP : kP.init = .initialized := Cond.initialized_spec (findClass_of_methodNamed hnamed) hkP (hts _ hc.2.2.2.1)
  obtain ⟨vm₁, X₁, hstep₁⟩ := Y.invokestatic X.1.1 X.1.2.2.2.1 (hts _ w1) hnamed hmethM hstatic hkP hinitP hc.2.1 (g := F0 m pc ls ((As.reverse ++ st).map vv)) rfl (argsL := As.map vv) (rest := st.map vv) (by rw [List.length_map, o6]; exact np_len hc.2.2.1 hsigM) (by show (As.reverse ++ st).map vv = _; rw [List.map_append, List.map_reverse]) (by rw [hb]; exact hd)
  exact x_call X V hc ⟨o1, o2, o3, o4, o5⟩ hk hn R0 kk hT X₁ (X₁.named hnamed) hd (fun target hh => hstep₁ target hh)
theorem r_cV {idx np c0 : Nat} {T0 : u_T} {N0 : Nat} (b : Nat) (As : List AV) (hL : MLV (mY M).cls idx M' np) (hcl : xcl[c0]? = some ((mY M').cls, T0, N0)) (hd : decode (mC M) pc = .ok (.invokevirtual idx, 3)) (hq : pc + 3 = q) (hs : stk = As.reverse ++ rV b :: st) (hok : okC M M' (rV b :: As) st (np + 1) = true) (hkd : kd h b = c0 + 1)
    (hk : k1 + k2 ≤ k) (hn : n1 + n2 ≤ n) (R0 : Rn M' 0 (la 0 (rV b :: As)) [] h k1 n1 Q' E) (kk : ∀ w h', Q' w h' → Rn M q lv (bhd M' w st) h' k2 n2 Q E) : Rn M pc lv stk h k n Q E := by
  subst hq
  subst hs
  intro G p l e R s m args below meth c mc ms Z H locs cells slots ls X V T hT Y
  obtain ⟨hc, w1, w2, w3⟩ := hL
  obtain ⟨o1, o2, o3, o4, o5, o6⟩ := okC_all hok
  have hts := X.1.2.2.2.2
  have hb : c.code = mC M := X.1.2.1
  have hc14 : c0 < 14 := (List.getElem?_eq_some_iff.mp hcl).1
  obtain ⟨b, rfl, hbs⟩ := V.2.2.1.pos (a := b) (by omega)
  obtain ⟨⟨r, q1, cellB, q2, q3, q4, q5⟩, -⟩ := (V.2.2.1.2.2.2.2 b).1 c0 hkd (by omega)
  have hfc : s.vm.findClass (mY M').cls = some cellB.cls := by rw [q3]; exact (X.2.1.1 c0 _ hcl).2.1
  obtain ⟨mk, methM, hnamed, hmethM, hstM, habM⟩ := Cond.instanceMethod_spec (hts _ w2)
  obtain ⟨mk', methM', cM, hnamed', hmethM', -, -, -, -, -, -, hsigM⟩ := cdW_spec (hts _ hc.2.2.2.2)
  cases hnamed.symm.trans hnamed'
  cases hmethM.symm.trans hmethM'
  obtain ⟨c2, r2, m2, p1, p2, p3, p4, kP, hkP, hkPi⟩ := Cond.selects_spec (hts _ w3)
  cases hfc.symm.trans p1
  cases (State.methodFound?_of_named hnamed hc.2.1).symm.trans p2
  cases hnamed.symm.trans p3
  have hselP : selectMethod e.platform s.vm cellB.cls mk = .method mk := by rw [Launch.admits_selectMethod Y.admits]; exact p4
  obtain ⟨vm₁, X₁, hstep₁⟩ := Y.invokevirtual X.1.1 X.1.2.2.2.1 (hts _ w1) hnamed hmethM hstM hkP hkPi hc.2.1 (a := b) (cell := cellB) (by rw [hT]; exact q2)
    (fun z hz => by rw [q4] at hz; cases hz) hselP hmethM habM hkP hkPi (g := F0 m pc ls ((As.reverse ++ rV (b + 1) :: st).map vv)) rfl (argsL := As.map vv) (rest := st.map vv) (by rw [List.length_map]; have := np_len hc.2.2.1 hsigM; simp only [List.length_cons] at o6; omega) (by show (As.reverse ++ rV (b + 1) :: st).map vv = _; rw [List.map_append, List.map_reverse]; rfl) (by rw [hb]; exact hd)
  exact x_call X V hc ⟨o1, o2, o3, o4, o5⟩ hk hn R0 kk hT X₁ (X₁.named hnamed) hd (fun target hh => hstep₁ target hh)
theorem cdW_code {M' : MI} {args : Array Value} {s : State} (hx : (mX M').isEmpty = true) (hr : mR M' = none) (h : (cdW M').before args s = true) : (Cond.code (mY M') (mC M') (mL M') none).before args s = true := by
  unfold cdW at h
  rw [if_pos hx, hr] at h
  exact h
theorem r_cI {idx np : Nat} (b : Nat) (As : List AV) (hL : MLI (mY M).cls idx M' np) (hx : (mX M').isEmpty = true) (hr0 : mR M' = none) (hd : decode (mC M) pc = .ok (.invokespecial idx, 3)) (hq : pc + 3 = q) (hs : stk = As.reverse ++ rV b :: st) (hok : okC M M' (rV b :: As) st (np + 1) = true) (hkd : kd h b ≠ 0)
    (hk : k1 + k2 ≤ k) (hn : n1 + n2 ≤ n) (R0 : Rn M' 0 (la 0 (rV b :: As)) [] h k1 n1 Q' E) (kk : ∀ w h', Q' w h' → Rn M q lv (bhd M' w st) h' k2 n2 Q E) : Rn M pc lv stk h k n Q E := by
  subst hq
  subst hs
  intro G p l e R s m args below meth c mc ms Z H locs cells slots ls X V T hT Y
  obtain ⟨hc, w0, w1, w2⟩ := hL
  obtain ⟨o1, o2, o3, o4, o5, o6⟩ := okC_all hok
  have hts := X.1.2.2.2.2
  have hb : c.code = mC M := X.1.2.1
  obtain ⟨b, rfl, hbs⟩ := V.2.2.1.pos hkd
  have hpl : e.platform.magicAccessors = ({} : Platform).magicAccessors := by rw [Y.admits.platform]
  have hcode := cdW_code hx hr0 (hts _ hc.2.2.2.2)
  have hlen : ∀ sig, parseMethodDescriptor (mY M').desc = some sig → (As.map vv).length = sig.parameters.length := fun sig hsig => by rw [List.length_map]; have := np_len hc.2.2.1 hsig; simp only [List.length_cons] at o6; omega
  have hstk : (F0 m pc ls ((As.reverse ++ rV (b + 1) :: st).map vv)).stack = (As.map vv).reverse ++ .ref b :: st.map vv := by show (As.reverse ++ rV (b + 1) :: st).map vv = _; rw [List.map_append, List.map_reverse]; rfl
  rcases w1 with w1 | ⟨host, w1⟩
  · obtain ⟨mk, methM, cM, kP, vm₁, hnamed, hmethM, hcodeM, -, hlocalsM, -, hkP, -, hW₁, hstep₁⟩ := Steps.initColdArgs (e := e) Y.here X.1.1 Y.warmed hpl X.1.2.2.2.1 w0 hc.2.1 (hts _ w1) (hts _ w2) hcode (f := F0 m pc ls ((As.reverse ++ rV (b + 1) :: st).map vv)) rfl hlen hstk (by rw [hb]; exact hd)
    have X₁ := Y.noted hW₁
    exact x_call X V hc ⟨o1, o2, o3, o4, o5⟩ hk hn R0 kk hT X₁ (X₁.named hnamed) hd (fun target hh => hstep₁ target hh)
  · obtain ⟨mk, methM, cM, kP, vm₁, hnamed, hmethM, hcodeM, -, hlocalsM, -, hkP, -, hW₁, hstep₁⟩ := Steps.initColdArgsNest (e := e) Y.here X.1.1 Y.warmed hpl X.1.2.2.2.1 w0 hc.2.1 (va_Nw.use rfl (X.2.1.2.2.2.2 _ w1 rfl)) (hts _ w2) hcode (f := F0 m pc ls ((As.reverse ++ rV (b + 1) :: st).map vv)) rfl hlen hstk (by rw [hb]; exact hd)
    have X₁ := Y.noted hW₁
    exact x_call X V hc ⟨o1, o2, o3, o4, o5⟩ hk hn R0 kk hT X₁ (X₁.named hnamed) hd (fun target hh => hstep₁ target hh)
end CALLROWS
