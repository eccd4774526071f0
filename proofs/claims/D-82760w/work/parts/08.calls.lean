/-! calls: a contract serves at every call -/
set_option maxRecDepth 100000
/-- a method's own word -/
def cdW (M : MI) : Cond := if (mX M).isEmpty then Cond.code (mY M) (mC M) (mL M) (mR M) else Cond.codeWith (mY M) (mC M) (mL M) (mR M) (mX M)
theorem cdW_spec {M : MI} {a : Array Value} {U : State} (h : (cdW M).before a U = true) : ∃ (m : MethodId) (meth : Method) (c : Code), U.methodNamed? (mY M) = some m ∧ U.vm.method? m = some meth ∧ meth.code = some c ∧ c.code = mC M ∧ c.maxLocals = mL M ∧
    c.exceptionTable.toList.map (fun x => (x.startPc, x.endPc, x.handlerPc, x.catchType)) = mX M ∧ meth.sig.returnType = mR M ∧ meth.locks = false ∧ parseMethodDescriptor (mY M).desc = some meth.sig := by
  unfold cdW at h
  split at h
  · rename_i he
    obtain ⟨m, hn⟩ := Cond.code_named h
    obtain ⟨meth, c, h1, h2, h3, h4, h5, h6, h7, h8⟩ := Cond.code_spec hn h
    refine ⟨m, meth, c, hn, h1, h2, h3, h4, ?_, h5, h6, h8⟩
    have e1 : mX M = [] := List.isEmpty_iff.mp he
    have e2 : c.exceptionTable.toList = [] := by
      have := Array.isEmpty_iff.mp h7
      rw [this]
    rw [e1, e2]
    rfl
  · exact Cond.codeWith_spec h
theorem la_args : ∀ (av : List AV) (i : Nat), lv_args i (av.map vv) = (la i av).map fun q => (q.1, vv q.2)
  | [], _ => rfl
  | v :: t, i => by
    show (i, vv v) :: lv_args (if (vv v).category = 2 then i + 2 else i + 1) (t.map vv) = (i, vv v) :: (la (i + wd v) t).map fun q => (q.1, vv q.2)
    rw [vv_cat]
    have e : (if wd v = 2 then i + 2 else i + 1) = i + wd v := by rcases v with x | x | x <;> rfl
    rw [e, la_args t]
theorem sl_len : ∀ (av : List AV), (lg_sl (av.map vv)).length = (av.map wd).sum
  | [] => rfl
  | v :: t => by
    have ih := sl_len t
    unfold lg_sl at ih ⊢
    rw [List.map_cons, List.flatMap_cons, List.length_append, ih, List.map_cons, List.sum_cons, vv_cat]
    congr 1
    rcases v with x | x | x <;> rfl
abbrev rmM (M : MI) (k n : Nat) : Room := { frames := mD M, cells := k, slots := n, locals := 40 * mD M }
/-- a method's end, said of states -/
def qM (rt : Option FieldType) (G : Wd) (k n : Nat) (Q : AV → Hp → Prop) (E : Nat → Hp → Prop) : Array Value → State → Outcome → State → Prop := fun _ st o t => ∃ h : Hp, Oq rt Q E o h ∧ Rp G h t.heap ∧ va_F (Fr G) st t ∧ st.WarmedH t.vm ∧ ∃ L, st.sameButNew ({ t with vm := st.vm } : State) L k n ∧ ∀ q ∈ L, Fr G q.base
def pM (G : Wd) (av : List AV) (h : Hp) : Array Value → State → Prop := fun v U => v = (av.map vv).toArray ∧ Rp G h U.heap ∧ KK G U
theorem met_of {M : MI} {av : List AV} {h : Hp} {k n : Nat} {Q : AV → Hp → Prop} {E : Nat → Hp → Prop} (R0 : Rn M 0 (la 0 av) [] h k n Q E) (hy : plainName (mY M).cls = true) (hlen : (av.map wd).sum ≤ mL M) (G : Wd) (l : Launch) :
    MetFree l (mY M) (headSpec (cdW M :: lw_all) (rmM M k n)) (pM G av h) (fun _ _ _ _ _ => True) (qM (mR M) G k n Q E) := by
  refine MetFree.of_bodyS (code := mC M) (maxLocals := mL M) (ret := mR M) hy ?_ ?_
  · intro args s m h0 hn
    obtain ⟨m9, meth, c, hn9, h1, h2, h3, h4, -, h5, h6, -⟩ := cdW_spec (atoms_spec (ws := cdW M :: lw_all) h0 _ List.mem_cons_self)
    cases hn.symm.trans hn9
    exact ⟨meth, c, h1, h2, h3, h4, h5, h6⟩
  · intro p e s m args below meth c s₁ B hml hP _
    obtain ⟨rfl, hR, hK⟩ := hP
    have hts := atoms_spec (ws := cdW M :: lw_all) B.pre
    obtain ⟨m9, meth9, c9, hn9, h1, h2, h3, h4, h7, h5, h6, -⟩ := cdW_spec (hts _ List.mem_cons_self)
    cases B.named.symm.trans hn9
    cases B.method.symm.trans h1
    have hcode : meth.code = some c := by
      have hh := B.here.code
      rw [State.code?_eq, show s₁.vm.method? m = some meth by rw [B.state]; exact B.method] at hh
      exact hh
    cases hcode.symm.trans h2
    have hh0 : s₁.heap = s.heap := by rw [B.state]; rfl
    have hl := lv_entry (av.map vv) (n := mL M) (by rw [sl_len]; exact hlen)
    rw [la_args] at hl
    have K := R0 G p l e (rmM M k n) s m (av.map vv).toArray below meth c k n (fun t => ∃ o, t.status = .running ∧ Ended t below o ∧ qM (mR M) G k n Q E (av.map vv).toArray s o t) s.heap [] 0 0 _
      ⟨⟨B.exec, B.bytes, hml, findClass_of_methodNamed B.named, fun w hw => hts w (List.mem_cons_of_mem _ hw)⟩, hK, B.returns, B.notSynchronized, (name_of_methodNamed B.named B.method).1, h7, Nat.le_refl _, Nat.le_refl _, Nat.le_refl _, Nat.le_refl _,
        fun o h t locs hO hRp hS a1 a2 a3 a4 => ⟨o, a1, a2, h, hO, hRp, ⟨hS.1, fun q z1 z2 => hS.2.1 q z1 z2⟩, a3, locs, a4, hS.2.2⟩⟩
      ⟨by omega, by omega, hR, va_S.rf, hl⟩
    obtain ⟨t, a1, o, b1, b2, b3⟩ := K s₁ hh0 (Stand.of_body B)
    refine ⟨t, o, ?_, b1, b2, b3⟩
    rw [lg_entry_eq]
    exact a1
section CALLS
variable {p : Program} {l : Launch} {e : Env} {R : Room} {s : State} {m : MethodId} {args : Array Value} {below : List Frame} {meth : Method} {c : Code} {T : State} {locs : List Loc} {cells slots : Nat} {G : Wd}
theorem x_back {M' : MI} {av : List AV} {h : Hp} {k n : Nat} {Q' : AV → Hp → Prop} {E' : Nat → Hp → Prop} (R0 : Rn M' 0 (la 0 av) [] h k n Q' E') (hy : plainName (mY M').cls = true) (hlen : (av.map wd).sum ≤ mL M')
    (X : Stand p l e R s m args below meth c T locs cells slots) (hts : ∀ w ∈ lw_all, w.before args s = true) (hK : KK G s) (P : Rp G h T.heap) (hcd : cdW M' ∈ lw_all) (hin : Cond.initialized (mY M').cls ∈ lw_all) (hfr : mD M' + 1 ≤ R.frames) (hlo : 8 + (mL M' + 11) + 40 * mD M' ≤ R.locals) (hcc : cells + k ≤ R.cells) (hss : slots + n ≤ R.slots)
    {g : JFrame} (hg : g.method = m) (hsize : g.locals.size = c.maxLocals) {ig : Instr} (hdg : decode c.code g.pc = .ok (ig, 3)) (hW : 2 * g.monitorRoom + (g.stack.map fun v => v.category).sum ≤ 8) {mk : MethodId} (hn : T.methodNamed? (mY M') = some mk) :
    ∃ (o : Outcome) (T' : State) (L : List Loc) (h' : Hp), Stand p l e R s m args below meth c T' (locs ++ L) (cells + k) (slots + n) ∧ Oq (mR M') Q' E' o h' ∧ Rp G h' T'.heap ∧ va_F (Fr G) T T' ∧ (∀ q ∈ L, Fr G q.base) ∧
      (∀ v, o = .returned v → Steps p.tables e below (doInvoke e (T.setTop g) [] mk (av.map vv).toArray).1 (T'.setTop { g with pc := g.pc + 3, stack := v.toList ++ g.stack })) ∧
      (∀ x, o = .threw x → Steps p.tables e below (doInvoke e (T.setTop g) [] mk (av.map vv).toArray).1 ((T'.setTop g).pushFrame (.throwing x))) := by
  have hM := met_of R0 hy hlen G l
  have hwarm : ∀ w ∈ lw_all, ∀ (a' : Array Value), w.before a' T = true := fun w hw a' => word_at X.warmed (lw_self w hw).2 (hts w hw)
  have hpre : (headSpec (cdW M' :: lw_all) (rmM M' k n)).pre.before (av.map vv).toArray T = true := atoms_intro fun w hw => by
    rcases List.mem_cons.mp hw with e0 | e0
    · rw [e0]; exact hwarm _ hcd _
    · exact hwarm w e0 _
  obtain ⟨m9, methY, cY, hn9, hmY, hcY, -, hlY, -⟩ := cdW_spec (hwarm _ hcd (av.map vv).toArray)
  cases hn.symm.trans hn9
  obtain ⟨kY, hkY, -⟩ := className_of_methodNamed hn
  have hinitY : kY.init = .initialized := Cond.initialized_spec (findClass_of_methodNamed hn) hkY (hwarm _ hin (av.map vv).toArray)
  have hh : At T g.method c below := by rw [hg]; exact X.here
  have happ : (headSpec (cdW M' :: lw_all) (rmM M' k n)).appliesLoose (mY M') e.platform (T.calling g mk (av.map vv).toArray) = true :=
    Spec.appliesLoose_calling (g := g) hh hdg hn hkY hinitY
      (X.room_calling (g := g) (R' := rmM M' k n) hsize hmY hcY hfr (by rw [hlY]; show _ + (_ + 11) + 40 * mD M' ≤ _; omega) hcc hss) hpre
  obtain ⟨mid, hmid⟩ := hh.above
  have hfr : (T.setTop g).frames = (.java g :: mid) ++ below := by rw [State.frames_setTop' g hh.top, hmid]; rfl
  have hpp : pM G av h (av.map vv).toArray (T.calling g mk (av.map vv).toArray) := ⟨rfl, P, hK.warm X.warmed⟩
  obtain ⟨o, s₂, hsteps, -, hend, hq⟩ := Steps.callFree hM p X.admits X.cas X.clock (acts := []) hfr happ hpp trivial
  rw [State.frames_setTop' g hh.top] at hend
  have hq' : qM (mR M') G k n Q' E' (av.map vv).toArray (T.calling g mk (av.map vv).toArray) o s₂ := hq
  obtain ⟨h', hO, hRp, hF, hW₂, L, ⟨e2, q2, q3, q4, q5, q6⟩, hL⟩ := hq'
  have e3 : s₂ = ({ (T.calling g mk (av.map vv).toArray).setFrames s₂.frames with heap := s₂.heap, slotsUsed := s₂.slotsUsed } : State).setVm s₂.vm := by
    have : s₂ = ({ s₂ with vm := (T.calling g mk (av.map vv).toArray).vm } : State).setVm s₂.vm := rfl
    rw [e2] at this
    exact this
  have hW' : T.WarmedH s₂.vm := hW₂
  obtain ⟨g₀, hg0⟩ := Option.isSome_iff_exists.mp hh.top
  obtain ⟨r, hr⟩ := State.topJava?_eq_some.mp hg0
  have hr' : (({ T with heap := s₂.heap, slotsUsed := s₂.slotsUsed } : State).setVm s₂.vm).frames = .java g₀ :: r := hr
  have hsame : T.sameButNew ({ T with heap := s₂.heap, slotsUsed := s₂.slotsUsed } : State) L k n := by
    refine ⟨?_, q2, q3, q4, q5, q6⟩
    obtain ⟨t, ht, -⟩ := State.frames_cons hr
    show ({ T with heap := s₂.heap, slotsUsed := s₂.slotsUsed } : State) = { T.setFrames T.frames with heap := s₂.heap, slotsUsed := s₂.slotsUsed }
    rw [State.setFrames_self ht]
  subst hg
  refine ⟨o, ({ T with heap := s₂.heap, slotsUsed := s₂.slotsUsed } : State).setVm s₂.vm, L, h',
    ⟨X.admits, X.cas, X.clock, X.frames, X.room, X.hears, X.method, X.code, (X.here.setHeapUsed s₂.heap s₂.slotsUsed).setVm hW'.alike, X.tail, State.WarmedH.trans X.warmed hW', X.limits, X.bytes, X.same.trans (hsame.setVm s.vm)⟩,
    hO, hRp, hF, hL, fun v hv => ?_, fun x hx => ?_⟩
  · subst hv
    obtain ⟨c₂, i₂, len₂, hc₂, hd₂, hf₂⟩ := hend
    have hcc : c₂ = c := by
      have h1 : s₂.code? g.method = T.code? g.method := by
        rw [State.code?_eq, State.code?_eq, hW'.alike.method?]
      exact Option.some.inj (hc₂.symm.trans (h1.trans hh.code))
    subst hcc
    have hlen : len₂ = 3 := by rw [hdg] at hd₂; cases hd₂; rfl
    subst hlen
    have hs₂ : s₂ = (({ T with heap := s₂.heap, slotsUsed := s₂.slotsUsed } : State).setVm s₂.vm).setTop { g with pc := g.pc + 3, stack := v.toList ++ g.stack } := by
      refine e3.trans ?_
      rw [hf₂, State.calling_eq hh.top, State.setFrames_setFrames, State.setTop_of_frames _ hr', hr]
      rfl
    rw [← hs₂]
    exact hsteps
  · subst hx
    have hf₂ : s₂.frames = .throwing x :: .java g :: T.frames.tail := hend
    have hs₂ : s₂ = ((({ T with heap := s₂.heap, slotsUsed := s₂.slotsUsed } : State).setVm s₂.vm).setTop g).pushFrame (.throwing x) := by
      refine e3.trans ?_
      rw [hf₂, State.calling_eq hh.top, State.setFrames_setFrames, State.pushFrame, State.frames_setTop _ hr', State.setTop_of_frames _ hr', State.setFrames_setFrames, hr]
      rfl
    rw [← hs₂]
    exact hsteps
end CALLS
