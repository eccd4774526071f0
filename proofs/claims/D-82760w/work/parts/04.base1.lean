/-! the pure machine: values, heap, picture -/
set_option maxRecDepth 100000
/-- values: int, long, reference (0: null; a + 1: the cell a) -/
abbrev AV : Type := Int32 ⊕ (Int64 ⊕ Nat)
abbrev iV (x : Int32) : AV := Sum.inl x
abbrev jV (x : Int64) : AV := Sum.inr (Sum.inl x)
abbrev rV (a : Nat) : AV := Sum.inr (Sum.inr a)
def vr (a : Nat) : Value := match a with
  | 0 => .null
  | k + 1 => .ref k
def vv (v : AV) : Value := match v with
  | .inl x => .int x
  | .inr (.inl x) => .long x
  | .inr (.inr a) => vr a
def wd (v : AV) : Nat := match v with
  | .inl _ => 1
  | .inr (.inl _) => 2
  | .inr (.inr _) => 1
theorem vr_cat (a : Nat) : (vr a).category = 1 := by cases a <;> rfl
theorem vv_cat (v : AV) : (vv v).category = wd v := by
  rcases v with x | x | a
  · rfl
  · rfl
  · exact vr_cat a
theorem vr_rf (a : Nat) : vr a = va_rf (if a = 0 then none else some (a - 1)) := by cases a <;> simp [vr, va_rf]
theorem vr_ref {a : Nat} (h : a ≠ 0) : vr a = .ref (a - 1) := by
  cases a with
  | zero => exact absurd rfl h
  | succ k => rfl
/-- the heap: next address, kinds, lengths; int, long, reference fields (field number, address); int, long, reference elements (address, place); constants' addresses -/
abbrev Hp : Type := Nat × (Nat → Nat) × (Nat → Nat) × (Nat → Nat → Int32) × (Nat → Nat → Int64) × (Nat → Nat → Nat) × (Nat → Nat → Int32) × (Nat → Nat → Int64) × (Nat → Nat → Nat) × (Nat → Nat)
def nx (h : Hp) : Nat := h.1
def kd (h : Hp) : Nat → Nat := h.2.1
def ln (h : Hp) : Nat → Nat := h.2.2.1
def gI (h : Hp) : Nat → Nat → Int32 := h.2.2.2.1
def gJ (h : Hp) : Nat → Nat → Int64 := h.2.2.2.2.1
def gR (h : Hp) : Nat → Nat → Nat := h.2.2.2.2.2.1
def eI (h : Hp) : Nat → Nat → Int32 := h.2.2.2.2.2.2.1
def eJ (h : Hp) : Nat → Nat → Int64 := h.2.2.2.2.2.2.2.1
def eR (h : Hp) : Nat → Nat → Nat := h.2.2.2.2.2.2.2.2.1
def kc (h : Hp) : Nat → Nat := h.2.2.2.2.2.2.2.2.2
def up2 {α : Type} (f : Nat → Nat → α) (i j : Nat) (v : α) : Nat → Nat → α := fun a b => if a = i ∧ b = j then v else f a b
def clr {α : Type} (f : Nat → Nat → α) (j : Nat) (v : α) : Nat → Nat → α := fun a b => if b = j then v else f a b
def cle {α : Type} (f : Nat → Nat → α) (i : Nat) (v : α) : Nat → Nat → α := fun a b => if a = i then v else f a b
def pI (h : Hp) (f a : Nat) (v : Int32) : Hp := (nx h, kd h, ln h, up2 (gI h) f a v, gJ h, gR h, eI h, eJ h, eR h, kc h)
def pJ (h : Hp) (f a : Nat) (v : Int64) : Hp := (nx h, kd h, ln h, gI h, up2 (gJ h) f a v, gR h, eI h, eJ h, eR h, kc h)
def pR (h : Hp) (f a v : Nat) : Hp := (nx h, kd h, ln h, gI h, gJ h, up2 (gR h) f a v, eI h, eJ h, eR h, kc h)
def sI (h : Hp) (a i : Nat) (v : Int32) : Hp := (nx h, kd h, ln h, gI h, gJ h, gR h, up2 (eI h) a i v, eJ h, eR h, kc h)
def sJ (h : Hp) (a i : Nat) (v : Int64) : Hp := (nx h, kd h, ln h, gI h, gJ h, gR h, eI h, up2 (eJ h) a i v, eR h, kc h)
def sR (h : Hp) (a i v : Nat) : Hp := (nx h, kd h, ln h, gI h, gJ h, gR h, eI h, eJ h, up2 (eR h) a i v, kc h)
/-- a new object of the class c, a new array of the kind t and length n -/
def nO (h : Hp) (c : Nat) : Hp := (nx h + 1, va_up (kd h) (nx h) (c + 1), ln h, clr (gI h) (nx h) 0, clr (gJ h) (nx h) 0, clr (gR h) (nx h) 0, eI h, eJ h, eR h, kc h)
def nA (h : Hp) (t n : Nat) : Hp := (nx h + 1, va_up (kd h) (nx h) (61 + t), va_up (ln h) (nx h) n, gI h, gJ h, gR h, cle (eI h) (nx h) 0, cle (eJ h) (nx h) 0, cle (eR h) (nx h) 0, kc h)
/-- the world: class numbers and slots; array classes; how many cells were there before, which; where the constants are -/
abbrev Wd : Type := va_G × (Nat → ClassId) × Nat × Heap × (Nat → Nat)
abbrev gB (G : Wd) : Nat := G.2.2.1
abbrev gH (G : Wd) : Heap := G.2.2.2.1
abbrev gK (G : Wd) : Nat → Nat := G.2.2.2.2
def fvl (h : Hp) (a : Nat) (q : Nat × Nat) : Value := if q.1 = 0 then .int (gI h q.2 a) else if q.1 = 1 then .long (gJ h q.2 a) else vr (gR h q.2 a)
def eV (h : Hp) (a t j : Nat) : Value := if t = 1 then .long (eJ h a j) else if t = 4 then vr (eR h a j) else .int (eI h a j)
def oAt (G : Wd) (h : Hp) (H : Heap) (a c : Nat) : Prop := va_at G.1 xcl (a, .inr (c, (fl c).map (fvl h (a + 1)))) H
/-- an object that was there before: read only -/
def oAtR (G : Wd) (h : Hp) (H : Heap) (a c : Nat) : Prop := ∃ cell : Cell, H[a]? = some cell ∧ cell.cls = G.1.1 c ∧ cell.vm.isStatics = false ∧ cell.vm ≠ .unknown ∧ ∀ (k : Nat) (q : Nat × Nat), (fl c)[k]? = some q → cell.slots[G.1.2 c k]? = some (fvl h (a + 1) q)
def aAt (G : Wd) (h : Hp) (H : Heap) (a t : Nat) : Prop := ∃ cell : Cell, H[a]? = some cell ∧ cell.cls = G.2.1 t ∧ cell.vm.isStatics = false ∧ cell.vm ≠ .unknown ∧ cell.slots.size = ln h (a + 1) ∧ ∀ j : Nat, j < ln h (a + 1) → cell.slots[j]? = some (eV h (a + 1) t j)
/-- bytes are bytes -/
def byF (h : Hp) (a t : Nat) : Prop := t = 2 → ∀ j : Nat, j < ln h a → fits .byte (.int (eI h a j)) = true
/-- what stands at the cell a, by its kind: 1.. objects, 31.. objects from before, 61.. arrays, 71.. arrays from before -/
def cAt (G : Wd) (h : Hp) (H : Heap) (a : Nat) : Prop :=
  (∀ c, kd h (a + 1) = c + 1 → c < 30 → oAt G h H a c ∧ gB G ≤ a) ∧ (∀ c, kd h (a + 1) = c + 31 → c < 30 → oAtR G h H a c) ∧
  (∀ t, kd h (a + 1) = 61 + t → t < 10 → (aAt G h H a t ∧ byF h (a + 1) t) ∧ gB G ≤ a) ∧ (∀ t, kd h (a + 1) = 71 + t → t < 10 → aAt G h H a t ∧ byF h (a + 1) t)
def Rp (G : Wd) (h : Hp) (H : Heap) : Prop := H.size + 1 = nx h ∧ (gB G ≤ H.size ∧ kc h = gK G ∧ ∀ a, a < gB G → H[a]? = (gH G)[a]?) ∧ kd h 0 = 0 ∧ (∀ a, nx h ≤ a → kd h a = 0) ∧ ∀ a, cAt G h H a
/-- the kinds of array: their element types -/
def aTy (t : Nat) : FieldType := if t = 0 then .int else if t = 1 then .long else if t = 2 then .byte else if t = 3 then .boolean else if t = 4 then .object "java/lang/Object" else .int
/-- words that do not ride in lists, and hold all through -/
def nkW : Cond → Bool
  | .fieldLinkNest .. => true
  | .methodLinkNest .. => true
  | .castable .. => true
  | .declares .. => true
  | _ => false
abbrev Fr (G : Wd) : Nat → Prop := fun q => gB G ≤ q
/-- constants: statics, texts, a class's mirror -/
def KC (G : Wd) (U : State) : Prop :=
  va_Z "java/util/ArrayList" "DEFAULTCAPACITY_EMPTY_ELEMENTDATA" "[Ljava/lang/Object;" (vr (gK G 0)) (Fr G) U (gH G) ∧ va_Z "java/lang/String" "COMPACT_STRINGS" "Z" (.int 1) (Fr G) U (gH G) ∧
  va_Z "java/lang/Throwable" "UNASSIGNED_STACK" "[Ljava/lang/StackTraceElement;" (vr (gK G 21)) (Fr G) U (gH G) ∧ va_Z "java/lang/Throwable" "SUPPRESSED_SENTINEL" "Ljava/util/List;" (vr (gK G 22)) (Fr G) U (gH G) ∧
  (∀ q ∈ strT, vk_R "RainStreets" q.1 q.2.1 (gK G q.2.2 - 1) U ∧ gK G q.2.2 ≠ 0) ∧ va_Mi "[Ljava/lang/Object;" (gK G 20 - 1) U ∧ gK G 20 ≠ 0
theorem KC.warm {G : Wd} {s U : State} (hW : s.WarmedH U.vm) (h : KC G s) : KC G U := by
  obtain ⟨h1, h2, h3, h4, h5, h6, h7⟩ := h
  exact ⟨va_Z.moved hW.alike h1, va_Z.moved hW.alike h2, va_Z.moved hW.alike h3, va_Z.moved hW.alike h4, fun q hq => ⟨vk_R.warm hW (h5 q hq).1, (h5 q hq).2⟩, va_Mi.moved hW.alike h6, h7⟩
/-- what the tables say, at a state -/
def KK (G : Wd) (U : State) : Prop := (∀ (c : Nat) (q : vw_C), xcl[c]? = some q → u_Kn U q.1 q.2.1 q.2.2 (G.1.1 c) (G.1.2 c)) ∧ (∀ t, t < 6 → ArrOfT U (G.2.1 t) (aTy t)) ∧ (∀ t, t < 5 → va_RA U (G.2.1 t) (aTy t)) ∧ (va_AO "java/lang/Object" U ∧ KC G U) ∧ ∀ w, w ∈ lw_tbl → nkW w = true → va_Nw w U
theorem KK.warm {G : Wd} {s U : State} (hW : s.WarmedH U.vm) (h : KK G s) : KK G U := by
  obtain ⟨h1, h2, h3, h4, h5⟩ := h
  refine ⟨fun c q hq => u_Kn_moved hW.alike (h1 c q hq), fun t ht => arrOfT_moved hW.alike (h2 t ht), fun t ht => (h3 t ht).moved hW.alike, ⟨va_AO.moved hW.alike h4.1, h4.2.warm hW⟩, fun w hw hk => ?_⟩
  have h := h5 w hw hk
  cases w <;> first | (simp [nkW] at hk; done) | exact va_Nw.warmF hW h | exact va_Nw.warmM hW h | exact va_Nw.warmC hW h | exact va_Nw.warmD hW h
/-- methods: name, code, locals, answer, depth, handlers -/
abbrev MI : Type := MethodName × ByteArray × Nat × Option FieldType × Nat × List (Nat × Nat × Nat × Nat)
abbrev mY (M : MI) : MethodName := M.1
abbrev mC (M : MI) : ByteArray := M.2.1
abbrev mL (M : MI) : Nat := M.2.2.1
abbrev mR (M : MI) : Option FieldType := M.2.2.2.1
abbrev mD (M : MI) : Nat := M.2.2.2.2.1
abbrev mX (M : MI) : List (Nat × Nat × Nat × Nat) := M.2.2.2.2.2
/-- how a method may end -/
def Oq (rt : Option FieldType) (Q : AV → Hp → Prop) (E : Nat → Hp → Prop) (o : Outcome) (h : Hp) : Prop := match o with
  | .returned none => rt = none ∧ Q (rV 0) h
  | .returned (some v) => rt ≠ none ∧ ∃ w : AV, v = vv w ∧ Q w h
  | .threw a => E (a + 1) h
/-- the fixed part of a walk -/
def Cx (M : MI) (G : Wd) (p : Program) (l : Launch) (e : Env) (R : Room) (s : State) (m : MethodId) (args : Array Value) (below : List Frame) (meth : Method) (c : Code) (mc ms : Nat) (Z : State → Prop) (Q : AV → Hp → Prop) (E : Nat → Hp → Prop) : Prop :=
  (p.tables.exec = Jvm.exec ∧ c.code = mC M ∧ c.maxLocals = mL M ∧ s.vm.findClass (mY M).cls = some m.cls ∧ ∀ w ∈ lw_all, w.before args s = true) ∧ KK G s ∧ meth.sig.returnType = mR M ∧ meth.locks = false ∧ meth.name = (mY M).name ∧
  c.exceptionTable.toList.map (fun x => (x.startPc, x.endPc, x.handlerPc, x.catchType)) = mX M ∧ mD M ≤ R.frames ∧ 40 * mD M ≤ R.locals ∧ mc ≤ R.cells ∧ ms ≤ R.slots ∧
  ∀ (o : Outcome) (h : Hp) (t : State) (locs : List Loc), Oq (mR M) Q E o h → Rp G h t.heap → va_S (Fr G) s.heap t.heap locs → t.status = .running → Ended t below o → s.WarmedH t.vm → s.sameButNew ({ t with vm := s.vm } : State) locs mc ms → Z t
/-- the moving part -/
def Mv (M : MI) (G : Wd) (s : State) (H : Heap) (locs : List Loc) (cells slots mc ms : Nat) (ls : Array Slot) (lv : List (Nat × AV)) (h : Hp) (k n : Nat) : Prop :=
  cells + k ≤ mc ∧ slots + n ≤ ms ∧ Rp G h H ∧ va_S (Fr G) s.heap H locs ∧ lv_has ls (mL M) (lv.map fun q => (q.1, vv q.2))
/-- THE JUDGEMENT: from pc, with these locals, stack, heap and room for k cells of n slots, the method ends with Q, or throws with E -/
def Rn (M : MI) (pc : Nat) (lv : List (Nat × AV)) (st : List AV) (h : Hp) (k n : Nat) (Q : AV → Hp → Prop) (E : Nat → Hp → Prop) : Prop :=
  ∀ (G : Wd) (p : Program) (l : Launch) (e : Env) (R : Room) (s : State) (m : MethodId) (args : Array Value) (below : List Frame) (meth : Method) (c : Code) (mc ms : Nat) (Z : State → Prop) (H : Heap) (locs : List Loc) (cells slots : Nat) (ls : Array Slot),
    Cx M G p l e R s m args below meth c mc ms Z Q E → Mv M G s H locs cells slots mc ms ls lv h k n → W p l e R s m args below meth c H locs cells slots Z (F0 m pc ls (st.map vv))
def qI (Q : Int32 → Hp → Prop) : AV → Hp → Prop := fun v h => ∃ r, v = iV r ∧ Q r h
def qJ (Q : Int64 → Hp → Prop) : AV → Hp → Prop := fun v h => ∃ r, v = jV r ∧ Q r h
def qR (Q : Nat → Hp → Prop) : AV → Hp → Prop := fun v h => ∃ r, v = rV r ∧ Q r h
def qV (Q : Hp → Prop) : AV → Hp → Prop := fun v h => v = rV 0 ∧ Q h
/-- arguments as locals -/
def la : Nat → List AV → List (Nat × AV)
  | _, [] => []
  | i, v :: vs => (i, v) :: la (i + wd v) vs
/-- contracts: a call of M with the arguments av -/
abbrev CtI (M : MI) (av : List AV) (h : Hp) (k n : Nat) (Q : Int32 → Hp → Prop) (E : Nat → Hp → Prop) : Prop := Rn M 0 (la 0 av) [] h k n (qI Q) E
abbrev CtJ (M : MI) (av : List AV) (h : Hp) (k n : Nat) (Q : Int64 → Hp → Prop) (E : Nat → Hp → Prop) : Prop := Rn M 0 (la 0 av) [] h k n (qJ Q) E
abbrev CtR (M : MI) (av : List AV) (h : Hp) (k n : Nat) (Q : Nat → Hp → Prop) (E : Nat → Hp → Prop) : Prop := Rn M 0 (la 0 av) [] h k n (qR Q) E
abbrev CtV (M : MI) (av : List AV) (h : Hp) (k n : Nat) (Q : Hp → Prop) (E : Nat → Hp → Prop) : Prop := Rn M 0 (la 0 av) [] h k n (qV Q) E
