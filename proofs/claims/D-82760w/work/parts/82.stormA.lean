/-! storm: the component's half -/
set_option maxRecDepth 100000
/-- nothing but scratch and what a storm writes has changed -/
def SC3 (h0 h : Hp) (x : Nat) : Prop := nx h = nx h0 ∧ kd h = kd h0 ∧ ln h = ln h0 ∧ gR h = gR h0 ∧ eR h = eR h0 ∧ kc h = kc h0 ∧ (∀ f, f ∉ scI3 → gI h f = gI h0 f) ∧ (∀ f, f ∉ scJ3 → gJ h f = gJ h0 f) ∧ (∀ a, (∀ o ∈ scA3, a ≠ x + o) → eI h a = eI h0 a) ∧ ∀ a, (∀ o ∈ scB3, a ≠ x + o) → eJ h a = eJ h0 a
theorem sc3I : ∀ f ∈ scI, f ∈ scI3 := by decide
theorem sc3J : ∀ f ∈ scJ, f ∈ scJ3 := by decide
theorem sc3A : ∀ f ∈ scA, f ∈ scA3 := by decide
theorem sc3x : ∀ f ∈ ([106, 107, 108, 308, 205] : List Nat), f ∈ scI3 := by decide
theorem sc3B : ∀ f ∈ scB, f ∈ scB3 := by decide
section
variable {h0 h : Hp} {x : Nat}
theorem SC3.trans {h1 : Hp} (C : SC3 h0 h1 x) (D : SC3 h1 h x) : SC3 h0 h x := by
  obtain ⟨a1, a2, a3, a4, a5, a6, a7, a8, a9, a10⟩ := C
  obtain ⟨b1, b2, b3, b4, b5, b6, b7, b8, b9, b10⟩ := D
  exact ⟨b1.trans a1, b2.trans a2, b3.trans a3, b4.trans a4, b5.trans a5, b6.trans a6, fun f hf => (b7 f hf).trans (a7 f hf), fun f hf => (b8 f hf).trans (a8 f hf), fun a ha => (b9 a ha).trans (a9 a ha), fun a ha => (b10 a ha).trans (a10 a ha)⟩
theorem SC.to3 (C : SC h0 h x) : SC3 h0 h x := by
  obtain ⟨a1, a2, a3, a4, a5, a6, a7, a8, a9, a10⟩ := C
  exact ⟨a1, a2, a3, a4, a5, a6, fun f hf => a7 f fun z => hf (sc3I f z), fun f hf => a8 f fun z => hf (sc3J f z), fun a ha => a9 a fun o ho => ha o (sc3A o ho), fun a ha => a10 a fun o ho => ha o (sc3B o ho)⟩
theorem SC3.wI (C : SC3 h0 h x) {o i : Nat} {v : Int32} (ho : 23 + o ∈ scA3) : SC3 h0 (sI h (x + 23 + o) i v) x := by
  obtain ⟨a1, a2, a3, a4, a5, a6, a7, a8, a9, a10⟩ := C
  rw [Nat.add_assoc]
  exact ⟨a1, a2, a3, a4, a5, a6, a7, a8, fun a ha => (eI_sI_ne (ha _ ho)).trans (a9 a ha), a10⟩
theorem SC3.wJ (C : SC3 h0 h x) {o i : Nat} {v : Int64} (ho : 23 + o ∈ scB3) : SC3 h0 (sJ h (x + 23 + o) i v) x := by
  obtain ⟨a1, a2, a3, a4, a5, a6, a7, a8, a9, a10⟩ := C
  rw [Nat.add_assoc]
  exact ⟨a1, a2, a3, a4, a5, a6, a7, a8, a9, fun a ha => (eJ_sJ_ne (ha _ ho)).trans (a10 a ha)⟩
theorem SC3.vI (C : SC3 h0 h x) {f a : Nat} {v : Int32} (hf : f ∈ scI3) : SC3 h0 (pI h f a v) x := by
  obtain ⟨a1, a2, a3, a4, a5, a6, a7, a8, a9, a10⟩ := C
  exact ⟨a1, a2, a3, a4, a5, a6, fun g hg => (gI_pI_ne (fun e => hg (by rw [← e]; exact hf))).trans (a7 g hg), a8, a9, a10⟩
theorem SC3.vJ (C : SC3 h0 h x) {f a : Nat} {v : Int64} (hf : f ∈ scJ3) : SC3 h0 (pJ h f a v) x := by
  obtain ⟨a1, a2, a3, a4, a5, a6, a7, a8, a9, a10⟩ := C
  exact ⟨a1, a2, a3, a4, a5, a6, a7, fun g hg => (gJ_pJ_ne (fun e => hg (by rw [← e]; exact hf))).trans (a8 g hg), a9, a10⟩
theorem SC3.k (C : SC3 h0 h x) : kd h = kd h0 := C.2.1
theorem SC3.l (C : SC3 h0 h x) : ln h = ln h0 := C.2.2.1
theorem SC3.r (C : SC3 h0 h x) : gR h = gR h0 := C.2.2.2.1
theorem SC3.er (C : SC3 h0 h x) : eR h = eR h0 := C.2.2.2.2.1
theorem SC3.e (C : SC3 h0 h x) : el h = el h0 := by funext a i; unfold el; rw [C.r, C.er]
theorem SC3.gi (C : SC3 h0 h x) {f : Nat} (hf : f ∉ scI3) : gI h f = gI h0 f := C.2.2.2.2.2.2.1 f hf
theorem SC3.gj (C : SC3 h0 h x) {f : Nat} (hf : f ∉ scJ3) : gJ h f = gJ h0 f := C.2.2.2.2.2.2.2.1 f hf
theorem SC3.xw (C : SC3 h0 h x) (H : XW h0 x) : XW h x := by
  obtain ⟨a1, a2, a3, a4, a5⟩ := H
  refine ⟨by rw [C.k]; exact a1, by rw [C.r]; exact a2, by rw [C.1]; exact a3, fun q hq => by rw [C.r, C.k]; exact a4 q hq, fun q hq => by rw [C.l]; exact a5 q hq⟩
theorem SC3.mw (C : SC3 h0 h x) {mo : Nat} (H : MW h0 mo) : MW h mo := ⟨by rw [C.k]; exact H.1, fun q hq => by rw [C.r, C.k, C.l]; exact H.2 q hq⟩
theorem SC3.alk (C : SC3 h0 h x) {a m : Nat} (H : ALk h0 a m) : ALk h a m := by
  unfold ALk
  rw [C.k, C.gi (f := 1102) (by decide), C.l, C.r, C.2.2.2.2.2.1]
  exact H
theorem SC3.inj (C : SC3 h0 h x) (H : ALinj h0) : ALinj h := by unfold ALinj; rw [C.k, C.r]; exact H
theorem Ag3.sc (A : Ag3 h0 h x) {h1 : Hp} (C : SC3 h h1 x) : Ag3 h0 h1 x := by
  obtain ⟨⟨q1, q2, q3⟩, q4⟩ := A
  refine ⟨⟨C.2.2.2.2.2.1.trans q1, by rw [C.1]; exact q2, fun a ha => ?_⟩, fun a m hne H => ?_⟩
  · obtain ⟨b1, b2, b3, b4, b5, b6, b7⟩ := q3 a ha
    exact ⟨by rw [C.k]; exact b1, by rw [C.l]; exact b2, fun f hf => by rw [C.gi hf]; exact b3 f hf, fun f hf => by rw [C.gj hf]; exact b4 f hf, fun f h1 h2 => by rw [C.r]; exact b5 f h1 h2, fun ho i => by rw [C.2.2.2.2.2.2.2.2.1 a ho]; exact b6 ho i, fun ho i => by rw [C.2.2.2.2.2.2.2.2.2 a ho]; exact b7 ho i⟩
  · obtain ⟨b1, b2⟩ := q4 a m hne H
    exact ⟨C.alk b1, fun i hi => by rw [C.e]; exact b2 i hi⟩
theorem Ag3_comp {h1 hA V : Hp} (C : SC3 h0 h1 x) (A : Ag2 h1 hA x) (B : Ag2 hA V x) : Ag3 h0 V x := by
  obtain ⟨⟨p1, p2, p3⟩, p4⟩ := A
  obtain ⟨⟨q1, q2, q3⟩, q4⟩ := B
  refine ⟨⟨q1.trans (p1.trans C.2.2.2.2.2.1), by have := C.1; omega, fun a ha => ?_⟩, fun a m hne H => ?_⟩
  · have ha1 : kd h1 a ≠ 0 := by rw [C.k]; exact ha
    obtain ⟨b1, b2, b3, b4, b5, b6, b7⟩ := p3 a ha1
    obtain ⟨c1, c2, c3, c4, c5, c6, c7⟩ := q3 a (by rw [b1]; exact ha1)
    exact ⟨by rw [c1, b1, C.k], by rw [c2, b2, C.l], fun f hf => by rw [c3 f (fun z => hf (sc3I f z)), b3 f (fun z => hf (sc3I f z)), C.gi hf], fun f hf => by rw [c4 f (fun z => hf (sc3J f z)), b4 f (fun z => hf (sc3J f z)), C.gj hf], fun f h1 h2 => by rw [c5 f h1 h2, b5 f h1 h2, C.r],
      fun ho i => by rw [c6 (fun o z => ho o (sc3A o z)) i, b6 (fun o z => ho o (sc3A o z)) i, C.2.2.2.2.2.2.2.2.1 a ho], fun ho i => by rw [c7 (fun o z => ho o (sc3B o z)) i, b7 (fun o z => ho o (sc3B o z)) i, C.2.2.2.2.2.2.2.2.2 a ho]⟩
  · obtain ⟨b1, b2⟩ := p4 a m (C.alk H)
    obtain ⟨c1, c2⟩ := q4 a m b1
    exact ⟨c1, fun i hi => by rw [c2 i hi, b2 i hi, C.e]⟩
theorem to64o (w : Int32) : w.toInt64 = Int64.ofInt w.toInt := by rw [← to64, Int64.ofInt_toInt]
/-- the component writes what the run found: i corners, r roofs are done -/
def XSt (h h1 g : Hp) (x i r : Nat) : Prop :=
  (nx g = nx h1 ∧ kd g = kd h1 ∧ ln g = ln h1 ∧ gR g = gR h1 ∧ eR g = eR h1 ∧ kc g = kc h1 ∧ eI g = eI h1 ∧ eJ g = eJ h1) ∧
  (∀ f, f ∉ [106, 107, 108, 308, 205] → gI g f = gI h1 f) ∧ (∀ f a, ¬ (f = 18 ∧ a = x) → gJ g f a = gJ h1 f a) ∧
  (∀ j, j < i → gI g 106 (el h (x + 2) j) = eI h1 (x + 16) j ∧ gI g 107 (el h (x + 2) j) = eI h1 (x + 18) j ∧ gI g 108 (el h (x + 2) j) = eI h1 (x + 17) j ∧ (¬ eI h (x + 23 + 6) j = 0 → gI g 308 (gR h 109 (el h (x + 2) j)) = eI h1 (x + 14) j)) ∧
  (∀ j, i ≤ j → j < nC h x → ¬ eI h (x + 23 + 6) j = 0 → gI g 308 (gR h 109 (el h (x + 2) j)) = eI h (x + 23 + 15) j) ∧
  (∀ j, j < r → gI g 205 (el h (x + 3) j) = eI h1 (x + 15) j) ∧
  gJ g 18 x = gJ h 18 x + Int64.ofInt (itr (b0F h x) 0 i 0) ∧ ∀ f, gI g f (x + 23) = gI h1 f (x + 23)
theorem XSt.sc3 {h1 g : Hp} {i r : Nat} (S : XSt h h1 g x i r) : SC3 h1 g x := by
  obtain ⟨⟨a1, a2, a3, a4, a5, a6, a7, a8⟩, b1, b2, -⟩ := S
  refine ⟨a1, a2, a3, a4, a5, a6, fun f hf => b1 f fun z => hf (sc3x f z), fun f hf => ?_, fun a _ => by rw [a7], fun a _ => by rw [a8]⟩
  funext a
  exact b2 f a fun z => hf (by rw [z.1]; decide)
end
