/-! one heap's component, another's model -/
set_option maxRecDepth 100000
def mx (h g : Hp) (x : Nat) : Hp := (nx h, kd h, ln h, fun f a => if a = x + 23 then gI g f a else gI h f a, fun f a => if a = x + 23 then gJ g f a else gJ h f a, gR h, fun a i => if x + 24 ≤ a ∧ a < x + 82 then eI g a i else eI h a i, fun a i => if x + 24 ≤ a ∧ a < x + 82 then eJ g a i else eJ h a i, eR h, kc h)
section
variable {h g h' h0 : Hp} {x : Nat}
theorem nx_mx : nx (mx h g x) = nx h := (rfl)
theorem kd_mx : kd (mx h g x) = kd h := (rfl)
theorem ln_mx : ln (mx h g x) = ln h := (rfl)
theorem gR_mx : gR (mx h g x) = gR h := (rfl)
theorem eR_mx : eR (mx h g x) = eR h := (rfl)
theorem kc_mx : kc (mx h g x) = kc h := (rfl)
theorem el_mx : el (mx h g x) = el h := (rfl)
theorem gI_mx (f a : Nat) : gI (mx h g x) f a = if a = x + 23 then gI g f a else gI h f a := (rfl)
theorem gJ_mx (f a : Nat) : gJ (mx h g x) f a = if a = x + 23 then gJ g f a else gJ h f a := (rfl)
theorem eI_mx (a i : Nat) : eI (mx h g x) a i = if x + 24 ≤ a ∧ a < x + 82 then eI g a i else eI h a i := (rfl)
theorem eJ_mx (a i : Nat) : eJ (mx h g x) a i = if x + 24 ≤ a ∧ a < x + 82 then eJ g a i else eJ h a i := (rfl)
theorem gI_mM (f : Nat) : gI (mx h g x) f (x + 23) = gI g f (x + 23) := by rw [gI_mx, if_pos rfl]
theorem gJ_mM (f : Nat) : gJ (mx h g x) f (x + 23) = gJ g f (x + 23) := by rw [gJ_mx, if_pos rfl]
theorem gI_mX {f a : Nat} (ha : a ≠ x + 23) : gI (mx h g x) f a = gI h f a := by rw [gI_mx, if_neg ha]
theorem gJ_mX {f a : Nat} (ha : a ≠ x + 23) : gJ (mx h g x) f a = gJ h f a := by rw [gJ_mx, if_neg ha]
theorem eI_mM {o : Nat} (h1 : 1 ≤ o) (h2 : o < 59) : eI (mx h g x) (x + 23 + o) = eI g (x + 23 + o) := by funext i; rw [eI_mx, if_pos (by omega)]
theorem eJ_mM {o : Nat} (h1 : 1 ≤ o) (h2 : o < 59) : eJ (mx h g x) (x + 23 + o) = eJ g (x + 23 + o) := by funext i; rw [eJ_mx, if_pos (by omega)]
theorem eI_mX {a : Nat} (ha : ¬ (x + 24 ≤ a ∧ a < x + 82)) : eI (mx h g x) a = eI h a := by funext i; rw [eI_mx, if_neg ha]
theorem eJ_mX {a : Nat} (ha : ¬ (x + 24 ≤ a ∧ a < x + 82)) : eJ (mx h g x) a = eJ h a := by funext i; rw [eJ_mx, if_neg ha]
theorem mx_self : mx h h x = h := by
  refine hp_ext nx_mx kd_mx ln_mx ?_ ?_ gR_mx ?_ ?_ eR_mx kc_mx
  · funext f a; rw [gI_mx]; exact ite_self _
  · funext f a; rw [gJ_mx]; exact ite_self _
  · funext f a; rw [eI_mx]; exact ite_self _
  · funext f a; rw [eJ_mx]; exact ite_self _
theorem mx_mx : mx h (mx g h0 x) x = mx h h0 x := by
  refine hp_ext (by rw [nx_mx, nx_mx]) (by rw [kd_mx, kd_mx]) (by rw [ln_mx, ln_mx]) ?_ ?_ (by rw [gR_mx, gR_mx]) ?_ ?_ (by rw [eR_mx, eR_mx]) (by rw [kc_mx, kc_mx])
  · funext f a
    by_cases c : a = x + 23
    · rw [c, gI_mM, gI_mM, gI_mM]
    · rw [gI_mX c, gI_mX c]
  · funext f a
    by_cases c : a = x + 23
    · rw [c, gJ_mM, gJ_mM, gJ_mM]
    · rw [gJ_mX c, gJ_mX c]
  · funext a
    by_cases c : x + 24 ≤ a ∧ a < x + 82
    · obtain ⟨o, ho1, ho2, rfl⟩ : ∃ o, 1 ≤ o ∧ o < 59 ∧ a = x + 23 + o := ⟨a - (x + 23), by omega, by omega, by omega⟩
      rw [eI_mM ho1 ho2, eI_mM ho1 ho2, eI_mM ho1 ho2]
    · rw [eI_mX c, eI_mX c]
  · funext a
    by_cases c : x + 24 ≤ a ∧ a < x + 82
    · obtain ⟨o, ho1, ho2, rfl⟩ : ∃ o, 1 ≤ o ∧ o < 59 ∧ a = x + 23 + o := ⟨a - (x + 23), by omega, by omega, by omega⟩
      rw [eJ_mM ho1 ho2, eJ_mM ho1 ho2, eJ_mM ho1 ho2]
    · rw [eJ_mX c, eJ_mX c]
theorem mx_pI {f a : Nat} {v : Int32} (ha : a ≠ x + 23) : mx (pI h f a v) g x = pI (mx h g x) f a v := by
  refine hp_ext (by rw [nx_mx, nx_pI, nx_pI, nx_mx]) (by rw [kd_mx, kd_pI, kd_pI, kd_mx]) (by rw [ln_mx, ln_pI, ln_pI, ln_mx]) ?_ ?_ (by rw [gR_mx, gR_pI, gR_pI, gR_mx]) ?_ ?_ (by rw [eR_mx, eR_pI, eR_pI, eR_mx]) (by rw [kc_mx, kc_pI, kc_pI, kc_mx])
  · funext p q
    rw [gI_mx, gI_pI, gI_pI, gI_mx]
    by_cases c : q = x + 23
    · rw [if_pos c, if_neg (fun z => ha (z.2.symm.trans c)), if_pos c]
    · rw [if_neg c, if_neg c]
  · funext p q; rw [gJ_mx, gJ_pI, gJ_pI, gJ_mx]
  · funext p q; rw [eI_mx, eI_pI, eI_pI, eI_mx]
  · funext p q; rw [eJ_mx, eJ_pI, eJ_pI, eJ_mx]
theorem mxM_pI {f : Nat} {v : Int32} : mx h (pI g f (x + 23) v) x = pI (mx h g x) f (x + 23) v := by
  refine hp_ext (by rw [nx_mx, nx_pI, nx_mx]) (by rw [kd_mx, kd_pI, kd_mx]) (by rw [ln_mx, ln_pI, ln_mx]) ?_ ?_ (by rw [gR_mx, gR_pI, gR_mx]) ?_ ?_ (by rw [eR_mx, eR_pI, eR_mx]) (by rw [kc_mx, kc_pI, kc_mx])
  · funext p q
    rw [gI_mx, gI_pI, gI_pI, gI_mx]
    by_cases c : q = x + 23
    · rw [if_pos c, if_pos c]
    · rw [if_neg c, if_neg c, if_neg (fun z => c z.2)]
  · funext p q; rw [gJ_mx, gJ_pI, gJ_pI, gJ_mx]
  · funext p q; rw [eI_mx, eI_pI, eI_pI, eI_mx]
  · funext p q; rw [eJ_mx, eJ_pI, eJ_pI, eJ_mx]
theorem mx_pJ {f a : Nat} {v : Int64} (ha : a ≠ x + 23) : mx (pJ h f a v) g x = pJ (mx h g x) f a v := by
  refine hp_ext (by rw [nx_mx, nx_pJ, nx_pJ, nx_mx]) (by rw [kd_mx, kd_pJ, kd_pJ, kd_mx]) (by rw [ln_mx, ln_pJ, ln_pJ, ln_mx]) ?_ ?_ (by rw [gR_mx, gR_pJ, gR_pJ, gR_mx]) ?_ ?_ (by rw [eR_mx, eR_pJ, eR_pJ, eR_mx]) (by rw [kc_mx, kc_pJ, kc_pJ, kc_mx])
  · funext p q; rw [gI_mx, gI_pJ, gI_pJ, gI_mx]
  · funext p q
    rw [gJ_mx, gJ_pJ, gJ_pJ, gJ_mx]
    by_cases c : q = x + 23
    · rw [if_pos c, if_neg (fun z => ha (z.2.symm.trans c)), if_pos c]
    · rw [if_neg c, if_neg c]
  · funext p q; rw [eI_mx, eI_pJ, eI_pJ, eI_mx]
  · funext p q; rw [eJ_mx, eJ_pJ, eJ_pJ, eJ_mx]
theorem mxM_pJ {f : Nat} {v : Int64} : mx h (pJ g f (x + 23) v) x = pJ (mx h g x) f (x + 23) v := by
  refine hp_ext (by rw [nx_mx, nx_pJ, nx_mx]) (by rw [kd_mx, kd_pJ, kd_mx]) (by rw [ln_mx, ln_pJ, ln_mx]) ?_ ?_ (by rw [gR_mx, gR_pJ, gR_mx]) ?_ ?_ (by rw [eR_mx, eR_pJ, eR_mx]) (by rw [kc_mx, kc_pJ, kc_mx])
  · funext p q; rw [gI_mx, gI_pJ, gI_pJ, gI_mx]
  · funext p q
    rw [gJ_mx, gJ_pJ, gJ_pJ, gJ_mx]
    by_cases c : q = x + 23
    · rw [if_pos c, if_pos c]
    · rw [if_neg c, if_neg c, if_neg (fun z => c z.2)]
  · funext p q; rw [eI_mx, eI_pJ, eI_pJ, eI_mx]
  · funext p q; rw [eJ_mx, eJ_pJ, eJ_pJ, eJ_mx]
theorem mx_pR {f a v : Nat} : mx (pR h f a v) g x = pR (mx h g x) f a v := (rfl)
theorem mx_sR {f a v : Nat} : mx (sR h f a v) g x = sR (mx h g x) f a v := (rfl)
theorem mx_sI {a i : Nat} {v : Int32} (ha : ¬ (x + 24 ≤ a ∧ a < x + 82)) : mx (sI h a i v) g x = sI (mx h g x) a i v := by
  refine hp_ext (by rw [nx_mx, nx_sI, nx_sI, nx_mx]) (by rw [kd_mx, kd_sI, kd_sI, kd_mx]) (by rw [ln_mx, ln_sI, ln_sI, ln_mx]) ?_ ?_ (by rw [gR_mx, gR_sI, gR_sI, gR_mx]) ?_ ?_ (by rw [eR_mx, eR_sI, eR_sI, eR_mx]) (by rw [kc_mx, kc_sI, kc_sI, kc_mx])
  · funext p q; rw [gI_mx, gI_sI, gI_sI, gI_mx]
  · funext p q; rw [gJ_mx, gJ_sI, gJ_sI, gJ_mx]
  · funext p q
    rw [eI_mx, eI_sI, eI_sI, eI_mx]
    by_cases c : x + 24 ≤ p ∧ p < x + 82
    · rw [if_pos c, if_neg (fun z => ha ⟨by omega, by omega⟩), if_pos c]
    · rw [if_neg c, if_neg c]
  · funext p q; rw [eJ_mx, eJ_sI, eJ_sI, eJ_mx]
theorem mxM_sI {o i : Nat} {v : Int32} (h1 : 1 ≤ o) (h2 : o < 59) : mx h (sI g (x + 23 + o) i v) x = sI (mx h g x) (x + 23 + o) i v := by
  refine hp_ext (by rw [nx_mx, nx_sI, nx_mx]) (by rw [kd_mx, kd_sI, kd_mx]) (by rw [ln_mx, ln_sI, ln_mx]) ?_ ?_ (by rw [gR_mx, gR_sI, gR_mx]) ?_ ?_ (by rw [eR_mx, eR_sI, eR_mx]) (by rw [kc_mx, kc_sI, kc_mx])
  · funext p q; rw [gI_mx, gI_sI, gI_sI, gI_mx]
  · funext p q; rw [gJ_mx, gJ_sI, gJ_sI, gJ_mx]
  · funext p q
    rw [eI_mx, eI_sI, eI_sI, eI_mx]
    by_cases c : x + 24 ≤ p ∧ p < x + 82
    · rw [if_pos c, if_pos c]
    · rw [if_neg c, if_neg c, if_neg (fun z => c ⟨by omega, by omega⟩)]
  · funext p q; rw [eJ_mx, eJ_sI, eJ_sI, eJ_mx]
theorem mx_nO {c : Nat} (hn : x + 82 ≤ nx h) : mx (nO h c) g x = nO (mx h g x) c := by
  refine hp_ext (by rw [nx_mx, nx_nO, nx_nO, nx_mx]) (by funext y; rw [kd_mx, kd_nO_at, kd_nO_at, kd_mx, nx_mx]) (by rw [ln_mx, ln_nO, ln_nO, ln_mx]) ?_ ?_ (by funext f y; rw [gR_mx, gR_nO, gR_nO, gR_mx, nx_mx]) ?_ ?_ (by rw [eR_mx, eR_nO, eR_nO, eR_mx]) (by rw [kc_mx, kc_nO, kc_nO, kc_mx])
  rotate_left 2
  · funext p q; rw [eI_mx, eI_nO, eI_nO, eI_mx]
  · funext p q; rw [eJ_mx, eJ_nO, eJ_nO, eJ_mx]
  · funext p q
    rw [gI_mx, gI_nO, gI_nO, gI_mx, nx_mx]
    by_cases d : q = x + 23
    · rw [if_pos d, if_neg (by omega), if_pos d]
    · rw [if_neg d, if_neg d]
  · funext p q
    rw [gJ_mx, gJ_nO, gJ_nO, gJ_mx, nx_mx]
    by_cases d : q = x + 23
    · rw [if_pos d, if_neg (by omega), if_pos d]
    · rw [if_neg d, if_neg d]
theorem mx_add {a b m : Nat} (D : AddR h h' a b m) (ha : a ≠ x + 23) : AddR (mx h g x) (mx h' g x) a b m := by
  obtain ⟨⟨d1, d2, d3⟩, d4, d5, d6, d7, ⟨e1, e2, e3, e4, e5⟩, d8, d9, d10⟩ := D
  refine ⟨⟨d1, d2, fun c hc => ?_⟩, fun f c z => ?_, ?_, d6, d7, ⟨?_, e2, e3, e4, e5⟩, d8, d9, d10⟩
  · obtain ⟨q1, q2, q3, q4⟩ := d3 c hc
    refine ⟨q1, q2, ?_, ?_⟩
    · funext i; rw [eI_mx, eI_mx, q3]
    · funext i; rw [eJ_mx, eJ_mx, q4]
  · rw [gI_mx, gI_mx]
    by_cases y : c = x + 23
    · rw [if_pos y, if_pos y]
    · rw [if_neg y, if_neg y]; exact d4 f c z
  · funext f c; rw [gJ_mx, gJ_mx, d5]
  · rw [gI_mX ha]; exact e1
/-- the model's cells are those of h0 -/
theorem mx_fr_add {a b m : Nat} (e : mx h h0 x = h) (hM : MW h (x + 23)) (D : AddR h h' a b m) (ha : a ≠ x + 23) : mx h' h0 x = h' := by
  obtain ⟨⟨d1, d2, d3⟩, d4, d5, -⟩ := D
  have g1 : ∀ f, gI h0 f (x + 23) = gI h f (x + 23) := fun f => by have := gI_mM (h := h) (g := h0) (x := x) f; rw [e] at this; exact this.symm
  have g2 : ∀ f, gJ h0 f (x + 23) = gJ h f (x + 23) := fun f => by have := gJ_mM (h := h) (g := h0) (x := x) f; rw [e] at this; exact this.symm
  have g3 : ∀ o, 1 ≤ o → o < 59 → eI h0 (x + 23 + o) = eI h (x + 23 + o) := fun o h1 h2 => by have := eI_mM (h := h) (g := h0) (x := x) h1 h2; rw [e] at this; exact this.symm
  have g4 : ∀ o, 1 ≤ o → o < 59 → eJ h0 (x + 23 + o) = eJ h (x + 23 + o) := fun o h1 h2 => by have := eJ_mM (h := h) (g := h0) (x := x) h1 h2; rw [e] at this; exact this.symm
  refine hp_ext nx_mx kd_mx ln_mx ?_ ?_ gR_mx ?_ ?_ eR_mx kc_mx
  · funext f c; rw [gI_mx]
    by_cases y : c = x + 23
    · rw [if_pos y, y, g1, d4 f _ (fun z => ha z.1.symm)]
    · rw [if_neg y]
  · funext f c; rw [gJ_mx]
    by_cases y : c = x + 23
    · rw [if_pos y, y, g2, d5]
    · rw [if_neg y]
  · funext c i; rw [eI_mx]
    by_cases y : x + 24 ≤ c ∧ c < x + 82
    · obtain ⟨o, ho1, ho2, rfl⟩ : ∃ o, 1 ≤ o ∧ o < 59 ∧ c = x + 23 + o := ⟨c - (x + 23), by omega, by omega, by omega⟩
      rw [if_pos y, g3 o ho1 ho2, (d3 _ (hM.nz ho1 ho2)).2.2.1]
    · rw [if_neg y]
  · funext c i; rw [eJ_mx]
    by_cases y : x + 24 ≤ c ∧ c < x + 82
    · obtain ⟨o, ho1, ho2, rfl⟩ : ∃ o, 1 ≤ o ∧ o < 59 ∧ c = x + 23 + o := ⟨c - (x + 23), by omega, by omega, by omega⟩
      rw [if_pos y, g4 o ho1 ho2, (d3 _ (hM.nz ho1 ho2)).2.2.2]
    · rw [if_neg y]
theorem mx_fr {h1 : Hp} (e1 : mx h h0 x = h) (e2 : mx h1 h x = h1) : mx h1 h0 x = h1 := by
  rw [← e1, mx_mx] at e2; exact e2
theorem XW_mx (H : XW (mx h g x) x) : XW h x := H
theorem MW_mx (H : MW (mx h g x) (x + 23)) : MW h (x + 23) := H
theorem MW_mx2 (H : MW h (x + 23)) : MW (mx h g x) (x + 23) := H
end
