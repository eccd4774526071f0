/-! the component: its own object, what its constructor made -/
set_option maxRecDepth 100000
def xsT : List (Nat × Nat × Nat × Nat) := [(1, 0, 1, 61), (2, 0, 2, 12), (3, 0, 3, 12), (4, 0, 4, 12), (5, 0, 5, 5), (6, 0, 9, 63), (15, 0, 10, 61), (16, 0, 11, 61), (22, 0, 12, 61), (24, 0, 13, 6), (25, 0, 21, 12), (27, 0, 22, 12), (500, 13, 14, 61), (501, 13, 15, 61), (502, 13, 16, 61), (503, 13, 17, 61), (504, 13, 18, 61), (505, 13, 19, 61), (506, 13, 20, 61)]
def xsL : List (Nat × Nat) := [(1, 10), (9, 700), (10, 10), (11, 100), (12, 30), (14, 12), (15, 30), (16, 12), (17, 12), (18, 12), (19, 13), (20, 13)]
def XW (h : Hp) (xo : Nat) : Prop := kd h xo = 1 ∧ gR h 514 (xo + 13) = xo ∧ xo + 82 ≤ nx h ∧ (∀ q ∈ xsT, gR h q.1 (xo + q.2.1) = xo + q.2.2.1 ∧ kd h (xo + q.2.2.1) = q.2.2.2) ∧ ∀ q ∈ xsL, ln h (xo + q.1) = q.2
theorem xw_k {h : Hp} {xo : Nat} (hm : XW h xo) : kd h xo = 1 := hm.1
theorem xw_nz {h : Hp} {xo : Nat} (hm : XW h xo) : kd h xo ≠ 0 := by rw [hm.1]; decide
theorem xwr_this {h : Hp} {xo : Nat} (hm : XW h xo) : gR h 514 (xo + 13) = xo := hm.2.1
theorem xwr_drinks {h : Hp} {xo : Nat} (hm : XW h xo) : gR h 1 xo = xo + 1 := (hm.2.2.2.1 (1, 0, 1, 61) (List.mem_of_getElem? (i := 0) rfl)).1
theorem xwk_drinks {h : Hp} {xo : Nat} (hm : XW h xo) : kd h (xo + 1) = 61 := (hm.2.2.2.1 (1, 0, 1, 61) (List.mem_of_getElem? (i := 0) rfl)).2
theorem xwr_corners {h : Hp} {xo : Nat} (hm : XW h xo) : gR h 2 xo = xo + 2 := (hm.2.2.2.1 (2, 0, 2, 12) (List.mem_of_getElem? (i := 1) rfl)).1
theorem xwk_corners {h : Hp} {xo : Nat} (hm : XW h xo) : kd h (xo + 2) = 12 := (hm.2.2.2.1 (2, 0, 2, 12) (List.mem_of_getElem? (i := 1) rfl)).2
theorem xwr_roofs {h : Hp} {xo : Nat} (hm : XW h xo) : gR h 3 xo = xo + 3 := (hm.2.2.2.1 (3, 0, 3, 12) (List.mem_of_getElem? (i := 2) rfl)).1
theorem xwk_roofs {h : Hp} {xo : Nat} (hm : XW h xo) : kd h (xo + 3) = 12 := (hm.2.2.2.1 (3, 0, 3, 12) (List.mem_of_getElem? (i := 2) rfl)).2
theorem xwr_rules {h : Hp} {xo : Nat} (hm : XW h xo) : gR h 4 xo = xo + 4 := (hm.2.2.2.1 (4, 0, 4, 12) (List.mem_of_getElem? (i := 3) rfl)).1
theorem xwk_rules {h : Hp} {xo : Nat} (hm : XW h xo) : kd h (xo + 4) = 12 := (hm.2.2.2.1 (4, 0, 4, 12) (List.mem_of_getElem? (i := 3) rfl)).2
theorem xwr_bare {h : Hp} {xo : Nat} (hm : XW h xo) : gR h 5 xo = xo + 5 := (hm.2.2.2.1 (5, 0, 5, 5) (List.mem_of_getElem? (i := 4) rfl)).1
theorem xwk_bare {h : Hp} {xo : Nat} (hm : XW h xo) : kd h (xo + 5) = 5 := (hm.2.2.2.1 (5, 0, 5, 5) (List.mem_of_getElem? (i := 4) rfl)).2
theorem xwr_tape {h : Hp} {xo : Nat} (hm : XW h xo) : gR h 6 xo = xo + 9 := (hm.2.2.2.1 (6, 0, 9, 63) (List.mem_of_getElem? (i := 5) rfl)).1
theorem xwk_tape {h : Hp} {xo : Nat} (hm : XW h xo) : kd h (xo + 9) = 63 := (hm.2.2.2.1 (6, 0, 9, 63) (List.mem_of_getElem? (i := 5) rfl)).2
theorem xwr_owed {h : Hp} {xo : Nat} (hm : XW h xo) : gR h 15 xo = xo + 10 := (hm.2.2.2.1 (15, 0, 10, 61) (List.mem_of_getElem? (i := 6) rfl)).1
theorem xwk_owed {h : Hp} {xo : Nat} (hm : XW h xo) : kd h (xo + 10) = 61 := (hm.2.2.2.1 (15, 0, 10, 61) (List.mem_of_getElem? (i := 6) rfl)).2
theorem xwr_kept {h : Hp} {xo : Nat} (hm : XW h xo) : gR h 16 xo = xo + 11 := (hm.2.2.2.1 (16, 0, 11, 61) (List.mem_of_getElem? (i := 7) rfl)).1
theorem xwk_kept {h : Hp} {xo : Nat} (hm : XW h xo) : kd h (xo + 11) = 61 := (hm.2.2.2.1 (16, 0, 11, 61) (List.mem_of_getElem? (i := 7) rfl)).2
theorem xwr_minutes {h : Hp} {xo : Nat} (hm : XW h xo) : gR h 22 xo = xo + 12 := (hm.2.2.2.1 (22, 0, 12, 61) (List.mem_of_getElem? (i := 8) rfl)).1
theorem xwk_minutes {h : Hp} {xo : Nat} (hm : XW h xo) : kd h (xo + 12) = 61 := (hm.2.2.2.1 (22, 0, 12, 61) (List.mem_of_getElem? (i := 8) rfl)).2
theorem xwr_run {h : Hp} {xo : Nat} (hm : XW h xo) : gR h 24 xo = xo + 13 := (hm.2.2.2.1 (24, 0, 13, 6) (List.mem_of_getElem? (i := 9) rfl)).1
theorem xwk_run {h : Hp} {xo : Nat} (hm : XW h xo) : kd h (xo + 13) = 6 := (hm.2.2.2.1 (24, 0, 13, 6) (List.mem_of_getElem? (i := 9) rfl)).2
theorem xwr_storms {h : Hp} {xo : Nat} (hm : XW h xo) : gR h 25 xo = xo + 21 := (hm.2.2.2.1 (25, 0, 21, 12) (List.mem_of_getElem? (i := 10) rfl)).1
theorem xwk_storms {h : Hp} {xo : Nat} (hm : XW h xo) : kd h (xo + 21) = 12 := (hm.2.2.2.1 (25, 0, 21, 12) (List.mem_of_getElem? (i := 10) rfl)).2
theorem xwr_complaints {h : Hp} {xo : Nat} (hm : XW h xo) : gR h 27 xo = xo + 22 := (hm.2.2.2.1 (27, 0, 22, 12) (List.mem_of_getElem? (i := 11) rfl)).1
theorem xwk_complaints {h : Hp} {xo : Nat} (hm : XW h xo) : kd h (xo + 22) = 12 := (hm.2.2.2.1 (27, 0, 22, 12) (List.mem_of_getElem? (i := 11) rfl)).2
theorem xwr_bowls_r {h : Hp} {xo : Nat} (hm : XW h xo) : gR h 500 (xo + 13) = xo + 14 := (hm.2.2.2.1 (500, 13, 14, 61) (List.mem_of_getElem? (i := 12) rfl)).1
theorem xwk_bowls_r {h : Hp} {xo : Nat} (hm : XW h xo) : kd h (xo + 14) = 61 := (hm.2.2.2.1 (500, 13, 14, 61) (List.mem_of_getElem? (i := 12) rfl)).2
theorem xwr_barrels_r {h : Hp} {xo : Nat} (hm : XW h xo) : gR h 501 (xo + 13) = xo + 15 := (hm.2.2.2.1 (501, 13, 15, 61) (List.mem_of_getElem? (i := 13) rfl)).1
theorem xwk_barrels_r {h : Hp} {xo : Nat} (hm : XW h xo) : kd h (xo + 15) = 61 := (hm.2.2.2.1 (501, 13, 15, 61) (List.mem_of_getElem? (i := 13) rfl)).2
theorem xwr_spills_r {h : Hp} {xo : Nat} (hm : XW h xo) : gR h 502 (xo + 13) = xo + 16 := (hm.2.2.2.1 (502, 13, 16, 61) (List.mem_of_getElem? (i := 14) rfl)).1
theorem xwk_spills_r {h : Hp} {xo : Nat} (hm : XW h xo) : kd h (xo + 16) = 61 := (hm.2.2.2.1 (502, 13, 16, 61) (List.mem_of_getElem? (i := 14) rfl)).2
theorem xwr_wet_r {h : Hp} {xo : Nat} (hm : XW h xo) : gR h 503 (xo + 13) = xo + 17 := (hm.2.2.2.1 (503, 13, 17, 61) (List.mem_of_getElem? (i := 15) rfl)).1
theorem xwk_wet_r {h : Hp} {xo : Nat} (hm : XW h xo) : kd h (xo + 17) = 61 := (hm.2.2.2.1 (503, 13, 17, 61) (List.mem_of_getElem? (i := 15) rfl)).2
theorem xwr_most_r {h : Hp} {xo : Nat} (hm : XW h xo) : gR h 504 (xo + 13) = xo + 18 := (hm.2.2.2.1 (504, 13, 18, 61) (List.mem_of_getElem? (i := 16) rfl)).1
theorem xwk_most_r {h : Hp} {xo : Nat} (hm : XW h xo) : kd h (xo + 18) = 61 := (hm.2.2.2.1 (504, 13, 18, 61) (List.mem_of_getElem? (i := 16) rfl)).2
theorem xwr_piped_r {h : Hp} {xo : Nat} (hm : XW h xo) : gR h 505 (xo + 13) = xo + 19 := (hm.2.2.2.1 (505, 13, 19, 61) (List.mem_of_getElem? (i := 17) rfl)).1
theorem xwk_piped_r {h : Hp} {xo : Nat} (hm : XW h xo) : kd h (xo + 19) = 61 := (hm.2.2.2.1 (505, 13, 19, 61) (List.mem_of_getElem? (i := 17) rfl)).2
theorem xwr_street_r {h : Hp} {xo : Nat} (hm : XW h xo) : gR h 506 (xo + 13) = xo + 20 := (hm.2.2.2.1 (506, 13, 20, 61) (List.mem_of_getElem? (i := 18) rfl)).1
theorem xwk_street_r {h : Hp} {xo : Nat} (hm : XW h xo) : kd h (xo + 20) = 61 := (hm.2.2.2.1 (506, 13, 20, 61) (List.mem_of_getElem? (i := 18) rfl)).2
theorem xwl_drinks {h : Hp} {xo : Nat} (hm : XW h xo) : ln h (xo + 1) = 10 := hm.2.2.2.2 (1, 10) (List.mem_of_getElem? (i := 0) rfl)
theorem xwl_tape {h : Hp} {xo : Nat} (hm : XW h xo) : ln h (xo + 9) = 700 := hm.2.2.2.2 (9, 700) (List.mem_of_getElem? (i := 1) rfl)
theorem xwl_owed {h : Hp} {xo : Nat} (hm : XW h xo) : ln h (xo + 10) = 10 := hm.2.2.2.2 (10, 10) (List.mem_of_getElem? (i := 2) rfl)
theorem xwl_kept {h : Hp} {xo : Nat} (hm : XW h xo) : ln h (xo + 11) = 100 := hm.2.2.2.2 (11, 100) (List.mem_of_getElem? (i := 3) rfl)
theorem xwl_minutes {h : Hp} {xo : Nat} (hm : XW h xo) : ln h (xo + 12) = 30 := hm.2.2.2.2 (12, 30) (List.mem_of_getElem? (i := 4) rfl)
theorem xwl_bowls_r {h : Hp} {xo : Nat} (hm : XW h xo) : ln h (xo + 14) = 12 := hm.2.2.2.2 (14, 12) (List.mem_of_getElem? (i := 5) rfl)
theorem xwl_barrels_r {h : Hp} {xo : Nat} (hm : XW h xo) : ln h (xo + 15) = 30 := hm.2.2.2.2 (15, 30) (List.mem_of_getElem? (i := 6) rfl)
theorem xwl_spills_r {h : Hp} {xo : Nat} (hm : XW h xo) : ln h (xo + 16) = 12 := hm.2.2.2.2 (16, 12) (List.mem_of_getElem? (i := 7) rfl)
theorem xwl_wet_r {h : Hp} {xo : Nat} (hm : XW h xo) : ln h (xo + 17) = 12 := hm.2.2.2.2 (17, 12) (List.mem_of_getElem? (i := 8) rfl)
theorem xwl_most_r {h : Hp} {xo : Nat} (hm : XW h xo) : ln h (xo + 18) = 12 := hm.2.2.2.2 (18, 12) (List.mem_of_getElem? (i := 9) rfl)
theorem xwl_piped_r {h : Hp} {xo : Nat} (hm : XW h xo) : ln h (xo + 19) = 13 := hm.2.2.2.2 (19, 13) (List.mem_of_getElem? (i := 10) rfl)
theorem xwl_street_r {h : Hp} {xo : Nat} (hm : XW h xo) : ln h (xo + 20) = 13 := hm.2.2.2.2 (20, 13) (List.mem_of_getElem? (i := 11) rfl)
theorem xw_runnz {h : Hp} {xo : Nat} (hm : XW h xo) : kd h (xo + 13) ≠ 0 := by rw [xwk_run hm]; decide
theorem XW_pI {h : Hp} {xo : Nat} {f a : Nat} {v : Int32} (hm : XW h xo) : XW (pI h f a v) xo := hm
theorem r_xw_pI {M : MI} {pc : Nat} {lv : List (Nat × AV)} {st : List AV} {h : Hp} {k n xo : Nat} {Q : AV → Hp → Prop} {E : Nat → Hp → Prop} {f a : Nat} {v : Int32} (hm : XW h xo) (kk : XW (pI h f a v) xo → Rn M pc lv st (pI h f a v) k n Q E) : Rn M pc lv st (pI h f a v) k n Q E := kk (XW_pI hm)
theorem XW_pJ {h : Hp} {xo : Nat} {f a : Nat} {v : Int64} (hm : XW h xo) : XW (pJ h f a v) xo := hm
theorem r_xw_pJ {M : MI} {pc : Nat} {lv : List (Nat × AV)} {st : List AV} {h : Hp} {k n xo : Nat} {Q : AV → Hp → Prop} {E : Nat → Hp → Prop} {f a : Nat} {v : Int64} (hm : XW h xo) (kk : XW (pJ h f a v) xo → Rn M pc lv st (pJ h f a v) k n Q E) : Rn M pc lv st (pJ h f a v) k n Q E := kk (XW_pJ hm)
theorem XW_sI {h : Hp} {xo : Nat} {f a : Nat} {v : Int32} (hm : XW h xo) : XW (sI h f a v) xo := hm
theorem r_xw_sI {M : MI} {pc : Nat} {lv : List (Nat × AV)} {st : List AV} {h : Hp} {k n xo : Nat} {Q : AV → Hp → Prop} {E : Nat → Hp → Prop} {f a : Nat} {v : Int32} (hm : XW h xo) (kk : XW (sI h f a v) xo → Rn M pc lv st (sI h f a v) k n Q E) : Rn M pc lv st (sI h f a v) k n Q E := kk (XW_sI hm)
theorem XW_sJ {h : Hp} {xo : Nat} {f a : Nat} {v : Int64} (hm : XW h xo) : XW (sJ h f a v) xo := hm
theorem r_xw_sJ {M : MI} {pc : Nat} {lv : List (Nat × AV)} {st : List AV} {h : Hp} {k n xo : Nat} {Q : AV → Hp → Prop} {E : Nat → Hp → Prop} {f a : Nat} {v : Int64} (hm : XW h xo) (kk : XW (sJ h f a v) xo → Rn M pc lv st (sJ h f a v) k n Q E) : Rn M pc lv st (sJ h f a v) k n Q E := kk (XW_sJ hm)
theorem XW_sR {h : Hp} {xo : Nat} {f a v : Nat} (hm : XW h xo) : XW (sR h f a v) xo := hm
theorem r_xw_sR {M : MI} {pc : Nat} {lv : List (Nat × AV)} {st : List AV} {h : Hp} {k n xo : Nat} {Q : AV → Hp → Prop} {E : Nat → Hp → Prop} {f a v : Nat} (hm : XW h xo) (kk : XW (sR h f a v) xo → Rn M pc lv st (sR h f a v) k n Q E) : Rn M pc lv st (sR h f a v) k n Q E := kk (XW_sR hm)
def xsF : List Nat := [1, 2, 3, 4, 5, 6, 15, 16, 22, 24, 25, 27, 500, 501, 502, 503, 504, 505, 506, 514]
theorem xsF_in : ∀ q ∈ xsT, q.1 ∈ xsF := by decide +kernel
theorem XW_pR {h : Hp} {xo f a v : Nat} (hf : f ∉ xsF) (hm : XW h xo) : XW (pR h f a v) xo := by
  obtain ⟨h1, h2, h3, h4, h5⟩ := hm
  refine ⟨h1, ?_, h3, fun q hq => ⟨?_, (h4 q hq).2⟩, h5⟩
  · show up2 (gR h) f a v _ _ = _
    unfold up2
    rw [if_neg (fun z => hf (by rw [← z.1]; decide))]
    exact h2
  · show up2 (gR h) f a v _ _ = _
    unfold up2
    rw [if_neg (fun z => hf (by rw [← z.1]; exact xsF_in q hq))]
    exact (h4 q hq).1
theorem r_xw_pR {M : MI} {pc : Nat} {lv : List (Nat × AV)} {st : List AV} {h : Hp} {k n xo : Nat} {Q : AV → Hp → Prop} {E : Nat → Hp → Prop} {f a v : Nat} (hm : XW h xo) (hf : f ∉ xsF) (kk : XW (pR h f a v) xo → Rn M pc lv st (pR h f a v) k n Q E) : Rn M pc lv st (pR h f a v) k n Q E := kk (XW_pR hf hm)
theorem xsT_lt : (∀ q ∈ xsT, q.2.1 < 82 ∧ q.2.2.1 < 82) ∧ ∀ q ∈ xsL, q.1 < 82 := by decide +kernel
theorem XW_nO {h : Hp} {xo c : Nat} (hm : XW h xo) : XW (nO h c) xo := by
  obtain ⟨h1, h2, h3, h4, h5⟩ := hm
  have ek : ∀ b, b < 82 → kd (nO h c) (xo + b) = kd h (xo + b) := fun b hb => by show va_up (kd h) (nx h) (c + 1) (xo + b) = _; exact va_up_ne _ _ (by omega)
  have er : ∀ f b, b < 82 → gR (nO h c) f (xo + b) = gR h f (xo + b) := fun f b hb => by show clr (gR h) (nx h) 0 f (xo + b) = _; unfold clr; rw [if_neg (by omega)]
  exact ⟨(ek 0 (by decide)).trans h1, (er _ 13 (by decide)).trans h2, (by show _ ≤ nx h + 1; omega), fun q hq => ⟨(er _ _ (xsT_lt.1 q hq).1).trans (h4 q hq).1, (ek _ (xsT_lt.1 q hq).2).trans (h4 q hq).2⟩, h5⟩
theorem XW_nA {h : Hp} {xo t m : Nat} (hm : XW h xo) : XW (nA h t m) xo := by
  obtain ⟨h1, h2, h3, h4, h5⟩ := hm
  have ek : ∀ b, b < 82 → kd (nA h t m) (xo + b) = kd h (xo + b) := fun b hb => by show va_up (kd h) (nx h) (61 + t) (xo + b) = _; exact va_up_ne _ _ (by omega)
  have el : ∀ b, b < 82 → ln (nA h t m) (xo + b) = ln h (xo + b) := fun b hb => by show va_up (ln h) (nx h) m (xo + b) = _; exact va_up_ne _ _ (by omega)
  exact ⟨(ek 0 (by decide)).trans h1, h2, (by show _ ≤ nx h + 1; omega), fun q hq => ⟨(h4 q hq).1, (ek _ (xsT_lt.1 q hq).2).trans (h4 q hq).2⟩, fun q hq => (el _ (xsT_lt.2 q hq)).trans (h5 q hq)⟩
theorem r_xw_nO {M : MI} {pc : Nat} {lv : List (Nat × AV)} {st : List AV} {h : Hp} {k n xo : Nat} {Q : AV → Hp → Prop} {E : Nat → Hp → Prop} {c : Nat} (hm : XW h xo) (kk : XW (nO h c) xo → Rn M pc lv st (nO h c) k n Q E) : Rn M pc lv st (nO h c) k n Q E := kk (XW_nO hm)
theorem r_xw_nA {M : MI} {pc : Nat} {lv : List (Nat × AV)} {st : List AV} {h : Hp} {k n xo : Nat} {Q : AV → Hp → Prop} {E : Nat → Hp → Prop} {t m : Nat} (hm : XW h xo) (kk : XW (nA h t m) xo → Rn M pc lv st (nA h t m) k n Q E) : Rn M pc lv st (nA h t m) k n Q E := kk (XW_nA hm)
