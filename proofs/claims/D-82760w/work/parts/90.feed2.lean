/-! feed: the pair -/
set_option maxRecDepth 100000
theorem hp_ext {h g : Hp} (e1 : nx h = nx g) (e2 : kd h = kd g) (e3 : ln h = ln g) (e4 : gI h = gI g) (e5 : gJ h = gJ g) (e6 : gR h = gR g) (e7 : eI h = eI g) (e8 : eJ h = eJ g) (e9 : eR h = eR g) (e10 : kc h = kc g) : h = g :=
  Prod.ext e1 (Prod.ext e2 (Prod.ext e3 (Prod.ext e4 (Prod.ext e5 (Prod.ext e6 (Prod.ext e7 (Prod.ext e8 (Prod.ext e9 e10))))))))
section
variable {h h0 h1 h2 : Hp} {x : Nat} {E : Nat → Hp → Prop} {k n : Nat} {R : Hp → Prop}
/-- both tapes have p more bytes -/
def Tb (h0 h : Hp) (x t p : Nat) (W : Nat → Int32) : Prop := (nx h = nx h0 ∧ kd h = kd h0 ∧ ln h = ln h0 ∧ gR h = gR h0 ∧ gJ h = gJ h0 ∧ eR h = eR h0 ∧ eJ h = eJ h0 ∧ kc h = kc h0) ∧ (∀ g b, ¬ (g = 7 ∧ b = x) → ¬ (g = 1077 ∧ b = x + 23) → gI h g b = gI h0 g b) ∧ gI h 7 x = nI (t + p) ∧ gI h 1077 (x + 23) = nI (t + p) ∧ (∀ b, b ≠ x + 9 → b ≠ (x + 23 + 57) → eI h b = eI h0 b) ∧ ∀ j, eI h (x + 9) j = (if t ≤ j ∧ j < t + p then W (j - t) else eI h0 (x + 9) j) ∧ eI h (x + 23 + 57) j = (if t ≤ j ∧ j < t + p then W (j - t) else eI h0 (x + 23 + 57) j)
theorem Tb.step {t p : Nat} {W : Nat → Int32} (T : Tb h0 h x t p W) : Tb h0 (pI (sI (pI (sI h (x + 9) (t + p) (W p)) 7 x (nI (t + p + 1))) (x + 23 + 57) (t + p) (W p)) 1077 (x + 23) (nI (t + p + 1))) x t (p + 1) W := by
  obtain ⟨a1, a2, a3, a4, a5, a6⟩ := T
  refine ⟨a1, fun g b z1 z2 => ?_, ?_, ?_, fun b z1 z2 => ?_, fun j => ?_⟩
  · rw [gI_pI, if_neg z2, gI_sI, gI_pI, if_neg z1, gI_sI]; exact a2 g b z1 z2
  · rw [gI_pI, if_neg (fun z => absurd z.1 (by decide)), gI_sI, gI_pI, if_pos ⟨rfl, rfl⟩]; rfl
  · rw [gI_pI, if_pos ⟨rfl, rfl⟩]; rfl
  · rw [eI_pI, eI_sI_ne z2, eI_pI, eI_sI_ne z1]; exact a5 b z1 z2
  · obtain ⟨b1, b2⟩ := a6 j
    have ea : eI (pI (sI (pI (sI h (x + 9) (t + p) (W p)) 7 x (nI (t + p + 1))) (x + 23 + 57) (t + p) (W p)) 1077 (x + 23) (nI (t + p + 1))) (x + 9) j = if j = t + p then W p else eI h (x + 9) j := by
      rw [eI_pI, eI_sI, if_neg (fun z => by omega), eI_pI, eI_sI]
      by_cases c : j = t + p
      · rw [if_pos ⟨rfl, c⟩, if_pos c]
      · rw [if_neg (fun z => c z.2), if_neg c]
    have eb : eI (pI (sI (pI (sI h (x + 9) (t + p) (W p)) 7 x (nI (t + p + 1))) (x + 23 + 57) (t + p) (W p)) 1077 (x + 23) (nI (t + p + 1))) (x + 23 + 57) j = if j = t + p then W p else eI h (x + 23 + 57) j := by
      rw [eI_pI, eI_sI]
      by_cases c : j = t + p
      · rw [if_pos ⟨rfl, c⟩, if_pos c]
      · rw [if_neg (fun z => c z.2), if_neg c, eI_pI, eI_sI_ne (by omega)]
    rw [ea, eb, b1, b2]
    by_cases c : j = t + p
    · rw [if_pos c, if_pos c, if_pos (by omega), if_pos (by omega), show j - t = p by omega]
      exact ⟨rfl, rfl⟩
    · rw [if_neg c, if_neg c]
      by_cases d : t ≤ j ∧ j < t + p
      · rw [if_pos d, if_pos d, if_pos (by omega), if_pos (by omega)]; exact ⟨rfl, rfl⟩
      · rw [if_neg d, if_neg d, if_neg (by omega), if_neg (by omega)]; exact ⟨rfl, rfl⟩
theorem tb_cp (H : CP h0 x) {t : Nat} (et : gI h0 1077 (x + 23) = nI t) {W : Nat → Int32} : ∀ p, t + p ≤ 700 → ∃ e, CP e x ∧ Tb h0 e x t p W
  | 0, _ => ⟨h0, H, ⟨rfl, rfl, rfl, rfl, rfl, rfl, rfl, rfl⟩, fun _ _ _ _ => rfl, by rw [H.pn.2.2.2.1]; exact et, et, fun _ _ _ => rfl, fun j => by rw [if_neg (by omega), if_neg (by omega)]; exact ⟨rfl, rfl⟩⟩
  | p + 1, hp => by
    obtain ⟨e, c1, c2⟩ := tb_cp H et (W := W) p (by omega)
    exact ⟨_, cp_byte c1 (v := W p) (m := t + p) (by omega) c2.2.2.2.1, c2.step⟩
theorem Tb.uniq {t p : Nat} {W : Nat → Int32} (T : Tb h0 h1 x t p W) (S : Tb h0 h2 x t p W) : h1 = h2 := by
  obtain ⟨⟨a1, a2, a3, a4, a5, a6, a7, a8⟩, b1, b2, b3, b4, b5⟩ := T
  obtain ⟨⟨c1, c2, c3, c4, c5, c6, c7, c8⟩, d1, d2, d3, d4, d5⟩ := S
  refine hp_ext (a1.trans c1.symm) (a2.trans c2.symm) (a3.trans c3.symm) ?_ (a5.trans c5.symm) (a4.trans c4.symm) ?_ (a7.trans c7.symm) (a6.trans c6.symm) (a8.trans c8.symm)
  · funext f b
    by_cases z : f = 7 ∧ b = x
    · rw [z.1, z.2, b2, d2]
    · by_cases y : f = 1077 ∧ b = x + 23
      · rw [y.1, y.2, b3, d3]
      · rw [b1 f b z y, d1 f b z y]
  · funext b j
    by_cases z : b = x + 9
    · rw [z, (b5 j).1, (d5 j).1]
    · by_cases y : b = (x + 23 + 57)
      · rw [y, (b5 j).2, (d5 j).2]
      · rw [b4 b z y, d4 b z y]
theorem Tp.both {t p : Nat} {W : Nat → Int32} (T : Tp h0 h1 7 x (x + 9) t p W) (S : Tp h1 h2 1077 (x + 23) (x + 23 + 57) t p W) : Tb h0 h2 x t p W := by
  obtain ⟨⟨a1, a2, a3, a4, a5, a6, a7, a8⟩, b1, b2, b3, b4⟩ := T
  obtain ⟨⟨c1, c2, c3, c4, c5, c6, c7, c8⟩, d1, d2, d3, d4⟩ := S
  refine ⟨⟨c1.trans a1, c2.trans a2, c3.trans a3, c4.trans a4, c5.trans a5, c6.trans a6, c7.trans a7, c8.trans a8⟩, fun g b z1 z2 => (d1 g b z2).trans (b1 g b z1), (d1 _ _ (fun z => absurd z.1 (by decide))).trans b2, d2, fun b z1 z2 => (d3 b z2).trans (b3 b z1), fun j => ⟨?_, ?_⟩⟩
  · rw [d3 _ (by omega)]; exact b4 j
  · rw [d4 j, b3 _ (by omega)]
theorem nI_add20 {t : Nat} (ht : t ≤ 700) : nI t + 20 = nI (t + 20) := by
  have e : (20 : Int32).toInt = 20 := by decide
  apply i32_ext
  rw [i32_add (by rw [nI_toInt (by omega), e]; omega) (by rw [nI_toInt (by omega), e]; omega), nI_toInt (by omega), nI_toInt (by omega), e]
  omega
def hFdA (h : Hp) (a b c d e : Int32) : Hp := sI (sI (sI (sI (sI (nA h 0 5) (nx h) 0 a) (nx h) 1 b) (nx h) 2 c) (nx h) 3 d) (nx h) 4 e
theorem pr_feed (H : CP h x) {a b c d e : Int32} (hk : 1 ≤ k) (hn : 5 ≤ n) (hR : ∀ h', CP h' x → R h') : CtI M_X0_feed [rV x, iV a, iV b, iV c, iV d, iV e] h k n (fun r h1 => CtI M_X3_feed [rV (x + 23), iV a, iV b, iV c, iV d, iV e] h1 0 0 (fun r2 h2 => r = r2 ∧ R h2) E) E := by
  refine r_wfH fun wf => ?_
  obtain ⟨em, ht⟩ := bd_nI (hi := 700) H.po.2.2.2.2.2.2.2
  have ex := H.pn.2.2.2.1
  rw [em] at ex
  have em' := em
  generalize ix (gI h 1077 (x + 23)) = t at em ht ex em'
  have s7 : (700 : Int32) = nI 700 := by decide
  have hle : nI t + 20 ≤ 700 ↔ t + 20 ≤ 700 := by rw [nI_add20 ht, s7, nIle (by omega) (by omega)]
  refine b_X0_feed_0 H.xw ?_
  rw [ex]
  refine ⟨fun c1 => ⟨⟨hk, hn⟩, ?_⟩, fun c1 => ?_⟩
  rotate_left
  · refine b_X3_feed_0 H.mw ?_
    rw [em]
    exact ⟨fun c2 => absurd c2 c1, fun _ => ⟨rfl, hR h H⟩⟩
  have c2 := hle.mp c1
  have i0 : ix (0 : Int32) = 0 ∧ ix (1 : Int32) = 1 ∧ ix (2 : Int32) = 2 ∧ ix (3 : Int32) = 3 ∧ ix (4 : Int32) = 4 := by decide
  rw [i0.1, i0.2.1, i0.2.2.1, i0.2.2.2.1, i0.2.2.2.2]
  rintro _ rfl g eg
  have lg : ln g (nx h) = 5 := by rw [eg, ln_nA_at, if_pos rfl]
  have v0 : vp_in 0 5 ∧ vp_in 1 5 ∧ vp_in 2 5 ∧ vp_in 3 5 ∧ vp_in 4 5 := by refine ⟨?_, ?_, ?_, ?_, ?_⟩ <;> rw [vin_iff] <;> decide
  rw [lg]
  refine ⟨v0.1, ?_⟩
  rintro g1 e1
  rw [show ln g1 (nx h) = 5 by rw [e1]; exact lg]
  refine ⟨v0.2.1, ?_⟩
  rintro g2 e2
  rw [show ln g2 (nx h) = 5 by rw [e2, e1]; exact lg]
  refine ⟨v0.2.2.1, ?_⟩
  rintro g3 e3
  rw [show ln g3 (nx h) = 5 by rw [e3, e2, e1]; exact lg]
  refine ⟨v0.2.2.2.1, ?_⟩
  rintro g4 e4
  rw [show ln g4 (nx h) = 5 by rw [e4, e3, e2, e1]; exact lg]
  refine ⟨v0.2.2.2.2, ?_⟩
  rintro hA e5
  have eA : hA = hFdA h a b c d e := by rw [e5, e4, e3, e2, e1, eg]; rfl
  clear e1 e2 e3 e4 e5 eg lg
  have z : kd h (nx h) = 0 := wf.2 _ (Nat.le_refl _)
  have AA : Ag h hA x := by rw [eA]; exact ((((((Ag.refl h x).wnA wf).wsI z).wsI z).wsI z).wsI z).wsI z
  have kA : ∀ y, kd hA y = if y = nx h then 61 else kd h y := fun y => by rw [eA]; unfold hFdA; simp only [kd_sI, kd_nA_at]
  have lA : ln hA (nx h) = 5 := by rw [eA]; unfold hFdA; simp only [ln_sI, ln_nA_at]; rw [if_pos trivial]
  have eiA : eI hA (nx h) 0 = a ∧ eI hA (nx h) 1 = b ∧ eI hA (nx h) 2 = c ∧ eI hA (nx h) 3 = d ∧ eI hA (nx h) 4 = e := by
    rw [eA]; unfold hFdA; simp [eI_sI]
  have iA : ALinj hA := ALinj_kd AA H.pw.2.2.1 wf H.pw.2.2.2.1 (fun y hy => by
    rw [kA] at hy
    by_cases w : y = nx h
    · rw [if_pos w] at hy; exact absurd hy (by decide)
    · rw [if_neg w] at hy; exact hy)
  have HA : CP hA x := CP_ag AA iA H
  have Xn := H.xw.2.2.1
  have tA : gI hA 1077 (x + 23) = nI t := by rw [AA.gi (mw_k H.mw) (by decide) (by decide)]; exact em
  refine ct_tapes HA.xw (t := t) (by rw [HA.pn.2.2.2.1]; exact tA) c2 (by rw [kA, if_pos rfl]) lA (by omega) (fun h1 T => ⟨T.xw HA.xw, ?_⟩)
  have M1 := T.mw HA.mw
  have e1 : gI h1 1077 (x + 23) = nI t := by rw [T.2.1 _ _ (fun z => absurd z.1 (by decide))]; exact tA
  have S0 : Tp h1 h1 1077 (x + 23) (x + 23 + 57) t (4 * 0) (wdB (eI hA (nx h))) := ⟨⟨rfl, rfl, rfl, rfl, rfl, rfl, rfl, rfl⟩, fun _ _ _ => rfl, e1, fun _ _ => rfl, fun j => by rw [if_neg (by omega)]⟩
  refine b_X3_feed_0 M1 ?_
  rw [e1]
  refine ⟨fun _ => ?_, fun w => absurd c1 w⟩
  refine ct_four M1 S0 (by omega) eiA.1.symm (fun g1 S1 => ⟨S1.mw M1, ?_⟩)
  refine ct_four M1 S1 (by omega) eiA.2.1.symm (fun g2 S2 => ⟨S2.mw M1, ?_⟩)
  refine ct_four M1 S2 (by omega) eiA.2.2.1.symm (fun g3 S3 => ⟨S3.mw M1, ?_⟩)
  refine ct_four M1 S3 (by omega) eiA.2.2.2.1.symm (fun g4 S4 => ⟨S4.mw M1, ?_⟩)
  refine ct_four M1 S4 (by omega) eiA.2.2.2.2.symm (fun g5 S5 => ⟨S5.mw M1, ?_⟩)
  have B := T.both S5
  obtain ⟨g6, C6, B6⟩ := tb_cp HA tA (W := wdB (eI hA (nx h))) 20 c2
  have eq := B.uniq B6
  subst eq
  exact ⟨S5.2.2.1.symm, hR _ C6⟩
end
