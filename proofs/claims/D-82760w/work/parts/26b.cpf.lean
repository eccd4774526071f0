/-! what a part of the coupling does not read may be written -/
set_option maxRecDepth 100000
section
variable {h : Hp} {x a f : Nat}
theorem gI_pI_ne {g : Nat} {v : Int32} (hb : f ≠ g) : gI (pI h f a v) g = gI h g := by funext j; show up2 (gI h) f a v g j = _; unfold up2; rw [if_neg (fun z => hb z.1.symm)]
theorem gJ_pJ_ne {g : Nat} {v : Int64} (hb : f ≠ g) : gJ (pJ h f a v) g = gJ h g := by funext j; show up2 (gJ h) f a v g j = _; unfold up2; rw [if_neg (fun z => hb z.1.symm)]
theorem gR_pR_ne {g v : Nat} (hb : f ≠ g) : gR (pR h f a v) g = gR h g := by funext j; show up2 (gR h) f a v g j = _; unfold up2; rw [if_neg (fun z => hb z.1.symm)]
theorem eJ_sJ_ne {b i c : Nat} {v : Int64} (hb : c ≠ b) : eJ (sJ h b i v) c = eJ h c := by funext j; show up2 (eJ h) b i v c j = _; unfold up2; rw [if_neg (fun z => hb z.1)]
theorem CPw_pI {v : Int32} (H : CPw h x) : CPw (pI h f a v) x := H
theorem CPw_pJ {v : Int64} (H : CPw h x) : CPw (pJ h f a v) x := H
theorem CPw_pR {v : Nat} (hf : f ∉ 1101 :: xsF ++ mdT.map (fun q => q.1)) (H : CPw h x) : CPw (pR h f a v) x := by
  have h1 : f ≠ 1101 := fun e => hf (by rw [e]; exact List.mem_cons_self)
  have h2 : f ∉ xsF := fun e => hf (List.mem_cons_of_mem _ (List.mem_append_left _ e))
  have h3 : ∀ q ∈ mdT, q.1 ≠ f := fun q hq e => hf (List.mem_cons_of_mem _ (List.mem_append_right _ (List.mem_map.mpr ⟨q, hq, e⟩)))
  have n : gR (pR h f a v) 1101 = gR h 1101 := gR_pR_ne h1
  obtain ⟨w1, w2, w3, w4, w5⟩ := H
  refine ⟨XW_pR h2 w1, ⟨w2.1, fun q hq => ⟨?_, (w2.2 q hq).2⟩⟩, ?_, w4, w5⟩
  · rw [gR_pR_ne (h3 q hq).symm]; exact (w2.2 q hq).1
  · unfold ALinj; rw [n]; exact w3
theorem CPw_sJ {b i : Nat} {v : Int64} (H : CPw h x) : CPw (sJ h b i v) x := H
theorem CPw_sM {b i : Nat} {v : Int32} (H : CPw h x) : CPw (sI h b i v) x := H
theorem CPw_sX {b i : Nat} {v : Int32} (H : CPw h x) : CPw (sI h b i v) x := H
theorem CPn_pI {v : Int32} (hf : f ∉ [0, 7, 8, 23, 26, 1000, 1003, 1005, 1077, 1080]) (H : CPn h x) : CPn (pI h f a v) x := by
  have n0 : gI (pI h f a v) 0 = gI h 0 := gI_pI_ne (fun e => hf (by rw [e]; decide))
  have n7 : gI (pI h f a v) 7 = gI h 7 := gI_pI_ne (fun e => hf (by rw [e]; decide))
  have n8 : gI (pI h f a v) 8 = gI h 8 := gI_pI_ne (fun e => hf (by rw [e]; decide))
  have n23 : gI (pI h f a v) 23 = gI h 23 := gI_pI_ne (fun e => hf (by rw [e]; decide))
  have n26 : gI (pI h f a v) 26 = gI h 26 := gI_pI_ne (fun e => hf (by rw [e]; decide))
  have n1000 : gI (pI h f a v) 1000 = gI h 1000 := gI_pI_ne (fun e => hf (by rw [e]; decide))
  have n1003 : gI (pI h f a v) 1003 = gI h 1003 := gI_pI_ne (fun e => hf (by rw [e]; decide))
  have n1005 : gI (pI h f a v) 1005 = gI h 1005 := gI_pI_ne (fun e => hf (by rw [e]; decide))
  have n1077 : gI (pI h f a v) 1077 = gI h 1077 := gI_pI_ne (fun e => hf (by rw [e]; decide))
  have n1080 : gI (pI h f a v) 1080 = gI h 1080 := gI_pI_ne (fun e => hf (by rw [e]; decide))
  unfold CPn at H ⊢
  simp only [n0, n7, n8, n23, n26, n1000, n1003, n1005, n1077, n1080]
  exact H
theorem CPn_pJ {v : Int64} (hf : f ∉ [17, 18, 19, 20, 21, 1035, 1036, 1037, 1038, 1039]) (H : CPn h x) : CPn (pJ h f a v) x := by
  have n17 : gJ (pJ h f a v) 17 = gJ h 17 := gJ_pJ_ne (fun e => hf (by rw [e]; decide))
  have n18 : gJ (pJ h f a v) 18 = gJ h 18 := gJ_pJ_ne (fun e => hf (by rw [e]; decide))
  have n19 : gJ (pJ h f a v) 19 = gJ h 19 := gJ_pJ_ne (fun e => hf (by rw [e]; decide))
  have n20 : gJ (pJ h f a v) 20 = gJ h 20 := gJ_pJ_ne (fun e => hf (by rw [e]; decide))
  have n21 : gJ (pJ h f a v) 21 = gJ h 21 := gJ_pJ_ne (fun e => hf (by rw [e]; decide))
  have n1035 : gJ (pJ h f a v) 1035 = gJ h 1035 := gJ_pJ_ne (fun e => hf (by rw [e]; decide))
  have n1036 : gJ (pJ h f a v) 1036 = gJ h 1036 := gJ_pJ_ne (fun e => hf (by rw [e]; decide))
  have n1037 : gJ (pJ h f a v) 1037 = gJ h 1037 := gJ_pJ_ne (fun e => hf (by rw [e]; decide))
  have n1038 : gJ (pJ h f a v) 1038 = gJ h 1038 := gJ_pJ_ne (fun e => hf (by rw [e]; decide))
  have n1039 : gJ (pJ h f a v) 1039 = gJ h 1039 := gJ_pJ_ne (fun e => hf (by rw [e]; decide))
  unfold CPn at H ⊢
  simp only [n17, n18, n19, n20, n21, n1035, n1036, n1037, n1038, n1039]
  exact H
theorem CPn_pR {v : Nat} (H : CPn h x) : CPn (pR h f a v) x := H
theorem CPn_sJ {b i : Nat} {v : Int64} (H : CPn h x) : CPn (sJ h b i v) x := H
theorem CPn_sM {b i : Nat} {v : Int32} (H : CPn h x) : CPn (sI h b i v) x := H
theorem CPn_sX {b i : Nat} {v : Int32} (H : CPn h x) : CPn (sI h b i v) x := H
theorem CPo_pI {v : Int32} (hf : f ∉ [1000, 1001, 1002, 1003, 1004, 1006, 1067, 1077]) (H : CPo h x) : CPo (pI h f a v) x := by
  have n1000 : gI (pI h f a v) 1000 = gI h 1000 := gI_pI_ne (fun e => hf (by rw [e]; decide))
  have n1001 : gI (pI h f a v) 1001 = gI h 1001 := gI_pI_ne (fun e => hf (by rw [e]; decide))
  have n1002 : gI (pI h f a v) 1002 = gI h 1002 := gI_pI_ne (fun e => hf (by rw [e]; decide))
  have n1003 : gI (pI h f a v) 1003 = gI h 1003 := gI_pI_ne (fun e => hf (by rw [e]; decide))
  have n1004 : gI (pI h f a v) 1004 = gI h 1004 := gI_pI_ne (fun e => hf (by rw [e]; decide))
  have n1006 : gI (pI h f a v) 1006 = gI h 1006 := gI_pI_ne (fun e => hf (by rw [e]; decide))
  have n1067 : gI (pI h f a v) 1067 = gI h 1067 := gI_pI_ne (fun e => hf (by rw [e]; decide))
  have n1077 : gI (pI h f a v) 1077 = gI h 1077 := gI_pI_ne (fun e => hf (by rw [e]; decide))
  unfold CPo at H ⊢
  simp only [n1000, n1001, n1002, n1003, n1004, n1006, n1067, n1077]
  exact H
theorem CPo_pJ {v : Int64} (H : CPo h x) : CPo (pJ h f a v) x := H
theorem CPo_pR {v : Nat} (H : CPo h x) : CPo (pR h f a v) x := H
theorem CPo_sJ {b i : Nat} {v : Int64} (H : CPo h x) : CPo (sJ h b i v) x := H
theorem CPo_sM {b i : Nat} {v : Int32} (H : CPo h x) : CPo (sI h b i v) x := H
theorem CPo_sX {b i : Nat} {v : Int32} (H : CPo h x) : CPo (sI h b i v) x := H
theorem CPl_pI {v : Int32} (hf : f ∉ [1001, 1002, 1004, 1006, 1067, 1102]) (H : CPl h x) : CPl (pI h f a v) x := by
  have n1001 : gI (pI h f a v) 1001 = gI h 1001 := gI_pI_ne (fun e => hf (by rw [e]; decide))
  have n1002 : gI (pI h f a v) 1002 = gI h 1002 := gI_pI_ne (fun e => hf (by rw [e]; decide))
  have n1004 : gI (pI h f a v) 1004 = gI h 1004 := gI_pI_ne (fun e => hf (by rw [e]; decide))
  have n1006 : gI (pI h f a v) 1006 = gI h 1006 := gI_pI_ne (fun e => hf (by rw [e]; decide))
  have n1067 : gI (pI h f a v) 1067 = gI h 1067 := gI_pI_ne (fun e => hf (by rw [e]; decide))
  have n1102 : gI (pI h f a v) 1102 = gI h 1102 := gI_pI_ne (fun e => hf (by rw [e]; decide))
  unfold CPl nC nR nU nS nP ALk at H ⊢
  simp only [n1001, n1002, n1004, n1006, n1067, n1102]
  exact H
theorem CPl_pJ {v : Int64} (H : CPl h x) : CPl (pJ h f a v) x := H
theorem CPl_pR {v : Nat} (hf : f ∉ [1101]) (H : CPl h x) : CPl (pR h f a v) x := by
  have n1101 : gR (pR h f a v) 1101 = gR h 1101 := gR_pR_ne (fun e => hf (by rw [e]; decide))
  unfold CPl nC nR nU nS nP ALk at H ⊢
  simp only [n1101]
  exact H
theorem CPl_sJ {b i : Nat} {v : Int64} (H : CPl h x) : CPl (sJ h b i v) x := H
theorem CPl_sM {b i : Nat} {v : Int32} (H : CPl h x) : CPl (sI h b i v) x := H
theorem CPl_sX {b i : Nat} {v : Int32} (H : CPl h x) : CPl (sI h b i v) x := H
theorem CPc_pI {v : Int32} (hf : f ∉ [100, 101, 102, 103, 104, 105, 106, 107, 108, 1001]) (H : CPc h x) : CPc (pI h f a v) x := by
  have n100 : gI (pI h f a v) 100 = gI h 100 := gI_pI_ne (fun e => hf (by rw [e]; decide))
  have n101 : gI (pI h f a v) 101 = gI h 101 := gI_pI_ne (fun e => hf (by rw [e]; decide))
  have n102 : gI (pI h f a v) 102 = gI h 102 := gI_pI_ne (fun e => hf (by rw [e]; decide))
  have n103 : gI (pI h f a v) 103 = gI h 103 := gI_pI_ne (fun e => hf (by rw [e]; decide))
  have n104 : gI (pI h f a v) 104 = gI h 104 := gI_pI_ne (fun e => hf (by rw [e]; decide))
  have n105 : gI (pI h f a v) 105 = gI h 105 := gI_pI_ne (fun e => hf (by rw [e]; decide))
  have n106 : gI (pI h f a v) 106 = gI h 106 := gI_pI_ne (fun e => hf (by rw [e]; decide))
  have n107 : gI (pI h f a v) 107 = gI h 107 := gI_pI_ne (fun e => hf (by rw [e]; decide))
  have n108 : gI (pI h f a v) 108 = gI h 108 := gI_pI_ne (fun e => hf (by rw [e]; decide))
  have n1001 : gI (pI h f a v) 1001 = gI h 1001 := gI_pI_ne (fun e => hf (by rw [e]; decide))
  unfold CPc CPc1 CPc2 nC el at H ⊢
  simp only [n100, n101, n102, n103, n104, n105, n106, n107, n108, n1001]
  exact H
theorem CPc_pJ {v : Int64} (H : CPc h x) : CPc (pJ h f a v) x := H
theorem CPc_pR {v : Nat} (hf : f ∉ [1101]) (H : CPc h x) : CPc (pR h f a v) x := by
  have n1101 : gR (pR h f a v) 1101 = gR h 1101 := gR_pR_ne (fun e => hf (by rw [e]; decide))
  unfold CPc CPc1 CPc2 nC el at H ⊢
  simp only [n1101]
  exact H
theorem CPc_sJ {c i : Nat} {v : Int64} (hc : c ∉ [39, 40]) (H : CPc h x) : CPc (sJ h (x + 23 + c) i v) x := by
  have n39 : eJ (sJ h (x + 23 + c) i v) (x + 23 + 39) = eJ h (x + 23 + 39) := eJ_sJ_ne (fun e => hc (by rw [show c = 39 by omega]; decide))
  have n40 : eJ (sJ h (x + 23 + c) i v) (x + 23 + 40) = eJ h (x + 23 + 40) := eJ_sJ_ne (fun e => hc (by rw [show c = 40 by omega]; decide))
  unfold CPc CPc1 CPc2 nC el at H ⊢
  simp only [n39, n40]
  exact H
theorem CPc_sM {c i : Nat} {v : Int32} (hc : 23 + c ∉ [24, 25, 26, 27, 28, 66]) (H : CPc h x) : CPc (sI h (x + 23 + c) i v) x := CPc_sI (fun o ho e => hc (by rw [show 23 + c = o by omega]; exact ho)) H
theorem CPc_sX {c i : Nat} {v : Int32} (hc : c ∉ [24, 25, 26, 27, 28, 66]) (H : CPc h x) : CPc (sI h (x + c) i v) x := CPc_sI (fun o ho e => hc (by rw [show c = o by omega]; exact ho)) H
theorem CPv_pI {v : Int32} (hf : f ∉ [1001]) (H : CPv h x) : CPv (pI h f a v) x := by
  have n1001 : gI (pI h f a v) 1001 = gI h 1001 := gI_pI_ne (fun e => hf (by rw [e]; decide))
  unfold CPv CPv1 nC at H ⊢
  simp only [n1001]
  exact H
theorem CPv_pJ {v : Int64} (H : CPv h x) : CPv (pJ h f a v) x := H
theorem CPv_pR {v : Nat} (H : CPv h x) : CPv (pR h f a v) x := H
theorem CPv_sJ {b i : Nat} {v : Int64} (H : CPv h x) : CPv (sJ h b i v) x := H
theorem CPv_sM {c i : Nat} {v : Int32} (hc : 23 + c ∉ [24, 25, 26, 27, 28]) (H : CPv h x) : CPv (sI h (x + 23 + c) i v) x := CPv_sI (fun o ho e => hc (by rw [show 23 + c = o by omega]; exact ho)) H
theorem CPv_sX {c i : Nat} {v : Int32} (hc : c ∉ [24, 25, 26, 27, 28]) (H : CPv h x) : CPv (sI h (x + c) i v) x := CPv_sI (fun o ho e => hc (by rw [show c = o by omega]; exact ho)) H
theorem CPb_pI {v : Int32} (hf : f ∉ [301, 302, 303, 304, 305, 306, 307, 308, 309, 310, 311, 312, 1000, 1001]) (H : CPb h x) : CPb (pI h f a v) x := by
  have n301 : gI (pI h f a v) 301 = gI h 301 := gI_pI_ne (fun e => hf (by rw [e]; decide))
  have n302 : gI (pI h f a v) 302 = gI h 302 := gI_pI_ne (fun e => hf (by rw [e]; decide))
  have n303 : gI (pI h f a v) 303 = gI h 303 := gI_pI_ne (fun e => hf (by rw [e]; decide))
  have n304 : gI (pI h f a v) 304 = gI h 304 := gI_pI_ne (fun e => hf (by rw [e]; decide))
  have n305 : gI (pI h f a v) 305 = gI h 305 := gI_pI_ne (fun e => hf (by rw [e]; decide))
  have n306 : gI (pI h f a v) 306 = gI h 306 := gI_pI_ne (fun e => hf (by rw [e]; decide))
  have n307 : gI (pI h f a v) 307 = gI h 307 := gI_pI_ne (fun e => hf (by rw [e]; decide))
  have n308 : gI (pI h f a v) 308 = gI h 308 := gI_pI_ne (fun e => hf (by rw [e]; decide))
  have n309 : gI (pI h f a v) 309 = gI h 309 := gI_pI_ne (fun e => hf (by rw [e]; decide))
  have n310 : gI (pI h f a v) 310 = gI h 310 := gI_pI_ne (fun e => hf (by rw [e]; decide))
  have n311 : gI (pI h f a v) 311 = gI h 311 := gI_pI_ne (fun e => hf (by rw [e]; decide))
  have n312 : gI (pI h f a v) 312 = gI h 312 := gI_pI_ne (fun e => hf (by rw [e]; decide))
  have n1000 : gI (pI h f a v) 1000 = gI h 1000 := gI_pI_ne (fun e => hf (by rw [e]; decide))
  have n1001 : gI (pI h f a v) 1001 = gI h 1001 := gI_pI_ne (fun e => hf (by rw [e]; decide))
  unfold CPb CPb1 CPb2 CPb3 nC el at H ⊢
  simp only [n301, n302, n303, n304, n305, n306, n307, n308, n309, n310, n311, n312, n1000, n1001]
  exact H
theorem CPb_pJ {v : Int64} (H : CPb h x) : CPb (pJ h f a v) x := H
theorem CPb_pR {v : Nat} (hf : f ∉ [109, 300, 313, 1101]) (H : CPb h x) : CPb (pR h f a v) x := by
  have n109 : gR (pR h f a v) 109 = gR h 109 := gR_pR_ne (fun e => hf (by rw [e]; decide))
  have n300 : gR (pR h f a v) 300 = gR h 300 := gR_pR_ne (fun e => hf (by rw [e]; decide))
  have n313 : gR (pR h f a v) 313 = gR h 313 := gR_pR_ne (fun e => hf (by rw [e]; decide))
  have n1101 : gR (pR h f a v) 1101 = gR h 1101 := gR_pR_ne (fun e => hf (by rw [e]; decide))
  unfold CPb CPb1 CPb2 CPb3 nC el at H ⊢
  simp only [n109, n300, n313, n1101]
  exact H
theorem CPb_sJ {b i : Nat} {v : Int64} (H : CPb h x) : CPb (sJ h b i v) x := H
theorem CPb_sM {c i : Nat} {v : Int32} (hc : 23 + c ∉ [29, 30, 31, 32, 33, 34, 35, 36, 37, 38, 39, 40, 41]) (H : CPb h x) : CPb (sI h (x + 23 + c) i v) x := CPb_sI (fun o ho e => hc (by rw [show 23 + c = o by omega]; exact ho)) H
theorem CPb_sX {c i : Nat} {v : Int32} (hc : c ∉ [29, 30, 31, 32, 33, 34, 35, 36, 37, 38, 39, 40, 41]) (H : CPb h x) : CPb (sI h (x + c) i v) x := CPb_sI (fun o ho e => hc (by rw [show c = o by omega]; exact ho)) H
theorem CPx_pI {v : Int32} (hf : f ∉ [1000, 1001]) (H : CPx h x) : CPx (pI h f a v) x := by
  have n1000 : gI (pI h f a v) 1000 = gI h 1000 := gI_pI_ne (fun e => hf (by rw [e]; decide))
  have n1001 : gI (pI h f a v) 1001 = gI h 1001 := gI_pI_ne (fun e => hf (by rw [e]; decide))
  unfold CPx CPw1 CPw0 nC at H ⊢
  simp only [n1000, n1001]
  exact H
theorem CPx_pJ {v : Int64} (H : CPx h x) : CPx (pJ h f a v) x := H
theorem CPx_pR {v : Nat} (H : CPx h x) : CPx (pR h f a v) x := H
theorem CPx_sJ {b i : Nat} {v : Int64} (H : CPx h x) : CPx (sJ h b i v) x := H
theorem CPx_sM {c i : Nat} {v : Int32} (hc : 23 + c ∉ [29, 30, 31, 32, 33, 34, 35, 36, 37, 38, 39, 40, 41]) (H : CPx h x) : CPx (sI h (x + 23 + c) i v) x := CPx_sI (fun o ho e => hc (by rw [show 23 + c = o by omega]; exact ho)) H
theorem CPx_sX {c i : Nat} {v : Int32} (hc : c ∉ [29, 30, 31, 32, 33, 34, 35, 36, 37, 38, 39, 40, 41]) (H : CPx h x) : CPx (sI h (x + c) i v) x := CPx_sI (fun o ho e => hc (by rw [show c = o by omega]; exact ho)) H
theorem CPr_pI {v : Int32} (hf : f ∉ [200, 201, 202, 203, 205, 206, 1001, 1002]) (H : CPr h x) : CPr (pI h f a v) x := by
  have n200 : gI (pI h f a v) 200 = gI h 200 := gI_pI_ne (fun e => hf (by rw [e]; decide))
  have n201 : gI (pI h f a v) 201 = gI h 201 := gI_pI_ne (fun e => hf (by rw [e]; decide))
  have n202 : gI (pI h f a v) 202 = gI h 202 := gI_pI_ne (fun e => hf (by rw [e]; decide))
  have n203 : gI (pI h f a v) 203 = gI h 203 := gI_pI_ne (fun e => hf (by rw [e]; decide))
  have n205 : gI (pI h f a v) 205 = gI h 205 := gI_pI_ne (fun e => hf (by rw [e]; decide))
  have n206 : gI (pI h f a v) 206 = gI h 206 := gI_pI_ne (fun e => hf (by rw [e]; decide))
  have n1001 : gI (pI h f a v) 1001 = gI h 1001 := gI_pI_ne (fun e => hf (by rw [e]; decide))
  have n1002 : gI (pI h f a v) 1002 = gI h 1002 := gI_pI_ne (fun e => hf (by rw [e]; decide))
  unfold CPr CPr1 CPr2 nC nR el at H ⊢
  simp only [n200, n201, n202, n203, n205, n206, n1001, n1002]
  exact H
theorem CPr_pJ {v : Int64} (H : CPr h x) : CPr (pJ h f a v) x := H
theorem CPr_pR {v : Nat} (hf : f ∉ [204, 1101]) (H : CPr h x) : CPr (pR h f a v) x := by
  have n204 : gR (pR h f a v) 204 = gR h 204 := gR_pR_ne (fun e => hf (by rw [e]; decide))
  have n1101 : gR (pR h f a v) 1101 = gR h 1101 := gR_pR_ne (fun e => hf (by rw [e]; decide))
  unfold CPr CPr1 CPr2 nC nR el at H ⊢
  simp only [n204, n1101]
  exact H
theorem CPr_sJ {b i : Nat} {v : Int64} (H : CPr h x) : CPr (sJ h b i v) x := H
theorem CPr_sM {c i : Nat} {v : Int32} (hc : 23 + c ∉ [42, 43, 44, 45, 46, 47]) (H : CPr h x) : CPr (sI h (x + 23 + c) i v) x := CPr_sI (fun o ho e => hc (by rw [show 23 + c = o by omega]; exact ho)) H
theorem CPr_sX {c i : Nat} {v : Int32} (hc : c ∉ [42, 43, 44, 45, 46, 47]) (H : CPr h x) : CPr (sI h (x + c) i v) x := CPr_sI (fun o ho e => hc (by rw [show c = o by omega]; exact ho)) H
theorem CPq_pI {v : Int32} (hf : f ∉ [1001, 1002, 1067, 1102]) (H : CPq h x) : CPq (pI h f a v) x := by
  have n1001 : gI (pI h f a v) 1001 = gI h 1001 := gI_pI_ne (fun e => hf (by rw [e]; decide))
  have n1002 : gI (pI h f a v) 1002 = gI h 1002 := gI_pI_ne (fun e => hf (by rw [e]; decide))
  have n1067 : gI (pI h f a v) 1067 = gI h 1067 := gI_pI_ne (fun e => hf (by rw [e]; decide))
  have n1102 : gI (pI h f a v) 1102 = gI h 1102 := gI_pI_ne (fun e => hf (by rw [e]; decide))
  unfold CPq nC nR nU ALk el at H ⊢
  simp only [n1001, n1002, n1067, n1102]
  exact H
theorem CPq_pJ {v : Int64} (H : CPq h x) : CPq (pJ h f a v) x := H
theorem CPq_pR {v : Nat} (hf : f ∉ [110, 401, 1101]) (H : CPq h x) : CPq (pR h f a v) x := by
  have n110 : gR (pR h f a v) 110 = gR h 110 := gR_pR_ne (fun e => hf (by rw [e]; decide))
  have n401 : gR (pR h f a v) 401 = gR h 401 := gR_pR_ne (fun e => hf (by rw [e]; decide))
  have n1101 : gR (pR h f a v) 1101 = gR h 1101 := gR_pR_ne (fun e => hf (by rw [e]; decide))
  unfold CPq nC nR nU ALk el at H ⊢
  simp only [n110, n401, n1101]
  exact H
theorem CPq_sJ {b i : Nat} {v : Int64} (H : CPq h x) : CPq (sJ h b i v) x := H
theorem CPq_sM {c i : Nat} {v : Int32} (hc : 23 + c ∉ [42]) (H : CPq h x) : CPq (sI h (x + 23 + c) i v) x := CPq_sI (fun o ho e => hc (by rw [show 23 + c = o by omega]; exact ho)) H
theorem CPq_sX {c i : Nat} {v : Int32} (hc : c ∉ [42]) (H : CPq h x) : CPq (sI h (x + c) i v) x := CPq_sI (fun o ho e => hc (by rw [show c = o by omega]; exact ho)) H
theorem CPs_pI {v : Int32} (hf : f ∉ [700, 703, 704, 1004]) (H : CPs h x) : CPs (pI h f a v) x := by
  have n700 : gI (pI h f a v) 700 = gI h 700 := gI_pI_ne (fun e => hf (by rw [e]; decide))
  have n703 : gI (pI h f a v) 703 = gI h 703 := gI_pI_ne (fun e => hf (by rw [e]; decide))
  have n704 : gI (pI h f a v) 704 = gI h 704 := gI_pI_ne (fun e => hf (by rw [e]; decide))
  have n1004 : gI (pI h f a v) 1004 = gI h 1004 := gI_pI_ne (fun e => hf (by rw [e]; decide))
  unfold CPs CPs1 nS el at H ⊢
  simp only [n700, n703, n704, n1004]
  exact H
theorem CPs_pJ {v : Int64} (hf : f ∉ [701, 702]) (H : CPs h x) : CPs (pJ h f a v) x := by
  have n701 : gJ (pJ h f a v) 701 = gJ h 701 := gJ_pJ_ne (fun e => hf (by rw [e]; decide))
  have n702 : gJ (pJ h f a v) 702 = gJ h 702 := gJ_pJ_ne (fun e => hf (by rw [e]; decide))
  unfold CPs CPs1 nS el at H ⊢
  simp only [n701, n702]
  exact H
theorem CPs_pR {v : Nat} (hf : f ∉ [1101]) (H : CPs h x) : CPs (pR h f a v) x := by
  have n1101 : gR (pR h f a v) 1101 = gR h 1101 := gR_pR_ne (fun e => hf (by rw [e]; decide))
  unfold CPs CPs1 nS el at H ⊢
  simp only [n1101]
  exact H
theorem CPs_sJ {c i : Nat} {v : Int64} (hc : c ∉ [36, 37, 38]) (H : CPs h x) : CPs (sJ h (x + 23 + c) i v) x := by
  have n36 : eJ (sJ h (x + 23 + c) i v) (x + 23 + 36) = eJ h (x + 23 + 36) := eJ_sJ_ne (fun e => hc (by rw [show c = 36 by omega]; decide))
  have n37 : eJ (sJ h (x + 23 + c) i v) (x + 23 + 37) = eJ h (x + 23 + 37) := eJ_sJ_ne (fun e => hc (by rw [show c = 37 by omega]; decide))
  have n38 : eJ (sJ h (x + 23 + c) i v) (x + 23 + 38) = eJ h (x + 23 + 38) := eJ_sJ_ne (fun e => hc (by rw [show c = 38 by omega]; decide))
  unfold CPs CPs1 nS el at H ⊢
  simp only [n36, n37, n38]
  exact H
theorem CPs_sM {c i : Nat} {v : Int32} (hc : 23 + c ∉ [64, 65]) (H : CPs h x) : CPs (sI h (x + 23 + c) i v) x := CPs_sI (fun o ho e => hc (by rw [show 23 + c = o by omega]; exact ho)) H
theorem CPs_sX {c i : Nat} {v : Int32} (hc : c ∉ [64, 65]) (H : CPs h x) : CPs (sI h (x + c) i v) x := CPs_sI (fun o ho e => hc (by rw [show c = o by omega]; exact ho)) H
theorem CPp_pI {v : Int32} (hf : f ∉ [801, 802, 803, 804, 805, 806, 1000, 1001, 1006]) (H : CPp h x) : CPp (pI h f a v) x := by
  have n801 : gI (pI h f a v) 801 = gI h 801 := gI_pI_ne (fun e => hf (by rw [e]; decide))
  have n802 : gI (pI h f a v) 802 = gI h 802 := gI_pI_ne (fun e => hf (by rw [e]; decide))
  have n803 : gI (pI h f a v) 803 = gI h 803 := gI_pI_ne (fun e => hf (by rw [e]; decide))
  have n804 : gI (pI h f a v) 804 = gI h 804 := gI_pI_ne (fun e => hf (by rw [e]; decide))
  have n805 : gI (pI h f a v) 805 = gI h 805 := gI_pI_ne (fun e => hf (by rw [e]; decide))
  have n806 : gI (pI h f a v) 806 = gI h 806 := gI_pI_ne (fun e => hf (by rw [e]; decide))
  have n1000 : gI (pI h f a v) 1000 = gI h 1000 := gI_pI_ne (fun e => hf (by rw [e]; decide))
  have n1001 : gI (pI h f a v) 1001 = gI h 1001 := gI_pI_ne (fun e => hf (by rw [e]; decide))
  have n1006 : gI (pI h f a v) 1006 = gI h 1006 := gI_pI_ne (fun e => hf (by rw [e]; decide))
  unfold CPp CPp1 nC nP el at H ⊢
  simp only [n801, n802, n803, n804, n805, n806, n1000, n1001, n1006]
  exact H
theorem CPp_pJ {v : Int64} (H : CPp h x) : CPp (pJ h f a v) x := H
theorem CPp_pR {v : Nat} (hf : f ∉ [800, 1101]) (H : CPp h x) : CPp (pR h f a v) x := by
  have n800 : gR (pR h f a v) 800 = gR h 800 := gR_pR_ne (fun e => hf (by rw [e]; decide))
  have n1101 : gR (pR h f a v) 1101 = gR h 1101 := gR_pR_ne (fun e => hf (by rw [e]; decide))
  unfold CPp CPp1 nC nP el at H ⊢
  simp only [n800, n1101]
  exact H
theorem CPp_sJ {b i : Nat} {v : Int64} (H : CPp h x) : CPp (sJ h b i v) x := H
theorem CPp_sM {c i : Nat} {v : Int32} (hc : 23 + c ∉ [67, 68, 69, 70, 71, 72]) (H : CPp h x) : CPp (sI h (x + 23 + c) i v) x := CPp_sI (fun o ho e => hc (by rw [show 23 + c = o by omega]; exact ho)) H
theorem CPp_sX {c i : Nat} {v : Int32} (hc : c ∉ [67, 68, 69, 70, 71, 72]) (H : CPp h x) : CPp (sI h (x + c) i v) x := CPp_sI (fun o ho e => hc (by rw [show c = o by omega]; exact ho)) H
theorem CPa_pI {v : Int32} (hf : f ∉ [1000, 1001, 1002]) (H : CPa h x) : CPa (pI h f a v) x := by
  have n1000 : gI (pI h f a v) 1000 = gI h 1000 := gI_pI_ne (fun e => hf (by rw [e]; decide))
  have n1001 : gI (pI h f a v) 1001 = gI h 1001 := gI_pI_ne (fun e => hf (by rw [e]; decide))
  have n1002 : gI (pI h f a v) 1002 = gI h 1002 := gI_pI_ne (fun e => hf (by rw [e]; decide))
  unfold CPa at H ⊢
  simp only [n1000, n1001, n1002]
  exact H
theorem CPa_pJ {v : Int64} (H : CPa h x) : CPa (pJ h f a v) x := H
theorem CPa_pR {v : Nat} (H : CPa h x) : CPa (pR h f a v) x := H
theorem CPa_sJ {c i : Nat} {v : Int64} (hc : c ∉ [39, 40]) (H : CPa h x) : CPa (sJ h (x + 23 + c) i v) x := by
  have n39 : eJ (sJ h (x + 23 + c) i v) (x + 23 + 39) = eJ h (x + 23 + 39) := eJ_sJ_ne (fun e => hc (by rw [show c = 39 by omega]; decide))
  have n40 : eJ (sJ h (x + 23 + c) i v) (x + 23 + 40) = eJ h (x + 23 + 40) := eJ_sJ_ne (fun e => hc (by rw [show c = 40 by omega]; decide))
  unfold CPa at H ⊢
  simp only [n39, n40]
  exact H
theorem CPa_sM {c i : Nat} {v : Int32} (hc : 23 + c ∉ [1, 9, 10, 11, 12, 46, 47, 48, 49, 50, 51, 66, 80]) (H : CPa h x) : CPa (sI h (x + 23 + c) i v) x := CPa_sI (fun o ho e => hc (by rw [show 23 + c = o by omega]; exact ho)) H
theorem CPa_sX {c i : Nat} {v : Int32} (hc : c ∉ [1, 9, 10, 11, 12, 46, 47, 48, 49, 50, 51, 66, 80]) (H : CPa h x) : CPa (sI h (x + c) i v) x := CPa_sI (fun o ho e => hc (by rw [show c = o by omega]; exact ho)) H
theorem CPu_pI {v : Int32} (hf : f ∉ [400, 402, 403, 404, 405, 406, 407, 408, 409, 410, 411, 412, 413, 414, 600, 601, 602, 603, 1067, 1102]) (H : CPu h x) : CPu (pI h f a v) x := by
  have n400 : gI (pI h f a v) 400 = gI h 400 := gI_pI_ne (fun e => hf (by rw [e]; decide))
  have n402 : gI (pI h f a v) 402 = gI h 402 := gI_pI_ne (fun e => hf (by rw [e]; decide))
  have n403 : gI (pI h f a v) 403 = gI h 403 := gI_pI_ne (fun e => hf (by rw [e]; decide))
  have n404 : gI (pI h f a v) 404 = gI h 404 := gI_pI_ne (fun e => hf (by rw [e]; decide))
  have n405 : gI (pI h f a v) 405 = gI h 405 := gI_pI_ne (fun e => hf (by rw [e]; decide))
  have n406 : gI (pI h f a v) 406 = gI h 406 := gI_pI_ne (fun e => hf (by rw [e]; decide))
  have n407 : gI (pI h f a v) 407 = gI h 407 := gI_pI_ne (fun e => hf (by rw [e]; decide))
  have n408 : gI (pI h f a v) 408 = gI h 408 := gI_pI_ne (fun e => hf (by rw [e]; decide))
  have n409 : gI (pI h f a v) 409 = gI h 409 := gI_pI_ne (fun e => hf (by rw [e]; decide))
  have n410 : gI (pI h f a v) 410 = gI h 410 := gI_pI_ne (fun e => hf (by rw [e]; decide))
  have n411 : gI (pI h f a v) 411 = gI h 411 := gI_pI_ne (fun e => hf (by rw [e]; decide))
  have n412 : gI (pI h f a v) 412 = gI h 412 := gI_pI_ne (fun e => hf (by rw [e]; decide))
  have n413 : gI (pI h f a v) 413 = gI h 413 := gI_pI_ne (fun e => hf (by rw [e]; decide))
  have n414 : gI (pI h f a v) 414 = gI h 414 := gI_pI_ne (fun e => hf (by rw [e]; decide))
  have n600 : gI (pI h f a v) 600 = gI h 600 := gI_pI_ne (fun e => hf (by rw [e]; decide))
  have n601 : gI (pI h f a v) 601 = gI h 601 := gI_pI_ne (fun e => hf (by rw [e]; decide))
  have n602 : gI (pI h f a v) 602 = gI h 602 := gI_pI_ne (fun e => hf (by rw [e]; decide))
  have n603 : gI (pI h f a v) 603 = gI h 603 := gI_pI_ne (fun e => hf (by rw [e]; decide))
  have n1067 : gI (pI h f a v) 1067 = gI h 1067 := gI_pI_ne (fun e => hf (by rw [e]; decide))
  have n1102 : gI (pI h f a v) 1102 = gI h 1102 := gI_pI_ne (fun e => hf (by rw [e]; decide))
  unfold CPu CPu1 CPu2 CPt1 nU ALk el at H ⊢
  simp only [n400, n402, n403, n404, n405, n406, n407, n408, n409, n410, n411, n412, n413, n414, n600, n601, n602, n603, n1067, n1102]
  exact H
theorem CPu_pJ {v : Int64} (H : CPu h x) : CPu (pJ h f a v) x := H
theorem CPu_pR {v : Nat} (hf : f ∉ [401, 416, 417, 1101]) (H : CPu h x) : CPu (pR h f a v) x := by
  have n401 : gR (pR h f a v) 401 = gR h 401 := gR_pR_ne (fun e => hf (by rw [e]; decide))
  have n416 : gR (pR h f a v) 416 = gR h 416 := gR_pR_ne (fun e => hf (by rw [e]; decide))
  have n417 : gR (pR h f a v) 417 = gR h 417 := gR_pR_ne (fun e => hf (by rw [e]; decide))
  have n1101 : gR (pR h f a v) 1101 = gR h 1101 := gR_pR_ne (fun e => hf (by rw [e]; decide))
  unfold CPu CPu1 CPu2 CPt1 nU ALk el at H ⊢
  simp only [n401, n416, n417, n1101]
  exact H
theorem CPu_sJ {b i : Nat} {v : Int64} (H : CPu h x) : CPu (sJ h b i v) x := H
theorem CPu_sM {c i : Nat} {v : Int32} (hc : 23 + c ∉ [73, 74, 75, 76, 77, 78, 79]) (h2 : c < 59) (H : CPu h x) : CPu (sI h (x + 23 + c) i v) x := by
  refine CPu_sI (fun o ho e => hc ?_) (fun r hr => ⟨by have := (H.2 r hr).2.2.2.2.2; omega, by have := (H.2 r hr).2.2.2.2.2; omega⟩) (by omega) (by omega) H
  rw [show 23 + c = o by omega]; exact ho
theorem CPu_sX {c i : Nat} {v : Int32} (h2 : c < 23) (h7 : c ≠ 7) (h8 : c ≠ 8) (H : CPu h x) : CPu (sI h (x + c) i v) x := by
  refine CPu_sI (fun o ho e => ?_) (fun r hr => ⟨by have := (H.2 r hr).2.2.2.2.2; omega, by have := (H.2 r hr).2.2.2.2.2; omega⟩) (by omega) (by omega) H
  have h3 : c = o := by omega
  have h4 : ∀ o ∈ [73, 74, 75, 76, 77, 78, 79], 23 ≤ o := by decide
  have := h4 o ho; omega
end
