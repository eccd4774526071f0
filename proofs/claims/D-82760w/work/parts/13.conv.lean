/-! rows in the shapes that the walks use -/
set_option maxRecDepth 100000
def b1 (b : Bool) : Int32 := if b then 1 else 0
theorem b1_01 (b : Bool) : b1 b = 0 ∨ b1 b = 1 := by cases b <;> simp [b1]
theorem b1_eq0 {b : Bool} : b1 b = 0 ↔ b = false := by cases b <;> decide
theorem b1_ne0 {b : Bool} : ¬ b1 b = 0 ↔ b = true := by cases b <;> decide
/-- an int as a place -/
def ix (i : Int32) : Nat := i.toNatClampNeg
theorem ix_nI {n : Nat} (h : n < 2 ^ 31) : ix (nI n) = n := nI_clamp h
section CONV
variable {M M' : MI} {pc q : Nat} {lv : List (Nat × AV)} {st stk : List AV} {h : Hp} {k n k1 n1 k2 n2 : Nat} {Q : AV → Hp → Prop} {E : Nat → Hp → Prop}
theorem r_ifb_eq {b : Bool} {off : Int} {tg : Nat} (hd : decode (mC M) pc = .ok (.ifCond .eq off, 3)) (ht : (pc : Int) + off = (tg : Int)) (hq : pc + 3 = q) (kt : b = false → Rn M tg lv st h k n Q E) (kf : b = true → Rn M q lv st h k n Q E) : Rn M pc lv (iV (b1 b) :: st) h k n Q E := r_if_eq hd ht hq (fun z => kt (b1_eq0.mp z)) (fun z => kf (b1_ne0.mp z))
theorem r_ifb_ne {b : Bool} {off : Int} {tg : Nat} (hd : decode (mC M) pc = .ok (.ifCond .ne off, 3)) (ht : (pc : Int) + off = (tg : Int)) (hq : pc + 3 = q) (kt : b = true → Rn M tg lv st h k n Q E) (kf : b = false → Rn M q lv st h k n Q E) : Rn M pc lv (iV (b1 b) :: st) h k n Q E := r_if_ne hd ht hq (fun z => kt (b1_ne0.mp z)) (fun z => kf (b1_eq0.mp z))
theorem r_ialdL {a N : Nat} {i : Int32} (hd : decode (mC M) pc = .ok (.iaload, 1)) (hq : pc + 1 = q) (hk : kd h a = 61) (hl : ln h a = N) (hi : vp_in i N) (kk : Rn M q lv (iV (eI h a (ix i)) :: st) h k n Q E) : Rn M pc lv (iV i :: rV a :: st) h k n Q E := r_iald (t := 0) hd hq (Or.inl hk) (Or.inl rfl) (by rw [hl]; exact hi) kk
theorem r_laldL {a N : Nat} {i : Int32} (hd : decode (mC M) pc = .ok (.laload, 1)) (hq : pc + 1 = q) (hk : kd h a = 62) (hl : ln h a = N) (hi : vp_in i N) (kk : Rn M q lv (jV (eJ h a (ix i)) :: st) h k n Q E) : Rn M pc lv (iV i :: rV a :: st) h k n Q E := r_lald hd hq hk (by rw [hl]; exact hi) kk
theorem r_baldL {a N : Nat} {i : Int32} (hd : decode (mC M) pc = .ok (.baload, 1)) (hq : pc + 1 = q) (hk : kd h a = 63) (hl : ln h a = N) (hi : vp_in i N) (kk : Rn M q lv (iV (eI h a (ix i)) :: st) h k n Q E) : Rn M pc lv (iV i :: rV a :: st) h k n Q E := r_bald hd hq (Or.inl hk) (by rw [hl]; exact hi) kk
theorem r_zaldL {a N : Nat} {i : Int32} (hd : decode (mC M) pc = .ok (.baload, 1)) (hq : pc + 1 = q) (hk : kd h a = 64) (hl : ln h a = N) (hi : vp_in i N) (kk : Rn M q lv (iV (eI h a (ix i)) :: st) h k n Q E) : Rn M pc lv (iV i :: rV a :: st) h k n Q E := r_zald hd hq hk (by rw [hl]; exact hi) kk
theorem r_aaldL {a N : Nat} {i : Int32} (hd : decode (mC M) pc = .ok (.aaload, 1)) (hq : pc + 1 = q) (hk : kd h a = 65) (hl : ln h a = N) (hi : vp_in i N) (kk : Rn M q lv (rV (eR h a (ix i)) :: st) h k n Q E) : Rn M pc lv (iV i :: rV a :: st) h k n Q E := r_aald hd hq (Or.inl hk) (by rw [hl]; exact hi) kk
theorem r_iastL {a N : Nat} {i x : Int32} (hd : decode (mC M) pc = .ok (.iastore, 1)) (hq : pc + 1 = q) (hk : kd h a = 61) (hl : ln h a = N) (hi : vp_in i N) (kk : Rn M q lv st (sI h a (ix i) x) k n Q E) : Rn M pc lv (iV x :: iV i :: rV a :: st) h k n Q E := r_iast hd hq hk (by rw [hl]; exact hi) kk
theorem r_lastL {a N : Nat} {i : Int32} {x : Int64} (hd : decode (mC M) pc = .ok (.lastore, 1)) (hq : pc + 1 = q) (hk : kd h a = 62) (hl : ln h a = N) (hi : vp_in i N) (kk : Rn M q lv st (sJ h a (ix i) x) k n Q E) : Rn M pc lv (jV x :: iV i :: rV a :: st) h k n Q E := r_last hd hq hk (by rw [hl]; exact hi) kk
theorem r_bastL {a N : Nat} {i x : Int32} (hd : decode (mC M) pc = .ok (.bastore, 1)) (hq : pc + 1 = q) (hk : kd h a = 63) (hl : ln h a = N) (hi : vp_in i N) (kk : Rn M q lv st (sI h a (ix i) (tby x)) k n Q E) : Rn M pc lv (iV x :: iV i :: rV a :: st) h k n Q E := r_bast hd hq hk (by rw [hl]; exact hi) kk
theorem r_zastL {a N : Nat} {i x : Int32} (hd : decode (mC M) pc = .ok (.bastore, 1)) (hq : pc + 1 = q) (hk : kd h a = 64) (hl : ln h a = N) (hi : vp_in i N) (hx : x = 0 ∨ x = 1) (kk : Rn M q lv st (sI h a (ix i) x) k n Q E) : Rn M pc lv (iV x :: iV i :: rV a :: st) h k n Q E := r_zast hd hq hk (by rw [hl]; exact hi) hx kk
theorem r_cVI {idx np c0 : Nat} {T0 : u_T} {N0 : Nat} (b : Nat) (As : List AV) (hL : MLV (mY M).cls idx M' np) (hcl : xcl[c0]? = some ((mY M').cls, T0, N0)) (hd : decode (mC M) pc = .ok (.invokevirtual idx, 3)) (hq : pc + 3 = q) (hs : stk = As.reverse ++ rV b :: st) (hok : okC M M' (rV b :: As) st (np + 1) = true) (hkd : kd h b = c0 + 1) (hr : (mR M').isSome = true) (hk : k1 + k2 ≤ k) (hn : n1 + n2 ≤ n) (R0 : CtI M' (rV b :: As) h k1 n1 (fun r h' => Rn M q lv (iV r :: st) h' k2 n2 Q E) E) : Rn M pc lv stk h k n Q E :=
  r_cV b As hL hcl hd hq hs hok hkd hk hn R0 (fun w h' z => by obtain ⟨r, e, z⟩ := z; subst e; unfold bhd; rw [if_neg (by intro y; rw [y] at hr; cases hr)]; exact z)
theorem r_cVI0 {idx np c0 : Nat} {T0 : u_T} {N0 : Nat} (b : Nat) (As : List AV) (hL : MLV (mY M).cls idx M' np) (hcl : xcl[c0]? = some ((mY M').cls, T0, N0)) (hd : decode (mC M) pc = .ok (.invokevirtual idx, 3)) (hq : pc + 3 = q) (hs : stk = As.reverse ++ rV b :: st) (hok : okC M M' (rV b :: As) st (np + 1) = true) (hkd : kd h b = c0 + 1) (hr : (mR M').isSome = true) (R0 : CtI M' (rV b :: As) h 0 0 (fun r h' => Rn M q lv (iV r :: st) h' k n Q E) E) : Rn M pc lv stk h k n Q E :=
  r_cV b As hL hcl hd hq hs hok hkd (Nat.le_of_eq (Nat.zero_add _)) (Nat.le_of_eq (Nat.zero_add _)) R0 (fun w h' z => by obtain ⟨r, e, z⟩ := z; subst e; unfold bhd; rw [if_neg (by intro y; rw [y] at hr; cases hr)]; exact z)
theorem r_cVJ {idx np c0 : Nat} {T0 : u_T} {N0 : Nat} (b : Nat) (As : List AV) (hL : MLV (mY M).cls idx M' np) (hcl : xcl[c0]? = some ((mY M').cls, T0, N0)) (hd : decode (mC M) pc = .ok (.invokevirtual idx, 3)) (hq : pc + 3 = q) (hs : stk = As.reverse ++ rV b :: st) (hok : okC M M' (rV b :: As) st (np + 1) = true) (hkd : kd h b = c0 + 1) (hr : (mR M').isSome = true) (hk : k1 + k2 ≤ k) (hn : n1 + n2 ≤ n) (R0 : CtJ M' (rV b :: As) h k1 n1 (fun r h' => Rn M q lv (jV r :: st) h' k2 n2 Q E) E) : Rn M pc lv stk h k n Q E :=
  r_cV b As hL hcl hd hq hs hok hkd hk hn R0 (fun w h' z => by obtain ⟨r, e, z⟩ := z; subst e; unfold bhd; rw [if_neg (by intro y; rw [y] at hr; cases hr)]; exact z)
theorem r_cVJ0 {idx np c0 : Nat} {T0 : u_T} {N0 : Nat} (b : Nat) (As : List AV) (hL : MLV (mY M).cls idx M' np) (hcl : xcl[c0]? = some ((mY M').cls, T0, N0)) (hd : decode (mC M) pc = .ok (.invokevirtual idx, 3)) (hq : pc + 3 = q) (hs : stk = As.reverse ++ rV b :: st) (hok : okC M M' (rV b :: As) st (np + 1) = true) (hkd : kd h b = c0 + 1) (hr : (mR M').isSome = true) (R0 : CtJ M' (rV b :: As) h 0 0 (fun r h' => Rn M q lv (jV r :: st) h' k n Q E) E) : Rn M pc lv stk h k n Q E :=
  r_cV b As hL hcl hd hq hs hok hkd (Nat.le_of_eq (Nat.zero_add _)) (Nat.le_of_eq (Nat.zero_add _)) R0 (fun w h' z => by obtain ⟨r, e, z⟩ := z; subst e; unfold bhd; rw [if_neg (by intro y; rw [y] at hr; cases hr)]; exact z)
theorem r_cVR {idx np c0 : Nat} {T0 : u_T} {N0 : Nat} (b : Nat) (As : List AV) (hL : MLV (mY M).cls idx M' np) (hcl : xcl[c0]? = some ((mY M').cls, T0, N0)) (hd : decode (mC M) pc = .ok (.invokevirtual idx, 3)) (hq : pc + 3 = q) (hs : stk = As.reverse ++ rV b :: st) (hok : okC M M' (rV b :: As) st (np + 1) = true) (hkd : kd h b = c0 + 1) (hr : (mR M').isSome = true) (hk : k1 + k2 ≤ k) (hn : n1 + n2 ≤ n) (R0 : CtR M' (rV b :: As) h k1 n1 (fun r h' => Rn M q lv (rV r :: st) h' k2 n2 Q E) E) : Rn M pc lv stk h k n Q E :=
  r_cV b As hL hcl hd hq hs hok hkd hk hn R0 (fun w h' z => by obtain ⟨r, e, z⟩ := z; subst e; unfold bhd; rw [if_neg (by intro y; rw [y] at hr; cases hr)]; exact z)
theorem r_cVR0 {idx np c0 : Nat} {T0 : u_T} {N0 : Nat} (b : Nat) (As : List AV) (hL : MLV (mY M).cls idx M' np) (hcl : xcl[c0]? = some ((mY M').cls, T0, N0)) (hd : decode (mC M) pc = .ok (.invokevirtual idx, 3)) (hq : pc + 3 = q) (hs : stk = As.reverse ++ rV b :: st) (hok : okC M M' (rV b :: As) st (np + 1) = true) (hkd : kd h b = c0 + 1) (hr : (mR M').isSome = true) (R0 : CtR M' (rV b :: As) h 0 0 (fun r h' => Rn M q lv (rV r :: st) h' k n Q E) E) : Rn M pc lv stk h k n Q E :=
  r_cV b As hL hcl hd hq hs hok hkd (Nat.le_of_eq (Nat.zero_add _)) (Nat.le_of_eq (Nat.zero_add _)) R0 (fun w h' z => by obtain ⟨r, e, z⟩ := z; subst e; unfold bhd; rw [if_neg (by intro y; rw [y] at hr; cases hr)]; exact z)
theorem r_cVV {idx np c0 : Nat} {T0 : u_T} {N0 : Nat} (b : Nat) (As : List AV) (hL : MLV (mY M).cls idx M' np) (hcl : xcl[c0]? = some ((mY M').cls, T0, N0)) (hd : decode (mC M) pc = .ok (.invokevirtual idx, 3)) (hq : pc + 3 = q) (hs : stk = As.reverse ++ rV b :: st) (hok : okC M M' (rV b :: As) st (np + 1) = true) (hkd : kd h b = c0 + 1) (hr : mR M' = none) (hk : k1 + k2 ≤ k) (hn : n1 + n2 ≤ n) (R0 : CtV M' (rV b :: As) h k1 n1 (fun h' => Rn M q lv st h' k2 n2 Q E) E) : Rn M pc lv stk h k n Q E :=
  r_cV b As hL hcl hd hq hs hok hkd hk hn R0 (fun w h' z => by unfold bhd; rw [if_pos hr]; exact z.2)
theorem r_cVV0 {idx np c0 : Nat} {T0 : u_T} {N0 : Nat} (b : Nat) (As : List AV) (hL : MLV (mY M).cls idx M' np) (hcl : xcl[c0]? = some ((mY M').cls, T0, N0)) (hd : decode (mC M) pc = .ok (.invokevirtual idx, 3)) (hq : pc + 3 = q) (hs : stk = As.reverse ++ rV b :: st) (hok : okC M M' (rV b :: As) st (np + 1) = true) (hkd : kd h b = c0 + 1) (hr : mR M' = none) (R0 : CtV M' (rV b :: As) h 0 0 (fun h' => Rn M q lv st h' k n Q E) E) : Rn M pc lv stk h k n Q E :=
  r_cV b As hL hcl hd hq hs hok hkd (Nat.le_of_eq (Nat.zero_add _)) (Nat.le_of_eq (Nat.zero_add _)) R0 (fun w h' z => by unfold bhd; rw [if_pos hr]; exact z.2)
theorem r_cSI {idx np : Nat} (As : List AV) (hL : MLS (mY M).cls idx M' np) (hd : decode (mC M) pc = .ok (.invokestatic idx, 3)) (hq : pc + 3 = q) (hs : stk = As.reverse ++ st) (hok : okC M M' As st np = true) (hr : (mR M').isSome = true) (hk : k1 + k2 ≤ k) (hn : n1 + n2 ≤ n) (R0 : CtI M' As h k1 n1 (fun r h' => Rn M q lv (iV r :: st) h' k2 n2 Q E) E) : Rn M pc lv stk h k n Q E :=
  r_cS As hL hd hq hs hok hk hn R0 (fun w h' z => by obtain ⟨r, e, z⟩ := z; subst e; unfold bhd; rw [if_neg (by intro y; rw [y] at hr; cases hr)]; exact z)
theorem r_cSI0 {idx np : Nat} (As : List AV) (hL : MLS (mY M).cls idx M' np) (hd : decode (mC M) pc = .ok (.invokestatic idx, 3)) (hq : pc + 3 = q) (hs : stk = As.reverse ++ st) (hok : okC M M' As st np = true) (hr : (mR M').isSome = true) (R0 : CtI M' As h 0 0 (fun r h' => Rn M q lv (iV r :: st) h' k n Q E) E) : Rn M pc lv stk h k n Q E :=
  r_cS As hL hd hq hs hok (Nat.le_of_eq (Nat.zero_add _)) (Nat.le_of_eq (Nat.zero_add _)) R0 (fun w h' z => by obtain ⟨r, e, z⟩ := z; subst e; unfold bhd; rw [if_neg (by intro y; rw [y] at hr; cases hr)]; exact z)
theorem r_cSJ {idx np : Nat} (As : List AV) (hL : MLS (mY M).cls idx M' np) (hd : decode (mC M) pc = .ok (.invokestatic idx, 3)) (hq : pc + 3 = q) (hs : stk = As.reverse ++ st) (hok : okC M M' As st np = true) (hr : (mR M').isSome = true) (hk : k1 + k2 ≤ k) (hn : n1 + n2 ≤ n) (R0 : CtJ M' As h k1 n1 (fun r h' => Rn M q lv (jV r :: st) h' k2 n2 Q E) E) : Rn M pc lv stk h k n Q E :=
  r_cS As hL hd hq hs hok hk hn R0 (fun w h' z => by obtain ⟨r, e, z⟩ := z; subst e; unfold bhd; rw [if_neg (by intro y; rw [y] at hr; cases hr)]; exact z)
theorem r_cSJ0 {idx np : Nat} (As : List AV) (hL : MLS (mY M).cls idx M' np) (hd : decode (mC M) pc = .ok (.invokestatic idx, 3)) (hq : pc + 3 = q) (hs : stk = As.reverse ++ st) (hok : okC M M' As st np = true) (hr : (mR M').isSome = true) (R0 : CtJ M' As h 0 0 (fun r h' => Rn M q lv (jV r :: st) h' k n Q E) E) : Rn M pc lv stk h k n Q E :=
  r_cS As hL hd hq hs hok (Nat.le_of_eq (Nat.zero_add _)) (Nat.le_of_eq (Nat.zero_add _)) R0 (fun w h' z => by obtain ⟨r, e, z⟩ := z; subst e; unfold bhd; rw [if_neg (by intro y; rw [y] at hr; cases hr)]; exact z)
theorem r_cSR {idx np : Nat} (As : List AV) (hL : MLS (mY M).cls idx M' np) (hd : decode (mC M) pc = .ok (.invokestatic idx, 3)) (hq : pc + 3 = q) (hs : stk = As.reverse ++ st) (hok : okC M M' As st np = true) (hr : (mR M').isSome = true) (hk : k1 + k2 ≤ k) (hn : n1 + n2 ≤ n) (R0 : CtR M' As h k1 n1 (fun r h' => Rn M q lv (rV r :: st) h' k2 n2 Q E) E) : Rn M pc lv stk h k n Q E :=
  r_cS As hL hd hq hs hok hk hn R0 (fun w h' z => by obtain ⟨r, e, z⟩ := z; subst e; unfold bhd; rw [if_neg (by intro y; rw [y] at hr; cases hr)]; exact z)
theorem r_cSR0 {idx np : Nat} (As : List AV) (hL : MLS (mY M).cls idx M' np) (hd : decode (mC M) pc = .ok (.invokestatic idx, 3)) (hq : pc + 3 = q) (hs : stk = As.reverse ++ st) (hok : okC M M' As st np = true) (hr : (mR M').isSome = true) (R0 : CtR M' As h 0 0 (fun r h' => Rn M q lv (rV r :: st) h' k n Q E) E) : Rn M pc lv stk h k n Q E :=
  r_cS As hL hd hq hs hok (Nat.le_of_eq (Nat.zero_add _)) (Nat.le_of_eq (Nat.zero_add _)) R0 (fun w h' z => by obtain ⟨r, e, z⟩ := z; subst e; unfold bhd; rw [if_neg (by intro y; rw [y] at hr; cases hr)]; exact z)
theorem r_cSV {idx np : Nat} (As : List AV) (hL : MLS (mY M).cls idx M' np) (hd : decode (mC M) pc = .ok (.invokestatic idx, 3)) (hq : pc + 3 = q) (hs : stk = As.reverse ++ st) (hok : okC M M' As st np = true) (hr : mR M' = none) (hk : k1 + k2 ≤ k) (hn : n1 + n2 ≤ n) (R0 : CtV M' As h k1 n1 (fun h' => Rn M q lv st h' k2 n2 Q E) E) : Rn M pc lv stk h k n Q E :=
  r_cS As hL hd hq hs hok hk hn R0 (fun w h' z => by unfold bhd; rw [if_pos hr]; exact z.2)
theorem r_cSV0 {idx np : Nat} (As : List AV) (hL : MLS (mY M).cls idx M' np) (hd : decode (mC M) pc = .ok (.invokestatic idx, 3)) (hq : pc + 3 = q) (hs : stk = As.reverse ++ st) (hok : okC M M' As st np = true) (hr : mR M' = none) (R0 : CtV M' As h 0 0 (fun h' => Rn M q lv st h' k n Q E) E) : Rn M pc lv stk h k n Q E :=
  r_cS As hL hd hq hs hok (Nat.le_of_eq (Nat.zero_add _)) (Nat.le_of_eq (Nat.zero_add _)) R0 (fun w h' z => by unfold bhd; rw [if_pos hr]; exact z.2)
theorem r_cIV {idx np : Nat} (b : Nat) (As : List AV) (hL : MLI (mY M).cls idx M' np) (hx : (mX M').isEmpty = true) (hr0 : mR M' = none) (hd : decode (mC M) pc = .ok (.invokespecial idx, 3)) (hq : pc + 3 = q) (hs : stk = As.reverse ++ rV b :: st) (hok : okC M M' (rV b :: As) st (np + 1) = true) (hkd : kd h b ≠ 0) (hk : k1 + k2 ≤ k) (hn : n1 + n2 ≤ n) (R0 : CtV M' (rV b :: As) h k1 n1 (fun h' => Rn M q lv st h' k2 n2 Q E) E) : Rn M pc lv stk h k n Q E :=
  r_cI b As hL hx hr0 hd hq hs hok hkd hk hn R0 (fun w h' z => by unfold bhd; rw [if_pos hr0]; exact z.2)
theorem r_cIV0 {idx np : Nat} (b : Nat) (As : List AV) (hL : MLI (mY M).cls idx M' np) (hx : (mX M').isEmpty = true) (hr0 : mR M' = none) (hd : decode (mC M) pc = .ok (.invokespecial idx, 3)) (hq : pc + 3 = q) (hs : stk = As.reverse ++ rV b :: st) (hok : okC M M' (rV b :: As) st (np + 1) = true) (hkd : kd h b ≠ 0) (R0 : CtV M' (rV b :: As) h 0 0 (fun h' => Rn M q lv st h' k n Q E) E) : Rn M pc lv stk h k n Q E :=
  r_cI b As hL hx hr0 hd hq hs hok hkd (Nat.le_of_eq (Nat.zero_add _)) (Nat.le_of_eq (Nat.zero_add _)) R0 (fun w h' z => by unfold bhd; rw [if_pos hr0]; exact z.2)
end CONV
section CONV2
variable {M M' : MI} {pc q : Nat} {lv : List (Nat × AV)} {st stk : List AV} {h : Hp} {k n : Nat} {Q : AV → Hp → Prop} {E : Nat → Hp → Prop}
theorem r_iincW {i : Nat} {d : Int} {x w : Int32} {lv' : List (Nat × AV)} (hd : decode (mC M) pc = .ok (.iinc i d, 3)) (hq : pc + 3 = q) (j : Nat) (hj : lv[j]? = some (i, iV x)) (hw : Int32.ofInt d = w) (hn : i < mL M) (hl : lset lv i (iV (x + w)) = lv')
    (kk : Rn M q lv' st h k n Q E) : Rn M pc lv st h k n Q E := by
  subst hw
  exact r_iinc hd hq j hj rfl hn hl kk
theorem r_tabK {dflt lo hi : Int} {offs : Array Int} {len : Nat} {x y : Int32} {off : Int} {tg : Nat} (hd : decode (mC M) pc = .ok (.tableswitch dflt lo hi offs, len)) (hx : x = y) (h1 : ¬ y.toInt < lo) (h2 : ¬ hi < y.toInt) (ho : offs[(y.toInt - lo).toNat]? = some off) (ht : (pc : Int) + off = (tg : Int)) (kk : Rn M tg lv st h k n Q E) : Rn M pc lv (iV x :: st) h k n Q E := by
  subst hx
  exact r_tabIn hd h1 h2 ho ht kk
end CONV2
section CONV3
variable {M M' : MI} {pc q : Nat} {lv : List (Nat × AV)} {st stk : List AV} {h : Hp} {k n : Nat} {Q : AV → Hp → Prop} {E : Nat → Hp → Prop}
theorem r_monoCI {av : List AV} {Q1 Q2 : Int32 → Hp → Prop} (hQ : ∀ r h, Q1 r h → Q2 r h) (kk : CtI M av h k n Q1 E) : CtI M av h k n Q2 E := r_mono (fun v h z => by obtain ⟨r, e, z⟩ := z; exact ⟨r, e, hQ r h z⟩) (fun _ _ z => z) kk
theorem r_monoCJ {av : List AV} {Q1 Q2 : Int64 → Hp → Prop} (hQ : ∀ r h, Q1 r h → Q2 r h) (kk : CtJ M av h k n Q1 E) : CtJ M av h k n Q2 E := r_mono (fun v h z => by obtain ⟨r, e, z⟩ := z; exact ⟨r, e, hQ r h z⟩) (fun _ _ z => z) kk
theorem r_monoCR {av : List AV} {Q1 Q2 : Nat → Hp → Prop} (hQ : ∀ r h, Q1 r h → Q2 r h) (kk : CtR M av h k n Q1 E) : CtR M av h k n Q2 E := r_mono (fun v h z => by obtain ⟨r, e, z⟩ := z; exact ⟨r, e, hQ r h z⟩) (fun _ _ z => z) kk
theorem r_monoCV {av : List AV} {Q1 Q2 : Hp → Prop} (hQ : ∀ h, Q1 h → Q2 h) (kk : CtV M av h k n Q1 E) : CtV M av h k n Q2 E := r_mono (fun v h z => ⟨z.1, hQ h z.2⟩) (fun _ _ z => z) kk
/-- a name for the top of the stack -/
theorem r_gen {x : Int32} (kk : ∀ y : Int32, y = x → Rn M pc lv (iV y :: st) h k n Q E) : Rn M pc lv (iV x :: st) h k n Q E := kk x rfl
theorem kd_nO (h : Hp) (c : Nat) : kd (nO h c) (nx h) = c + 1 := by show va_up (kd h) (nx h) (c + 1) (nx h) = _; exact va_up_self ..
theorem kd_nA (h : Hp) (t m : Nat) : kd (nA h t m) (nx h) = 61 + t := by show va_up (kd h) (nx h) (61 + t) (nx h) = _; exact va_up_self ..
theorem r_putN {idx c j f a : Nat} {x : Int32} {ty : FieldType} (hF : FLk (mY M).cls idx c j 0 f ty false) (hd : decode (mC M) pc = .ok (.putfield idx, 3)) (hq : pc + 3 = q) (hk : kd h a = c + 1) (hx : narrow ty (.int x) = .int x ∧ fits ty (.int x) = true) (kk : Rn M q lv st (pI h f a x) k n Q E) : Rn M pc lv (iV x :: rV a :: st) h k n Q E := r_put0 (v := iV x) hF hd hq hk (fun z => by cases z) rfl hx.1 hx.2 kk
/-- a cast to the object's own class -/
theorem r_cast {idx c a : Nat} {R0 : String} {T0 : u_T} {N0 : Nat} (hw : Cond.classLink (mY M).cls idx R0 ∈ lw_all) (hc : xcl[c]? = some (R0, T0, N0)) (hd : decode (mC M) pc = .ok (.checkcast idx, 3)) (hq : pc + 3 = q) (hk : kd h a = c + 1) (kk : Rn M q lv (rV a :: st) h k n Q E) : Rn M pc lv (rV a :: st) h k n Q E := by
  subst hq
  intro G p l e R s m args below meth c0 mc ms Z H locs cells slots ls X V
  have hc14 : c < 14 := (List.getElem?_eq_some_iff.mp hc).1
  obtain ⟨b, rfl, hbs⟩ := V.2.2.1.pos (a := a) (by omega)
  obtain ⟨⟨r, q1, cv, q2, q3, q4, q5⟩, -⟩ := (V.2.2.1.2.2.2.2 b).1 c hk (by omega)
  have hat := (X.2.1.1 c _ hc).2
  exact va_castS X.1.1 X.1.2.1 X.1.2.2.2.1 (X.1.2.2.2.2 _ hw) hat ⟨cv, q2, by rw [q4]; rfl, by rw [q3]; exact hat.1⟩ hd (kk G p l e R s m args below meth c0 mc ms Z H locs cells slots ls X V)
end CONV3
theorem vp_lit {i : Int32} {N : Nat} (h : decide (¬ (i < 0 ∨ N ≤ i.toNatClampNeg)) = true) : vp_in i N := by unfold vp_in; exact of_decide_eq_true h
section CONV4
variable {M M' : MI} {pc q : Nat} {lv : List (Nat × AV)} {st stk : List AV} {h : Hp} {k n : Nat} {Q : AV → Hp → Prop} {E : Nat → Hp → Prop}
theorem r_kpI {x c f a : Nat} {v : Int32} (g : kd h x = c) (kk : kd (pI h f a v) x = c → Rn M pc lv st (pI h f a v) k n Q E) : Rn M pc lv st (pI h f a v) k n Q E := kk g
theorem r_kpJ {x c f a : Nat} {v : Int64} (g : kd h x = c) (kk : kd (pJ h f a v) x = c → Rn M pc lv st (pJ h f a v) k n Q E) : Rn M pc lv st (pJ h f a v) k n Q E := kk g
theorem r_kpR {x c f a v : Nat} (g : kd h x = c) (kk : kd (pR h f a v) x = c → Rn M pc lv st (pR h f a v) k n Q E) : Rn M pc lv st (pR h f a v) k n Q E := kk g
theorem r_ksI {x c f a : Nat} {v : Int32} (g : kd h x = c) (kk : kd (sI h f a v) x = c → Rn M pc lv st (sI h f a v) k n Q E) : Rn M pc lv st (sI h f a v) k n Q E := kk g
theorem r_ksJ {x c f a : Nat} {v : Int64} (g : kd h x = c) (kk : kd (sJ h f a v) x = c → Rn M pc lv st (sJ h f a v) k n Q E) : Rn M pc lv st (sJ h f a v) k n Q E := kk g
theorem r_ksR {x c f a v : Nat} (g : kd h x = c) (kk : kd (sR h f a v) x = c → Rn M pc lv st (sR h f a v) k n Q E) : Rn M pc lv st (sR h f a v) k n Q E := kk g
end CONV4
/-- what holds of every heap that stands for a machine's -/
def wfH (h : Hp) : Prop := kd h 0 = 0 ∧ ∀ a, nx h ≤ a → kd h a = 0
theorem wfH.lt {h : Hp} (w : wfH h) {a c : Nat} (g : kd h a = c) (hc : c ≠ 0) : 0 < a ∧ a < nx h := by
  refine ⟨?_, ?_⟩
  · rcases Nat.eq_zero_or_pos a with z | z
    · subst z; exact absurd (g.symm.trans w.1) hc
    · exact z
  · rcases Nat.lt_or_ge a (nx h) with z | z
    · exact z
    · exact absurd (g.symm.trans (w.2 a z)) hc
theorem kd_nO_old {h : Hp} (w : wfH h) {a c d : Nat} (g : kd h a = c) (hc : c ≠ 0) : kd (nO h d) a = c := by
  show va_up (kd h) (nx h) (d + 1) a = c
  rw [va_up_ne _ _ (Nat.ne_of_lt (w.lt g hc).2)]; exact g
theorem kd_nA_old {h : Hp} (w : wfH h) {a c t m : Nat} (g : kd h a = c) (hc : c ≠ 0) : kd (nA h t m) a = c := by
  show va_up (kd h) (nx h) (61 + t) a = c
  rw [va_up_ne _ _ (Nat.ne_of_lt (w.lt g hc).2)]; exact g
section CONV5
variable {M M' : MI} {pc q : Nat} {lv : List (Nat × AV)} {st stk : List AV} {h : Hp} {k n : Nat} {Q : AV → Hp → Prop} {E : Nat → Hp → Prop}
theorem r_wfH (kk : wfH h → Rn M pc lv st h k n Q E) : Rn M pc lv st h k n Q E :=
  fun G p l e R s m args below meth c mc ms Z H locs cells slots ls X V => kk ⟨V.2.2.1.2.2.1, V.2.2.1.2.2.2.1⟩ G p l e R s m args below meth c mc ms Z H locs cells slots ls X V
theorem r_knO {x c d : Nat} (w : wfH h) (g : kd h x = c) (hc : c ≠ 0) (kk : kd (nO h d) x = c → Rn M pc lv st (nO h d) k n Q E) : Rn M pc lv st (nO h d) k n Q E := kk (kd_nO_old w g hc)
theorem r_knA {x c t m : Nat} (w : wfH h) (g : kd h x = c) (hc : c ≠ 0) (kk : kd (nA h t m) x = c → Rn M pc lv st (nA h t m) k n Q E) : Rn M pc lv st (nA h t m) k n Q E := kk (kd_nA_old w g hc)
end CONV5
