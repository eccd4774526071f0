/-! the reference's storm: the heap against the numbers of 59.storm0 -/
set_option maxRecDepth 100000
def vlm (nc nr a j : Nat) : Prop := ((a = 14 ∨ a = 16 ∨ a = 17 ∨ a = 18) ∧ j < nc) ∨ (a = 15 ∧ j < nr) ∨ ((a = 19 ∨ a = 20) ∧ j < nc) ∨ ((a = 508 ∨ a = 509 ∨ a = 510 ∨ a = 511 ∨ a = 512 ∨ a = 513) ∧ j = 0)
def vam (h : Hp) (x : Nat) (B : Int) (a j : Nat) : Int :=
  if a = 14 then (eI h (x + 23 + 30) j).toInt else if a = 15 then (eI h (x + 23 + 29) j).toInt else if a = 16 then (eJ h (x + 23 + 33) j).toInt else if a = 17 then (eI h (x + 23 + 35) j).toInt else if a = 18 then (eJ h (x + 23 + 34) j).toInt else if a = 19 then (eJ h (x + 23 + 32) j).toInt else if a = 20 then (eJ h (x + 23 + 31) j).toInt else
  if a = 508 then (gJ h 1047 (x + 23)).toInt else if a = 509 then (gJ h 1048 (x + 23)).toInt - B else if a = 510 then (gJ h 1049 (x + 23)).toInt else if a = 511 then (gJ h 1050 (x + 23)).toInt else if a = 512 then (gI h 1052 (x + 23)).toInt else (gJ h 1051 (x + 23)).toInt
def RM (h : Hp) (x nc nr : Nat) (B : Int) (S : St) : Prop := ∀ a j, vlm nc nr a j → vam h x B a j = S a j
def RMz (h : Hp) (x nc nr : Nat) (B : Int) (S : St) : Prop := ∀ a j, vlm nc nr a j → a ≠ 19 → a ≠ 20 → vam h x B a j = S a j
theorem vlm.cases {nc nr a j : Nat} (v : vlm nc nr a j) : (a = 14 ∨ a = 15 ∨ a = 16 ∨ a = 17 ∨ a = 18 ∨ a = 19 ∨ a = 20) ∨ ((a = 508 ∨ a = 509 ∨ a = 510 ∨ a = 511 ∨ a = 512 ∨ a = 513) ∧ j = 0) := by unfold vlm at v; omega
section
variable {h0 h : Hp} {x : Nat}
theorem RM.w14 {nc nr : Nat} {B : Int} {S : St} (R : RM h x nc nr B S) {j : Nat} {v : Int32} {v' : Int} (hv : v.toInt = v') : RM (sI h (x + 23 + 30) j v) x nc nr B (up2 S 14 j v') := by
  intro a i ha
  have z := R a i ha
  rcases ha.cases with (rfl | rfl | rfl | rfl | rfl | rfl | rfl) | ⟨rfl | rfl | rfl | rfl | rfl | rfl, rfl⟩
  all_goals simp [vam, up2, nx_pI, kd_pI, ln_pI, gI_pI, gJ_pI, gR_pI, eI_pI, eJ_pI, eR_pI, kc_pI, nx_pJ, kd_pJ, ln_pJ, gI_pJ, gJ_pJ, gR_pJ, eI_pJ, eJ_pJ, eR_pJ, kc_pJ, nx_pR, kd_pR, ln_pR, gI_pR, gJ_pR, gR_pR, eI_pR, eJ_pR, eR_pR, kc_pR, nx_sI, kd_sI, ln_sI, gI_sI, gJ_sI, gR_sI, eI_sI, eJ_sI, eR_sI, kc_sI, nx_sJ, kd_sJ, ln_sJ, gI_sJ, gJ_sJ, gR_sJ, eI_sJ, eJ_sJ, eR_sJ, kc_sJ, nx_sR, kd_sR, ln_sR, gI_sR, gJ_sR, gR_sR, eI_sR, eJ_sR, eR_sR, kc_sR, ln_nO, eI_nO, eJ_nO, eR_nO, kc_nO, gI_nO, gI_nA, gJ_nO, gJ_nA, gR_nO, gR_nA, eI_nA, eJ_nA, eR_nA, kc_nA, nx_nO, nx_nA, kd_nO_at, kd_nA_at, ln_nA_at] at z ⊢
  all_goals first | exact z | (by_cases e : i = j <;> simp [e, z, hv])
theorem RM.w15 {nc nr : Nat} {B : Int} {S : St} (R : RM h x nc nr B S) {j : Nat} {v : Int32} {v' : Int} (hv : v.toInt = v') : RM (sI h (x + 23 + 29) j v) x nc nr B (up2 S 15 j v') := by
  intro a i ha
  have z := R a i ha
  rcases ha.cases with (rfl | rfl | rfl | rfl | rfl | rfl | rfl) | ⟨rfl | rfl | rfl | rfl | rfl | rfl, rfl⟩
  all_goals simp [vam, up2, nx_pI, kd_pI, ln_pI, gI_pI, gJ_pI, gR_pI, eI_pI, eJ_pI, eR_pI, kc_pI, nx_pJ, kd_pJ, ln_pJ, gI_pJ, gJ_pJ, gR_pJ, eI_pJ, eJ_pJ, eR_pJ, kc_pJ, nx_pR, kd_pR, ln_pR, gI_pR, gJ_pR, gR_pR, eI_pR, eJ_pR, eR_pR, kc_pR, nx_sI, kd_sI, ln_sI, gI_sI, gJ_sI, gR_sI, eI_sI, eJ_sI, eR_sI, kc_sI, nx_sJ, kd_sJ, ln_sJ, gI_sJ, gJ_sJ, gR_sJ, eI_sJ, eJ_sJ, eR_sJ, kc_sJ, nx_sR, kd_sR, ln_sR, gI_sR, gJ_sR, gR_sR, eI_sR, eJ_sR, eR_sR, kc_sR, ln_nO, eI_nO, eJ_nO, eR_nO, kc_nO, gI_nO, gI_nA, gJ_nO, gJ_nA, gR_nO, gR_nA, eI_nA, eJ_nA, eR_nA, kc_nA, nx_nO, nx_nA, kd_nO_at, kd_nA_at, ln_nA_at] at z ⊢
  all_goals first | exact z | (by_cases e : i = j <;> simp [e, z, hv])
theorem RM.w16 {nc nr : Nat} {B : Int} {S : St} (R : RM h x nc nr B S) {j : Nat} {v : Int64} {v' : Int} (hv : v.toInt = v') : RM (sJ h (x + 23 + 33) j v) x nc nr B (up2 S 16 j v') := by
  intro a i ha
  have z := R a i ha
  rcases ha.cases with (rfl | rfl | rfl | rfl | rfl | rfl | rfl) | ⟨rfl | rfl | rfl | rfl | rfl | rfl, rfl⟩
  all_goals simp [vam, up2, nx_pI, kd_pI, ln_pI, gI_pI, gJ_pI, gR_pI, eI_pI, eJ_pI, eR_pI, kc_pI, nx_pJ, kd_pJ, ln_pJ, gI_pJ, gJ_pJ, gR_pJ, eI_pJ, eJ_pJ, eR_pJ, kc_pJ, nx_pR, kd_pR, ln_pR, gI_pR, gJ_pR, gR_pR, eI_pR, eJ_pR, eR_pR, kc_pR, nx_sI, kd_sI, ln_sI, gI_sI, gJ_sI, gR_sI, eI_sI, eJ_sI, eR_sI, kc_sI, nx_sJ, kd_sJ, ln_sJ, gI_sJ, gJ_sJ, gR_sJ, eI_sJ, eJ_sJ, eR_sJ, kc_sJ, nx_sR, kd_sR, ln_sR, gI_sR, gJ_sR, gR_sR, eI_sR, eJ_sR, eR_sR, kc_sR, ln_nO, eI_nO, eJ_nO, eR_nO, kc_nO, gI_nO, gI_nA, gJ_nO, gJ_nA, gR_nO, gR_nA, eI_nA, eJ_nA, eR_nA, kc_nA, nx_nO, nx_nA, kd_nO_at, kd_nA_at, ln_nA_at] at z ⊢
  all_goals first | exact z | (by_cases e : i = j <;> simp [e, z, hv])
theorem RM.w17 {nc nr : Nat} {B : Int} {S : St} (R : RM h x nc nr B S) {j : Nat} {v : Int32} {v' : Int} (hv : v.toInt = v') : RM (sI h (x + 23 + 35) j v) x nc nr B (up2 S 17 j v') := by
  intro a i ha
  have z := R a i ha
  rcases ha.cases with (rfl | rfl | rfl | rfl | rfl | rfl | rfl) | ⟨rfl | rfl | rfl | rfl | rfl | rfl, rfl⟩
  all_goals simp [vam, up2, nx_pI, kd_pI, ln_pI, gI_pI, gJ_pI, gR_pI, eI_pI, eJ_pI, eR_pI, kc_pI, nx_pJ, kd_pJ, ln_pJ, gI_pJ, gJ_pJ, gR_pJ, eI_pJ, eJ_pJ, eR_pJ, kc_pJ, nx_pR, kd_pR, ln_pR, gI_pR, gJ_pR, gR_pR, eI_pR, eJ_pR, eR_pR, kc_pR, nx_sI, kd_sI, ln_sI, gI_sI, gJ_sI, gR_sI, eI_sI, eJ_sI, eR_sI, kc_sI, nx_sJ, kd_sJ, ln_sJ, gI_sJ, gJ_sJ, gR_sJ, eI_sJ, eJ_sJ, eR_sJ, kc_sJ, nx_sR, kd_sR, ln_sR, gI_sR, gJ_sR, gR_sR, eI_sR, eJ_sR, eR_sR, kc_sR, ln_nO, eI_nO, eJ_nO, eR_nO, kc_nO, gI_nO, gI_nA, gJ_nO, gJ_nA, gR_nO, gR_nA, eI_nA, eJ_nA, eR_nA, kc_nA, nx_nO, nx_nA, kd_nO_at, kd_nA_at, ln_nA_at] at z ⊢
  all_goals first | exact z | (by_cases e : i = j <;> simp [e, z, hv])
theorem RM.w18 {nc nr : Nat} {B : Int} {S : St} (R : RM h x nc nr B S) {j : Nat} {v : Int64} {v' : Int} (hv : v.toInt = v') : RM (sJ h (x + 23 + 34) j v) x nc nr B (up2 S 18 j v') := by
  intro a i ha
  have z := R a i ha
  rcases ha.cases with (rfl | rfl | rfl | rfl | rfl | rfl | rfl) | ⟨rfl | rfl | rfl | rfl | rfl | rfl, rfl⟩
  all_goals simp [vam, up2, nx_pI, kd_pI, ln_pI, gI_pI, gJ_pI, gR_pI, eI_pI, eJ_pI, eR_pI, kc_pI, nx_pJ, kd_pJ, ln_pJ, gI_pJ, gJ_pJ, gR_pJ, eI_pJ, eJ_pJ, eR_pJ, kc_pJ, nx_pR, kd_pR, ln_pR, gI_pR, gJ_pR, gR_pR, eI_pR, eJ_pR, eR_pR, kc_pR, nx_sI, kd_sI, ln_sI, gI_sI, gJ_sI, gR_sI, eI_sI, eJ_sI, eR_sI, kc_sI, nx_sJ, kd_sJ, ln_sJ, gI_sJ, gJ_sJ, gR_sJ, eI_sJ, eJ_sJ, eR_sJ, kc_sJ, nx_sR, kd_sR, ln_sR, gI_sR, gJ_sR, gR_sR, eI_sR, eJ_sR, eR_sR, kc_sR, ln_nO, eI_nO, eJ_nO, eR_nO, kc_nO, gI_nO, gI_nA, gJ_nO, gJ_nA, gR_nO, gR_nA, eI_nA, eJ_nA, eR_nA, kc_nA, nx_nO, nx_nA, kd_nO_at, kd_nA_at, ln_nA_at] at z ⊢
  all_goals first | exact z | (by_cases e : i = j <;> simp [e, z, hv])
theorem RM.w19 {nc nr : Nat} {B : Int} {S : St} (R : RM h x nc nr B S) {j : Nat} {v : Int64} {v' : Int} (hv : v.toInt = v') : RM (sJ h (x + 23 + 32) j v) x nc nr B (up2 S 19 j v') := by
  intro a i ha
  have z := R a i ha
  rcases ha.cases with (rfl | rfl | rfl | rfl | rfl | rfl | rfl) | ⟨rfl | rfl | rfl | rfl | rfl | rfl, rfl⟩
  all_goals simp [vam, up2, nx_pI, kd_pI, ln_pI, gI_pI, gJ_pI, gR_pI, eI_pI, eJ_pI, eR_pI, kc_pI, nx_pJ, kd_pJ, ln_pJ, gI_pJ, gJ_pJ, gR_pJ, eI_pJ, eJ_pJ, eR_pJ, kc_pJ, nx_pR, kd_pR, ln_pR, gI_pR, gJ_pR, gR_pR, eI_pR, eJ_pR, eR_pR, kc_pR, nx_sI, kd_sI, ln_sI, gI_sI, gJ_sI, gR_sI, eI_sI, eJ_sI, eR_sI, kc_sI, nx_sJ, kd_sJ, ln_sJ, gI_sJ, gJ_sJ, gR_sJ, eI_sJ, eJ_sJ, eR_sJ, kc_sJ, nx_sR, kd_sR, ln_sR, gI_sR, gJ_sR, gR_sR, eI_sR, eJ_sR, eR_sR, kc_sR, ln_nO, eI_nO, eJ_nO, eR_nO, kc_nO, gI_nO, gI_nA, gJ_nO, gJ_nA, gR_nO, gR_nA, eI_nA, eJ_nA, eR_nA, kc_nA, nx_nO, nx_nA, kd_nO_at, kd_nA_at, ln_nA_at] at z ⊢
  all_goals first | exact z | (by_cases e : i = j <;> simp [e, z, hv])
theorem RM.w20 {nc nr : Nat} {B : Int} {S : St} (R : RM h x nc nr B S) {j : Nat} {v : Int64} {v' : Int} (hv : v.toInt = v') : RM (sJ h (x + 23 + 31) j v) x nc nr B (up2 S 20 j v') := by
  intro a i ha
  have z := R a i ha
  rcases ha.cases with (rfl | rfl | rfl | rfl | rfl | rfl | rfl) | ⟨rfl | rfl | rfl | rfl | rfl | rfl, rfl⟩
  all_goals simp [vam, up2, nx_pI, kd_pI, ln_pI, gI_pI, gJ_pI, gR_pI, eI_pI, eJ_pI, eR_pI, kc_pI, nx_pJ, kd_pJ, ln_pJ, gI_pJ, gJ_pJ, gR_pJ, eI_pJ, eJ_pJ, eR_pJ, kc_pJ, nx_pR, kd_pR, ln_pR, gI_pR, gJ_pR, gR_pR, eI_pR, eJ_pR, eR_pR, kc_pR, nx_sI, kd_sI, ln_sI, gI_sI, gJ_sI, gR_sI, eI_sI, eJ_sI, eR_sI, kc_sI, nx_sJ, kd_sJ, ln_sJ, gI_sJ, gJ_sJ, gR_sJ, eI_sJ, eJ_sJ, eR_sJ, kc_sJ, nx_sR, kd_sR, ln_sR, gI_sR, gJ_sR, gR_sR, eI_sR, eJ_sR, eR_sR, kc_sR, ln_nO, eI_nO, eJ_nO, eR_nO, kc_nO, gI_nO, gI_nA, gJ_nO, gJ_nA, gR_nO, gR_nA, eI_nA, eJ_nA, eR_nA, kc_nA, nx_nO, nx_nA, kd_nO_at, kd_nA_at, ln_nA_at] at z ⊢
  all_goals first | exact z | (by_cases e : i = j <;> simp [e, z, hv])
theorem RM.v508 {nc nr : Nat} {B : Int} {S : St} (R : RM h x nc nr B S) {v : Int64} {v' : Int} (hv : v.toInt = v') : RM (pJ h 1047 (x + 23) v) x nc nr B (up2 S 508 0 v') := by
  intro a i ha
  have z := R a i ha
  rcases ha.cases with (rfl | rfl | rfl | rfl | rfl | rfl | rfl) | ⟨rfl | rfl | rfl | rfl | rfl | rfl, rfl⟩
  all_goals simp [vam, up2, nx_pI, kd_pI, ln_pI, gI_pI, gJ_pI, gR_pI, eI_pI, eJ_pI, eR_pI, kc_pI, nx_pJ, kd_pJ, ln_pJ, gI_pJ, gJ_pJ, gR_pJ, eI_pJ, eJ_pJ, eR_pJ, kc_pJ, nx_pR, kd_pR, ln_pR, gI_pR, gJ_pR, gR_pR, eI_pR, eJ_pR, eR_pR, kc_pR, nx_sI, kd_sI, ln_sI, gI_sI, gJ_sI, gR_sI, eI_sI, eJ_sI, eR_sI, kc_sI, nx_sJ, kd_sJ, ln_sJ, gI_sJ, gJ_sJ, gR_sJ, eI_sJ, eJ_sJ, eR_sJ, kc_sJ, nx_sR, kd_sR, ln_sR, gI_sR, gJ_sR, gR_sR, eI_sR, eJ_sR, eR_sR, kc_sR, ln_nO, eI_nO, eJ_nO, eR_nO, kc_nO, gI_nO, gI_nA, gJ_nO, gJ_nA, gR_nO, gR_nA, eI_nA, eJ_nA, eR_nA, kc_nA, nx_nO, nx_nA, kd_nO_at, kd_nA_at, ln_nA_at] at z ⊢
  all_goals first | exact z | exact hv
theorem RM.v510 {nc nr : Nat} {B : Int} {S : St} (R : RM h x nc nr B S) {v : Int64} {v' : Int} (hv : v.toInt = v') : RM (pJ h 1049 (x + 23) v) x nc nr B (up2 S 510 0 v') := by
  intro a i ha
  have z := R a i ha
  rcases ha.cases with (rfl | rfl | rfl | rfl | rfl | rfl | rfl) | ⟨rfl | rfl | rfl | rfl | rfl | rfl, rfl⟩
  all_goals simp [vam, up2, nx_pI, kd_pI, ln_pI, gI_pI, gJ_pI, gR_pI, eI_pI, eJ_pI, eR_pI, kc_pI, nx_pJ, kd_pJ, ln_pJ, gI_pJ, gJ_pJ, gR_pJ, eI_pJ, eJ_pJ, eR_pJ, kc_pJ, nx_pR, kd_pR, ln_pR, gI_pR, gJ_pR, gR_pR, eI_pR, eJ_pR, eR_pR, kc_pR, nx_sI, kd_sI, ln_sI, gI_sI, gJ_sI, gR_sI, eI_sI, eJ_sI, eR_sI, kc_sI, nx_sJ, kd_sJ, ln_sJ, gI_sJ, gJ_sJ, gR_sJ, eI_sJ, eJ_sJ, eR_sJ, kc_sJ, nx_sR, kd_sR, ln_sR, gI_sR, gJ_sR, gR_sR, eI_sR, eJ_sR, eR_sR, kc_sR, ln_nO, eI_nO, eJ_nO, eR_nO, kc_nO, gI_nO, gI_nA, gJ_nO, gJ_nA, gR_nO, gR_nA, eI_nA, eJ_nA, eR_nA, kc_nA, nx_nO, nx_nA, kd_nO_at, kd_nA_at, ln_nA_at] at z ⊢
  all_goals first | exact z | exact hv
theorem RM.v511 {nc nr : Nat} {B : Int} {S : St} (R : RM h x nc nr B S) {v : Int64} {v' : Int} (hv : v.toInt = v') : RM (pJ h 1050 (x + 23) v) x nc nr B (up2 S 511 0 v') := by
  intro a i ha
  have z := R a i ha
  rcases ha.cases with (rfl | rfl | rfl | rfl | rfl | rfl | rfl) | ⟨rfl | rfl | rfl | rfl | rfl | rfl, rfl⟩
  all_goals simp [vam, up2, nx_pI, kd_pI, ln_pI, gI_pI, gJ_pI, gR_pI, eI_pI, eJ_pI, eR_pI, kc_pI, nx_pJ, kd_pJ, ln_pJ, gI_pJ, gJ_pJ, gR_pJ, eI_pJ, eJ_pJ, eR_pJ, kc_pJ, nx_pR, kd_pR, ln_pR, gI_pR, gJ_pR, gR_pR, eI_pR, eJ_pR, eR_pR, kc_pR, nx_sI, kd_sI, ln_sI, gI_sI, gJ_sI, gR_sI, eI_sI, eJ_sI, eR_sI, kc_sI, nx_sJ, kd_sJ, ln_sJ, gI_sJ, gJ_sJ, gR_sJ, eI_sJ, eJ_sJ, eR_sJ, kc_sJ, nx_sR, kd_sR, ln_sR, gI_sR, gJ_sR, gR_sR, eI_sR, eJ_sR, eR_sR, kc_sR, ln_nO, eI_nO, eJ_nO, eR_nO, kc_nO, gI_nO, gI_nA, gJ_nO, gJ_nA, gR_nO, gR_nA, eI_nA, eJ_nA, eR_nA, kc_nA, nx_nO, nx_nA, kd_nO_at, kd_nA_at, ln_nA_at] at z ⊢
  all_goals first | exact z | exact hv
theorem RM.v512 {nc nr : Nat} {B : Int} {S : St} (R : RM h x nc nr B S) {v : Int32} {v' : Int} (hv : v.toInt = v') : RM (pI h 1052 (x + 23) v) x nc nr B (up2 S 512 0 v') := by
  intro a i ha
  have z := R a i ha
  rcases ha.cases with (rfl | rfl | rfl | rfl | rfl | rfl | rfl) | ⟨rfl | rfl | rfl | rfl | rfl | rfl, rfl⟩
  all_goals simp [vam, up2, nx_pI, kd_pI, ln_pI, gI_pI, gJ_pI, gR_pI, eI_pI, eJ_pI, eR_pI, kc_pI, nx_pJ, kd_pJ, ln_pJ, gI_pJ, gJ_pJ, gR_pJ, eI_pJ, eJ_pJ, eR_pJ, kc_pJ, nx_pR, kd_pR, ln_pR, gI_pR, gJ_pR, gR_pR, eI_pR, eJ_pR, eR_pR, kc_pR, nx_sI, kd_sI, ln_sI, gI_sI, gJ_sI, gR_sI, eI_sI, eJ_sI, eR_sI, kc_sI, nx_sJ, kd_sJ, ln_sJ, gI_sJ, gJ_sJ, gR_sJ, eI_sJ, eJ_sJ, eR_sJ, kc_sJ, nx_sR, kd_sR, ln_sR, gI_sR, gJ_sR, gR_sR, eI_sR, eJ_sR, eR_sR, kc_sR, ln_nO, eI_nO, eJ_nO, eR_nO, kc_nO, gI_nO, gI_nA, gJ_nO, gJ_nA, gR_nO, gR_nA, eI_nA, eJ_nA, eR_nA, kc_nA, nx_nO, nx_nA, kd_nO_at, kd_nA_at, ln_nA_at] at z ⊢
  all_goals first | exact z | exact hv
theorem RM.v513 {nc nr : Nat} {B : Int} {S : St} (R : RM h x nc nr B S) {v : Int64} {v' : Int} (hv : v.toInt = v') : RM (pJ h 1051 (x + 23) v) x nc nr B (up2 S 513 0 v') := by
  intro a i ha
  have z := R a i ha
  rcases ha.cases with (rfl | rfl | rfl | rfl | rfl | rfl | rfl) | ⟨rfl | rfl | rfl | rfl | rfl | rfl, rfl⟩
  all_goals simp [vam, up2, nx_pI, kd_pI, ln_pI, gI_pI, gJ_pI, gR_pI, eI_pI, eJ_pI, eR_pI, kc_pI, nx_pJ, kd_pJ, ln_pJ, gI_pJ, gJ_pJ, gR_pJ, eI_pJ, eJ_pJ, eR_pJ, kc_pJ, nx_pR, kd_pR, ln_pR, gI_pR, gJ_pR, gR_pR, eI_pR, eJ_pR, eR_pR, kc_pR, nx_sI, kd_sI, ln_sI, gI_sI, gJ_sI, gR_sI, eI_sI, eJ_sI, eR_sI, kc_sI, nx_sJ, kd_sJ, ln_sJ, gI_sJ, gJ_sJ, gR_sJ, eI_sJ, eJ_sJ, eR_sJ, kc_sJ, nx_sR, kd_sR, ln_sR, gI_sR, gJ_sR, gR_sR, eI_sR, eJ_sR, eR_sR, kc_sR, ln_nO, eI_nO, eJ_nO, eR_nO, kc_nO, gI_nO, gI_nA, gJ_nO, gJ_nA, gR_nO, gR_nA, eI_nA, eJ_nA, eR_nA, kc_nA, nx_nO, nx_nA, kd_nO_at, kd_nA_at, ln_nA_at] at z ⊢
  all_goals first | exact z | exact hv
theorem RM.v509 {nc nr : Nat} {B : Int} {S : St} (R : RM h x nc nr B S) {v : Int64} {v' : Int} (hv : v.toInt - B = v') : RM (pJ h 1048 (x + 23) v) x nc nr B (up2 S 509 0 v') := by
  intro a i ha
  have z := R a i ha
  rcases ha.cases with (rfl | rfl | rfl | rfl | rfl | rfl | rfl) | ⟨rfl | rfl | rfl | rfl | rfl | rfl, rfl⟩
  all_goals simp [vam, up2, nx_pI, kd_pI, ln_pI, gI_pI, gJ_pI, gR_pI, eI_pI, eJ_pI, eR_pI, kc_pI, nx_pJ, kd_pJ, ln_pJ, gI_pJ, gJ_pJ, gR_pJ, eI_pJ, eJ_pJ, eR_pJ, kc_pJ, nx_pR, kd_pR, ln_pR, gI_pR, gJ_pR, gR_pR, eI_pR, eJ_pR, eR_pR, kc_pR, nx_sI, kd_sI, ln_sI, gI_sI, gJ_sI, gR_sI, eI_sI, eJ_sI, eR_sI, kc_sI, nx_sJ, kd_sJ, ln_sJ, gI_sJ, gJ_sJ, gR_sJ, eI_sJ, eJ_sJ, eR_sJ, kc_sJ, nx_sR, kd_sR, ln_sR, gI_sR, gJ_sR, gR_sR, eI_sR, eJ_sR, eR_sR, kc_sR, ln_nO, eI_nO, eJ_nO, eR_nO, kc_nO, gI_nO, gI_nA, gJ_nO, gJ_nA, gR_nO, gR_nA, eI_nA, eJ_nA, eR_nA, kc_nA, nx_nO, nx_nA, kd_nO_at, kd_nA_at, ln_nA_at] at z ⊢
  all_goals first | exact z | exact hv
theorem RM.e14 {nc nr : Nat} {B : Int} {S : St} (R : RM h x nc nr B S) {j : Nat} (hj : j < nc) : (eI h (x + 23 + 30) j).toInt = S 14 j := R 14 j (Or.inl ⟨Or.inl rfl, hj⟩)
theorem RM.e15 {nc nr : Nat} {B : Int} {S : St} (R : RM h x nc nr B S) {j : Nat} (hj : j < nr) : (eI h (x + 23 + 29) j).toInt = S 15 j := R 15 j (Or.inr (Or.inl ⟨rfl, hj⟩))
theorem RM.e16 {nc nr : Nat} {B : Int} {S : St} (R : RM h x nc nr B S) {j : Nat} (hj : j < nc) : (eJ h (x + 23 + 33) j).toInt = S 16 j := R 16 j (Or.inl ⟨Or.inr (Or.inl rfl), hj⟩)
theorem RM.e17 {nc nr : Nat} {B : Int} {S : St} (R : RM h x nc nr B S) {j : Nat} (hj : j < nc) : (eI h (x + 23 + 35) j).toInt = S 17 j := R 17 j (Or.inl ⟨Or.inr (Or.inr (Or.inl rfl)), hj⟩)
theorem RM.e18 {nc nr : Nat} {B : Int} {S : St} (R : RM h x nc nr B S) {j : Nat} (hj : j < nc) : (eJ h (x + 23 + 34) j).toInt = S 18 j := R 18 j (Or.inl ⟨Or.inr (Or.inr (Or.inr rfl)), hj⟩)
theorem RM.e19 {nc nr : Nat} {B : Int} {S : St} (R : RM h x nc nr B S) {j : Nat} (hj : j < nc) : (eJ h (x + 23 + 32) j).toInt = S 19 j := R 19 j (Or.inr (Or.inr (Or.inl ⟨Or.inl rfl, hj⟩)))
theorem RM.e20 {nc nr : Nat} {B : Int} {S : St} (R : RM h x nc nr B S) {j : Nat} (hj : j < nc) : (eJ h (x + 23 + 31) j).toInt = S 20 j := R 20 j (Or.inr (Or.inr (Or.inl ⟨Or.inr rfl, hj⟩)))
theorem RM.g508 {nc nr : Nat} {B : Int} {S : St} (R : RM h x nc nr B S) : (gJ h 1047 (x + 23)).toInt = S 508 0 := R 508 0 (Or.inr (Or.inr (Or.inr ⟨Or.inl rfl, rfl⟩)))
theorem RM.g509 {nc nr : Nat} {B : Int} {S : St} (R : RM h x nc nr B S) : (gJ h 1048 (x + 23)).toInt - B = S 509 0 := R 509 0 (Or.inr (Or.inr (Or.inr ⟨Or.inr (Or.inl rfl), rfl⟩)))
theorem RM.g510 {nc nr : Nat} {B : Int} {S : St} (R : RM h x nc nr B S) : (gJ h 1049 (x + 23)).toInt = S 510 0 := R 510 0 (Or.inr (Or.inr (Or.inr ⟨Or.inr (Or.inr (Or.inl rfl)), rfl⟩)))
theorem RM.g511 {nc nr : Nat} {B : Int} {S : St} (R : RM h x nc nr B S) : (gJ h 1050 (x + 23)).toInt = S 511 0 := R 511 0 (Or.inr (Or.inr (Or.inr ⟨Or.inr (Or.inr (Or.inr (Or.inl rfl))), rfl⟩)))
theorem RM.g512 {nc nr : Nat} {B : Int} {S : St} (R : RM h x nc nr B S) : (gI h 1052 (x + 23)).toInt = S 512 0 := R 512 0 (Or.inr (Or.inr (Or.inr ⟨Or.inr (Or.inr (Or.inr (Or.inr (Or.inl rfl)))), rfl⟩)))
theorem RM.g513 {nc nr : Nat} {B : Int} {S : St} (R : RM h x nc nr B S) : (gJ h 1051 (x + 23)).toInt = S 513 0 := R 513 0 (Or.inr (Or.inr (Or.inr ⟨Or.inr (Or.inr (Or.inr (Or.inr (Or.inr (rfl))))), rfl⟩)))
def WM (h0 h : Hp) (x : Nat) (B : Int) (S : St) : Prop := SC h0 h x ∧ RM h x (nC h0 x) (nR h0 x) B S
def WMz (h0 h : Hp) (x : Nat) (B : Int) (S : St) : Prop := SC h0 h x ∧ RMz h x (nC h0 x) (nR h0 x) B S
theorem SC.wM (C : SC h0 h x) {o i : Nat} {v : Int32} (ho : 23 + o ∈ scA) : SC h0 (sI h (x + 23 + o) i v) x := by rw [Nat.add_assoc]; exact C.wI ho
theorem SC.wN (C : SC h0 h x) {o i : Nat} {v : Int64} (ho : 23 + o ∈ scB) : SC h0 (sJ h (x + 23 + o) i v) x := by rw [Nat.add_assoc]; exact C.wJ ho
theorem WM.w14 {B : Int} {S : St} (R : WM h0 h x B S) {j : Nat} {v : Int32} {v' : Int} (hv : v.toInt = v') : WM h0 (sI h (x + 23 + 30) j v) x B (up2 S 14 j v') := ⟨R.1.wM (by decide), R.2.w14 hv⟩
theorem WM.w15 {B : Int} {S : St} (R : WM h0 h x B S) {j : Nat} {v : Int32} {v' : Int} (hv : v.toInt = v') : WM h0 (sI h (x + 23 + 29) j v) x B (up2 S 15 j v') := ⟨R.1.wM (by decide), R.2.w15 hv⟩
theorem WM.w16 {B : Int} {S : St} (R : WM h0 h x B S) {j : Nat} {v : Int64} {v' : Int} (hv : v.toInt = v') : WM h0 (sJ h (x + 23 + 33) j v) x B (up2 S 16 j v') := ⟨R.1.wN (by decide), R.2.w16 hv⟩
theorem WM.w17 {B : Int} {S : St} (R : WM h0 h x B S) {j : Nat} {v : Int32} {v' : Int} (hv : v.toInt = v') : WM h0 (sI h (x + 23 + 35) j v) x B (up2 S 17 j v') := ⟨R.1.wM (by decide), R.2.w17 hv⟩
theorem WM.w18 {B : Int} {S : St} (R : WM h0 h x B S) {j : Nat} {v : Int64} {v' : Int} (hv : v.toInt = v') : WM h0 (sJ h (x + 23 + 34) j v) x B (up2 S 18 j v') := ⟨R.1.wN (by decide), R.2.w18 hv⟩
theorem WM.w19 {B : Int} {S : St} (R : WM h0 h x B S) {j : Nat} {v : Int64} {v' : Int} (hv : v.toInt = v') : WM h0 (sJ h (x + 23 + 32) j v) x B (up2 S 19 j v') := ⟨R.1.wN (by decide), R.2.w19 hv⟩
theorem WM.w20 {B : Int} {S : St} (R : WM h0 h x B S) {j : Nat} {v : Int64} {v' : Int} (hv : v.toInt = v') : WM h0 (sJ h (x + 23 + 31) j v) x B (up2 S 20 j v') := ⟨R.1.wN (by decide), R.2.w20 hv⟩
theorem WM.v508 {B : Int} {S : St} (R : WM h0 h x B S) {v : Int64} {v' : Int} (hv : v.toInt = v') : WM h0 (pJ h 1047 (x + 23) v) x B (up2 S 508 0 v') := ⟨R.1.vJ (by decide), R.2.v508 hv⟩
theorem WM.v510 {B : Int} {S : St} (R : WM h0 h x B S) {v : Int64} {v' : Int} (hv : v.toInt = v') : WM h0 (pJ h 1049 (x + 23) v) x B (up2 S 510 0 v') := ⟨R.1.vJ (by decide), R.2.v510 hv⟩
theorem WM.v511 {B : Int} {S : St} (R : WM h0 h x B S) {v : Int64} {v' : Int} (hv : v.toInt = v') : WM h0 (pJ h 1050 (x + 23) v) x B (up2 S 511 0 v') := ⟨R.1.vJ (by decide), R.2.v511 hv⟩
theorem WM.v512 {B : Int} {S : St} (R : WM h0 h x B S) {v : Int32} {v' : Int} (hv : v.toInt = v') : WM h0 (pI h 1052 (x + 23) v) x B (up2 S 512 0 v') := ⟨R.1.vI (by decide), R.2.v512 hv⟩
theorem WM.v513 {B : Int} {S : St} (R : WM h0 h x B S) {v : Int64} {v' : Int} (hv : v.toInt = v') : WM h0 (pJ h 1051 (x + 23) v) x B (up2 S 513 0 v') := ⟨R.1.vJ (by decide), R.2.v513 hv⟩
theorem WM.v509 {B : Int} {S : St} (R : WM h0 h x B S) {v : Int64} {v' : Int} (hv : v.toInt - B = v') : WM h0 (pJ h 1048 (x + 23) v) x B (up2 S 509 0 v') := ⟨R.1.vJ (by decide), R.2.v509 hv⟩
theorem WM.z {B : Int} {S : St} (R : WM h0 h x B S) : WMz h0 h x B S := ⟨R.1, fun a j v _ _ => R.2 a j v⟩
theorem WM.congr {B : Int} {S T : St} (R : WM h0 h x B S) (e : ∀ a j, vlm (nC h0 x) (nR h0 x) a j → S a j = T a j) : WM h0 h x B T := ⟨R.1, fun a j v => (R.2 a j v).trans (e a j v)⟩
theorem SC.mw (C : SC h0 h x) (hM : MW h0 (x + 23)) : MW h (x + 23) := C.ag.mw hM
theorem SC.drk (C : SC h0 h x) (c : Int32) : V_X3_drink h (x + 23) c = V_X3_drink h0 (x + 23) c := by unfold V_X3_drink; rw [C.eiM (o := 25) (by decide), C.eiM (o := 9) (by decide), C.eiM (o := 12) (by decide)]
variable {E : Nat → Hp → Prop} {k n : Nat}
theorem up2_comm {S : St} {a j a' j' : Nat} {v w : Int} (hn : a ≠ a') : up2 (up2 S a j v) a' j' w = up2 (up2 S a' j' w) a j v := by
  funext p q
  unfold up2
  by_cases c : p = a' ∧ q = j'
  · rw [if_pos c, if_neg (fun z => hn (z.1.symm.trans c.1)), if_pos c]
  · rw [if_neg c]
    by_cases d : p = a ∧ q = j
    · rw [if_pos d, if_pos d]
    · rw [if_neg d, if_neg d, if_neg c]
theorem ct_roofsGive (hM : MW h0 (x + 23)) (D : MDB h0 x) {B : Int} {S : St} (W : WM h0 h x B S) {s : Int32} {i : Nat} {u : Int32} (hu : bd u 0 50) {N m : Nat} (hN : N ≤ 360) (I : Iv h0 x s N m S) {Q : Int64 → Hp → Prop} (hq : ∀ h' y, WM h0 h' x B (rfA h0 x u.toInt i S).1 → y.toInt = (rfA h0 x u.toInt i S).2 → Q y h') : CtJ M_X3_roofsGive [rV (x + 23), iV (nI i), iV u] h k n Q E := by
  have hr30 := D.1.2.1
  have hrs := D.1.2.2.2.2
  refine b_X3_roofsGive_0 (W.1.mw hM) ?_
  rw [← nI0]
  refine itr_loop (inv := fun r p => ∀ h y, WM h0 h x B p.1 → y.toInt = p.2 → rfP S (nR h0 x) r p → Rn M_X3_roofsGive 5 [(0, rV (x + 23)), (1, iV (nI i)), (2, iV u), (3, jV y), (5, iV (nI r))] [] h k n (qJ Q) E) (f := rfF h0 x u.toInt i) (m := nR h0 x) (s := (S, 0)) (fun r p hr ih h y W hy P => ?_) (fun h y W hy P => ?_) h 0 W toL_0 ⟨fun _ _ _ _ => rfl, I.2.1, Int.le_refl _, by simp, Int.le_refl _, by simp⟩
  · have C := W.1
    obtain ⟨-, -, s3, s4, -, -⟩ := D.2.2.2.1 r hr
    have vr : vp_in (nI r) 30 := vin_nI (by omega) (by decide)
    have er : ix (nI r) = r := ix_nI (by omega)
    obtain ⟨b1, b2, b3, b4, b5, b6, b7⟩ := rfI_bd D (u := u.toInt) ⟨hu.1, hu.2⟩ hr (P.2.1 r hr)
    refine b_X3_roofsGive_5 (C.mw hM) ?_
    rw [C.gi (f := 1002) (by decide), hrs, er, C.eiM (o := 19) (by decide), C.eiM (o := 21) (by decide), C.eiM (o := 22) (by decide)]
    refine ⟨fun c => ?_, fun _ => ⟨vr, fun c => ?_, fun c => ?_⟩⟩
    · rw [nIle (by omega) (by omega)] at c; omega
    · have ih : ∀ h y, WM h0 h x B (rfN h0 x u.toInt r p).1 → y.toInt = (rfN h0 x u.toInt r p).2 → rfP S (nR h0 x) (r + 1) (rfN h0 x u.toInt r p) → Rn M_X3_roofsGive 5 [(0, rV (x + 23)), (1, iV (nI i)), (2, iV u), (3, jV y), (5, iV (nI (r + 1)))] [] h k n (qJ Q) E := by
        unfold rfF at ih
        rw [if_pos c] at ih
        exact ih
      have m1 : (u * eI h0 (x + 23 + 21) r).toInt = u.toInt * (eI h0 (x + 23 + 21) r).toInt := i32_mul (by omega) (by omega)
      have e15 : (eI h (x + 23 + 29) r).toInt = p.1 15 r := W.2.e15 hr
      have d3 := P.2.1 r hr
      have m2 : (imin (u * eI h0 (x + 23 + 21) r) (eI h0 (x + 23 + 22) r - eI h (x + 23 + 29) r)).toInt = rfI h0 x u.toInt r p.1 := by
        have d1 := s4.1
        have d2 := s4.2
        rw [imin_toInt, m1, i32_sub (by omega) (by omega), e15]
        rfl
      refine ⟨vr, ?_⟩
      rintro _ rfl
      refine ⟨vr, vr, ?_⟩
      generalize imin (u * eI h0 (x + 23 + 21) r) (eI h0 (x + 23 + 22) r - eI h (x + 23 + 29) r) = inn at m2 ⊢
      rintro inn rfl
      refine ⟨vr, vr, ?_⟩
      have p3 := P.2.2.1
      have p4 := P.2.2.2.1
      have p5 := P.2.2.2.2.1
      have p6 := P.2.2.2.2.2
      have i3 := I.2.2.1
      have hr30' : (r : Int) ≤ 30 := by omega
      have hN' : (N : Int) ≤ 360 := by exact_mod_cast hN
      have W1 := W.w15 (j := r) (v := eI h (x + 23 + 29) r + inn) (v' := p.1 15 r + rfI h0 x u.toInt r p.1) (by rw [i32_add (by rw [e15, m2]; omega) (by rw [e15, m2]; omega), e15, m2])
      generalize sI h (x + 23 + 29) r (eI h (x + 23 + 29) r + inn) = h1 at W1 ⊢
      rintro h1 rfl
      have j508 : (gJ h1 1047 (x + 23)).toInt = p.1 508 0 := W1.2.g508.trans (up2_ne (Or.inl (by decide)))
      have W2 := W1.v508 (v := gJ h1 1047 (x + 23) + Int32.toInt64 (u * eI h0 (x + 23 + 21) r)) (v' := p.1 508 0 + u.toInt * (eI h0 (x + 23 + 21) r).toInt) (by rw [i64_add (by rw [j508, to64, m1]; omega) (by rw [j508, to64, m1]; omega), j508, to64, m1])
      rw [up2_comm (by decide)] at W2
      rintro _ rfl _ rfl _ rfl
      rw [nI_add1]
      refine ih _ _ W2 ?_ (rfP_step D ⟨hu.1, hu.2⟩ hr P)
      show _ = p.2 + (u.toInt * (eI h0 (x + 23 + 21) r).toInt - rfI h0 x u.toInt r p.1)
      have e1 : (u * eI h0 (x + 23 + 21) r - inn).toInt = u.toInt * (eI h0 (x + 23 + 21) r).toInt - rfI h0 x u.toInt r p.1 := by rw [i32_sub (by rw [m1, m2]; omega) (by rw [m1, m2]; omega), m1, m2]
      rw [i64_add (by rw [to64, e1, hy]; omega) (by rw [to64, e1, hy]; omega), to64, e1, hy]
    · rintro _ rfl
      rw [nI_add1]
      unfold rfF at ih
      rw [if_neg c] at ih
      exact ih h y W hy (rfP_weak P)
  · have C := W.1
    refine b_X3_roofsGive_5 (C.mw hM) ⟨fun _ => hq h y W hy, fun c => absurd ?_ c⟩
    rw [C.gi (f := 1002) (by decide), hrs]
    exact Int32.le_refl _
end
