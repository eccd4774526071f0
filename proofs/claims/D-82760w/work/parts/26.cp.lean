/-! THE COUPLING: the component's objects (from x on) against the model's arrays (from x + 23 on), in one heap -/
set_option maxRecDepth 100000
def nC (h : Hp) (x : Nat) : Nat := ix (gI h 1001 (x + 23))
def nR (h : Hp) (x : Nat) : Nat := ix (gI h 1002 (x + 23))
def nU (h : Hp) (x : Nat) : Nat := ix (gI h 1067 (x + 23))
def nS (h : Hp) (x : Nat) : Nat := ix (gI h 1004 (x + 23))
def nP (h : Hp) (x : Nat) : Nat := ix (gI h 1006 (x + 23))
/-- no two lists share an array, but for the empty one -/
def ALinj (h : Hp) : Prop := (∀ a, kd h a = 12 → kd h (gR h 1101 a) = 65 ∨ kd h (gR h 1101 a) = 75) ∧ ∀ a b, kd h a = 12 → kd h b = 12 → a ≠ b → gR h 1101 a = gR h 1101 b → kd h (gR h 1101 a) = 75
/-- what stands where -/
def CPw (h : Hp) (x : Nat) : Prop := XW h x ∧ MW h (x + 23) ∧ ALinj h ∧ kd h (kc h 0) = 75 ∧ ln h (kc h 0) = 0
/-- numbers that both hold -/
def CPn (h : Hp) (x : Nat) : Prop := gI h 0 x = gI h 1000 (x + 23) ∧ gI h 23 x = gI h 1003 (x + 23) ∧ gI h 26 x = gI h 1005 (x + 23) ∧ gI h 7 x = gI h 1077 (x + 23) ∧ gI h 8 x = gI h 1080 (x + 23) ∧
  gJ h 17 x = gJ h 1035 (x + 23) ∧ gJ h 18 x = gJ h 1036 (x + 23) ∧ gJ h 19 x = gJ h 1037 (x + 23) ∧ gJ h 20 x = gJ h 1038 (x + 23) ∧ gJ h 21 x = gJ h 1039 (x + 23)
def bd (v : Int32) (lo hi : Int) : Prop := lo ≤ v.toInt ∧ v.toInt ≤ hi
/-- bounds of counters -/
def CPo (h : Hp) (x : Nat) : Prop := bd (gI h 1000 (x + 23)) 0 3649 ∧ bd (gI h 1001 (x + 23)) 0 12 ∧ bd (gI h 1002 (x + 23)) 0 30 ∧ bd (gI h 1003 (x + 23)) 0 30 ∧ bd (gI h 1004 (x + 23)) 0 40 ∧ bd (gI h 1006 (x + 23)) 0 60 ∧ bd (gI h 1067 (x + 23)) 0 10 ∧ bd (gI h 1077 (x + 23)) 0 700
/-- the five lists -/
def CPl (h : Hp) (x : Nat) : Prop := ALk h (x + 2) (nC h x) ∧ ALk h (x + 3) (nR h x) ∧ ALk h (x + 4) (nU h x) ∧ ALk h (x + 21) (nS h x) ∧ ALk h (x + 22) (nP h x)
/-- a corner against the model's row i -/
def CPc1 (h : Hp) (x i a : Nat) : Prop := kd h a = 2 ∧ gI h 100 a = nI i ∧ gI h 101 a = eI h (x + 23 + 1) i ∧ gI h 102 a = eI h (x + 23 + 2) i ∧ gI h 103 a = eI h (x + 23 + 3) i ∧ gI h 104 a = eI h (x + 23 + 4) i ∧ gI h 105 a = eI h (x + 23 + 5) i
/-- what the last storm left there -/
def CPc2 (h : Hp) (x i a : Nat) : Prop := gI h 106 a = (eJ h (x + 23 + 39) i).toInt32 ∧ gI h 107 a = (eJ h (x + 23 + 40) i).toInt32 ∧ gI h 108 a = eI h (x + 23 + 43) i
def CPc (h : Hp) (x : Nat) : Prop := ∀ i, i < nC h x → CPc1 h x i (el h (x + 2) i) ∧ CPc2 h x i (el h (x + 2) i)
/-- a corner's row is in bounds -/
def CPv1 (h : Hp) (x i : Nat) : Prop := bd (eI h (x + 23 + 1) i) 1 100 ∧ bd (eI h (x + 23 + 2) i) 1 500 ∧ bd (eI h (x + 23 + 3) i) 0 9 ∧ bd (eI h (x + 23 + 4) i) 0 500 ∧ (eI h (x + 23 + 5) i = -1 ∨ (i < (eI h (x + 23 + 5) i).toInt ∧ (eI h (x + 23 + 5) i).toInt < nC h x))
def CPv (h : Hp) (x : Nat) : Prop := ∀ i, i < nC h x → CPv1 h x i
/-- a bed against the model's row i -/
def CPb1 (h : Hp) (x i a b : Nat) : Prop := kd h b = 4 ∧ gR h 313 b = x ∧ gR h 300 b = a ∧ gI h 301 b = eI h (x + 23 + 9) i ∧ gI h 302 b = eI h (x + 23 + 10) i ∧ gI h 303 b = eI h (x + 23 + 11) i ∧ gI h 304 b = eI h (x + 23 + 7) i
/-- what changes of a bed by care and days -/
def CPb2 (h : Hp) (x i b : Nat) : Prop := gI h 305 b = eI h (x + 23 + 12) i ∧ gI h 306 b = eI h (x + 23 + 13) i ∧ gI h 307 b = eI h (x + 23 + 14) i ∧ gI h 308 b = eI h (x + 23 + 15) i ∧ gI h 309 b = eI h (x + 23 + 16) i ∧ gI h 310 b = eI h (x + 23 + 17) i ∧ gI h 312 b = eI h (x + 23 + 8) i
/-- who cared for it today -/
def CPb3 (h : Hp) (x i b : Nat) : Prop := ∀ y, y < 11 → (shr (gI h 311 b) (nI y) &&& 1 = 1 ↔ eI h (x + 23 + 18) (11 * i + y) = gI h 1000 (x + 23))
def CPb (h : Hp) (x : Nat) : Prop := ∀ i, i < nC h x → (eI h (x + 23 + 6) i = 0 ∧ gR h 109 (el h (x + 2) i) = 0) ∨ (eI h (x + 23 + 6) i = 1 ∧ CPb1 h x i (el h (x + 2) i) (gR h 109 (el h (x + 2) i)) ∧ CPb2 h x i (gR h 109 (el h (x + 2) i)) ∧ CPb3 h x i (gR h 109 (el h (x + 2) i)))
/-- a bed's row is in bounds; without a bed all is nought -/
def CPw1 (h : Hp) (x i : Nat) : Prop := bd (eI h (x + 23 + 9) i) 0 9 ∧ bd (eI h (x + 23 + 10) i) 0 500 ∧ bd (eI h (x + 23 + 11) i) 0 3649 ∧ bd (eI h (x + 23 + 7) i) 0 1 ∧ bd (eI h (x + 23 + 8) i) 0 1 ∧ bd (eI h (x + 23 + 12) i) 0 100 ∧ bd (eI h (x + 23 + 13) i) 0 10 ∧ bd (eI h (x + 23 + 14) i) 0 100 ∧ bd (eI h (x + 23 + 15) i) 0 500 ∧ bd (eI h (x + 23 + 16) i) (-2147483648) 2147483647 ∧ bd (eI h (x + 23 + 17) i) (-1) 3 ∧ ∀ y, y < 11 → (eI h (x + 23 + 18) (11 * i + y)).toInt ≤ (gI h 1000 (x + 23)).toInt
def CPw0 (h : Hp) (x i : Nat) : Prop := eI h (x + 23 + 12) i = 0 ∧ eI h (x + 23 + 13) i = 0 ∧ eI h (x + 23 + 14) i = 0 ∧ eI h (x + 23 + 15) i = 0 ∧ eI h (x + 23 + 16) i = 0
def CPx (h : Hp) (x : Nat) : Prop := ∀ i, i < 12 → CPw1 h x i ∧ (eI h (x + 23 + 6) i = 0 → CPw0 h x i) ∧ bd (eI h (x + 23 + 6) i) 0 1 ∧ (nC h x ≤ i → eI h (x + 23 + 6) i = 0)
/-- a roof against the model's row -/
def CPr1 (h : Hp) (x i a : Nat) : Prop := kd h a = 3 ∧ gI h 200 a = nI i ∧ gR h 204 a = el h (x + 2) (ix (eI h (x + 23 + 19) i)) ∧ gI h 201 a = eI h (x + 23 + 20) i ∧ gI h 202 a = eI h (x + 23 + 21) i ∧ gI h 203 a = eI h (x + 23 + 22) i ∧ gI h 205 a = eI h (x + 23 + 23) i ∧ gI h 206 a = eI h (x + 23 + 24) i
def CPr2 (h : Hp) (x i : Nat) : Prop := (bd (eI h (x + 23 + 19) i) 0 12 ∧ ix (eI h (x + 23 + 19) i) < nC h x) ∧ bd (eI h (x + 23 + 20) i) 0 19 ∧ bd (eI h (x + 23 + 21) i) 1 50 ∧ bd (eI h (x + 23 + 22) i) 0 200 ∧ bd (eI h (x + 23 + 23) i) 0 200 ∧ bd (eI h (x + 23 + 24) i) 0 1023
def CPr (h : Hp) (x : Nat) : Prop := ∀ i, i < nR h x → CPr1 h x i (el h (x + 3) i) ∧ CPr2 h x i
/-- the roofs of a corner, in order -/
def rfs (ra : Nat → Int32) (m i : Nat) : List Nat := (List.range m).filter (fun j => decide (ra j = nI i))
def CPq (h : Hp) (x : Nat) : Prop := ∀ i, i < nC h x → x + 82 ≤ gR h 110 (el h (x + 2) i) ∧ ALk h (gR h 110 (el h (x + 2) i)) (rfs (eI h (x + 23 + 19)) (nR h x) i).length ∧ (∀ j, j < (rfs (eI h (x + 23 + 19)) (nR h x) i).length → el h (gR h 110 (el h (x + 2) i)) j = el h (x + 3) ((rfs (eI h (x + 23 + 19)) (nR h x) i).getD j 0)) ∧ (∀ j, j < nC h x → i ≠ j → gR h 110 (el h (x + 2) i) ≠ gR h 110 (el h (x + 2) j)) ∧ ∀ r, r < nU h x → gR h 401 (el h (x + 4) r) ≠ gR h 110 (el h (x + 2) i)
/-- a storm that came -/
def CPs1 (h : Hp) (x i a : Nat) : Prop := kd h a = 8 ∧ gI h 700 a = eI h (x + 23 + 41) i ∧ gJ h 701 a = eJ h (x + 23 + 36) i ∧ gJ h 702 a = eJ h (x + 23 + 37) i ∧ gI h 703 a = eI h (x + 23 + 42) i ∧ (gI h 704 a).toInt64 = eJ h (x + 23 + 38) i
def CPs (h : Hp) (x : Nat) : Prop := ∀ i, i < nS h x → CPs1 h x i (el h (x + 21) i)
/-- a complaint -/
def CPp1 (h : Hp) (x i a : Nat) : Prop := kd h a = 9 ∧ gI h 801 a = nI i ∧ gR h 800 a = el h (x + 2) (ix (eI h (x + 23 + 44) i)) ∧ (bd (eI h (x + 23 + 44) i) 0 12 ∧ ix (eI h (x + 23 + 44) i) < nC h x) ∧ gI h 802 a = eI h (x + 23 + 45) i ∧ gI h 803 a = eI h (x + 23 + 46) i ∧ gI h 804 a = eI h (x + 23 + 47) i ∧ gI h 805 a = eI h (x + 23 + 48) i ∧ gI h 806 a = eI h (x + 23 + 49) i ∧ bd (eI h (x + 23 + 49) i) 0 1 ∧ bd (eI h (x + 23 + 47) i) 0 3649 ∧ (eI h (x + 23 + 47) i).toInt ≤ (gI h 1000 (x + 23)).toInt
def CPp (h : Hp) (x : Nat) : Prop := (∀ i, i < nP h x → CPp1 h x i (el h (x + 22) i)) ∧ ∀ i j, i < j → j < nP h x → eI h (x + 23 + 49) i = 1 → eI h (x + 23 + 49) j = 1 → eI h (x + 23 + 44) i = eI h (x + 23 + 44) j → eI h (x + 23 + 45) i = eI h (x + 23 + 45) j → 7 < (gI h 1000 (x + 23)).toInt - (eI h (x + 23 + 47) i).toInt
/-- arrays of numbers -/
def CPa (h : Hp) (x : Nat) : Prop := (∀ j, j < 10 → eI h (x + 1) j = eI h (x + 23 + 25) j ∧ bd (eI h (x + 23 + 25) j) 1 100) ∧ (∀ j, j < 10 → eI h (x + 10) j = eI h (x + 23 + 27) j) ∧ (∀ y j, y < 10 → j < 10 → eI h (x + 11) (10 * j + y) = eI h (x + 23 + 28) (10 * y + j) ∧ bd (eI h (x + 23 + 28) (10 * y + j)) 0 100000 ∧ (eI h (x + 23 + 28) (10 * y + j)).toInt ≤ 24 * (gI h 1000 (x + 23)).toInt) ∧ (∀ j, j < 30 → eI h (x + 12) j = eI h (x + 23 + 26) j ∧ bd (eI h (x + 23 + 26) j) 0 50) ∧ (∀ j, j < 700 → eI h (x + 9) j = eI h (x + 23 + 57) j) ∧ (∀ i, ix (gI h 1001 (x + 23)) ≤ i → i < 12 → eJ h (x + 23 + 39) i = 0 ∧ eJ h (x + 23 + 40) i = 0 ∧ eI h (x + 23 + 43) i = 0) ∧ ∀ i, ix (gI h 1002 (x + 23)) ≤ i → i < 30 → eI h (x + 23 + 23) i = 0 ∧ eI h (x + 23 + 24) i = 0
/-- what a set of statements makes of a number: k statements from place s on -/
def stp (so fi se th : Nat → Int32) (w : Int32) (s : Nat) (v : Int32) : Int32 :=
  let v := if so s = w then fi s else v
  let v := if (so s = 1 ∧ w = 2) ∨ (so s = 7 ∧ w = 8) ∨ (so s = 10 ∧ w = 11) then se s else v
  let v := if so s = 7 ∧ w = 9 then th s else v
  let v := if so s = 31 ∧ w = 13 + 2 * fi s then se s else v
  if so s = 31 ∧ w = 14 + 2 * fi s then th s else v
def pln (w : Int32) : Int32 := if w = 0 then 2 else if w = 1 then 250 else if w = 2 then 320 else if w = 3 then 3 else if w = 4 then 20 else if w = 5 then 30 else if w = 6 then 3 else if w = 7 then 5 else if w = 8 then 2 else if w = 9 then 10 else if w = 10 then 50 else if w = 11 then 1 else if w = 12 then 10 else if w = 13 then 80 else if w = 14 then 100 else if w = 15 then 50 else if w = 16 then 80 else if w = 17 then 20 else if w = 18 then 50 else if w = 19 then 0 else 20
def lwS (so fi se th : Nat → Int32) (w : Int32) (s : Nat) : Nat → Int32
  | 0 => pln w
  | k + 1 => stp so fi se th w (s + k) (lwS so fi se th w s k)
/-- a number of the r-th rules -/
def lwR (sn so fi se th : Nat → Int32) (w : Int32) (r : Nat) : Int32 := lwS so fi se th w (24 * r) (ix (sn r))
/-- which statements are turns -/
def trs (sn so : Nat → Int32) (r : Nat) : List Nat := ((List.range (ix (sn r))).filter (fun k => decide (so (24 * r + k) = 30))).map (fun k => 24 * r + k)
def CPt1 (h : Hp) (x s a : Nat) : Prop := kd h a = 7 ∧ gI h 600 a = eI h (x + 23 + 53) s ∧ gI h 601 a = eI h (x + 23 + 54) s ∧ gI h 602 a = eI h (x + 23 + 55) s ∧ gI h 603 a = eI h (x + 23 + 56) s ∧ bd (eI h (x + 23 + 53) s) 0 9999 ∧ bd (eI h (x + 23 + 54) s) 0 9999 ∧ bd (eI h (x + 23 + 55) s) 1 9999 ∧ bd (eI h (x + 23 + 56) s) 0 9999
/-- a rules object: its numbers by f, its turns by l -/
def CPu1 (h : Hp) (a : Nat) (f : Int32 → Int32) : Prop := kd h a = 5 ∧ gI h 402 a = f 0 ∧ gI h 403 a = f 1 ∧ gI h 404 a = f 2 ∧ gI h 405 a = f 3 ∧ gI h 406 a = f 4 ∧ gI h 407 a = f 5 ∧ gI h 408 a = f 6 ∧ gI h 409 a = f 7 ∧ gI h 410 a = f 8 ∧ gI h 411 a = f 9 ∧ gI h 412 a = f 10 ∧ gI h 413 a = f 11 ∧ gI h 414 a = f 12 ∧
  (kd h (gR h 416 a) = 61 ∧ ln h (gR h 416 a) = 4 ∧ kd h (gR h 417 a) = 61 ∧ ln h (gR h 417 a) = 4) ∧ ∀ g, g < 4 → eI h (gR h 416 a) g = f (13 + 2 * nI g) ∧ eI h (gR h 417 a) g = f (14 + 2 * nI g)
def CPu2 (h : Hp) (x a : Nat) (l : List Nat) : Prop := ALk h (gR h 401 a) l.length ∧ ∀ j, j < l.length → CPt1 h x (l.getD j 0) (el h (gR h 401 a) j)
def CPu (h : Hp) (x : Nat) : Prop := (CPu1 h (x + 5) pln ∧ CPu2 h x (x + 5) [] ∧ gR h 401 (x + 5) = x + 6 ∧ gR h 416 (x + 5) = x + 7 ∧ gR h 417 (x + 5) = x + 8) ∧ ∀ r, r < nU h x → CPu1 h (el h (x + 4) r) (fun w => lwR (eI h (x + 23 + 50)) (eI h (x + 23 + 52)) (eI h (x + 23 + 53)) (eI h (x + 23 + 54)) (eI h (x + 23 + 55)) w r) ∧ CPu2 h x (el h (x + 4) r) (trs (eI h (x + 23 + 50)) (eI h (x + 23 + 52)) r) ∧ gI h 400 (el h (x + 4) r) = eI h (x + 23 + 51) r ∧ bd (eI h (x + 23 + 50) r) 0 24 ∧ (∀ w : Int32, bd (lwR (eI h (x + 23 + 50)) (eI h (x + 23 + 52)) (eI h (x + 23 + 53)) (eI h (x + 23 + 54)) (eI h (x + 23 + 55)) w r) 0 9999) ∧ (x + 82 ≤ gR h 416 (el h (x + 4) r) ∧ x + 82 ≤ gR h 417 (el h (x + 4) r) ∧ x + 82 ≤ gR h 401 (el h (x + 4) r))
def CP (h : Hp) (x : Nat) : Prop := CPw h x ∧ CPn h x ∧ CPo h x ∧ CPl h x ∧ CPc h x ∧ CPv h x ∧ CPb h x ∧ CPx h x ∧ CPr h x ∧ CPq h x ∧ CPs h x ∧ CPp h x ∧ CPa h x ∧ CPu h x
