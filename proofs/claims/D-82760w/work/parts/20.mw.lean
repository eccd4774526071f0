/-! the reference: one object, its arrays behind it -/
set_option maxRecDepth 100000
def mdT : List (Nat × Nat × Nat × Nat) := [(1007, 1, 61, 12), (1008, 2, 61, 12), (1009, 3, 61, 12), (1010, 4, 61, 12), (1011, 5, 61, 12), (1012, 6, 64, 12), (1013, 7, 64, 12), (1014, 8, 64, 12), (1015, 9, 61, 12), (1016, 10, 61, 12), (1017, 11, 61, 12), (1018, 12, 61, 12), (1019, 13, 61, 12), (1020, 14, 61, 12), (1021, 15, 61, 12), (1022, 16, 61, 12), (1023, 17, 61, 12), (1024, 18, 61, 132), (1025, 19, 61, 30), (1026, 20, 61, 30), (1027, 21, 61, 30), (1028, 22, 61, 30), (1029, 23, 61, 30), (1030, 24, 61, 30), (1031, 25, 61, 10), (1032, 26, 61, 30), (1033, 27, 61, 10), (1034, 28, 61, 100), (1040, 29, 61, 30), (1041, 30, 61, 12), (1042, 31, 62, 12), (1043, 32, 62, 12), (1044, 33, 62, 12), (1045, 34, 62, 12), (1046, 35, 61, 12), (1053, 36, 62, 40), (1054, 37, 62, 40), (1055, 38, 62, 40), (1056, 39, 62, 12), (1057, 40, 62, 12), (1058, 41, 61, 40), (1059, 42, 61, 40), (1060, 43, 61, 12), (1061, 44, 61, 60), (1062, 45, 61, 60), (1063, 46, 61, 60), (1064, 47, 61, 60), (1065, 48, 61, 60), (1066, 49, 64, 60), (1068, 50, 61, 11), (1069, 51, 61, 11), (1070, 52, 61, 264), (1071, 53, 61, 264), (1072, 54, 61, 264), (1073, 55, 61, 264), (1074, 56, 61, 264), (1075, 57, 63, 700), (1076, 58, 63, 700)]
def MW (h : Hp) (mo : Nat) : Prop := kd h mo = 11 ∧ ∀ q ∈ mdT, gR h q.1 mo = mo + q.2.1 ∧ kd h (mo + q.2.1) = q.2.2.1 ∧ ln h (mo + q.2.1) = q.2.2.2
theorem mw_k {h : Hp} {mo : Nat} (hm : MW h mo) : kd h mo = 11 := hm.1
theorem mw_nz {h : Hp} {mo : Nat} (hm : MW h mo) : kd h mo ≠ 0 := by rw [hm.1]; decide
theorem mw_area {h : Hp} {mo : Nat} (hm : MW h mo) : gR h 1007 mo = mo + 1 ∧ kd h (mo + 1) = 61 ∧ ln h (mo + 1) = 12 := hm.2 (1007, 1, 61, 12) (List.mem_of_getElem? (i := 0) rfl)
theorem mwr_area {h : Hp} {mo : Nat} (hm : MW h mo) : gR h 1007 mo = mo + 1 := (mw_area hm).1
theorem mwk_area {h : Hp} {mo : Nat} (hm : MW h mo) : kd h (mo + 1) = 61 := (mw_area hm).2.1
theorem mwl_area {h : Hp} {mo : Nat} (hm : MW h mo) : ln h (mo + 1) = 12 := (mw_area hm).2.2
theorem mw_pipe {h : Hp} {mo : Nat} (hm : MW h mo) : gR h 1008 mo = mo + 2 ∧ kd h (mo + 2) = 61 ∧ ln h (mo + 2) = 12 := hm.2 (1008, 2, 61, 12) (List.mem_of_getElem? (i := 1) rfl)
theorem mwr_pipe {h : Hp} {mo : Nat} (hm : MW h mo) : gR h 1008 mo = mo + 2 := (mw_pipe hm).1
theorem mwk_pipe {h : Hp} {mo : Nat} (hm : MW h mo) : kd h (mo + 2) = 61 := (mw_pipe hm).2.1
theorem mwl_pipe {h : Hp} {mo : Nat} (hm : MW h mo) : ln h (mo + 2) = 12 := (mw_pipe hm).2.2
theorem mw_parking {h : Hp} {mo : Nat} (hm : MW h mo) : gR h 1009 mo = mo + 3 ∧ kd h (mo + 3) = 61 ∧ ln h (mo + 3) = 12 := hm.2 (1009, 3, 61, 12) (List.mem_of_getElem? (i := 2) rfl)
theorem mwr_parking {h : Hp} {mo : Nat} (hm : MW h mo) : gR h 1009 mo = mo + 3 := (mw_parking hm).1
theorem mwk_parking {h : Hp} {mo : Nat} (hm : MW h mo) : kd h (mo + 3) = 61 := (mw_parking hm).2.1
theorem mwl_parking {h : Hp} {mo : Nat} (hm : MW h mo) : ln h (mo + 3) = 12 := (mw_parking hm).2.2
theorem mw_cellar {h : Hp} {mo : Nat} (hm : MW h mo) : gR h 1010 mo = mo + 4 ∧ kd h (mo + 4) = 61 ∧ ln h (mo + 4) = 12 := hm.2 (1010, 4, 61, 12) (List.mem_of_getElem? (i := 3) rfl)
theorem mwr_cellar {h : Hp} {mo : Nat} (hm : MW h mo) : gR h 1010 mo = mo + 4 := (mw_cellar hm).1
theorem mwk_cellar {h : Hp} {mo : Nat} (hm : MW h mo) : kd h (mo + 4) = 61 := (mw_cellar hm).2.1
theorem mwl_cellar {h : Hp} {mo : Nat} (hm : MW h mo) : ln h (mo + 4) = 12 := (mw_cellar hm).2.2
theorem mw_below {h : Hp} {mo : Nat} (hm : MW h mo) : gR h 1011 mo = mo + 5 ∧ kd h (mo + 5) = 61 ∧ ln h (mo + 5) = 12 := hm.2 (1011, 5, 61, 12) (List.mem_of_getElem? (i := 4) rfl)
theorem mwr_below {h : Hp} {mo : Nat} (hm : MW h mo) : gR h 1011 mo = mo + 5 := (mw_below hm).1
theorem mwk_below {h : Hp} {mo : Nat} (hm : MW h mo) : kd h (mo + 5) = 61 := (mw_below hm).2.1
theorem mwl_below {h : Hp} {mo : Nat} (hm : MW h mo) : ln h (mo + 5) = 12 := (mw_below hm).2.2
theorem mw_hasBed {h : Hp} {mo : Nat} (hm : MW h mo) : gR h 1012 mo = mo + 6 ∧ kd h (mo + 6) = 64 ∧ ln h (mo + 6) = 12 := hm.2 (1012, 6, 64, 12) (List.mem_of_getElem? (i := 5) rfl)
theorem mwr_hasBed {h : Hp} {mo : Nat} (hm : MW h mo) : gR h 1012 mo = mo + 6 := (mw_hasBed hm).1
theorem mwk_hasBed {h : Hp} {mo : Nat} (hm : MW h mo) : kd h (mo + 6) = 64 := (mw_hasBed hm).2.1
theorem mwl_hasBed {h : Hp} {mo : Nat} (hm : MW h mo) : ln h (mo + 6) = 12 := (mw_hasBed hm).2.2
theorem mw_hasTree {h : Hp} {mo : Nat} (hm : MW h mo) : gR h 1013 mo = mo + 7 ∧ kd h (mo + 7) = 64 ∧ ln h (mo + 7) = 12 := hm.2 (1013, 7, 64, 12) (List.mem_of_getElem? (i := 6) rfl)
theorem mwr_hasTree {h : Hp} {mo : Nat} (hm : MW h mo) : gR h 1013 mo = mo + 7 := (mw_hasTree hm).1
theorem mwk_hasTree {h : Hp} {mo : Nat} (hm : MW h mo) : kd h (mo + 7) = 64 := (mw_hasTree hm).2.1
theorem mwl_hasTree {h : Hp} {mo : Nat} (hm : MW h mo) : ln h (mo + 7) = 12 := (mw_hasTree hm).2.2
theorem mw_hasPlants {h : Hp} {mo : Nat} (hm : MW h mo) : gR h 1014 mo = mo + 8 ∧ kd h (mo + 8) = 64 ∧ ln h (mo + 8) = 12 := hm.2 (1014, 8, 64, 12) (List.mem_of_getElem? (i := 7) rfl)
theorem mwr_hasPlants {h : Hp} {mo : Nat} (hm : MW h mo) : gR h 1014 mo = mo + 8 := (mw_hasPlants hm).1
theorem mwk_hasPlants {h : Hp} {mo : Nat} (hm : MW h mo) : kd h (mo + 8) = 64 := (mw_hasPlants hm).2.1
theorem mwl_hasPlants {h : Hp} {mo : Nat} (hm : MW h mo) : ln h (mo + 8) = 12 := (mw_hasPlants hm).2.2
theorem mw_lot {h : Hp} {mo : Nat} (hm : MW h mo) : gR h 1015 mo = mo + 9 ∧ kd h (mo + 9) = 61 ∧ ln h (mo + 9) = 12 := hm.2 (1015, 9, 61, 12) (List.mem_of_getElem? (i := 8) rfl)
theorem mwr_lot {h : Hp} {mo : Nat} (hm : MW h mo) : gR h 1015 mo = mo + 9 := (mw_lot hm).1
theorem mwk_lot {h : Hp} {mo : Nat} (hm : MW h mo) : kd h (mo + 9) = 61 := (mw_lot hm).2.1
theorem mwl_lot {h : Hp} {mo : Nat} (hm : MW h mo) : ln h (mo + 9) = 12 := (mw_lot hm).2.2
theorem mw_bowl {h : Hp} {mo : Nat} (hm : MW h mo) : gR h 1016 mo = mo + 10 ∧ kd h (mo + 10) = 61 ∧ ln h (mo + 10) = 12 := hm.2 (1016, 10, 61, 12) (List.mem_of_getElem? (i := 9) rfl)
theorem mwr_bowl {h : Hp} {mo : Nat} (hm : MW h mo) : gR h 1016 mo = mo + 10 := (mw_bowl hm).1
theorem mwk_bowl {h : Hp} {mo : Nat} (hm : MW h mo) : kd h (mo + 10) = 61 := (mw_bowl hm).2.1
theorem mwl_bowl {h : Hp} {mo : Nat} (hm : MW h mo) : ln h (mo + 10) = 12 := (mw_bowl hm).2.2
theorem mw_made {h : Hp} {mo : Nat} (hm : MW h mo) : gR h 1017 mo = mo + 11 ∧ kd h (mo + 11) = 61 ∧ ln h (mo + 11) = 12 := hm.2 (1017, 11, 61, 12) (List.mem_of_getElem? (i := 10) rfl)
theorem mwr_made {h : Hp} {mo : Nat} (hm : MW h mo) : gR h 1017 mo = mo + 11 := (mw_made hm).1
theorem mwk_made {h : Hp} {mo : Nat} (hm : MW h mo) : kd h (mo + 11) = 61 := (mw_made hm).2.1
theorem mwl_made {h : Hp} {mo : Nat} (hm : MW h mo) : ln h (mo + 11) = 12 := (mw_made hm).2.2
theorem mw_clog {h : Hp} {mo : Nat} (hm : MW h mo) : gR h 1018 mo = mo + 12 ∧ kd h (mo + 12) = 61 ∧ ln h (mo + 12) = 12 := hm.2 (1018, 12, 61, 12) (List.mem_of_getElem? (i := 11) rfl)
theorem mwr_clog {h : Hp} {mo : Nat} (hm : MW h mo) : gR h 1018 mo = mo + 12 := (mw_clog hm).1
theorem mwk_clog {h : Hp} {mo : Nat} (hm : MW h mo) : kd h (mo + 12) = 61 := (mw_clog hm).2.1
theorem mwl_clog {h : Hp} {mo : Nat} (hm : MW h mo) : ln h (mo + 12) = 12 := (mw_clog hm).2.2
theorem mw_leaves {h : Hp} {mo : Nat} (hm : MW h mo) : gR h 1019 mo = mo + 13 ∧ kd h (mo + 13) = 61 ∧ ln h (mo + 13) = 12 := hm.2 (1019, 13, 61, 12) (List.mem_of_getElem? (i := 12) rfl)
theorem mwr_leaves {h : Hp} {mo : Nat} (hm : MW h mo) : gR h 1019 mo = mo + 13 := (mw_leaves hm).1
theorem mwk_leaves {h : Hp} {mo : Nat} (hm : MW h mo) : kd h (mo + 13) = 61 := (mw_leaves hm).2.1
theorem mwl_leaves {h : Hp} {mo : Nat} (hm : MW h mo) : ln h (mo + 13) = 12 := (mw_leaves hm).2.2
theorem mw_salt {h : Hp} {mo : Nat} (hm : MW h mo) : gR h 1020 mo = mo + 14 ∧ kd h (mo + 14) = 61 ∧ ln h (mo + 14) = 12 := hm.2 (1020, 14, 61, 12) (List.mem_of_getElem? (i := 13) rfl)
theorem mwr_salt {h : Hp} {mo : Nat} (hm : MW h mo) : gR h 1020 mo = mo + 14 := (mw_salt hm).1
theorem mwk_salt {h : Hp} {mo : Nat} (hm : MW h mo) : kd h (mo + 14) = 61 := (mw_salt hm).2.1
theorem mwl_salt {h : Hp} {mo : Nat} (hm : MW h mo) : ln h (mo + 14) = 12 := (mw_salt hm).2.2
theorem mw_holds {h : Hp} {mo : Nat} (hm : MW h mo) : gR h 1021 mo = mo + 15 ∧ kd h (mo + 15) = 61 ∧ ln h (mo + 15) = 12 := hm.2 (1021, 15, 61, 12) (List.mem_of_getElem? (i := 14) rfl)
theorem mwr_holds {h : Hp} {mo : Nat} (hm : MW h mo) : gR h 1021 mo = mo + 15 := (mw_holds hm).1
theorem mwk_holds {h : Hp} {mo : Nat} (hm : MW h mo) : kd h (mo + 15) = 61 := (mw_holds hm).2.1
theorem mwl_holds {h : Hp} {mo : Nat} (hm : MW h mo) : ln h (mo + 15) = 12 := (mw_holds hm).2.2
theorem mw_stands {h : Hp} {mo : Nat} (hm : MW h mo) : gR h 1022 mo = mo + 16 ∧ kd h (mo + 16) = 61 ∧ ln h (mo + 16) = 12 := hm.2 (1022, 16, 61, 12) (List.mem_of_getElem? (i := 15) rfl)
theorem mwr_stands {h : Hp} {mo : Nat} (hm : MW h mo) : gR h 1022 mo = mo + 16 := (mw_stands hm).1
theorem mwk_stands {h : Hp} {mo : Nat} (hm : MW h mo) : kd h (mo + 16) = 61 := (mw_stands hm).2.1
theorem mwl_stands {h : Hp} {mo : Nat} (hm : MW h mo) : ln h (mo + 16) = 12 := (mw_stands hm).2.2
theorem mw_looked {h : Hp} {mo : Nat} (hm : MW h mo) : gR h 1023 mo = mo + 17 ∧ kd h (mo + 17) = 61 ∧ ln h (mo + 17) = 12 := hm.2 (1023, 17, 61, 12) (List.mem_of_getElem? (i := 16) rfl)
theorem mwr_looked {h : Hp} {mo : Nat} (hm : MW h mo) : gR h 1023 mo = mo + 17 := (mw_looked hm).1
theorem mwk_looked {h : Hp} {mo : Nat} (hm : MW h mo) : kd h (mo + 17) = 61 := (mw_looked hm).2.1
theorem mwl_looked {h : Hp} {mo : Nat} (hm : MW h mo) : ln h (mo + 17) = 12 := (mw_looked hm).2.2
theorem mw_caredOn {h : Hp} {mo : Nat} (hm : MW h mo) : gR h 1024 mo = mo + 18 ∧ kd h (mo + 18) = 61 ∧ ln h (mo + 18) = 132 := hm.2 (1024, 18, 61, 132) (List.mem_of_getElem? (i := 17) rfl)
theorem mwr_caredOn {h : Hp} {mo : Nat} (hm : MW h mo) : gR h 1024 mo = mo + 18 := (mw_caredOn hm).1
theorem mwk_caredOn {h : Hp} {mo : Nat} (hm : MW h mo) : kd h (mo + 18) = 61 := (mw_caredOn hm).2.1
theorem mwl_caredOn {h : Hp} {mo : Nat} (hm : MW h mo) : ln h (mo + 18) = 132 := (mw_caredOn hm).2.2
theorem mw_roofAt {h : Hp} {mo : Nat} (hm : MW h mo) : gR h 1025 mo = mo + 19 ∧ kd h (mo + 19) = 61 ∧ ln h (mo + 19) = 30 := hm.2 (1025, 19, 61, 30) (List.mem_of_getElem? (i := 18) rfl)
theorem mwr_roofAt {h : Hp} {mo : Nat} (hm : MW h mo) : gR h 1025 mo = mo + 19 := (mw_roofAt hm).1
theorem mwk_roofAt {h : Hp} {mo : Nat} (hm : MW h mo) : kd h (mo + 19) = 61 := (mw_roofAt hm).2.1
theorem mwl_roofAt {h : Hp} {mo : Nat} (hm : MW h mo) : ln h (mo + 19) = 30 := (mw_roofAt hm).2.2
theorem mw_owner {h : Hp} {mo : Nat} (hm : MW h mo) : gR h 1026 mo = mo + 20 ∧ kd h (mo + 20) = 61 ∧ ln h (mo + 20) = 30 := hm.2 (1026, 20, 61, 30) (List.mem_of_getElem? (i := 19) rfl)
theorem mwr_owner {h : Hp} {mo : Nat} (hm : MW h mo) : gR h 1026 mo = mo + 20 := (mw_owner hm).1
theorem mwk_owner {h : Hp} {mo : Nat} (hm : MW h mo) : kd h (mo + 20) = 61 := (mw_owner hm).2.1
theorem mwl_owner {h : Hp} {mo : Nat} (hm : MW h mo) : ln h (mo + 20) = 30 := (mw_owner hm).2.2
theorem mw_roofArea {h : Hp} {mo : Nat} (hm : MW h mo) : gR h 1027 mo = mo + 21 ∧ kd h (mo + 21) = 61 ∧ ln h (mo + 21) = 30 := hm.2 (1027, 21, 61, 30) (List.mem_of_getElem? (i := 20) rfl)
theorem mwr_roofArea {h : Hp} {mo : Nat} (hm : MW h mo) : gR h 1027 mo = mo + 21 := (mw_roofArea hm).1
theorem mwk_roofArea {h : Hp} {mo : Nat} (hm : MW h mo) : kd h (mo + 21) = 61 := (mw_roofArea hm).2.1
theorem mwl_roofArea {h : Hp} {mo : Nat} (hm : MW h mo) : ln h (mo + 21) = 30 := (mw_roofArea hm).2.2
theorem mw_barrel {h : Hp} {mo : Nat} (hm : MW h mo) : gR h 1028 mo = mo + 22 ∧ kd h (mo + 22) = 61 ∧ ln h (mo + 22) = 30 := hm.2 (1028, 22, 61, 30) (List.mem_of_getElem? (i := 21) rfl)
theorem mwr_barrel {h : Hp} {mo : Nat} (hm : MW h mo) : gR h 1028 mo = mo + 22 := (mw_barrel hm).1
theorem mwk_barrel {h : Hp} {mo : Nat} (hm : MW h mo) : kd h (mo + 22) = 61 := (mw_barrel hm).2.1
theorem mwl_barrel {h : Hp} {mo : Nat} (hm : MW h mo) : ln h (mo + 22) = 30 := (mw_barrel hm).2.2
theorem mw_has {h : Hp} {mo : Nat} (hm : MW h mo) : gR h 1029 mo = mo + 23 ∧ kd h (mo + 23) = 61 ∧ ln h (mo + 23) = 30 := hm.2 (1029, 23, 61, 30) (List.mem_of_getElem? (i := 22) rfl)
theorem mwr_has {h : Hp} {mo : Nat} (hm : MW h mo) : gR h 1029 mo = mo + 23 := (mw_has hm).1
theorem mwk_has {h : Hp} {mo : Nat} (hm : MW h mo) : kd h (mo + 23) = 61 := (mw_has hm).2.1
theorem mwl_has {h : Hp} {mo : Nat} (hm : MW h mo) : ln h (mo + 23) = 30 := (mw_has hm).2.2
theorem mw_proved {h : Hp} {mo : Nat} (hm : MW h mo) : gR h 1030 mo = mo + 24 ∧ kd h (mo + 24) = 61 ∧ ln h (mo + 24) = 30 := hm.2 (1030, 24, 61, 30) (List.mem_of_getElem? (i := 23) rfl)
theorem mwr_proved {h : Hp} {mo : Nat} (hm : MW h mo) : gR h 1030 mo = mo + 24 := (mw_proved hm).1
theorem mwk_proved {h : Hp} {mo : Nat} (hm : MW h mo) : kd h (mo + 24) = 61 := (mw_proved hm).2.1
theorem mwl_proved {h : Hp} {mo : Nat} (hm : MW h mo) : ln h (mo + 24) = 30 := (mw_proved hm).2.2
theorem mw_drinks {h : Hp} {mo : Nat} (hm : MW h mo) : gR h 1031 mo = mo + 25 ∧ kd h (mo + 25) = 61 ∧ ln h (mo + 25) = 10 := hm.2 (1031, 25, 61, 10) (List.mem_of_getElem? (i := 24) rfl)
theorem mwr_drinks {h : Hp} {mo : Nat} (hm : MW h mo) : gR h 1031 mo = mo + 25 := (mw_drinks hm).1
theorem mwk_drinks {h : Hp} {mo : Nat} (hm : MW h mo) : kd h (mo + 25) = 61 := (mw_drinks hm).2.1
theorem mwl_drinks {h : Hp} {mo : Nat} (hm : MW h mo) : ln h (mo + 25) = 10 := (mw_drinks hm).2.2
theorem mw_rain {h : Hp} {mo : Nat} (hm : MW h mo) : gR h 1032 mo = mo + 26 ∧ kd h (mo + 26) = 61 ∧ ln h (mo + 26) = 30 := hm.2 (1032, 26, 61, 30) (List.mem_of_getElem? (i := 25) rfl)
theorem mwr_rain {h : Hp} {mo : Nat} (hm : MW h mo) : gR h 1032 mo = mo + 26 := (mw_rain hm).1
theorem mwk_rain {h : Hp} {mo : Nat} (hm : MW h mo) : kd h (mo + 26) = 61 := (mw_rain hm).2.1
theorem mwl_rain {h : Hp} {mo : Nat} (hm : MW h mo) : ln h (mo + 26) = 30 := (mw_rain hm).2.2
theorem mw_owes {h : Hp} {mo : Nat} (hm : MW h mo) : gR h 1033 mo = mo + 27 ∧ kd h (mo + 27) = 61 ∧ ln h (mo + 27) = 10 := hm.2 (1033, 27, 61, 10) (List.mem_of_getElem? (i := 26) rfl)
theorem mwr_owes {h : Hp} {mo : Nat} (hm : MW h mo) : gR h 1033 mo = mo + 27 := (mw_owes hm).1
theorem mwk_owes {h : Hp} {mo : Nat} (hm : MW h mo) : kd h (mo + 27) = 61 := (mw_owes hm).2.1
theorem mwl_owes {h : Hp} {mo : Nat} (hm : MW h mo) : ln h (mo + 27) = 10 := (mw_owes hm).2.2
theorem mw_kept {h : Hp} {mo : Nat} (hm : MW h mo) : gR h 1034 mo = mo + 28 ∧ kd h (mo + 28) = 61 ∧ ln h (mo + 28) = 100 := hm.2 (1034, 28, 61, 100) (List.mem_of_getElem? (i := 27) rfl)
theorem mwr_kept {h : Hp} {mo : Nat} (hm : MW h mo) : gR h 1034 mo = mo + 28 := (mw_kept hm).1
theorem mwk_kept {h : Hp} {mo : Nat} (hm : MW h mo) : kd h (mo + 28) = 61 := (mw_kept hm).2.1
theorem mwl_kept {h : Hp} {mo : Nat} (hm : MW h mo) : ln h (mo + 28) = 100 := (mw_kept hm).2.2
theorem mw_barrelNow {h : Hp} {mo : Nat} (hm : MW h mo) : gR h 1040 mo = mo + 29 ∧ kd h (mo + 29) = 61 ∧ ln h (mo + 29) = 30 := hm.2 (1040, 29, 61, 30) (List.mem_of_getElem? (i := 28) rfl)
theorem mwr_barrelNow {h : Hp} {mo : Nat} (hm : MW h mo) : gR h 1040 mo = mo + 29 := (mw_barrelNow hm).1
theorem mwk_barrelNow {h : Hp} {mo : Nat} (hm : MW h mo) : kd h (mo + 29) = 61 := (mw_barrelNow hm).2.1
theorem mwl_barrelNow {h : Hp} {mo : Nat} (hm : MW h mo) : ln h (mo + 29) = 30 := (mw_barrelNow hm).2.2
theorem mw_bowlNow {h : Hp} {mo : Nat} (hm : MW h mo) : gR h 1041 mo = mo + 30 ∧ kd h (mo + 30) = 61 ∧ ln h (mo + 30) = 12 := hm.2 (1041, 30, 61, 12) (List.mem_of_getElem? (i := 29) rfl)
theorem mwr_bowlNow {h : Hp} {mo : Nat} (hm : MW h mo) : gR h 1041 mo = mo + 30 := (mw_bowlNow hm).1
theorem mwk_bowlNow {h : Hp} {mo : Nat} (hm : MW h mo) : kd h (mo + 30) = 61 := (mw_bowlNow hm).2.1
theorem mwl_bowlNow {h : Hp} {mo : Nat} (hm : MW h mo) : ln h (mo + 30) = 12 := (mw_bowlNow hm).2.2
theorem mw_street {h : Hp} {mo : Nat} (hm : MW h mo) : gR h 1042 mo = mo + 31 ∧ kd h (mo + 31) = 62 ∧ ln h (mo + 31) = 12 := hm.2 (1042, 31, 62, 12) (List.mem_of_getElem? (i := 30) rfl)
theorem mwr_street {h : Hp} {mo : Nat} (hm : MW h mo) : gR h 1042 mo = mo + 31 := (mw_street hm).1
theorem mwk_street {h : Hp} {mo : Nat} (hm : MW h mo) : kd h (mo + 31) = 62 := (mw_street hm).2.1
theorem mwl_street {h : Hp} {mo : Nat} (hm : MW h mo) : ln h (mo + 31) = 12 := (mw_street hm).2.2
theorem mw_inPipe {h : Hp} {mo : Nat} (hm : MW h mo) : gR h 1043 mo = mo + 32 ∧ kd h (mo + 32) = 62 ∧ ln h (mo + 32) = 12 := hm.2 (1043, 32, 62, 12) (List.mem_of_getElem? (i := 31) rfl)
theorem mwr_inPipe {h : Hp} {mo : Nat} (hm : MW h mo) : gR h 1043 mo = mo + 32 := (mw_inPipe hm).1
theorem mwk_inPipe {h : Hp} {mo : Nat} (hm : MW h mo) : kd h (mo + 32) = 62 := (mw_inPipe hm).2.1
theorem mwl_inPipe {h : Hp} {mo : Nat} (hm : MW h mo) : ln h (mo + 32) = 12 := (mw_inPipe hm).2.2
theorem mw_spiltAt {h : Hp} {mo : Nat} (hm : MW h mo) : gR h 1044 mo = mo + 33 ∧ kd h (mo + 33) = 62 ∧ ln h (mo + 33) = 12 := hm.2 (1044, 33, 62, 12) (List.mem_of_getElem? (i := 32) rfl)
theorem mwr_spiltAt {h : Hp} {mo : Nat} (hm : MW h mo) : gR h 1044 mo = mo + 33 := (mw_spiltAt hm).1
theorem mwk_spiltAt {h : Hp} {mo : Nat} (hm : MW h mo) : kd h (mo + 33) = 62 := (mw_spiltAt hm).2.1
theorem mwl_spiltAt {h : Hp} {mo : Nat} (hm : MW h mo) : ln h (mo + 33) = 12 := (mw_spiltAt hm).2.2
theorem mw_mostAt {h : Hp} {mo : Nat} (hm : MW h mo) : gR h 1045 mo = mo + 34 ∧ kd h (mo + 34) = 62 ∧ ln h (mo + 34) = 12 := hm.2 (1045, 34, 62, 12) (List.mem_of_getElem? (i := 33) rfl)
theorem mwr_mostAt {h : Hp} {mo : Nat} (hm : MW h mo) : gR h 1045 mo = mo + 34 := (mw_mostAt hm).1
theorem mwk_mostAt {h : Hp} {mo : Nat} (hm : MW h mo) : kd h (mo + 34) = 62 := (mw_mostAt hm).2.1
theorem mwl_mostAt {h : Hp} {mo : Nat} (hm : MW h mo) : ln h (mo + 34) = 12 := (mw_mostAt hm).2.2
theorem mw_wetAt {h : Hp} {mo : Nat} (hm : MW h mo) : gR h 1046 mo = mo + 35 ∧ kd h (mo + 35) = 61 ∧ ln h (mo + 35) = 12 := hm.2 (1046, 35, 61, 12) (List.mem_of_getElem? (i := 34) rfl)
theorem mwr_wetAt {h : Hp} {mo : Nat} (hm : MW h mo) : gR h 1046 mo = mo + 35 := (mw_wetAt hm).1
theorem mwk_wetAt {h : Hp} {mo : Nat} (hm : MW h mo) : kd h (mo + 35) = 61 := (mw_wetAt hm).2.1
theorem mwl_wetAt {h : Hp} {mo : Nat} (hm : MW h mo) : ln h (mo + 35) = 12 := (mw_wetAt hm).2.2
theorem mw_stormRain {h : Hp} {mo : Nat} (hm : MW h mo) : gR h 1053 mo = mo + 36 ∧ kd h (mo + 36) = 62 ∧ ln h (mo + 36) = 40 := hm.2 (1053, 36, 62, 40) (List.mem_of_getElem? (i := 35) rfl)
theorem mwr_stormRain {h : Hp} {mo : Nat} (hm : MW h mo) : gR h 1053 mo = mo + 36 := (mw_stormRain hm).1
theorem mwk_stormRain {h : Hp} {mo : Nat} (hm : MW h mo) : kd h (mo + 36) = 62 := (mw_stormRain hm).2.1
theorem mwl_stormRain {h : Hp} {mo : Nat} (hm : MW h mo) : ln h (mo + 36) = 40 := (mw_stormRain hm).2.2
theorem mw_stormSpilt {h : Hp} {mo : Nat} (hm : MW h mo) : gR h 1054 mo = mo + 37 ∧ kd h (mo + 37) = 62 ∧ ln h (mo + 37) = 40 := hm.2 (1054, 37, 62, 40) (List.mem_of_getElem? (i := 36) rfl)
theorem mwr_stormSpilt {h : Hp} {mo : Nat} (hm : MW h mo) : gR h 1054 mo = mo + 37 := (mw_stormSpilt hm).1
theorem mwk_stormSpilt {h : Hp} {mo : Nat} (hm : MW h mo) : kd h (mo + 37) = 62 := (mw_stormSpilt hm).2.1
theorem mwl_stormSpilt {h : Hp} {mo : Nat} (hm : MW h mo) : ln h (mo + 37) = 40 := (mw_stormSpilt hm).2.2
theorem mw_stormMost {h : Hp} {mo : Nat} (hm : MW h mo) : gR h 1055 mo = mo + 38 ∧ kd h (mo + 38) = 62 ∧ ln h (mo + 38) = 40 := hm.2 (1055, 38, 62, 40) (List.mem_of_getElem? (i := 37) rfl)
theorem mwr_stormMost {h : Hp} {mo : Nat} (hm : MW h mo) : gR h 1055 mo = mo + 38 := (mw_stormMost hm).1
theorem mwk_stormMost {h : Hp} {mo : Nat} (hm : MW h mo) : kd h (mo + 38) = 62 := (mw_stormMost hm).2.1
theorem mwl_stormMost {h : Hp} {mo : Nat} (hm : MW h mo) : ln h (mo + 38) = 40 := (mw_stormMost hm).2.2
theorem mw_toldSpilt {h : Hp} {mo : Nat} (hm : MW h mo) : gR h 1056 mo = mo + 39 ∧ kd h (mo + 39) = 62 ∧ ln h (mo + 39) = 12 := hm.2 (1056, 39, 62, 12) (List.mem_of_getElem? (i := 38) rfl)
theorem mwr_toldSpilt {h : Hp} {mo : Nat} (hm : MW h mo) : gR h 1056 mo = mo + 39 := (mw_toldSpilt hm).1
theorem mwk_toldSpilt {h : Hp} {mo : Nat} (hm : MW h mo) : kd h (mo + 39) = 62 := (mw_toldSpilt hm).2.1
theorem mwl_toldSpilt {h : Hp} {mo : Nat} (hm : MW h mo) : ln h (mo + 39) = 12 := (mw_toldSpilt hm).2.2
theorem mw_toldMost {h : Hp} {mo : Nat} (hm : MW h mo) : gR h 1057 mo = mo + 40 ∧ kd h (mo + 40) = 62 ∧ ln h (mo + 40) = 12 := hm.2 (1057, 40, 62, 12) (List.mem_of_getElem? (i := 39) rfl)
theorem mwr_toldMost {h : Hp} {mo : Nat} (hm : MW h mo) : gR h 1057 mo = mo + 40 := (mw_toldMost hm).1
theorem mwk_toldMost {h : Hp} {mo : Nat} (hm : MW h mo) : kd h (mo + 40) = 62 := (mw_toldMost hm).2.1
theorem mwl_toldMost {h : Hp} {mo : Nat} (hm : MW h mo) : ln h (mo + 40) = 12 := (mw_toldMost hm).2.2
theorem mw_stormDay {h : Hp} {mo : Nat} (hm : MW h mo) : gR h 1058 mo = mo + 41 ∧ kd h (mo + 41) = 61 ∧ ln h (mo + 41) = 40 := hm.2 (1058, 41, 61, 40) (List.mem_of_getElem? (i := 40) rfl)
theorem mwr_stormDay {h : Hp} {mo : Nat} (hm : MW h mo) : gR h 1058 mo = mo + 41 := (mw_stormDay hm).1
theorem mwk_stormDay {h : Hp} {mo : Nat} (hm : MW h mo) : kd h (mo + 41) = 61 := (mw_stormDay hm).2.1
theorem mwl_stormDay {h : Hp} {mo : Nat} (hm : MW h mo) : ln h (mo + 41) = 40 := (mw_stormDay hm).2.2
theorem mw_stormWet {h : Hp} {mo : Nat} (hm : MW h mo) : gR h 1059 mo = mo + 42 ∧ kd h (mo + 42) = 61 ∧ ln h (mo + 42) = 40 := hm.2 (1059, 42, 61, 40) (List.mem_of_getElem? (i := 41) rfl)
theorem mwr_stormWet {h : Hp} {mo : Nat} (hm : MW h mo) : gR h 1059 mo = mo + 42 := (mw_stormWet hm).1
theorem mwk_stormWet {h : Hp} {mo : Nat} (hm : MW h mo) : kd h (mo + 42) = 61 := (mw_stormWet hm).2.1
theorem mwl_stormWet {h : Hp} {mo : Nat} (hm : MW h mo) : ln h (mo + 42) = 40 := (mw_stormWet hm).2.2
theorem mw_toldWet {h : Hp} {mo : Nat} (hm : MW h mo) : gR h 1060 mo = mo + 43 ∧ kd h (mo + 43) = 61 ∧ ln h (mo + 43) = 12 := hm.2 (1060, 43, 61, 12) (List.mem_of_getElem? (i := 42) rfl)
theorem mwr_toldWet {h : Hp} {mo : Nat} (hm : MW h mo) : gR h 1060 mo = mo + 43 := (mw_toldWet hm).1
theorem mwk_toldWet {h : Hp} {mo : Nat} (hm : MW h mo) : kd h (mo + 43) = 61 := (mw_toldWet hm).2.1
theorem mwl_toldWet {h : Hp} {mo : Nat} (hm : MW h mo) : ln h (mo + 43) = 12 := (mw_toldWet hm).2.2
theorem mw_atCorner {h : Hp} {mo : Nat} (hm : MW h mo) : gR h 1061 mo = mo + 44 ∧ kd h (mo + 44) = 61 ∧ ln h (mo + 44) = 60 := hm.2 (1061, 44, 61, 60) (List.mem_of_getElem? (i := 43) rfl)
theorem mwr_atCorner {h : Hp} {mo : Nat} (hm : MW h mo) : gR h 1061 mo = mo + 44 := (mw_atCorner hm).1
theorem mwk_atCorner {h : Hp} {mo : Nat} (hm : MW h mo) : kd h (mo + 44) = 61 := (mw_atCorner hm).2.1
theorem mwl_atCorner {h : Hp} {mo : Nat} (hm : MW h mo) : ln h (mo + 44) = 60 := (mw_atCorner hm).2.2
theorem mw_ofKind {h : Hp} {mo : Nat} (hm : MW h mo) : gR h 1062 mo = mo + 45 ∧ kd h (mo + 45) = 61 ∧ ln h (mo + 45) = 60 := hm.2 (1062, 45, 61, 60) (List.mem_of_getElem? (i := 44) rfl)
theorem mwr_ofKind {h : Hp} {mo : Nat} (hm : MW h mo) : gR h 1062 mo = mo + 45 := (mw_ofKind hm).1
theorem mwk_ofKind {h : Hp} {mo : Nat} (hm : MW h mo) : kd h (mo + 45) = 61 := (mw_ofKind hm).2.1
theorem mwl_ofKind {h : Hp} {mo : Nat} (hm : MW h mo) : ln h (mo + 45) = 60 := (mw_ofKind hm).2.2
theorem mw_toldOn {h : Hp} {mo : Nat} (hm : MW h mo) : gR h 1063 mo = mo + 46 ∧ kd h (mo + 46) = 61 ∧ ln h (mo + 46) = 60 := hm.2 (1063, 46, 61, 60) (List.mem_of_getElem? (i := 45) rfl)
theorem mwr_toldOn {h : Hp} {mo : Nat} (hm : MW h mo) : gR h 1063 mo = mo + 46 := (mw_toldOn hm).1
theorem mwk_toldOn {h : Hp} {mo : Nat} (hm : MW h mo) : kd h (mo + 46) = 61 := (mw_toldOn hm).2.1
theorem mwl_toldOn {h : Hp} {mo : Nat} (hm : MW h mo) : ln h (mo + 46) = 60 := (mw_toldOn hm).2.2
theorem mw_joinedOn {h : Hp} {mo : Nat} (hm : MW h mo) : gR h 1064 mo = mo + 47 ∧ kd h (mo + 47) = 61 ∧ ln h (mo + 47) = 60 := hm.2 (1064, 47, 61, 60) (List.mem_of_getElem? (i := 46) rfl)
theorem mwr_joinedOn {h : Hp} {mo : Nat} (hm : MW h mo) : gR h 1064 mo = mo + 47 := (mw_joinedOn hm).1
theorem mwk_joinedOn {h : Hp} {mo : Nat} (hm : MW h mo) : kd h (mo + 47) = 61 := (mw_joinedOn hm).2.1
theorem mwl_joinedOn {h : Hp} {mo : Nat} (hm : MW h mo) : ln h (mo + 47) = 60 := (mw_joinedOn hm).2.2
theorem mw_often {h : Hp} {mo : Nat} (hm : MW h mo) : gR h 1065 mo = mo + 48 ∧ kd h (mo + 48) = 61 ∧ ln h (mo + 48) = 60 := hm.2 (1065, 48, 61, 60) (List.mem_of_getElem? (i := 47) rfl)
theorem mwr_often {h : Hp} {mo : Nat} (hm : MW h mo) : gR h 1065 mo = mo + 48 := (mw_often hm).1
theorem mwk_often {h : Hp} {mo : Nat} (hm : MW h mo) : kd h (mo + 48) = 61 := (mw_often hm).2.1
theorem mwl_often {h : Hp} {mo : Nat} (hm : MW h mo) : ln h (mo + 48) = 60 := (mw_often hm).2.2
theorem mw_isOpen {h : Hp} {mo : Nat} (hm : MW h mo) : gR h 1066 mo = mo + 49 ∧ kd h (mo + 49) = 64 ∧ ln h (mo + 49) = 60 := hm.2 (1066, 49, 64, 60) (List.mem_of_getElem? (i := 48) rfl)
theorem mwr_isOpen {h : Hp} {mo : Nat} (hm : MW h mo) : gR h 1066 mo = mo + 49 := (mw_isOpen hm).1
theorem mwk_isOpen {h : Hp} {mo : Nat} (hm : MW h mo) : kd h (mo + 49) = 64 := (mw_isOpen hm).2.1
theorem mwl_isOpen {h : Hp} {mo : Nat} (hm : MW h mo) : ln h (mo + 49) = 60 := (mw_isOpen hm).2.2
theorem mw_statements {h : Hp} {mo : Nat} (hm : MW h mo) : gR h 1068 mo = mo + 50 ∧ kd h (mo + 50) = 61 ∧ ln h (mo + 50) = 11 := hm.2 (1068, 50, 61, 11) (List.mem_of_getElem? (i := 49) rfl)
theorem mwr_statements {h : Hp} {mo : Nat} (hm : MW h mo) : gR h 1068 mo = mo + 50 := (mw_statements hm).1
theorem mwk_statements {h : Hp} {mo : Nat} (hm : MW h mo) : kd h (mo + 50) = 61 := (mw_statements hm).2.1
theorem mwl_statements {h : Hp} {mo : Nat} (hm : MW h mo) : ln h (mo + 50) = 11 := (mw_statements hm).2.2
theorem mw_taken {h : Hp} {mo : Nat} (hm : MW h mo) : gR h 1069 mo = mo + 51 ∧ kd h (mo + 51) = 61 ∧ ln h (mo + 51) = 11 := hm.2 (1069, 51, 61, 11) (List.mem_of_getElem? (i := 50) rfl)
theorem mwr_taken {h : Hp} {mo : Nat} (hm : MW h mo) : gR h 1069 mo = mo + 51 := (mw_taken hm).1
theorem mwk_taken {h : Hp} {mo : Nat} (hm : MW h mo) : kd h (mo + 51) = 61 := (mw_taken hm).2.1
theorem mwl_taken {h : Hp} {mo : Nat} (hm : MW h mo) : ln h (mo + 51) = 11 := (mw_taken hm).2.2
theorem mw_sort {h : Hp} {mo : Nat} (hm : MW h mo) : gR h 1070 mo = mo + 52 ∧ kd h (mo + 52) = 61 ∧ ln h (mo + 52) = 264 := hm.2 (1070, 52, 61, 264) (List.mem_of_getElem? (i := 51) rfl)
theorem mwr_sort {h : Hp} {mo : Nat} (hm : MW h mo) : gR h 1070 mo = mo + 52 := (mw_sort hm).1
theorem mwk_sort {h : Hp} {mo : Nat} (hm : MW h mo) : kd h (mo + 52) = 61 := (mw_sort hm).2.1
theorem mwl_sort {h : Hp} {mo : Nat} (hm : MW h mo) : ln h (mo + 52) = 264 := (mw_sort hm).2.2
theorem mw_first {h : Hp} {mo : Nat} (hm : MW h mo) : gR h 1071 mo = mo + 53 ∧ kd h (mo + 53) = 61 ∧ ln h (mo + 53) = 264 := hm.2 (1071, 53, 61, 264) (List.mem_of_getElem? (i := 52) rfl)
theorem mwr_first {h : Hp} {mo : Nat} (hm : MW h mo) : gR h 1071 mo = mo + 53 := (mw_first hm).1
theorem mwk_first {h : Hp} {mo : Nat} (hm : MW h mo) : kd h (mo + 53) = 61 := (mw_first hm).2.1
theorem mwl_first {h : Hp} {mo : Nat} (hm : MW h mo) : ln h (mo + 53) = 264 := (mw_first hm).2.2
theorem mw_second {h : Hp} {mo : Nat} (hm : MW h mo) : gR h 1072 mo = mo + 54 ∧ kd h (mo + 54) = 61 ∧ ln h (mo + 54) = 264 := hm.2 (1072, 54, 61, 264) (List.mem_of_getElem? (i := 53) rfl)
theorem mwr_second {h : Hp} {mo : Nat} (hm : MW h mo) : gR h 1072 mo = mo + 54 := (mw_second hm).1
theorem mwk_second {h : Hp} {mo : Nat} (hm : MW h mo) : kd h (mo + 54) = 61 := (mw_second hm).2.1
theorem mwl_second {h : Hp} {mo : Nat} (hm : MW h mo) : ln h (mo + 54) = 264 := (mw_second hm).2.2
theorem mw_third {h : Hp} {mo : Nat} (hm : MW h mo) : gR h 1073 mo = mo + 55 ∧ kd h (mo + 55) = 61 ∧ ln h (mo + 55) = 264 := hm.2 (1073, 55, 61, 264) (List.mem_of_getElem? (i := 54) rfl)
theorem mwr_third {h : Hp} {mo : Nat} (hm : MW h mo) : gR h 1073 mo = mo + 55 := (mw_third hm).1
theorem mwk_third {h : Hp} {mo : Nat} (hm : MW h mo) : kd h (mo + 55) = 61 := (mw_third hm).2.1
theorem mwl_third {h : Hp} {mo : Nat} (hm : MW h mo) : ln h (mo + 55) = 264 := (mw_third hm).2.2
theorem mw_fourth {h : Hp} {mo : Nat} (hm : MW h mo) : gR h 1074 mo = mo + 56 ∧ kd h (mo + 56) = 61 ∧ ln h (mo + 56) = 264 := hm.2 (1074, 56, 61, 264) (List.mem_of_getElem? (i := 55) rfl)
theorem mwr_fourth {h : Hp} {mo : Nat} (hm : MW h mo) : gR h 1074 mo = mo + 56 := (mw_fourth hm).1
theorem mwk_fourth {h : Hp} {mo : Nat} (hm : MW h mo) : kd h (mo + 56) = 61 := (mw_fourth hm).2.1
theorem mwl_fourth {h : Hp} {mo : Nat} (hm : MW h mo) : ln h (mo + 56) = 264 := (mw_fourth hm).2.2
theorem mw_tape {h : Hp} {mo : Nat} (hm : MW h mo) : gR h 1075 mo = mo + 57 ∧ kd h (mo + 57) = 63 ∧ ln h (mo + 57) = 700 := hm.2 (1075, 57, 63, 700) (List.mem_of_getElem? (i := 56) rfl)
theorem mwr_tape {h : Hp} {mo : Nat} (hm : MW h mo) : gR h 1075 mo = mo + 57 := (mw_tape hm).1
theorem mwk_tape {h : Hp} {mo : Nat} (hm : MW h mo) : kd h (mo + 57) = 63 := (mw_tape hm).2.1
theorem mwl_tape {h : Hp} {mo : Nat} (hm : MW h mo) : ln h (mo + 57) = 700 := (mw_tape hm).2.2
theorem mw_text {h : Hp} {mo : Nat} (hm : MW h mo) : gR h 1076 mo = mo + 58 ∧ kd h (mo + 58) = 63 ∧ ln h (mo + 58) = 700 := hm.2 (1076, 58, 63, 700) (List.mem_of_getElem? (i := 57) rfl)
theorem mwr_text {h : Hp} {mo : Nat} (hm : MW h mo) : gR h 1076 mo = mo + 58 := (mw_text hm).1
theorem mwk_text {h : Hp} {mo : Nat} (hm : MW h mo) : kd h (mo + 58) = 63 := (mw_text hm).2.1
theorem mwl_text {h : Hp} {mo : Nat} (hm : MW h mo) : ln h (mo + 58) = 700 := (mw_text hm).2.2
theorem MW_pI {h : Hp} {mo : Nat} {f a : Nat} {v : Int32} (hm : MW h mo) : MW (pI h f a v) mo := hm
theorem r_mw_pI {M : MI} {pc : Nat} {lv : List (Nat × AV)} {st : List AV} {h : Hp} {k n mo : Nat} {Q : AV → Hp → Prop} {E : Nat → Hp → Prop} {f a : Nat} {v : Int32} (hm : MW h mo) (kk : MW (pI h f a v) mo → Rn M pc lv st (pI h f a v) k n Q E) : Rn M pc lv st (pI h f a v) k n Q E := kk (MW_pI hm)
theorem MW_pJ {h : Hp} {mo : Nat} {f a : Nat} {v : Int64} (hm : MW h mo) : MW (pJ h f a v) mo := hm
theorem r_mw_pJ {M : MI} {pc : Nat} {lv : List (Nat × AV)} {st : List AV} {h : Hp} {k n mo : Nat} {Q : AV → Hp → Prop} {E : Nat → Hp → Prop} {f a : Nat} {v : Int64} (hm : MW h mo) (kk : MW (pJ h f a v) mo → Rn M pc lv st (pJ h f a v) k n Q E) : Rn M pc lv st (pJ h f a v) k n Q E := kk (MW_pJ hm)
theorem MW_sI {h : Hp} {mo : Nat} {f a : Nat} {v : Int32} (hm : MW h mo) : MW (sI h f a v) mo := hm
theorem r_mw_sI {M : MI} {pc : Nat} {lv : List (Nat × AV)} {st : List AV} {h : Hp} {k n mo : Nat} {Q : AV → Hp → Prop} {E : Nat → Hp → Prop} {f a : Nat} {v : Int32} (hm : MW h mo) (kk : MW (sI h f a v) mo → Rn M pc lv st (sI h f a v) k n Q E) : Rn M pc lv st (sI h f a v) k n Q E := kk (MW_sI hm)
theorem MW_sJ {h : Hp} {mo : Nat} {f a : Nat} {v : Int64} (hm : MW h mo) : MW (sJ h f a v) mo := hm
theorem r_mw_sJ {M : MI} {pc : Nat} {lv : List (Nat × AV)} {st : List AV} {h : Hp} {k n mo : Nat} {Q : AV → Hp → Prop} {E : Nat → Hp → Prop} {f a : Nat} {v : Int64} (hm : MW h mo) (kk : MW (sJ h f a v) mo → Rn M pc lv st (sJ h f a v) k n Q E) : Rn M pc lv st (sJ h f a v) k n Q E := kk (MW_sJ hm)
