/-! decode rows -/
set_option maxRecDepth 100000
def dkwX3_init_21 : List UInt8 := [132, 1, 1, 167, 255, 239, 177]
abbrev dktX3_init_21 : List UInt8 := dkwX3_init_21 ++ []
def dkwX3_init_20 : List UInt8 := [181, 0, 184, 42, 2, 181, 0, 187, 3, 60, 27, 16, 10, 162, 0, 17, 42, 180, 0, 83, 27, 16, 20, 79]
abbrev dktX3_init_20 : List UInt8 := dkwX3_init_20 ++ dktX3_init_21
def dkwX3_init_19 : List UInt8 := [17, 1, 8, 188, 10, 181, 0, 177, 42, 17, 2, 188, 188, 8, 181, 0, 180, 42, 17, 2, 188, 188, 8]
abbrev dktX3_init_19 : List UInt8 := dkwX3_init_19 ++ dktX3_init_20
def dkwX3_init_18 : List UInt8 := [181, 0, 168, 42, 17, 1, 8, 188, 10, 181, 0, 171, 42, 17, 1, 8, 188, 10, 181, 0, 174, 42]
abbrev dktX3_init_18 : List UInt8 := dkwX3_init_18 ++ dktX3_init_19
def dkwX3_init_17 : List UInt8 := [42, 16, 11, 188, 10, 181, 0, 162, 42, 17, 1, 8, 188, 10, 181, 0, 165, 42, 17, 1, 8, 188, 10]
abbrev dktX3_init_17 : List UInt8 := dkwX3_init_17 ++ dktX3_init_18
def dkwX3_init_16 : List UInt8 := [42, 16, 60, 188, 10, 181, 0, 153, 42, 16, 60, 188, 4, 181, 0, 156, 42, 16, 11, 188, 10, 181, 0, 159]
abbrev dktX3_init_16 : List UInt8 := dkwX3_init_16 ++ dktX3_init_17
def dkwX3_init_15 : List UInt8 := [42, 16, 60, 188, 10, 181, 0, 144, 42, 16, 60, 188, 10, 181, 0, 147, 42, 16, 60, 188, 10, 181, 0, 150]
abbrev dktX3_init_15 : List UInt8 := dkwX3_init_15 ++ dktX3_init_16
def dkwX3_init_14 : List UInt8 := [42, 16, 40, 188, 10, 181, 0, 135, 42, 16, 12, 188, 10, 181, 0, 138, 42, 16, 60, 188, 10, 181, 0, 141]
abbrev dktX3_init_14 : List UInt8 := dkwX3_init_14 ++ dktX3_init_15
def dkwX3_init_13 : List UInt8 := [42, 16, 12, 188, 11, 181, 0, 126, 42, 16, 12, 188, 11, 181, 0, 129, 42, 16, 40, 188, 10, 181, 0, 132]
abbrev dktX3_init_13 : List UInt8 := dkwX3_init_13 ++ dktX3_init_14
def dkwX3_init_12 : List UInt8 := [42, 16, 40, 188, 11, 181, 0, 117, 42, 16, 40, 188, 11, 181, 0, 120, 42, 16, 40, 188, 11, 181, 0, 123]
abbrev dktX3_init_12 : List UInt8 := dkwX3_init_12 ++ dktX3_init_13
def dkwX3_init_11 : List UInt8 := [42, 16, 12, 188, 11, 181, 0, 108, 42, 16, 12, 188, 11, 181, 0, 111, 42, 16, 12, 188, 10, 181, 0, 114]
abbrev dktX3_init_11 : List UInt8 := dkwX3_init_11 ++ dktX3_init_12
def dkwX3_init_10 : List UInt8 := [42, 16, 12, 188, 10, 181, 0, 98, 42, 16, 12, 188, 11, 181, 0, 101, 42, 16, 12, 188, 11, 181, 0, 105]
abbrev dktX3_init_10 : List UInt8 := dkwX3_init_10 ++ dktX3_init_11
def dkwX3_init_9 : List UInt8 := [42, 16, 10, 188, 10, 181, 0, 89, 42, 16, 100, 188, 10, 181, 0, 92, 42, 16, 30, 188, 10, 181, 0, 95]
abbrev dktX3_init_9 : List UInt8 := dkwX3_init_9 ++ dktX3_init_10
def dkwX3_init_8 : List UInt8 := [42, 16, 30, 188, 10, 181, 0, 80, 42, 16, 10, 188, 10, 181, 0, 83, 42, 16, 30, 188, 10, 181, 0, 86]
abbrev dktX3_init_8 : List UInt8 := dkwX3_init_8 ++ dktX3_init_9
def dkwX3_init_7 : List UInt8 := [42, 16, 30, 188, 10, 181, 0, 71, 42, 16, 30, 188, 10, 181, 0, 74, 42, 16, 30, 188, 10, 181, 0, 77]
abbrev dktX3_init_7 : List UInt8 := dkwX3_init_7 ++ dktX3_init_8
def dkwX3_init_6 : List UInt8 := [17, 0, 132, 188, 10, 181, 0, 62, 42, 16, 30, 188, 10, 181, 0, 65, 42, 16, 30, 188, 10, 181, 0, 68]
abbrev dktX3_init_6 : List UInt8 := dkwX3_init_6 ++ dktX3_init_7
def dkwX3_init_5 : List UInt8 := [188, 10, 181, 0, 53, 42, 16, 12, 188, 10, 181, 0, 56, 42, 16, 12, 188, 10, 181, 0, 59, 42]
abbrev dktX3_init_5 : List UInt8 := dkwX3_init_5 ++ dktX3_init_6
def dkwX3_init_4 : List UInt8 := [188, 10, 181, 0, 44, 42, 16, 12, 188, 10, 181, 0, 47, 42, 16, 12, 188, 10, 181, 0, 50, 42, 16, 12]
abbrev dktX3_init_4 : List UInt8 := dkwX3_init_4 ++ dktX3_init_5
def dkwX3_init_3 : List UInt8 := [188, 10, 181, 0, 35, 42, 16, 12, 188, 10, 181, 0, 38, 42, 16, 12, 188, 10, 181, 0, 41, 42, 16, 12]
abbrev dktX3_init_3 : List UInt8 := dkwX3_init_3 ++ dktX3_init_4
def dkwX3_init_2 : List UInt8 := [188, 4, 181, 0, 25, 42, 16, 12, 188, 4, 181, 0, 29, 42, 16, 12, 188, 4, 181, 0, 32, 42, 16, 12]
abbrev dktX3_init_2 : List UInt8 := dkwX3_init_2 ++ dktX3_init_3
def dkwX3_init_1 : List UInt8 := [188, 10, 181, 0, 16, 42, 16, 12, 188, 10, 181, 0, 19, 42, 16, 12, 188, 10, 181, 0, 22, 42, 16, 12]
abbrev dktX3_init_1 : List UInt8 := dkwX3_init_1 ++ dktX3_init_2
def dkwX3_init_0 : List UInt8 := [42, 183, 0, 1, 42, 16, 12, 188, 10, 181, 0, 7, 42, 16, 12, 188, 10, 181, 0, 13, 42, 16, 12]
abbrev dktX3_init_0 : List UInt8 := dkwX3_init_0 ++ dktX3_init_1
theorem dksX3_init_0 : cX3_init.data.toList.drop 0 = dktX3_init_0 := by decide +kernel
theorem dksX3_init_1 : cX3_init.data.toList.drop 23 = dktX3_init_1 := dk_seg dksX3_init_0 23 rfl rfl
theorem dksX3_init_2 : cX3_init.data.toList.drop 47 = dktX3_init_2 := dk_seg dksX3_init_1 24 rfl rfl
theorem dksX3_init_3 : cX3_init.data.toList.drop 71 = dktX3_init_3 := dk_seg dksX3_init_2 24 rfl rfl
theorem dksX3_init_4 : cX3_init.data.toList.drop 95 = dktX3_init_4 := dk_seg dksX3_init_3 24 rfl rfl
theorem dksX3_init_5 : cX3_init.data.toList.drop 119 = dktX3_init_5 := dk_seg dksX3_init_4 24 rfl rfl
theorem dksX3_init_6 : cX3_init.data.toList.drop 141 = dktX3_init_6 := dk_seg dksX3_init_5 22 rfl rfl
theorem dksX3_init_7 : cX3_init.data.toList.drop 165 = dktX3_init_7 := dk_seg dksX3_init_6 24 rfl rfl
theorem dksX3_init_8 : cX3_init.data.toList.drop 189 = dktX3_init_8 := dk_seg dksX3_init_7 24 rfl rfl
theorem dksX3_init_9 : cX3_init.data.toList.drop 213 = dktX3_init_9 := dk_seg dksX3_init_8 24 rfl rfl
theorem dksX3_init_10 : cX3_init.data.toList.drop 237 = dktX3_init_10 := dk_seg dksX3_init_9 24 rfl rfl
theorem dksX3_init_11 : cX3_init.data.toList.drop 261 = dktX3_init_11 := dk_seg dksX3_init_10 24 rfl rfl
theorem dksX3_init_12 : cX3_init.data.toList.drop 285 = dktX3_init_12 := dk_seg dksX3_init_11 24 rfl rfl
theorem dksX3_init_13 : cX3_init.data.toList.drop 309 = dktX3_init_13 := dk_seg dksX3_init_12 24 rfl rfl
theorem dksX3_init_14 : cX3_init.data.toList.drop 333 = dktX3_init_14 := dk_seg dksX3_init_13 24 rfl rfl
theorem dksX3_init_15 : cX3_init.data.toList.drop 357 = dktX3_init_15 := dk_seg dksX3_init_14 24 rfl rfl
theorem dksX3_init_16 : cX3_init.data.toList.drop 381 = dktX3_init_16 := dk_seg dksX3_init_15 24 rfl rfl
theorem dksX3_init_17 : cX3_init.data.toList.drop 405 = dktX3_init_17 := dk_seg dksX3_init_16 24 rfl rfl
theorem dksX3_init_18 : cX3_init.data.toList.drop 428 = dktX3_init_18 := dk_seg dksX3_init_17 23 rfl rfl
theorem dksX3_init_19 : cX3_init.data.toList.drop 450 = dktX3_init_19 := dk_seg dksX3_init_18 22 rfl rfl
theorem dksX3_init_20 : cX3_init.data.toList.drop 473 = dktX3_init_20 := dk_seg dksX3_init_19 23 rfl rfl
theorem dksX3_init_21 : cX3_init.data.toList.drop 497 = dktX3_init_21 := dk_seg dksX3_init_20 24 rfl rfl
theorem dX3_init_0 : decode cX3_init 0 = .ok (.aload_n 0, 1) := dk_42 (dk_at dksX3_init_0 0 rfl rfl)
theorem dX3_init_1 : decode cX3_init 1 = .ok (.invokespecial 1, 3) := dk_183 0 1 (dk_at dksX3_init_0 1 rfl rfl)
theorem dX3_init_4 : decode cX3_init 4 = .ok (.aload_n 0, 1) := dk_42 (dk_at dksX3_init_0 4 rfl rfl)
theorem dX3_init_5 : decode cX3_init 5 = .ok (.bipush 12, 2) := dk_16 12 (dk_at dksX3_init_0 5 rfl rfl)
theorem dX3_init_7 : decode cX3_init 7 = .ok (.newarray .int, 2) := dk_188_10 (dk_at dksX3_init_0 7 rfl rfl)
theorem dX3_init_9 : decode cX3_init 9 = .ok (.putfield 7, 3) := dk_181 0 7 (dk_at dksX3_init_0 9 rfl rfl)
theorem dX3_init_12 : decode cX3_init 12 = .ok (.aload_n 0, 1) := dk_42 (dk_at dksX3_init_0 12 rfl rfl)
theorem dX3_init_13 : decode cX3_init 13 = .ok (.bipush 12, 2) := dk_16 12 (dk_at dksX3_init_0 13 rfl rfl)
theorem dX3_init_15 : decode cX3_init 15 = .ok (.newarray .int, 2) := dk_188_10 (dk_at dksX3_init_0 15 rfl rfl)
theorem dX3_init_17 : decode cX3_init 17 = .ok (.putfield 13, 3) := dk_181 0 13 (dk_at dksX3_init_0 17 rfl rfl)
theorem dX3_init_20 : decode cX3_init 20 = .ok (.aload_n 0, 1) := dk_42 (dk_at dksX3_init_0 20 rfl rfl)
theorem dX3_init_21 : decode cX3_init 21 = .ok (.bipush 12, 2) := dk_16 12 (dk_at dksX3_init_0 21 rfl rfl)
theorem dX3_init_23 : decode cX3_init 23 = .ok (.newarray .int, 2) := dk_188_10 (dk_at dksX3_init_1 0 rfl rfl)
theorem dX3_init_25 : decode cX3_init 25 = .ok (.putfield 16, 3) := dk_181 0 16 (dk_at dksX3_init_1 2 rfl rfl)
theorem dX3_init_28 : decode cX3_init 28 = .ok (.aload_n 0, 1) := dk_42 (dk_at dksX3_init_1 5 rfl rfl)
theorem dX3_init_29 : decode cX3_init 29 = .ok (.bipush 12, 2) := dk_16 12 (dk_at dksX3_init_1 6 rfl rfl)
theorem dX3_init_31 : decode cX3_init 31 = .ok (.newarray .int, 2) := dk_188_10 (dk_at dksX3_init_1 8 rfl rfl)
theorem dX3_init_33 : decode cX3_init 33 = .ok (.putfield 19, 3) := dk_181 0 19 (dk_at dksX3_init_1 10 rfl rfl)
theorem dX3_init_36 : decode cX3_init 36 = .ok (.aload_n 0, 1) := dk_42 (dk_at dksX3_init_1 13 rfl rfl)
theorem dX3_init_37 : decode cX3_init 37 = .ok (.bipush 12, 2) := dk_16 12 (dk_at dksX3_init_1 14 rfl rfl)
theorem dX3_init_39 : decode cX3_init 39 = .ok (.newarray .int, 2) := dk_188_10 (dk_at dksX3_init_1 16 rfl rfl)
theorem dX3_init_41 : decode cX3_init 41 = .ok (.putfield 22, 3) := dk_181 0 22 (dk_at dksX3_init_1 18 rfl rfl)
theorem dX3_init_44 : decode cX3_init 44 = .ok (.aload_n 0, 1) := dk_42 (dk_at dksX3_init_1 21 rfl rfl)
theorem dX3_init_45 : decode cX3_init 45 = .ok (.bipush 12, 2) := dk_16 12 (dk_at dksX3_init_1 22 rfl rfl)
theorem dX3_init_47 : decode cX3_init 47 = .ok (.newarray .boolean, 2) := dk_188_4 (dk_at dksX3_init_2 0 rfl rfl)
theorem dX3_init_49 : decode cX3_init 49 = .ok (.putfield 25, 3) := dk_181 0 25 (dk_at dksX3_init_2 2 rfl rfl)
theorem dX3_init_52 : decode cX3_init 52 = .ok (.aload_n 0, 1) := dk_42 (dk_at dksX3_init_2 5 rfl rfl)
theorem dX3_init_53 : decode cX3_init 53 = .ok (.bipush 12, 2) := dk_16 12 (dk_at dksX3_init_2 6 rfl rfl)
theorem dX3_init_55 : decode cX3_init 55 = .ok (.newarray .boolean, 2) := dk_188_4 (dk_at dksX3_init_2 8 rfl rfl)
theorem dX3_init_57 : decode cX3_init 57 = .ok (.putfield 29, 3) := dk_181 0 29 (dk_at dksX3_init_2 10 rfl rfl)
theorem dX3_init_60 : decode cX3_init 60 = .ok (.aload_n 0, 1) := dk_42 (dk_at dksX3_init_2 13 rfl rfl)
theorem dX3_init_61 : decode cX3_init 61 = .ok (.bipush 12, 2) := dk_16 12 (dk_at dksX3_init_2 14 rfl rfl)
theorem dX3_init_63 : decode cX3_init 63 = .ok (.newarray .boolean, 2) := dk_188_4 (dk_at dksX3_init_2 16 rfl rfl)
theorem dX3_init_65 : decode cX3_init 65 = .ok (.putfield 32, 3) := dk_181 0 32 (dk_at dksX3_init_2 18 rfl rfl)
theorem dX3_init_68 : decode cX3_init 68 = .ok (.aload_n 0, 1) := dk_42 (dk_at dksX3_init_2 21 rfl rfl)
theorem dX3_init_69 : decode cX3_init 69 = .ok (.bipush 12, 2) := dk_16 12 (dk_at dksX3_init_2 22 rfl rfl)
theorem dX3_init_71 : decode cX3_init 71 = .ok (.newarray .int, 2) := dk_188_10 (dk_at dksX3_init_3 0 rfl rfl)
theorem dX3_init_73 : decode cX3_init 73 = .ok (.putfield 35, 3) := dk_181 0 35 (dk_at dksX3_init_3 2 rfl rfl)
theorem dX3_init_76 : decode cX3_init 76 = .ok (.aload_n 0, 1) := dk_42 (dk_at dksX3_init_3 5 rfl rfl)
theorem dX3_init_77 : decode cX3_init 77 = .ok (.bipush 12, 2) := dk_16 12 (dk_at dksX3_init_3 6 rfl rfl)
theorem dX3_init_79 : decode cX3_init 79 = .ok (.newarray .int, 2) := dk_188_10 (dk_at dksX3_init_3 8 rfl rfl)
theorem dX3_init_81 : decode cX3_init 81 = .ok (.putfield 38, 3) := dk_181 0 38 (dk_at dksX3_init_3 10 rfl rfl)
theorem dX3_init_84 : decode cX3_init 84 = .ok (.aload_n 0, 1) := dk_42 (dk_at dksX3_init_3 13 rfl rfl)
theorem dX3_init_85 : decode cX3_init 85 = .ok (.bipush 12, 2) := dk_16 12 (dk_at dksX3_init_3 14 rfl rfl)
theorem dX3_init_87 : decode cX3_init 87 = .ok (.newarray .int, 2) := dk_188_10 (dk_at dksX3_init_3 16 rfl rfl)
theorem dX3_init_89 : decode cX3_init 89 = .ok (.putfield 41, 3) := dk_181 0 41 (dk_at dksX3_init_3 18 rfl rfl)
theorem dX3_init_92 : decode cX3_init 92 = .ok (.aload_n 0, 1) := dk_42 (dk_at dksX3_init_3 21 rfl rfl)
theorem dX3_init_93 : decode cX3_init 93 = .ok (.bipush 12, 2) := dk_16 12 (dk_at dksX3_init_3 22 rfl rfl)
theorem dX3_init_95 : decode cX3_init 95 = .ok (.newarray .int, 2) := dk_188_10 (dk_at dksX3_init_4 0 rfl rfl)
theorem dX3_init_97 : decode cX3_init 97 = .ok (.putfield 44, 3) := dk_181 0 44 (dk_at dksX3_init_4 2 rfl rfl)
theorem dX3_init_100 : decode cX3_init 100 = .ok (.aload_n 0, 1) := dk_42 (dk_at dksX3_init_4 5 rfl rfl)
theorem dX3_init_101 : decode cX3_init 101 = .ok (.bipush 12, 2) := dk_16 12 (dk_at dksX3_init_4 6 rfl rfl)
theorem dX3_init_103 : decode cX3_init 103 = .ok (.newarray .int, 2) := dk_188_10 (dk_at dksX3_init_4 8 rfl rfl)
theorem dX3_init_105 : decode cX3_init 105 = .ok (.putfield 47, 3) := dk_181 0 47 (dk_at dksX3_init_4 10 rfl rfl)
theorem dX3_init_108 : decode cX3_init 108 = .ok (.aload_n 0, 1) := dk_42 (dk_at dksX3_init_4 13 rfl rfl)
theorem dX3_init_109 : decode cX3_init 109 = .ok (.bipush 12, 2) := dk_16 12 (dk_at dksX3_init_4 14 rfl rfl)
theorem dX3_init_111 : decode cX3_init 111 = .ok (.newarray .int, 2) := dk_188_10 (dk_at dksX3_init_4 16 rfl rfl)
theorem dX3_init_113 : decode cX3_init 113 = .ok (.putfield 50, 3) := dk_181 0 50 (dk_at dksX3_init_4 18 rfl rfl)
theorem dX3_init_116 : decode cX3_init 116 = .ok (.aload_n 0, 1) := dk_42 (dk_at dksX3_init_4 21 rfl rfl)
theorem dX3_init_117 : decode cX3_init 117 = .ok (.bipush 12, 2) := dk_16 12 (dk_at dksX3_init_4 22 rfl rfl)
theorem dX3_init_119 : decode cX3_init 119 = .ok (.newarray .int, 2) := dk_188_10 (dk_at dksX3_init_5 0 rfl rfl)
theorem dX3_init_121 : decode cX3_init 121 = .ok (.putfield 53, 3) := dk_181 0 53 (dk_at dksX3_init_5 2 rfl rfl)
theorem dX3_init_124 : decode cX3_init 124 = .ok (.aload_n 0, 1) := dk_42 (dk_at dksX3_init_5 5 rfl rfl)
theorem dX3_init_125 : decode cX3_init 125 = .ok (.bipush 12, 2) := dk_16 12 (dk_at dksX3_init_5 6 rfl rfl)
theorem dX3_init_127 : decode cX3_init 127 = .ok (.newarray .int, 2) := dk_188_10 (dk_at dksX3_init_5 8 rfl rfl)
theorem dX3_init_129 : decode cX3_init 129 = .ok (.putfield 56, 3) := dk_181 0 56 (dk_at dksX3_init_5 10 rfl rfl)
theorem dX3_init_132 : decode cX3_init 132 = .ok (.aload_n 0, 1) := dk_42 (dk_at dksX3_init_5 13 rfl rfl)
theorem dX3_init_133 : decode cX3_init 133 = .ok (.bipush 12, 2) := dk_16 12 (dk_at dksX3_init_5 14 rfl rfl)
theorem dX3_init_135 : decode cX3_init 135 = .ok (.newarray .int, 2) := dk_188_10 (dk_at dksX3_init_5 16 rfl rfl)
theorem dX3_init_137 : decode cX3_init 137 = .ok (.putfield 59, 3) := dk_181 0 59 (dk_at dksX3_init_5 18 rfl rfl)
theorem dX3_init_140 : decode cX3_init 140 = .ok (.aload_n 0, 1) := dk_42 (dk_at dksX3_init_5 21 rfl rfl)
theorem dX3_init_141 : decode cX3_init 141 = .ok (.sipush 132, 3) := dk_17 0 132 (dk_at dksX3_init_6 0 rfl rfl)
theorem dX3_init_144 : decode cX3_init 144 = .ok (.newarray .int, 2) := dk_188_10 (dk_at dksX3_init_6 3 rfl rfl)
theorem dX3_init_146 : decode cX3_init 146 = .ok (.putfield 62, 3) := dk_181 0 62 (dk_at dksX3_init_6 5 rfl rfl)
theorem dX3_init_149 : decode cX3_init 149 = .ok (.aload_n 0, 1) := dk_42 (dk_at dksX3_init_6 8 rfl rfl)
theorem dX3_init_150 : decode cX3_init 150 = .ok (.bipush 30, 2) := dk_16 30 (dk_at dksX3_init_6 9 rfl rfl)
theorem dX3_init_152 : decode cX3_init 152 = .ok (.newarray .int, 2) := dk_188_10 (dk_at dksX3_init_6 11 rfl rfl)
theorem dX3_init_154 : decode cX3_init 154 = .ok (.putfield 65, 3) := dk_181 0 65 (dk_at dksX3_init_6 13 rfl rfl)
theorem dX3_init_157 : decode cX3_init 157 = .ok (.aload_n 0, 1) := dk_42 (dk_at dksX3_init_6 16 rfl rfl)
theorem dX3_init_158 : decode cX3_init 158 = .ok (.bipush 30, 2) := dk_16 30 (dk_at dksX3_init_6 17 rfl rfl)
theorem dX3_init_160 : decode cX3_init 160 = .ok (.newarray .int, 2) := dk_188_10 (dk_at dksX3_init_6 19 rfl rfl)
theorem dX3_init_162 : decode cX3_init 162 = .ok (.putfield 68, 3) := dk_181 0 68 (dk_at dksX3_init_6 21 rfl rfl)
theorem dX3_init_165 : decode cX3_init 165 = .ok (.aload_n 0, 1) := dk_42 (dk_at dksX3_init_7 0 rfl rfl)
theorem dX3_init_166 : decode cX3_init 166 = .ok (.bipush 30, 2) := dk_16 30 (dk_at dksX3_init_7 1 rfl rfl)
theorem dX3_init_168 : decode cX3_init 168 = .ok (.newarray .int, 2) := dk_188_10 (dk_at dksX3_init_7 3 rfl rfl)
theorem dX3_init_170 : decode cX3_init 170 = .ok (.putfield 71, 3) := dk_181 0 71 (dk_at dksX3_init_7 5 rfl rfl)
theorem dX3_init_173 : decode cX3_init 173 = .ok (.aload_n 0, 1) := dk_42 (dk_at dksX3_init_7 8 rfl rfl)
theorem dX3_init_174 : decode cX3_init 174 = .ok (.bipush 30, 2) := dk_16 30 (dk_at dksX3_init_7 9 rfl rfl)
theorem dX3_init_176 : decode cX3_init 176 = .ok (.newarray .int, 2) := dk_188_10 (dk_at dksX3_init_7 11 rfl rfl)
theorem dX3_init_178 : decode cX3_init 178 = .ok (.putfield 74, 3) := dk_181 0 74 (dk_at dksX3_init_7 13 rfl rfl)
theorem dX3_init_181 : decode cX3_init 181 = .ok (.aload_n 0, 1) := dk_42 (dk_at dksX3_init_7 16 rfl rfl)
theorem dX3_init_182 : decode cX3_init 182 = .ok (.bipush 30, 2) := dk_16 30 (dk_at dksX3_init_7 17 rfl rfl)
theorem dX3_init_184 : decode cX3_init 184 = .ok (.newarray .int, 2) := dk_188_10 (dk_at dksX3_init_7 19 rfl rfl)
theorem dX3_init_186 : decode cX3_init 186 = .ok (.putfield 77, 3) := dk_181 0 77 (dk_at dksX3_init_7 21 rfl rfl)
theorem dX3_init_189 : decode cX3_init 189 = .ok (.aload_n 0, 1) := dk_42 (dk_at dksX3_init_8 0 rfl rfl)
theorem dX3_init_190 : decode cX3_init 190 = .ok (.bipush 30, 2) := dk_16 30 (dk_at dksX3_init_8 1 rfl rfl)
theorem dX3_init_192 : decode cX3_init 192 = .ok (.newarray .int, 2) := dk_188_10 (dk_at dksX3_init_8 3 rfl rfl)
theorem dX3_init_194 : decode cX3_init 194 = .ok (.putfield 80, 3) := dk_181 0 80 (dk_at dksX3_init_8 5 rfl rfl)
theorem dX3_init_197 : decode cX3_init 197 = .ok (.aload_n 0, 1) := dk_42 (dk_at dksX3_init_8 8 rfl rfl)
theorem dX3_init_198 : decode cX3_init 198 = .ok (.bipush 10, 2) := dk_16 10 (dk_at dksX3_init_8 9 rfl rfl)
theorem dX3_init_200 : decode cX3_init 200 = .ok (.newarray .int, 2) := dk_188_10 (dk_at dksX3_init_8 11 rfl rfl)
theorem dX3_init_202 : decode cX3_init 202 = .ok (.putfield 83, 3) := dk_181 0 83 (dk_at dksX3_init_8 13 rfl rfl)
theorem dX3_init_205 : decode cX3_init 205 = .ok (.aload_n 0, 1) := dk_42 (dk_at dksX3_init_8 16 rfl rfl)
theorem dX3_init_206 : decode cX3_init 206 = .ok (.bipush 30, 2) := dk_16 30 (dk_at dksX3_init_8 17 rfl rfl)
theorem dX3_init_208 : decode cX3_init 208 = .ok (.newarray .int, 2) := dk_188_10 (dk_at dksX3_init_8 19 rfl rfl)
theorem dX3_init_210 : decode cX3_init 210 = .ok (.putfield 86, 3) := dk_181 0 86 (dk_at dksX3_init_8 21 rfl rfl)
theorem dX3_init_213 : decode cX3_init 213 = .ok (.aload_n 0, 1) := dk_42 (dk_at dksX3_init_9 0 rfl rfl)
theorem dX3_init_214 : decode cX3_init 214 = .ok (.bipush 10, 2) := dk_16 10 (dk_at dksX3_init_9 1 rfl rfl)
theorem dX3_init_216 : decode cX3_init 216 = .ok (.newarray .int, 2) := dk_188_10 (dk_at dksX3_init_9 3 rfl rfl)
theorem dX3_init_218 : decode cX3_init 218 = .ok (.putfield 89, 3) := dk_181 0 89 (dk_at dksX3_init_9 5 rfl rfl)
theorem dX3_init_221 : decode cX3_init 221 = .ok (.aload_n 0, 1) := dk_42 (dk_at dksX3_init_9 8 rfl rfl)
theorem dX3_init_222 : decode cX3_init 222 = .ok (.bipush 100, 2) := dk_16 100 (dk_at dksX3_init_9 9 rfl rfl)
theorem dX3_init_224 : decode cX3_init 224 = .ok (.newarray .int, 2) := dk_188_10 (dk_at dksX3_init_9 11 rfl rfl)
theorem dX3_init_226 : decode cX3_init 226 = .ok (.putfield 92, 3) := dk_181 0 92 (dk_at dksX3_init_9 13 rfl rfl)
theorem dX3_init_229 : decode cX3_init 229 = .ok (.aload_n 0, 1) := dk_42 (dk_at dksX3_init_9 16 rfl rfl)
theorem dX3_init_230 : decode cX3_init 230 = .ok (.bipush 30, 2) := dk_16 30 (dk_at dksX3_init_9 17 rfl rfl)
theorem dX3_init_232 : decode cX3_init 232 = .ok (.newarray .int, 2) := dk_188_10 (dk_at dksX3_init_9 19 rfl rfl)
theorem dX3_init_234 : decode cX3_init 234 = .ok (.putfield 95, 3) := dk_181 0 95 (dk_at dksX3_init_9 21 rfl rfl)
theorem dX3_init_237 : decode cX3_init 237 = .ok (.aload_n 0, 1) := dk_42 (dk_at dksX3_init_10 0 rfl rfl)
theorem dX3_init_238 : decode cX3_init 238 = .ok (.bipush 12, 2) := dk_16 12 (dk_at dksX3_init_10 1 rfl rfl)
theorem dX3_init_240 : decode cX3_init 240 = .ok (.newarray .int, 2) := dk_188_10 (dk_at dksX3_init_10 3 rfl rfl)
theorem dX3_init_242 : decode cX3_init 242 = .ok (.putfield 98, 3) := dk_181 0 98 (dk_at dksX3_init_10 5 rfl rfl)
theorem dX3_init_245 : decode cX3_init 245 = .ok (.aload_n 0, 1) := dk_42 (dk_at dksX3_init_10 8 rfl rfl)
theorem dX3_init_246 : decode cX3_init 246 = .ok (.bipush 12, 2) := dk_16 12 (dk_at dksX3_init_10 9 rfl rfl)
theorem dX3_init_248 : decode cX3_init 248 = .ok (.newarray .long, 2) := dk_188_11 (dk_at dksX3_init_10 11 rfl rfl)
theorem dX3_init_250 : decode cX3_init 250 = .ok (.putfield 101, 3) := dk_181 0 101 (dk_at dksX3_init_10 13 rfl rfl)
theorem dX3_init_253 : decode cX3_init 253 = .ok (.aload_n 0, 1) := dk_42 (dk_at dksX3_init_10 16 rfl rfl)
theorem dX3_init_254 : decode cX3_init 254 = .ok (.bipush 12, 2) := dk_16 12 (dk_at dksX3_init_10 17 rfl rfl)
theorem dX3_init_256 : decode cX3_init 256 = .ok (.newarray .long, 2) := dk_188_11 (dk_at dksX3_init_10 19 rfl rfl)
theorem dX3_init_258 : decode cX3_init 258 = .ok (.putfield 105, 3) := dk_181 0 105 (dk_at dksX3_init_10 21 rfl rfl)
theorem dX3_init_261 : decode cX3_init 261 = .ok (.aload_n 0, 1) := dk_42 (dk_at dksX3_init_11 0 rfl rfl)
theorem dX3_init_262 : decode cX3_init 262 = .ok (.bipush 12, 2) := dk_16 12 (dk_at dksX3_init_11 1 rfl rfl)
theorem dX3_init_264 : decode cX3_init 264 = .ok (.newarray .long, 2) := dk_188_11 (dk_at dksX3_init_11 3 rfl rfl)
theorem dX3_init_266 : decode cX3_init 266 = .ok (.putfield 108, 3) := dk_181 0 108 (dk_at dksX3_init_11 5 rfl rfl)
theorem dX3_init_269 : decode cX3_init 269 = .ok (.aload_n 0, 1) := dk_42 (dk_at dksX3_init_11 8 rfl rfl)
theorem dX3_init_270 : decode cX3_init 270 = .ok (.bipush 12, 2) := dk_16 12 (dk_at dksX3_init_11 9 rfl rfl)
theorem dX3_init_272 : decode cX3_init 272 = .ok (.newarray .long, 2) := dk_188_11 (dk_at dksX3_init_11 11 rfl rfl)
theorem dX3_init_274 : decode cX3_init 274 = .ok (.putfield 111, 3) := dk_181 0 111 (dk_at dksX3_init_11 13 rfl rfl)
theorem dX3_init_277 : decode cX3_init 277 = .ok (.aload_n 0, 1) := dk_42 (dk_at dksX3_init_11 16 rfl rfl)
theorem dX3_init_278 : decode cX3_init 278 = .ok (.bipush 12, 2) := dk_16 12 (dk_at dksX3_init_11 17 rfl rfl)
theorem dX3_init_280 : decode cX3_init 280 = .ok (.newarray .int, 2) := dk_188_10 (dk_at dksX3_init_11 19 rfl rfl)
theorem dX3_init_282 : decode cX3_init 282 = .ok (.putfield 114, 3) := dk_181 0 114 (dk_at dksX3_init_11 21 rfl rfl)
theorem dX3_init_285 : decode cX3_init 285 = .ok (.aload_n 0, 1) := dk_42 (dk_at dksX3_init_12 0 rfl rfl)
theorem dX3_init_286 : decode cX3_init 286 = .ok (.bipush 40, 2) := dk_16 40 (dk_at dksX3_init_12 1 rfl rfl)
theorem dX3_init_288 : decode cX3_init 288 = .ok (.newarray .long, 2) := dk_188_11 (dk_at dksX3_init_12 3 rfl rfl)
theorem dX3_init_290 : decode cX3_init 290 = .ok (.putfield 117, 3) := dk_181 0 117 (dk_at dksX3_init_12 5 rfl rfl)
theorem dX3_init_293 : decode cX3_init 293 = .ok (.aload_n 0, 1) := dk_42 (dk_at dksX3_init_12 8 rfl rfl)
theorem dX3_init_294 : decode cX3_init 294 = .ok (.bipush 40, 2) := dk_16 40 (dk_at dksX3_init_12 9 rfl rfl)
theorem dX3_init_296 : decode cX3_init 296 = .ok (.newarray .long, 2) := dk_188_11 (dk_at dksX3_init_12 11 rfl rfl)
theorem dX3_init_298 : decode cX3_init 298 = .ok (.putfield 120, 3) := dk_181 0 120 (dk_at dksX3_init_12 13 rfl rfl)
theorem dX3_init_301 : decode cX3_init 301 = .ok (.aload_n 0, 1) := dk_42 (dk_at dksX3_init_12 16 rfl rfl)
theorem dX3_init_302 : decode cX3_init 302 = .ok (.bipush 40, 2) := dk_16 40 (dk_at dksX3_init_12 17 rfl rfl)
theorem dX3_init_304 : decode cX3_init 304 = .ok (.newarray .long, 2) := dk_188_11 (dk_at dksX3_init_12 19 rfl rfl)
theorem dX3_init_306 : decode cX3_init 306 = .ok (.putfield 123, 3) := dk_181 0 123 (dk_at dksX3_init_12 21 rfl rfl)
theorem dX3_init_309 : decode cX3_init 309 = .ok (.aload_n 0, 1) := dk_42 (dk_at dksX3_init_13 0 rfl rfl)
theorem dX3_init_310 : decode cX3_init 310 = .ok (.bipush 12, 2) := dk_16 12 (dk_at dksX3_init_13 1 rfl rfl)
theorem dX3_init_312 : decode cX3_init 312 = .ok (.newarray .long, 2) := dk_188_11 (dk_at dksX3_init_13 3 rfl rfl)
theorem dX3_init_314 : decode cX3_init 314 = .ok (.putfield 126, 3) := dk_181 0 126 (dk_at dksX3_init_13 5 rfl rfl)
theorem dX3_init_317 : decode cX3_init 317 = .ok (.aload_n 0, 1) := dk_42 (dk_at dksX3_init_13 8 rfl rfl)
theorem dX3_init_318 : decode cX3_init 318 = .ok (.bipush 12, 2) := dk_16 12 (dk_at dksX3_init_13 9 rfl rfl)
theorem dX3_init_320 : decode cX3_init 320 = .ok (.newarray .long, 2) := dk_188_11 (dk_at dksX3_init_13 11 rfl rfl)
theorem dX3_init_322 : decode cX3_init 322 = .ok (.putfield 129, 3) := dk_181 0 129 (dk_at dksX3_init_13 13 rfl rfl)
theorem dX3_init_325 : decode cX3_init 325 = .ok (.aload_n 0, 1) := dk_42 (dk_at dksX3_init_13 16 rfl rfl)
theorem dX3_init_326 : decode cX3_init 326 = .ok (.bipush 40, 2) := dk_16 40 (dk_at dksX3_init_13 17 rfl rfl)
theorem dX3_init_328 : decode cX3_init 328 = .ok (.newarray .int, 2) := dk_188_10 (dk_at dksX3_init_13 19 rfl rfl)
theorem dX3_init_330 : decode cX3_init 330 = .ok (.putfield 132, 3) := dk_181 0 132 (dk_at dksX3_init_13 21 rfl rfl)
theorem dX3_init_333 : decode cX3_init 333 = .ok (.aload_n 0, 1) := dk_42 (dk_at dksX3_init_14 0 rfl rfl)
theorem dX3_init_334 : decode cX3_init 334 = .ok (.bipush 40, 2) := dk_16 40 (dk_at dksX3_init_14 1 rfl rfl)
theorem dX3_init_336 : decode cX3_init 336 = .ok (.newarray .int, 2) := dk_188_10 (dk_at dksX3_init_14 3 rfl rfl)
theorem dX3_init_338 : decode cX3_init 338 = .ok (.putfield 135, 3) := dk_181 0 135 (dk_at dksX3_init_14 5 rfl rfl)
theorem dX3_init_341 : decode cX3_init 341 = .ok (.aload_n 0, 1) := dk_42 (dk_at dksX3_init_14 8 rfl rfl)
theorem dX3_init_342 : decode cX3_init 342 = .ok (.bipush 12, 2) := dk_16 12 (dk_at dksX3_init_14 9 rfl rfl)
theorem dX3_init_344 : decode cX3_init 344 = .ok (.newarray .int, 2) := dk_188_10 (dk_at dksX3_init_14 11 rfl rfl)
theorem dX3_init_346 : decode cX3_init 346 = .ok (.putfield 138, 3) := dk_181 0 138 (dk_at dksX3_init_14 13 rfl rfl)
theorem dX3_init_349 : decode cX3_init 349 = .ok (.aload_n 0, 1) := dk_42 (dk_at dksX3_init_14 16 rfl rfl)
theorem dX3_init_350 : decode cX3_init 350 = .ok (.bipush 60, 2) := dk_16 60 (dk_at dksX3_init_14 17 rfl rfl)
theorem dX3_init_352 : decode cX3_init 352 = .ok (.newarray .int, 2) := dk_188_10 (dk_at dksX3_init_14 19 rfl rfl)
theorem dX3_init_354 : decode cX3_init 354 = .ok (.putfield 141, 3) := dk_181 0 141 (dk_at dksX3_init_14 21 rfl rfl)
theorem dX3_init_357 : decode cX3_init 357 = .ok (.aload_n 0, 1) := dk_42 (dk_at dksX3_init_15 0 rfl rfl)
theorem dX3_init_358 : decode cX3_init 358 = .ok (.bipush 60, 2) := dk_16 60 (dk_at dksX3_init_15 1 rfl rfl)
theorem dX3_init_360 : decode cX3_init 360 = .ok (.newarray .int, 2) := dk_188_10 (dk_at dksX3_init_15 3 rfl rfl)
theorem dX3_init_362 : decode cX3_init 362 = .ok (.putfield 144, 3) := dk_181 0 144 (dk_at dksX3_init_15 5 rfl rfl)
theorem dX3_init_365 : decode cX3_init 365 = .ok (.aload_n 0, 1) := dk_42 (dk_at dksX3_init_15 8 rfl rfl)
theorem dX3_init_366 : decode cX3_init 366 = .ok (.bipush 60, 2) := dk_16 60 (dk_at dksX3_init_15 9 rfl rfl)
theorem dX3_init_368 : decode cX3_init 368 = .ok (.newarray .int, 2) := dk_188_10 (dk_at dksX3_init_15 11 rfl rfl)
theorem dX3_init_370 : decode cX3_init 370 = .ok (.putfield 147, 3) := dk_181 0 147 (dk_at dksX3_init_15 13 rfl rfl)
theorem dX3_init_373 : decode cX3_init 373 = .ok (.aload_n 0, 1) := dk_42 (dk_at dksX3_init_15 16 rfl rfl)
theorem dX3_init_374 : decode cX3_init 374 = .ok (.bipush 60, 2) := dk_16 60 (dk_at dksX3_init_15 17 rfl rfl)
theorem dX3_init_376 : decode cX3_init 376 = .ok (.newarray .int, 2) := dk_188_10 (dk_at dksX3_init_15 19 rfl rfl)
theorem dX3_init_378 : decode cX3_init 378 = .ok (.putfield 150, 3) := dk_181 0 150 (dk_at dksX3_init_15 21 rfl rfl)
theorem dX3_init_381 : decode cX3_init 381 = .ok (.aload_n 0, 1) := dk_42 (dk_at dksX3_init_16 0 rfl rfl)
theorem dX3_init_382 : decode cX3_init 382 = .ok (.bipush 60, 2) := dk_16 60 (dk_at dksX3_init_16 1 rfl rfl)
theorem dX3_init_384 : decode cX3_init 384 = .ok (.newarray .int, 2) := dk_188_10 (dk_at dksX3_init_16 3 rfl rfl)
theorem dX3_init_386 : decode cX3_init 386 = .ok (.putfield 153, 3) := dk_181 0 153 (dk_at dksX3_init_16 5 rfl rfl)
theorem dX3_init_389 : decode cX3_init 389 = .ok (.aload_n 0, 1) := dk_42 (dk_at dksX3_init_16 8 rfl rfl)
theorem dX3_init_390 : decode cX3_init 390 = .ok (.bipush 60, 2) := dk_16 60 (dk_at dksX3_init_16 9 rfl rfl)
theorem dX3_init_392 : decode cX3_init 392 = .ok (.newarray .boolean, 2) := dk_188_4 (dk_at dksX3_init_16 11 rfl rfl)
theorem dX3_init_394 : decode cX3_init 394 = .ok (.putfield 156, 3) := dk_181 0 156 (dk_at dksX3_init_16 13 rfl rfl)
theorem dX3_init_397 : decode cX3_init 397 = .ok (.aload_n 0, 1) := dk_42 (dk_at dksX3_init_16 16 rfl rfl)
theorem dX3_init_398 : decode cX3_init 398 = .ok (.bipush 11, 2) := dk_16 11 (dk_at dksX3_init_16 17 rfl rfl)
theorem dX3_init_400 : decode cX3_init 400 = .ok (.newarray .int, 2) := dk_188_10 (dk_at dksX3_init_16 19 rfl rfl)
theorem dX3_init_402 : decode cX3_init 402 = .ok (.putfield 159, 3) := dk_181 0 159 (dk_at dksX3_init_16 21 rfl rfl)
theorem dX3_init_405 : decode cX3_init 405 = .ok (.aload_n 0, 1) := dk_42 (dk_at dksX3_init_17 0 rfl rfl)
theorem dX3_init_406 : decode cX3_init 406 = .ok (.bipush 11, 2) := dk_16 11 (dk_at dksX3_init_17 1 rfl rfl)
theorem dX3_init_408 : decode cX3_init 408 = .ok (.newarray .int, 2) := dk_188_10 (dk_at dksX3_init_17 3 rfl rfl)
theorem dX3_init_410 : decode cX3_init 410 = .ok (.putfield 162, 3) := dk_181 0 162 (dk_at dksX3_init_17 5 rfl rfl)
theorem dX3_init_413 : decode cX3_init 413 = .ok (.aload_n 0, 1) := dk_42 (dk_at dksX3_init_17 8 rfl rfl)
theorem dX3_init_414 : decode cX3_init 414 = .ok (.sipush 264, 3) := dk_17 1 8 (dk_at dksX3_init_17 9 rfl rfl)
theorem dX3_init_417 : decode cX3_init 417 = .ok (.newarray .int, 2) := dk_188_10 (dk_at dksX3_init_17 12 rfl rfl)
theorem dX3_init_419 : decode cX3_init 419 = .ok (.putfield 165, 3) := dk_181 0 165 (dk_at dksX3_init_17 14 rfl rfl)
theorem dX3_init_422 : decode cX3_init 422 = .ok (.aload_n 0, 1) := dk_42 (dk_at dksX3_init_17 17 rfl rfl)
theorem dX3_init_423 : decode cX3_init 423 = .ok (.sipush 264, 3) := dk_17 1 8 (dk_at dksX3_init_17 18 rfl rfl)
theorem dX3_init_426 : decode cX3_init 426 = .ok (.newarray .int, 2) := dk_188_10 (dk_at dksX3_init_17 21 rfl rfl)
theorem dX3_init_428 : decode cX3_init 428 = .ok (.putfield 168, 3) := dk_181 0 168 (dk_at dksX3_init_18 0 rfl rfl)
theorem dX3_init_431 : decode cX3_init 431 = .ok (.aload_n 0, 1) := dk_42 (dk_at dksX3_init_18 3 rfl rfl)
theorem dX3_init_432 : decode cX3_init 432 = .ok (.sipush 264, 3) := dk_17 1 8 (dk_at dksX3_init_18 4 rfl rfl)
theorem dX3_init_435 : decode cX3_init 435 = .ok (.newarray .int, 2) := dk_188_10 (dk_at dksX3_init_18 7 rfl rfl)
theorem dX3_init_437 : decode cX3_init 437 = .ok (.putfield 171, 3) := dk_181 0 171 (dk_at dksX3_init_18 9 rfl rfl)
theorem dX3_init_440 : decode cX3_init 440 = .ok (.aload_n 0, 1) := dk_42 (dk_at dksX3_init_18 12 rfl rfl)
theorem dX3_init_441 : decode cX3_init 441 = .ok (.sipush 264, 3) := dk_17 1 8 (dk_at dksX3_init_18 13 rfl rfl)
theorem dX3_init_444 : decode cX3_init 444 = .ok (.newarray .int, 2) := dk_188_10 (dk_at dksX3_init_18 16 rfl rfl)
theorem dX3_init_446 : decode cX3_init 446 = .ok (.putfield 174, 3) := dk_181 0 174 (dk_at dksX3_init_18 18 rfl rfl)
theorem dX3_init_449 : decode cX3_init 449 = .ok (.aload_n 0, 1) := dk_42 (dk_at dksX3_init_18 21 rfl rfl)
theorem dX3_init_450 : decode cX3_init 450 = .ok (.sipush 264, 3) := dk_17 1 8 (dk_at dksX3_init_19 0 rfl rfl)
theorem dX3_init_453 : decode cX3_init 453 = .ok (.newarray .int, 2) := dk_188_10 (dk_at dksX3_init_19 3 rfl rfl)
theorem dX3_init_455 : decode cX3_init 455 = .ok (.putfield 177, 3) := dk_181 0 177 (dk_at dksX3_init_19 5 rfl rfl)
theorem dX3_init_458 : decode cX3_init 458 = .ok (.aload_n 0, 1) := dk_42 (dk_at dksX3_init_19 8 rfl rfl)
theorem dX3_init_459 : decode cX3_init 459 = .ok (.sipush 700, 3) := dk_17 2 188 (dk_at dksX3_init_19 9 rfl rfl)
theorem dX3_init_462 : decode cX3_init 462 = .ok (.newarray .byte, 2) := dk_188_8 (dk_at dksX3_init_19 12 rfl rfl)
theorem dX3_init_464 : decode cX3_init 464 = .ok (.putfield 180, 3) := dk_181 0 180 (dk_at dksX3_init_19 14 rfl rfl)
theorem dX3_init_467 : decode cX3_init 467 = .ok (.aload_n 0, 1) := dk_42 (dk_at dksX3_init_19 17 rfl rfl)
theorem dX3_init_468 : decode cX3_init 468 = .ok (.sipush 700, 3) := dk_17 2 188 (dk_at dksX3_init_19 18 rfl rfl)
theorem dX3_init_471 : decode cX3_init 471 = .ok (.newarray .byte, 2) := dk_188_8 (dk_at dksX3_init_19 21 rfl rfl)
theorem dX3_init_473 : decode cX3_init 473 = .ok (.putfield 184, 3) := dk_181 0 184 (dk_at dksX3_init_20 0 rfl rfl)
theorem dX3_init_476 : decode cX3_init 476 = .ok (.aload_n 0, 1) := dk_42 (dk_at dksX3_init_20 3 rfl rfl)
theorem dX3_init_477 : decode cX3_init 477 = .ok (.iconst (-1), 1) := dk_2 (dk_at dksX3_init_20 4 rfl rfl)
theorem dX3_init_478 : decode cX3_init 478 = .ok (.putfield 187, 3) := dk_181 0 187 (dk_at dksX3_init_20 5 rfl rfl)
theorem dX3_init_481 : decode cX3_init 481 = .ok (.iconst 0, 1) := dk_3 (dk_at dksX3_init_20 8 rfl rfl)
theorem dX3_init_482 : decode cX3_init 482 = .ok (.istore_n 1, 1) := dk_60 (dk_at dksX3_init_20 9 rfl rfl)
theorem dX3_init_483 : decode cX3_init 483 = .ok (.iload_n 1, 1) := dk_27 (dk_at dksX3_init_20 10 rfl rfl)
theorem dX3_init_484 : decode cX3_init 484 = .ok (.bipush 10, 2) := dk_16 10 (dk_at dksX3_init_20 11 rfl rfl)
theorem dX3_init_486 : decode cX3_init 486 = .ok (.if_icmp .ge 17, 3) := dk_162 0 17 (dk_at dksX3_init_20 13 rfl rfl)
theorem dX3_init_489 : decode cX3_init 489 = .ok (.aload_n 0, 1) := dk_42 (dk_at dksX3_init_20 16 rfl rfl)
theorem dX3_init_490 : decode cX3_init 490 = .ok (.getfield 83, 3) := dk_180 0 83 (dk_at dksX3_init_20 17 rfl rfl)
theorem dX3_init_493 : decode cX3_init 493 = .ok (.iload_n 1, 1) := dk_27 (dk_at dksX3_init_20 20 rfl rfl)
theorem dX3_init_494 : decode cX3_init 494 = .ok (.bipush 20, 2) := dk_16 20 (dk_at dksX3_init_20 21 rfl rfl)
theorem dX3_init_496 : decode cX3_init 496 = .ok (.iastore, 1) := dk_79 (dk_at dksX3_init_20 23 rfl rfl)
theorem dX3_init_497 : decode cX3_init 497 = .ok (.iinc 1 1, 3) := dk_132 1 1 (dk_at dksX3_init_21 0 rfl rfl)
theorem dX3_init_500 : decode cX3_init 500 = .ok (.goto (-17), 3) := dk_167 255 239 (dk_at dksX3_init_21 3 rfl rfl)
theorem dX3_init_503 : decode cX3_init 503 = .ok (.return_, 1) := dk_177 (dk_at dksX3_init_21 6 rfl rfl)
def dkwX3_corner_5 : List UInt8 := [180, 0, 191, 4, 100, 172]
abbrev dktX3_corner_5 : List UInt8 := dkwX3_corner_5 ++ []
def dkwX3_corner_4 : List UInt8 := [21, 4, 79, 42, 180, 0, 22, 42, 180, 0, 191, 2, 79, 42, 89, 180, 0, 191, 4, 96, 181, 0, 191, 42]
abbrev dktX3_corner_4 : List UInt8 := dkwX3_corner_4 ++ dktX3_corner_5
def dkwX3_corner_3 : List UInt8 := [180, 0, 191, 28, 79, 42, 180, 0, 16, 42, 180, 0, 191, 29, 79, 42, 180, 0, 19, 42, 180, 0, 191]
abbrev dktX3_corner_3 : List UInt8 := dkwX3_corner_3 ++ dktX3_corner_4
def dkwX3_corner_2 : List UInt8 := [16, 12, 160, 0, 5, 2, 172, 42, 180, 0, 7, 42, 180, 0, 191, 27, 79, 42, 180, 0, 13, 42]
abbrev dktX3_corner_2 : List UInt8 := dkwX3_corner_2 ++ dktX3_corner_3
def dkwX3_corner_1 : List UInt8 := [16, 9, 184, 0, 194, 153, 0, 24, 21, 4, 3, 17, 1, 244, 184, 0, 194, 153, 0, 12, 42, 180, 0, 191]
abbrev dktX3_corner_1 : List UInt8 := dkwX3_corner_1 ++ dktX3_corner_2
def dkwX3_corner_0 : List UInt8 := [27, 4, 16, 100, 184, 0, 194, 153, 0, 45, 28, 4, 17, 1, 244, 184, 0, 194, 153, 0, 34, 29, 3]
abbrev dktX3_corner_0 : List UInt8 := dkwX3_corner_0 ++ dktX3_corner_1
theorem dksX3_corner_0 : cX3_corner.data.toList.drop 0 = dktX3_corner_0 := by decide +kernel
theorem dksX3_corner_1 : cX3_corner.data.toList.drop 23 = dktX3_corner_1 := dk_seg dksX3_corner_0 23 rfl rfl
theorem dksX3_corner_2 : cX3_corner.data.toList.drop 47 = dktX3_corner_2 := dk_seg dksX3_corner_1 24 rfl rfl
theorem dksX3_corner_3 : cX3_corner.data.toList.drop 69 = dktX3_corner_3 := dk_seg dksX3_corner_2 22 rfl rfl
theorem dksX3_corner_4 : cX3_corner.data.toList.drop 92 = dktX3_corner_4 := dk_seg dksX3_corner_3 23 rfl rfl
theorem dksX3_corner_5 : cX3_corner.data.toList.drop 116 = dktX3_corner_5 := dk_seg dksX3_corner_4 24 rfl rfl
theorem dX3_corner_0 : decode cX3_corner 0 = .ok (.iload_n 1, 1) := dk_27 (dk_at dksX3_corner_0 0 rfl rfl)
theorem dX3_corner_1 : decode cX3_corner 1 = .ok (.iconst 1, 1) := dk_4 (dk_at dksX3_corner_0 1 rfl rfl)
theorem dX3_corner_2 : decode cX3_corner 2 = .ok (.bipush 100, 2) := dk_16 100 (dk_at dksX3_corner_0 2 rfl rfl)
theorem dX3_corner_4 : decode cX3_corner 4 = .ok (.invokestatic 194, 3) := dk_184 0 194 (dk_at dksX3_corner_0 4 rfl rfl)
theorem dX3_corner_7 : decode cX3_corner 7 = .ok (.ifCond .eq 45, 3) := dk_153 0 45 (dk_at dksX3_corner_0 7 rfl rfl)
theorem dX3_corner_10 : decode cX3_corner 10 = .ok (.iload_n 2, 1) := dk_28 (dk_at dksX3_corner_0 10 rfl rfl)
theorem dX3_corner_11 : decode cX3_corner 11 = .ok (.iconst 1, 1) := dk_4 (dk_at dksX3_corner_0 11 rfl rfl)
theorem dX3_corner_12 : decode cX3_corner 12 = .ok (.sipush 500, 3) := dk_17 1 244 (dk_at dksX3_corner_0 12 rfl rfl)
theorem dX3_corner_15 : decode cX3_corner 15 = .ok (.invokestatic 194, 3) := dk_184 0 194 (dk_at dksX3_corner_0 15 rfl rfl)
theorem dX3_corner_18 : decode cX3_corner 18 = .ok (.ifCond .eq 34, 3) := dk_153 0 34 (dk_at dksX3_corner_0 18 rfl rfl)
theorem dX3_corner_21 : decode cX3_corner 21 = .ok (.iload_n 3, 1) := dk_29 (dk_at dksX3_corner_0 21 rfl rfl)
theorem dX3_corner_22 : decode cX3_corner 22 = .ok (.iconst 0, 1) := dk_3 (dk_at dksX3_corner_0 22 rfl rfl)
theorem dX3_corner_23 : decode cX3_corner 23 = .ok (.bipush 9, 2) := dk_16 9 (dk_at dksX3_corner_1 0 rfl rfl)
theorem dX3_corner_25 : decode cX3_corner 25 = .ok (.invokestatic 194, 3) := dk_184 0 194 (dk_at dksX3_corner_1 2 rfl rfl)
theorem dX3_corner_28 : decode cX3_corner 28 = .ok (.ifCond .eq 24, 3) := dk_153 0 24 (dk_at dksX3_corner_1 5 rfl rfl)
theorem dX3_corner_31 : decode cX3_corner 31 = .ok (.iload 4, 2) := dk_21 4 (dk_at dksX3_corner_1 8 rfl rfl)
theorem dX3_corner_33 : decode cX3_corner 33 = .ok (.iconst 0, 1) := dk_3 (dk_at dksX3_corner_1 10 rfl rfl)
theorem dX3_corner_34 : decode cX3_corner 34 = .ok (.sipush 500, 3) := dk_17 1 244 (dk_at dksX3_corner_1 11 rfl rfl)
theorem dX3_corner_37 : decode cX3_corner 37 = .ok (.invokestatic 194, 3) := dk_184 0 194 (dk_at dksX3_corner_1 14 rfl rfl)
theorem dX3_corner_40 : decode cX3_corner 40 = .ok (.ifCond .eq 12, 3) := dk_153 0 12 (dk_at dksX3_corner_1 17 rfl rfl)
theorem dX3_corner_43 : decode cX3_corner 43 = .ok (.aload_n 0, 1) := dk_42 (dk_at dksX3_corner_1 20 rfl rfl)
theorem dX3_corner_44 : decode cX3_corner 44 = .ok (.getfield 191, 3) := dk_180 0 191 (dk_at dksX3_corner_1 21 rfl rfl)
theorem dX3_corner_47 : decode cX3_corner 47 = .ok (.bipush 12, 2) := dk_16 12 (dk_at dksX3_corner_2 0 rfl rfl)
theorem dX3_corner_49 : decode cX3_corner 49 = .ok (.if_icmp .ne 5, 3) := dk_160 0 5 (dk_at dksX3_corner_2 2 rfl rfl)
theorem dX3_corner_52 : decode cX3_corner 52 = .ok (.iconst (-1), 1) := dk_2 (dk_at dksX3_corner_2 5 rfl rfl)
theorem dX3_corner_53 : decode cX3_corner 53 = .ok (.ireturn, 1) := dk_172 (dk_at dksX3_corner_2 6 rfl rfl)
theorem dX3_corner_54 : decode cX3_corner 54 = .ok (.aload_n 0, 1) := dk_42 (dk_at dksX3_corner_2 7 rfl rfl)
theorem dX3_corner_55 : decode cX3_corner 55 = .ok (.getfield 7, 3) := dk_180 0 7 (dk_at dksX3_corner_2 8 rfl rfl)
theorem dX3_corner_58 : decode cX3_corner 58 = .ok (.aload_n 0, 1) := dk_42 (dk_at dksX3_corner_2 11 rfl rfl)
theorem dX3_corner_59 : decode cX3_corner 59 = .ok (.getfield 191, 3) := dk_180 0 191 (dk_at dksX3_corner_2 12 rfl rfl)
theorem dX3_corner_62 : decode cX3_corner 62 = .ok (.iload_n 1, 1) := dk_27 (dk_at dksX3_corner_2 15 rfl rfl)
theorem dX3_corner_63 : decode cX3_corner 63 = .ok (.iastore, 1) := dk_79 (dk_at dksX3_corner_2 16 rfl rfl)
theorem dX3_corner_64 : decode cX3_corner 64 = .ok (.aload_n 0, 1) := dk_42 (dk_at dksX3_corner_2 17 rfl rfl)
theorem dX3_corner_65 : decode cX3_corner 65 = .ok (.getfield 13, 3) := dk_180 0 13 (dk_at dksX3_corner_2 18 rfl rfl)
theorem dX3_corner_68 : decode cX3_corner 68 = .ok (.aload_n 0, 1) := dk_42 (dk_at dksX3_corner_2 21 rfl rfl)
theorem dX3_corner_69 : decode cX3_corner 69 = .ok (.getfield 191, 3) := dk_180 0 191 (dk_at dksX3_corner_3 0 rfl rfl)
theorem dX3_corner_72 : decode cX3_corner 72 = .ok (.iload_n 2, 1) := dk_28 (dk_at dksX3_corner_3 3 rfl rfl)
theorem dX3_corner_73 : decode cX3_corner 73 = .ok (.iastore, 1) := dk_79 (dk_at dksX3_corner_3 4 rfl rfl)
theorem dX3_corner_74 : decode cX3_corner 74 = .ok (.aload_n 0, 1) := dk_42 (dk_at dksX3_corner_3 5 rfl rfl)
theorem dX3_corner_75 : decode cX3_corner 75 = .ok (.getfield 16, 3) := dk_180 0 16 (dk_at dksX3_corner_3 6 rfl rfl)
theorem dX3_corner_78 : decode cX3_corner 78 = .ok (.aload_n 0, 1) := dk_42 (dk_at dksX3_corner_3 9 rfl rfl)
theorem dX3_corner_79 : decode cX3_corner 79 = .ok (.getfield 191, 3) := dk_180 0 191 (dk_at dksX3_corner_3 10 rfl rfl)
theorem dX3_corner_82 : decode cX3_corner 82 = .ok (.iload_n 3, 1) := dk_29 (dk_at dksX3_corner_3 13 rfl rfl)
theorem dX3_corner_83 : decode cX3_corner 83 = .ok (.iastore, 1) := dk_79 (dk_at dksX3_corner_3 14 rfl rfl)
theorem dX3_corner_84 : decode cX3_corner 84 = .ok (.aload_n 0, 1) := dk_42 (dk_at dksX3_corner_3 15 rfl rfl)
theorem dX3_corner_85 : decode cX3_corner 85 = .ok (.getfield 19, 3) := dk_180 0 19 (dk_at dksX3_corner_3 16 rfl rfl)
theorem dX3_corner_88 : decode cX3_corner 88 = .ok (.aload_n 0, 1) := dk_42 (dk_at dksX3_corner_3 19 rfl rfl)
theorem dX3_corner_89 : decode cX3_corner 89 = .ok (.getfield 191, 3) := dk_180 0 191 (dk_at dksX3_corner_3 20 rfl rfl)
theorem dX3_corner_92 : decode cX3_corner 92 = .ok (.iload 4, 2) := dk_21 4 (dk_at dksX3_corner_4 0 rfl rfl)
theorem dX3_corner_94 : decode cX3_corner 94 = .ok (.iastore, 1) := dk_79 (dk_at dksX3_corner_4 2 rfl rfl)
theorem dX3_corner_95 : decode cX3_corner 95 = .ok (.aload_n 0, 1) := dk_42 (dk_at dksX3_corner_4 3 rfl rfl)
theorem dX3_corner_96 : decode cX3_corner 96 = .ok (.getfield 22, 3) := dk_180 0 22 (dk_at dksX3_corner_4 4 rfl rfl)
theorem dX3_corner_99 : decode cX3_corner 99 = .ok (.aload_n 0, 1) := dk_42 (dk_at dksX3_corner_4 7 rfl rfl)
theorem dX3_corner_100 : decode cX3_corner 100 = .ok (.getfield 191, 3) := dk_180 0 191 (dk_at dksX3_corner_4 8 rfl rfl)
theorem dX3_corner_103 : decode cX3_corner 103 = .ok (.iconst (-1), 1) := dk_2 (dk_at dksX3_corner_4 11 rfl rfl)
theorem dX3_corner_104 : decode cX3_corner 104 = .ok (.iastore, 1) := dk_79 (dk_at dksX3_corner_4 12 rfl rfl)
theorem dX3_corner_105 : decode cX3_corner 105 = .ok (.aload_n 0, 1) := dk_42 (dk_at dksX3_corner_4 13 rfl rfl)
theorem dX3_corner_106 : decode cX3_corner 106 = .ok (.dup, 1) := dk_89 (dk_at dksX3_corner_4 14 rfl rfl)
theorem dX3_corner_107 : decode cX3_corner 107 = .ok (.getfield 191, 3) := dk_180 0 191 (dk_at dksX3_corner_4 15 rfl rfl)
theorem dX3_corner_110 : decode cX3_corner 110 = .ok (.iconst 1, 1) := dk_4 (dk_at dksX3_corner_4 18 rfl rfl)
theorem dX3_corner_111 : decode cX3_corner 111 = .ok (.iadd, 1) := dk_96 (dk_at dksX3_corner_4 19 rfl rfl)
theorem dX3_corner_112 : decode cX3_corner 112 = .ok (.putfield 191, 3) := dk_181 0 191 (dk_at dksX3_corner_4 20 rfl rfl)
theorem dX3_corner_115 : decode cX3_corner 115 = .ok (.aload_n 0, 1) := dk_42 (dk_at dksX3_corner_4 23 rfl rfl)
theorem dX3_corner_116 : decode cX3_corner 116 = .ok (.getfield 191, 3) := dk_180 0 191 (dk_at dksX3_corner_5 0 rfl rfl)
theorem dX3_corner_119 : decode cX3_corner 119 = .ok (.iconst 1, 1) := dk_4 (dk_at dksX3_corner_5 3 rfl rfl)
theorem dX3_corner_120 : decode cX3_corner 120 = .ok (.isub, 1) := dk_100 (dk_at dksX3_corner_5 4 rfl rfl)
theorem dX3_corner_121 : decode cX3_corner 121 = .ok (.ireturn, 1) := dk_172 (dk_at dksX3_corner_5 5 rfl rfl)
def dkwX3_isIn_0 : List UInt8 := [26, 27, 161, 0, 12, 26, 28, 163, 0, 7, 4, 167, 0, 4, 3, 172]
abbrev dktX3_isIn_0 : List UInt8 := dkwX3_isIn_0 ++ []
theorem dksX3_isIn_0 : cX3_isIn.data.toList.drop 0 = dktX3_isIn_0 := by decide +kernel
theorem dX3_isIn_0 : decode cX3_isIn 0 = .ok (.iload_n 0, 1) := dk_26 (dk_at dksX3_isIn_0 0 rfl rfl)
theorem dX3_isIn_1 : decode cX3_isIn 1 = .ok (.iload_n 1, 1) := dk_27 (dk_at dksX3_isIn_0 1 rfl rfl)
theorem dX3_isIn_2 : decode cX3_isIn 2 = .ok (.if_icmp .lt 12, 3) := dk_161 0 12 (dk_at dksX3_isIn_0 2 rfl rfl)
theorem dX3_isIn_5 : decode cX3_isIn 5 = .ok (.iload_n 0, 1) := dk_26 (dk_at dksX3_isIn_0 5 rfl rfl)
theorem dX3_isIn_6 : decode cX3_isIn 6 = .ok (.iload_n 2, 1) := dk_28 (dk_at dksX3_isIn_0 6 rfl rfl)
theorem dX3_isIn_7 : decode cX3_isIn 7 = .ok (.if_icmp .gt 7, 3) := dk_163 0 7 (dk_at dksX3_isIn_0 7 rfl rfl)
theorem dX3_isIn_10 : decode cX3_isIn 10 = .ok (.iconst 1, 1) := dk_4 (dk_at dksX3_isIn_0 10 rfl rfl)
theorem dX3_isIn_11 : decode cX3_isIn 11 = .ok (.goto 4, 3) := dk_167 0 4 (dk_at dksX3_isIn_0 11 rfl rfl)
theorem dX3_isIn_14 : decode cX3_isIn 14 = .ok (.iconst 0, 1) := dk_3 (dk_at dksX3_isIn_0 14 rfl rfl)
theorem dX3_isIn_15 : decode cX3_isIn 15 = .ok (.ireturn, 1) := dk_172 (dk_at dksX3_isIn_0 15 rfl rfl)
def dkwX3_below_1 : List UInt8 := [163, 0, 5, 3, 172, 42, 180, 0, 22, 27, 28, 79, 4, 172]
abbrev dktX3_below_1 : List UInt8 := dkwX3_below_1 ++ []
def dkwX3_below_0 : List UInt8 := [42, 27, 182, 0, 198, 153, 0, 21, 28, 2, 159, 0, 18, 42, 28, 182, 0, 198, 153, 0, 8, 28, 27]
abbrev dktX3_below_0 : List UInt8 := dkwX3_below_0 ++ dktX3_below_1
theorem dksX3_below_0 : cX3_below.data.toList.drop 0 = dktX3_below_0 := by decide +kernel
theorem dksX3_below_1 : cX3_below.data.toList.drop 23 = dktX3_below_1 := dk_seg dksX3_below_0 23 rfl rfl
theorem dX3_below_0 : decode cX3_below 0 = .ok (.aload_n 0, 1) := dk_42 (dk_at dksX3_below_0 0 rfl rfl)
theorem dX3_below_1 : decode cX3_below 1 = .ok (.iload_n 1, 1) := dk_27 (dk_at dksX3_below_0 1 rfl rfl)
theorem dX3_below_2 : decode cX3_below 2 = .ok (.invokevirtual 198, 3) := dk_182 0 198 (dk_at dksX3_below_0 2 rfl rfl)
theorem dX3_below_5 : decode cX3_below 5 = .ok (.ifCond .eq 21, 3) := dk_153 0 21 (dk_at dksX3_below_0 5 rfl rfl)
theorem dX3_below_8 : decode cX3_below 8 = .ok (.iload_n 2, 1) := dk_28 (dk_at dksX3_below_0 8 rfl rfl)
theorem dX3_below_9 : decode cX3_below 9 = .ok (.iconst (-1), 1) := dk_2 (dk_at dksX3_below_0 9 rfl rfl)
theorem dX3_below_10 : decode cX3_below 10 = .ok (.if_icmp .eq 18, 3) := dk_159 0 18 (dk_at dksX3_below_0 10 rfl rfl)
theorem dX3_below_13 : decode cX3_below 13 = .ok (.aload_n 0, 1) := dk_42 (dk_at dksX3_below_0 13 rfl rfl)
theorem dX3_below_14 : decode cX3_below 14 = .ok (.iload_n 2, 1) := dk_28 (dk_at dksX3_below_0 14 rfl rfl)
theorem dX3_below_15 : decode cX3_below 15 = .ok (.invokevirtual 198, 3) := dk_182 0 198 (dk_at dksX3_below_0 15 rfl rfl)
theorem dX3_below_18 : decode cX3_below 18 = .ok (.ifCond .eq 8, 3) := dk_153 0 8 (dk_at dksX3_below_0 18 rfl rfl)
theorem dX3_below_21 : decode cX3_below 21 = .ok (.iload_n 2, 1) := dk_28 (dk_at dksX3_below_0 21 rfl rfl)
theorem dX3_below_22 : decode cX3_below 22 = .ok (.iload_n 1, 1) := dk_27 (dk_at dksX3_below_0 22 rfl rfl)
theorem dX3_below_23 : decode cX3_below 23 = .ok (.if_icmp .gt 5, 3) := dk_163 0 5 (dk_at dksX3_below_1 0 rfl rfl)
theorem dX3_below_26 : decode cX3_below 26 = .ok (.iconst 0, 1) := dk_3 (dk_at dksX3_below_1 3 rfl rfl)
theorem dX3_below_27 : decode cX3_below 27 = .ok (.ireturn, 1) := dk_172 (dk_at dksX3_below_1 4 rfl rfl)
theorem dX3_below_28 : decode cX3_below 28 = .ok (.aload_n 0, 1) := dk_42 (dk_at dksX3_below_1 5 rfl rfl)
theorem dX3_below_29 : decode cX3_below 29 = .ok (.getfield 22, 3) := dk_180 0 22 (dk_at dksX3_below_1 6 rfl rfl)
theorem dX3_below_32 : decode cX3_below 32 = .ok (.iload_n 1, 1) := dk_27 (dk_at dksX3_below_1 9 rfl rfl)
theorem dX3_below_33 : decode cX3_below 33 = .ok (.iload_n 2, 1) := dk_28 (dk_at dksX3_below_1 10 rfl rfl)
theorem dX3_below_34 : decode cX3_below 34 = .ok (.iastore, 1) := dk_79 (dk_at dksX3_below_1 11 rfl rfl)
theorem dX3_below_35 : decode cX3_below 35 = .ok (.iconst 1, 1) := dk_4 (dk_at dksX3_below_1 12 rfl rfl)
theorem dX3_below_36 : decode cX3_below 36 = .ok (.ireturn, 1) := dk_172 (dk_at dksX3_below_1 13 rfl rfl)
def dkwX3_isCorner_0 : List UInt8 := [27, 3, 42, 180, 0, 191, 4, 100, 184, 0, 194, 172]
abbrev dktX3_isCorner_0 : List UInt8 := dkwX3_isCorner_0 ++ []
theorem dksX3_isCorner_0 : cX3_isCorner.data.toList.drop 0 = dktX3_isCorner_0 := by decide +kernel
theorem dX3_isCorner_0 : decode cX3_isCorner 0 = .ok (.iload_n 1, 1) := dk_27 (dk_at dksX3_isCorner_0 0 rfl rfl)
theorem dX3_isCorner_1 : decode cX3_isCorner 1 = .ok (.iconst 0, 1) := dk_3 (dk_at dksX3_isCorner_0 1 rfl rfl)
theorem dX3_isCorner_2 : decode cX3_isCorner 2 = .ok (.aload_n 0, 1) := dk_42 (dk_at dksX3_isCorner_0 2 rfl rfl)
theorem dX3_isCorner_3 : decode cX3_isCorner 3 = .ok (.getfield 191, 3) := dk_180 0 191 (dk_at dksX3_isCorner_0 3 rfl rfl)
theorem dX3_isCorner_6 : decode cX3_isCorner 6 = .ok (.iconst 1, 1) := dk_4 (dk_at dksX3_isCorner_0 6 rfl rfl)
theorem dX3_isCorner_7 : decode cX3_isCorner 7 = .ok (.isub, 1) := dk_100 (dk_at dksX3_isCorner_0 7 rfl rfl)
theorem dX3_isCorner_8 : decode cX3_isCorner 8 = .ok (.invokestatic 194, 3) := dk_184 0 194 (dk_at dksX3_isCorner_0 8 rfl rfl)
theorem dX3_isCorner_11 : decode cX3_isCorner 11 = .ok (.ireturn, 1) := dk_172 (dk_at dksX3_isCorner_0 11 rfl rfl)
def dkwX3_roof_4 : List UInt8 := [180, 0, 202, 4, 96, 181, 0, 202, 42, 180, 0, 202, 4, 100, 172]
abbrev dktX3_roof_4 : List UInt8 := dkwX3_roof_4 ++ []
def dkwX3_roof_3 : List UInt8 := [79, 42, 180, 0, 71, 42, 180, 0, 202, 29, 79, 42, 180, 0, 74, 42, 180, 0, 202, 21, 4, 79, 42, 89]
abbrev dktX3_roof_3 : List UInt8 := dkwX3_roof_3 ++ dktX3_roof_4
def dkwX3_roof_2 : List UInt8 := [160, 0, 5, 2, 172, 42, 180, 0, 65, 42, 180, 0, 202, 27, 79, 42, 180, 0, 68, 42, 180, 0, 202, 28]
abbrev dktX3_roof_2 : List UInt8 := dkwX3_roof_2 ++ dktX3_roof_3
def dkwX3_roof_1 : List UInt8 := [184, 0, 194, 153, 0, 24, 21, 4, 3, 17, 0, 200, 184, 0, 194, 153, 0, 12, 42, 180, 0, 202, 16, 30]
abbrev dktX3_roof_1 : List UInt8 := dkwX3_roof_1 ++ dktX3_roof_2
def dkwX3_roof_0 : List UInt8 := [42, 27, 182, 0, 198, 153, 0, 44, 28, 3, 16, 19, 184, 0, 194, 153, 0, 34, 29, 4, 16, 50]
abbrev dktX3_roof_0 : List UInt8 := dkwX3_roof_0 ++ dktX3_roof_1
theorem dksX3_roof_0 : cX3_roof.data.toList.drop 0 = dktX3_roof_0 := by decide +kernel
theorem dksX3_roof_1 : cX3_roof.data.toList.drop 22 = dktX3_roof_1 := dk_seg dksX3_roof_0 22 rfl rfl
theorem dksX3_roof_2 : cX3_roof.data.toList.drop 46 = dktX3_roof_2 := dk_seg dksX3_roof_1 24 rfl rfl
theorem dksX3_roof_3 : cX3_roof.data.toList.drop 70 = dktX3_roof_3 := dk_seg dksX3_roof_2 24 rfl rfl
theorem dksX3_roof_4 : cX3_roof.data.toList.drop 94 = dktX3_roof_4 := dk_seg dksX3_roof_3 24 rfl rfl
theorem dX3_roof_0 : decode cX3_roof 0 = .ok (.aload_n 0, 1) := dk_42 (dk_at dksX3_roof_0 0 rfl rfl)
theorem dX3_roof_1 : decode cX3_roof 1 = .ok (.iload_n 1, 1) := dk_27 (dk_at dksX3_roof_0 1 rfl rfl)
theorem dX3_roof_2 : decode cX3_roof 2 = .ok (.invokevirtual 198, 3) := dk_182 0 198 (dk_at dksX3_roof_0 2 rfl rfl)
theorem dX3_roof_5 : decode cX3_roof 5 = .ok (.ifCond .eq 44, 3) := dk_153 0 44 (dk_at dksX3_roof_0 5 rfl rfl)
theorem dX3_roof_8 : decode cX3_roof 8 = .ok (.iload_n 2, 1) := dk_28 (dk_at dksX3_roof_0 8 rfl rfl)
theorem dX3_roof_9 : decode cX3_roof 9 = .ok (.iconst 0, 1) := dk_3 (dk_at dksX3_roof_0 9 rfl rfl)
theorem dX3_roof_10 : decode cX3_roof 10 = .ok (.bipush 19, 2) := dk_16 19 (dk_at dksX3_roof_0 10 rfl rfl)
theorem dX3_roof_12 : decode cX3_roof 12 = .ok (.invokestatic 194, 3) := dk_184 0 194 (dk_at dksX3_roof_0 12 rfl rfl)
theorem dX3_roof_15 : decode cX3_roof 15 = .ok (.ifCond .eq 34, 3) := dk_153 0 34 (dk_at dksX3_roof_0 15 rfl rfl)
theorem dX3_roof_18 : decode cX3_roof 18 = .ok (.iload_n 3, 1) := dk_29 (dk_at dksX3_roof_0 18 rfl rfl)
theorem dX3_roof_19 : decode cX3_roof 19 = .ok (.iconst 1, 1) := dk_4 (dk_at dksX3_roof_0 19 rfl rfl)
theorem dX3_roof_20 : decode cX3_roof 20 = .ok (.bipush 50, 2) := dk_16 50 (dk_at dksX3_roof_0 20 rfl rfl)
theorem dX3_roof_22 : decode cX3_roof 22 = .ok (.invokestatic 194, 3) := dk_184 0 194 (dk_at dksX3_roof_1 0 rfl rfl)
theorem dX3_roof_25 : decode cX3_roof 25 = .ok (.ifCond .eq 24, 3) := dk_153 0 24 (dk_at dksX3_roof_1 3 rfl rfl)
theorem dX3_roof_28 : decode cX3_roof 28 = .ok (.iload 4, 2) := dk_21 4 (dk_at dksX3_roof_1 6 rfl rfl)
theorem dX3_roof_30 : decode cX3_roof 30 = .ok (.iconst 0, 1) := dk_3 (dk_at dksX3_roof_1 8 rfl rfl)
theorem dX3_roof_31 : decode cX3_roof 31 = .ok (.sipush 200, 3) := dk_17 0 200 (dk_at dksX3_roof_1 9 rfl rfl)
theorem dX3_roof_34 : decode cX3_roof 34 = .ok (.invokestatic 194, 3) := dk_184 0 194 (dk_at dksX3_roof_1 12 rfl rfl)
theorem dX3_roof_37 : decode cX3_roof 37 = .ok (.ifCond .eq 12, 3) := dk_153 0 12 (dk_at dksX3_roof_1 15 rfl rfl)
theorem dX3_roof_40 : decode cX3_roof 40 = .ok (.aload_n 0, 1) := dk_42 (dk_at dksX3_roof_1 18 rfl rfl)
theorem dX3_roof_41 : decode cX3_roof 41 = .ok (.getfield 202, 3) := dk_180 0 202 (dk_at dksX3_roof_1 19 rfl rfl)
theorem dX3_roof_44 : decode cX3_roof 44 = .ok (.bipush 30, 2) := dk_16 30 (dk_at dksX3_roof_1 22 rfl rfl)
theorem dX3_roof_46 : decode cX3_roof 46 = .ok (.if_icmp .ne 5, 3) := dk_160 0 5 (dk_at dksX3_roof_2 0 rfl rfl)
theorem dX3_roof_49 : decode cX3_roof 49 = .ok (.iconst (-1), 1) := dk_2 (dk_at dksX3_roof_2 3 rfl rfl)
theorem dX3_roof_50 : decode cX3_roof 50 = .ok (.ireturn, 1) := dk_172 (dk_at dksX3_roof_2 4 rfl rfl)
theorem dX3_roof_51 : decode cX3_roof 51 = .ok (.aload_n 0, 1) := dk_42 (dk_at dksX3_roof_2 5 rfl rfl)
theorem dX3_roof_52 : decode cX3_roof 52 = .ok (.getfield 65, 3) := dk_180 0 65 (dk_at dksX3_roof_2 6 rfl rfl)
theorem dX3_roof_55 : decode cX3_roof 55 = .ok (.aload_n 0, 1) := dk_42 (dk_at dksX3_roof_2 9 rfl rfl)
theorem dX3_roof_56 : decode cX3_roof 56 = .ok (.getfield 202, 3) := dk_180 0 202 (dk_at dksX3_roof_2 10 rfl rfl)
theorem dX3_roof_59 : decode cX3_roof 59 = .ok (.iload_n 1, 1) := dk_27 (dk_at dksX3_roof_2 13 rfl rfl)
theorem dX3_roof_60 : decode cX3_roof 60 = .ok (.iastore, 1) := dk_79 (dk_at dksX3_roof_2 14 rfl rfl)
theorem dX3_roof_61 : decode cX3_roof 61 = .ok (.aload_n 0, 1) := dk_42 (dk_at dksX3_roof_2 15 rfl rfl)
theorem dX3_roof_62 : decode cX3_roof 62 = .ok (.getfield 68, 3) := dk_180 0 68 (dk_at dksX3_roof_2 16 rfl rfl)
theorem dX3_roof_65 : decode cX3_roof 65 = .ok (.aload_n 0, 1) := dk_42 (dk_at dksX3_roof_2 19 rfl rfl)
theorem dX3_roof_66 : decode cX3_roof 66 = .ok (.getfield 202, 3) := dk_180 0 202 (dk_at dksX3_roof_2 20 rfl rfl)
theorem dX3_roof_69 : decode cX3_roof 69 = .ok (.iload_n 2, 1) := dk_28 (dk_at dksX3_roof_2 23 rfl rfl)
theorem dX3_roof_70 : decode cX3_roof 70 = .ok (.iastore, 1) := dk_79 (dk_at dksX3_roof_3 0 rfl rfl)
theorem dX3_roof_71 : decode cX3_roof 71 = .ok (.aload_n 0, 1) := dk_42 (dk_at dksX3_roof_3 1 rfl rfl)
theorem dX3_roof_72 : decode cX3_roof 72 = .ok (.getfield 71, 3) := dk_180 0 71 (dk_at dksX3_roof_3 2 rfl rfl)
theorem dX3_roof_75 : decode cX3_roof 75 = .ok (.aload_n 0, 1) := dk_42 (dk_at dksX3_roof_3 5 rfl rfl)
theorem dX3_roof_76 : decode cX3_roof 76 = .ok (.getfield 202, 3) := dk_180 0 202 (dk_at dksX3_roof_3 6 rfl rfl)
theorem dX3_roof_79 : decode cX3_roof 79 = .ok (.iload_n 3, 1) := dk_29 (dk_at dksX3_roof_3 9 rfl rfl)
theorem dX3_roof_80 : decode cX3_roof 80 = .ok (.iastore, 1) := dk_79 (dk_at dksX3_roof_3 10 rfl rfl)
theorem dX3_roof_81 : decode cX3_roof 81 = .ok (.aload_n 0, 1) := dk_42 (dk_at dksX3_roof_3 11 rfl rfl)
theorem dX3_roof_82 : decode cX3_roof 82 = .ok (.getfield 74, 3) := dk_180 0 74 (dk_at dksX3_roof_3 12 rfl rfl)
theorem dX3_roof_85 : decode cX3_roof 85 = .ok (.aload_n 0, 1) := dk_42 (dk_at dksX3_roof_3 15 rfl rfl)
theorem dX3_roof_86 : decode cX3_roof 86 = .ok (.getfield 202, 3) := dk_180 0 202 (dk_at dksX3_roof_3 16 rfl rfl)
theorem dX3_roof_89 : decode cX3_roof 89 = .ok (.iload 4, 2) := dk_21 4 (dk_at dksX3_roof_3 19 rfl rfl)
theorem dX3_roof_91 : decode cX3_roof 91 = .ok (.iastore, 1) := dk_79 (dk_at dksX3_roof_3 21 rfl rfl)
theorem dX3_roof_92 : decode cX3_roof 92 = .ok (.aload_n 0, 1) := dk_42 (dk_at dksX3_roof_3 22 rfl rfl)
theorem dX3_roof_93 : decode cX3_roof 93 = .ok (.dup, 1) := dk_89 (dk_at dksX3_roof_3 23 rfl rfl)
theorem dX3_roof_94 : decode cX3_roof 94 = .ok (.getfield 202, 3) := dk_180 0 202 (dk_at dksX3_roof_4 0 rfl rfl)
theorem dX3_roof_97 : decode cX3_roof 97 = .ok (.iconst 1, 1) := dk_4 (dk_at dksX3_roof_4 3 rfl rfl)
theorem dX3_roof_98 : decode cX3_roof 98 = .ok (.iadd, 1) := dk_96 (dk_at dksX3_roof_4 4 rfl rfl)
theorem dX3_roof_99 : decode cX3_roof 99 = .ok (.putfield 202, 3) := dk_181 0 202 (dk_at dksX3_roof_4 5 rfl rfl)
theorem dX3_roof_102 : decode cX3_roof 102 = .ok (.aload_n 0, 1) := dk_42 (dk_at dksX3_roof_4 8 rfl rfl)
theorem dX3_roof_103 : decode cX3_roof 103 = .ok (.getfield 202, 3) := dk_180 0 202 (dk_at dksX3_roof_4 9 rfl rfl)
theorem dX3_roof_106 : decode cX3_roof 106 = .ok (.iconst 1, 1) := dk_4 (dk_at dksX3_roof_4 12 rfl rfl)
theorem dX3_roof_107 : decode cX3_roof 107 = .ok (.isub, 1) := dk_100 (dk_at dksX3_roof_4 13 rfl rfl)
theorem dX3_roof_108 : decode cX3_roof 108 = .ok (.ireturn, 1) := dk_172 (dk_at dksX3_roof_4 14 rfl rfl)
def dkwX3_lot_1 : List UInt8 := [180, 0, 83, 27, 28, 79, 4, 172]
abbrev dktX3_lot_1 : List UInt8 := dkwX3_lot_1 ++ []
def dkwX3_lot_0 : List UInt8 := [27, 3, 16, 9, 184, 0, 194, 153, 0, 13, 28, 4, 16, 100, 184, 0, 194, 154, 0, 5, 3, 172, 42]
abbrev dktX3_lot_0 : List UInt8 := dkwX3_lot_0 ++ dktX3_lot_1
theorem dksX3_lot_0 : cX3_lot.data.toList.drop 0 = dktX3_lot_0 := by decide +kernel
theorem dksX3_lot_1 : cX3_lot.data.toList.drop 23 = dktX3_lot_1 := dk_seg dksX3_lot_0 23 rfl rfl
theorem dX3_lot_0 : decode cX3_lot 0 = .ok (.iload_n 1, 1) := dk_27 (dk_at dksX3_lot_0 0 rfl rfl)
theorem dX3_lot_1 : decode cX3_lot 1 = .ok (.iconst 0, 1) := dk_3 (dk_at dksX3_lot_0 1 rfl rfl)
theorem dX3_lot_2 : decode cX3_lot 2 = .ok (.bipush 9, 2) := dk_16 9 (dk_at dksX3_lot_0 2 rfl rfl)
theorem dX3_lot_4 : decode cX3_lot 4 = .ok (.invokestatic 194, 3) := dk_184 0 194 (dk_at dksX3_lot_0 4 rfl rfl)
theorem dX3_lot_7 : decode cX3_lot 7 = .ok (.ifCond .eq 13, 3) := dk_153 0 13 (dk_at dksX3_lot_0 7 rfl rfl)
theorem dX3_lot_10 : decode cX3_lot 10 = .ok (.iload_n 2, 1) := dk_28 (dk_at dksX3_lot_0 10 rfl rfl)
theorem dX3_lot_11 : decode cX3_lot 11 = .ok (.iconst 1, 1) := dk_4 (dk_at dksX3_lot_0 11 rfl rfl)
theorem dX3_lot_12 : decode cX3_lot 12 = .ok (.bipush 100, 2) := dk_16 100 (dk_at dksX3_lot_0 12 rfl rfl)
theorem dX3_lot_14 : decode cX3_lot 14 = .ok (.invokestatic 194, 3) := dk_184 0 194 (dk_at dksX3_lot_0 14 rfl rfl)
theorem dX3_lot_17 : decode cX3_lot 17 = .ok (.ifCond .ne 5, 3) := dk_154 0 5 (dk_at dksX3_lot_0 17 rfl rfl)
theorem dX3_lot_20 : decode cX3_lot 20 = .ok (.iconst 0, 1) := dk_3 (dk_at dksX3_lot_0 20 rfl rfl)
theorem dX3_lot_21 : decode cX3_lot 21 = .ok (.ireturn, 1) := dk_172 (dk_at dksX3_lot_0 21 rfl rfl)
theorem dX3_lot_22 : decode cX3_lot 22 = .ok (.aload_n 0, 1) := dk_42 (dk_at dksX3_lot_0 22 rfl rfl)
theorem dX3_lot_23 : decode cX3_lot 23 = .ok (.getfield 83, 3) := dk_180 0 83 (dk_at dksX3_lot_1 0 rfl rfl)
theorem dX3_lot_26 : decode cX3_lot 26 = .ok (.iload_n 1, 1) := dk_27 (dk_at dksX3_lot_1 3 rfl rfl)
theorem dX3_lot_27 : decode cX3_lot 27 = .ok (.iload_n 2, 1) := dk_28 (dk_at dksX3_lot_1 4 rfl rfl)
theorem dX3_lot_28 : decode cX3_lot 28 = .ok (.iastore, 1) := dk_79 (dk_at dksX3_lot_1 5 rfl rfl)
theorem dX3_lot_29 : decode cX3_lot 29 = .ok (.iconst 1, 1) := dk_4 (dk_at dksX3_lot_1 6 rfl rfl)
theorem dX3_lot_30 : decode cX3_lot 30 = .ok (.ireturn, 1) := dk_172 (dk_at dksX3_lot_1 7 rfl rfl)
def dkwX3_bed_5 : List UInt8 := [180, 0, 62, 16, 11, 27, 104, 21, 5, 96, 2, 79, 132, 5, 1, 167, 255, 233, 4, 172]
abbrev dktX3_bed_5 : List UInt8 := dkwX3_bed_5 ++ []
def dkwX3_bed_4 : List UInt8 := [27, 42, 180, 0, 212, 79, 42, 180, 0, 59, 27, 2, 79, 3, 54, 5, 21, 5, 16, 10, 163, 0, 22, 42]
abbrev dktX3_bed_4 : List UInt8 := dkwX3_bed_4 ++ dktX3_bed_5
def dkwX3_bed_3 : List UInt8 := [180, 0, 32, 27, 4, 84, 42, 180, 0, 35, 27, 28, 79, 42, 180, 0, 38, 27, 29, 79, 42, 180, 0, 41]
abbrev dktX3_bed_3 : List UInt8 := dkwX3_bed_3 ++ dktX3_bed_4
def dkwX3_bed_2 : List UInt8 := [182, 0, 209, 164, 0, 5, 3, 172, 42, 180, 0, 25, 27, 4, 84, 42, 180, 0, 29, 27, 21, 4, 84, 42]
abbrev dktX3_bed_2 : List UInt8 := dkwX3_bed_2 ++ dktX3_bed_3
def dkwX3_bed_1 : List UInt8 := [153, 0, 29, 29, 4, 17, 1, 244, 184, 0, 194, 153, 0, 18, 42, 4, 27, 120, 182, 0, 205, 42, 7]
abbrev dktX3_bed_1 : List UInt8 := dkwX3_bed_1 ++ dktX3_bed_2
def dkwX3_bed_0 : List UInt8 := [42, 27, 182, 0, 198, 153, 0, 48, 42, 180, 0, 25, 27, 51, 154, 0, 39, 28, 3, 16, 9, 184, 0, 194]
abbrev dktX3_bed_0 : List UInt8 := dkwX3_bed_0 ++ dktX3_bed_1
theorem dksX3_bed_0 : cX3_bed.data.toList.drop 0 = dktX3_bed_0 := by decide +kernel
theorem dksX3_bed_1 : cX3_bed.data.toList.drop 24 = dktX3_bed_1 := dk_seg dksX3_bed_0 24 rfl rfl
theorem dksX3_bed_2 : cX3_bed.data.toList.drop 47 = dktX3_bed_2 := dk_seg dksX3_bed_1 23 rfl rfl
theorem dksX3_bed_3 : cX3_bed.data.toList.drop 71 = dktX3_bed_3 := dk_seg dksX3_bed_2 24 rfl rfl
theorem dksX3_bed_4 : cX3_bed.data.toList.drop 95 = dktX3_bed_4 := dk_seg dksX3_bed_3 24 rfl rfl
theorem dksX3_bed_5 : cX3_bed.data.toList.drop 119 = dktX3_bed_5 := dk_seg dksX3_bed_4 24 rfl rfl
theorem dX3_bed_0 : decode cX3_bed 0 = .ok (.aload_n 0, 1) := dk_42 (dk_at dksX3_bed_0 0 rfl rfl)
theorem dX3_bed_1 : decode cX3_bed 1 = .ok (.iload_n 1, 1) := dk_27 (dk_at dksX3_bed_0 1 rfl rfl)
theorem dX3_bed_2 : decode cX3_bed 2 = .ok (.invokevirtual 198, 3) := dk_182 0 198 (dk_at dksX3_bed_0 2 rfl rfl)
theorem dX3_bed_5 : decode cX3_bed 5 = .ok (.ifCond .eq 48, 3) := dk_153 0 48 (dk_at dksX3_bed_0 5 rfl rfl)
theorem dX3_bed_8 : decode cX3_bed 8 = .ok (.aload_n 0, 1) := dk_42 (dk_at dksX3_bed_0 8 rfl rfl)
theorem dX3_bed_9 : decode cX3_bed 9 = .ok (.getfield 25, 3) := dk_180 0 25 (dk_at dksX3_bed_0 9 rfl rfl)
theorem dX3_bed_12 : decode cX3_bed 12 = .ok (.iload_n 1, 1) := dk_27 (dk_at dksX3_bed_0 12 rfl rfl)
theorem dX3_bed_13 : decode cX3_bed 13 = .ok (.baload, 1) := dk_51 (dk_at dksX3_bed_0 13 rfl rfl)
theorem dX3_bed_14 : decode cX3_bed 14 = .ok (.ifCond .ne 39, 3) := dk_154 0 39 (dk_at dksX3_bed_0 14 rfl rfl)
theorem dX3_bed_17 : decode cX3_bed 17 = .ok (.iload_n 2, 1) := dk_28 (dk_at dksX3_bed_0 17 rfl rfl)
theorem dX3_bed_18 : decode cX3_bed 18 = .ok (.iconst 0, 1) := dk_3 (dk_at dksX3_bed_0 18 rfl rfl)
theorem dX3_bed_19 : decode cX3_bed 19 = .ok (.bipush 9, 2) := dk_16 9 (dk_at dksX3_bed_0 19 rfl rfl)
theorem dX3_bed_21 : decode cX3_bed 21 = .ok (.invokestatic 194, 3) := dk_184 0 194 (dk_at dksX3_bed_0 21 rfl rfl)
theorem dX3_bed_24 : decode cX3_bed 24 = .ok (.ifCond .eq 29, 3) := dk_153 0 29 (dk_at dksX3_bed_1 0 rfl rfl)
theorem dX3_bed_27 : decode cX3_bed 27 = .ok (.iload_n 3, 1) := dk_29 (dk_at dksX3_bed_1 3 rfl rfl)
theorem dX3_bed_28 : decode cX3_bed 28 = .ok (.iconst 1, 1) := dk_4 (dk_at dksX3_bed_1 4 rfl rfl)
theorem dX3_bed_29 : decode cX3_bed 29 = .ok (.sipush 500, 3) := dk_17 1 244 (dk_at dksX3_bed_1 5 rfl rfl)
theorem dX3_bed_32 : decode cX3_bed 32 = .ok (.invokestatic 194, 3) := dk_184 0 194 (dk_at dksX3_bed_1 8 rfl rfl)
theorem dX3_bed_35 : decode cX3_bed 35 = .ok (.ifCond .eq 18, 3) := dk_153 0 18 (dk_at dksX3_bed_1 11 rfl rfl)
theorem dX3_bed_38 : decode cX3_bed 38 = .ok (.aload_n 0, 1) := dk_42 (dk_at dksX3_bed_1 14 rfl rfl)
theorem dX3_bed_39 : decode cX3_bed 39 = .ok (.iconst 1, 1) := dk_4 (dk_at dksX3_bed_1 15 rfl rfl)
theorem dX3_bed_40 : decode cX3_bed 40 = .ok (.iload_n 1, 1) := dk_27 (dk_at dksX3_bed_1 16 rfl rfl)
theorem dX3_bed_41 : decode cX3_bed 41 = .ok (.ishl, 1) := dk_120 (dk_at dksX3_bed_1 17 rfl rfl)
theorem dX3_bed_42 : decode cX3_bed 42 = .ok (.invokevirtual 205, 3) := dk_182 0 205 (dk_at dksX3_bed_1 18 rfl rfl)
theorem dX3_bed_45 : decode cX3_bed 45 = .ok (.aload_n 0, 1) := dk_42 (dk_at dksX3_bed_1 21 rfl rfl)
theorem dX3_bed_46 : decode cX3_bed 46 = .ok (.iconst 4, 1) := dk_7 (dk_at dksX3_bed_1 22 rfl rfl)
theorem dX3_bed_47 : decode cX3_bed 47 = .ok (.invokevirtual 209, 3) := dk_182 0 209 (dk_at dksX3_bed_2 0 rfl rfl)
theorem dX3_bed_50 : decode cX3_bed 50 = .ok (.if_icmp .le 5, 3) := dk_164 0 5 (dk_at dksX3_bed_2 3 rfl rfl)
theorem dX3_bed_53 : decode cX3_bed 53 = .ok (.iconst 0, 1) := dk_3 (dk_at dksX3_bed_2 6 rfl rfl)
theorem dX3_bed_54 : decode cX3_bed 54 = .ok (.ireturn, 1) := dk_172 (dk_at dksX3_bed_2 7 rfl rfl)
theorem dX3_bed_55 : decode cX3_bed 55 = .ok (.aload_n 0, 1) := dk_42 (dk_at dksX3_bed_2 8 rfl rfl)
theorem dX3_bed_56 : decode cX3_bed 56 = .ok (.getfield 25, 3) := dk_180 0 25 (dk_at dksX3_bed_2 9 rfl rfl)
theorem dX3_bed_59 : decode cX3_bed 59 = .ok (.iload_n 1, 1) := dk_27 (dk_at dksX3_bed_2 12 rfl rfl)
theorem dX3_bed_60 : decode cX3_bed 60 = .ok (.iconst 1, 1) := dk_4 (dk_at dksX3_bed_2 13 rfl rfl)
theorem dX3_bed_61 : decode cX3_bed 61 = .ok (.bastore, 1) := dk_84 (dk_at dksX3_bed_2 14 rfl rfl)
theorem dX3_bed_62 : decode cX3_bed 62 = .ok (.aload_n 0, 1) := dk_42 (dk_at dksX3_bed_2 15 rfl rfl)
theorem dX3_bed_63 : decode cX3_bed 63 = .ok (.getfield 29, 3) := dk_180 0 29 (dk_at dksX3_bed_2 16 rfl rfl)
theorem dX3_bed_66 : decode cX3_bed 66 = .ok (.iload_n 1, 1) := dk_27 (dk_at dksX3_bed_2 19 rfl rfl)
theorem dX3_bed_67 : decode cX3_bed 67 = .ok (.iload 4, 2) := dk_21 4 (dk_at dksX3_bed_2 20 rfl rfl)
theorem dX3_bed_69 : decode cX3_bed 69 = .ok (.bastore, 1) := dk_84 (dk_at dksX3_bed_2 22 rfl rfl)
theorem dX3_bed_70 : decode cX3_bed 70 = .ok (.aload_n 0, 1) := dk_42 (dk_at dksX3_bed_2 23 rfl rfl)
theorem dX3_bed_71 : decode cX3_bed 71 = .ok (.getfield 32, 3) := dk_180 0 32 (dk_at dksX3_bed_3 0 rfl rfl)
theorem dX3_bed_74 : decode cX3_bed 74 = .ok (.iload_n 1, 1) := dk_27 (dk_at dksX3_bed_3 3 rfl rfl)
theorem dX3_bed_75 : decode cX3_bed 75 = .ok (.iconst 1, 1) := dk_4 (dk_at dksX3_bed_3 4 rfl rfl)
theorem dX3_bed_76 : decode cX3_bed 76 = .ok (.bastore, 1) := dk_84 (dk_at dksX3_bed_3 5 rfl rfl)
theorem dX3_bed_77 : decode cX3_bed 77 = .ok (.aload_n 0, 1) := dk_42 (dk_at dksX3_bed_3 6 rfl rfl)
theorem dX3_bed_78 : decode cX3_bed 78 = .ok (.getfield 35, 3) := dk_180 0 35 (dk_at dksX3_bed_3 7 rfl rfl)
theorem dX3_bed_81 : decode cX3_bed 81 = .ok (.iload_n 1, 1) := dk_27 (dk_at dksX3_bed_3 10 rfl rfl)
theorem dX3_bed_82 : decode cX3_bed 82 = .ok (.iload_n 2, 1) := dk_28 (dk_at dksX3_bed_3 11 rfl rfl)
theorem dX3_bed_83 : decode cX3_bed 83 = .ok (.iastore, 1) := dk_79 (dk_at dksX3_bed_3 12 rfl rfl)
theorem dX3_bed_84 : decode cX3_bed 84 = .ok (.aload_n 0, 1) := dk_42 (dk_at dksX3_bed_3 13 rfl rfl)
theorem dX3_bed_85 : decode cX3_bed 85 = .ok (.getfield 38, 3) := dk_180 0 38 (dk_at dksX3_bed_3 14 rfl rfl)
theorem dX3_bed_88 : decode cX3_bed 88 = .ok (.iload_n 1, 1) := dk_27 (dk_at dksX3_bed_3 17 rfl rfl)
theorem dX3_bed_89 : decode cX3_bed 89 = .ok (.iload_n 3, 1) := dk_29 (dk_at dksX3_bed_3 18 rfl rfl)
theorem dX3_bed_90 : decode cX3_bed 90 = .ok (.iastore, 1) := dk_79 (dk_at dksX3_bed_3 19 rfl rfl)
theorem dX3_bed_91 : decode cX3_bed 91 = .ok (.aload_n 0, 1) := dk_42 (dk_at dksX3_bed_3 20 rfl rfl)
theorem dX3_bed_92 : decode cX3_bed 92 = .ok (.getfield 41, 3) := dk_180 0 41 (dk_at dksX3_bed_3 21 rfl rfl)
theorem dX3_bed_95 : decode cX3_bed 95 = .ok (.iload_n 1, 1) := dk_27 (dk_at dksX3_bed_4 0 rfl rfl)
theorem dX3_bed_96 : decode cX3_bed 96 = .ok (.aload_n 0, 1) := dk_42 (dk_at dksX3_bed_4 1 rfl rfl)
theorem dX3_bed_97 : decode cX3_bed 97 = .ok (.getfield 212, 3) := dk_180 0 212 (dk_at dksX3_bed_4 2 rfl rfl)
theorem dX3_bed_100 : decode cX3_bed 100 = .ok (.iastore, 1) := dk_79 (dk_at dksX3_bed_4 5 rfl rfl)
theorem dX3_bed_101 : decode cX3_bed 101 = .ok (.aload_n 0, 1) := dk_42 (dk_at dksX3_bed_4 6 rfl rfl)
theorem dX3_bed_102 : decode cX3_bed 102 = .ok (.getfield 59, 3) := dk_180 0 59 (dk_at dksX3_bed_4 7 rfl rfl)
theorem dX3_bed_105 : decode cX3_bed 105 = .ok (.iload_n 1, 1) := dk_27 (dk_at dksX3_bed_4 10 rfl rfl)
theorem dX3_bed_106 : decode cX3_bed 106 = .ok (.iconst (-1), 1) := dk_2 (dk_at dksX3_bed_4 11 rfl rfl)
theorem dX3_bed_107 : decode cX3_bed 107 = .ok (.iastore, 1) := dk_79 (dk_at dksX3_bed_4 12 rfl rfl)
theorem dX3_bed_108 : decode cX3_bed 108 = .ok (.iconst 0, 1) := dk_3 (dk_at dksX3_bed_4 13 rfl rfl)
theorem dX3_bed_109 : decode cX3_bed 109 = .ok (.istore 5, 2) := dk_54 5 (dk_at dksX3_bed_4 14 rfl rfl)
theorem dX3_bed_111 : decode cX3_bed 111 = .ok (.iload 5, 2) := dk_21 5 (dk_at dksX3_bed_4 16 rfl rfl)
theorem dX3_bed_113 : decode cX3_bed 113 = .ok (.bipush 10, 2) := dk_16 10 (dk_at dksX3_bed_4 18 rfl rfl)
theorem dX3_bed_115 : decode cX3_bed 115 = .ok (.if_icmp .gt 22, 3) := dk_163 0 22 (dk_at dksX3_bed_4 20 rfl rfl)
theorem dX3_bed_118 : decode cX3_bed 118 = .ok (.aload_n 0, 1) := dk_42 (dk_at dksX3_bed_4 23 rfl rfl)
theorem dX3_bed_119 : decode cX3_bed 119 = .ok (.getfield 62, 3) := dk_180 0 62 (dk_at dksX3_bed_5 0 rfl rfl)
theorem dX3_bed_122 : decode cX3_bed 122 = .ok (.bipush 11, 2) := dk_16 11 (dk_at dksX3_bed_5 3 rfl rfl)
theorem dX3_bed_124 : decode cX3_bed 124 = .ok (.iload_n 1, 1) := dk_27 (dk_at dksX3_bed_5 5 rfl rfl)
theorem dX3_bed_125 : decode cX3_bed 125 = .ok (.imul, 1) := dk_104 (dk_at dksX3_bed_5 6 rfl rfl)
theorem dX3_bed_126 : decode cX3_bed 126 = .ok (.iload 5, 2) := dk_21 5 (dk_at dksX3_bed_5 7 rfl rfl)
theorem dX3_bed_128 : decode cX3_bed 128 = .ok (.iadd, 1) := dk_96 (dk_at dksX3_bed_5 9 rfl rfl)
theorem dX3_bed_129 : decode cX3_bed 129 = .ok (.iconst (-1), 1) := dk_2 (dk_at dksX3_bed_5 10 rfl rfl)
theorem dX3_bed_130 : decode cX3_bed 130 = .ok (.iastore, 1) := dk_79 (dk_at dksX3_bed_5 11 rfl rfl)
theorem dX3_bed_131 : decode cX3_bed 131 = .ok (.iinc 5 1, 3) := dk_132 5 1 (dk_at dksX3_bed_5 12 rfl rfl)
theorem dX3_bed_134 : decode cX3_bed 134 = .ok (.goto (-23), 3) := dk_167 255 233 (dk_at dksX3_bed_5 15 rfl rfl)
theorem dX3_bed_137 : decode cX3_bed 137 = .ok (.iconst 1, 1) := dk_4 (dk_at dksX3_bed_5 18 rfl rfl)
theorem dX3_bed_138 : decode cX3_bed 138 = .ok (.ireturn, 1) := dk_172 (dk_at dksX3_bed_5 19 rfl rfl)
def dkwX3_parked_2 : List UInt8 := [167, 255, 214, 28, 172]
abbrev dktX3_parked_2 : List UInt8 := dkwX3_parked_2 ++ []
def dkwX3_parked_1 : List UInt8 := [122, 4, 126, 4, 160, 0, 12, 42, 180, 0, 16, 29, 46, 167, 0, 4, 3, 96, 61, 132, 3, 1]
abbrev dktX3_parked_1 : List UInt8 := dkwX3_parked_1 ++ dktX3_parked_2
def dkwX3_parked_0 : List UInt8 := [3, 61, 3, 62, 29, 42, 180, 0, 191, 162, 0, 40, 28, 42, 180, 0, 25, 29, 51, 154, 0, 12, 27, 29]
abbrev dktX3_parked_0 : List UInt8 := dkwX3_parked_0 ++ dktX3_parked_1
theorem dksX3_parked_0 : cX3_parked.data.toList.drop 0 = dktX3_parked_0 := by decide +kernel
theorem dksX3_parked_1 : cX3_parked.data.toList.drop 24 = dktX3_parked_1 := dk_seg dksX3_parked_0 24 rfl rfl
theorem dksX3_parked_2 : cX3_parked.data.toList.drop 46 = dktX3_parked_2 := dk_seg dksX3_parked_1 22 rfl rfl
theorem dX3_parked_0 : decode cX3_parked 0 = .ok (.iconst 0, 1) := dk_3 (dk_at dksX3_parked_0 0 rfl rfl)
theorem dX3_parked_1 : decode cX3_parked 1 = .ok (.istore_n 2, 1) := dk_61 (dk_at dksX3_parked_0 1 rfl rfl)
theorem dX3_parked_2 : decode cX3_parked 2 = .ok (.iconst 0, 1) := dk_3 (dk_at dksX3_parked_0 2 rfl rfl)
theorem dX3_parked_3 : decode cX3_parked 3 = .ok (.istore_n 3, 1) := dk_62 (dk_at dksX3_parked_0 3 rfl rfl)
theorem dX3_parked_4 : decode cX3_parked 4 = .ok (.iload_n 3, 1) := dk_29 (dk_at dksX3_parked_0 4 rfl rfl)
theorem dX3_parked_5 : decode cX3_parked 5 = .ok (.aload_n 0, 1) := dk_42 (dk_at dksX3_parked_0 5 rfl rfl)
theorem dX3_parked_6 : decode cX3_parked 6 = .ok (.getfield 191, 3) := dk_180 0 191 (dk_at dksX3_parked_0 6 rfl rfl)
theorem dX3_parked_9 : decode cX3_parked 9 = .ok (.if_icmp .ge 40, 3) := dk_162 0 40 (dk_at dksX3_parked_0 9 rfl rfl)
theorem dX3_parked_12 : decode cX3_parked 12 = .ok (.iload_n 2, 1) := dk_28 (dk_at dksX3_parked_0 12 rfl rfl)
theorem dX3_parked_13 : decode cX3_parked 13 = .ok (.aload_n 0, 1) := dk_42 (dk_at dksX3_parked_0 13 rfl rfl)
theorem dX3_parked_14 : decode cX3_parked 14 = .ok (.getfield 25, 3) := dk_180 0 25 (dk_at dksX3_parked_0 14 rfl rfl)
theorem dX3_parked_17 : decode cX3_parked 17 = .ok (.iload_n 3, 1) := dk_29 (dk_at dksX3_parked_0 17 rfl rfl)
theorem dX3_parked_18 : decode cX3_parked 18 = .ok (.baload, 1) := dk_51 (dk_at dksX3_parked_0 18 rfl rfl)
theorem dX3_parked_19 : decode cX3_parked 19 = .ok (.ifCond .ne 12, 3) := dk_154 0 12 (dk_at dksX3_parked_0 19 rfl rfl)
theorem dX3_parked_22 : decode cX3_parked 22 = .ok (.iload_n 1, 1) := dk_27 (dk_at dksX3_parked_0 22 rfl rfl)
theorem dX3_parked_23 : decode cX3_parked 23 = .ok (.iload_n 3, 1) := dk_29 (dk_at dksX3_parked_0 23 rfl rfl)
theorem dX3_parked_24 : decode cX3_parked 24 = .ok (.ishr, 1) := dk_122 (dk_at dksX3_parked_1 0 rfl rfl)
theorem dX3_parked_25 : decode cX3_parked 25 = .ok (.iconst 1, 1) := dk_4 (dk_at dksX3_parked_1 1 rfl rfl)
theorem dX3_parked_26 : decode cX3_parked 26 = .ok (.iand, 1) := dk_126 (dk_at dksX3_parked_1 2 rfl rfl)
theorem dX3_parked_27 : decode cX3_parked 27 = .ok (.iconst 1, 1) := dk_4 (dk_at dksX3_parked_1 3 rfl rfl)
theorem dX3_parked_28 : decode cX3_parked 28 = .ok (.if_icmp .ne 12, 3) := dk_160 0 12 (dk_at dksX3_parked_1 4 rfl rfl)
theorem dX3_parked_31 : decode cX3_parked 31 = .ok (.aload_n 0, 1) := dk_42 (dk_at dksX3_parked_1 7 rfl rfl)
theorem dX3_parked_32 : decode cX3_parked 32 = .ok (.getfield 16, 3) := dk_180 0 16 (dk_at dksX3_parked_1 8 rfl rfl)
theorem dX3_parked_35 : decode cX3_parked 35 = .ok (.iload_n 3, 1) := dk_29 (dk_at dksX3_parked_1 11 rfl rfl)
theorem dX3_parked_36 : decode cX3_parked 36 = .ok (.iaload, 1) := dk_46 (dk_at dksX3_parked_1 12 rfl rfl)
theorem dX3_parked_37 : decode cX3_parked 37 = .ok (.goto 4, 3) := dk_167 0 4 (dk_at dksX3_parked_1 13 rfl rfl)
theorem dX3_parked_40 : decode cX3_parked 40 = .ok (.iconst 0, 1) := dk_3 (dk_at dksX3_parked_1 16 rfl rfl)
theorem dX3_parked_41 : decode cX3_parked 41 = .ok (.iadd, 1) := dk_96 (dk_at dksX3_parked_1 17 rfl rfl)
theorem dX3_parked_42 : decode cX3_parked 42 = .ok (.istore_n 2, 1) := dk_61 (dk_at dksX3_parked_1 18 rfl rfl)
theorem dX3_parked_43 : decode cX3_parked 43 = .ok (.iinc 3 1, 3) := dk_132 3 1 (dk_at dksX3_parked_1 19 rfl rfl)
theorem dX3_parked_46 : decode cX3_parked 46 = .ok (.goto (-42), 3) := dk_167 255 214 (dk_at dksX3_parked_2 0 rfl rfl)
theorem dX3_parked_49 : decode cX3_parked 49 = .ok (.iload_n 2, 1) := dk_28 (dk_at dksX3_parked_2 3 rfl rfl)
theorem dX3_parked_50 : decode cX3_parked 50 = .ok (.ireturn, 1) := dk_172 (dk_at dksX3_parked_2 4 rfl rfl)
def dkwX3_now_0 : List UInt8 := [42, 42, 180, 0, 212, 27, 182, 1, 76, 172]
abbrev dktX3_now_0 : List UInt8 := dkwX3_now_0 ++ []
theorem dksX3_now_0 : cX3_now.data.toList.drop 0 = dktX3_now_0 := by decide +kernel
theorem dX3_now_0 : decode cX3_now 0 = .ok (.aload_n 0, 1) := dk_42 (dk_at dksX3_now_0 0 rfl rfl)
theorem dX3_now_1 : decode cX3_now 1 = .ok (.aload_n 0, 1) := dk_42 (dk_at dksX3_now_0 1 rfl rfl)
theorem dX3_now_2 : decode cX3_now 2 = .ok (.getfield 212, 3) := dk_180 0 212 (dk_at dksX3_now_0 2 rfl rfl)
theorem dX3_now_5 : decode cX3_now 5 = .ok (.iload_n 1, 1) := dk_27 (dk_at dksX3_now_0 5 rfl rfl)
theorem dX3_now_6 : decode cX3_now 6 = .ok (.invokevirtual 332, 3) := dk_182 1 76 (dk_at dksX3_now_0 6 rfl rfl)
theorem dX3_now_9 : decode cX3_now 9 = .ok (.ireturn, 1) := dk_172 (dk_at dksX3_now_0 9 rfl rfl)
def dkwX3_lawOn_9 : List UInt8 := [160, 0, 11, 42, 180, 0, 174, 21, 5, 46, 62, 132, 5, 1, 167, 255, 52, 29, 172]
abbrev dktX3_lawOn_9 : List UInt8 := dkwX3_lawOn_9 ++ []
def dkwX3_lawOn_8 : List UInt8 := [180, 0, 165, 21, 5, 46, 16, 31, 160, 0, 27, 28, 16, 14, 5, 42, 180, 0, 168, 21, 5, 46, 104, 96]
abbrev dktX3_lawOn_8 : List UInt8 := dkwX3_lawOn_8 ++ dktX3_lawOn_9
def dkwX3_lawOn_7 : List UInt8 := [16, 13, 5, 42, 180, 0, 168, 21, 5, 46, 104, 96, 160, 0, 11, 42, 180, 0, 171, 21, 5, 46, 62, 42]
abbrev dktX3_lawOn_7 : List UInt8 := dkwX3_lawOn_7 ++ dktX3_lawOn_8
def dkwX3_lawOn_6 : List UInt8 := [160, 0, 11, 42, 180, 0, 174, 21, 5, 46, 62, 42, 180, 0, 165, 21, 5, 46, 16, 31, 160, 0, 27, 28]
abbrev dktX3_lawOn_6 : List UInt8 := dkwX3_lawOn_6 ++ dktX3_lawOn_7
def dkwX3_lawOn_5 : List UInt8 := [180, 0, 171, 21, 5, 46, 62, 42, 180, 0, 165, 21, 5, 46, 16, 7, 160, 0, 17, 28, 16, 9]
abbrev dktX3_lawOn_5 : List UInt8 := dkwX3_lawOn_5 ++ dktX3_lawOn_6
def dkwX3_lawOn_4 : List UInt8 := [16, 8, 159, 0, 21, 42, 180, 0, 165, 21, 5, 46, 16, 10, 160, 0, 17, 28, 16, 11, 160, 0, 11, 42]
abbrev dktX3_lawOn_4 : List UInt8 := dkwX3_lawOn_4 ++ dktX3_lawOn_5
def dkwX3_lawOn_3 : List UInt8 := [46, 4, 160, 0, 8, 28, 5, 159, 0, 39, 42, 180, 0, 165, 21, 5, 46, 16, 7, 160, 0, 9, 28]
abbrev dktX3_lawOn_3 : List UInt8 := dkwX3_lawOn_3 ++ dktX3_lawOn_4
def dkwX3_lawOn_2 : List UInt8 := [180, 0, 165, 21, 5, 46, 28, 160, 0, 11, 42, 180, 0, 168, 21, 5, 46, 62, 42, 180, 0, 165, 21, 5]
abbrev dktX3_lawOn_2 : List UInt8 := dkwX3_lawOn_2 ++ dktX3_lawOn_3
def dkwX3_lawOn_1 : List UInt8 := [159, 0, 204, 21, 5, 16, 24, 21, 4, 104, 42, 180, 0, 159, 21, 4, 46, 96, 162, 0, 186, 42]
abbrev dktX3_lawOn_1 : List UInt8 := dkwX3_lawOn_1 ++ dktX3_lawOn_2
def dkwX3_lawOn_0 : List UInt8 := [28, 184, 1, 169, 62, 42, 27, 182, 0, 240, 54, 4, 16, 24, 21, 4, 104, 54, 5, 21, 4, 2]
abbrev dktX3_lawOn_0 : List UInt8 := dkwX3_lawOn_0 ++ dktX3_lawOn_1
theorem dksX3_lawOn_0 : cX3_lawOn.data.toList.drop 0 = dktX3_lawOn_0 := by decide +kernel
theorem dksX3_lawOn_1 : cX3_lawOn.data.toList.drop 22 = dktX3_lawOn_1 := dk_seg dksX3_lawOn_0 22 rfl rfl
theorem dksX3_lawOn_2 : cX3_lawOn.data.toList.drop 44 = dktX3_lawOn_2 := dk_seg dksX3_lawOn_1 22 rfl rfl
theorem dksX3_lawOn_3 : cX3_lawOn.data.toList.drop 68 = dktX3_lawOn_3 := dk_seg dksX3_lawOn_2 24 rfl rfl
theorem dksX3_lawOn_4 : cX3_lawOn.data.toList.drop 91 = dktX3_lawOn_4 := dk_seg dksX3_lawOn_3 23 rfl rfl
theorem dksX3_lawOn_5 : cX3_lawOn.data.toList.drop 115 = dktX3_lawOn_5 := dk_seg dksX3_lawOn_4 24 rfl rfl
theorem dksX3_lawOn_6 : cX3_lawOn.data.toList.drop 137 = dktX3_lawOn_6 := dk_seg dksX3_lawOn_5 22 rfl rfl
theorem dksX3_lawOn_7 : cX3_lawOn.data.toList.drop 161 = dktX3_lawOn_7 := dk_seg dksX3_lawOn_6 24 rfl rfl
theorem dksX3_lawOn_8 : cX3_lawOn.data.toList.drop 185 = dktX3_lawOn_8 := dk_seg dksX3_lawOn_7 24 rfl rfl
theorem dksX3_lawOn_9 : cX3_lawOn.data.toList.drop 209 = dktX3_lawOn_9 := dk_seg dksX3_lawOn_8 24 rfl rfl
theorem dX3_lawOn_0 : decode cX3_lawOn 0 = .ok (.iload_n 2, 1) := dk_28 (dk_at dksX3_lawOn_0 0 rfl rfl)
theorem dX3_lawOn_1 : decode cX3_lawOn 1 = .ok (.invokestatic 425, 3) := dk_184 1 169 (dk_at dksX3_lawOn_0 1 rfl rfl)
theorem dX3_lawOn_4 : decode cX3_lawOn 4 = .ok (.istore_n 3, 1) := dk_62 (dk_at dksX3_lawOn_0 4 rfl rfl)
theorem dX3_lawOn_5 : decode cX3_lawOn 5 = .ok (.aload_n 0, 1) := dk_42 (dk_at dksX3_lawOn_0 5 rfl rfl)
theorem dX3_lawOn_6 : decode cX3_lawOn 6 = .ok (.iload_n 1, 1) := dk_27 (dk_at dksX3_lawOn_0 6 rfl rfl)
theorem dX3_lawOn_7 : decode cX3_lawOn 7 = .ok (.invokevirtual 240, 3) := dk_182 0 240 (dk_at dksX3_lawOn_0 7 rfl rfl)
theorem dX3_lawOn_10 : decode cX3_lawOn 10 = .ok (.istore 4, 2) := dk_54 4 (dk_at dksX3_lawOn_0 10 rfl rfl)
theorem dX3_lawOn_12 : decode cX3_lawOn 12 = .ok (.bipush 24, 2) := dk_16 24 (dk_at dksX3_lawOn_0 12 rfl rfl)
theorem dX3_lawOn_14 : decode cX3_lawOn 14 = .ok (.iload 4, 2) := dk_21 4 (dk_at dksX3_lawOn_0 14 rfl rfl)
theorem dX3_lawOn_16 : decode cX3_lawOn 16 = .ok (.imul, 1) := dk_104 (dk_at dksX3_lawOn_0 16 rfl rfl)
theorem dX3_lawOn_17 : decode cX3_lawOn 17 = .ok (.istore 5, 2) := dk_54 5 (dk_at dksX3_lawOn_0 17 rfl rfl)
theorem dX3_lawOn_19 : decode cX3_lawOn 19 = .ok (.iload 4, 2) := dk_21 4 (dk_at dksX3_lawOn_0 19 rfl rfl)
theorem dX3_lawOn_21 : decode cX3_lawOn 21 = .ok (.iconst (-1), 1) := dk_2 (dk_at dksX3_lawOn_0 21 rfl rfl)
theorem dX3_lawOn_22 : decode cX3_lawOn 22 = .ok (.if_icmp .eq 204, 3) := dk_159 0 204 (dk_at dksX3_lawOn_1 0 rfl rfl)
theorem dX3_lawOn_25 : decode cX3_lawOn 25 = .ok (.iload 5, 2) := dk_21 5 (dk_at dksX3_lawOn_1 3 rfl rfl)
theorem dX3_lawOn_27 : decode cX3_lawOn 27 = .ok (.bipush 24, 2) := dk_16 24 (dk_at dksX3_lawOn_1 5 rfl rfl)
theorem dX3_lawOn_29 : decode cX3_lawOn 29 = .ok (.iload 4, 2) := dk_21 4 (dk_at dksX3_lawOn_1 7 rfl rfl)
theorem dX3_lawOn_31 : decode cX3_lawOn 31 = .ok (.imul, 1) := dk_104 (dk_at dksX3_lawOn_1 9 rfl rfl)
theorem dX3_lawOn_32 : decode cX3_lawOn 32 = .ok (.aload_n 0, 1) := dk_42 (dk_at dksX3_lawOn_1 10 rfl rfl)
theorem dX3_lawOn_33 : decode cX3_lawOn 33 = .ok (.getfield 159, 3) := dk_180 0 159 (dk_at dksX3_lawOn_1 11 rfl rfl)
theorem dX3_lawOn_36 : decode cX3_lawOn 36 = .ok (.iload 4, 2) := dk_21 4 (dk_at dksX3_lawOn_1 14 rfl rfl)
theorem dX3_lawOn_38 : decode cX3_lawOn 38 = .ok (.iaload, 1) := dk_46 (dk_at dksX3_lawOn_1 16 rfl rfl)
theorem dX3_lawOn_39 : decode cX3_lawOn 39 = .ok (.iadd, 1) := dk_96 (dk_at dksX3_lawOn_1 17 rfl rfl)
theorem dX3_lawOn_40 : decode cX3_lawOn 40 = .ok (.if_icmp .ge 186, 3) := dk_162 0 186 (dk_at dksX3_lawOn_1 18 rfl rfl)
theorem dX3_lawOn_43 : decode cX3_lawOn 43 = .ok (.aload_n 0, 1) := dk_42 (dk_at dksX3_lawOn_1 21 rfl rfl)
theorem dX3_lawOn_44 : decode cX3_lawOn 44 = .ok (.getfield 165, 3) := dk_180 0 165 (dk_at dksX3_lawOn_2 0 rfl rfl)
theorem dX3_lawOn_47 : decode cX3_lawOn 47 = .ok (.iload 5, 2) := dk_21 5 (dk_at dksX3_lawOn_2 3 rfl rfl)
theorem dX3_lawOn_49 : decode cX3_lawOn 49 = .ok (.iaload, 1) := dk_46 (dk_at dksX3_lawOn_2 5 rfl rfl)
theorem dX3_lawOn_50 : decode cX3_lawOn 50 = .ok (.iload_n 2, 1) := dk_28 (dk_at dksX3_lawOn_2 6 rfl rfl)
theorem dX3_lawOn_51 : decode cX3_lawOn 51 = .ok (.if_icmp .ne 11, 3) := dk_160 0 11 (dk_at dksX3_lawOn_2 7 rfl rfl)
theorem dX3_lawOn_54 : decode cX3_lawOn 54 = .ok (.aload_n 0, 1) := dk_42 (dk_at dksX3_lawOn_2 10 rfl rfl)
theorem dX3_lawOn_55 : decode cX3_lawOn 55 = .ok (.getfield 168, 3) := dk_180 0 168 (dk_at dksX3_lawOn_2 11 rfl rfl)
theorem dX3_lawOn_58 : decode cX3_lawOn 58 = .ok (.iload 5, 2) := dk_21 5 (dk_at dksX3_lawOn_2 14 rfl rfl)
theorem dX3_lawOn_60 : decode cX3_lawOn 60 = .ok (.iaload, 1) := dk_46 (dk_at dksX3_lawOn_2 16 rfl rfl)
theorem dX3_lawOn_61 : decode cX3_lawOn 61 = .ok (.istore_n 3, 1) := dk_62 (dk_at dksX3_lawOn_2 17 rfl rfl)
theorem dX3_lawOn_62 : decode cX3_lawOn 62 = .ok (.aload_n 0, 1) := dk_42 (dk_at dksX3_lawOn_2 18 rfl rfl)
theorem dX3_lawOn_63 : decode cX3_lawOn 63 = .ok (.getfield 165, 3) := dk_180 0 165 (dk_at dksX3_lawOn_2 19 rfl rfl)
theorem dX3_lawOn_66 : decode cX3_lawOn 66 = .ok (.iload 5, 2) := dk_21 5 (dk_at dksX3_lawOn_2 22 rfl rfl)
theorem dX3_lawOn_68 : decode cX3_lawOn 68 = .ok (.iaload, 1) := dk_46 (dk_at dksX3_lawOn_3 0 rfl rfl)
theorem dX3_lawOn_69 : decode cX3_lawOn 69 = .ok (.iconst 1, 1) := dk_4 (dk_at dksX3_lawOn_3 1 rfl rfl)
theorem dX3_lawOn_70 : decode cX3_lawOn 70 = .ok (.if_icmp .ne 8, 3) := dk_160 0 8 (dk_at dksX3_lawOn_3 2 rfl rfl)
theorem dX3_lawOn_73 : decode cX3_lawOn 73 = .ok (.iload_n 2, 1) := dk_28 (dk_at dksX3_lawOn_3 5 rfl rfl)
theorem dX3_lawOn_74 : decode cX3_lawOn 74 = .ok (.iconst 2, 1) := dk_5 (dk_at dksX3_lawOn_3 6 rfl rfl)
theorem dX3_lawOn_75 : decode cX3_lawOn 75 = .ok (.if_icmp .eq 39, 3) := dk_159 0 39 (dk_at dksX3_lawOn_3 7 rfl rfl)
theorem dX3_lawOn_78 : decode cX3_lawOn 78 = .ok (.aload_n 0, 1) := dk_42 (dk_at dksX3_lawOn_3 10 rfl rfl)
theorem dX3_lawOn_79 : decode cX3_lawOn 79 = .ok (.getfield 165, 3) := dk_180 0 165 (dk_at dksX3_lawOn_3 11 rfl rfl)
theorem dX3_lawOn_82 : decode cX3_lawOn 82 = .ok (.iload 5, 2) := dk_21 5 (dk_at dksX3_lawOn_3 14 rfl rfl)
theorem dX3_lawOn_84 : decode cX3_lawOn 84 = .ok (.iaload, 1) := dk_46 (dk_at dksX3_lawOn_3 16 rfl rfl)
theorem dX3_lawOn_85 : decode cX3_lawOn 85 = .ok (.bipush 7, 2) := dk_16 7 (dk_at dksX3_lawOn_3 17 rfl rfl)
theorem dX3_lawOn_87 : decode cX3_lawOn 87 = .ok (.if_icmp .ne 9, 3) := dk_160 0 9 (dk_at dksX3_lawOn_3 19 rfl rfl)
theorem dX3_lawOn_90 : decode cX3_lawOn 90 = .ok (.iload_n 2, 1) := dk_28 (dk_at dksX3_lawOn_3 22 rfl rfl)
theorem dX3_lawOn_91 : decode cX3_lawOn 91 = .ok (.bipush 8, 2) := dk_16 8 (dk_at dksX3_lawOn_4 0 rfl rfl)
theorem dX3_lawOn_93 : decode cX3_lawOn 93 = .ok (.if_icmp .eq 21, 3) := dk_159 0 21 (dk_at dksX3_lawOn_4 2 rfl rfl)
theorem dX3_lawOn_96 : decode cX3_lawOn 96 = .ok (.aload_n 0, 1) := dk_42 (dk_at dksX3_lawOn_4 5 rfl rfl)
theorem dX3_lawOn_97 : decode cX3_lawOn 97 = .ok (.getfield 165, 3) := dk_180 0 165 (dk_at dksX3_lawOn_4 6 rfl rfl)
theorem dX3_lawOn_100 : decode cX3_lawOn 100 = .ok (.iload 5, 2) := dk_21 5 (dk_at dksX3_lawOn_4 9 rfl rfl)
theorem dX3_lawOn_102 : decode cX3_lawOn 102 = .ok (.iaload, 1) := dk_46 (dk_at dksX3_lawOn_4 11 rfl rfl)
theorem dX3_lawOn_103 : decode cX3_lawOn 103 = .ok (.bipush 10, 2) := dk_16 10 (dk_at dksX3_lawOn_4 12 rfl rfl)
theorem dX3_lawOn_105 : decode cX3_lawOn 105 = .ok (.if_icmp .ne 17, 3) := dk_160 0 17 (dk_at dksX3_lawOn_4 14 rfl rfl)
theorem dX3_lawOn_108 : decode cX3_lawOn 108 = .ok (.iload_n 2, 1) := dk_28 (dk_at dksX3_lawOn_4 17 rfl rfl)
theorem dX3_lawOn_109 : decode cX3_lawOn 109 = .ok (.bipush 11, 2) := dk_16 11 (dk_at dksX3_lawOn_4 18 rfl rfl)
theorem dX3_lawOn_111 : decode cX3_lawOn 111 = .ok (.if_icmp .ne 11, 3) := dk_160 0 11 (dk_at dksX3_lawOn_4 20 rfl rfl)
theorem dX3_lawOn_114 : decode cX3_lawOn 114 = .ok (.aload_n 0, 1) := dk_42 (dk_at dksX3_lawOn_4 23 rfl rfl)
theorem dX3_lawOn_115 : decode cX3_lawOn 115 = .ok (.getfield 171, 3) := dk_180 0 171 (dk_at dksX3_lawOn_5 0 rfl rfl)
theorem dX3_lawOn_118 : decode cX3_lawOn 118 = .ok (.iload 5, 2) := dk_21 5 (dk_at dksX3_lawOn_5 3 rfl rfl)
theorem dX3_lawOn_120 : decode cX3_lawOn 120 = .ok (.iaload, 1) := dk_46 (dk_at dksX3_lawOn_5 5 rfl rfl)
theorem dX3_lawOn_121 : decode cX3_lawOn 121 = .ok (.istore_n 3, 1) := dk_62 (dk_at dksX3_lawOn_5 6 rfl rfl)
theorem dX3_lawOn_122 : decode cX3_lawOn 122 = .ok (.aload_n 0, 1) := dk_42 (dk_at dksX3_lawOn_5 7 rfl rfl)
theorem dX3_lawOn_123 : decode cX3_lawOn 123 = .ok (.getfield 165, 3) := dk_180 0 165 (dk_at dksX3_lawOn_5 8 rfl rfl)
theorem dX3_lawOn_126 : decode cX3_lawOn 126 = .ok (.iload 5, 2) := dk_21 5 (dk_at dksX3_lawOn_5 11 rfl rfl)
theorem dX3_lawOn_128 : decode cX3_lawOn 128 = .ok (.iaload, 1) := dk_46 (dk_at dksX3_lawOn_5 13 rfl rfl)
theorem dX3_lawOn_129 : decode cX3_lawOn 129 = .ok (.bipush 7, 2) := dk_16 7 (dk_at dksX3_lawOn_5 14 rfl rfl)
theorem dX3_lawOn_131 : decode cX3_lawOn 131 = .ok (.if_icmp .ne 17, 3) := dk_160 0 17 (dk_at dksX3_lawOn_5 16 rfl rfl)
theorem dX3_lawOn_134 : decode cX3_lawOn 134 = .ok (.iload_n 2, 1) := dk_28 (dk_at dksX3_lawOn_5 19 rfl rfl)
theorem dX3_lawOn_135 : decode cX3_lawOn 135 = .ok (.bipush 9, 2) := dk_16 9 (dk_at dksX3_lawOn_5 20 rfl rfl)
theorem dX3_lawOn_137 : decode cX3_lawOn 137 = .ok (.if_icmp .ne 11, 3) := dk_160 0 11 (dk_at dksX3_lawOn_6 0 rfl rfl)
theorem dX3_lawOn_140 : decode cX3_lawOn 140 = .ok (.aload_n 0, 1) := dk_42 (dk_at dksX3_lawOn_6 3 rfl rfl)
theorem dX3_lawOn_141 : decode cX3_lawOn 141 = .ok (.getfield 174, 3) := dk_180 0 174 (dk_at dksX3_lawOn_6 4 rfl rfl)
theorem dX3_lawOn_144 : decode cX3_lawOn 144 = .ok (.iload 5, 2) := dk_21 5 (dk_at dksX3_lawOn_6 7 rfl rfl)
theorem dX3_lawOn_146 : decode cX3_lawOn 146 = .ok (.iaload, 1) := dk_46 (dk_at dksX3_lawOn_6 9 rfl rfl)
theorem dX3_lawOn_147 : decode cX3_lawOn 147 = .ok (.istore_n 3, 1) := dk_62 (dk_at dksX3_lawOn_6 10 rfl rfl)
theorem dX3_lawOn_148 : decode cX3_lawOn 148 = .ok (.aload_n 0, 1) := dk_42 (dk_at dksX3_lawOn_6 11 rfl rfl)
theorem dX3_lawOn_149 : decode cX3_lawOn 149 = .ok (.getfield 165, 3) := dk_180 0 165 (dk_at dksX3_lawOn_6 12 rfl rfl)
theorem dX3_lawOn_152 : decode cX3_lawOn 152 = .ok (.iload 5, 2) := dk_21 5 (dk_at dksX3_lawOn_6 15 rfl rfl)
theorem dX3_lawOn_154 : decode cX3_lawOn 154 = .ok (.iaload, 1) := dk_46 (dk_at dksX3_lawOn_6 17 rfl rfl)
theorem dX3_lawOn_155 : decode cX3_lawOn 155 = .ok (.bipush 31, 2) := dk_16 31 (dk_at dksX3_lawOn_6 18 rfl rfl)
theorem dX3_lawOn_157 : decode cX3_lawOn 157 = .ok (.if_icmp .ne 27, 3) := dk_160 0 27 (dk_at dksX3_lawOn_6 20 rfl rfl)
theorem dX3_lawOn_160 : decode cX3_lawOn 160 = .ok (.iload_n 2, 1) := dk_28 (dk_at dksX3_lawOn_6 23 rfl rfl)
theorem dX3_lawOn_161 : decode cX3_lawOn 161 = .ok (.bipush 13, 2) := dk_16 13 (dk_at dksX3_lawOn_7 0 rfl rfl)
theorem dX3_lawOn_163 : decode cX3_lawOn 163 = .ok (.iconst 2, 1) := dk_5 (dk_at dksX3_lawOn_7 2 rfl rfl)
theorem dX3_lawOn_164 : decode cX3_lawOn 164 = .ok (.aload_n 0, 1) := dk_42 (dk_at dksX3_lawOn_7 3 rfl rfl)
theorem dX3_lawOn_165 : decode cX3_lawOn 165 = .ok (.getfield 168, 3) := dk_180 0 168 (dk_at dksX3_lawOn_7 4 rfl rfl)
theorem dX3_lawOn_168 : decode cX3_lawOn 168 = .ok (.iload 5, 2) := dk_21 5 (dk_at dksX3_lawOn_7 7 rfl rfl)
theorem dX3_lawOn_170 : decode cX3_lawOn 170 = .ok (.iaload, 1) := dk_46 (dk_at dksX3_lawOn_7 9 rfl rfl)
theorem dX3_lawOn_171 : decode cX3_lawOn 171 = .ok (.imul, 1) := dk_104 (dk_at dksX3_lawOn_7 10 rfl rfl)
theorem dX3_lawOn_172 : decode cX3_lawOn 172 = .ok (.iadd, 1) := dk_96 (dk_at dksX3_lawOn_7 11 rfl rfl)
theorem dX3_lawOn_173 : decode cX3_lawOn 173 = .ok (.if_icmp .ne 11, 3) := dk_160 0 11 (dk_at dksX3_lawOn_7 12 rfl rfl)
theorem dX3_lawOn_176 : decode cX3_lawOn 176 = .ok (.aload_n 0, 1) := dk_42 (dk_at dksX3_lawOn_7 15 rfl rfl)
theorem dX3_lawOn_177 : decode cX3_lawOn 177 = .ok (.getfield 171, 3) := dk_180 0 171 (dk_at dksX3_lawOn_7 16 rfl rfl)
theorem dX3_lawOn_180 : decode cX3_lawOn 180 = .ok (.iload 5, 2) := dk_21 5 (dk_at dksX3_lawOn_7 19 rfl rfl)
theorem dX3_lawOn_182 : decode cX3_lawOn 182 = .ok (.iaload, 1) := dk_46 (dk_at dksX3_lawOn_7 21 rfl rfl)
theorem dX3_lawOn_183 : decode cX3_lawOn 183 = .ok (.istore_n 3, 1) := dk_62 (dk_at dksX3_lawOn_7 22 rfl rfl)
theorem dX3_lawOn_184 : decode cX3_lawOn 184 = .ok (.aload_n 0, 1) := dk_42 (dk_at dksX3_lawOn_7 23 rfl rfl)
theorem dX3_lawOn_185 : decode cX3_lawOn 185 = .ok (.getfield 165, 3) := dk_180 0 165 (dk_at dksX3_lawOn_8 0 rfl rfl)
theorem dX3_lawOn_188 : decode cX3_lawOn 188 = .ok (.iload 5, 2) := dk_21 5 (dk_at dksX3_lawOn_8 3 rfl rfl)
theorem dX3_lawOn_190 : decode cX3_lawOn 190 = .ok (.iaload, 1) := dk_46 (dk_at dksX3_lawOn_8 5 rfl rfl)
theorem dX3_lawOn_191 : decode cX3_lawOn 191 = .ok (.bipush 31, 2) := dk_16 31 (dk_at dksX3_lawOn_8 6 rfl rfl)
theorem dX3_lawOn_193 : decode cX3_lawOn 193 = .ok (.if_icmp .ne 27, 3) := dk_160 0 27 (dk_at dksX3_lawOn_8 8 rfl rfl)
theorem dX3_lawOn_196 : decode cX3_lawOn 196 = .ok (.iload_n 2, 1) := dk_28 (dk_at dksX3_lawOn_8 11 rfl rfl)
theorem dX3_lawOn_197 : decode cX3_lawOn 197 = .ok (.bipush 14, 2) := dk_16 14 (dk_at dksX3_lawOn_8 12 rfl rfl)
theorem dX3_lawOn_199 : decode cX3_lawOn 199 = .ok (.iconst 2, 1) := dk_5 (dk_at dksX3_lawOn_8 14 rfl rfl)
theorem dX3_lawOn_200 : decode cX3_lawOn 200 = .ok (.aload_n 0, 1) := dk_42 (dk_at dksX3_lawOn_8 15 rfl rfl)
theorem dX3_lawOn_201 : decode cX3_lawOn 201 = .ok (.getfield 168, 3) := dk_180 0 168 (dk_at dksX3_lawOn_8 16 rfl rfl)
theorem dX3_lawOn_204 : decode cX3_lawOn 204 = .ok (.iload 5, 2) := dk_21 5 (dk_at dksX3_lawOn_8 19 rfl rfl)
theorem dX3_lawOn_206 : decode cX3_lawOn 206 = .ok (.iaload, 1) := dk_46 (dk_at dksX3_lawOn_8 21 rfl rfl)
theorem dX3_lawOn_207 : decode cX3_lawOn 207 = .ok (.imul, 1) := dk_104 (dk_at dksX3_lawOn_8 22 rfl rfl)
theorem dX3_lawOn_208 : decode cX3_lawOn 208 = .ok (.iadd, 1) := dk_96 (dk_at dksX3_lawOn_8 23 rfl rfl)
theorem dX3_lawOn_209 : decode cX3_lawOn 209 = .ok (.if_icmp .ne 11, 3) := dk_160 0 11 (dk_at dksX3_lawOn_9 0 rfl rfl)
theorem dX3_lawOn_212 : decode cX3_lawOn 212 = .ok (.aload_n 0, 1) := dk_42 (dk_at dksX3_lawOn_9 3 rfl rfl)
theorem dX3_lawOn_213 : decode cX3_lawOn 213 = .ok (.getfield 174, 3) := dk_180 0 174 (dk_at dksX3_lawOn_9 4 rfl rfl)
theorem dX3_lawOn_216 : decode cX3_lawOn 216 = .ok (.iload 5, 2) := dk_21 5 (dk_at dksX3_lawOn_9 7 rfl rfl)
theorem dX3_lawOn_218 : decode cX3_lawOn 218 = .ok (.iaload, 1) := dk_46 (dk_at dksX3_lawOn_9 9 rfl rfl)
theorem dX3_lawOn_219 : decode cX3_lawOn 219 = .ok (.istore_n 3, 1) := dk_62 (dk_at dksX3_lawOn_9 10 rfl rfl)
theorem dX3_lawOn_220 : decode cX3_lawOn 220 = .ok (.iinc 5 1, 3) := dk_132 5 1 (dk_at dksX3_lawOn_9 11 rfl rfl)
theorem dX3_lawOn_223 : decode cX3_lawOn 223 = .ok (.goto (-204), 3) := dk_167 255 52 (dk_at dksX3_lawOn_9 14 rfl rfl)
theorem dX3_lawOn_226 : decode cX3_lawOn 226 = .ok (.iload_n 3, 1) := dk_29 (dk_at dksX3_lawOn_9 17 rfl rfl)
theorem dX3_lawOn_227 : decode cX3_lawOn 227 = .ok (.ireturn, 1) := dk_172 (dk_at dksX3_lawOn_9 18 rfl rfl)
def dkwX3_plain_4 : List UInt8 := [16, 20, 172, 16, 50, 172, 3, 172, 16, 20, 172]
abbrev dktX3_plain_4 : List UInt8 := dkwX3_plain_4 ++ []
def dkwX3_plain_3 : List UInt8 := [16, 10, 172, 16, 50, 172, 4, 172, 16, 10, 172, 16, 80, 172, 16, 100, 172, 16, 50, 172, 16, 80, 172]
abbrev dktX3_plain_3 : List UInt8 := dkwX3_plain_3 ++ dktX3_plain_4
def dkwX3_plain_2 : List UInt8 := [5, 172, 17, 0, 250, 172, 17, 1, 64, 172, 6, 172, 16, 20, 172, 16, 30, 172, 6, 172, 8, 172, 5, 172]
abbrev dktX3_plain_2 : List UInt8 := dkwX3_plain_2 ++ dktX3_plain_3
def dkwX3_plain_1 : List UInt8 := [170, 0, 0, 0, 0, 0, 150, 0, 0, 0, 0, 0, 0, 0, 19, 0, 0, 0, 95, 0, 0, 0, 97, 0, 0, 0, 101, 0, 0, 0, 105, 0, 0, 0, 107, 0, 0, 0, 110, 0, 0, 0, 113, 0, 0, 0, 115, 0, 0, 0, 117, 0, 0, 0, 119, 0, 0, 0, 122, 0, 0, 0, 125, 0, 0, 0, 127, 0, 0, 0, 130, 0, 0, 0, 133, 0, 0, 0, 136, 0, 0, 0, 139, 0, 0, 0, 142, 0, 0, 0, 145, 0, 0, 0, 148]
abbrev dktX3_plain_1 : List UInt8 := dkwX3_plain_1 ++ dktX3_plain_2
def dkwX3_plain_0 : List UInt8 := [26]
abbrev dktX3_plain_0 : List UInt8 := dkwX3_plain_0 ++ dktX3_plain_1
theorem dksX3_plain_0 : cX3_plain.data.toList.drop 0 = dktX3_plain_0 := by decide +kernel
theorem dksX3_plain_1 : cX3_plain.data.toList.drop 1 = dktX3_plain_1 := dk_seg dksX3_plain_0 1 rfl rfl
theorem dksX3_plain_2 : cX3_plain.data.toList.drop 96 = dktX3_plain_2 := dk_seg dksX3_plain_1 95 rfl rfl
theorem dksX3_plain_3 : cX3_plain.data.toList.drop 120 = dktX3_plain_3 := dk_seg dksX3_plain_2 24 rfl rfl
theorem dksX3_plain_4 : cX3_plain.data.toList.drop 143 = dktX3_plain_4 := dk_seg dksX3_plain_3 23 rfl rfl
theorem dX3_plain_0 : decode cX3_plain 0 = .ok (.iload_n 0, 1) := dk_26 (dk_at dksX3_plain_0 0 rfl rfl)
theorem dX3_plain_1 : decode cX3_plain 1 = .ok (.tableswitch 150 0 19 #[95, 97, 101, 105, 107, 110, 113, 115, 117, 119, 122, 125, 127, 130, 133, 136, 139, 142, 145, 148], 95) := by decide +kernel
theorem dX3_plain_96 : decode cX3_plain 96 = .ok (.iconst 2, 1) := dk_5 (dk_at dksX3_plain_2 0 rfl rfl)
theorem dX3_plain_97 : decode cX3_plain 97 = .ok (.ireturn, 1) := dk_172 (dk_at dksX3_plain_2 1 rfl rfl)
theorem dX3_plain_98 : decode cX3_plain 98 = .ok (.sipush 250, 3) := dk_17 0 250 (dk_at dksX3_plain_2 2 rfl rfl)
theorem dX3_plain_101 : decode cX3_plain 101 = .ok (.ireturn, 1) := dk_172 (dk_at dksX3_plain_2 5 rfl rfl)
theorem dX3_plain_102 : decode cX3_plain 102 = .ok (.sipush 320, 3) := dk_17 1 64 (dk_at dksX3_plain_2 6 rfl rfl)
theorem dX3_plain_105 : decode cX3_plain 105 = .ok (.ireturn, 1) := dk_172 (dk_at dksX3_plain_2 9 rfl rfl)
theorem dX3_plain_106 : decode cX3_plain 106 = .ok (.iconst 3, 1) := dk_6 (dk_at dksX3_plain_2 10 rfl rfl)
theorem dX3_plain_107 : decode cX3_plain 107 = .ok (.ireturn, 1) := dk_172 (dk_at dksX3_plain_2 11 rfl rfl)
theorem dX3_plain_108 : decode cX3_plain 108 = .ok (.bipush 20, 2) := dk_16 20 (dk_at dksX3_plain_2 12 rfl rfl)
theorem dX3_plain_110 : decode cX3_plain 110 = .ok (.ireturn, 1) := dk_172 (dk_at dksX3_plain_2 14 rfl rfl)
theorem dX3_plain_111 : decode cX3_plain 111 = .ok (.bipush 30, 2) := dk_16 30 (dk_at dksX3_plain_2 15 rfl rfl)
theorem dX3_plain_113 : decode cX3_plain 113 = .ok (.ireturn, 1) := dk_172 (dk_at dksX3_plain_2 17 rfl rfl)
theorem dX3_plain_114 : decode cX3_plain 114 = .ok (.iconst 3, 1) := dk_6 (dk_at dksX3_plain_2 18 rfl rfl)
theorem dX3_plain_115 : decode cX3_plain 115 = .ok (.ireturn, 1) := dk_172 (dk_at dksX3_plain_2 19 rfl rfl)
theorem dX3_plain_116 : decode cX3_plain 116 = .ok (.iconst 5, 1) := dk_8 (dk_at dksX3_plain_2 20 rfl rfl)
theorem dX3_plain_117 : decode cX3_plain 117 = .ok (.ireturn, 1) := dk_172 (dk_at dksX3_plain_2 21 rfl rfl)
theorem dX3_plain_118 : decode cX3_plain 118 = .ok (.iconst 2, 1) := dk_5 (dk_at dksX3_plain_2 22 rfl rfl)
theorem dX3_plain_119 : decode cX3_plain 119 = .ok (.ireturn, 1) := dk_172 (dk_at dksX3_plain_2 23 rfl rfl)
theorem dX3_plain_120 : decode cX3_plain 120 = .ok (.bipush 10, 2) := dk_16 10 (dk_at dksX3_plain_3 0 rfl rfl)
theorem dX3_plain_122 : decode cX3_plain 122 = .ok (.ireturn, 1) := dk_172 (dk_at dksX3_plain_3 2 rfl rfl)
theorem dX3_plain_123 : decode cX3_plain 123 = .ok (.bipush 50, 2) := dk_16 50 (dk_at dksX3_plain_3 3 rfl rfl)
theorem dX3_plain_125 : decode cX3_plain 125 = .ok (.ireturn, 1) := dk_172 (dk_at dksX3_plain_3 5 rfl rfl)
theorem dX3_plain_126 : decode cX3_plain 126 = .ok (.iconst 1, 1) := dk_4 (dk_at dksX3_plain_3 6 rfl rfl)
theorem dX3_plain_127 : decode cX3_plain 127 = .ok (.ireturn, 1) := dk_172 (dk_at dksX3_plain_3 7 rfl rfl)
theorem dX3_plain_128 : decode cX3_plain 128 = .ok (.bipush 10, 2) := dk_16 10 (dk_at dksX3_plain_3 8 rfl rfl)
theorem dX3_plain_130 : decode cX3_plain 130 = .ok (.ireturn, 1) := dk_172 (dk_at dksX3_plain_3 10 rfl rfl)
theorem dX3_plain_131 : decode cX3_plain 131 = .ok (.bipush 80, 2) := dk_16 80 (dk_at dksX3_plain_3 11 rfl rfl)
theorem dX3_plain_133 : decode cX3_plain 133 = .ok (.ireturn, 1) := dk_172 (dk_at dksX3_plain_3 13 rfl rfl)
theorem dX3_plain_134 : decode cX3_plain 134 = .ok (.bipush 100, 2) := dk_16 100 (dk_at dksX3_plain_3 14 rfl rfl)
theorem dX3_plain_136 : decode cX3_plain 136 = .ok (.ireturn, 1) := dk_172 (dk_at dksX3_plain_3 16 rfl rfl)
theorem dX3_plain_137 : decode cX3_plain 137 = .ok (.bipush 50, 2) := dk_16 50 (dk_at dksX3_plain_3 17 rfl rfl)
theorem dX3_plain_139 : decode cX3_plain 139 = .ok (.ireturn, 1) := dk_172 (dk_at dksX3_plain_3 19 rfl rfl)
theorem dX3_plain_140 : decode cX3_plain 140 = .ok (.bipush 80, 2) := dk_16 80 (dk_at dksX3_plain_3 20 rfl rfl)
theorem dX3_plain_142 : decode cX3_plain 142 = .ok (.ireturn, 1) := dk_172 (dk_at dksX3_plain_3 22 rfl rfl)
theorem dX3_plain_143 : decode cX3_plain 143 = .ok (.bipush 20, 2) := dk_16 20 (dk_at dksX3_plain_4 0 rfl rfl)
theorem dX3_plain_145 : decode cX3_plain 145 = .ok (.ireturn, 1) := dk_172 (dk_at dksX3_plain_4 2 rfl rfl)
theorem dX3_plain_146 : decode cX3_plain 146 = .ok (.bipush 50, 2) := dk_16 50 (dk_at dksX3_plain_4 3 rfl rfl)
theorem dX3_plain_148 : decode cX3_plain 148 = .ok (.ireturn, 1) := dk_172 (dk_at dksX3_plain_4 5 rfl rfl)
theorem dX3_plain_149 : decode cX3_plain 149 = .ok (.iconst 0, 1) := dk_3 (dk_at dksX3_plain_4 6 rfl rfl)
theorem dX3_plain_150 : decode cX3_plain 150 = .ok (.ireturn, 1) := dk_172 (dk_at dksX3_plain_4 7 rfl rfl)
theorem dX3_plain_151 : decode cX3_plain 151 = .ok (.bipush 20, 2) := dk_16 20 (dk_at dksX3_plain_4 8 rfl rfl)
theorem dX3_plain_153 : decode cX3_plain 153 = .ok (.ireturn, 1) := dk_172 (dk_at dksX3_plain_4 10 rfl rfl)
def dkwX3_inForce_1 : List UInt8 := [132, 3, 1, 167, 255, 233, 28, 172]
abbrev dktX3_inForce_1 : List UInt8 := dkwX3_inForce_1 ++ []
def dkwX3_inForce_0 : List UInt8 := [2, 61, 3, 62, 29, 42, 180, 1, 163, 162, 0, 21, 42, 180, 0, 162, 29, 46, 27, 163, 0, 5, 29, 61]
abbrev dktX3_inForce_0 : List UInt8 := dkwX3_inForce_0 ++ dktX3_inForce_1
theorem dksX3_inForce_0 : cX3_inForce.data.toList.drop 0 = dktX3_inForce_0 := by decide +kernel
theorem dksX3_inForce_1 : cX3_inForce.data.toList.drop 24 = dktX3_inForce_1 := dk_seg dksX3_inForce_0 24 rfl rfl
theorem dX3_inForce_0 : decode cX3_inForce 0 = .ok (.iconst (-1), 1) := dk_2 (dk_at dksX3_inForce_0 0 rfl rfl)
theorem dX3_inForce_1 : decode cX3_inForce 1 = .ok (.istore_n 2, 1) := dk_61 (dk_at dksX3_inForce_0 1 rfl rfl)
theorem dX3_inForce_2 : decode cX3_inForce 2 = .ok (.iconst 0, 1) := dk_3 (dk_at dksX3_inForce_0 2 rfl rfl)
theorem dX3_inForce_3 : decode cX3_inForce 3 = .ok (.istore_n 3, 1) := dk_62 (dk_at dksX3_inForce_0 3 rfl rfl)
theorem dX3_inForce_4 : decode cX3_inForce 4 = .ok (.iload_n 3, 1) := dk_29 (dk_at dksX3_inForce_0 4 rfl rfl)
theorem dX3_inForce_5 : decode cX3_inForce 5 = .ok (.aload_n 0, 1) := dk_42 (dk_at dksX3_inForce_0 5 rfl rfl)
theorem dX3_inForce_6 : decode cX3_inForce 6 = .ok (.getfield 419, 3) := dk_180 1 163 (dk_at dksX3_inForce_0 6 rfl rfl)
theorem dX3_inForce_9 : decode cX3_inForce 9 = .ok (.if_icmp .ge 21, 3) := dk_162 0 21 (dk_at dksX3_inForce_0 9 rfl rfl)
theorem dX3_inForce_12 : decode cX3_inForce 12 = .ok (.aload_n 0, 1) := dk_42 (dk_at dksX3_inForce_0 12 rfl rfl)
theorem dX3_inForce_13 : decode cX3_inForce 13 = .ok (.getfield 162, 3) := dk_180 0 162 (dk_at dksX3_inForce_0 13 rfl rfl)
theorem dX3_inForce_16 : decode cX3_inForce 16 = .ok (.iload_n 3, 1) := dk_29 (dk_at dksX3_inForce_0 16 rfl rfl)
theorem dX3_inForce_17 : decode cX3_inForce 17 = .ok (.iaload, 1) := dk_46 (dk_at dksX3_inForce_0 17 rfl rfl)
theorem dX3_inForce_18 : decode cX3_inForce 18 = .ok (.iload_n 1, 1) := dk_27 (dk_at dksX3_inForce_0 18 rfl rfl)
theorem dX3_inForce_19 : decode cX3_inForce 19 = .ok (.if_icmp .gt 5, 3) := dk_163 0 5 (dk_at dksX3_inForce_0 19 rfl rfl)
theorem dX3_inForce_22 : decode cX3_inForce 22 = .ok (.iload_n 3, 1) := dk_29 (dk_at dksX3_inForce_0 22 rfl rfl)
theorem dX3_inForce_23 : decode cX3_inForce 23 = .ok (.istore_n 2, 1) := dk_61 (dk_at dksX3_inForce_0 23 rfl rfl)
theorem dX3_inForce_24 : decode cX3_inForce 24 = .ok (.iinc 3 1, 3) := dk_132 3 1 (dk_at dksX3_inForce_1 0 rfl rfl)
theorem dX3_inForce_27 : decode cX3_inForce 27 = .ok (.goto (-23), 3) := dk_167 255 233 (dk_at dksX3_inForce_1 3 rfl rfl)
theorem dX3_inForce_30 : decode cX3_inForce 30 = .ok (.iload_n 2, 1) := dk_28 (dk_at dksX3_inForce_1 6 rfl rfl)
theorem dX3_inForce_31 : decode cX3_inForce 31 = .ok (.ireturn, 1) := dk_172 (dk_at dksX3_inForce_1 7 rfl rfl)
def dkwX3_care_3 : List UInt8 := [42, 180, 0, 47, 27, 3, 79, 4, 172]
abbrev dktX3_care_3 : List UInt8 := dkwX3_care_3 ++ []
def dkwX3_care_2 : List UInt8 := [42, 180, 0, 212, 79, 42, 180, 0, 44, 27, 3, 42, 180, 0, 44, 27, 46, 16, 30, 100, 184, 0, 222, 79]
abbrev dktX3_care_2 : List UInt8 := dkwX3_care_2 ++ dktX3_care_3
def dkwX3_care_1 : List UInt8 := [27, 104, 28, 96, 46, 42, 180, 0, 212, 160, 0, 5, 3, 172, 42, 180, 0, 62, 16, 11, 27, 104, 28, 96]
abbrev dktX3_care_1 : List UInt8 := dkwX3_care_1 ++ dktX3_care_2
def dkwX3_care_0 : List UInt8 := [42, 27, 182, 0, 219, 153, 0, 31, 28, 3, 16, 10, 184, 0, 194, 153, 0, 21, 42, 180, 0, 62, 16, 11]
abbrev dktX3_care_0 : List UInt8 := dkwX3_care_0 ++ dktX3_care_1
theorem dksX3_care_0 : cX3_care.data.toList.drop 0 = dktX3_care_0 := by decide +kernel
theorem dksX3_care_1 : cX3_care.data.toList.drop 24 = dktX3_care_1 := dk_seg dksX3_care_0 24 rfl rfl
theorem dksX3_care_2 : cX3_care.data.toList.drop 48 = dktX3_care_2 := dk_seg dksX3_care_1 24 rfl rfl
theorem dksX3_care_3 : cX3_care.data.toList.drop 72 = dktX3_care_3 := dk_seg dksX3_care_2 24 rfl rfl
theorem dX3_care_0 : decode cX3_care 0 = .ok (.aload_n 0, 1) := dk_42 (dk_at dksX3_care_0 0 rfl rfl)
theorem dX3_care_1 : decode cX3_care 1 = .ok (.iload_n 1, 1) := dk_27 (dk_at dksX3_care_0 1 rfl rfl)
theorem dX3_care_2 : decode cX3_care 2 = .ok (.invokevirtual 219, 3) := dk_182 0 219 (dk_at dksX3_care_0 2 rfl rfl)
theorem dX3_care_5 : decode cX3_care 5 = .ok (.ifCond .eq 31, 3) := dk_153 0 31 (dk_at dksX3_care_0 5 rfl rfl)
theorem dX3_care_8 : decode cX3_care 8 = .ok (.iload_n 2, 1) := dk_28 (dk_at dksX3_care_0 8 rfl rfl)
theorem dX3_care_9 : decode cX3_care 9 = .ok (.iconst 0, 1) := dk_3 (dk_at dksX3_care_0 9 rfl rfl)
theorem dX3_care_10 : decode cX3_care 10 = .ok (.bipush 10, 2) := dk_16 10 (dk_at dksX3_care_0 10 rfl rfl)
theorem dX3_care_12 : decode cX3_care 12 = .ok (.invokestatic 194, 3) := dk_184 0 194 (dk_at dksX3_care_0 12 rfl rfl)
theorem dX3_care_15 : decode cX3_care 15 = .ok (.ifCond .eq 21, 3) := dk_153 0 21 (dk_at dksX3_care_0 15 rfl rfl)
theorem dX3_care_18 : decode cX3_care 18 = .ok (.aload_n 0, 1) := dk_42 (dk_at dksX3_care_0 18 rfl rfl)
theorem dX3_care_19 : decode cX3_care 19 = .ok (.getfield 62, 3) := dk_180 0 62 (dk_at dksX3_care_0 19 rfl rfl)
theorem dX3_care_22 : decode cX3_care 22 = .ok (.bipush 11, 2) := dk_16 11 (dk_at dksX3_care_0 22 rfl rfl)
theorem dX3_care_24 : decode cX3_care 24 = .ok (.iload_n 1, 1) := dk_27 (dk_at dksX3_care_1 0 rfl rfl)
theorem dX3_care_25 : decode cX3_care 25 = .ok (.imul, 1) := dk_104 (dk_at dksX3_care_1 1 rfl rfl)
theorem dX3_care_26 : decode cX3_care 26 = .ok (.iload_n 2, 1) := dk_28 (dk_at dksX3_care_1 2 rfl rfl)
theorem dX3_care_27 : decode cX3_care 27 = .ok (.iadd, 1) := dk_96 (dk_at dksX3_care_1 3 rfl rfl)
theorem dX3_care_28 : decode cX3_care 28 = .ok (.iaload, 1) := dk_46 (dk_at dksX3_care_1 4 rfl rfl)
theorem dX3_care_29 : decode cX3_care 29 = .ok (.aload_n 0, 1) := dk_42 (dk_at dksX3_care_1 5 rfl rfl)
theorem dX3_care_30 : decode cX3_care 30 = .ok (.getfield 212, 3) := dk_180 0 212 (dk_at dksX3_care_1 6 rfl rfl)
theorem dX3_care_33 : decode cX3_care 33 = .ok (.if_icmp .ne 5, 3) := dk_160 0 5 (dk_at dksX3_care_1 9 rfl rfl)
theorem dX3_care_36 : decode cX3_care 36 = .ok (.iconst 0, 1) := dk_3 (dk_at dksX3_care_1 12 rfl rfl)
theorem dX3_care_37 : decode cX3_care 37 = .ok (.ireturn, 1) := dk_172 (dk_at dksX3_care_1 13 rfl rfl)
theorem dX3_care_38 : decode cX3_care 38 = .ok (.aload_n 0, 1) := dk_42 (dk_at dksX3_care_1 14 rfl rfl)
theorem dX3_care_39 : decode cX3_care 39 = .ok (.getfield 62, 3) := dk_180 0 62 (dk_at dksX3_care_1 15 rfl rfl)
theorem dX3_care_42 : decode cX3_care 42 = .ok (.bipush 11, 2) := dk_16 11 (dk_at dksX3_care_1 18 rfl rfl)
theorem dX3_care_44 : decode cX3_care 44 = .ok (.iload_n 1, 1) := dk_27 (dk_at dksX3_care_1 20 rfl rfl)
theorem dX3_care_45 : decode cX3_care 45 = .ok (.imul, 1) := dk_104 (dk_at dksX3_care_1 21 rfl rfl)
theorem dX3_care_46 : decode cX3_care 46 = .ok (.iload_n 2, 1) := dk_28 (dk_at dksX3_care_1 22 rfl rfl)
theorem dX3_care_47 : decode cX3_care 47 = .ok (.iadd, 1) := dk_96 (dk_at dksX3_care_1 23 rfl rfl)
theorem dX3_care_48 : decode cX3_care 48 = .ok (.aload_n 0, 1) := dk_42 (dk_at dksX3_care_2 0 rfl rfl)
theorem dX3_care_49 : decode cX3_care 49 = .ok (.getfield 212, 3) := dk_180 0 212 (dk_at dksX3_care_2 1 rfl rfl)
theorem dX3_care_52 : decode cX3_care 52 = .ok (.iastore, 1) := dk_79 (dk_at dksX3_care_2 4 rfl rfl)
theorem dX3_care_53 : decode cX3_care 53 = .ok (.aload_n 0, 1) := dk_42 (dk_at dksX3_care_2 5 rfl rfl)
theorem dX3_care_54 : decode cX3_care 54 = .ok (.getfield 44, 3) := dk_180 0 44 (dk_at dksX3_care_2 6 rfl rfl)
theorem dX3_care_57 : decode cX3_care 57 = .ok (.iload_n 1, 1) := dk_27 (dk_at dksX3_care_2 9 rfl rfl)
theorem dX3_care_58 : decode cX3_care 58 = .ok (.iconst 0, 1) := dk_3 (dk_at dksX3_care_2 10 rfl rfl)
theorem dX3_care_59 : decode cX3_care 59 = .ok (.aload_n 0, 1) := dk_42 (dk_at dksX3_care_2 11 rfl rfl)
theorem dX3_care_60 : decode cX3_care 60 = .ok (.getfield 44, 3) := dk_180 0 44 (dk_at dksX3_care_2 12 rfl rfl)
theorem dX3_care_63 : decode cX3_care 63 = .ok (.iload_n 1, 1) := dk_27 (dk_at dksX3_care_2 15 rfl rfl)
theorem dX3_care_64 : decode cX3_care 64 = .ok (.iaload, 1) := dk_46 (dk_at dksX3_care_2 16 rfl rfl)
theorem dX3_care_65 : decode cX3_care 65 = .ok (.bipush 30, 2) := dk_16 30 (dk_at dksX3_care_2 17 rfl rfl)
theorem dX3_care_67 : decode cX3_care 67 = .ok (.isub, 1) := dk_100 (dk_at dksX3_care_2 19 rfl rfl)
theorem dX3_care_68 : decode cX3_care 68 = .ok (.invokestatic 222, 3) := dk_184 0 222 (dk_at dksX3_care_2 20 rfl rfl)
theorem dX3_care_71 : decode cX3_care 71 = .ok (.iastore, 1) := dk_79 (dk_at dksX3_care_2 23 rfl rfl)
theorem dX3_care_72 : decode cX3_care 72 = .ok (.aload_n 0, 1) := dk_42 (dk_at dksX3_care_3 0 rfl rfl)
theorem dX3_care_73 : decode cX3_care 73 = .ok (.getfield 47, 3) := dk_180 0 47 (dk_at dksX3_care_3 1 rfl rfl)
theorem dX3_care_76 : decode cX3_care 76 = .ok (.iload_n 1, 1) := dk_27 (dk_at dksX3_care_3 4 rfl rfl)
theorem dX3_care_77 : decode cX3_care 77 = .ok (.iconst 0, 1) := dk_3 (dk_at dksX3_care_3 5 rfl rfl)
theorem dX3_care_78 : decode cX3_care 78 = .ok (.iastore, 1) := dk_79 (dk_at dksX3_care_3 6 rfl rfl)
theorem dX3_care_79 : decode cX3_care 79 = .ok (.iconst 1, 1) := dk_4 (dk_at dksX3_care_3 7 rfl rfl)
theorem dX3_care_80 : decode cX3_care 80 = .ok (.ireturn, 1) := dk_172 (dk_at dksX3_care_3 8 rfl rfl)
def dkwX3_isBed_0 : List UInt8 := [42, 27, 182, 0, 198, 153, 0, 16, 42, 180, 0, 25, 27, 51, 153, 0, 7, 4, 167, 0, 4, 3, 172]
abbrev dktX3_isBed_0 : List UInt8 := dkwX3_isBed_0 ++ []
theorem dksX3_isBed_0 : cX3_isBed.data.toList.drop 0 = dktX3_isBed_0 := by decide +kernel
theorem dX3_isBed_0 : decode cX3_isBed 0 = .ok (.aload_n 0, 1) := dk_42 (dk_at dksX3_isBed_0 0 rfl rfl)
theorem dX3_isBed_1 : decode cX3_isBed 1 = .ok (.iload_n 1, 1) := dk_27 (dk_at dksX3_isBed_0 1 rfl rfl)
theorem dX3_isBed_2 : decode cX3_isBed 2 = .ok (.invokevirtual 198, 3) := dk_182 0 198 (dk_at dksX3_isBed_0 2 rfl rfl)
theorem dX3_isBed_5 : decode cX3_isBed 5 = .ok (.ifCond .eq 16, 3) := dk_153 0 16 (dk_at dksX3_isBed_0 5 rfl rfl)
theorem dX3_isBed_8 : decode cX3_isBed 8 = .ok (.aload_n 0, 1) := dk_42 (dk_at dksX3_isBed_0 8 rfl rfl)
theorem dX3_isBed_9 : decode cX3_isBed 9 = .ok (.getfield 25, 3) := dk_180 0 25 (dk_at dksX3_isBed_0 9 rfl rfl)
theorem dX3_isBed_12 : decode cX3_isBed 12 = .ok (.iload_n 1, 1) := dk_27 (dk_at dksX3_isBed_0 12 rfl rfl)
theorem dX3_isBed_13 : decode cX3_isBed 13 = .ok (.baload, 1) := dk_51 (dk_at dksX3_isBed_0 13 rfl rfl)
theorem dX3_isBed_14 : decode cX3_isBed 14 = .ok (.ifCond .eq 7, 3) := dk_153 0 7 (dk_at dksX3_isBed_0 14 rfl rfl)
theorem dX3_isBed_17 : decode cX3_isBed 17 = .ok (.iconst 1, 1) := dk_4 (dk_at dksX3_isBed_0 17 rfl rfl)
theorem dX3_isBed_18 : decode cX3_isBed 18 = .ok (.goto 4, 3) := dk_167 0 4 (dk_at dksX3_isBed_0 18 rfl rfl)
theorem dX3_isBed_21 : decode cX3_isBed 21 = .ok (.iconst 0, 1) := dk_3 (dk_at dksX3_isBed_0 21 rfl rfl)
theorem dX3_isBed_22 : decode cX3_isBed 22 = .ok (.ireturn, 1) := dk_172 (dk_at dksX3_isBed_0 22 rfl rfl)
def dkwX3_treat_2 : List UInt8 := [180, 0, 50, 27, 46, 16, 10, 96, 184, 0, 227, 79, 167, 0, 10, 42, 180, 0, 32, 27, 4, 84, 4, 172]
abbrev dktX3_treat_2 : List UInt8 := dkwX3_treat_2 ++ []
def dkwX3_treat_1 : List UInt8 := [180, 0, 32, 27, 51, 153, 0, 5, 3, 172, 28, 154, 0, 26, 42, 180, 0, 50, 27, 16, 100, 42]
abbrev dktX3_treat_1 : List UInt8 := dkwX3_treat_1 ++ dktX3_treat_2
def dkwX3_treat_0 : List UInt8 := [42, 27, 182, 0, 219, 153, 0, 26, 28, 3, 4, 184, 0, 194, 153, 0, 17, 28, 4, 160, 0, 14, 42]
abbrev dktX3_treat_0 : List UInt8 := dkwX3_treat_0 ++ dktX3_treat_1
theorem dksX3_treat_0 : cX3_treat.data.toList.drop 0 = dktX3_treat_0 := by decide +kernel
theorem dksX3_treat_1 : cX3_treat.data.toList.drop 23 = dktX3_treat_1 := dk_seg dksX3_treat_0 23 rfl rfl
theorem dksX3_treat_2 : cX3_treat.data.toList.drop 45 = dktX3_treat_2 := dk_seg dksX3_treat_1 22 rfl rfl
theorem dX3_treat_0 : decode cX3_treat 0 = .ok (.aload_n 0, 1) := dk_42 (dk_at dksX3_treat_0 0 rfl rfl)
theorem dX3_treat_1 : decode cX3_treat 1 = .ok (.iload_n 1, 1) := dk_27 (dk_at dksX3_treat_0 1 rfl rfl)
theorem dX3_treat_2 : decode cX3_treat 2 = .ok (.invokevirtual 219, 3) := dk_182 0 219 (dk_at dksX3_treat_0 2 rfl rfl)
theorem dX3_treat_5 : decode cX3_treat 5 = .ok (.ifCond .eq 26, 3) := dk_153 0 26 (dk_at dksX3_treat_0 5 rfl rfl)
theorem dX3_treat_8 : decode cX3_treat 8 = .ok (.iload_n 2, 1) := dk_28 (dk_at dksX3_treat_0 8 rfl rfl)
theorem dX3_treat_9 : decode cX3_treat 9 = .ok (.iconst 0, 1) := dk_3 (dk_at dksX3_treat_0 9 rfl rfl)
theorem dX3_treat_10 : decode cX3_treat 10 = .ok (.iconst 1, 1) := dk_4 (dk_at dksX3_treat_0 10 rfl rfl)
theorem dX3_treat_11 : decode cX3_treat 11 = .ok (.invokestatic 194, 3) := dk_184 0 194 (dk_at dksX3_treat_0 11 rfl rfl)
theorem dX3_treat_14 : decode cX3_treat 14 = .ok (.ifCond .eq 17, 3) := dk_153 0 17 (dk_at dksX3_treat_0 14 rfl rfl)
theorem dX3_treat_17 : decode cX3_treat 17 = .ok (.iload_n 2, 1) := dk_28 (dk_at dksX3_treat_0 17 rfl rfl)
theorem dX3_treat_18 : decode cX3_treat 18 = .ok (.iconst 1, 1) := dk_4 (dk_at dksX3_treat_0 18 rfl rfl)
theorem dX3_treat_19 : decode cX3_treat 19 = .ok (.if_icmp .ne 14, 3) := dk_160 0 14 (dk_at dksX3_treat_0 19 rfl rfl)
theorem dX3_treat_22 : decode cX3_treat 22 = .ok (.aload_n 0, 1) := dk_42 (dk_at dksX3_treat_0 22 rfl rfl)
theorem dX3_treat_23 : decode cX3_treat 23 = .ok (.getfield 32, 3) := dk_180 0 32 (dk_at dksX3_treat_1 0 rfl rfl)
theorem dX3_treat_26 : decode cX3_treat 26 = .ok (.iload_n 1, 1) := dk_27 (dk_at dksX3_treat_1 3 rfl rfl)
theorem dX3_treat_27 : decode cX3_treat 27 = .ok (.baload, 1) := dk_51 (dk_at dksX3_treat_1 4 rfl rfl)
theorem dX3_treat_28 : decode cX3_treat 28 = .ok (.ifCond .eq 5, 3) := dk_153 0 5 (dk_at dksX3_treat_1 5 rfl rfl)
theorem dX3_treat_31 : decode cX3_treat 31 = .ok (.iconst 0, 1) := dk_3 (dk_at dksX3_treat_1 8 rfl rfl)
theorem dX3_treat_32 : decode cX3_treat 32 = .ok (.ireturn, 1) := dk_172 (dk_at dksX3_treat_1 9 rfl rfl)
theorem dX3_treat_33 : decode cX3_treat 33 = .ok (.iload_n 2, 1) := dk_28 (dk_at dksX3_treat_1 10 rfl rfl)
theorem dX3_treat_34 : decode cX3_treat 34 = .ok (.ifCond .ne 26, 3) := dk_154 0 26 (dk_at dksX3_treat_1 11 rfl rfl)
theorem dX3_treat_37 : decode cX3_treat 37 = .ok (.aload_n 0, 1) := dk_42 (dk_at dksX3_treat_1 14 rfl rfl)
theorem dX3_treat_38 : decode cX3_treat 38 = .ok (.getfield 50, 3) := dk_180 0 50 (dk_at dksX3_treat_1 15 rfl rfl)
theorem dX3_treat_41 : decode cX3_treat 41 = .ok (.iload_n 1, 1) := dk_27 (dk_at dksX3_treat_1 18 rfl rfl)
theorem dX3_treat_42 : decode cX3_treat 42 = .ok (.bipush 100, 2) := dk_16 100 (dk_at dksX3_treat_1 19 rfl rfl)
theorem dX3_treat_44 : decode cX3_treat 44 = .ok (.aload_n 0, 1) := dk_42 (dk_at dksX3_treat_1 21 rfl rfl)
theorem dX3_treat_45 : decode cX3_treat 45 = .ok (.getfield 50, 3) := dk_180 0 50 (dk_at dksX3_treat_2 0 rfl rfl)
theorem dX3_treat_48 : decode cX3_treat 48 = .ok (.iload_n 1, 1) := dk_27 (dk_at dksX3_treat_2 3 rfl rfl)
theorem dX3_treat_49 : decode cX3_treat 49 = .ok (.iaload, 1) := dk_46 (dk_at dksX3_treat_2 4 rfl rfl)
theorem dX3_treat_50 : decode cX3_treat 50 = .ok (.bipush 10, 2) := dk_16 10 (dk_at dksX3_treat_2 5 rfl rfl)
theorem dX3_treat_52 : decode cX3_treat 52 = .ok (.iadd, 1) := dk_96 (dk_at dksX3_treat_2 7 rfl rfl)
theorem dX3_treat_53 : decode cX3_treat 53 = .ok (.invokestatic 227, 3) := dk_184 0 227 (dk_at dksX3_treat_2 8 rfl rfl)
theorem dX3_treat_56 : decode cX3_treat 56 = .ok (.iastore, 1) := dk_79 (dk_at dksX3_treat_2 11 rfl rfl)
theorem dX3_treat_57 : decode cX3_treat 57 = .ok (.goto 10, 3) := dk_167 0 10 (dk_at dksX3_treat_2 12 rfl rfl)
theorem dX3_treat_60 : decode cX3_treat 60 = .ok (.aload_n 0, 1) := dk_42 (dk_at dksX3_treat_2 15 rfl rfl)
theorem dX3_treat_61 : decode cX3_treat 61 = .ok (.getfield 32, 3) := dk_180 0 32 (dk_at dksX3_treat_2 16 rfl rfl)
theorem dX3_treat_64 : decode cX3_treat 64 = .ok (.iload_n 1, 1) := dk_27 (dk_at dksX3_treat_2 19 rfl rfl)
theorem dX3_treat_65 : decode cX3_treat 65 = .ok (.iconst 1, 1) := dk_4 (dk_at dksX3_treat_2 20 rfl rfl)
theorem dX3_treat_66 : decode cX3_treat 66 = .ok (.bastore, 1) := dk_84 (dk_at dksX3_treat_2 21 rfl rfl)
theorem dX3_treat_67 : decode cX3_treat 67 = .ok (.iconst 1, 1) := dk_4 (dk_at dksX3_treat_2 22 rfl rfl)
theorem dX3_treat_68 : decode cX3_treat 68 = .ok (.ireturn, 1) := dk_172 (dk_at dksX3_treat_2 23 rfl rfl)
def dkwX3_pass_5 : List UInt8 := [180, 0, 212, 4, 96, 181, 0, 212, 132, 2, 1, 167, 255, 153, 42, 180, 0, 212, 172]
abbrev dktX3_pass_5 : List UInt8 := dkwX3_pass_5 ++ []
def dkwX3_pass_4 : List UInt8 := [89, 180, 0, 251, 21, 4, 133, 97, 181, 0, 251, 132, 3, 1, 167, 255, 210, 42, 182, 0, 254, 42, 89]
abbrev dktX3_pass_4 : List UInt8 := dkwX3_pass_4 ++ dktX3_pass_5
def dkwX3_pass_3 : List UInt8 := [8, 42, 180, 0, 77, 29, 46, 184, 0, 227, 54, 4, 42, 180, 0, 77, 29, 92, 46, 21, 4, 100, 79, 42]
abbrev dktX3_pass_3 : List UInt8 := dkwX3_pass_3 ++ dktX3_pass_4
def dkwX3_pass_2 : List UInt8 := [153, 0, 8, 42, 29, 182, 0, 247, 132, 3, 1, 167, 255, 231, 3, 62, 29, 42, 180, 0, 202, 162, 0, 44]
abbrev dktX3_pass_2 : List UInt8 := dkwX3_pass_2 ++ dktX3_pass_3
def dkwX3_pass_1 : List UInt8 := [3, 61, 28, 27, 162, 0, 104, 3, 62, 29, 42, 180, 0, 191, 162, 0, 23, 42, 180, 0, 25, 29, 51]
abbrev dktX3_pass_1 : List UInt8 := dkwX3_pass_1 ++ dktX3_pass_2
def dkwX3_pass_0 : List UInt8 := [27, 4, 16, 100, 184, 0, 194, 153, 0, 15, 42, 180, 0, 212, 17, 14, 65, 27, 100, 164, 0, 5, 2, 172]
abbrev dktX3_pass_0 : List UInt8 := dkwX3_pass_0 ++ dktX3_pass_1
theorem dksX3_pass_0 : cX3_pass.data.toList.drop 0 = dktX3_pass_0 := by decide +kernel
theorem dksX3_pass_1 : cX3_pass.data.toList.drop 24 = dktX3_pass_1 := dk_seg dksX3_pass_0 24 rfl rfl
theorem dksX3_pass_2 : cX3_pass.data.toList.drop 47 = dktX3_pass_2 := dk_seg dksX3_pass_1 23 rfl rfl
theorem dksX3_pass_3 : cX3_pass.data.toList.drop 71 = dktX3_pass_3 := dk_seg dksX3_pass_2 24 rfl rfl
theorem dksX3_pass_4 : cX3_pass.data.toList.drop 95 = dktX3_pass_4 := dk_seg dksX3_pass_3 24 rfl rfl
theorem dksX3_pass_5 : cX3_pass.data.toList.drop 118 = dktX3_pass_5 := dk_seg dksX3_pass_4 23 rfl rfl
theorem dX3_pass_0 : decode cX3_pass 0 = .ok (.iload_n 1, 1) := dk_27 (dk_at dksX3_pass_0 0 rfl rfl)
theorem dX3_pass_1 : decode cX3_pass 1 = .ok (.iconst 1, 1) := dk_4 (dk_at dksX3_pass_0 1 rfl rfl)
theorem dX3_pass_2 : decode cX3_pass 2 = .ok (.bipush 100, 2) := dk_16 100 (dk_at dksX3_pass_0 2 rfl rfl)
theorem dX3_pass_4 : decode cX3_pass 4 = .ok (.invokestatic 194, 3) := dk_184 0 194 (dk_at dksX3_pass_0 4 rfl rfl)
theorem dX3_pass_7 : decode cX3_pass 7 = .ok (.ifCond .eq 15, 3) := dk_153 0 15 (dk_at dksX3_pass_0 7 rfl rfl)
theorem dX3_pass_10 : decode cX3_pass 10 = .ok (.aload_n 0, 1) := dk_42 (dk_at dksX3_pass_0 10 rfl rfl)
theorem dX3_pass_11 : decode cX3_pass 11 = .ok (.getfield 212, 3) := dk_180 0 212 (dk_at dksX3_pass_0 11 rfl rfl)
theorem dX3_pass_14 : decode cX3_pass 14 = .ok (.sipush 3649, 3) := dk_17 14 65 (dk_at dksX3_pass_0 14 rfl rfl)
theorem dX3_pass_17 : decode cX3_pass 17 = .ok (.iload_n 1, 1) := dk_27 (dk_at dksX3_pass_0 17 rfl rfl)
theorem dX3_pass_18 : decode cX3_pass 18 = .ok (.isub, 1) := dk_100 (dk_at dksX3_pass_0 18 rfl rfl)
theorem dX3_pass_19 : decode cX3_pass 19 = .ok (.if_icmp .le 5, 3) := dk_164 0 5 (dk_at dksX3_pass_0 19 rfl rfl)
theorem dX3_pass_22 : decode cX3_pass 22 = .ok (.iconst (-1), 1) := dk_2 (dk_at dksX3_pass_0 22 rfl rfl)
theorem dX3_pass_23 : decode cX3_pass 23 = .ok (.ireturn, 1) := dk_172 (dk_at dksX3_pass_0 23 rfl rfl)
theorem dX3_pass_24 : decode cX3_pass 24 = .ok (.iconst 0, 1) := dk_3 (dk_at dksX3_pass_1 0 rfl rfl)
theorem dX3_pass_25 : decode cX3_pass 25 = .ok (.istore_n 2, 1) := dk_61 (dk_at dksX3_pass_1 1 rfl rfl)
theorem dX3_pass_26 : decode cX3_pass 26 = .ok (.iload_n 2, 1) := dk_28 (dk_at dksX3_pass_1 2 rfl rfl)
theorem dX3_pass_27 : decode cX3_pass 27 = .ok (.iload_n 1, 1) := dk_27 (dk_at dksX3_pass_1 3 rfl rfl)
theorem dX3_pass_28 : decode cX3_pass 28 = .ok (.if_icmp .ge 104, 3) := dk_162 0 104 (dk_at dksX3_pass_1 4 rfl rfl)
theorem dX3_pass_31 : decode cX3_pass 31 = .ok (.iconst 0, 1) := dk_3 (dk_at dksX3_pass_1 7 rfl rfl)
theorem dX3_pass_32 : decode cX3_pass 32 = .ok (.istore_n 3, 1) := dk_62 (dk_at dksX3_pass_1 8 rfl rfl)
theorem dX3_pass_33 : decode cX3_pass 33 = .ok (.iload_n 3, 1) := dk_29 (dk_at dksX3_pass_1 9 rfl rfl)
theorem dX3_pass_34 : decode cX3_pass 34 = .ok (.aload_n 0, 1) := dk_42 (dk_at dksX3_pass_1 10 rfl rfl)
theorem dX3_pass_35 : decode cX3_pass 35 = .ok (.getfield 191, 3) := dk_180 0 191 (dk_at dksX3_pass_1 11 rfl rfl)
theorem dX3_pass_38 : decode cX3_pass 38 = .ok (.if_icmp .ge 23, 3) := dk_162 0 23 (dk_at dksX3_pass_1 14 rfl rfl)
theorem dX3_pass_41 : decode cX3_pass 41 = .ok (.aload_n 0, 1) := dk_42 (dk_at dksX3_pass_1 17 rfl rfl)
theorem dX3_pass_42 : decode cX3_pass 42 = .ok (.getfield 25, 3) := dk_180 0 25 (dk_at dksX3_pass_1 18 rfl rfl)
theorem dX3_pass_45 : decode cX3_pass 45 = .ok (.iload_n 3, 1) := dk_29 (dk_at dksX3_pass_1 21 rfl rfl)
theorem dX3_pass_46 : decode cX3_pass 46 = .ok (.baload, 1) := dk_51 (dk_at dksX3_pass_1 22 rfl rfl)
theorem dX3_pass_47 : decode cX3_pass 47 = .ok (.ifCond .eq 8, 3) := dk_153 0 8 (dk_at dksX3_pass_2 0 rfl rfl)
theorem dX3_pass_50 : decode cX3_pass 50 = .ok (.aload_n 0, 1) := dk_42 (dk_at dksX3_pass_2 3 rfl rfl)
theorem dX3_pass_51 : decode cX3_pass 51 = .ok (.iload_n 3, 1) := dk_29 (dk_at dksX3_pass_2 4 rfl rfl)
theorem dX3_pass_52 : decode cX3_pass 52 = .ok (.invokevirtual 247, 3) := dk_182 0 247 (dk_at dksX3_pass_2 5 rfl rfl)
theorem dX3_pass_55 : decode cX3_pass 55 = .ok (.iinc 3 1, 3) := dk_132 3 1 (dk_at dksX3_pass_2 8 rfl rfl)
theorem dX3_pass_58 : decode cX3_pass 58 = .ok (.goto (-25), 3) := dk_167 255 231 (dk_at dksX3_pass_2 11 rfl rfl)
theorem dX3_pass_61 : decode cX3_pass 61 = .ok (.iconst 0, 1) := dk_3 (dk_at dksX3_pass_2 14 rfl rfl)
theorem dX3_pass_62 : decode cX3_pass 62 = .ok (.istore_n 3, 1) := dk_62 (dk_at dksX3_pass_2 15 rfl rfl)
theorem dX3_pass_63 : decode cX3_pass 63 = .ok (.iload_n 3, 1) := dk_29 (dk_at dksX3_pass_2 16 rfl rfl)
theorem dX3_pass_64 : decode cX3_pass 64 = .ok (.aload_n 0, 1) := dk_42 (dk_at dksX3_pass_2 17 rfl rfl)
theorem dX3_pass_65 : decode cX3_pass 65 = .ok (.getfield 202, 3) := dk_180 0 202 (dk_at dksX3_pass_2 18 rfl rfl)
theorem dX3_pass_68 : decode cX3_pass 68 = .ok (.if_icmp .ge 44, 3) := dk_162 0 44 (dk_at dksX3_pass_2 21 rfl rfl)
theorem dX3_pass_71 : decode cX3_pass 71 = .ok (.iconst 5, 1) := dk_8 (dk_at dksX3_pass_3 0 rfl rfl)
theorem dX3_pass_72 : decode cX3_pass 72 = .ok (.aload_n 0, 1) := dk_42 (dk_at dksX3_pass_3 1 rfl rfl)
theorem dX3_pass_73 : decode cX3_pass 73 = .ok (.getfield 77, 3) := dk_180 0 77 (dk_at dksX3_pass_3 2 rfl rfl)
theorem dX3_pass_76 : decode cX3_pass 76 = .ok (.iload_n 3, 1) := dk_29 (dk_at dksX3_pass_3 5 rfl rfl)
theorem dX3_pass_77 : decode cX3_pass 77 = .ok (.iaload, 1) := dk_46 (dk_at dksX3_pass_3 6 rfl rfl)
theorem dX3_pass_78 : decode cX3_pass 78 = .ok (.invokestatic 227, 3) := dk_184 0 227 (dk_at dksX3_pass_3 7 rfl rfl)
theorem dX3_pass_81 : decode cX3_pass 81 = .ok (.istore 4, 2) := dk_54 4 (dk_at dksX3_pass_3 10 rfl rfl)
theorem dX3_pass_83 : decode cX3_pass 83 = .ok (.aload_n 0, 1) := dk_42 (dk_at dksX3_pass_3 12 rfl rfl)
theorem dX3_pass_84 : decode cX3_pass 84 = .ok (.getfield 77, 3) := dk_180 0 77 (dk_at dksX3_pass_3 13 rfl rfl)
theorem dX3_pass_87 : decode cX3_pass 87 = .ok (.iload_n 3, 1) := dk_29 (dk_at dksX3_pass_3 16 rfl rfl)
theorem dX3_pass_88 : decode cX3_pass 88 = .ok (.dup2, 1) := dk_92 (dk_at dksX3_pass_3 17 rfl rfl)
theorem dX3_pass_89 : decode cX3_pass 89 = .ok (.iaload, 1) := dk_46 (dk_at dksX3_pass_3 18 rfl rfl)
theorem dX3_pass_90 : decode cX3_pass 90 = .ok (.iload 4, 2) := dk_21 4 (dk_at dksX3_pass_3 19 rfl rfl)
theorem dX3_pass_92 : decode cX3_pass 92 = .ok (.isub, 1) := dk_100 (dk_at dksX3_pass_3 21 rfl rfl)
theorem dX3_pass_93 : decode cX3_pass 93 = .ok (.iastore, 1) := dk_79 (dk_at dksX3_pass_3 22 rfl rfl)
theorem dX3_pass_94 : decode cX3_pass 94 = .ok (.aload_n 0, 1) := dk_42 (dk_at dksX3_pass_3 23 rfl rfl)
theorem dX3_pass_95 : decode cX3_pass 95 = .ok (.dup, 1) := dk_89 (dk_at dksX3_pass_4 0 rfl rfl)
theorem dX3_pass_96 : decode cX3_pass 96 = .ok (.getfield 251, 3) := dk_180 0 251 (dk_at dksX3_pass_4 1 rfl rfl)
theorem dX3_pass_99 : decode cX3_pass 99 = .ok (.iload 4, 2) := dk_21 4 (dk_at dksX3_pass_4 4 rfl rfl)
theorem dX3_pass_101 : decode cX3_pass 101 = .ok (.i2l, 1) := dk_133 (dk_at dksX3_pass_4 6 rfl rfl)
theorem dX3_pass_102 : decode cX3_pass 102 = .ok (.ladd, 1) := dk_97 (dk_at dksX3_pass_4 7 rfl rfl)
theorem dX3_pass_103 : decode cX3_pass 103 = .ok (.putfield 251, 3) := dk_181 0 251 (dk_at dksX3_pass_4 8 rfl rfl)
theorem dX3_pass_106 : decode cX3_pass 106 = .ok (.iinc 3 1, 3) := dk_132 3 1 (dk_at dksX3_pass_4 11 rfl rfl)
theorem dX3_pass_109 : decode cX3_pass 109 = .ok (.goto (-46), 3) := dk_167 255 210 (dk_at dksX3_pass_4 14 rfl rfl)
theorem dX3_pass_112 : decode cX3_pass 112 = .ok (.aload_n 0, 1) := dk_42 (dk_at dksX3_pass_4 17 rfl rfl)
theorem dX3_pass_113 : decode cX3_pass 113 = .ok (.invokevirtual 254, 3) := dk_182 0 254 (dk_at dksX3_pass_4 18 rfl rfl)
theorem dX3_pass_116 : decode cX3_pass 116 = .ok (.aload_n 0, 1) := dk_42 (dk_at dksX3_pass_4 21 rfl rfl)
theorem dX3_pass_117 : decode cX3_pass 117 = .ok (.dup, 1) := dk_89 (dk_at dksX3_pass_4 22 rfl rfl)
theorem dX3_pass_118 : decode cX3_pass 118 = .ok (.getfield 212, 3) := dk_180 0 212 (dk_at dksX3_pass_5 0 rfl rfl)
theorem dX3_pass_121 : decode cX3_pass 121 = .ok (.iconst 1, 1) := dk_4 (dk_at dksX3_pass_5 3 rfl rfl)
theorem dX3_pass_122 : decode cX3_pass 122 = .ok (.iadd, 1) := dk_96 (dk_at dksX3_pass_5 4 rfl rfl)
theorem dX3_pass_123 : decode cX3_pass 123 = .ok (.putfield 212, 3) := dk_181 0 212 (dk_at dksX3_pass_5 5 rfl rfl)
theorem dX3_pass_126 : decode cX3_pass 126 = .ok (.iinc 2 1, 3) := dk_132 2 1 (dk_at dksX3_pass_5 8 rfl rfl)
theorem dX3_pass_129 : decode cX3_pass 129 = .ok (.goto (-103), 3) := dk_167 255 153 (dk_at dksX3_pass_5 11 rfl rfl)
theorem dX3_pass_132 : decode cX3_pass 132 = .ok (.aload_n 0, 1) := dk_42 (dk_at dksX3_pass_5 14 rfl rfl)
theorem dX3_pass_133 : decode cX3_pass 133 = .ok (.getfield 212, 3) := dk_180 0 212 (dk_at dksX3_pass_5 15 rfl rfl)
theorem dX3_pass_136 : decode cX3_pass 136 = .ok (.ireturn, 1) := dk_172 (dk_at dksX3_pass_5 18 rfl rfl)
def dkwX3_ages_11 : List UInt8 := [27, 3, 84, 42, 180, 0, 50, 27, 3, 79, 177]
abbrev dktX3_ages_11 : List UInt8 := dkwX3_ages_11 ++ []
def dkwX3_ages_10 : List UInt8 := [16, 60, 159, 0, 4, 177, 42, 180, 0, 50, 27, 46, 42, 8, 182, 0, 209, 164, 0, 10, 42, 180, 0, 32]
abbrev dktX3_ages_10 : List UInt8 := dkwX3_ages_10 ++ dktX3_ages_11
def dkwX3_ages_9 : List UInt8 := [180, 0, 56, 27, 46, 42, 16, 6, 182, 0, 209, 4, 96, 160, 0, 10, 42, 27, 5, 182, 0, 237, 87, 29]
abbrev dktX3_ages_9 : List UInt8 := dkwX3_ages_9 ++ dktX3_ages_10
def dkwX3_ages_8 : List UInt8 := [180, 0, 53, 27, 46, 158, 0, 14, 42, 180, 0, 56, 27, 46, 4, 96, 167, 0, 4, 3, 79, 42]
abbrev dktX3_ages_8 : List UInt8 := dkwX3_ages_8 ++ dktX3_ages_9
def dkwX3_ages_7 : List UInt8 := [92, 46, 21, 6, 100, 79, 42, 89, 180, 0, 233, 21, 6, 133, 97, 181, 0, 233, 42, 180, 0, 56, 27, 42]
abbrev dktX3_ages_7 : List UInt8 := dkwX3_ages_7 ++ dktX3_ages_8
def dkwX3_ages_6 : List UInt8 := [42, 180, 0, 53, 27, 46, 16, 20, 42, 27, 182, 0, 230, 104, 184, 0, 227, 54, 6, 42, 180, 0, 53, 27]
abbrev dktX3_ages_6 : List UInt8 := dkwX3_ages_6 ++ dktX3_ages_7
def dkwX3_ages_5 : List UInt8 := [180, 0, 47, 27, 46, 42, 180, 0, 29, 27, 51, 153, 0, 7, 5, 167, 0, 4, 4, 96, 184, 0, 227, 79]
abbrev dktX3_ages_5 : List UInt8 := dkwX3_ages_5 ++ dktX3_ages_6
def dkwX3_ages_4 : List UInt8 := [167, 0, 15, 29, 21, 4, 162, 0, 9, 29, 21, 5, 163, 0, 35, 42, 180, 0, 47, 27, 16, 10, 42]
abbrev dktX3_ages_4 : List UInt8 := dkwX3_ages_4 ++ dktX3_ages_5
def dkwX3_ages_3 : List UInt8 := [182, 0, 209, 54, 5, 21, 4, 21, 5, 163, 0, 17, 29, 21, 4, 21, 5, 184, 0, 194, 153, 0, 50]
abbrev dktX3_ages_3 : List UInt8 := dkwX3_ages_3 ++ dktX3_ages_4
def dkwX3_ages_2 : List UInt8 := [184, 0, 227, 79, 42, 180, 0, 212, 17, 1, 109, 112, 62, 42, 4, 182, 0, 209, 54, 4, 42, 5]
abbrev dktX3_ages_2 : List UInt8 := dkwX3_ages_2 ++ dktX3_ages_3
def dkwX3_ages_1 : List UInt8 := [51, 154, 0, 7, 28, 5, 104, 61, 42, 180, 0, 44, 27, 16, 100, 42, 180, 0, 44, 27, 46, 28, 96]
abbrev dktX3_ages_1 : List UInt8 := dkwX3_ages_1 ++ dktX3_ages_2
def dkwX3_ages_0 : List UInt8 := [42, 3, 182, 0, 209, 61, 42, 180, 0, 29, 27, 51, 153, 0, 7, 28, 5, 108, 61, 42, 180, 0, 32, 27]
abbrev dktX3_ages_0 : List UInt8 := dkwX3_ages_0 ++ dktX3_ages_1
theorem dksX3_ages_0 : cX3_ages.data.toList.drop 0 = dktX3_ages_0 := by decide +kernel
theorem dksX3_ages_1 : cX3_ages.data.toList.drop 24 = dktX3_ages_1 := dk_seg dksX3_ages_0 24 rfl rfl
theorem dksX3_ages_2 : cX3_ages.data.toList.drop 47 = dktX3_ages_2 := dk_seg dksX3_ages_1 23 rfl rfl
theorem dksX3_ages_3 : cX3_ages.data.toList.drop 69 = dktX3_ages_3 := dk_seg dksX3_ages_2 22 rfl rfl
theorem dksX3_ages_4 : cX3_ages.data.toList.drop 92 = dktX3_ages_4 := dk_seg dksX3_ages_3 23 rfl rfl
theorem dksX3_ages_5 : cX3_ages.data.toList.drop 115 = dktX3_ages_5 := dk_seg dksX3_ages_4 23 rfl rfl
theorem dksX3_ages_6 : cX3_ages.data.toList.drop 139 = dktX3_ages_6 := dk_seg dksX3_ages_5 24 rfl rfl
theorem dksX3_ages_7 : cX3_ages.data.toList.drop 163 = dktX3_ages_7 := dk_seg dksX3_ages_6 24 rfl rfl
theorem dksX3_ages_8 : cX3_ages.data.toList.drop 187 = dktX3_ages_8 := dk_seg dksX3_ages_7 24 rfl rfl
theorem dksX3_ages_9 : cX3_ages.data.toList.drop 209 = dktX3_ages_9 := dk_seg dksX3_ages_8 22 rfl rfl
theorem dksX3_ages_10 : cX3_ages.data.toList.drop 233 = dktX3_ages_10 := dk_seg dksX3_ages_9 24 rfl rfl
theorem dksX3_ages_11 : cX3_ages.data.toList.drop 257 = dktX3_ages_11 := dk_seg dksX3_ages_10 24 rfl rfl
theorem dX3_ages_0 : decode cX3_ages 0 = .ok (.aload_n 0, 1) := dk_42 (dk_at dksX3_ages_0 0 rfl rfl)
theorem dX3_ages_1 : decode cX3_ages 1 = .ok (.iconst 0, 1) := dk_3 (dk_at dksX3_ages_0 1 rfl rfl)
theorem dX3_ages_2 : decode cX3_ages 2 = .ok (.invokevirtual 209, 3) := dk_182 0 209 (dk_at dksX3_ages_0 2 rfl rfl)
theorem dX3_ages_5 : decode cX3_ages 5 = .ok (.istore_n 2, 1) := dk_61 (dk_at dksX3_ages_0 5 rfl rfl)
theorem dX3_ages_6 : decode cX3_ages 6 = .ok (.aload_n 0, 1) := dk_42 (dk_at dksX3_ages_0 6 rfl rfl)
theorem dX3_ages_7 : decode cX3_ages 7 = .ok (.getfield 29, 3) := dk_180 0 29 (dk_at dksX3_ages_0 7 rfl rfl)
theorem dX3_ages_10 : decode cX3_ages 10 = .ok (.iload_n 1, 1) := dk_27 (dk_at dksX3_ages_0 10 rfl rfl)
theorem dX3_ages_11 : decode cX3_ages 11 = .ok (.baload, 1) := dk_51 (dk_at dksX3_ages_0 11 rfl rfl)
theorem dX3_ages_12 : decode cX3_ages 12 = .ok (.ifCond .eq 7, 3) := dk_153 0 7 (dk_at dksX3_ages_0 12 rfl rfl)
theorem dX3_ages_15 : decode cX3_ages 15 = .ok (.iload_n 2, 1) := dk_28 (dk_at dksX3_ages_0 15 rfl rfl)
theorem dX3_ages_16 : decode cX3_ages 16 = .ok (.iconst 2, 1) := dk_5 (dk_at dksX3_ages_0 16 rfl rfl)
theorem dX3_ages_17 : decode cX3_ages 17 = .ok (.idiv, 1) := dk_108 (dk_at dksX3_ages_0 17 rfl rfl)
theorem dX3_ages_18 : decode cX3_ages 18 = .ok (.istore_n 2, 1) := dk_61 (dk_at dksX3_ages_0 18 rfl rfl)
theorem dX3_ages_19 : decode cX3_ages 19 = .ok (.aload_n 0, 1) := dk_42 (dk_at dksX3_ages_0 19 rfl rfl)
theorem dX3_ages_20 : decode cX3_ages 20 = .ok (.getfield 32, 3) := dk_180 0 32 (dk_at dksX3_ages_0 20 rfl rfl)
theorem dX3_ages_23 : decode cX3_ages 23 = .ok (.iload_n 1, 1) := dk_27 (dk_at dksX3_ages_0 23 rfl rfl)
theorem dX3_ages_24 : decode cX3_ages 24 = .ok (.baload, 1) := dk_51 (dk_at dksX3_ages_1 0 rfl rfl)
theorem dX3_ages_25 : decode cX3_ages 25 = .ok (.ifCond .ne 7, 3) := dk_154 0 7 (dk_at dksX3_ages_1 1 rfl rfl)
theorem dX3_ages_28 : decode cX3_ages 28 = .ok (.iload_n 2, 1) := dk_28 (dk_at dksX3_ages_1 4 rfl rfl)
theorem dX3_ages_29 : decode cX3_ages 29 = .ok (.iconst 2, 1) := dk_5 (dk_at dksX3_ages_1 5 rfl rfl)
theorem dX3_ages_30 : decode cX3_ages 30 = .ok (.imul, 1) := dk_104 (dk_at dksX3_ages_1 6 rfl rfl)
theorem dX3_ages_31 : decode cX3_ages 31 = .ok (.istore_n 2, 1) := dk_61 (dk_at dksX3_ages_1 7 rfl rfl)
theorem dX3_ages_32 : decode cX3_ages 32 = .ok (.aload_n 0, 1) := dk_42 (dk_at dksX3_ages_1 8 rfl rfl)
theorem dX3_ages_33 : decode cX3_ages 33 = .ok (.getfield 44, 3) := dk_180 0 44 (dk_at dksX3_ages_1 9 rfl rfl)
theorem dX3_ages_36 : decode cX3_ages 36 = .ok (.iload_n 1, 1) := dk_27 (dk_at dksX3_ages_1 12 rfl rfl)
theorem dX3_ages_37 : decode cX3_ages 37 = .ok (.bipush 100, 2) := dk_16 100 (dk_at dksX3_ages_1 13 rfl rfl)
theorem dX3_ages_39 : decode cX3_ages 39 = .ok (.aload_n 0, 1) := dk_42 (dk_at dksX3_ages_1 15 rfl rfl)
theorem dX3_ages_40 : decode cX3_ages 40 = .ok (.getfield 44, 3) := dk_180 0 44 (dk_at dksX3_ages_1 16 rfl rfl)
theorem dX3_ages_43 : decode cX3_ages 43 = .ok (.iload_n 1, 1) := dk_27 (dk_at dksX3_ages_1 19 rfl rfl)
theorem dX3_ages_44 : decode cX3_ages 44 = .ok (.iaload, 1) := dk_46 (dk_at dksX3_ages_1 20 rfl rfl)
theorem dX3_ages_45 : decode cX3_ages 45 = .ok (.iload_n 2, 1) := dk_28 (dk_at dksX3_ages_1 21 rfl rfl)
theorem dX3_ages_46 : decode cX3_ages 46 = .ok (.iadd, 1) := dk_96 (dk_at dksX3_ages_1 22 rfl rfl)
theorem dX3_ages_47 : decode cX3_ages 47 = .ok (.invokestatic 227, 3) := dk_184 0 227 (dk_at dksX3_ages_2 0 rfl rfl)
theorem dX3_ages_50 : decode cX3_ages 50 = .ok (.iastore, 1) := dk_79 (dk_at dksX3_ages_2 3 rfl rfl)
theorem dX3_ages_51 : decode cX3_ages 51 = .ok (.aload_n 0, 1) := dk_42 (dk_at dksX3_ages_2 4 rfl rfl)
theorem dX3_ages_52 : decode cX3_ages 52 = .ok (.getfield 212, 3) := dk_180 0 212 (dk_at dksX3_ages_2 5 rfl rfl)
theorem dX3_ages_55 : decode cX3_ages 55 = .ok (.sipush 365, 3) := dk_17 1 109 (dk_at dksX3_ages_2 8 rfl rfl)
theorem dX3_ages_58 : decode cX3_ages 58 = .ok (.irem, 1) := dk_112 (dk_at dksX3_ages_2 11 rfl rfl)
theorem dX3_ages_59 : decode cX3_ages 59 = .ok (.istore_n 3, 1) := dk_62 (dk_at dksX3_ages_2 12 rfl rfl)
theorem dX3_ages_60 : decode cX3_ages 60 = .ok (.aload_n 0, 1) := dk_42 (dk_at dksX3_ages_2 13 rfl rfl)
theorem dX3_ages_61 : decode cX3_ages 61 = .ok (.iconst 1, 1) := dk_4 (dk_at dksX3_ages_2 14 rfl rfl)
theorem dX3_ages_62 : decode cX3_ages 62 = .ok (.invokevirtual 209, 3) := dk_182 0 209 (dk_at dksX3_ages_2 15 rfl rfl)
theorem dX3_ages_65 : decode cX3_ages 65 = .ok (.istore 4, 2) := dk_54 4 (dk_at dksX3_ages_2 18 rfl rfl)
theorem dX3_ages_67 : decode cX3_ages 67 = .ok (.aload_n 0, 1) := dk_42 (dk_at dksX3_ages_2 20 rfl rfl)
theorem dX3_ages_68 : decode cX3_ages 68 = .ok (.iconst 2, 1) := dk_5 (dk_at dksX3_ages_2 21 rfl rfl)
theorem dX3_ages_69 : decode cX3_ages 69 = .ok (.invokevirtual 209, 3) := dk_182 0 209 (dk_at dksX3_ages_3 0 rfl rfl)
theorem dX3_ages_72 : decode cX3_ages 72 = .ok (.istore 5, 2) := dk_54 5 (dk_at dksX3_ages_3 3 rfl rfl)
theorem dX3_ages_74 : decode cX3_ages 74 = .ok (.iload 4, 2) := dk_21 4 (dk_at dksX3_ages_3 5 rfl rfl)
theorem dX3_ages_76 : decode cX3_ages 76 = .ok (.iload 5, 2) := dk_21 5 (dk_at dksX3_ages_3 7 rfl rfl)
theorem dX3_ages_78 : decode cX3_ages 78 = .ok (.if_icmp .gt 17, 3) := dk_163 0 17 (dk_at dksX3_ages_3 9 rfl rfl)
theorem dX3_ages_81 : decode cX3_ages 81 = .ok (.iload_n 3, 1) := dk_29 (dk_at dksX3_ages_3 12 rfl rfl)
theorem dX3_ages_82 : decode cX3_ages 82 = .ok (.iload 4, 2) := dk_21 4 (dk_at dksX3_ages_3 13 rfl rfl)
theorem dX3_ages_84 : decode cX3_ages 84 = .ok (.iload 5, 2) := dk_21 5 (dk_at dksX3_ages_3 15 rfl rfl)
theorem dX3_ages_86 : decode cX3_ages 86 = .ok (.invokestatic 194, 3) := dk_184 0 194 (dk_at dksX3_ages_3 17 rfl rfl)
theorem dX3_ages_89 : decode cX3_ages 89 = .ok (.ifCond .eq 50, 3) := dk_153 0 50 (dk_at dksX3_ages_3 20 rfl rfl)
theorem dX3_ages_92 : decode cX3_ages 92 = .ok (.goto 15, 3) := dk_167 0 15 (dk_at dksX3_ages_4 0 rfl rfl)
theorem dX3_ages_95 : decode cX3_ages 95 = .ok (.iload_n 3, 1) := dk_29 (dk_at dksX3_ages_4 3 rfl rfl)
theorem dX3_ages_96 : decode cX3_ages 96 = .ok (.iload 4, 2) := dk_21 4 (dk_at dksX3_ages_4 4 rfl rfl)
theorem dX3_ages_98 : decode cX3_ages 98 = .ok (.if_icmp .ge 9, 3) := dk_162 0 9 (dk_at dksX3_ages_4 6 rfl rfl)
theorem dX3_ages_101 : decode cX3_ages 101 = .ok (.iload_n 3, 1) := dk_29 (dk_at dksX3_ages_4 9 rfl rfl)
theorem dX3_ages_102 : decode cX3_ages 102 = .ok (.iload 5, 2) := dk_21 5 (dk_at dksX3_ages_4 10 rfl rfl)
theorem dX3_ages_104 : decode cX3_ages 104 = .ok (.if_icmp .gt 35, 3) := dk_163 0 35 (dk_at dksX3_ages_4 12 rfl rfl)
theorem dX3_ages_107 : decode cX3_ages 107 = .ok (.aload_n 0, 1) := dk_42 (dk_at dksX3_ages_4 15 rfl rfl)
theorem dX3_ages_108 : decode cX3_ages 108 = .ok (.getfield 47, 3) := dk_180 0 47 (dk_at dksX3_ages_4 16 rfl rfl)
theorem dX3_ages_111 : decode cX3_ages 111 = .ok (.iload_n 1, 1) := dk_27 (dk_at dksX3_ages_4 19 rfl rfl)
theorem dX3_ages_112 : decode cX3_ages 112 = .ok (.bipush 10, 2) := dk_16 10 (dk_at dksX3_ages_4 20 rfl rfl)
theorem dX3_ages_114 : decode cX3_ages 114 = .ok (.aload_n 0, 1) := dk_42 (dk_at dksX3_ages_4 22 rfl rfl)
theorem dX3_ages_115 : decode cX3_ages 115 = .ok (.getfield 47, 3) := dk_180 0 47 (dk_at dksX3_ages_5 0 rfl rfl)
theorem dX3_ages_118 : decode cX3_ages 118 = .ok (.iload_n 1, 1) := dk_27 (dk_at dksX3_ages_5 3 rfl rfl)
theorem dX3_ages_119 : decode cX3_ages 119 = .ok (.iaload, 1) := dk_46 (dk_at dksX3_ages_5 4 rfl rfl)
theorem dX3_ages_120 : decode cX3_ages 120 = .ok (.aload_n 0, 1) := dk_42 (dk_at dksX3_ages_5 5 rfl rfl)
theorem dX3_ages_121 : decode cX3_ages 121 = .ok (.getfield 29, 3) := dk_180 0 29 (dk_at dksX3_ages_5 6 rfl rfl)
theorem dX3_ages_124 : decode cX3_ages 124 = .ok (.iload_n 1, 1) := dk_27 (dk_at dksX3_ages_5 9 rfl rfl)
theorem dX3_ages_125 : decode cX3_ages 125 = .ok (.baload, 1) := dk_51 (dk_at dksX3_ages_5 10 rfl rfl)
theorem dX3_ages_126 : decode cX3_ages 126 = .ok (.ifCond .eq 7, 3) := dk_153 0 7 (dk_at dksX3_ages_5 11 rfl rfl)
theorem dX3_ages_129 : decode cX3_ages 129 = .ok (.iconst 2, 1) := dk_5 (dk_at dksX3_ages_5 14 rfl rfl)
theorem dX3_ages_130 : decode cX3_ages 130 = .ok (.goto 4, 3) := dk_167 0 4 (dk_at dksX3_ages_5 15 rfl rfl)
theorem dX3_ages_133 : decode cX3_ages 133 = .ok (.iconst 1, 1) := dk_4 (dk_at dksX3_ages_5 18 rfl rfl)
theorem dX3_ages_134 : decode cX3_ages 134 = .ok (.iadd, 1) := dk_96 (dk_at dksX3_ages_5 19 rfl rfl)
theorem dX3_ages_135 : decode cX3_ages 135 = .ok (.invokestatic 227, 3) := dk_184 0 227 (dk_at dksX3_ages_5 20 rfl rfl)
theorem dX3_ages_138 : decode cX3_ages 138 = .ok (.iastore, 1) := dk_79 (dk_at dksX3_ages_5 23 rfl rfl)
theorem dX3_ages_139 : decode cX3_ages 139 = .ok (.aload_n 0, 1) := dk_42 (dk_at dksX3_ages_6 0 rfl rfl)
theorem dX3_ages_140 : decode cX3_ages 140 = .ok (.getfield 53, 3) := dk_180 0 53 (dk_at dksX3_ages_6 1 rfl rfl)
theorem dX3_ages_143 : decode cX3_ages 143 = .ok (.iload_n 1, 1) := dk_27 (dk_at dksX3_ages_6 4 rfl rfl)
theorem dX3_ages_144 : decode cX3_ages 144 = .ok (.iaload, 1) := dk_46 (dk_at dksX3_ages_6 5 rfl rfl)
theorem dX3_ages_145 : decode cX3_ages 145 = .ok (.bipush 20, 2) := dk_16 20 (dk_at dksX3_ages_6 6 rfl rfl)
theorem dX3_ages_147 : decode cX3_ages 147 = .ok (.aload_n 0, 1) := dk_42 (dk_at dksX3_ages_6 8 rfl rfl)
theorem dX3_ages_148 : decode cX3_ages 148 = .ok (.iload_n 1, 1) := dk_27 (dk_at dksX3_ages_6 9 rfl rfl)
theorem dX3_ages_149 : decode cX3_ages 149 = .ok (.invokevirtual 230, 3) := dk_182 0 230 (dk_at dksX3_ages_6 10 rfl rfl)
theorem dX3_ages_152 : decode cX3_ages 152 = .ok (.imul, 1) := dk_104 (dk_at dksX3_ages_6 13 rfl rfl)
theorem dX3_ages_153 : decode cX3_ages 153 = .ok (.invokestatic 227, 3) := dk_184 0 227 (dk_at dksX3_ages_6 14 rfl rfl)
theorem dX3_ages_156 : decode cX3_ages 156 = .ok (.istore 6, 2) := dk_54 6 (dk_at dksX3_ages_6 17 rfl rfl)
theorem dX3_ages_158 : decode cX3_ages 158 = .ok (.aload_n 0, 1) := dk_42 (dk_at dksX3_ages_6 19 rfl rfl)
theorem dX3_ages_159 : decode cX3_ages 159 = .ok (.getfield 53, 3) := dk_180 0 53 (dk_at dksX3_ages_6 20 rfl rfl)
theorem dX3_ages_162 : decode cX3_ages 162 = .ok (.iload_n 1, 1) := dk_27 (dk_at dksX3_ages_6 23 rfl rfl)
theorem dX3_ages_163 : decode cX3_ages 163 = .ok (.dup2, 1) := dk_92 (dk_at dksX3_ages_7 0 rfl rfl)
theorem dX3_ages_164 : decode cX3_ages 164 = .ok (.iaload, 1) := dk_46 (dk_at dksX3_ages_7 1 rfl rfl)
theorem dX3_ages_165 : decode cX3_ages 165 = .ok (.iload 6, 2) := dk_21 6 (dk_at dksX3_ages_7 2 rfl rfl)
theorem dX3_ages_167 : decode cX3_ages 167 = .ok (.isub, 1) := dk_100 (dk_at dksX3_ages_7 4 rfl rfl)
theorem dX3_ages_168 : decode cX3_ages 168 = .ok (.iastore, 1) := dk_79 (dk_at dksX3_ages_7 5 rfl rfl)
theorem dX3_ages_169 : decode cX3_ages 169 = .ok (.aload_n 0, 1) := dk_42 (dk_at dksX3_ages_7 6 rfl rfl)
theorem dX3_ages_170 : decode cX3_ages 170 = .ok (.dup, 1) := dk_89 (dk_at dksX3_ages_7 7 rfl rfl)
theorem dX3_ages_171 : decode cX3_ages 171 = .ok (.getfield 233, 3) := dk_180 0 233 (dk_at dksX3_ages_7 8 rfl rfl)
theorem dX3_ages_174 : decode cX3_ages 174 = .ok (.iload 6, 2) := dk_21 6 (dk_at dksX3_ages_7 11 rfl rfl)
theorem dX3_ages_176 : decode cX3_ages 176 = .ok (.i2l, 1) := dk_133 (dk_at dksX3_ages_7 13 rfl rfl)
theorem dX3_ages_177 : decode cX3_ages 177 = .ok (.ladd, 1) := dk_97 (dk_at dksX3_ages_7 14 rfl rfl)
theorem dX3_ages_178 : decode cX3_ages 178 = .ok (.putfield 233, 3) := dk_181 0 233 (dk_at dksX3_ages_7 15 rfl rfl)
theorem dX3_ages_181 : decode cX3_ages 181 = .ok (.aload_n 0, 1) := dk_42 (dk_at dksX3_ages_7 18 rfl rfl)
theorem dX3_ages_182 : decode cX3_ages 182 = .ok (.getfield 56, 3) := dk_180 0 56 (dk_at dksX3_ages_7 19 rfl rfl)
theorem dX3_ages_185 : decode cX3_ages 185 = .ok (.iload_n 1, 1) := dk_27 (dk_at dksX3_ages_7 22 rfl rfl)
theorem dX3_ages_186 : decode cX3_ages 186 = .ok (.aload_n 0, 1) := dk_42 (dk_at dksX3_ages_7 23 rfl rfl)
theorem dX3_ages_187 : decode cX3_ages 187 = .ok (.getfield 53, 3) := dk_180 0 53 (dk_at dksX3_ages_8 0 rfl rfl)
theorem dX3_ages_190 : decode cX3_ages 190 = .ok (.iload_n 1, 1) := dk_27 (dk_at dksX3_ages_8 3 rfl rfl)
theorem dX3_ages_191 : decode cX3_ages 191 = .ok (.iaload, 1) := dk_46 (dk_at dksX3_ages_8 4 rfl rfl)
theorem dX3_ages_192 : decode cX3_ages 192 = .ok (.ifCond .le 14, 3) := dk_158 0 14 (dk_at dksX3_ages_8 5 rfl rfl)
theorem dX3_ages_195 : decode cX3_ages 195 = .ok (.aload_n 0, 1) := dk_42 (dk_at dksX3_ages_8 8 rfl rfl)
theorem dX3_ages_196 : decode cX3_ages 196 = .ok (.getfield 56, 3) := dk_180 0 56 (dk_at dksX3_ages_8 9 rfl rfl)
theorem dX3_ages_199 : decode cX3_ages 199 = .ok (.iload_n 1, 1) := dk_27 (dk_at dksX3_ages_8 12 rfl rfl)
theorem dX3_ages_200 : decode cX3_ages 200 = .ok (.iaload, 1) := dk_46 (dk_at dksX3_ages_8 13 rfl rfl)
theorem dX3_ages_201 : decode cX3_ages 201 = .ok (.iconst 1, 1) := dk_4 (dk_at dksX3_ages_8 14 rfl rfl)
theorem dX3_ages_202 : decode cX3_ages 202 = .ok (.iadd, 1) := dk_96 (dk_at dksX3_ages_8 15 rfl rfl)
theorem dX3_ages_203 : decode cX3_ages 203 = .ok (.goto 4, 3) := dk_167 0 4 (dk_at dksX3_ages_8 16 rfl rfl)
theorem dX3_ages_206 : decode cX3_ages 206 = .ok (.iconst 0, 1) := dk_3 (dk_at dksX3_ages_8 19 rfl rfl)
theorem dX3_ages_207 : decode cX3_ages 207 = .ok (.iastore, 1) := dk_79 (dk_at dksX3_ages_8 20 rfl rfl)
theorem dX3_ages_208 : decode cX3_ages 208 = .ok (.aload_n 0, 1) := dk_42 (dk_at dksX3_ages_8 21 rfl rfl)
theorem dX3_ages_209 : decode cX3_ages 209 = .ok (.getfield 56, 3) := dk_180 0 56 (dk_at dksX3_ages_9 0 rfl rfl)
theorem dX3_ages_212 : decode cX3_ages 212 = .ok (.iload_n 1, 1) := dk_27 (dk_at dksX3_ages_9 3 rfl rfl)
theorem dX3_ages_213 : decode cX3_ages 213 = .ok (.iaload, 1) := dk_46 (dk_at dksX3_ages_9 4 rfl rfl)
theorem dX3_ages_214 : decode cX3_ages 214 = .ok (.aload_n 0, 1) := dk_42 (dk_at dksX3_ages_9 5 rfl rfl)
theorem dX3_ages_215 : decode cX3_ages 215 = .ok (.bipush 6, 2) := dk_16 6 (dk_at dksX3_ages_9 6 rfl rfl)
theorem dX3_ages_217 : decode cX3_ages 217 = .ok (.invokevirtual 209, 3) := dk_182 0 209 (dk_at dksX3_ages_9 8 rfl rfl)
theorem dX3_ages_220 : decode cX3_ages 220 = .ok (.iconst 1, 1) := dk_4 (dk_at dksX3_ages_9 11 rfl rfl)
theorem dX3_ages_221 : decode cX3_ages 221 = .ok (.iadd, 1) := dk_96 (dk_at dksX3_ages_9 12 rfl rfl)
theorem dX3_ages_222 : decode cX3_ages 222 = .ok (.if_icmp .ne 10, 3) := dk_160 0 10 (dk_at dksX3_ages_9 13 rfl rfl)
theorem dX3_ages_225 : decode cX3_ages 225 = .ok (.aload_n 0, 1) := dk_42 (dk_at dksX3_ages_9 16 rfl rfl)
theorem dX3_ages_226 : decode cX3_ages 226 = .ok (.iload_n 1, 1) := dk_27 (dk_at dksX3_ages_9 17 rfl rfl)
theorem dX3_ages_227 : decode cX3_ages 227 = .ok (.iconst 2, 1) := dk_5 (dk_at dksX3_ages_9 18 rfl rfl)
theorem dX3_ages_228 : decode cX3_ages 228 = .ok (.invokevirtual 237, 3) := dk_182 0 237 (dk_at dksX3_ages_9 19 rfl rfl)
theorem dX3_ages_231 : decode cX3_ages 231 = .ok (.pop, 1) := dk_87 (dk_at dksX3_ages_9 22 rfl rfl)
theorem dX3_ages_232 : decode cX3_ages 232 = .ok (.iload_n 3, 1) := dk_29 (dk_at dksX3_ages_9 23 rfl rfl)
theorem dX3_ages_233 : decode cX3_ages 233 = .ok (.bipush 60, 2) := dk_16 60 (dk_at dksX3_ages_10 0 rfl rfl)
theorem dX3_ages_235 : decode cX3_ages 235 = .ok (.if_icmp .eq 4, 3) := dk_159 0 4 (dk_at dksX3_ages_10 2 rfl rfl)
theorem dX3_ages_238 : decode cX3_ages 238 = .ok (.return_, 1) := dk_177 (dk_at dksX3_ages_10 5 rfl rfl)
theorem dX3_ages_239 : decode cX3_ages 239 = .ok (.aload_n 0, 1) := dk_42 (dk_at dksX3_ages_10 6 rfl rfl)
theorem dX3_ages_240 : decode cX3_ages 240 = .ok (.getfield 50, 3) := dk_180 0 50 (dk_at dksX3_ages_10 7 rfl rfl)
theorem dX3_ages_243 : decode cX3_ages 243 = .ok (.iload_n 1, 1) := dk_27 (dk_at dksX3_ages_10 10 rfl rfl)
theorem dX3_ages_244 : decode cX3_ages 244 = .ok (.iaload, 1) := dk_46 (dk_at dksX3_ages_10 11 rfl rfl)
theorem dX3_ages_245 : decode cX3_ages 245 = .ok (.aload_n 0, 1) := dk_42 (dk_at dksX3_ages_10 12 rfl rfl)
theorem dX3_ages_246 : decode cX3_ages 246 = .ok (.iconst 5, 1) := dk_8 (dk_at dksX3_ages_10 13 rfl rfl)
theorem dX3_ages_247 : decode cX3_ages 247 = .ok (.invokevirtual 209, 3) := dk_182 0 209 (dk_at dksX3_ages_10 14 rfl rfl)
theorem dX3_ages_250 : decode cX3_ages 250 = .ok (.if_icmp .le 10, 3) := dk_164 0 10 (dk_at dksX3_ages_10 17 rfl rfl)
theorem dX3_ages_253 : decode cX3_ages 253 = .ok (.aload_n 0, 1) := dk_42 (dk_at dksX3_ages_10 20 rfl rfl)
theorem dX3_ages_254 : decode cX3_ages 254 = .ok (.getfield 32, 3) := dk_180 0 32 (dk_at dksX3_ages_10 21 rfl rfl)
theorem dX3_ages_257 : decode cX3_ages 257 = .ok (.iload_n 1, 1) := dk_27 (dk_at dksX3_ages_11 0 rfl rfl)
theorem dX3_ages_258 : decode cX3_ages 258 = .ok (.iconst 0, 1) := dk_3 (dk_at dksX3_ages_11 1 rfl rfl)
theorem dX3_ages_259 : decode cX3_ages 259 = .ok (.bastore, 1) := dk_84 (dk_at dksX3_ages_11 2 rfl rfl)
theorem dX3_ages_260 : decode cX3_ages 260 = .ok (.aload_n 0, 1) := dk_42 (dk_at dksX3_ages_11 3 rfl rfl)
theorem dX3_ages_261 : decode cX3_ages 261 = .ok (.getfield 50, 3) := dk_180 0 50 (dk_at dksX3_ages_11 4 rfl rfl)
theorem dX3_ages_264 : decode cX3_ages 264 = .ok (.iload_n 1, 1) := dk_27 (dk_at dksX3_ages_11 7 rfl rfl)
theorem dX3_ages_265 : decode cX3_ages 265 = .ok (.iconst 0, 1) := dk_3 (dk_at dksX3_ages_11 8 rfl rfl)
theorem dX3_ages_266 : decode cX3_ages 266 = .ok (.iastore, 1) := dk_79 (dk_at dksX3_ages_11 9 rfl rfl)
theorem dX3_ages_267 : decode cX3_ages 267 = .ok (.return_, 1) := dk_177 (dk_at dksX3_ages_11 10 rfl rfl)
def dkwX3_drink_0 : List UInt8 := [42, 27, 42, 180, 0, 44, 27, 46, 182, 0, 215, 172]
abbrev dktX3_drink_0 : List UInt8 := dkwX3_drink_0 ++ []
theorem dksX3_drink_0 : cX3_drink.data.toList.drop 0 = dktX3_drink_0 := by decide +kernel
theorem dX3_drink_0 : decode cX3_drink 0 = .ok (.aload_n 0, 1) := dk_42 (dk_at dksX3_drink_0 0 rfl rfl)
theorem dX3_drink_1 : decode cX3_drink 1 = .ok (.iload_n 1, 1) := dk_27 (dk_at dksX3_drink_0 1 rfl rfl)
theorem dX3_drink_2 : decode cX3_drink 2 = .ok (.aload_n 0, 1) := dk_42 (dk_at dksX3_drink_0 2 rfl rfl)
theorem dX3_drink_3 : decode cX3_drink 3 = .ok (.getfield 44, 3) := dk_180 0 44 (dk_at dksX3_drink_0 3 rfl rfl)
theorem dX3_drink_6 : decode cX3_drink 6 = .ok (.iload_n 1, 1) := dk_27 (dk_at dksX3_drink_0 6 rfl rfl)
theorem dX3_drink_7 : decode cX3_drink 7 = .ok (.iaload, 1) := dk_46 (dk_at dksX3_drink_0 7 rfl rfl)
theorem dX3_drink_8 : decode cX3_drink 8 = .ok (.invokevirtual 215, 3) := dk_182 0 215 (dk_at dksX3_drink_0 8 rfl rfl)
theorem dX3_drink_11 : decode cX3_drink 11 = .ok (.ireturn, 1) := dk_172 (dk_at dksX3_drink_0 11 rfl rfl)
def dkwX3_drinkBy_0 : List UInt8 := [42, 180, 0, 83, 42, 180, 0, 35, 27, 46, 46, 16, 100, 28, 100, 104, 16, 100, 108, 172]
abbrev dktX3_drinkBy_0 : List UInt8 := dkwX3_drinkBy_0 ++ []
theorem dksX3_drinkBy_0 : cX3_drinkBy.data.toList.drop 0 = dktX3_drinkBy_0 := by decide +kernel
theorem dX3_drinkBy_0 : decode cX3_drinkBy 0 = .ok (.aload_n 0, 1) := dk_42 (dk_at dksX3_drinkBy_0 0 rfl rfl)
theorem dX3_drinkBy_1 : decode cX3_drinkBy 1 = .ok (.getfield 83, 3) := dk_180 0 83 (dk_at dksX3_drinkBy_0 1 rfl rfl)
theorem dX3_drinkBy_4 : decode cX3_drinkBy 4 = .ok (.aload_n 0, 1) := dk_42 (dk_at dksX3_drinkBy_0 4 rfl rfl)
theorem dX3_drinkBy_5 : decode cX3_drinkBy 5 = .ok (.getfield 35, 3) := dk_180 0 35 (dk_at dksX3_drinkBy_0 5 rfl rfl)
theorem dX3_drinkBy_8 : decode cX3_drinkBy 8 = .ok (.iload_n 1, 1) := dk_27 (dk_at dksX3_drinkBy_0 8 rfl rfl)
theorem dX3_drinkBy_9 : decode cX3_drinkBy 9 = .ok (.iaload, 1) := dk_46 (dk_at dksX3_drinkBy_0 9 rfl rfl)
theorem dX3_drinkBy_10 : decode cX3_drinkBy 10 = .ok (.iaload, 1) := dk_46 (dk_at dksX3_drinkBy_0 10 rfl rfl)
theorem dX3_drinkBy_11 : decode cX3_drinkBy 11 = .ok (.bipush 100, 2) := dk_16 100 (dk_at dksX3_drinkBy_0 11 rfl rfl)
theorem dX3_drinkBy_13 : decode cX3_drinkBy 13 = .ok (.iload_n 2, 1) := dk_28 (dk_at dksX3_drinkBy_0 13 rfl rfl)
theorem dX3_drinkBy_14 : decode cX3_drinkBy 14 = .ok (.isub, 1) := dk_100 (dk_at dksX3_drinkBy_0 14 rfl rfl)
theorem dX3_drinkBy_15 : decode cX3_drinkBy 15 = .ok (.imul, 1) := dk_104 (dk_at dksX3_drinkBy_0 15 rfl rfl)
theorem dX3_drinkBy_16 : decode cX3_drinkBy 16 = .ok (.bipush 100, 2) := dk_16 100 (dk_at dksX3_drinkBy_0 16 rfl rfl)
theorem dX3_drinkBy_18 : decode cX3_drinkBy 18 = .ok (.idiv, 1) := dk_108 (dk_at dksX3_drinkBy_0 18 rfl rfl)
theorem dX3_drinkBy_19 : decode cX3_drinkBy 19 = .ok (.ireturn, 1) := dk_172 (dk_at dksX3_drinkBy_0 19 rfl rfl)
def dkwX3_complain_8 : List UInt8 := [4, 96, 181, 1, 82, 42, 180, 1, 82, 4, 100, 172]
abbrev dktX3_complain_8 : List UInt8 := dkwX3_complain_8 ++ []
def dkwX3_complain_7 : List UInt8 := [180, 0, 153, 42, 180, 1, 82, 4, 79, 42, 180, 0, 156, 42, 180, 1, 82, 4, 84, 42, 89, 180, 1, 82]
abbrev dktX3_complain_7 : List UInt8 := dkwX3_complain_7 ++ dktX3_complain_8
def dkwX3_complain_6 : List UInt8 := [180, 1, 82, 42, 180, 0, 212, 79, 42, 180, 0, 150, 42, 180, 1, 82, 42, 180, 0, 212, 79, 42]
abbrev dktX3_complain_6 : List UInt8 := dkwX3_complain_6 ++ dktX3_complain_7
def dkwX3_complain_5 : List UInt8 := [180, 0, 141, 42, 180, 1, 82, 27, 79, 42, 180, 0, 144, 42, 180, 1, 82, 28, 79, 42, 180, 0, 147, 42]
abbrev dktX3_complain_5 : List UInt8 := dkwX3_complain_5 ++ dktX3_complain_6
def dkwX3_complain_4 : List UInt8 := [46, 4, 96, 79, 29, 172, 132, 3, 255, 167, 255, 179, 42, 180, 1, 82, 16, 60, 160, 0, 5, 2, 172, 42]
abbrev dktX3_complain_4 : List UInt8 := dkwX3_complain_4 ++ dktX3_complain_5
def dkwX3_complain_3 : List UInt8 := [16, 7, 164, 0, 6, 167, 0, 25, 42, 180, 0, 150, 29, 42, 180, 0, 212, 79, 42, 180, 0, 153, 29, 92]
abbrev dktX3_complain_3 : List UInt8 := dkwX3_complain_3 ++ dktX3_complain_4
def dkwX3_complain_2 : List UInt8 := [160, 0, 54, 42, 180, 0, 144, 29, 46, 28, 160, 0, 44, 42, 180, 0, 212, 42, 180, 0, 150, 29, 46, 100]
abbrev dktX3_complain_2 : List UInt8 := dkwX3_complain_2 ++ dktX3_complain_3
def dkwX3_complain_1 : List UInt8 := [100, 62, 29, 155, 0, 79, 42, 180, 0, 156, 29, 51, 153, 0, 64, 42, 180, 0, 141, 29, 46, 27]
abbrev dktX3_complain_1 : List UInt8 := dkwX3_complain_1 ++ dktX3_complain_2
def dkwX3_complain_0 : List UInt8 := [42, 27, 182, 0, 198, 153, 0, 12, 28, 3, 6, 184, 0, 194, 154, 0, 5, 2, 172, 42, 180, 1, 82, 4]
abbrev dktX3_complain_0 : List UInt8 := dkwX3_complain_0 ++ dktX3_complain_1
theorem dksX3_complain_0 : cX3_complain.data.toList.drop 0 = dktX3_complain_0 := by decide +kernel
theorem dksX3_complain_1 : cX3_complain.data.toList.drop 24 = dktX3_complain_1 := dk_seg dksX3_complain_0 24 rfl rfl
theorem dksX3_complain_2 : cX3_complain.data.toList.drop 46 = dktX3_complain_2 := dk_seg dksX3_complain_1 22 rfl rfl
theorem dksX3_complain_3 : cX3_complain.data.toList.drop 70 = dktX3_complain_3 := dk_seg dksX3_complain_2 24 rfl rfl
theorem dksX3_complain_4 : cX3_complain.data.toList.drop 94 = dktX3_complain_4 := dk_seg dksX3_complain_3 24 rfl rfl
theorem dksX3_complain_5 : cX3_complain.data.toList.drop 118 = dktX3_complain_5 := dk_seg dksX3_complain_4 24 rfl rfl
theorem dksX3_complain_6 : cX3_complain.data.toList.drop 142 = dktX3_complain_6 := dk_seg dksX3_complain_5 24 rfl rfl
theorem dksX3_complain_7 : cX3_complain.data.toList.drop 164 = dktX3_complain_7 := dk_seg dksX3_complain_6 22 rfl rfl
theorem dksX3_complain_8 : cX3_complain.data.toList.drop 188 = dktX3_complain_8 := dk_seg dksX3_complain_7 24 rfl rfl
theorem dX3_complain_0 : decode cX3_complain 0 = .ok (.aload_n 0, 1) := dk_42 (dk_at dksX3_complain_0 0 rfl rfl)
theorem dX3_complain_1 : decode cX3_complain 1 = .ok (.iload_n 1, 1) := dk_27 (dk_at dksX3_complain_0 1 rfl rfl)
theorem dX3_complain_2 : decode cX3_complain 2 = .ok (.invokevirtual 198, 3) := dk_182 0 198 (dk_at dksX3_complain_0 2 rfl rfl)
theorem dX3_complain_5 : decode cX3_complain 5 = .ok (.ifCond .eq 12, 3) := dk_153 0 12 (dk_at dksX3_complain_0 5 rfl rfl)
theorem dX3_complain_8 : decode cX3_complain 8 = .ok (.iload_n 2, 1) := dk_28 (dk_at dksX3_complain_0 8 rfl rfl)
theorem dX3_complain_9 : decode cX3_complain 9 = .ok (.iconst 0, 1) := dk_3 (dk_at dksX3_complain_0 9 rfl rfl)
theorem dX3_complain_10 : decode cX3_complain 10 = .ok (.iconst 3, 1) := dk_6 (dk_at dksX3_complain_0 10 rfl rfl)
theorem dX3_complain_11 : decode cX3_complain 11 = .ok (.invokestatic 194, 3) := dk_184 0 194 (dk_at dksX3_complain_0 11 rfl rfl)
theorem dX3_complain_14 : decode cX3_complain 14 = .ok (.ifCond .ne 5, 3) := dk_154 0 5 (dk_at dksX3_complain_0 14 rfl rfl)
theorem dX3_complain_17 : decode cX3_complain 17 = .ok (.iconst (-1), 1) := dk_2 (dk_at dksX3_complain_0 17 rfl rfl)
theorem dX3_complain_18 : decode cX3_complain 18 = .ok (.ireturn, 1) := dk_172 (dk_at dksX3_complain_0 18 rfl rfl)
theorem dX3_complain_19 : decode cX3_complain 19 = .ok (.aload_n 0, 1) := dk_42 (dk_at dksX3_complain_0 19 rfl rfl)
theorem dX3_complain_20 : decode cX3_complain 20 = .ok (.getfield 338, 3) := dk_180 1 82 (dk_at dksX3_complain_0 20 rfl rfl)
theorem dX3_complain_23 : decode cX3_complain 23 = .ok (.iconst 1, 1) := dk_4 (dk_at dksX3_complain_0 23 rfl rfl)
theorem dX3_complain_24 : decode cX3_complain 24 = .ok (.isub, 1) := dk_100 (dk_at dksX3_complain_1 0 rfl rfl)
theorem dX3_complain_25 : decode cX3_complain 25 = .ok (.istore_n 3, 1) := dk_62 (dk_at dksX3_complain_1 1 rfl rfl)
theorem dX3_complain_26 : decode cX3_complain 26 = .ok (.iload_n 3, 1) := dk_29 (dk_at dksX3_complain_1 2 rfl rfl)
theorem dX3_complain_27 : decode cX3_complain 27 = .ok (.ifCond .lt 79, 3) := dk_155 0 79 (dk_at dksX3_complain_1 3 rfl rfl)
theorem dX3_complain_30 : decode cX3_complain 30 = .ok (.aload_n 0, 1) := dk_42 (dk_at dksX3_complain_1 6 rfl rfl)
theorem dX3_complain_31 : decode cX3_complain 31 = .ok (.getfield 156, 3) := dk_180 0 156 (dk_at dksX3_complain_1 7 rfl rfl)
theorem dX3_complain_34 : decode cX3_complain 34 = .ok (.iload_n 3, 1) := dk_29 (dk_at dksX3_complain_1 10 rfl rfl)
theorem dX3_complain_35 : decode cX3_complain 35 = .ok (.baload, 1) := dk_51 (dk_at dksX3_complain_1 11 rfl rfl)
theorem dX3_complain_36 : decode cX3_complain 36 = .ok (.ifCond .eq 64, 3) := dk_153 0 64 (dk_at dksX3_complain_1 12 rfl rfl)
theorem dX3_complain_39 : decode cX3_complain 39 = .ok (.aload_n 0, 1) := dk_42 (dk_at dksX3_complain_1 15 rfl rfl)
theorem dX3_complain_40 : decode cX3_complain 40 = .ok (.getfield 141, 3) := dk_180 0 141 (dk_at dksX3_complain_1 16 rfl rfl)
theorem dX3_complain_43 : decode cX3_complain 43 = .ok (.iload_n 3, 1) := dk_29 (dk_at dksX3_complain_1 19 rfl rfl)
theorem dX3_complain_44 : decode cX3_complain 44 = .ok (.iaload, 1) := dk_46 (dk_at dksX3_complain_1 20 rfl rfl)
theorem dX3_complain_45 : decode cX3_complain 45 = .ok (.iload_n 1, 1) := dk_27 (dk_at dksX3_complain_1 21 rfl rfl)
theorem dX3_complain_46 : decode cX3_complain 46 = .ok (.if_icmp .ne 54, 3) := dk_160 0 54 (dk_at dksX3_complain_2 0 rfl rfl)
theorem dX3_complain_49 : decode cX3_complain 49 = .ok (.aload_n 0, 1) := dk_42 (dk_at dksX3_complain_2 3 rfl rfl)
theorem dX3_complain_50 : decode cX3_complain 50 = .ok (.getfield 144, 3) := dk_180 0 144 (dk_at dksX3_complain_2 4 rfl rfl)
theorem dX3_complain_53 : decode cX3_complain 53 = .ok (.iload_n 3, 1) := dk_29 (dk_at dksX3_complain_2 7 rfl rfl)
theorem dX3_complain_54 : decode cX3_complain 54 = .ok (.iaload, 1) := dk_46 (dk_at dksX3_complain_2 8 rfl rfl)
theorem dX3_complain_55 : decode cX3_complain 55 = .ok (.iload_n 2, 1) := dk_28 (dk_at dksX3_complain_2 9 rfl rfl)
theorem dX3_complain_56 : decode cX3_complain 56 = .ok (.if_icmp .ne 44, 3) := dk_160 0 44 (dk_at dksX3_complain_2 10 rfl rfl)
theorem dX3_complain_59 : decode cX3_complain 59 = .ok (.aload_n 0, 1) := dk_42 (dk_at dksX3_complain_2 13 rfl rfl)
theorem dX3_complain_60 : decode cX3_complain 60 = .ok (.getfield 212, 3) := dk_180 0 212 (dk_at dksX3_complain_2 14 rfl rfl)
theorem dX3_complain_63 : decode cX3_complain 63 = .ok (.aload_n 0, 1) := dk_42 (dk_at dksX3_complain_2 17 rfl rfl)
theorem dX3_complain_64 : decode cX3_complain 64 = .ok (.getfield 150, 3) := dk_180 0 150 (dk_at dksX3_complain_2 18 rfl rfl)
theorem dX3_complain_67 : decode cX3_complain 67 = .ok (.iload_n 3, 1) := dk_29 (dk_at dksX3_complain_2 21 rfl rfl)
theorem dX3_complain_68 : decode cX3_complain 68 = .ok (.iaload, 1) := dk_46 (dk_at dksX3_complain_2 22 rfl rfl)
theorem dX3_complain_69 : decode cX3_complain 69 = .ok (.isub, 1) := dk_100 (dk_at dksX3_complain_2 23 rfl rfl)
theorem dX3_complain_70 : decode cX3_complain 70 = .ok (.bipush 7, 2) := dk_16 7 (dk_at dksX3_complain_3 0 rfl rfl)
theorem dX3_complain_72 : decode cX3_complain 72 = .ok (.if_icmp .le 6, 3) := dk_164 0 6 (dk_at dksX3_complain_3 2 rfl rfl)
theorem dX3_complain_75 : decode cX3_complain 75 = .ok (.goto 25, 3) := dk_167 0 25 (dk_at dksX3_complain_3 5 rfl rfl)
theorem dX3_complain_78 : decode cX3_complain 78 = .ok (.aload_n 0, 1) := dk_42 (dk_at dksX3_complain_3 8 rfl rfl)
theorem dX3_complain_79 : decode cX3_complain 79 = .ok (.getfield 150, 3) := dk_180 0 150 (dk_at dksX3_complain_3 9 rfl rfl)
theorem dX3_complain_82 : decode cX3_complain 82 = .ok (.iload_n 3, 1) := dk_29 (dk_at dksX3_complain_3 12 rfl rfl)
theorem dX3_complain_83 : decode cX3_complain 83 = .ok (.aload_n 0, 1) := dk_42 (dk_at dksX3_complain_3 13 rfl rfl)
theorem dX3_complain_84 : decode cX3_complain 84 = .ok (.getfield 212, 3) := dk_180 0 212 (dk_at dksX3_complain_3 14 rfl rfl)
theorem dX3_complain_87 : decode cX3_complain 87 = .ok (.iastore, 1) := dk_79 (dk_at dksX3_complain_3 17 rfl rfl)
theorem dX3_complain_88 : decode cX3_complain 88 = .ok (.aload_n 0, 1) := dk_42 (dk_at dksX3_complain_3 18 rfl rfl)
theorem dX3_complain_89 : decode cX3_complain 89 = .ok (.getfield 153, 3) := dk_180 0 153 (dk_at dksX3_complain_3 19 rfl rfl)
theorem dX3_complain_92 : decode cX3_complain 92 = .ok (.iload_n 3, 1) := dk_29 (dk_at dksX3_complain_3 22 rfl rfl)
theorem dX3_complain_93 : decode cX3_complain 93 = .ok (.dup2, 1) := dk_92 (dk_at dksX3_complain_3 23 rfl rfl)
theorem dX3_complain_94 : decode cX3_complain 94 = .ok (.iaload, 1) := dk_46 (dk_at dksX3_complain_4 0 rfl rfl)
theorem dX3_complain_95 : decode cX3_complain 95 = .ok (.iconst 1, 1) := dk_4 (dk_at dksX3_complain_4 1 rfl rfl)
theorem dX3_complain_96 : decode cX3_complain 96 = .ok (.iadd, 1) := dk_96 (dk_at dksX3_complain_4 2 rfl rfl)
theorem dX3_complain_97 : decode cX3_complain 97 = .ok (.iastore, 1) := dk_79 (dk_at dksX3_complain_4 3 rfl rfl)
theorem dX3_complain_98 : decode cX3_complain 98 = .ok (.iload_n 3, 1) := dk_29 (dk_at dksX3_complain_4 4 rfl rfl)
theorem dX3_complain_99 : decode cX3_complain 99 = .ok (.ireturn, 1) := dk_172 (dk_at dksX3_complain_4 5 rfl rfl)
theorem dX3_complain_100 : decode cX3_complain 100 = .ok (.iinc 3 (-1), 3) := dk_132 3 255 (dk_at dksX3_complain_4 6 rfl rfl)
theorem dX3_complain_103 : decode cX3_complain 103 = .ok (.goto (-77), 3) := dk_167 255 179 (dk_at dksX3_complain_4 9 rfl rfl)
theorem dX3_complain_106 : decode cX3_complain 106 = .ok (.aload_n 0, 1) := dk_42 (dk_at dksX3_complain_4 12 rfl rfl)
theorem dX3_complain_107 : decode cX3_complain 107 = .ok (.getfield 338, 3) := dk_180 1 82 (dk_at dksX3_complain_4 13 rfl rfl)
theorem dX3_complain_110 : decode cX3_complain 110 = .ok (.bipush 60, 2) := dk_16 60 (dk_at dksX3_complain_4 16 rfl rfl)
theorem dX3_complain_112 : decode cX3_complain 112 = .ok (.if_icmp .ne 5, 3) := dk_160 0 5 (dk_at dksX3_complain_4 18 rfl rfl)
theorem dX3_complain_115 : decode cX3_complain 115 = .ok (.iconst (-1), 1) := dk_2 (dk_at dksX3_complain_4 21 rfl rfl)
theorem dX3_complain_116 : decode cX3_complain 116 = .ok (.ireturn, 1) := dk_172 (dk_at dksX3_complain_4 22 rfl rfl)
theorem dX3_complain_117 : decode cX3_complain 117 = .ok (.aload_n 0, 1) := dk_42 (dk_at dksX3_complain_4 23 rfl rfl)
theorem dX3_complain_118 : decode cX3_complain 118 = .ok (.getfield 141, 3) := dk_180 0 141 (dk_at dksX3_complain_5 0 rfl rfl)
theorem dX3_complain_121 : decode cX3_complain 121 = .ok (.aload_n 0, 1) := dk_42 (dk_at dksX3_complain_5 3 rfl rfl)
theorem dX3_complain_122 : decode cX3_complain 122 = .ok (.getfield 338, 3) := dk_180 1 82 (dk_at dksX3_complain_5 4 rfl rfl)
theorem dX3_complain_125 : decode cX3_complain 125 = .ok (.iload_n 1, 1) := dk_27 (dk_at dksX3_complain_5 7 rfl rfl)
theorem dX3_complain_126 : decode cX3_complain 126 = .ok (.iastore, 1) := dk_79 (dk_at dksX3_complain_5 8 rfl rfl)
theorem dX3_complain_127 : decode cX3_complain 127 = .ok (.aload_n 0, 1) := dk_42 (dk_at dksX3_complain_5 9 rfl rfl)
theorem dX3_complain_128 : decode cX3_complain 128 = .ok (.getfield 144, 3) := dk_180 0 144 (dk_at dksX3_complain_5 10 rfl rfl)
theorem dX3_complain_131 : decode cX3_complain 131 = .ok (.aload_n 0, 1) := dk_42 (dk_at dksX3_complain_5 13 rfl rfl)
theorem dX3_complain_132 : decode cX3_complain 132 = .ok (.getfield 338, 3) := dk_180 1 82 (dk_at dksX3_complain_5 14 rfl rfl)
theorem dX3_complain_135 : decode cX3_complain 135 = .ok (.iload_n 2, 1) := dk_28 (dk_at dksX3_complain_5 17 rfl rfl)
theorem dX3_complain_136 : decode cX3_complain 136 = .ok (.iastore, 1) := dk_79 (dk_at dksX3_complain_5 18 rfl rfl)
theorem dX3_complain_137 : decode cX3_complain 137 = .ok (.aload_n 0, 1) := dk_42 (dk_at dksX3_complain_5 19 rfl rfl)
theorem dX3_complain_138 : decode cX3_complain 138 = .ok (.getfield 147, 3) := dk_180 0 147 (dk_at dksX3_complain_5 20 rfl rfl)
theorem dX3_complain_141 : decode cX3_complain 141 = .ok (.aload_n 0, 1) := dk_42 (dk_at dksX3_complain_5 23 rfl rfl)
theorem dX3_complain_142 : decode cX3_complain 142 = .ok (.getfield 338, 3) := dk_180 1 82 (dk_at dksX3_complain_6 0 rfl rfl)
theorem dX3_complain_145 : decode cX3_complain 145 = .ok (.aload_n 0, 1) := dk_42 (dk_at dksX3_complain_6 3 rfl rfl)
theorem dX3_complain_146 : decode cX3_complain 146 = .ok (.getfield 212, 3) := dk_180 0 212 (dk_at dksX3_complain_6 4 rfl rfl)
theorem dX3_complain_149 : decode cX3_complain 149 = .ok (.iastore, 1) := dk_79 (dk_at dksX3_complain_6 7 rfl rfl)
theorem dX3_complain_150 : decode cX3_complain 150 = .ok (.aload_n 0, 1) := dk_42 (dk_at dksX3_complain_6 8 rfl rfl)
theorem dX3_complain_151 : decode cX3_complain 151 = .ok (.getfield 150, 3) := dk_180 0 150 (dk_at dksX3_complain_6 9 rfl rfl)
theorem dX3_complain_154 : decode cX3_complain 154 = .ok (.aload_n 0, 1) := dk_42 (dk_at dksX3_complain_6 12 rfl rfl)
theorem dX3_complain_155 : decode cX3_complain 155 = .ok (.getfield 338, 3) := dk_180 1 82 (dk_at dksX3_complain_6 13 rfl rfl)
theorem dX3_complain_158 : decode cX3_complain 158 = .ok (.aload_n 0, 1) := dk_42 (dk_at dksX3_complain_6 16 rfl rfl)
theorem dX3_complain_159 : decode cX3_complain 159 = .ok (.getfield 212, 3) := dk_180 0 212 (dk_at dksX3_complain_6 17 rfl rfl)
theorem dX3_complain_162 : decode cX3_complain 162 = .ok (.iastore, 1) := dk_79 (dk_at dksX3_complain_6 20 rfl rfl)
theorem dX3_complain_163 : decode cX3_complain 163 = .ok (.aload_n 0, 1) := dk_42 (dk_at dksX3_complain_6 21 rfl rfl)
theorem dX3_complain_164 : decode cX3_complain 164 = .ok (.getfield 153, 3) := dk_180 0 153 (dk_at dksX3_complain_7 0 rfl rfl)
theorem dX3_complain_167 : decode cX3_complain 167 = .ok (.aload_n 0, 1) := dk_42 (dk_at dksX3_complain_7 3 rfl rfl)
theorem dX3_complain_168 : decode cX3_complain 168 = .ok (.getfield 338, 3) := dk_180 1 82 (dk_at dksX3_complain_7 4 rfl rfl)
theorem dX3_complain_171 : decode cX3_complain 171 = .ok (.iconst 1, 1) := dk_4 (dk_at dksX3_complain_7 7 rfl rfl)
theorem dX3_complain_172 : decode cX3_complain 172 = .ok (.iastore, 1) := dk_79 (dk_at dksX3_complain_7 8 rfl rfl)
theorem dX3_complain_173 : decode cX3_complain 173 = .ok (.aload_n 0, 1) := dk_42 (dk_at dksX3_complain_7 9 rfl rfl)
theorem dX3_complain_174 : decode cX3_complain 174 = .ok (.getfield 156, 3) := dk_180 0 156 (dk_at dksX3_complain_7 10 rfl rfl)
theorem dX3_complain_177 : decode cX3_complain 177 = .ok (.aload_n 0, 1) := dk_42 (dk_at dksX3_complain_7 13 rfl rfl)
theorem dX3_complain_178 : decode cX3_complain 178 = .ok (.getfield 338, 3) := dk_180 1 82 (dk_at dksX3_complain_7 14 rfl rfl)
theorem dX3_complain_181 : decode cX3_complain 181 = .ok (.iconst 1, 1) := dk_4 (dk_at dksX3_complain_7 17 rfl rfl)
theorem dX3_complain_182 : decode cX3_complain 182 = .ok (.bastore, 1) := dk_84 (dk_at dksX3_complain_7 18 rfl rfl)
theorem dX3_complain_183 : decode cX3_complain 183 = .ok (.aload_n 0, 1) := dk_42 (dk_at dksX3_complain_7 19 rfl rfl)
theorem dX3_complain_184 : decode cX3_complain 184 = .ok (.dup, 1) := dk_89 (dk_at dksX3_complain_7 20 rfl rfl)
theorem dX3_complain_185 : decode cX3_complain 185 = .ok (.getfield 338, 3) := dk_180 1 82 (dk_at dksX3_complain_7 21 rfl rfl)
theorem dX3_complain_188 : decode cX3_complain 188 = .ok (.iconst 1, 1) := dk_4 (dk_at dksX3_complain_8 0 rfl rfl)
theorem dX3_complain_189 : decode cX3_complain 189 = .ok (.iadd, 1) := dk_96 (dk_at dksX3_complain_8 1 rfl rfl)
theorem dX3_complain_190 : decode cX3_complain 190 = .ok (.putfield 338, 3) := dk_181 1 82 (dk_at dksX3_complain_8 2 rfl rfl)
theorem dX3_complain_193 : decode cX3_complain 193 = .ok (.aload_n 0, 1) := dk_42 (dk_at dksX3_complain_8 5 rfl rfl)
theorem dX3_complain_194 : decode cX3_complain 194 = .ok (.getfield 338, 3) := dk_180 1 82 (dk_at dksX3_complain_8 6 rfl rfl)
theorem dX3_complain_197 : decode cX3_complain 197 = .ok (.iconst 1, 1) := dk_4 (dk_at dksX3_complain_8 9 rfl rfl)
theorem dX3_complain_198 : decode cX3_complain 198 = .ok (.isub, 1) := dk_100 (dk_at dksX3_complain_8 10 rfl rfl)
theorem dX3_complain_199 : decode cX3_complain 199 = .ok (.ireturn, 1) := dk_172 (dk_at dksX3_complain_8 11 rfl rfl)
def dkwX3_turns_6 : List UInt8 := [167, 255, 128, 177]
abbrev dktX3_turns_6 : List UInt8 := dkwX3_turns_6 ++ []
def dkwX3_turns_5 : List UInt8 := [42, 180, 0, 89, 42, 180, 0, 168, 28, 46, 92, 46, 42, 6, 182, 0, 209, 96, 79, 132, 2, 1]
abbrev dktX3_turns_5 : List UInt8 := dkwX3_turns_5 ++ dktX3_turns_6
def dkwX3_turns_4 : List UInt8 := [42, 180, 0, 212, 17, 1, 109, 108, 104, 42, 180, 0, 168, 28, 46, 96, 92, 46, 4, 96, 79, 167, 0, 22]
abbrev dktX3_turns_4 : List UInt8 := dkwX3_turns_4 ++ dktX3_turns_5
def dkwX3_turns_3 : List UInt8 := [28, 46, 104, 42, 180, 0, 168, 28, 46, 96, 46, 42, 180, 0, 212, 160, 0, 33, 42, 180, 0, 92, 16, 10]
abbrev dktX3_turns_3 : List UInt8 := dkwX3_turns_3 ++ dktX3_turns_4
def dkwX3_turns_2 : List UInt8 := [180, 0, 171, 28, 46, 182, 0, 219, 154, 0, 6, 167, 0, 80, 42, 180, 0, 62, 16, 11, 42, 180, 0, 171]
abbrev dktX3_turns_2 : List UInt8 := dkwX3_turns_2 ++ dktX3_turns_3
def dkwX3_turns_1 : List UInt8 := [42, 180, 0, 159, 27, 46, 96, 162, 0, 114, 42, 28, 42, 180, 0, 212, 182, 0, 243, 153, 0, 96, 42, 42]
abbrev dktX3_turns_1 : List UInt8 := dkwX3_turns_1 ++ dktX3_turns_2
def dkwX3_turns_0 : List UInt8 := [42, 42, 180, 0, 212, 182, 0, 240, 60, 16, 24, 27, 104, 61, 27, 2, 159, 0, 129, 28, 16, 24, 27, 104]
abbrev dktX3_turns_0 : List UInt8 := dkwX3_turns_0 ++ dktX3_turns_1
theorem dksX3_turns_0 : cX3_turns.data.toList.drop 0 = dktX3_turns_0 := by decide +kernel
theorem dksX3_turns_1 : cX3_turns.data.toList.drop 24 = dktX3_turns_1 := dk_seg dksX3_turns_0 24 rfl rfl
theorem dksX3_turns_2 : cX3_turns.data.toList.drop 48 = dktX3_turns_2 := dk_seg dksX3_turns_1 24 rfl rfl
theorem dksX3_turns_3 : cX3_turns.data.toList.drop 72 = dktX3_turns_3 := dk_seg dksX3_turns_2 24 rfl rfl
theorem dksX3_turns_4 : cX3_turns.data.toList.drop 96 = dktX3_turns_4 := dk_seg dksX3_turns_3 24 rfl rfl
theorem dksX3_turns_5 : cX3_turns.data.toList.drop 120 = dktX3_turns_5 := dk_seg dksX3_turns_4 24 rfl rfl
theorem dksX3_turns_6 : cX3_turns.data.toList.drop 142 = dktX3_turns_6 := dk_seg dksX3_turns_5 22 rfl rfl
theorem dX3_turns_0 : decode cX3_turns 0 = .ok (.aload_n 0, 1) := dk_42 (dk_at dksX3_turns_0 0 rfl rfl)
theorem dX3_turns_1 : decode cX3_turns 1 = .ok (.aload_n 0, 1) := dk_42 (dk_at dksX3_turns_0 1 rfl rfl)
theorem dX3_turns_2 : decode cX3_turns 2 = .ok (.getfield 212, 3) := dk_180 0 212 (dk_at dksX3_turns_0 2 rfl rfl)
theorem dX3_turns_5 : decode cX3_turns 5 = .ok (.invokevirtual 240, 3) := dk_182 0 240 (dk_at dksX3_turns_0 5 rfl rfl)
theorem dX3_turns_8 : decode cX3_turns 8 = .ok (.istore_n 1, 1) := dk_60 (dk_at dksX3_turns_0 8 rfl rfl)
theorem dX3_turns_9 : decode cX3_turns 9 = .ok (.bipush 24, 2) := dk_16 24 (dk_at dksX3_turns_0 9 rfl rfl)
theorem dX3_turns_11 : decode cX3_turns 11 = .ok (.iload_n 1, 1) := dk_27 (dk_at dksX3_turns_0 11 rfl rfl)
theorem dX3_turns_12 : decode cX3_turns 12 = .ok (.imul, 1) := dk_104 (dk_at dksX3_turns_0 12 rfl rfl)
theorem dX3_turns_13 : decode cX3_turns 13 = .ok (.istore_n 2, 1) := dk_61 (dk_at dksX3_turns_0 13 rfl rfl)
theorem dX3_turns_14 : decode cX3_turns 14 = .ok (.iload_n 1, 1) := dk_27 (dk_at dksX3_turns_0 14 rfl rfl)
theorem dX3_turns_15 : decode cX3_turns 15 = .ok (.iconst (-1), 1) := dk_2 (dk_at dksX3_turns_0 15 rfl rfl)
theorem dX3_turns_16 : decode cX3_turns 16 = .ok (.if_icmp .eq 129, 3) := dk_159 0 129 (dk_at dksX3_turns_0 16 rfl rfl)
theorem dX3_turns_19 : decode cX3_turns 19 = .ok (.iload_n 2, 1) := dk_28 (dk_at dksX3_turns_0 19 rfl rfl)
theorem dX3_turns_20 : decode cX3_turns 20 = .ok (.bipush 24, 2) := dk_16 24 (dk_at dksX3_turns_0 20 rfl rfl)
theorem dX3_turns_22 : decode cX3_turns 22 = .ok (.iload_n 1, 1) := dk_27 (dk_at dksX3_turns_0 22 rfl rfl)
theorem dX3_turns_23 : decode cX3_turns 23 = .ok (.imul, 1) := dk_104 (dk_at dksX3_turns_0 23 rfl rfl)
theorem dX3_turns_24 : decode cX3_turns 24 = .ok (.aload_n 0, 1) := dk_42 (dk_at dksX3_turns_1 0 rfl rfl)
theorem dX3_turns_25 : decode cX3_turns 25 = .ok (.getfield 159, 3) := dk_180 0 159 (dk_at dksX3_turns_1 1 rfl rfl)
theorem dX3_turns_28 : decode cX3_turns 28 = .ok (.iload_n 1, 1) := dk_27 (dk_at dksX3_turns_1 4 rfl rfl)
theorem dX3_turns_29 : decode cX3_turns 29 = .ok (.iaload, 1) := dk_46 (dk_at dksX3_turns_1 5 rfl rfl)
theorem dX3_turns_30 : decode cX3_turns 30 = .ok (.iadd, 1) := dk_96 (dk_at dksX3_turns_1 6 rfl rfl)
theorem dX3_turns_31 : decode cX3_turns 31 = .ok (.if_icmp .ge 114, 3) := dk_162 0 114 (dk_at dksX3_turns_1 7 rfl rfl)
theorem dX3_turns_34 : decode cX3_turns 34 = .ok (.aload_n 0, 1) := dk_42 (dk_at dksX3_turns_1 10 rfl rfl)
theorem dX3_turns_35 : decode cX3_turns 35 = .ok (.iload_n 2, 1) := dk_28 (dk_at dksX3_turns_1 11 rfl rfl)
theorem dX3_turns_36 : decode cX3_turns 36 = .ok (.aload_n 0, 1) := dk_42 (dk_at dksX3_turns_1 12 rfl rfl)
theorem dX3_turns_37 : decode cX3_turns 37 = .ok (.getfield 212, 3) := dk_180 0 212 (dk_at dksX3_turns_1 13 rfl rfl)
theorem dX3_turns_40 : decode cX3_turns 40 = .ok (.invokevirtual 243, 3) := dk_182 0 243 (dk_at dksX3_turns_1 16 rfl rfl)
theorem dX3_turns_43 : decode cX3_turns 43 = .ok (.ifCond .eq 96, 3) := dk_153 0 96 (dk_at dksX3_turns_1 19 rfl rfl)
theorem dX3_turns_46 : decode cX3_turns 46 = .ok (.aload_n 0, 1) := dk_42 (dk_at dksX3_turns_1 22 rfl rfl)
theorem dX3_turns_47 : decode cX3_turns 47 = .ok (.aload_n 0, 1) := dk_42 (dk_at dksX3_turns_1 23 rfl rfl)
theorem dX3_turns_48 : decode cX3_turns 48 = .ok (.getfield 171, 3) := dk_180 0 171 (dk_at dksX3_turns_2 0 rfl rfl)
theorem dX3_turns_51 : decode cX3_turns 51 = .ok (.iload_n 2, 1) := dk_28 (dk_at dksX3_turns_2 3 rfl rfl)
theorem dX3_turns_52 : decode cX3_turns 52 = .ok (.iaload, 1) := dk_46 (dk_at dksX3_turns_2 4 rfl rfl)
theorem dX3_turns_53 : decode cX3_turns 53 = .ok (.invokevirtual 219, 3) := dk_182 0 219 (dk_at dksX3_turns_2 5 rfl rfl)
theorem dX3_turns_56 : decode cX3_turns 56 = .ok (.ifCond .ne 6, 3) := dk_154 0 6 (dk_at dksX3_turns_2 8 rfl rfl)
theorem dX3_turns_59 : decode cX3_turns 59 = .ok (.goto 80, 3) := dk_167 0 80 (dk_at dksX3_turns_2 11 rfl rfl)
theorem dX3_turns_62 : decode cX3_turns 62 = .ok (.aload_n 0, 1) := dk_42 (dk_at dksX3_turns_2 14 rfl rfl)
theorem dX3_turns_63 : decode cX3_turns 63 = .ok (.getfield 62, 3) := dk_180 0 62 (dk_at dksX3_turns_2 15 rfl rfl)
theorem dX3_turns_66 : decode cX3_turns 66 = .ok (.bipush 11, 2) := dk_16 11 (dk_at dksX3_turns_2 18 rfl rfl)
theorem dX3_turns_68 : decode cX3_turns 68 = .ok (.aload_n 0, 1) := dk_42 (dk_at dksX3_turns_2 20 rfl rfl)
theorem dX3_turns_69 : decode cX3_turns 69 = .ok (.getfield 171, 3) := dk_180 0 171 (dk_at dksX3_turns_2 21 rfl rfl)
theorem dX3_turns_72 : decode cX3_turns 72 = .ok (.iload_n 2, 1) := dk_28 (dk_at dksX3_turns_3 0 rfl rfl)
theorem dX3_turns_73 : decode cX3_turns 73 = .ok (.iaload, 1) := dk_46 (dk_at dksX3_turns_3 1 rfl rfl)
theorem dX3_turns_74 : decode cX3_turns 74 = .ok (.imul, 1) := dk_104 (dk_at dksX3_turns_3 2 rfl rfl)
theorem dX3_turns_75 : decode cX3_turns 75 = .ok (.aload_n 0, 1) := dk_42 (dk_at dksX3_turns_3 3 rfl rfl)
theorem dX3_turns_76 : decode cX3_turns 76 = .ok (.getfield 168, 3) := dk_180 0 168 (dk_at dksX3_turns_3 4 rfl rfl)
theorem dX3_turns_79 : decode cX3_turns 79 = .ok (.iload_n 2, 1) := dk_28 (dk_at dksX3_turns_3 7 rfl rfl)
theorem dX3_turns_80 : decode cX3_turns 80 = .ok (.iaload, 1) := dk_46 (dk_at dksX3_turns_3 8 rfl rfl)
theorem dX3_turns_81 : decode cX3_turns 81 = .ok (.iadd, 1) := dk_96 (dk_at dksX3_turns_3 9 rfl rfl)
theorem dX3_turns_82 : decode cX3_turns 82 = .ok (.iaload, 1) := dk_46 (dk_at dksX3_turns_3 10 rfl rfl)
theorem dX3_turns_83 : decode cX3_turns 83 = .ok (.aload_n 0, 1) := dk_42 (dk_at dksX3_turns_3 11 rfl rfl)
theorem dX3_turns_84 : decode cX3_turns 84 = .ok (.getfield 212, 3) := dk_180 0 212 (dk_at dksX3_turns_3 12 rfl rfl)
theorem dX3_turns_87 : decode cX3_turns 87 = .ok (.if_icmp .ne 33, 3) := dk_160 0 33 (dk_at dksX3_turns_3 15 rfl rfl)
theorem dX3_turns_90 : decode cX3_turns 90 = .ok (.aload_n 0, 1) := dk_42 (dk_at dksX3_turns_3 18 rfl rfl)
theorem dX3_turns_91 : decode cX3_turns 91 = .ok (.getfield 92, 3) := dk_180 0 92 (dk_at dksX3_turns_3 19 rfl rfl)
theorem dX3_turns_94 : decode cX3_turns 94 = .ok (.bipush 10, 2) := dk_16 10 (dk_at dksX3_turns_3 22 rfl rfl)
theorem dX3_turns_96 : decode cX3_turns 96 = .ok (.aload_n 0, 1) := dk_42 (dk_at dksX3_turns_4 0 rfl rfl)
theorem dX3_turns_97 : decode cX3_turns 97 = .ok (.getfield 212, 3) := dk_180 0 212 (dk_at dksX3_turns_4 1 rfl rfl)
theorem dX3_turns_100 : decode cX3_turns 100 = .ok (.sipush 365, 3) := dk_17 1 109 (dk_at dksX3_turns_4 4 rfl rfl)
theorem dX3_turns_103 : decode cX3_turns 103 = .ok (.idiv, 1) := dk_108 (dk_at dksX3_turns_4 7 rfl rfl)
theorem dX3_turns_104 : decode cX3_turns 104 = .ok (.imul, 1) := dk_104 (dk_at dksX3_turns_4 8 rfl rfl)
theorem dX3_turns_105 : decode cX3_turns 105 = .ok (.aload_n 0, 1) := dk_42 (dk_at dksX3_turns_4 9 rfl rfl)
theorem dX3_turns_106 : decode cX3_turns 106 = .ok (.getfield 168, 3) := dk_180 0 168 (dk_at dksX3_turns_4 10 rfl rfl)
theorem dX3_turns_109 : decode cX3_turns 109 = .ok (.iload_n 2, 1) := dk_28 (dk_at dksX3_turns_4 13 rfl rfl)
theorem dX3_turns_110 : decode cX3_turns 110 = .ok (.iaload, 1) := dk_46 (dk_at dksX3_turns_4 14 rfl rfl)
theorem dX3_turns_111 : decode cX3_turns 111 = .ok (.iadd, 1) := dk_96 (dk_at dksX3_turns_4 15 rfl rfl)
theorem dX3_turns_112 : decode cX3_turns 112 = .ok (.dup2, 1) := dk_92 (dk_at dksX3_turns_4 16 rfl rfl)
theorem dX3_turns_113 : decode cX3_turns 113 = .ok (.iaload, 1) := dk_46 (dk_at dksX3_turns_4 17 rfl rfl)
theorem dX3_turns_114 : decode cX3_turns 114 = .ok (.iconst 1, 1) := dk_4 (dk_at dksX3_turns_4 18 rfl rfl)
theorem dX3_turns_115 : decode cX3_turns 115 = .ok (.iadd, 1) := dk_96 (dk_at dksX3_turns_4 19 rfl rfl)
theorem dX3_turns_116 : decode cX3_turns 116 = .ok (.iastore, 1) := dk_79 (dk_at dksX3_turns_4 20 rfl rfl)
theorem dX3_turns_117 : decode cX3_turns 117 = .ok (.goto 22, 3) := dk_167 0 22 (dk_at dksX3_turns_4 21 rfl rfl)
theorem dX3_turns_120 : decode cX3_turns 120 = .ok (.aload_n 0, 1) := dk_42 (dk_at dksX3_turns_5 0 rfl rfl)
theorem dX3_turns_121 : decode cX3_turns 121 = .ok (.getfield 89, 3) := dk_180 0 89 (dk_at dksX3_turns_5 1 rfl rfl)
theorem dX3_turns_124 : decode cX3_turns 124 = .ok (.aload_n 0, 1) := dk_42 (dk_at dksX3_turns_5 4 rfl rfl)
theorem dX3_turns_125 : decode cX3_turns 125 = .ok (.getfield 168, 3) := dk_180 0 168 (dk_at dksX3_turns_5 5 rfl rfl)
theorem dX3_turns_128 : decode cX3_turns 128 = .ok (.iload_n 2, 1) := dk_28 (dk_at dksX3_turns_5 8 rfl rfl)
theorem dX3_turns_129 : decode cX3_turns 129 = .ok (.iaload, 1) := dk_46 (dk_at dksX3_turns_5 9 rfl rfl)
theorem dX3_turns_130 : decode cX3_turns 130 = .ok (.dup2, 1) := dk_92 (dk_at dksX3_turns_5 10 rfl rfl)
theorem dX3_turns_131 : decode cX3_turns 131 = .ok (.iaload, 1) := dk_46 (dk_at dksX3_turns_5 11 rfl rfl)
theorem dX3_turns_132 : decode cX3_turns 132 = .ok (.aload_n 0, 1) := dk_42 (dk_at dksX3_turns_5 12 rfl rfl)
theorem dX3_turns_133 : decode cX3_turns 133 = .ok (.iconst 3, 1) := dk_6 (dk_at dksX3_turns_5 13 rfl rfl)
theorem dX3_turns_134 : decode cX3_turns 134 = .ok (.invokevirtual 209, 3) := dk_182 0 209 (dk_at dksX3_turns_5 14 rfl rfl)
theorem dX3_turns_137 : decode cX3_turns 137 = .ok (.iadd, 1) := dk_96 (dk_at dksX3_turns_5 17 rfl rfl)
theorem dX3_turns_138 : decode cX3_turns 138 = .ok (.iastore, 1) := dk_79 (dk_at dksX3_turns_5 18 rfl rfl)
theorem dX3_turns_139 : decode cX3_turns 139 = .ok (.iinc 2 1, 3) := dk_132 2 1 (dk_at dksX3_turns_5 19 rfl rfl)
theorem dX3_turns_142 : decode cX3_turns 142 = .ok (.goto (-128), 3) := dk_167 255 128 (dk_at dksX3_turns_6 0 rfl rfl)
theorem dX3_turns_145 : decode cX3_turns 145 = .ok (.return_, 1) := dk_177 (dk_at dksX3_turns_6 3 rfl rfl)
def dkwX3_isTurn_2 : List UInt8 := [180, 0, 177, 27, 46, 100, 42, 180, 0, 174, 27, 46, 112, 154, 0, 7, 4, 167, 0, 4, 3, 172]
abbrev dktX3_isTurn_2 : List UInt8 := dkwX3_isTurn_2 ++ []
def dkwX3_isTurn_1 : List UInt8 := [180, 0, 171, 27, 46, 42, 180, 0, 191, 162, 0, 35, 28, 42, 180, 0, 177, 27, 46, 161, 0, 25, 28, 42]
abbrev dktX3_isTurn_1 : List UInt8 := dkwX3_isTurn_1 ++ dktX3_isTurn_2
def dkwX3_isTurn_0 : List UInt8 := [42, 180, 0, 165, 27, 46, 16, 30, 160, 0, 59, 42, 180, 0, 168, 27, 46, 16, 10, 162, 0, 48, 42]
abbrev dktX3_isTurn_0 : List UInt8 := dkwX3_isTurn_0 ++ dktX3_isTurn_1
theorem dksX3_isTurn_0 : cX3_isTurn.data.toList.drop 0 = dktX3_isTurn_0 := by decide +kernel
theorem dksX3_isTurn_1 : cX3_isTurn.data.toList.drop 23 = dktX3_isTurn_1 := dk_seg dksX3_isTurn_0 23 rfl rfl
theorem dksX3_isTurn_2 : cX3_isTurn.data.toList.drop 47 = dktX3_isTurn_2 := dk_seg dksX3_isTurn_1 24 rfl rfl
theorem dX3_isTurn_0 : decode cX3_isTurn 0 = .ok (.aload_n 0, 1) := dk_42 (dk_at dksX3_isTurn_0 0 rfl rfl)
theorem dX3_isTurn_1 : decode cX3_isTurn 1 = .ok (.getfield 165, 3) := dk_180 0 165 (dk_at dksX3_isTurn_0 1 rfl rfl)
theorem dX3_isTurn_4 : decode cX3_isTurn 4 = .ok (.iload_n 1, 1) := dk_27 (dk_at dksX3_isTurn_0 4 rfl rfl)
theorem dX3_isTurn_5 : decode cX3_isTurn 5 = .ok (.iaload, 1) := dk_46 (dk_at dksX3_isTurn_0 5 rfl rfl)
theorem dX3_isTurn_6 : decode cX3_isTurn 6 = .ok (.bipush 30, 2) := dk_16 30 (dk_at dksX3_isTurn_0 6 rfl rfl)
theorem dX3_isTurn_8 : decode cX3_isTurn 8 = .ok (.if_icmp .ne 59, 3) := dk_160 0 59 (dk_at dksX3_isTurn_0 8 rfl rfl)
theorem dX3_isTurn_11 : decode cX3_isTurn 11 = .ok (.aload_n 0, 1) := dk_42 (dk_at dksX3_isTurn_0 11 rfl rfl)
theorem dX3_isTurn_12 : decode cX3_isTurn 12 = .ok (.getfield 168, 3) := dk_180 0 168 (dk_at dksX3_isTurn_0 12 rfl rfl)
theorem dX3_isTurn_15 : decode cX3_isTurn 15 = .ok (.iload_n 1, 1) := dk_27 (dk_at dksX3_isTurn_0 15 rfl rfl)
theorem dX3_isTurn_16 : decode cX3_isTurn 16 = .ok (.iaload, 1) := dk_46 (dk_at dksX3_isTurn_0 16 rfl rfl)
theorem dX3_isTurn_17 : decode cX3_isTurn 17 = .ok (.bipush 10, 2) := dk_16 10 (dk_at dksX3_isTurn_0 17 rfl rfl)
theorem dX3_isTurn_19 : decode cX3_isTurn 19 = .ok (.if_icmp .ge 48, 3) := dk_162 0 48 (dk_at dksX3_isTurn_0 19 rfl rfl)
theorem dX3_isTurn_22 : decode cX3_isTurn 22 = .ok (.aload_n 0, 1) := dk_42 (dk_at dksX3_isTurn_0 22 rfl rfl)
theorem dX3_isTurn_23 : decode cX3_isTurn 23 = .ok (.getfield 171, 3) := dk_180 0 171 (dk_at dksX3_isTurn_1 0 rfl rfl)
theorem dX3_isTurn_26 : decode cX3_isTurn 26 = .ok (.iload_n 1, 1) := dk_27 (dk_at dksX3_isTurn_1 3 rfl rfl)
theorem dX3_isTurn_27 : decode cX3_isTurn 27 = .ok (.iaload, 1) := dk_46 (dk_at dksX3_isTurn_1 4 rfl rfl)
theorem dX3_isTurn_28 : decode cX3_isTurn 28 = .ok (.aload_n 0, 1) := dk_42 (dk_at dksX3_isTurn_1 5 rfl rfl)
theorem dX3_isTurn_29 : decode cX3_isTurn 29 = .ok (.getfield 191, 3) := dk_180 0 191 (dk_at dksX3_isTurn_1 6 rfl rfl)
theorem dX3_isTurn_32 : decode cX3_isTurn 32 = .ok (.if_icmp .ge 35, 3) := dk_162 0 35 (dk_at dksX3_isTurn_1 9 rfl rfl)
theorem dX3_isTurn_35 : decode cX3_isTurn 35 = .ok (.iload_n 2, 1) := dk_28 (dk_at dksX3_isTurn_1 12 rfl rfl)
theorem dX3_isTurn_36 : decode cX3_isTurn 36 = .ok (.aload_n 0, 1) := dk_42 (dk_at dksX3_isTurn_1 13 rfl rfl)
theorem dX3_isTurn_37 : decode cX3_isTurn 37 = .ok (.getfield 177, 3) := dk_180 0 177 (dk_at dksX3_isTurn_1 14 rfl rfl)
theorem dX3_isTurn_40 : decode cX3_isTurn 40 = .ok (.iload_n 1, 1) := dk_27 (dk_at dksX3_isTurn_1 17 rfl rfl)
theorem dX3_isTurn_41 : decode cX3_isTurn 41 = .ok (.iaload, 1) := dk_46 (dk_at dksX3_isTurn_1 18 rfl rfl)
theorem dX3_isTurn_42 : decode cX3_isTurn 42 = .ok (.if_icmp .lt 25, 3) := dk_161 0 25 (dk_at dksX3_isTurn_1 19 rfl rfl)
theorem dX3_isTurn_45 : decode cX3_isTurn 45 = .ok (.iload_n 2, 1) := dk_28 (dk_at dksX3_isTurn_1 22 rfl rfl)
theorem dX3_isTurn_46 : decode cX3_isTurn 46 = .ok (.aload_n 0, 1) := dk_42 (dk_at dksX3_isTurn_1 23 rfl rfl)
theorem dX3_isTurn_47 : decode cX3_isTurn 47 = .ok (.getfield 177, 3) := dk_180 0 177 (dk_at dksX3_isTurn_2 0 rfl rfl)
theorem dX3_isTurn_50 : decode cX3_isTurn 50 = .ok (.iload_n 1, 1) := dk_27 (dk_at dksX3_isTurn_2 3 rfl rfl)
theorem dX3_isTurn_51 : decode cX3_isTurn 51 = .ok (.iaload, 1) := dk_46 (dk_at dksX3_isTurn_2 4 rfl rfl)
theorem dX3_isTurn_52 : decode cX3_isTurn 52 = .ok (.isub, 1) := dk_100 (dk_at dksX3_isTurn_2 5 rfl rfl)
theorem dX3_isTurn_53 : decode cX3_isTurn 53 = .ok (.aload_n 0, 1) := dk_42 (dk_at dksX3_isTurn_2 6 rfl rfl)
theorem dX3_isTurn_54 : decode cX3_isTurn 54 = .ok (.getfield 174, 3) := dk_180 0 174 (dk_at dksX3_isTurn_2 7 rfl rfl)
theorem dX3_isTurn_57 : decode cX3_isTurn 57 = .ok (.iload_n 1, 1) := dk_27 (dk_at dksX3_isTurn_2 10 rfl rfl)
theorem dX3_isTurn_58 : decode cX3_isTurn 58 = .ok (.iaload, 1) := dk_46 (dk_at dksX3_isTurn_2 11 rfl rfl)
theorem dX3_isTurn_59 : decode cX3_isTurn 59 = .ok (.irem, 1) := dk_112 (dk_at dksX3_isTurn_2 12 rfl rfl)
theorem dX3_isTurn_60 : decode cX3_isTurn 60 = .ok (.ifCond .ne 7, 3) := dk_154 0 7 (dk_at dksX3_isTurn_2 13 rfl rfl)
theorem dX3_isTurn_63 : decode cX3_isTurn 63 = .ok (.iconst 1, 1) := dk_4 (dk_at dksX3_isTurn_2 16 rfl rfl)
theorem dX3_isTurn_64 : decode cX3_isTurn 64 = .ok (.goto 4, 3) := dk_167 0 4 (dk_at dksX3_isTurn_2 17 rfl rfl)
theorem dX3_isTurn_67 : decode cX3_isTurn 67 = .ok (.iconst 0, 1) := dk_3 (dk_at dksX3_isTurn_2 20 rfl rfl)
theorem dX3_isTurn_68 : decode cX3_isTurn 68 = .ok (.ireturn, 1) := dk_172 (dk_at dksX3_isTurn_2 21 rfl rfl)
def dkwX3_rain_1 : List UInt8 := [180, 0, 86, 42, 180, 1, 1, 27, 79, 42, 89, 180, 1, 1, 4, 96, 181, 1, 1, 42, 180, 1, 1, 172]
abbrev dktX3_rain_1 : List UInt8 := dkwX3_rain_1 ++ []
def dkwX3_rain_0 : List UInt8 := [27, 3, 16, 50, 184, 0, 194, 153, 0, 12, 42, 180, 1, 1, 16, 30, 160, 0, 5, 2, 172, 42]
abbrev dktX3_rain_0 : List UInt8 := dkwX3_rain_0 ++ dktX3_rain_1
theorem dksX3_rain_0 : cX3_rain.data.toList.drop 0 = dktX3_rain_0 := by decide +kernel
theorem dksX3_rain_1 : cX3_rain.data.toList.drop 22 = dktX3_rain_1 := dk_seg dksX3_rain_0 22 rfl rfl
theorem dX3_rain_0 : decode cX3_rain 0 = .ok (.iload_n 1, 1) := dk_27 (dk_at dksX3_rain_0 0 rfl rfl)
theorem dX3_rain_1 : decode cX3_rain 1 = .ok (.iconst 0, 1) := dk_3 (dk_at dksX3_rain_0 1 rfl rfl)
theorem dX3_rain_2 : decode cX3_rain 2 = .ok (.bipush 50, 2) := dk_16 50 (dk_at dksX3_rain_0 2 rfl rfl)
theorem dX3_rain_4 : decode cX3_rain 4 = .ok (.invokestatic 194, 3) := dk_184 0 194 (dk_at dksX3_rain_0 4 rfl rfl)
theorem dX3_rain_7 : decode cX3_rain 7 = .ok (.ifCond .eq 12, 3) := dk_153 0 12 (dk_at dksX3_rain_0 7 rfl rfl)
theorem dX3_rain_10 : decode cX3_rain 10 = .ok (.aload_n 0, 1) := dk_42 (dk_at dksX3_rain_0 10 rfl rfl)
theorem dX3_rain_11 : decode cX3_rain 11 = .ok (.getfield 257, 3) := dk_180 1 1 (dk_at dksX3_rain_0 11 rfl rfl)
theorem dX3_rain_14 : decode cX3_rain 14 = .ok (.bipush 30, 2) := dk_16 30 (dk_at dksX3_rain_0 14 rfl rfl)
theorem dX3_rain_16 : decode cX3_rain 16 = .ok (.if_icmp .ne 5, 3) := dk_160 0 5 (dk_at dksX3_rain_0 16 rfl rfl)
theorem dX3_rain_19 : decode cX3_rain 19 = .ok (.iconst (-1), 1) := dk_2 (dk_at dksX3_rain_0 19 rfl rfl)
theorem dX3_rain_20 : decode cX3_rain 20 = .ok (.ireturn, 1) := dk_172 (dk_at dksX3_rain_0 20 rfl rfl)
theorem dX3_rain_21 : decode cX3_rain 21 = .ok (.aload_n 0, 1) := dk_42 (dk_at dksX3_rain_0 21 rfl rfl)
theorem dX3_rain_22 : decode cX3_rain 22 = .ok (.getfield 86, 3) := dk_180 0 86 (dk_at dksX3_rain_1 0 rfl rfl)
theorem dX3_rain_25 : decode cX3_rain 25 = .ok (.aload_n 0, 1) := dk_42 (dk_at dksX3_rain_1 3 rfl rfl)
theorem dX3_rain_26 : decode cX3_rain 26 = .ok (.getfield 257, 3) := dk_180 1 1 (dk_at dksX3_rain_1 4 rfl rfl)
theorem dX3_rain_29 : decode cX3_rain 29 = .ok (.iload_n 1, 1) := dk_27 (dk_at dksX3_rain_1 7 rfl rfl)
theorem dX3_rain_30 : decode cX3_rain 30 = .ok (.iastore, 1) := dk_79 (dk_at dksX3_rain_1 8 rfl rfl)
theorem dX3_rain_31 : decode cX3_rain 31 = .ok (.aload_n 0, 1) := dk_42 (dk_at dksX3_rain_1 9 rfl rfl)
theorem dX3_rain_32 : decode cX3_rain 32 = .ok (.dup, 1) := dk_89 (dk_at dksX3_rain_1 10 rfl rfl)
theorem dX3_rain_33 : decode cX3_rain 33 = .ok (.getfield 257, 3) := dk_180 1 1 (dk_at dksX3_rain_1 11 rfl rfl)
theorem dX3_rain_36 : decode cX3_rain 36 = .ok (.iconst 1, 1) := dk_4 (dk_at dksX3_rain_1 14 rfl rfl)
theorem dX3_rain_37 : decode cX3_rain 37 = .ok (.iadd, 1) := dk_96 (dk_at dksX3_rain_1 15 rfl rfl)
theorem dX3_rain_38 : decode cX3_rain 38 = .ok (.putfield 257, 3) := dk_181 1 1 (dk_at dksX3_rain_1 16 rfl rfl)
theorem dX3_rain_41 : decode cX3_rain 41 = .ok (.aload_n 0, 1) := dk_42 (dk_at dksX3_rain_1 19 rfl rfl)
theorem dX3_rain_42 : decode cX3_rain 42 = .ok (.getfield 257, 3) := dk_180 1 1 (dk_at dksX3_rain_1 20 rfl rfl)
theorem dX3_rain_45 : decode cX3_rain 45 = .ok (.ireturn, 1) := dk_172 (dk_at dksX3_rain_1 23 rfl rfl)
def dkwX3_clear_0 : List UInt8 := [42, 180, 1, 1, 60, 42, 3, 181, 1, 1, 27, 172]
abbrev dktX3_clear_0 : List UInt8 := dkwX3_clear_0 ++ []
theorem dksX3_clear_0 : cX3_clear.data.toList.drop 0 = dktX3_clear_0 := by decide +kernel
theorem dX3_clear_0 : decode cX3_clear 0 = .ok (.aload_n 0, 1) := dk_42 (dk_at dksX3_clear_0 0 rfl rfl)
theorem dX3_clear_1 : decode cX3_clear 1 = .ok (.getfield 257, 3) := dk_180 1 1 (dk_at dksX3_clear_0 1 rfl rfl)
theorem dX3_clear_4 : decode cX3_clear 4 = .ok (.istore_n 1, 1) := dk_60 (dk_at dksX3_clear_0 4 rfl rfl)
theorem dX3_clear_5 : decode cX3_clear 5 = .ok (.aload_n 0, 1) := dk_42 (dk_at dksX3_clear_0 5 rfl rfl)
theorem dX3_clear_6 : decode cX3_clear 6 = .ok (.iconst 0, 1) := dk_3 (dk_at dksX3_clear_0 6 rfl rfl)
theorem dX3_clear_7 : decode cX3_clear 7 = .ok (.putfield 257, 3) := dk_181 1 1 (dk_at dksX3_clear_0 7 rfl rfl)
theorem dX3_clear_10 : decode cX3_clear 10 = .ok (.iload_n 1, 1) := dk_27 (dk_at dksX3_clear_0 10 rfl rfl)
theorem dX3_clear_11 : decode cX3_clear 11 = .ok (.ireturn, 1) := dk_172 (dk_at dksX3_clear_0 11 rfl rfl)
def dkwX3_storm_10 : List UInt8 := [42, 180, 1, 39, 4, 100, 172]
abbrev dktX3_storm_10 : List UInt8 := dkwX3_storm_10 ++ []
def dkwX3_storm_9 : List UInt8 := [79, 42, 180, 0, 123, 42, 180, 1, 39, 42, 180, 1, 16, 80, 42, 89, 180, 1, 39, 4, 96, 181, 1, 39]
abbrev dktX3_storm_9 : List UInt8 := dkwX3_storm_9 ++ dktX3_storm_10
def dkwX3_storm_8 : List UInt8 := [180, 0, 120, 42, 180, 1, 39, 42, 180, 1, 10, 80, 42, 180, 0, 135, 42, 180, 1, 39, 42, 180, 1, 19]
abbrev dktX3_storm_8 : List UInt8 := dkwX3_storm_8 ++ dktX3_storm_9
def dkwX3_storm_7 : List UInt8 := [42, 180, 1, 39, 42, 180, 0, 212, 79, 42, 180, 0, 117, 42, 180, 1, 39, 42, 180, 1, 4, 80, 42]
abbrev dktX3_storm_7 : List UInt8 := dkwX3_storm_7 ++ dktX3_storm_8
def dkwX3_storm_6 : List UInt8 := [180, 1, 10, 97, 181, 1, 48, 42, 89, 180, 1, 51, 42, 180, 1, 13, 97, 181, 1, 51, 42, 180, 0, 132]
abbrev dktX3_storm_6 : List UInt8 := dkwX3_storm_6 ++ dktX3_storm_7
def dkwX3_storm_5 : List UInt8 := [181, 1, 45, 42, 89, 180, 0, 233, 42, 180, 1, 7, 97, 181, 0, 233, 42, 89, 180, 1, 48, 42]
abbrev dktX3_storm_5 : List UInt8 := dkwX3_storm_5 ++ dktX3_storm_6
def dkwX3_storm_4 : List UInt8 := [42, 180, 0, 114, 27, 46, 79, 132, 1, 1, 167, 255, 197, 42, 89, 180, 1, 45, 42, 180, 1, 4, 97]
abbrev dktX3_storm_4 : List UInt8 := dkwX3_storm_4 ++ dktX3_storm_5
def dkwX3_storm_3 : List UInt8 := [42, 180, 0, 108, 27, 47, 80, 42, 180, 0, 129, 27, 42, 180, 0, 111, 27, 47, 80, 42, 180, 0, 138, 27]
abbrev dktX3_storm_3 : List UInt8 := dkwX3_storm_3 ++ dktX3_storm_4
def dkwX3_storm_2 : List UInt8 := [42, 180, 0, 191, 162, 0, 57, 42, 180, 0, 53, 27, 42, 180, 0, 98, 27, 46, 79, 42, 180, 0, 126, 27]
abbrev dktX3_storm_2 : List UInt8 := dkwX3_storm_2 ++ dktX3_storm_3
def dkwX3_storm_1 : List UInt8 := [162, 0, 21, 42, 180, 0, 77, 27, 42, 180, 0, 95, 27, 46, 79, 132, 1, 1, 167, 255, 233, 3, 60, 27]
abbrev dktX3_storm_1 : List UInt8 := dkwX3_storm_1 ++ dktX3_storm_2
def dkwX3_storm_0 : List UInt8 := [42, 180, 1, 39, 16, 40, 160, 0, 5, 2, 172, 42, 3, 182, 1, 42, 3, 60, 27, 42, 180, 0, 202]
abbrev dktX3_storm_0 : List UInt8 := dkwX3_storm_0 ++ dktX3_storm_1
theorem dksX3_storm_0 : cX3_storm.data.toList.drop 0 = dktX3_storm_0 := by decide +kernel
theorem dksX3_storm_1 : cX3_storm.data.toList.drop 23 = dktX3_storm_1 := dk_seg dksX3_storm_0 23 rfl rfl
theorem dksX3_storm_2 : cX3_storm.data.toList.drop 47 = dktX3_storm_2 := dk_seg dksX3_storm_1 24 rfl rfl
theorem dksX3_storm_3 : cX3_storm.data.toList.drop 71 = dktX3_storm_3 := dk_seg dksX3_storm_2 24 rfl rfl
theorem dksX3_storm_4 : cX3_storm.data.toList.drop 95 = dktX3_storm_4 := dk_seg dksX3_storm_3 24 rfl rfl
theorem dksX3_storm_5 : cX3_storm.data.toList.drop 118 = dktX3_storm_5 := dk_seg dksX3_storm_4 23 rfl rfl
theorem dksX3_storm_6 : cX3_storm.data.toList.drop 140 = dktX3_storm_6 := dk_seg dksX3_storm_5 22 rfl rfl
theorem dksX3_storm_7 : cX3_storm.data.toList.drop 164 = dktX3_storm_7 := dk_seg dksX3_storm_6 24 rfl rfl
theorem dksX3_storm_8 : cX3_storm.data.toList.drop 187 = dktX3_storm_8 := dk_seg dksX3_storm_7 23 rfl rfl
theorem dksX3_storm_9 : cX3_storm.data.toList.drop 211 = dktX3_storm_9 := dk_seg dksX3_storm_8 24 rfl rfl
theorem dksX3_storm_10 : cX3_storm.data.toList.drop 235 = dktX3_storm_10 := dk_seg dksX3_storm_9 24 rfl rfl
theorem dX3_storm_0 : decode cX3_storm 0 = .ok (.aload_n 0, 1) := dk_42 (dk_at dksX3_storm_0 0 rfl rfl)
theorem dX3_storm_1 : decode cX3_storm 1 = .ok (.getfield 295, 3) := dk_180 1 39 (dk_at dksX3_storm_0 1 rfl rfl)
theorem dX3_storm_4 : decode cX3_storm 4 = .ok (.bipush 40, 2) := dk_16 40 (dk_at dksX3_storm_0 4 rfl rfl)
theorem dX3_storm_6 : decode cX3_storm 6 = .ok (.if_icmp .ne 5, 3) := dk_160 0 5 (dk_at dksX3_storm_0 6 rfl rfl)
theorem dX3_storm_9 : decode cX3_storm 9 = .ok (.iconst (-1), 1) := dk_2 (dk_at dksX3_storm_0 9 rfl rfl)
theorem dX3_storm_10 : decode cX3_storm 10 = .ok (.ireturn, 1) := dk_172 (dk_at dksX3_storm_0 10 rfl rfl)
theorem dX3_storm_11 : decode cX3_storm 11 = .ok (.aload_n 0, 1) := dk_42 (dk_at dksX3_storm_0 11 rfl rfl)
theorem dX3_storm_12 : decode cX3_storm 12 = .ok (.iconst 0, 1) := dk_3 (dk_at dksX3_storm_0 12 rfl rfl)
theorem dX3_storm_13 : decode cX3_storm 13 = .ok (.invokevirtual 298, 3) := dk_182 1 42 (dk_at dksX3_storm_0 13 rfl rfl)
theorem dX3_storm_16 : decode cX3_storm 16 = .ok (.iconst 0, 1) := dk_3 (dk_at dksX3_storm_0 16 rfl rfl)
theorem dX3_storm_17 : decode cX3_storm 17 = .ok (.istore_n 1, 1) := dk_60 (dk_at dksX3_storm_0 17 rfl rfl)
theorem dX3_storm_18 : decode cX3_storm 18 = .ok (.iload_n 1, 1) := dk_27 (dk_at dksX3_storm_0 18 rfl rfl)
theorem dX3_storm_19 : decode cX3_storm 19 = .ok (.aload_n 0, 1) := dk_42 (dk_at dksX3_storm_0 19 rfl rfl)
theorem dX3_storm_20 : decode cX3_storm 20 = .ok (.getfield 202, 3) := dk_180 0 202 (dk_at dksX3_storm_0 20 rfl rfl)
theorem dX3_storm_23 : decode cX3_storm 23 = .ok (.if_icmp .ge 21, 3) := dk_162 0 21 (dk_at dksX3_storm_1 0 rfl rfl)
theorem dX3_storm_26 : decode cX3_storm 26 = .ok (.aload_n 0, 1) := dk_42 (dk_at dksX3_storm_1 3 rfl rfl)
theorem dX3_storm_27 : decode cX3_storm 27 = .ok (.getfield 77, 3) := dk_180 0 77 (dk_at dksX3_storm_1 4 rfl rfl)
theorem dX3_storm_30 : decode cX3_storm 30 = .ok (.iload_n 1, 1) := dk_27 (dk_at dksX3_storm_1 7 rfl rfl)
theorem dX3_storm_31 : decode cX3_storm 31 = .ok (.aload_n 0, 1) := dk_42 (dk_at dksX3_storm_1 8 rfl rfl)
theorem dX3_storm_32 : decode cX3_storm 32 = .ok (.getfield 95, 3) := dk_180 0 95 (dk_at dksX3_storm_1 9 rfl rfl)
theorem dX3_storm_35 : decode cX3_storm 35 = .ok (.iload_n 1, 1) := dk_27 (dk_at dksX3_storm_1 12 rfl rfl)
theorem dX3_storm_36 : decode cX3_storm 36 = .ok (.iaload, 1) := dk_46 (dk_at dksX3_storm_1 13 rfl rfl)
theorem dX3_storm_37 : decode cX3_storm 37 = .ok (.iastore, 1) := dk_79 (dk_at dksX3_storm_1 14 rfl rfl)
theorem dX3_storm_38 : decode cX3_storm 38 = .ok (.iinc 1 1, 3) := dk_132 1 1 (dk_at dksX3_storm_1 15 rfl rfl)
theorem dX3_storm_41 : decode cX3_storm 41 = .ok (.goto (-23), 3) := dk_167 255 233 (dk_at dksX3_storm_1 18 rfl rfl)
theorem dX3_storm_44 : decode cX3_storm 44 = .ok (.iconst 0, 1) := dk_3 (dk_at dksX3_storm_1 21 rfl rfl)
theorem dX3_storm_45 : decode cX3_storm 45 = .ok (.istore_n 1, 1) := dk_60 (dk_at dksX3_storm_1 22 rfl rfl)
theorem dX3_storm_46 : decode cX3_storm 46 = .ok (.iload_n 1, 1) := dk_27 (dk_at dksX3_storm_1 23 rfl rfl)
theorem dX3_storm_47 : decode cX3_storm 47 = .ok (.aload_n 0, 1) := dk_42 (dk_at dksX3_storm_2 0 rfl rfl)
theorem dX3_storm_48 : decode cX3_storm 48 = .ok (.getfield 191, 3) := dk_180 0 191 (dk_at dksX3_storm_2 1 rfl rfl)
theorem dX3_storm_51 : decode cX3_storm 51 = .ok (.if_icmp .ge 57, 3) := dk_162 0 57 (dk_at dksX3_storm_2 4 rfl rfl)
theorem dX3_storm_54 : decode cX3_storm 54 = .ok (.aload_n 0, 1) := dk_42 (dk_at dksX3_storm_2 7 rfl rfl)
theorem dX3_storm_55 : decode cX3_storm 55 = .ok (.getfield 53, 3) := dk_180 0 53 (dk_at dksX3_storm_2 8 rfl rfl)
theorem dX3_storm_58 : decode cX3_storm 58 = .ok (.iload_n 1, 1) := dk_27 (dk_at dksX3_storm_2 11 rfl rfl)
theorem dX3_storm_59 : decode cX3_storm 59 = .ok (.aload_n 0, 1) := dk_42 (dk_at dksX3_storm_2 12 rfl rfl)
theorem dX3_storm_60 : decode cX3_storm 60 = .ok (.getfield 98, 3) := dk_180 0 98 (dk_at dksX3_storm_2 13 rfl rfl)
theorem dX3_storm_63 : decode cX3_storm 63 = .ok (.iload_n 1, 1) := dk_27 (dk_at dksX3_storm_2 16 rfl rfl)
theorem dX3_storm_64 : decode cX3_storm 64 = .ok (.iaload, 1) := dk_46 (dk_at dksX3_storm_2 17 rfl rfl)
theorem dX3_storm_65 : decode cX3_storm 65 = .ok (.iastore, 1) := dk_79 (dk_at dksX3_storm_2 18 rfl rfl)
theorem dX3_storm_66 : decode cX3_storm 66 = .ok (.aload_n 0, 1) := dk_42 (dk_at dksX3_storm_2 19 rfl rfl)
theorem dX3_storm_67 : decode cX3_storm 67 = .ok (.getfield 126, 3) := dk_180 0 126 (dk_at dksX3_storm_2 20 rfl rfl)
theorem dX3_storm_70 : decode cX3_storm 70 = .ok (.iload_n 1, 1) := dk_27 (dk_at dksX3_storm_2 23 rfl rfl)
theorem dX3_storm_71 : decode cX3_storm 71 = .ok (.aload_n 0, 1) := dk_42 (dk_at dksX3_storm_3 0 rfl rfl)
theorem dX3_storm_72 : decode cX3_storm 72 = .ok (.getfield 108, 3) := dk_180 0 108 (dk_at dksX3_storm_3 1 rfl rfl)
theorem dX3_storm_75 : decode cX3_storm 75 = .ok (.iload_n 1, 1) := dk_27 (dk_at dksX3_storm_3 4 rfl rfl)
theorem dX3_storm_76 : decode cX3_storm 76 = .ok (.laload, 1) := dk_47 (dk_at dksX3_storm_3 5 rfl rfl)
theorem dX3_storm_77 : decode cX3_storm 77 = .ok (.lastore, 1) := dk_80 (dk_at dksX3_storm_3 6 rfl rfl)
theorem dX3_storm_78 : decode cX3_storm 78 = .ok (.aload_n 0, 1) := dk_42 (dk_at dksX3_storm_3 7 rfl rfl)
theorem dX3_storm_79 : decode cX3_storm 79 = .ok (.getfield 129, 3) := dk_180 0 129 (dk_at dksX3_storm_3 8 rfl rfl)
theorem dX3_storm_82 : decode cX3_storm 82 = .ok (.iload_n 1, 1) := dk_27 (dk_at dksX3_storm_3 11 rfl rfl)
theorem dX3_storm_83 : decode cX3_storm 83 = .ok (.aload_n 0, 1) := dk_42 (dk_at dksX3_storm_3 12 rfl rfl)
theorem dX3_storm_84 : decode cX3_storm 84 = .ok (.getfield 111, 3) := dk_180 0 111 (dk_at dksX3_storm_3 13 rfl rfl)
theorem dX3_storm_87 : decode cX3_storm 87 = .ok (.iload_n 1, 1) := dk_27 (dk_at dksX3_storm_3 16 rfl rfl)
theorem dX3_storm_88 : decode cX3_storm 88 = .ok (.laload, 1) := dk_47 (dk_at dksX3_storm_3 17 rfl rfl)
theorem dX3_storm_89 : decode cX3_storm 89 = .ok (.lastore, 1) := dk_80 (dk_at dksX3_storm_3 18 rfl rfl)
theorem dX3_storm_90 : decode cX3_storm 90 = .ok (.aload_n 0, 1) := dk_42 (dk_at dksX3_storm_3 19 rfl rfl)
theorem dX3_storm_91 : decode cX3_storm 91 = .ok (.getfield 138, 3) := dk_180 0 138 (dk_at dksX3_storm_3 20 rfl rfl)
theorem dX3_storm_94 : decode cX3_storm 94 = .ok (.iload_n 1, 1) := dk_27 (dk_at dksX3_storm_3 23 rfl rfl)
theorem dX3_storm_95 : decode cX3_storm 95 = .ok (.aload_n 0, 1) := dk_42 (dk_at dksX3_storm_4 0 rfl rfl)
theorem dX3_storm_96 : decode cX3_storm 96 = .ok (.getfield 114, 3) := dk_180 0 114 (dk_at dksX3_storm_4 1 rfl rfl)
theorem dX3_storm_99 : decode cX3_storm 99 = .ok (.iload_n 1, 1) := dk_27 (dk_at dksX3_storm_4 4 rfl rfl)
theorem dX3_storm_100 : decode cX3_storm 100 = .ok (.iaload, 1) := dk_46 (dk_at dksX3_storm_4 5 rfl rfl)
theorem dX3_storm_101 : decode cX3_storm 101 = .ok (.iastore, 1) := dk_79 (dk_at dksX3_storm_4 6 rfl rfl)
theorem dX3_storm_102 : decode cX3_storm 102 = .ok (.iinc 1 1, 3) := dk_132 1 1 (dk_at dksX3_storm_4 7 rfl rfl)
theorem dX3_storm_105 : decode cX3_storm 105 = .ok (.goto (-59), 3) := dk_167 255 197 (dk_at dksX3_storm_4 10 rfl rfl)
theorem dX3_storm_108 : decode cX3_storm 108 = .ok (.aload_n 0, 1) := dk_42 (dk_at dksX3_storm_4 13 rfl rfl)
theorem dX3_storm_109 : decode cX3_storm 109 = .ok (.dup, 1) := dk_89 (dk_at dksX3_storm_4 14 rfl rfl)
theorem dX3_storm_110 : decode cX3_storm 110 = .ok (.getfield 301, 3) := dk_180 1 45 (dk_at dksX3_storm_4 15 rfl rfl)
theorem dX3_storm_113 : decode cX3_storm 113 = .ok (.aload_n 0, 1) := dk_42 (dk_at dksX3_storm_4 18 rfl rfl)
theorem dX3_storm_114 : decode cX3_storm 114 = .ok (.getfield 260, 3) := dk_180 1 4 (dk_at dksX3_storm_4 19 rfl rfl)
theorem dX3_storm_117 : decode cX3_storm 117 = .ok (.ladd, 1) := dk_97 (dk_at dksX3_storm_4 22 rfl rfl)
theorem dX3_storm_118 : decode cX3_storm 118 = .ok (.putfield 301, 3) := dk_181 1 45 (dk_at dksX3_storm_5 0 rfl rfl)
theorem dX3_storm_121 : decode cX3_storm 121 = .ok (.aload_n 0, 1) := dk_42 (dk_at dksX3_storm_5 3 rfl rfl)
theorem dX3_storm_122 : decode cX3_storm 122 = .ok (.dup, 1) := dk_89 (dk_at dksX3_storm_5 4 rfl rfl)
theorem dX3_storm_123 : decode cX3_storm 123 = .ok (.getfield 233, 3) := dk_180 0 233 (dk_at dksX3_storm_5 5 rfl rfl)
theorem dX3_storm_126 : decode cX3_storm 126 = .ok (.aload_n 0, 1) := dk_42 (dk_at dksX3_storm_5 8 rfl rfl)
theorem dX3_storm_127 : decode cX3_storm 127 = .ok (.getfield 263, 3) := dk_180 1 7 (dk_at dksX3_storm_5 9 rfl rfl)
theorem dX3_storm_130 : decode cX3_storm 130 = .ok (.ladd, 1) := dk_97 (dk_at dksX3_storm_5 12 rfl rfl)
theorem dX3_storm_131 : decode cX3_storm 131 = .ok (.putfield 233, 3) := dk_181 0 233 (dk_at dksX3_storm_5 13 rfl rfl)
theorem dX3_storm_134 : decode cX3_storm 134 = .ok (.aload_n 0, 1) := dk_42 (dk_at dksX3_storm_5 16 rfl rfl)
theorem dX3_storm_135 : decode cX3_storm 135 = .ok (.dup, 1) := dk_89 (dk_at dksX3_storm_5 17 rfl rfl)
theorem dX3_storm_136 : decode cX3_storm 136 = .ok (.getfield 304, 3) := dk_180 1 48 (dk_at dksX3_storm_5 18 rfl rfl)
theorem dX3_storm_139 : decode cX3_storm 139 = .ok (.aload_n 0, 1) := dk_42 (dk_at dksX3_storm_5 21 rfl rfl)
theorem dX3_storm_140 : decode cX3_storm 140 = .ok (.getfield 266, 3) := dk_180 1 10 (dk_at dksX3_storm_6 0 rfl rfl)
theorem dX3_storm_143 : decode cX3_storm 143 = .ok (.ladd, 1) := dk_97 (dk_at dksX3_storm_6 3 rfl rfl)
theorem dX3_storm_144 : decode cX3_storm 144 = .ok (.putfield 304, 3) := dk_181 1 48 (dk_at dksX3_storm_6 4 rfl rfl)
theorem dX3_storm_147 : decode cX3_storm 147 = .ok (.aload_n 0, 1) := dk_42 (dk_at dksX3_storm_6 7 rfl rfl)
theorem dX3_storm_148 : decode cX3_storm 148 = .ok (.dup, 1) := dk_89 (dk_at dksX3_storm_6 8 rfl rfl)
theorem dX3_storm_149 : decode cX3_storm 149 = .ok (.getfield 307, 3) := dk_180 1 51 (dk_at dksX3_storm_6 9 rfl rfl)
theorem dX3_storm_152 : decode cX3_storm 152 = .ok (.aload_n 0, 1) := dk_42 (dk_at dksX3_storm_6 12 rfl rfl)
theorem dX3_storm_153 : decode cX3_storm 153 = .ok (.getfield 269, 3) := dk_180 1 13 (dk_at dksX3_storm_6 13 rfl rfl)
theorem dX3_storm_156 : decode cX3_storm 156 = .ok (.ladd, 1) := dk_97 (dk_at dksX3_storm_6 16 rfl rfl)
theorem dX3_storm_157 : decode cX3_storm 157 = .ok (.putfield 307, 3) := dk_181 1 51 (dk_at dksX3_storm_6 17 rfl rfl)
theorem dX3_storm_160 : decode cX3_storm 160 = .ok (.aload_n 0, 1) := dk_42 (dk_at dksX3_storm_6 20 rfl rfl)
theorem dX3_storm_161 : decode cX3_storm 161 = .ok (.getfield 132, 3) := dk_180 0 132 (dk_at dksX3_storm_6 21 rfl rfl)
theorem dX3_storm_164 : decode cX3_storm 164 = .ok (.aload_n 0, 1) := dk_42 (dk_at dksX3_storm_7 0 rfl rfl)
theorem dX3_storm_165 : decode cX3_storm 165 = .ok (.getfield 295, 3) := dk_180 1 39 (dk_at dksX3_storm_7 1 rfl rfl)
theorem dX3_storm_168 : decode cX3_storm 168 = .ok (.aload_n 0, 1) := dk_42 (dk_at dksX3_storm_7 4 rfl rfl)
theorem dX3_storm_169 : decode cX3_storm 169 = .ok (.getfield 212, 3) := dk_180 0 212 (dk_at dksX3_storm_7 5 rfl rfl)
theorem dX3_storm_172 : decode cX3_storm 172 = .ok (.iastore, 1) := dk_79 (dk_at dksX3_storm_7 8 rfl rfl)
theorem dX3_storm_173 : decode cX3_storm 173 = .ok (.aload_n 0, 1) := dk_42 (dk_at dksX3_storm_7 9 rfl rfl)
theorem dX3_storm_174 : decode cX3_storm 174 = .ok (.getfield 117, 3) := dk_180 0 117 (dk_at dksX3_storm_7 10 rfl rfl)
theorem dX3_storm_177 : decode cX3_storm 177 = .ok (.aload_n 0, 1) := dk_42 (dk_at dksX3_storm_7 13 rfl rfl)
theorem dX3_storm_178 : decode cX3_storm 178 = .ok (.getfield 295, 3) := dk_180 1 39 (dk_at dksX3_storm_7 14 rfl rfl)
theorem dX3_storm_181 : decode cX3_storm 181 = .ok (.aload_n 0, 1) := dk_42 (dk_at dksX3_storm_7 17 rfl rfl)
theorem dX3_storm_182 : decode cX3_storm 182 = .ok (.getfield 260, 3) := dk_180 1 4 (dk_at dksX3_storm_7 18 rfl rfl)
theorem dX3_storm_185 : decode cX3_storm 185 = .ok (.lastore, 1) := dk_80 (dk_at dksX3_storm_7 21 rfl rfl)
theorem dX3_storm_186 : decode cX3_storm 186 = .ok (.aload_n 0, 1) := dk_42 (dk_at dksX3_storm_7 22 rfl rfl)
theorem dX3_storm_187 : decode cX3_storm 187 = .ok (.getfield 120, 3) := dk_180 0 120 (dk_at dksX3_storm_8 0 rfl rfl)
theorem dX3_storm_190 : decode cX3_storm 190 = .ok (.aload_n 0, 1) := dk_42 (dk_at dksX3_storm_8 3 rfl rfl)
theorem dX3_storm_191 : decode cX3_storm 191 = .ok (.getfield 295, 3) := dk_180 1 39 (dk_at dksX3_storm_8 4 rfl rfl)
theorem dX3_storm_194 : decode cX3_storm 194 = .ok (.aload_n 0, 1) := dk_42 (dk_at dksX3_storm_8 7 rfl rfl)
theorem dX3_storm_195 : decode cX3_storm 195 = .ok (.getfield 266, 3) := dk_180 1 10 (dk_at dksX3_storm_8 8 rfl rfl)
theorem dX3_storm_198 : decode cX3_storm 198 = .ok (.lastore, 1) := dk_80 (dk_at dksX3_storm_8 11 rfl rfl)
theorem dX3_storm_199 : decode cX3_storm 199 = .ok (.aload_n 0, 1) := dk_42 (dk_at dksX3_storm_8 12 rfl rfl)
theorem dX3_storm_200 : decode cX3_storm 200 = .ok (.getfield 135, 3) := dk_180 0 135 (dk_at dksX3_storm_8 13 rfl rfl)
theorem dX3_storm_203 : decode cX3_storm 203 = .ok (.aload_n 0, 1) := dk_42 (dk_at dksX3_storm_8 16 rfl rfl)
theorem dX3_storm_204 : decode cX3_storm 204 = .ok (.getfield 295, 3) := dk_180 1 39 (dk_at dksX3_storm_8 17 rfl rfl)
theorem dX3_storm_207 : decode cX3_storm 207 = .ok (.aload_n 0, 1) := dk_42 (dk_at dksX3_storm_8 20 rfl rfl)
theorem dX3_storm_208 : decode cX3_storm 208 = .ok (.getfield 275, 3) := dk_180 1 19 (dk_at dksX3_storm_8 21 rfl rfl)
theorem dX3_storm_211 : decode cX3_storm 211 = .ok (.iastore, 1) := dk_79 (dk_at dksX3_storm_9 0 rfl rfl)
theorem dX3_storm_212 : decode cX3_storm 212 = .ok (.aload_n 0, 1) := dk_42 (dk_at dksX3_storm_9 1 rfl rfl)
theorem dX3_storm_213 : decode cX3_storm 213 = .ok (.getfield 123, 3) := dk_180 0 123 (dk_at dksX3_storm_9 2 rfl rfl)
theorem dX3_storm_216 : decode cX3_storm 216 = .ok (.aload_n 0, 1) := dk_42 (dk_at dksX3_storm_9 5 rfl rfl)
theorem dX3_storm_217 : decode cX3_storm 217 = .ok (.getfield 295, 3) := dk_180 1 39 (dk_at dksX3_storm_9 6 rfl rfl)
theorem dX3_storm_220 : decode cX3_storm 220 = .ok (.aload_n 0, 1) := dk_42 (dk_at dksX3_storm_9 9 rfl rfl)
theorem dX3_storm_221 : decode cX3_storm 221 = .ok (.getfield 272, 3) := dk_180 1 16 (dk_at dksX3_storm_9 10 rfl rfl)
theorem dX3_storm_224 : decode cX3_storm 224 = .ok (.lastore, 1) := dk_80 (dk_at dksX3_storm_9 13 rfl rfl)
theorem dX3_storm_225 : decode cX3_storm 225 = .ok (.aload_n 0, 1) := dk_42 (dk_at dksX3_storm_9 14 rfl rfl)
theorem dX3_storm_226 : decode cX3_storm 226 = .ok (.dup, 1) := dk_89 (dk_at dksX3_storm_9 15 rfl rfl)
theorem dX3_storm_227 : decode cX3_storm 227 = .ok (.getfield 295, 3) := dk_180 1 39 (dk_at dksX3_storm_9 16 rfl rfl)
theorem dX3_storm_230 : decode cX3_storm 230 = .ok (.iconst 1, 1) := dk_4 (dk_at dksX3_storm_9 19 rfl rfl)
theorem dX3_storm_231 : decode cX3_storm 231 = .ok (.iadd, 1) := dk_96 (dk_at dksX3_storm_9 20 rfl rfl)
theorem dX3_storm_232 : decode cX3_storm 232 = .ok (.putfield 295, 3) := dk_181 1 39 (dk_at dksX3_storm_9 21 rfl rfl)
theorem dX3_storm_235 : decode cX3_storm 235 = .ok (.aload_n 0, 1) := dk_42 (dk_at dksX3_storm_10 0 rfl rfl)
theorem dX3_storm_236 : decode cX3_storm 236 = .ok (.getfield 295, 3) := dk_180 1 39 (dk_at dksX3_storm_10 1 rfl rfl)
theorem dX3_storm_239 : decode cX3_storm 239 = .ok (.iconst 1, 1) := dk_4 (dk_at dksX3_storm_10 4 rfl rfl)
theorem dX3_storm_240 : decode cX3_storm 240 = .ok (.isub, 1) := dk_100 (dk_at dksX3_storm_10 5 rfl rfl)
theorem dX3_storm_241 : decode cX3_storm 241 = .ok (.ireturn, 1) := dk_172 (dk_at dksX3_storm_10 6 rfl rfl)
def dkwX3_falls_6 : List UInt8 := [42, 180, 0, 86, 28, 46, 27, 182, 1, 22, 132, 2, 1, 167, 255, 234, 177]
abbrev dktX3_falls_6 : List UInt8 := dkwX3_falls_6 ++ []
def dkwX3_falls_5 : List UInt8 := [42, 180, 0, 114, 28, 3, 79, 132, 2, 1, 167, 255, 188, 3, 61, 28, 42, 180, 1, 1, 162, 0, 20, 42]
abbrev dktX3_falls_5 : List UInt8 := dkwX3_falls_5 ++ dktX3_falls_6
def dkwX3_falls_4 : List UInt8 := [181, 1, 7, 42, 180, 0, 98, 28, 3, 79, 42, 180, 0, 108, 28, 9, 80, 42, 180, 0, 111, 28, 9, 80]
abbrev dktX3_falls_4 : List UInt8 := dkwX3_falls_4 ++ dktX3_falls_5
def dkwX3_falls_3 : List UInt8 := [180, 1, 7, 42, 180, 0, 25, 28, 51, 153, 0, 13, 42, 180, 0, 53, 28, 46, 133, 167, 0, 4, 9, 97]
abbrev dktX3_falls_3 : List UInt8 := dkwX3_falls_3 ++ dktX3_falls_4
def dkwX3_falls_2 : List UInt8 := [180, 0, 77, 28, 46, 79, 132, 2, 1, 167, 255, 233, 3, 61, 28, 42, 180, 0, 191, 162, 0, 66, 42, 89]
abbrev dktX3_falls_2 : List UInt8 := dkwX3_falls_2 ++ dktX3_falls_3
def dkwX3_falls_1 : List UInt8 := [181, 1, 16, 42, 3, 181, 1, 19, 3, 61, 28, 42, 180, 0, 202, 162, 0, 21, 42, 180, 0, 95, 28, 42]
abbrev dktX3_falls_1 : List UInt8 := dkwX3_falls_1 ++ dktX3_falls_2
def dkwX3_falls_0 : List UInt8 := [42, 9, 181, 1, 4, 42, 9, 181, 1, 7, 42, 9, 181, 1, 10, 42, 9, 181, 1, 13, 42, 9]
abbrev dktX3_falls_0 : List UInt8 := dkwX3_falls_0 ++ dktX3_falls_1
theorem dksX3_falls_0 : cX3_falls.data.toList.drop 0 = dktX3_falls_0 := by decide +kernel
theorem dksX3_falls_1 : cX3_falls.data.toList.drop 22 = dktX3_falls_1 := dk_seg dksX3_falls_0 22 rfl rfl
theorem dksX3_falls_2 : cX3_falls.data.toList.drop 46 = dktX3_falls_2 := dk_seg dksX3_falls_1 24 rfl rfl
theorem dksX3_falls_3 : cX3_falls.data.toList.drop 70 = dktX3_falls_3 := dk_seg dksX3_falls_2 24 rfl rfl
theorem dksX3_falls_4 : cX3_falls.data.toList.drop 94 = dktX3_falls_4 := dk_seg dksX3_falls_3 24 rfl rfl
theorem dksX3_falls_5 : cX3_falls.data.toList.drop 118 = dktX3_falls_5 := dk_seg dksX3_falls_4 24 rfl rfl
theorem dksX3_falls_6 : cX3_falls.data.toList.drop 142 = dktX3_falls_6 := dk_seg dksX3_falls_5 24 rfl rfl
theorem dX3_falls_0 : decode cX3_falls 0 = .ok (.aload_n 0, 1) := dk_42 (dk_at dksX3_falls_0 0 rfl rfl)
theorem dX3_falls_1 : decode cX3_falls 1 = .ok (.lconst 0, 1) := dk_9 (dk_at dksX3_falls_0 1 rfl rfl)
theorem dX3_falls_2 : decode cX3_falls 2 = .ok (.putfield 260, 3) := dk_181 1 4 (dk_at dksX3_falls_0 2 rfl rfl)
theorem dX3_falls_5 : decode cX3_falls 5 = .ok (.aload_n 0, 1) := dk_42 (dk_at dksX3_falls_0 5 rfl rfl)
theorem dX3_falls_6 : decode cX3_falls 6 = .ok (.lconst 0, 1) := dk_9 (dk_at dksX3_falls_0 6 rfl rfl)
theorem dX3_falls_7 : decode cX3_falls 7 = .ok (.putfield 263, 3) := dk_181 1 7 (dk_at dksX3_falls_0 7 rfl rfl)
theorem dX3_falls_10 : decode cX3_falls 10 = .ok (.aload_n 0, 1) := dk_42 (dk_at dksX3_falls_0 10 rfl rfl)
theorem dX3_falls_11 : decode cX3_falls 11 = .ok (.lconst 0, 1) := dk_9 (dk_at dksX3_falls_0 11 rfl rfl)
theorem dX3_falls_12 : decode cX3_falls 12 = .ok (.putfield 266, 3) := dk_181 1 10 (dk_at dksX3_falls_0 12 rfl rfl)
theorem dX3_falls_15 : decode cX3_falls 15 = .ok (.aload_n 0, 1) := dk_42 (dk_at dksX3_falls_0 15 rfl rfl)
theorem dX3_falls_16 : decode cX3_falls 16 = .ok (.lconst 0, 1) := dk_9 (dk_at dksX3_falls_0 16 rfl rfl)
theorem dX3_falls_17 : decode cX3_falls 17 = .ok (.putfield 269, 3) := dk_181 1 13 (dk_at dksX3_falls_0 17 rfl rfl)
theorem dX3_falls_20 : decode cX3_falls 20 = .ok (.aload_n 0, 1) := dk_42 (dk_at dksX3_falls_0 20 rfl rfl)
theorem dX3_falls_21 : decode cX3_falls 21 = .ok (.lconst 0, 1) := dk_9 (dk_at dksX3_falls_0 21 rfl rfl)
theorem dX3_falls_22 : decode cX3_falls 22 = .ok (.putfield 272, 3) := dk_181 1 16 (dk_at dksX3_falls_1 0 rfl rfl)
theorem dX3_falls_25 : decode cX3_falls 25 = .ok (.aload_n 0, 1) := dk_42 (dk_at dksX3_falls_1 3 rfl rfl)
theorem dX3_falls_26 : decode cX3_falls 26 = .ok (.iconst 0, 1) := dk_3 (dk_at dksX3_falls_1 4 rfl rfl)
theorem dX3_falls_27 : decode cX3_falls 27 = .ok (.putfield 275, 3) := dk_181 1 19 (dk_at dksX3_falls_1 5 rfl rfl)
theorem dX3_falls_30 : decode cX3_falls 30 = .ok (.iconst 0, 1) := dk_3 (dk_at dksX3_falls_1 8 rfl rfl)
theorem dX3_falls_31 : decode cX3_falls 31 = .ok (.istore_n 2, 1) := dk_61 (dk_at dksX3_falls_1 9 rfl rfl)
theorem dX3_falls_32 : decode cX3_falls 32 = .ok (.iload_n 2, 1) := dk_28 (dk_at dksX3_falls_1 10 rfl rfl)
theorem dX3_falls_33 : decode cX3_falls 33 = .ok (.aload_n 0, 1) := dk_42 (dk_at dksX3_falls_1 11 rfl rfl)
theorem dX3_falls_34 : decode cX3_falls 34 = .ok (.getfield 202, 3) := dk_180 0 202 (dk_at dksX3_falls_1 12 rfl rfl)
theorem dX3_falls_37 : decode cX3_falls 37 = .ok (.if_icmp .ge 21, 3) := dk_162 0 21 (dk_at dksX3_falls_1 15 rfl rfl)
theorem dX3_falls_40 : decode cX3_falls 40 = .ok (.aload_n 0, 1) := dk_42 (dk_at dksX3_falls_1 18 rfl rfl)
theorem dX3_falls_41 : decode cX3_falls 41 = .ok (.getfield 95, 3) := dk_180 0 95 (dk_at dksX3_falls_1 19 rfl rfl)
theorem dX3_falls_44 : decode cX3_falls 44 = .ok (.iload_n 2, 1) := dk_28 (dk_at dksX3_falls_1 22 rfl rfl)
theorem dX3_falls_45 : decode cX3_falls 45 = .ok (.aload_n 0, 1) := dk_42 (dk_at dksX3_falls_1 23 rfl rfl)
theorem dX3_falls_46 : decode cX3_falls 46 = .ok (.getfield 77, 3) := dk_180 0 77 (dk_at dksX3_falls_2 0 rfl rfl)
theorem dX3_falls_49 : decode cX3_falls 49 = .ok (.iload_n 2, 1) := dk_28 (dk_at dksX3_falls_2 3 rfl rfl)
theorem dX3_falls_50 : decode cX3_falls 50 = .ok (.iaload, 1) := dk_46 (dk_at dksX3_falls_2 4 rfl rfl)
theorem dX3_falls_51 : decode cX3_falls 51 = .ok (.iastore, 1) := dk_79 (dk_at dksX3_falls_2 5 rfl rfl)
theorem dX3_falls_52 : decode cX3_falls 52 = .ok (.iinc 2 1, 3) := dk_132 2 1 (dk_at dksX3_falls_2 6 rfl rfl)
theorem dX3_falls_55 : decode cX3_falls 55 = .ok (.goto (-23), 3) := dk_167 255 233 (dk_at dksX3_falls_2 9 rfl rfl)
theorem dX3_falls_58 : decode cX3_falls 58 = .ok (.iconst 0, 1) := dk_3 (dk_at dksX3_falls_2 12 rfl rfl)
theorem dX3_falls_59 : decode cX3_falls 59 = .ok (.istore_n 2, 1) := dk_61 (dk_at dksX3_falls_2 13 rfl rfl)
theorem dX3_falls_60 : decode cX3_falls 60 = .ok (.iload_n 2, 1) := dk_28 (dk_at dksX3_falls_2 14 rfl rfl)
theorem dX3_falls_61 : decode cX3_falls 61 = .ok (.aload_n 0, 1) := dk_42 (dk_at dksX3_falls_2 15 rfl rfl)
theorem dX3_falls_62 : decode cX3_falls 62 = .ok (.getfield 191, 3) := dk_180 0 191 (dk_at dksX3_falls_2 16 rfl rfl)
theorem dX3_falls_65 : decode cX3_falls 65 = .ok (.if_icmp .ge 66, 3) := dk_162 0 66 (dk_at dksX3_falls_2 19 rfl rfl)
theorem dX3_falls_68 : decode cX3_falls 68 = .ok (.aload_n 0, 1) := dk_42 (dk_at dksX3_falls_2 22 rfl rfl)
theorem dX3_falls_69 : decode cX3_falls 69 = .ok (.dup, 1) := dk_89 (dk_at dksX3_falls_2 23 rfl rfl)
theorem dX3_falls_70 : decode cX3_falls 70 = .ok (.getfield 263, 3) := dk_180 1 7 (dk_at dksX3_falls_3 0 rfl rfl)
theorem dX3_falls_73 : decode cX3_falls 73 = .ok (.aload_n 0, 1) := dk_42 (dk_at dksX3_falls_3 3 rfl rfl)
theorem dX3_falls_74 : decode cX3_falls 74 = .ok (.getfield 25, 3) := dk_180 0 25 (dk_at dksX3_falls_3 4 rfl rfl)
theorem dX3_falls_77 : decode cX3_falls 77 = .ok (.iload_n 2, 1) := dk_28 (dk_at dksX3_falls_3 7 rfl rfl)
theorem dX3_falls_78 : decode cX3_falls 78 = .ok (.baload, 1) := dk_51 (dk_at dksX3_falls_3 8 rfl rfl)
theorem dX3_falls_79 : decode cX3_falls 79 = .ok (.ifCond .eq 13, 3) := dk_153 0 13 (dk_at dksX3_falls_3 9 rfl rfl)
theorem dX3_falls_82 : decode cX3_falls 82 = .ok (.aload_n 0, 1) := dk_42 (dk_at dksX3_falls_3 12 rfl rfl)
theorem dX3_falls_83 : decode cX3_falls 83 = .ok (.getfield 53, 3) := dk_180 0 53 (dk_at dksX3_falls_3 13 rfl rfl)
theorem dX3_falls_86 : decode cX3_falls 86 = .ok (.iload_n 2, 1) := dk_28 (dk_at dksX3_falls_3 16 rfl rfl)
theorem dX3_falls_87 : decode cX3_falls 87 = .ok (.iaload, 1) := dk_46 (dk_at dksX3_falls_3 17 rfl rfl)
theorem dX3_falls_88 : decode cX3_falls 88 = .ok (.i2l, 1) := dk_133 (dk_at dksX3_falls_3 18 rfl rfl)
theorem dX3_falls_89 : decode cX3_falls 89 = .ok (.goto 4, 3) := dk_167 0 4 (dk_at dksX3_falls_3 19 rfl rfl)
theorem dX3_falls_92 : decode cX3_falls 92 = .ok (.lconst 0, 1) := dk_9 (dk_at dksX3_falls_3 22 rfl rfl)
theorem dX3_falls_93 : decode cX3_falls 93 = .ok (.ladd, 1) := dk_97 (dk_at dksX3_falls_3 23 rfl rfl)
theorem dX3_falls_94 : decode cX3_falls 94 = .ok (.putfield 263, 3) := dk_181 1 7 (dk_at dksX3_falls_4 0 rfl rfl)
theorem dX3_falls_97 : decode cX3_falls 97 = .ok (.aload_n 0, 1) := dk_42 (dk_at dksX3_falls_4 3 rfl rfl)
theorem dX3_falls_98 : decode cX3_falls 98 = .ok (.getfield 98, 3) := dk_180 0 98 (dk_at dksX3_falls_4 4 rfl rfl)
theorem dX3_falls_101 : decode cX3_falls 101 = .ok (.iload_n 2, 1) := dk_28 (dk_at dksX3_falls_4 7 rfl rfl)
theorem dX3_falls_102 : decode cX3_falls 102 = .ok (.iconst 0, 1) := dk_3 (dk_at dksX3_falls_4 8 rfl rfl)
theorem dX3_falls_103 : decode cX3_falls 103 = .ok (.iastore, 1) := dk_79 (dk_at dksX3_falls_4 9 rfl rfl)
theorem dX3_falls_104 : decode cX3_falls 104 = .ok (.aload_n 0, 1) := dk_42 (dk_at dksX3_falls_4 10 rfl rfl)
theorem dX3_falls_105 : decode cX3_falls 105 = .ok (.getfield 108, 3) := dk_180 0 108 (dk_at dksX3_falls_4 11 rfl rfl)
theorem dX3_falls_108 : decode cX3_falls 108 = .ok (.iload_n 2, 1) := dk_28 (dk_at dksX3_falls_4 14 rfl rfl)
theorem dX3_falls_109 : decode cX3_falls 109 = .ok (.lconst 0, 1) := dk_9 (dk_at dksX3_falls_4 15 rfl rfl)
theorem dX3_falls_110 : decode cX3_falls 110 = .ok (.lastore, 1) := dk_80 (dk_at dksX3_falls_4 16 rfl rfl)
theorem dX3_falls_111 : decode cX3_falls 111 = .ok (.aload_n 0, 1) := dk_42 (dk_at dksX3_falls_4 17 rfl rfl)
theorem dX3_falls_112 : decode cX3_falls 112 = .ok (.getfield 111, 3) := dk_180 0 111 (dk_at dksX3_falls_4 18 rfl rfl)
theorem dX3_falls_115 : decode cX3_falls 115 = .ok (.iload_n 2, 1) := dk_28 (dk_at dksX3_falls_4 21 rfl rfl)
theorem dX3_falls_116 : decode cX3_falls 116 = .ok (.lconst 0, 1) := dk_9 (dk_at dksX3_falls_4 22 rfl rfl)
theorem dX3_falls_117 : decode cX3_falls 117 = .ok (.lastore, 1) := dk_80 (dk_at dksX3_falls_4 23 rfl rfl)
theorem dX3_falls_118 : decode cX3_falls 118 = .ok (.aload_n 0, 1) := dk_42 (dk_at dksX3_falls_5 0 rfl rfl)
theorem dX3_falls_119 : decode cX3_falls 119 = .ok (.getfield 114, 3) := dk_180 0 114 (dk_at dksX3_falls_5 1 rfl rfl)
theorem dX3_falls_122 : decode cX3_falls 122 = .ok (.iload_n 2, 1) := dk_28 (dk_at dksX3_falls_5 4 rfl rfl)
theorem dX3_falls_123 : decode cX3_falls 123 = .ok (.iconst 0, 1) := dk_3 (dk_at dksX3_falls_5 5 rfl rfl)
theorem dX3_falls_124 : decode cX3_falls 124 = .ok (.iastore, 1) := dk_79 (dk_at dksX3_falls_5 6 rfl rfl)
theorem dX3_falls_125 : decode cX3_falls 125 = .ok (.iinc 2 1, 3) := dk_132 2 1 (dk_at dksX3_falls_5 7 rfl rfl)
theorem dX3_falls_128 : decode cX3_falls 128 = .ok (.goto (-68), 3) := dk_167 255 188 (dk_at dksX3_falls_5 10 rfl rfl)
theorem dX3_falls_131 : decode cX3_falls 131 = .ok (.iconst 0, 1) := dk_3 (dk_at dksX3_falls_5 13 rfl rfl)
theorem dX3_falls_132 : decode cX3_falls 132 = .ok (.istore_n 2, 1) := dk_61 (dk_at dksX3_falls_5 14 rfl rfl)
theorem dX3_falls_133 : decode cX3_falls 133 = .ok (.iload_n 2, 1) := dk_28 (dk_at dksX3_falls_5 15 rfl rfl)
theorem dX3_falls_134 : decode cX3_falls 134 = .ok (.aload_n 0, 1) := dk_42 (dk_at dksX3_falls_5 16 rfl rfl)
theorem dX3_falls_135 : decode cX3_falls 135 = .ok (.getfield 257, 3) := dk_180 1 1 (dk_at dksX3_falls_5 17 rfl rfl)
theorem dX3_falls_138 : decode cX3_falls 138 = .ok (.if_icmp .ge 20, 3) := dk_162 0 20 (dk_at dksX3_falls_5 20 rfl rfl)
theorem dX3_falls_141 : decode cX3_falls 141 = .ok (.aload_n 0, 1) := dk_42 (dk_at dksX3_falls_5 23 rfl rfl)
theorem dX3_falls_142 : decode cX3_falls 142 = .ok (.aload_n 0, 1) := dk_42 (dk_at dksX3_falls_6 0 rfl rfl)
theorem dX3_falls_143 : decode cX3_falls 143 = .ok (.getfield 86, 3) := dk_180 0 86 (dk_at dksX3_falls_6 1 rfl rfl)
theorem dX3_falls_146 : decode cX3_falls 146 = .ok (.iload_n 2, 1) := dk_28 (dk_at dksX3_falls_6 4 rfl rfl)
theorem dX3_falls_147 : decode cX3_falls 147 = .ok (.iaload, 1) := dk_46 (dk_at dksX3_falls_6 5 rfl rfl)
theorem dX3_falls_148 : decode cX3_falls 148 = .ok (.iload_n 1, 1) := dk_27 (dk_at dksX3_falls_6 6 rfl rfl)
theorem dX3_falls_149 : decode cX3_falls 149 = .ok (.invokevirtual 278, 3) := dk_182 1 22 (dk_at dksX3_falls_6 7 rfl rfl)
theorem dX3_falls_152 : decode cX3_falls 152 = .ok (.iinc 2 1, 3) := dk_132 2 1 (dk_at dksX3_falls_6 10 rfl rfl)
theorem dX3_falls_155 : decode cX3_falls 155 = .ok (.goto (-22), 3) := dk_167 255 234 (dk_at dksX3_falls_6 13 rfl rfl)
theorem dX3_falls_158 : decode cX3_falls 158 = .ok (.return_, 1) := dk_177 (dk_at dksX3_falls_6 16 rfl rfl)
def dkwX3_minute_21 : List UInt8 := [184, 1, 37, 181, 1, 16, 177]
abbrev dktX3_minute_21 : List UInt8 := dkwX3_minute_21 ++ []
def dkwX3_minute_20 : List UInt8 := [97, 80, 132, 5, 1, 167, 254, 82, 42, 89, 180, 1, 13, 33, 97, 181, 1, 13, 42, 42, 180, 1, 16, 33]
abbrev dktX3_minute_20 : List UInt8 := dkwX3_minute_20 ++ dktX3_minute_21
def dkwX3_minute_19 : List UInt8 := [21, 5, 46, 92, 47, 22, 9, 97, 80, 42, 180, 0, 101, 42, 180, 0, 22, 21, 5, 46, 92, 47, 22, 13]
abbrev dktX3_minute_19 : List UInt8 := dkwX3_minute_19 ++ dktX3_minute_20
def dkwX3_minute_18 : List UInt8 := [21, 5, 46, 2, 160, 0, 11, 33, 22, 9, 97, 66, 167, 0, 37, 42, 180, 0, 105, 42, 180, 0, 22]
abbrev dktX3_minute_18 : List UInt8 := dkwX3_minute_18 ++ dktX3_minute_19
def dkwX3_minute_17 : List UInt8 := [180, 0, 114, 21, 5, 92, 46, 4, 96, 79, 42, 89, 180, 1, 19, 4, 96, 181, 1, 19, 42, 180, 0, 22]
abbrev dktX3_minute_17 : List UInt8 := dkwX3_minute_17 ++ dktX3_minute_18
def dkwX3_minute_16 : List UInt8 := [180, 0, 19, 21, 5, 46, 158, 0, 38, 22, 11, 42, 180, 0, 19, 21, 5, 46, 133, 148, 158, 0, 24, 42]
abbrev dktX3_minute_16 : List UInt8 := dkwX3_minute_16 ++ dktX3_minute_17
def dkwX3_minute_15 : List UInt8 := [22, 11, 22, 13, 101, 97, 80, 42, 89, 180, 1, 10, 22, 11, 22, 13, 101, 97, 181, 1, 10, 42]
abbrev dktX3_minute_15 : List UInt8 := dkwX3_minute_15 ++ dktX3_minute_16
def dkwX3_minute_14 : List UInt8 := [21, 5, 42, 180, 0, 111, 21, 5, 47, 22, 9, 184, 1, 37, 80, 42, 180, 0, 108, 21, 5, 92, 47]
abbrev dktX3_minute_14 : List UInt8 := dkwX3_minute_14 ++ dktX3_minute_15
def dkwX3_minute_13 : List UInt8 := [21, 5, 46, 2, 160, 0, 7, 9, 167, 0, 9, 22, 11, 20, 1, 35, 109, 55, 13, 42, 180, 0, 111]
abbrev dktX3_minute_13 : List UInt8 := dkwX3_minute_13 ++ dktX3_minute_14
def dkwX3_minute_12 : List UInt8 := [180, 0, 13, 21, 5, 46, 133, 184, 1, 32, 55, 9, 22, 6, 22, 9, 101, 55, 11, 42, 180, 0, 22]
abbrev dktX3_minute_12 : List UInt8 := dkwX3_minute_12 ++ dktX3_minute_13
def dkwX3_minute_11 : List UInt8 := [22, 6, 21, 11, 133, 101, 55, 6, 22, 6, 42, 180, 0, 105, 21, 5, 47, 97, 55, 6, 22, 6, 42]
abbrev dktX3_minute_11 : List UInt8 := dkwX3_minute_11 ++ dktX3_minute_12
def dkwX3_minute_10 : List UInt8 := [21, 5, 92, 46, 21, 11, 21, 12, 100, 96, 79, 42, 89, 180, 1, 7, 21, 12, 133, 97, 181, 1, 7]
abbrev dktX3_minute_10 : List UInt8 := dkwX3_minute_10 ++ dktX3_minute_11
def dkwX3_minute_9 : List UInt8 := [180, 0, 83, 3, 46, 167, 0, 9, 42, 21, 5, 182, 0, 230, 184, 0, 227, 54, 12, 42, 180, 0, 98]
abbrev dktX3_minute_9 : List UInt8 := dkwX3_minute_9 ++ dktX3_minute_10
def dkwX3_minute_8 : List UInt8 := [184, 1, 32, 136, 54, 11, 42, 180, 0, 98, 21, 5, 46, 21, 11, 96, 21, 8, 153, 0, 12, 42]
abbrev dktX3_minute_8 : List UInt8 := dkwX3_minute_8 ++ dktX3_minute_9
def dkwX3_minute_7 : List UInt8 := [153, 0, 8, 16, 100, 167, 0, 10, 42, 180, 0, 38, 21, 5, 46, 42, 180, 0, 98, 21, 5, 46, 100, 133]
abbrev dktX3_minute_7 : List UInt8 := dkwX3_minute_7 ++ dktX3_minute_8
def dkwX3_minute_6 : List UInt8 := [22, 6, 16, 10, 42, 180, 0, 47, 21, 5, 46, 100, 133, 105, 20, 1, 30, 109, 55, 9, 22, 9, 21, 8]
abbrev dktX3_minute_6 : List UInt8 := dkwX3_minute_6 ++ dktX3_minute_7
def dkwX3_minute_5 : List UInt8 := [180, 0, 25, 21, 5, 51, 154, 0, 8, 21, 8, 153, 0, 137, 21, 8, 153, 0, 8, 22, 6, 167, 0, 21]
abbrev dktX3_minute_5 : List UInt8 := dkwX3_minute_5 ++ dktX3_minute_6
def dkwX3_minute_4 : List UInt8 := [105, 97, 181, 1, 4, 28, 21, 5, 122, 4, 126, 4, 160, 0, 7, 4, 167, 0, 4, 3, 54, 8, 42]
abbrev dktX3_minute_4 : List UInt8 := dkwX3_minute_4 ++ dktX3_minute_5
def dkwX3_minute_3 : List UInt8 := [21, 5, 27, 182, 1, 26, 97, 55, 6, 42, 89, 180, 1, 4, 27, 133, 42, 180, 0, 7, 21, 5, 46, 133]
abbrev dktX3_minute_3 : List UInt8 := dkwX3_minute_3 ++ dktX3_minute_4
def dkwX3_minute_2 : List UInt8 := [162, 1, 171, 42, 180, 0, 101, 21, 5, 47, 27, 133, 42, 180, 0, 7, 21, 5, 46, 133, 105, 97, 42]
abbrev dktX3_minute_2 : List UInt8 := dkwX3_minute_2 ++ dktX3_minute_3
def dkwX3_minute_1 : List UInt8 := [180, 0, 105, 21, 5, 9, 80, 132, 5, 1, 167, 255, 228, 3, 54, 5, 21, 5, 42, 180, 0, 191]
abbrev dktX3_minute_1 : List UInt8 := dkwX3_minute_1 ++ dktX3_minute_2
def dkwX3_minute_0 : List UInt8 := [9, 66, 3, 54, 5, 21, 5, 42, 180, 0, 191, 162, 0, 25, 42, 180, 0, 101, 21, 5, 9, 80, 42]
abbrev dktX3_minute_0 : List UInt8 := dkwX3_minute_0 ++ dktX3_minute_1
theorem dksX3_minute_0 : cX3_minute.data.toList.drop 0 = dktX3_minute_0 := by decide +kernel
theorem dksX3_minute_1 : cX3_minute.data.toList.drop 23 = dktX3_minute_1 := dk_seg dksX3_minute_0 23 rfl rfl
theorem dksX3_minute_2 : cX3_minute.data.toList.drop 45 = dktX3_minute_2 := dk_seg dksX3_minute_1 22 rfl rfl
theorem dksX3_minute_3 : cX3_minute.data.toList.drop 68 = dktX3_minute_3 := dk_seg dksX3_minute_2 23 rfl rfl
theorem dksX3_minute_4 : cX3_minute.data.toList.drop 92 = dktX3_minute_4 := dk_seg dksX3_minute_3 24 rfl rfl
theorem dksX3_minute_5 : cX3_minute.data.toList.drop 115 = dktX3_minute_5 := dk_seg dksX3_minute_4 23 rfl rfl
theorem dksX3_minute_6 : cX3_minute.data.toList.drop 139 = dktX3_minute_6 := dk_seg dksX3_minute_5 24 rfl rfl
theorem dksX3_minute_7 : cX3_minute.data.toList.drop 163 = dktX3_minute_7 := dk_seg dksX3_minute_6 24 rfl rfl
theorem dksX3_minute_8 : cX3_minute.data.toList.drop 187 = dktX3_minute_8 := dk_seg dksX3_minute_7 24 rfl rfl
theorem dksX3_minute_9 : cX3_minute.data.toList.drop 209 = dktX3_minute_9 := dk_seg dksX3_minute_8 22 rfl rfl
theorem dksX3_minute_10 : cX3_minute.data.toList.drop 232 = dktX3_minute_10 := dk_seg dksX3_minute_9 23 rfl rfl
theorem dksX3_minute_11 : cX3_minute.data.toList.drop 255 = dktX3_minute_11 := dk_seg dksX3_minute_10 23 rfl rfl
theorem dksX3_minute_12 : cX3_minute.data.toList.drop 278 = dktX3_minute_12 := dk_seg dksX3_minute_11 23 rfl rfl
theorem dksX3_minute_13 : cX3_minute.data.toList.drop 301 = dktX3_minute_13 := dk_seg dksX3_minute_12 23 rfl rfl
theorem dksX3_minute_14 : cX3_minute.data.toList.drop 324 = dktX3_minute_14 := dk_seg dksX3_minute_13 23 rfl rfl
theorem dksX3_minute_15 : cX3_minute.data.toList.drop 347 = dktX3_minute_15 := dk_seg dksX3_minute_14 23 rfl rfl
theorem dksX3_minute_16 : cX3_minute.data.toList.drop 369 = dktX3_minute_16 := dk_seg dksX3_minute_15 22 rfl rfl
theorem dksX3_minute_17 : cX3_minute.data.toList.drop 393 = dktX3_minute_17 := dk_seg dksX3_minute_16 24 rfl rfl
theorem dksX3_minute_18 : cX3_minute.data.toList.drop 417 = dktX3_minute_18 := dk_seg dksX3_minute_17 24 rfl rfl
theorem dksX3_minute_19 : cX3_minute.data.toList.drop 440 = dktX3_minute_19 := dk_seg dksX3_minute_18 23 rfl rfl
theorem dksX3_minute_20 : cX3_minute.data.toList.drop 464 = dktX3_minute_20 := dk_seg dksX3_minute_19 24 rfl rfl
theorem dksX3_minute_21 : cX3_minute.data.toList.drop 488 = dktX3_minute_21 := dk_seg dksX3_minute_20 24 rfl rfl
theorem dX3_minute_0 : decode cX3_minute 0 = .ok (.lconst 0, 1) := dk_9 (dk_at dksX3_minute_0 0 rfl rfl)
theorem dX3_minute_1 : decode cX3_minute 1 = .ok (.lstore_n 3, 1) := dk_66 (dk_at dksX3_minute_0 1 rfl rfl)
theorem dX3_minute_2 : decode cX3_minute 2 = .ok (.iconst 0, 1) := dk_3 (dk_at dksX3_minute_0 2 rfl rfl)
theorem dX3_minute_3 : decode cX3_minute 3 = .ok (.istore 5, 2) := dk_54 5 (dk_at dksX3_minute_0 3 rfl rfl)
theorem dX3_minute_5 : decode cX3_minute 5 = .ok (.iload 5, 2) := dk_21 5 (dk_at dksX3_minute_0 5 rfl rfl)
theorem dX3_minute_7 : decode cX3_minute 7 = .ok (.aload_n 0, 1) := dk_42 (dk_at dksX3_minute_0 7 rfl rfl)
theorem dX3_minute_8 : decode cX3_minute 8 = .ok (.getfield 191, 3) := dk_180 0 191 (dk_at dksX3_minute_0 8 rfl rfl)
theorem dX3_minute_11 : decode cX3_minute 11 = .ok (.if_icmp .ge 25, 3) := dk_162 0 25 (dk_at dksX3_minute_0 11 rfl rfl)
theorem dX3_minute_14 : decode cX3_minute 14 = .ok (.aload_n 0, 1) := dk_42 (dk_at dksX3_minute_0 14 rfl rfl)
theorem dX3_minute_15 : decode cX3_minute 15 = .ok (.getfield 101, 3) := dk_180 0 101 (dk_at dksX3_minute_0 15 rfl rfl)
theorem dX3_minute_18 : decode cX3_minute 18 = .ok (.iload 5, 2) := dk_21 5 (dk_at dksX3_minute_0 18 rfl rfl)
theorem dX3_minute_20 : decode cX3_minute 20 = .ok (.lconst 0, 1) := dk_9 (dk_at dksX3_minute_0 20 rfl rfl)
theorem dX3_minute_21 : decode cX3_minute 21 = .ok (.lastore, 1) := dk_80 (dk_at dksX3_minute_0 21 rfl rfl)
theorem dX3_minute_22 : decode cX3_minute 22 = .ok (.aload_n 0, 1) := dk_42 (dk_at dksX3_minute_0 22 rfl rfl)
theorem dX3_minute_23 : decode cX3_minute 23 = .ok (.getfield 105, 3) := dk_180 0 105 (dk_at dksX3_minute_1 0 rfl rfl)
theorem dX3_minute_26 : decode cX3_minute 26 = .ok (.iload 5, 2) := dk_21 5 (dk_at dksX3_minute_1 3 rfl rfl)
theorem dX3_minute_28 : decode cX3_minute 28 = .ok (.lconst 0, 1) := dk_9 (dk_at dksX3_minute_1 5 rfl rfl)
theorem dX3_minute_29 : decode cX3_minute 29 = .ok (.lastore, 1) := dk_80 (dk_at dksX3_minute_1 6 rfl rfl)
theorem dX3_minute_30 : decode cX3_minute 30 = .ok (.iinc 5 1, 3) := dk_132 5 1 (dk_at dksX3_minute_1 7 rfl rfl)
theorem dX3_minute_33 : decode cX3_minute 33 = .ok (.goto (-28), 3) := dk_167 255 228 (dk_at dksX3_minute_1 10 rfl rfl)
theorem dX3_minute_36 : decode cX3_minute 36 = .ok (.iconst 0, 1) := dk_3 (dk_at dksX3_minute_1 13 rfl rfl)
theorem dX3_minute_37 : decode cX3_minute 37 = .ok (.istore 5, 2) := dk_54 5 (dk_at dksX3_minute_1 14 rfl rfl)
theorem dX3_minute_39 : decode cX3_minute 39 = .ok (.iload 5, 2) := dk_21 5 (dk_at dksX3_minute_1 16 rfl rfl)
theorem dX3_minute_41 : decode cX3_minute 41 = .ok (.aload_n 0, 1) := dk_42 (dk_at dksX3_minute_1 18 rfl rfl)
theorem dX3_minute_42 : decode cX3_minute 42 = .ok (.getfield 191, 3) := dk_180 0 191 (dk_at dksX3_minute_1 19 rfl rfl)
theorem dX3_minute_45 : decode cX3_minute 45 = .ok (.if_icmp .ge 427, 3) := dk_162 1 171 (dk_at dksX3_minute_2 0 rfl rfl)
theorem dX3_minute_48 : decode cX3_minute 48 = .ok (.aload_n 0, 1) := dk_42 (dk_at dksX3_minute_2 3 rfl rfl)
theorem dX3_minute_49 : decode cX3_minute 49 = .ok (.getfield 101, 3) := dk_180 0 101 (dk_at dksX3_minute_2 4 rfl rfl)
theorem dX3_minute_52 : decode cX3_minute 52 = .ok (.iload 5, 2) := dk_21 5 (dk_at dksX3_minute_2 7 rfl rfl)
theorem dX3_minute_54 : decode cX3_minute 54 = .ok (.laload, 1) := dk_47 (dk_at dksX3_minute_2 9 rfl rfl)
theorem dX3_minute_55 : decode cX3_minute 55 = .ok (.iload_n 1, 1) := dk_27 (dk_at dksX3_minute_2 10 rfl rfl)
theorem dX3_minute_56 : decode cX3_minute 56 = .ok (.i2l, 1) := dk_133 (dk_at dksX3_minute_2 11 rfl rfl)
theorem dX3_minute_57 : decode cX3_minute 57 = .ok (.aload_n 0, 1) := dk_42 (dk_at dksX3_minute_2 12 rfl rfl)
theorem dX3_minute_58 : decode cX3_minute 58 = .ok (.getfield 7, 3) := dk_180 0 7 (dk_at dksX3_minute_2 13 rfl rfl)
theorem dX3_minute_61 : decode cX3_minute 61 = .ok (.iload 5, 2) := dk_21 5 (dk_at dksX3_minute_2 16 rfl rfl)
theorem dX3_minute_63 : decode cX3_minute 63 = .ok (.iaload, 1) := dk_46 (dk_at dksX3_minute_2 18 rfl rfl)
theorem dX3_minute_64 : decode cX3_minute 64 = .ok (.i2l, 1) := dk_133 (dk_at dksX3_minute_2 19 rfl rfl)
theorem dX3_minute_65 : decode cX3_minute 65 = .ok (.lmul, 1) := dk_105 (dk_at dksX3_minute_2 20 rfl rfl)
theorem dX3_minute_66 : decode cX3_minute 66 = .ok (.ladd, 1) := dk_97 (dk_at dksX3_minute_2 21 rfl rfl)
theorem dX3_minute_67 : decode cX3_minute 67 = .ok (.aload_n 0, 1) := dk_42 (dk_at dksX3_minute_2 22 rfl rfl)
theorem dX3_minute_68 : decode cX3_minute 68 = .ok (.iload 5, 2) := dk_21 5 (dk_at dksX3_minute_3 0 rfl rfl)
theorem dX3_minute_70 : decode cX3_minute 70 = .ok (.iload_n 1, 1) := dk_27 (dk_at dksX3_minute_3 2 rfl rfl)
theorem dX3_minute_71 : decode cX3_minute 71 = .ok (.invokevirtual 282, 3) := dk_182 1 26 (dk_at dksX3_minute_3 3 rfl rfl)
theorem dX3_minute_74 : decode cX3_minute 74 = .ok (.ladd, 1) := dk_97 (dk_at dksX3_minute_3 6 rfl rfl)
theorem dX3_minute_75 : decode cX3_minute 75 = .ok (.lstore 6, 2) := dk_55 6 (dk_at dksX3_minute_3 7 rfl rfl)
theorem dX3_minute_77 : decode cX3_minute 77 = .ok (.aload_n 0, 1) := dk_42 (dk_at dksX3_minute_3 9 rfl rfl)
theorem dX3_minute_78 : decode cX3_minute 78 = .ok (.dup, 1) := dk_89 (dk_at dksX3_minute_3 10 rfl rfl)
theorem dX3_minute_79 : decode cX3_minute 79 = .ok (.getfield 260, 3) := dk_180 1 4 (dk_at dksX3_minute_3 11 rfl rfl)
theorem dX3_minute_82 : decode cX3_minute 82 = .ok (.iload_n 1, 1) := dk_27 (dk_at dksX3_minute_3 14 rfl rfl)
theorem dX3_minute_83 : decode cX3_minute 83 = .ok (.i2l, 1) := dk_133 (dk_at dksX3_minute_3 15 rfl rfl)
theorem dX3_minute_84 : decode cX3_minute 84 = .ok (.aload_n 0, 1) := dk_42 (dk_at dksX3_minute_3 16 rfl rfl)
theorem dX3_minute_85 : decode cX3_minute 85 = .ok (.getfield 7, 3) := dk_180 0 7 (dk_at dksX3_minute_3 17 rfl rfl)
theorem dX3_minute_88 : decode cX3_minute 88 = .ok (.iload 5, 2) := dk_21 5 (dk_at dksX3_minute_3 20 rfl rfl)
theorem dX3_minute_90 : decode cX3_minute 90 = .ok (.iaload, 1) := dk_46 (dk_at dksX3_minute_3 22 rfl rfl)
theorem dX3_minute_91 : decode cX3_minute 91 = .ok (.i2l, 1) := dk_133 (dk_at dksX3_minute_3 23 rfl rfl)
theorem dX3_minute_92 : decode cX3_minute 92 = .ok (.lmul, 1) := dk_105 (dk_at dksX3_minute_4 0 rfl rfl)
theorem dX3_minute_93 : decode cX3_minute 93 = .ok (.ladd, 1) := dk_97 (dk_at dksX3_minute_4 1 rfl rfl)
theorem dX3_minute_94 : decode cX3_minute 94 = .ok (.putfield 260, 3) := dk_181 1 4 (dk_at dksX3_minute_4 2 rfl rfl)
theorem dX3_minute_97 : decode cX3_minute 97 = .ok (.iload_n 2, 1) := dk_28 (dk_at dksX3_minute_4 5 rfl rfl)
theorem dX3_minute_98 : decode cX3_minute 98 = .ok (.iload 5, 2) := dk_21 5 (dk_at dksX3_minute_4 6 rfl rfl)
theorem dX3_minute_100 : decode cX3_minute 100 = .ok (.ishr, 1) := dk_122 (dk_at dksX3_minute_4 8 rfl rfl)
theorem dX3_minute_101 : decode cX3_minute 101 = .ok (.iconst 1, 1) := dk_4 (dk_at dksX3_minute_4 9 rfl rfl)
theorem dX3_minute_102 : decode cX3_minute 102 = .ok (.iand, 1) := dk_126 (dk_at dksX3_minute_4 10 rfl rfl)
theorem dX3_minute_103 : decode cX3_minute 103 = .ok (.iconst 1, 1) := dk_4 (dk_at dksX3_minute_4 11 rfl rfl)
theorem dX3_minute_104 : decode cX3_minute 104 = .ok (.if_icmp .ne 7, 3) := dk_160 0 7 (dk_at dksX3_minute_4 12 rfl rfl)
theorem dX3_minute_107 : decode cX3_minute 107 = .ok (.iconst 1, 1) := dk_4 (dk_at dksX3_minute_4 15 rfl rfl)
theorem dX3_minute_108 : decode cX3_minute 108 = .ok (.goto 4, 3) := dk_167 0 4 (dk_at dksX3_minute_4 16 rfl rfl)
theorem dX3_minute_111 : decode cX3_minute 111 = .ok (.iconst 0, 1) := dk_3 (dk_at dksX3_minute_4 19 rfl rfl)
theorem dX3_minute_112 : decode cX3_minute 112 = .ok (.istore 8, 2) := dk_54 8 (dk_at dksX3_minute_4 20 rfl rfl)
theorem dX3_minute_114 : decode cX3_minute 114 = .ok (.aload_n 0, 1) := dk_42 (dk_at dksX3_minute_4 22 rfl rfl)
theorem dX3_minute_115 : decode cX3_minute 115 = .ok (.getfield 25, 3) := dk_180 0 25 (dk_at dksX3_minute_5 0 rfl rfl)
theorem dX3_minute_118 : decode cX3_minute 118 = .ok (.iload 5, 2) := dk_21 5 (dk_at dksX3_minute_5 3 rfl rfl)
theorem dX3_minute_120 : decode cX3_minute 120 = .ok (.baload, 1) := dk_51 (dk_at dksX3_minute_5 5 rfl rfl)
theorem dX3_minute_121 : decode cX3_minute 121 = .ok (.ifCond .ne 8, 3) := dk_154 0 8 (dk_at dksX3_minute_5 6 rfl rfl)
theorem dX3_minute_124 : decode cX3_minute 124 = .ok (.iload 8, 2) := dk_21 8 (dk_at dksX3_minute_5 9 rfl rfl)
theorem dX3_minute_126 : decode cX3_minute 126 = .ok (.ifCond .eq 137, 3) := dk_153 0 137 (dk_at dksX3_minute_5 11 rfl rfl)
theorem dX3_minute_129 : decode cX3_minute 129 = .ok (.iload 8, 2) := dk_21 8 (dk_at dksX3_minute_5 14 rfl rfl)
theorem dX3_minute_131 : decode cX3_minute 131 = .ok (.ifCond .eq 8, 3) := dk_153 0 8 (dk_at dksX3_minute_5 16 rfl rfl)
theorem dX3_minute_134 : decode cX3_minute 134 = .ok (.lload 6, 2) := dk_22 6 (dk_at dksX3_minute_5 19 rfl rfl)
theorem dX3_minute_136 : decode cX3_minute 136 = .ok (.goto 21, 3) := dk_167 0 21 (dk_at dksX3_minute_5 21 rfl rfl)
theorem dX3_minute_139 : decode cX3_minute 139 = .ok (.lload 6, 2) := dk_22 6 (dk_at dksX3_minute_6 0 rfl rfl)
theorem dX3_minute_141 : decode cX3_minute 141 = .ok (.bipush 10, 2) := dk_16 10 (dk_at dksX3_minute_6 2 rfl rfl)
theorem dX3_minute_143 : decode cX3_minute 143 = .ok (.aload_n 0, 1) := dk_42 (dk_at dksX3_minute_6 4 rfl rfl)
theorem dX3_minute_144 : decode cX3_minute 144 = .ok (.getfield 47, 3) := dk_180 0 47 (dk_at dksX3_minute_6 5 rfl rfl)
theorem dX3_minute_147 : decode cX3_minute 147 = .ok (.iload 5, 2) := dk_21 5 (dk_at dksX3_minute_6 8 rfl rfl)
theorem dX3_minute_149 : decode cX3_minute 149 = .ok (.iaload, 1) := dk_46 (dk_at dksX3_minute_6 10 rfl rfl)
theorem dX3_minute_150 : decode cX3_minute 150 = .ok (.isub, 1) := dk_100 (dk_at dksX3_minute_6 11 rfl rfl)
theorem dX3_minute_151 : decode cX3_minute 151 = .ok (.i2l, 1) := dk_133 (dk_at dksX3_minute_6 12 rfl rfl)
theorem dX3_minute_152 : decode cX3_minute 152 = .ok (.lmul, 1) := dk_105 (dk_at dksX3_minute_6 13 rfl rfl)
theorem dX3_minute_153 : decode cX3_minute 153 = .ok (.ldc2_w 286, 3) := dk_20 1 30 (dk_at dksX3_minute_6 14 rfl rfl)
theorem dX3_minute_156 : decode cX3_minute 156 = .ok (.ldiv, 1) := dk_109 (dk_at dksX3_minute_6 17 rfl rfl)
theorem dX3_minute_157 : decode cX3_minute 157 = .ok (.lstore 9, 2) := dk_55 9 (dk_at dksX3_minute_6 18 rfl rfl)
theorem dX3_minute_159 : decode cX3_minute 159 = .ok (.lload 9, 2) := dk_22 9 (dk_at dksX3_minute_6 20 rfl rfl)
theorem dX3_minute_161 : decode cX3_minute 161 = .ok (.iload 8, 2) := dk_21 8 (dk_at dksX3_minute_6 22 rfl rfl)
theorem dX3_minute_163 : decode cX3_minute 163 = .ok (.ifCond .eq 8, 3) := dk_153 0 8 (dk_at dksX3_minute_7 0 rfl rfl)
theorem dX3_minute_166 : decode cX3_minute 166 = .ok (.bipush 100, 2) := dk_16 100 (dk_at dksX3_minute_7 3 rfl rfl)
theorem dX3_minute_168 : decode cX3_minute 168 = .ok (.goto 10, 3) := dk_167 0 10 (dk_at dksX3_minute_7 5 rfl rfl)
theorem dX3_minute_171 : decode cX3_minute 171 = .ok (.aload_n 0, 1) := dk_42 (dk_at dksX3_minute_7 8 rfl rfl)
theorem dX3_minute_172 : decode cX3_minute 172 = .ok (.getfield 38, 3) := dk_180 0 38 (dk_at dksX3_minute_7 9 rfl rfl)
theorem dX3_minute_175 : decode cX3_minute 175 = .ok (.iload 5, 2) := dk_21 5 (dk_at dksX3_minute_7 12 rfl rfl)
theorem dX3_minute_177 : decode cX3_minute 177 = .ok (.iaload, 1) := dk_46 (dk_at dksX3_minute_7 14 rfl rfl)
theorem dX3_minute_178 : decode cX3_minute 178 = .ok (.aload_n 0, 1) := dk_42 (dk_at dksX3_minute_7 15 rfl rfl)
theorem dX3_minute_179 : decode cX3_minute 179 = .ok (.getfield 98, 3) := dk_180 0 98 (dk_at dksX3_minute_7 16 rfl rfl)
theorem dX3_minute_182 : decode cX3_minute 182 = .ok (.iload 5, 2) := dk_21 5 (dk_at dksX3_minute_7 19 rfl rfl)
theorem dX3_minute_184 : decode cX3_minute 184 = .ok (.iaload, 1) := dk_46 (dk_at dksX3_minute_7 21 rfl rfl)
theorem dX3_minute_185 : decode cX3_minute 185 = .ok (.isub, 1) := dk_100 (dk_at dksX3_minute_7 22 rfl rfl)
theorem dX3_minute_186 : decode cX3_minute 186 = .ok (.i2l, 1) := dk_133 (dk_at dksX3_minute_7 23 rfl rfl)
theorem dX3_minute_187 : decode cX3_minute 187 = .ok (.invokestatic 288, 3) := dk_184 1 32 (dk_at dksX3_minute_8 0 rfl rfl)
theorem dX3_minute_190 : decode cX3_minute 190 = .ok (.l2i, 1) := dk_136 (dk_at dksX3_minute_8 3 rfl rfl)
theorem dX3_minute_191 : decode cX3_minute 191 = .ok (.istore 11, 2) := dk_54 11 (dk_at dksX3_minute_8 4 rfl rfl)
theorem dX3_minute_193 : decode cX3_minute 193 = .ok (.aload_n 0, 1) := dk_42 (dk_at dksX3_minute_8 6 rfl rfl)
theorem dX3_minute_194 : decode cX3_minute 194 = .ok (.getfield 98, 3) := dk_180 0 98 (dk_at dksX3_minute_8 7 rfl rfl)
theorem dX3_minute_197 : decode cX3_minute 197 = .ok (.iload 5, 2) := dk_21 5 (dk_at dksX3_minute_8 10 rfl rfl)
theorem dX3_minute_199 : decode cX3_minute 199 = .ok (.iaload, 1) := dk_46 (dk_at dksX3_minute_8 12 rfl rfl)
theorem dX3_minute_200 : decode cX3_minute 200 = .ok (.iload 11, 2) := dk_21 11 (dk_at dksX3_minute_8 13 rfl rfl)
theorem dX3_minute_202 : decode cX3_minute 202 = .ok (.iadd, 1) := dk_96 (dk_at dksX3_minute_8 15 rfl rfl)
theorem dX3_minute_203 : decode cX3_minute 203 = .ok (.iload 8, 2) := dk_21 8 (dk_at dksX3_minute_8 16 rfl rfl)
theorem dX3_minute_205 : decode cX3_minute 205 = .ok (.ifCond .eq 12, 3) := dk_153 0 12 (dk_at dksX3_minute_8 18 rfl rfl)
theorem dX3_minute_208 : decode cX3_minute 208 = .ok (.aload_n 0, 1) := dk_42 (dk_at dksX3_minute_8 21 rfl rfl)
theorem dX3_minute_209 : decode cX3_minute 209 = .ok (.getfield 83, 3) := dk_180 0 83 (dk_at dksX3_minute_9 0 rfl rfl)
theorem dX3_minute_212 : decode cX3_minute 212 = .ok (.iconst 0, 1) := dk_3 (dk_at dksX3_minute_9 3 rfl rfl)
theorem dX3_minute_213 : decode cX3_minute 213 = .ok (.iaload, 1) := dk_46 (dk_at dksX3_minute_9 4 rfl rfl)
theorem dX3_minute_214 : decode cX3_minute 214 = .ok (.goto 9, 3) := dk_167 0 9 (dk_at dksX3_minute_9 5 rfl rfl)
theorem dX3_minute_217 : decode cX3_minute 217 = .ok (.aload_n 0, 1) := dk_42 (dk_at dksX3_minute_9 8 rfl rfl)
theorem dX3_minute_218 : decode cX3_minute 218 = .ok (.iload 5, 2) := dk_21 5 (dk_at dksX3_minute_9 9 rfl rfl)
theorem dX3_minute_220 : decode cX3_minute 220 = .ok (.invokevirtual 230, 3) := dk_182 0 230 (dk_at dksX3_minute_9 11 rfl rfl)
theorem dX3_minute_223 : decode cX3_minute 223 = .ok (.invokestatic 227, 3) := dk_184 0 227 (dk_at dksX3_minute_9 14 rfl rfl)
theorem dX3_minute_226 : decode cX3_minute 226 = .ok (.istore 12, 2) := dk_54 12 (dk_at dksX3_minute_9 17 rfl rfl)
theorem dX3_minute_228 : decode cX3_minute 228 = .ok (.aload_n 0, 1) := dk_42 (dk_at dksX3_minute_9 19 rfl rfl)
theorem dX3_minute_229 : decode cX3_minute 229 = .ok (.getfield 98, 3) := dk_180 0 98 (dk_at dksX3_minute_9 20 rfl rfl)
theorem dX3_minute_232 : decode cX3_minute 232 = .ok (.iload 5, 2) := dk_21 5 (dk_at dksX3_minute_10 0 rfl rfl)
theorem dX3_minute_234 : decode cX3_minute 234 = .ok (.dup2, 1) := dk_92 (dk_at dksX3_minute_10 2 rfl rfl)
theorem dX3_minute_235 : decode cX3_minute 235 = .ok (.iaload, 1) := dk_46 (dk_at dksX3_minute_10 3 rfl rfl)
theorem dX3_minute_236 : decode cX3_minute 236 = .ok (.iload 11, 2) := dk_21 11 (dk_at dksX3_minute_10 4 rfl rfl)
theorem dX3_minute_238 : decode cX3_minute 238 = .ok (.iload 12, 2) := dk_21 12 (dk_at dksX3_minute_10 6 rfl rfl)
theorem dX3_minute_240 : decode cX3_minute 240 = .ok (.isub, 1) := dk_100 (dk_at dksX3_minute_10 8 rfl rfl)
theorem dX3_minute_241 : decode cX3_minute 241 = .ok (.iadd, 1) := dk_96 (dk_at dksX3_minute_10 9 rfl rfl)
theorem dX3_minute_242 : decode cX3_minute 242 = .ok (.iastore, 1) := dk_79 (dk_at dksX3_minute_10 10 rfl rfl)
theorem dX3_minute_243 : decode cX3_minute 243 = .ok (.aload_n 0, 1) := dk_42 (dk_at dksX3_minute_10 11 rfl rfl)
theorem dX3_minute_244 : decode cX3_minute 244 = .ok (.dup, 1) := dk_89 (dk_at dksX3_minute_10 12 rfl rfl)
theorem dX3_minute_245 : decode cX3_minute 245 = .ok (.getfield 263, 3) := dk_180 1 7 (dk_at dksX3_minute_10 13 rfl rfl)
theorem dX3_minute_248 : decode cX3_minute 248 = .ok (.iload 12, 2) := dk_21 12 (dk_at dksX3_minute_10 16 rfl rfl)
theorem dX3_minute_250 : decode cX3_minute 250 = .ok (.i2l, 1) := dk_133 (dk_at dksX3_minute_10 18 rfl rfl)
theorem dX3_minute_251 : decode cX3_minute 251 = .ok (.ladd, 1) := dk_97 (dk_at dksX3_minute_10 19 rfl rfl)
theorem dX3_minute_252 : decode cX3_minute 252 = .ok (.putfield 263, 3) := dk_181 1 7 (dk_at dksX3_minute_10 20 rfl rfl)
theorem dX3_minute_255 : decode cX3_minute 255 = .ok (.lload 6, 2) := dk_22 6 (dk_at dksX3_minute_11 0 rfl rfl)
theorem dX3_minute_257 : decode cX3_minute 257 = .ok (.iload 11, 2) := dk_21 11 (dk_at dksX3_minute_11 2 rfl rfl)
theorem dX3_minute_259 : decode cX3_minute 259 = .ok (.i2l, 1) := dk_133 (dk_at dksX3_minute_11 4 rfl rfl)
theorem dX3_minute_260 : decode cX3_minute 260 = .ok (.lsub, 1) := dk_101 (dk_at dksX3_minute_11 5 rfl rfl)
theorem dX3_minute_261 : decode cX3_minute 261 = .ok (.lstore 6, 2) := dk_55 6 (dk_at dksX3_minute_11 6 rfl rfl)
theorem dX3_minute_263 : decode cX3_minute 263 = .ok (.lload 6, 2) := dk_22 6 (dk_at dksX3_minute_11 8 rfl rfl)
theorem dX3_minute_265 : decode cX3_minute 265 = .ok (.aload_n 0, 1) := dk_42 (dk_at dksX3_minute_11 10 rfl rfl)
theorem dX3_minute_266 : decode cX3_minute 266 = .ok (.getfield 105, 3) := dk_180 0 105 (dk_at dksX3_minute_11 11 rfl rfl)
theorem dX3_minute_269 : decode cX3_minute 269 = .ok (.iload 5, 2) := dk_21 5 (dk_at dksX3_minute_11 14 rfl rfl)
theorem dX3_minute_271 : decode cX3_minute 271 = .ok (.laload, 1) := dk_47 (dk_at dksX3_minute_11 16 rfl rfl)
theorem dX3_minute_272 : decode cX3_minute 272 = .ok (.ladd, 1) := dk_97 (dk_at dksX3_minute_11 17 rfl rfl)
theorem dX3_minute_273 : decode cX3_minute 273 = .ok (.lstore 6, 2) := dk_55 6 (dk_at dksX3_minute_11 18 rfl rfl)
theorem dX3_minute_275 : decode cX3_minute 275 = .ok (.lload 6, 2) := dk_22 6 (dk_at dksX3_minute_11 20 rfl rfl)
theorem dX3_minute_277 : decode cX3_minute 277 = .ok (.aload_n 0, 1) := dk_42 (dk_at dksX3_minute_11 22 rfl rfl)
theorem dX3_minute_278 : decode cX3_minute 278 = .ok (.getfield 13, 3) := dk_180 0 13 (dk_at dksX3_minute_12 0 rfl rfl)
theorem dX3_minute_281 : decode cX3_minute 281 = .ok (.iload 5, 2) := dk_21 5 (dk_at dksX3_minute_12 3 rfl rfl)
theorem dX3_minute_283 : decode cX3_minute 283 = .ok (.iaload, 1) := dk_46 (dk_at dksX3_minute_12 5 rfl rfl)
theorem dX3_minute_284 : decode cX3_minute 284 = .ok (.i2l, 1) := dk_133 (dk_at dksX3_minute_12 6 rfl rfl)
theorem dX3_minute_285 : decode cX3_minute 285 = .ok (.invokestatic 288, 3) := dk_184 1 32 (dk_at dksX3_minute_12 7 rfl rfl)
theorem dX3_minute_288 : decode cX3_minute 288 = .ok (.lstore 9, 2) := dk_55 9 (dk_at dksX3_minute_12 10 rfl rfl)
theorem dX3_minute_290 : decode cX3_minute 290 = .ok (.lload 6, 2) := dk_22 6 (dk_at dksX3_minute_12 12 rfl rfl)
theorem dX3_minute_292 : decode cX3_minute 292 = .ok (.lload 9, 2) := dk_22 9 (dk_at dksX3_minute_12 14 rfl rfl)
theorem dX3_minute_294 : decode cX3_minute 294 = .ok (.lsub, 1) := dk_101 (dk_at dksX3_minute_12 16 rfl rfl)
theorem dX3_minute_295 : decode cX3_minute 295 = .ok (.lstore 11, 2) := dk_55 11 (dk_at dksX3_minute_12 17 rfl rfl)
theorem dX3_minute_297 : decode cX3_minute 297 = .ok (.aload_n 0, 1) := dk_42 (dk_at dksX3_minute_12 19 rfl rfl)
theorem dX3_minute_298 : decode cX3_minute 298 = .ok (.getfield 22, 3) := dk_180 0 22 (dk_at dksX3_minute_12 20 rfl rfl)
theorem dX3_minute_301 : decode cX3_minute 301 = .ok (.iload 5, 2) := dk_21 5 (dk_at dksX3_minute_13 0 rfl rfl)
theorem dX3_minute_303 : decode cX3_minute 303 = .ok (.iaload, 1) := dk_46 (dk_at dksX3_minute_13 2 rfl rfl)
theorem dX3_minute_304 : decode cX3_minute 304 = .ok (.iconst (-1), 1) := dk_2 (dk_at dksX3_minute_13 3 rfl rfl)
theorem dX3_minute_305 : decode cX3_minute 305 = .ok (.if_icmp .ne 7, 3) := dk_160 0 7 (dk_at dksX3_minute_13 4 rfl rfl)
theorem dX3_minute_308 : decode cX3_minute 308 = .ok (.lconst 0, 1) := dk_9 (dk_at dksX3_minute_13 7 rfl rfl)
theorem dX3_minute_309 : decode cX3_minute 309 = .ok (.goto 9, 3) := dk_167 0 9 (dk_at dksX3_minute_13 8 rfl rfl)
theorem dX3_minute_312 : decode cX3_minute 312 = .ok (.lload 11, 2) := dk_22 11 (dk_at dksX3_minute_13 11 rfl rfl)
theorem dX3_minute_314 : decode cX3_minute 314 = .ok (.ldc2_w 291, 3) := dk_20 1 35 (dk_at dksX3_minute_13 13 rfl rfl)
theorem dX3_minute_317 : decode cX3_minute 317 = .ok (.ldiv, 1) := dk_109 (dk_at dksX3_minute_13 16 rfl rfl)
theorem dX3_minute_318 : decode cX3_minute 318 = .ok (.lstore 13, 2) := dk_55 13 (dk_at dksX3_minute_13 17 rfl rfl)
theorem dX3_minute_320 : decode cX3_minute 320 = .ok (.aload_n 0, 1) := dk_42 (dk_at dksX3_minute_13 19 rfl rfl)
theorem dX3_minute_321 : decode cX3_minute 321 = .ok (.getfield 111, 3) := dk_180 0 111 (dk_at dksX3_minute_13 20 rfl rfl)
theorem dX3_minute_324 : decode cX3_minute 324 = .ok (.iload 5, 2) := dk_21 5 (dk_at dksX3_minute_14 0 rfl rfl)
theorem dX3_minute_326 : decode cX3_minute 326 = .ok (.aload_n 0, 1) := dk_42 (dk_at dksX3_minute_14 2 rfl rfl)
theorem dX3_minute_327 : decode cX3_minute 327 = .ok (.getfield 111, 3) := dk_180 0 111 (dk_at dksX3_minute_14 3 rfl rfl)
theorem dX3_minute_330 : decode cX3_minute 330 = .ok (.iload 5, 2) := dk_21 5 (dk_at dksX3_minute_14 6 rfl rfl)
theorem dX3_minute_332 : decode cX3_minute 332 = .ok (.laload, 1) := dk_47 (dk_at dksX3_minute_14 8 rfl rfl)
theorem dX3_minute_333 : decode cX3_minute 333 = .ok (.lload 9, 2) := dk_22 9 (dk_at dksX3_minute_14 9 rfl rfl)
theorem dX3_minute_335 : decode cX3_minute 335 = .ok (.invokestatic 293, 3) := dk_184 1 37 (dk_at dksX3_minute_14 11 rfl rfl)
theorem dX3_minute_338 : decode cX3_minute 338 = .ok (.lastore, 1) := dk_80 (dk_at dksX3_minute_14 14 rfl rfl)
theorem dX3_minute_339 : decode cX3_minute 339 = .ok (.aload_n 0, 1) := dk_42 (dk_at dksX3_minute_14 15 rfl rfl)
theorem dX3_minute_340 : decode cX3_minute 340 = .ok (.getfield 108, 3) := dk_180 0 108 (dk_at dksX3_minute_14 16 rfl rfl)
theorem dX3_minute_343 : decode cX3_minute 343 = .ok (.iload 5, 2) := dk_21 5 (dk_at dksX3_minute_14 19 rfl rfl)
theorem dX3_minute_345 : decode cX3_minute 345 = .ok (.dup2, 1) := dk_92 (dk_at dksX3_minute_14 21 rfl rfl)
theorem dX3_minute_346 : decode cX3_minute 346 = .ok (.laload, 1) := dk_47 (dk_at dksX3_minute_14 22 rfl rfl)
theorem dX3_minute_347 : decode cX3_minute 347 = .ok (.lload 11, 2) := dk_22 11 (dk_at dksX3_minute_15 0 rfl rfl)
theorem dX3_minute_349 : decode cX3_minute 349 = .ok (.lload 13, 2) := dk_22 13 (dk_at dksX3_minute_15 2 rfl rfl)
theorem dX3_minute_351 : decode cX3_minute 351 = .ok (.lsub, 1) := dk_101 (dk_at dksX3_minute_15 4 rfl rfl)
theorem dX3_minute_352 : decode cX3_minute 352 = .ok (.ladd, 1) := dk_97 (dk_at dksX3_minute_15 5 rfl rfl)
theorem dX3_minute_353 : decode cX3_minute 353 = .ok (.lastore, 1) := dk_80 (dk_at dksX3_minute_15 6 rfl rfl)
theorem dX3_minute_354 : decode cX3_minute 354 = .ok (.aload_n 0, 1) := dk_42 (dk_at dksX3_minute_15 7 rfl rfl)
theorem dX3_minute_355 : decode cX3_minute 355 = .ok (.dup, 1) := dk_89 (dk_at dksX3_minute_15 8 rfl rfl)
theorem dX3_minute_356 : decode cX3_minute 356 = .ok (.getfield 266, 3) := dk_180 1 10 (dk_at dksX3_minute_15 9 rfl rfl)
theorem dX3_minute_359 : decode cX3_minute 359 = .ok (.lload 11, 2) := dk_22 11 (dk_at dksX3_minute_15 12 rfl rfl)
theorem dX3_minute_361 : decode cX3_minute 361 = .ok (.lload 13, 2) := dk_22 13 (dk_at dksX3_minute_15 14 rfl rfl)
theorem dX3_minute_363 : decode cX3_minute 363 = .ok (.lsub, 1) := dk_101 (dk_at dksX3_minute_15 16 rfl rfl)
theorem dX3_minute_364 : decode cX3_minute 364 = .ok (.ladd, 1) := dk_97 (dk_at dksX3_minute_15 17 rfl rfl)
theorem dX3_minute_365 : decode cX3_minute 365 = .ok (.putfield 266, 3) := dk_181 1 10 (dk_at dksX3_minute_15 18 rfl rfl)
theorem dX3_minute_368 : decode cX3_minute 368 = .ok (.aload_n 0, 1) := dk_42 (dk_at dksX3_minute_15 21 rfl rfl)
theorem dX3_minute_369 : decode cX3_minute 369 = .ok (.getfield 19, 3) := dk_180 0 19 (dk_at dksX3_minute_16 0 rfl rfl)
theorem dX3_minute_372 : decode cX3_minute 372 = .ok (.iload 5, 2) := dk_21 5 (dk_at dksX3_minute_16 3 rfl rfl)
theorem dX3_minute_374 : decode cX3_minute 374 = .ok (.iaload, 1) := dk_46 (dk_at dksX3_minute_16 5 rfl rfl)
theorem dX3_minute_375 : decode cX3_minute 375 = .ok (.ifCond .le 38, 3) := dk_158 0 38 (dk_at dksX3_minute_16 6 rfl rfl)
theorem dX3_minute_378 : decode cX3_minute 378 = .ok (.lload 11, 2) := dk_22 11 (dk_at dksX3_minute_16 9 rfl rfl)
theorem dX3_minute_380 : decode cX3_minute 380 = .ok (.aload_n 0, 1) := dk_42 (dk_at dksX3_minute_16 11 rfl rfl)
theorem dX3_minute_381 : decode cX3_minute 381 = .ok (.getfield 19, 3) := dk_180 0 19 (dk_at dksX3_minute_16 12 rfl rfl)
theorem dX3_minute_384 : decode cX3_minute 384 = .ok (.iload 5, 2) := dk_21 5 (dk_at dksX3_minute_16 15 rfl rfl)
theorem dX3_minute_386 : decode cX3_minute 386 = .ok (.iaload, 1) := dk_46 (dk_at dksX3_minute_16 17 rfl rfl)
theorem dX3_minute_387 : decode cX3_minute 387 = .ok (.i2l, 1) := dk_133 (dk_at dksX3_minute_16 18 rfl rfl)
theorem dX3_minute_388 : decode cX3_minute 388 = .ok (.lcmp, 1) := dk_148 (dk_at dksX3_minute_16 19 rfl rfl)
theorem dX3_minute_389 : decode cX3_minute 389 = .ok (.ifCond .le 24, 3) := dk_158 0 24 (dk_at dksX3_minute_16 20 rfl rfl)
theorem dX3_minute_392 : decode cX3_minute 392 = .ok (.aload_n 0, 1) := dk_42 (dk_at dksX3_minute_16 23 rfl rfl)
theorem dX3_minute_393 : decode cX3_minute 393 = .ok (.getfield 114, 3) := dk_180 0 114 (dk_at dksX3_minute_17 0 rfl rfl)
theorem dX3_minute_396 : decode cX3_minute 396 = .ok (.iload 5, 2) := dk_21 5 (dk_at dksX3_minute_17 3 rfl rfl)
theorem dX3_minute_398 : decode cX3_minute 398 = .ok (.dup2, 1) := dk_92 (dk_at dksX3_minute_17 5 rfl rfl)
theorem dX3_minute_399 : decode cX3_minute 399 = .ok (.iaload, 1) := dk_46 (dk_at dksX3_minute_17 6 rfl rfl)
theorem dX3_minute_400 : decode cX3_minute 400 = .ok (.iconst 1, 1) := dk_4 (dk_at dksX3_minute_17 7 rfl rfl)
theorem dX3_minute_401 : decode cX3_minute 401 = .ok (.iadd, 1) := dk_96 (dk_at dksX3_minute_17 8 rfl rfl)
theorem dX3_minute_402 : decode cX3_minute 402 = .ok (.iastore, 1) := dk_79 (dk_at dksX3_minute_17 9 rfl rfl)
theorem dX3_minute_403 : decode cX3_minute 403 = .ok (.aload_n 0, 1) := dk_42 (dk_at dksX3_minute_17 10 rfl rfl)
theorem dX3_minute_404 : decode cX3_minute 404 = .ok (.dup, 1) := dk_89 (dk_at dksX3_minute_17 11 rfl rfl)
theorem dX3_minute_405 : decode cX3_minute 405 = .ok (.getfield 275, 3) := dk_180 1 19 (dk_at dksX3_minute_17 12 rfl rfl)
theorem dX3_minute_408 : decode cX3_minute 408 = .ok (.iconst 1, 1) := dk_4 (dk_at dksX3_minute_17 15 rfl rfl)
theorem dX3_minute_409 : decode cX3_minute 409 = .ok (.iadd, 1) := dk_96 (dk_at dksX3_minute_17 16 rfl rfl)
theorem dX3_minute_410 : decode cX3_minute 410 = .ok (.putfield 275, 3) := dk_181 1 19 (dk_at dksX3_minute_17 17 rfl rfl)
theorem dX3_minute_413 : decode cX3_minute 413 = .ok (.aload_n 0, 1) := dk_42 (dk_at dksX3_minute_17 20 rfl rfl)
theorem dX3_minute_414 : decode cX3_minute 414 = .ok (.getfield 22, 3) := dk_180 0 22 (dk_at dksX3_minute_17 21 rfl rfl)
theorem dX3_minute_417 : decode cX3_minute 417 = .ok (.iload 5, 2) := dk_21 5 (dk_at dksX3_minute_18 0 rfl rfl)
theorem dX3_minute_419 : decode cX3_minute 419 = .ok (.iaload, 1) := dk_46 (dk_at dksX3_minute_18 2 rfl rfl)
theorem dX3_minute_420 : decode cX3_minute 420 = .ok (.iconst (-1), 1) := dk_2 (dk_at dksX3_minute_18 3 rfl rfl)
theorem dX3_minute_421 : decode cX3_minute 421 = .ok (.if_icmp .ne 11, 3) := dk_160 0 11 (dk_at dksX3_minute_18 4 rfl rfl)
theorem dX3_minute_424 : decode cX3_minute 424 = .ok (.lload_n 3, 1) := dk_33 (dk_at dksX3_minute_18 7 rfl rfl)
theorem dX3_minute_425 : decode cX3_minute 425 = .ok (.lload 9, 2) := dk_22 9 (dk_at dksX3_minute_18 8 rfl rfl)
theorem dX3_minute_427 : decode cX3_minute 427 = .ok (.ladd, 1) := dk_97 (dk_at dksX3_minute_18 10 rfl rfl)
theorem dX3_minute_428 : decode cX3_minute 428 = .ok (.lstore_n 3, 1) := dk_66 (dk_at dksX3_minute_18 11 rfl rfl)
theorem dX3_minute_429 : decode cX3_minute 429 = .ok (.goto 37, 3) := dk_167 0 37 (dk_at dksX3_minute_18 12 rfl rfl)
theorem dX3_minute_432 : decode cX3_minute 432 = .ok (.aload_n 0, 1) := dk_42 (dk_at dksX3_minute_18 15 rfl rfl)
theorem dX3_minute_433 : decode cX3_minute 433 = .ok (.getfield 105, 3) := dk_180 0 105 (dk_at dksX3_minute_18 16 rfl rfl)
theorem dX3_minute_436 : decode cX3_minute 436 = .ok (.aload_n 0, 1) := dk_42 (dk_at dksX3_minute_18 19 rfl rfl)
theorem dX3_minute_437 : decode cX3_minute 437 = .ok (.getfield 22, 3) := dk_180 0 22 (dk_at dksX3_minute_18 20 rfl rfl)
theorem dX3_minute_440 : decode cX3_minute 440 = .ok (.iload 5, 2) := dk_21 5 (dk_at dksX3_minute_19 0 rfl rfl)
theorem dX3_minute_442 : decode cX3_minute 442 = .ok (.iaload, 1) := dk_46 (dk_at dksX3_minute_19 2 rfl rfl)
theorem dX3_minute_443 : decode cX3_minute 443 = .ok (.dup2, 1) := dk_92 (dk_at dksX3_minute_19 3 rfl rfl)
theorem dX3_minute_444 : decode cX3_minute 444 = .ok (.laload, 1) := dk_47 (dk_at dksX3_minute_19 4 rfl rfl)
theorem dX3_minute_445 : decode cX3_minute 445 = .ok (.lload 9, 2) := dk_22 9 (dk_at dksX3_minute_19 5 rfl rfl)
theorem dX3_minute_447 : decode cX3_minute 447 = .ok (.ladd, 1) := dk_97 (dk_at dksX3_minute_19 7 rfl rfl)
theorem dX3_minute_448 : decode cX3_minute 448 = .ok (.lastore, 1) := dk_80 (dk_at dksX3_minute_19 8 rfl rfl)
theorem dX3_minute_449 : decode cX3_minute 449 = .ok (.aload_n 0, 1) := dk_42 (dk_at dksX3_minute_19 9 rfl rfl)
theorem dX3_minute_450 : decode cX3_minute 450 = .ok (.getfield 101, 3) := dk_180 0 101 (dk_at dksX3_minute_19 10 rfl rfl)
theorem dX3_minute_453 : decode cX3_minute 453 = .ok (.aload_n 0, 1) := dk_42 (dk_at dksX3_minute_19 13 rfl rfl)
theorem dX3_minute_454 : decode cX3_minute 454 = .ok (.getfield 22, 3) := dk_180 0 22 (dk_at dksX3_minute_19 14 rfl rfl)
theorem dX3_minute_457 : decode cX3_minute 457 = .ok (.iload 5, 2) := dk_21 5 (dk_at dksX3_minute_19 17 rfl rfl)
theorem dX3_minute_459 : decode cX3_minute 459 = .ok (.iaload, 1) := dk_46 (dk_at dksX3_minute_19 19 rfl rfl)
theorem dX3_minute_460 : decode cX3_minute 460 = .ok (.dup2, 1) := dk_92 (dk_at dksX3_minute_19 20 rfl rfl)
theorem dX3_minute_461 : decode cX3_minute 461 = .ok (.laload, 1) := dk_47 (dk_at dksX3_minute_19 21 rfl rfl)
theorem dX3_minute_462 : decode cX3_minute 462 = .ok (.lload 13, 2) := dk_22 13 (dk_at dksX3_minute_19 22 rfl rfl)
theorem dX3_minute_464 : decode cX3_minute 464 = .ok (.ladd, 1) := dk_97 (dk_at dksX3_minute_20 0 rfl rfl)
theorem dX3_minute_465 : decode cX3_minute 465 = .ok (.lastore, 1) := dk_80 (dk_at dksX3_minute_20 1 rfl rfl)
theorem dX3_minute_466 : decode cX3_minute 466 = .ok (.iinc 5 1, 3) := dk_132 5 1 (dk_at dksX3_minute_20 2 rfl rfl)
theorem dX3_minute_469 : decode cX3_minute 469 = .ok (.goto (-430), 3) := dk_167 254 82 (dk_at dksX3_minute_20 5 rfl rfl)
theorem dX3_minute_472 : decode cX3_minute 472 = .ok (.aload_n 0, 1) := dk_42 (dk_at dksX3_minute_20 8 rfl rfl)
theorem dX3_minute_473 : decode cX3_minute 473 = .ok (.dup, 1) := dk_89 (dk_at dksX3_minute_20 9 rfl rfl)
theorem dX3_minute_474 : decode cX3_minute 474 = .ok (.getfield 269, 3) := dk_180 1 13 (dk_at dksX3_minute_20 10 rfl rfl)
theorem dX3_minute_477 : decode cX3_minute 477 = .ok (.lload_n 3, 1) := dk_33 (dk_at dksX3_minute_20 13 rfl rfl)
theorem dX3_minute_478 : decode cX3_minute 478 = .ok (.ladd, 1) := dk_97 (dk_at dksX3_minute_20 14 rfl rfl)
theorem dX3_minute_479 : decode cX3_minute 479 = .ok (.putfield 269, 3) := dk_181 1 13 (dk_at dksX3_minute_20 15 rfl rfl)
theorem dX3_minute_482 : decode cX3_minute 482 = .ok (.aload_n 0, 1) := dk_42 (dk_at dksX3_minute_20 18 rfl rfl)
theorem dX3_minute_483 : decode cX3_minute 483 = .ok (.aload_n 0, 1) := dk_42 (dk_at dksX3_minute_20 19 rfl rfl)
theorem dX3_minute_484 : decode cX3_minute 484 = .ok (.getfield 272, 3) := dk_180 1 16 (dk_at dksX3_minute_20 20 rfl rfl)
theorem dX3_minute_487 : decode cX3_minute 487 = .ok (.lload_n 3, 1) := dk_33 (dk_at dksX3_minute_20 23 rfl rfl)
theorem dX3_minute_488 : decode cX3_minute 488 = .ok (.invokestatic 293, 3) := dk_184 1 37 (dk_at dksX3_minute_21 0 rfl rfl)
theorem dX3_minute_491 : decode cX3_minute 491 = .ok (.putfield 272, 3) := dk_181 1 16 (dk_at dksX3_minute_21 3 rfl rfl)
theorem dX3_minute_494 : decode cX3_minute 494 = .ok (.return_, 1) := dk_177 (dk_at dksX3_minute_21 6 rfl rfl)
def dkwX3_roofsGive_4 : List UInt8 := [66, 132, 5, 1, 167, 255, 164, 33, 173]
abbrev dktX3_roofsGive_4 : List UInt8 := dkwX3_roofsGive_4 ++ []
def dkwX3_roofsGive_3 : List UInt8 := [21, 7, 96, 79, 42, 89, 180, 1, 4, 21, 6, 133, 97, 181, 1, 4, 33, 21, 6, 21, 7, 100, 133, 97]
abbrev dktX3_roofsGive_3 : List UInt8 := dkwX3_roofsGive_3 ++ dktX3_roofsGive_4
def dkwX3_roofsGive_2 : List UInt8 := [21, 5, 46, 42, 180, 0, 95, 21, 5, 46, 100, 184, 0, 227, 54, 7, 42, 180, 0, 95, 21, 5, 92, 46]
abbrev dktX3_roofsGive_2 : List UInt8 := dkwX3_roofsGive_2 ++ dktX3_roofsGive_3
def dkwX3_roofsGive_1 : List UInt8 := [159, 0, 6, 167, 0, 69, 28, 42, 180, 0, 71, 21, 5, 46, 104, 54, 6, 21, 6, 42, 180, 0, 74]
abbrev dktX3_roofsGive_1 : List UInt8 := dkwX3_roofsGive_1 ++ dktX3_roofsGive_2
def dkwX3_roofsGive_0 : List UInt8 := [9, 66, 3, 54, 5, 21, 5, 42, 180, 0, 202, 162, 0, 89, 42, 180, 0, 65, 21, 5, 46, 27]
abbrev dktX3_roofsGive_0 : List UInt8 := dkwX3_roofsGive_0 ++ dktX3_roofsGive_1
theorem dksX3_roofsGive_0 : cX3_roofsGive.data.toList.drop 0 = dktX3_roofsGive_0 := by decide +kernel
theorem dksX3_roofsGive_1 : cX3_roofsGive.data.toList.drop 22 = dktX3_roofsGive_1 := dk_seg dksX3_roofsGive_0 22 rfl rfl
theorem dksX3_roofsGive_2 : cX3_roofsGive.data.toList.drop 45 = dktX3_roofsGive_2 := dk_seg dksX3_roofsGive_1 23 rfl rfl
theorem dksX3_roofsGive_3 : cX3_roofsGive.data.toList.drop 69 = dktX3_roofsGive_3 := dk_seg dksX3_roofsGive_2 24 rfl rfl
theorem dksX3_roofsGive_4 : cX3_roofsGive.data.toList.drop 93 = dktX3_roofsGive_4 := dk_seg dksX3_roofsGive_3 24 rfl rfl
theorem dX3_roofsGive_0 : decode cX3_roofsGive 0 = .ok (.lconst 0, 1) := dk_9 (dk_at dksX3_roofsGive_0 0 rfl rfl)
theorem dX3_roofsGive_1 : decode cX3_roofsGive 1 = .ok (.lstore_n 3, 1) := dk_66 (dk_at dksX3_roofsGive_0 1 rfl rfl)
theorem dX3_roofsGive_2 : decode cX3_roofsGive 2 = .ok (.iconst 0, 1) := dk_3 (dk_at dksX3_roofsGive_0 2 rfl rfl)
theorem dX3_roofsGive_3 : decode cX3_roofsGive 3 = .ok (.istore 5, 2) := dk_54 5 (dk_at dksX3_roofsGive_0 3 rfl rfl)
theorem dX3_roofsGive_5 : decode cX3_roofsGive 5 = .ok (.iload 5, 2) := dk_21 5 (dk_at dksX3_roofsGive_0 5 rfl rfl)
theorem dX3_roofsGive_7 : decode cX3_roofsGive 7 = .ok (.aload_n 0, 1) := dk_42 (dk_at dksX3_roofsGive_0 7 rfl rfl)
theorem dX3_roofsGive_8 : decode cX3_roofsGive 8 = .ok (.getfield 202, 3) := dk_180 0 202 (dk_at dksX3_roofsGive_0 8 rfl rfl)
theorem dX3_roofsGive_11 : decode cX3_roofsGive 11 = .ok (.if_icmp .ge 89, 3) := dk_162 0 89 (dk_at dksX3_roofsGive_0 11 rfl rfl)
theorem dX3_roofsGive_14 : decode cX3_roofsGive 14 = .ok (.aload_n 0, 1) := dk_42 (dk_at dksX3_roofsGive_0 14 rfl rfl)
theorem dX3_roofsGive_15 : decode cX3_roofsGive 15 = .ok (.getfield 65, 3) := dk_180 0 65 (dk_at dksX3_roofsGive_0 15 rfl rfl)
theorem dX3_roofsGive_18 : decode cX3_roofsGive 18 = .ok (.iload 5, 2) := dk_21 5 (dk_at dksX3_roofsGive_0 18 rfl rfl)
theorem dX3_roofsGive_20 : decode cX3_roofsGive 20 = .ok (.iaload, 1) := dk_46 (dk_at dksX3_roofsGive_0 20 rfl rfl)
theorem dX3_roofsGive_21 : decode cX3_roofsGive 21 = .ok (.iload_n 1, 1) := dk_27 (dk_at dksX3_roofsGive_0 21 rfl rfl)
theorem dX3_roofsGive_22 : decode cX3_roofsGive 22 = .ok (.if_icmp .eq 6, 3) := dk_159 0 6 (dk_at dksX3_roofsGive_1 0 rfl rfl)
theorem dX3_roofsGive_25 : decode cX3_roofsGive 25 = .ok (.goto 69, 3) := dk_167 0 69 (dk_at dksX3_roofsGive_1 3 rfl rfl)
theorem dX3_roofsGive_28 : decode cX3_roofsGive 28 = .ok (.iload_n 2, 1) := dk_28 (dk_at dksX3_roofsGive_1 6 rfl rfl)
theorem dX3_roofsGive_29 : decode cX3_roofsGive 29 = .ok (.aload_n 0, 1) := dk_42 (dk_at dksX3_roofsGive_1 7 rfl rfl)
theorem dX3_roofsGive_30 : decode cX3_roofsGive 30 = .ok (.getfield 71, 3) := dk_180 0 71 (dk_at dksX3_roofsGive_1 8 rfl rfl)
theorem dX3_roofsGive_33 : decode cX3_roofsGive 33 = .ok (.iload 5, 2) := dk_21 5 (dk_at dksX3_roofsGive_1 11 rfl rfl)
theorem dX3_roofsGive_35 : decode cX3_roofsGive 35 = .ok (.iaload, 1) := dk_46 (dk_at dksX3_roofsGive_1 13 rfl rfl)
theorem dX3_roofsGive_36 : decode cX3_roofsGive 36 = .ok (.imul, 1) := dk_104 (dk_at dksX3_roofsGive_1 14 rfl rfl)
theorem dX3_roofsGive_37 : decode cX3_roofsGive 37 = .ok (.istore 6, 2) := dk_54 6 (dk_at dksX3_roofsGive_1 15 rfl rfl)
theorem dX3_roofsGive_39 : decode cX3_roofsGive 39 = .ok (.iload 6, 2) := dk_21 6 (dk_at dksX3_roofsGive_1 17 rfl rfl)
theorem dX3_roofsGive_41 : decode cX3_roofsGive 41 = .ok (.aload_n 0, 1) := dk_42 (dk_at dksX3_roofsGive_1 19 rfl rfl)
theorem dX3_roofsGive_42 : decode cX3_roofsGive 42 = .ok (.getfield 74, 3) := dk_180 0 74 (dk_at dksX3_roofsGive_1 20 rfl rfl)
theorem dX3_roofsGive_45 : decode cX3_roofsGive 45 = .ok (.iload 5, 2) := dk_21 5 (dk_at dksX3_roofsGive_2 0 rfl rfl)
theorem dX3_roofsGive_47 : decode cX3_roofsGive 47 = .ok (.iaload, 1) := dk_46 (dk_at dksX3_roofsGive_2 2 rfl rfl)
theorem dX3_roofsGive_48 : decode cX3_roofsGive 48 = .ok (.aload_n 0, 1) := dk_42 (dk_at dksX3_roofsGive_2 3 rfl rfl)
theorem dX3_roofsGive_49 : decode cX3_roofsGive 49 = .ok (.getfield 95, 3) := dk_180 0 95 (dk_at dksX3_roofsGive_2 4 rfl rfl)
theorem dX3_roofsGive_52 : decode cX3_roofsGive 52 = .ok (.iload 5, 2) := dk_21 5 (dk_at dksX3_roofsGive_2 7 rfl rfl)
theorem dX3_roofsGive_54 : decode cX3_roofsGive 54 = .ok (.iaload, 1) := dk_46 (dk_at dksX3_roofsGive_2 9 rfl rfl)
theorem dX3_roofsGive_55 : decode cX3_roofsGive 55 = .ok (.isub, 1) := dk_100 (dk_at dksX3_roofsGive_2 10 rfl rfl)
theorem dX3_roofsGive_56 : decode cX3_roofsGive 56 = .ok (.invokestatic 227, 3) := dk_184 0 227 (dk_at dksX3_roofsGive_2 11 rfl rfl)
theorem dX3_roofsGive_59 : decode cX3_roofsGive 59 = .ok (.istore 7, 2) := dk_54 7 (dk_at dksX3_roofsGive_2 14 rfl rfl)
theorem dX3_roofsGive_61 : decode cX3_roofsGive 61 = .ok (.aload_n 0, 1) := dk_42 (dk_at dksX3_roofsGive_2 16 rfl rfl)
theorem dX3_roofsGive_62 : decode cX3_roofsGive 62 = .ok (.getfield 95, 3) := dk_180 0 95 (dk_at dksX3_roofsGive_2 17 rfl rfl)
theorem dX3_roofsGive_65 : decode cX3_roofsGive 65 = .ok (.iload 5, 2) := dk_21 5 (dk_at dksX3_roofsGive_2 20 rfl rfl)
theorem dX3_roofsGive_67 : decode cX3_roofsGive 67 = .ok (.dup2, 1) := dk_92 (dk_at dksX3_roofsGive_2 22 rfl rfl)
theorem dX3_roofsGive_68 : decode cX3_roofsGive 68 = .ok (.iaload, 1) := dk_46 (dk_at dksX3_roofsGive_2 23 rfl rfl)
theorem dX3_roofsGive_69 : decode cX3_roofsGive 69 = .ok (.iload 7, 2) := dk_21 7 (dk_at dksX3_roofsGive_3 0 rfl rfl)
theorem dX3_roofsGive_71 : decode cX3_roofsGive 71 = .ok (.iadd, 1) := dk_96 (dk_at dksX3_roofsGive_3 2 rfl rfl)
theorem dX3_roofsGive_72 : decode cX3_roofsGive 72 = .ok (.iastore, 1) := dk_79 (dk_at dksX3_roofsGive_3 3 rfl rfl)
theorem dX3_roofsGive_73 : decode cX3_roofsGive 73 = .ok (.aload_n 0, 1) := dk_42 (dk_at dksX3_roofsGive_3 4 rfl rfl)
theorem dX3_roofsGive_74 : decode cX3_roofsGive 74 = .ok (.dup, 1) := dk_89 (dk_at dksX3_roofsGive_3 5 rfl rfl)
theorem dX3_roofsGive_75 : decode cX3_roofsGive 75 = .ok (.getfield 260, 3) := dk_180 1 4 (dk_at dksX3_roofsGive_3 6 rfl rfl)
theorem dX3_roofsGive_78 : decode cX3_roofsGive 78 = .ok (.iload 6, 2) := dk_21 6 (dk_at dksX3_roofsGive_3 9 rfl rfl)
theorem dX3_roofsGive_80 : decode cX3_roofsGive 80 = .ok (.i2l, 1) := dk_133 (dk_at dksX3_roofsGive_3 11 rfl rfl)
theorem dX3_roofsGive_81 : decode cX3_roofsGive 81 = .ok (.ladd, 1) := dk_97 (dk_at dksX3_roofsGive_3 12 rfl rfl)
theorem dX3_roofsGive_82 : decode cX3_roofsGive 82 = .ok (.putfield 260, 3) := dk_181 1 4 (dk_at dksX3_roofsGive_3 13 rfl rfl)
theorem dX3_roofsGive_85 : decode cX3_roofsGive 85 = .ok (.lload_n 3, 1) := dk_33 (dk_at dksX3_roofsGive_3 16 rfl rfl)
theorem dX3_roofsGive_86 : decode cX3_roofsGive 86 = .ok (.iload 6, 2) := dk_21 6 (dk_at dksX3_roofsGive_3 17 rfl rfl)
theorem dX3_roofsGive_88 : decode cX3_roofsGive 88 = .ok (.iload 7, 2) := dk_21 7 (dk_at dksX3_roofsGive_3 19 rfl rfl)
theorem dX3_roofsGive_90 : decode cX3_roofsGive 90 = .ok (.isub, 1) := dk_100 (dk_at dksX3_roofsGive_3 21 rfl rfl)
theorem dX3_roofsGive_91 : decode cX3_roofsGive 91 = .ok (.i2l, 1) := dk_133 (dk_at dksX3_roofsGive_3 22 rfl rfl)
theorem dX3_roofsGive_92 : decode cX3_roofsGive 92 = .ok (.ladd, 1) := dk_97 (dk_at dksX3_roofsGive_3 23 rfl rfl)
theorem dX3_roofsGive_93 : decode cX3_roofsGive 93 = .ok (.lstore_n 3, 1) := dk_66 (dk_at dksX3_roofsGive_4 0 rfl rfl)
theorem dX3_roofsGive_94 : decode cX3_roofsGive 94 = .ok (.iinc 5 1, 3) := dk_132 5 1 (dk_at dksX3_roofsGive_4 1 rfl rfl)
theorem dX3_roofsGive_97 : decode cX3_roofsGive 97 = .ok (.goto (-92), 3) := dk_167 255 164 (dk_at dksX3_roofsGive_4 4 rfl rfl)
theorem dX3_roofsGive_100 : decode cX3_roofsGive 100 = .ok (.lload_n 3, 1) := dk_33 (dk_at dksX3_roofsGive_4 7 rfl rfl)
theorem dX3_roofsGive_101 : decode cX3_roofsGive 101 = .ok (.lreturn, 1) := dk_173 (dk_at dksX3_roofsGive_4 8 rfl rfl)
def dkwX3_tried_1 : List UInt8 := [182, 1, 42, 28, 154, 0, 10, 42, 180, 1, 10, 167, 0, 8, 42, 180, 1, 19, 133, 173]
abbrev dktX3_tried_1 : List UInt8 := dkwX3_tried_1 ++ []
def dkwX3_tried_0 : List UInt8 := [42, 27, 182, 1, 54, 153, 0, 12, 28, 3, 4, 184, 0, 194, 154, 0, 7, 20, 1, 57, 173, 42, 27]
abbrev dktX3_tried_0 : List UInt8 := dkwX3_tried_0 ++ dktX3_tried_1
theorem dksX3_tried_0 : cX3_tried.data.toList.drop 0 = dktX3_tried_0 := by decide +kernel
theorem dksX3_tried_1 : cX3_tried.data.toList.drop 23 = dktX3_tried_1 := dk_seg dksX3_tried_0 23 rfl rfl
theorem dX3_tried_0 : decode cX3_tried 0 = .ok (.aload_n 0, 1) := dk_42 (dk_at dksX3_tried_0 0 rfl rfl)
theorem dX3_tried_1 : decode cX3_tried 1 = .ok (.iload_n 1, 1) := dk_27 (dk_at dksX3_tried_0 1 rfl rfl)
theorem dX3_tried_2 : decode cX3_tried 2 = .ok (.invokevirtual 310, 3) := dk_182 1 54 (dk_at dksX3_tried_0 2 rfl rfl)
theorem dX3_tried_5 : decode cX3_tried 5 = .ok (.ifCond .eq 12, 3) := dk_153 0 12 (dk_at dksX3_tried_0 5 rfl rfl)
theorem dX3_tried_8 : decode cX3_tried 8 = .ok (.iload_n 2, 1) := dk_28 (dk_at dksX3_tried_0 8 rfl rfl)
theorem dX3_tried_9 : decode cX3_tried 9 = .ok (.iconst 0, 1) := dk_3 (dk_at dksX3_tried_0 9 rfl rfl)
theorem dX3_tried_10 : decode cX3_tried 10 = .ok (.iconst 1, 1) := dk_4 (dk_at dksX3_tried_0 10 rfl rfl)
theorem dX3_tried_11 : decode cX3_tried 11 = .ok (.invokestatic 194, 3) := dk_184 0 194 (dk_at dksX3_tried_0 11 rfl rfl)
theorem dX3_tried_14 : decode cX3_tried 14 = .ok (.ifCond .ne 7, 3) := dk_154 0 7 (dk_at dksX3_tried_0 14 rfl rfl)
theorem dX3_tried_17 : decode cX3_tried 17 = .ok (.ldc2_w 313, 3) := dk_20 1 57 (dk_at dksX3_tried_0 17 rfl rfl)
theorem dX3_tried_20 : decode cX3_tried 20 = .ok (.lreturn, 1) := dk_173 (dk_at dksX3_tried_0 20 rfl rfl)
theorem dX3_tried_21 : decode cX3_tried 21 = .ok (.aload_n 0, 1) := dk_42 (dk_at dksX3_tried_0 21 rfl rfl)
theorem dX3_tried_22 : decode cX3_tried 22 = .ok (.iload_n 1, 1) := dk_27 (dk_at dksX3_tried_0 22 rfl rfl)
theorem dX3_tried_23 : decode cX3_tried 23 = .ok (.invokevirtual 298, 3) := dk_182 1 42 (dk_at dksX3_tried_1 0 rfl rfl)
theorem dX3_tried_26 : decode cX3_tried 26 = .ok (.iload_n 2, 1) := dk_28 (dk_at dksX3_tried_1 3 rfl rfl)
theorem dX3_tried_27 : decode cX3_tried 27 = .ok (.ifCond .ne 10, 3) := dk_154 0 10 (dk_at dksX3_tried_1 4 rfl rfl)
theorem dX3_tried_30 : decode cX3_tried 30 = .ok (.aload_n 0, 1) := dk_42 (dk_at dksX3_tried_1 7 rfl rfl)
theorem dX3_tried_31 : decode cX3_tried 31 = .ok (.getfield 266, 3) := dk_180 1 10 (dk_at dksX3_tried_1 8 rfl rfl)
theorem dX3_tried_34 : decode cX3_tried 34 = .ok (.goto 8, 3) := dk_167 0 8 (dk_at dksX3_tried_1 11 rfl rfl)
theorem dX3_tried_37 : decode cX3_tried 37 = .ok (.aload_n 0, 1) := dk_42 (dk_at dksX3_tried_1 14 rfl rfl)
theorem dX3_tried_38 : decode cX3_tried 38 = .ok (.getfield 275, 3) := dk_180 1 19 (dk_at dksX3_tried_1 15 rfl rfl)
theorem dX3_tried_41 : decode cX3_tried 41 = .ok (.i2l, 1) := dk_133 (dk_at dksX3_tried_1 18 rfl rfl)
theorem dX3_tried_42 : decode cX3_tried 42 = .ok (.lreturn, 1) := dk_173 (dk_at dksX3_tried_1 19 rfl rfl)
def dkwX3_isNew_2 : List UInt8 := [154, 0, 7, 4, 167, 0, 4, 3, 61, 132, 3, 1, 167, 255, 218, 28, 172]
abbrev dktX3_isNew_2 : List UInt8 := dkwX3_isNew_2 ++ []
def dkwX3_isNew_1 : List UInt8 := [180, 0, 191, 162, 0, 36, 28, 153, 0, 24, 27, 29, 122, 4, 126, 153, 0, 12, 42, 180, 0, 25, 29, 51]
abbrev dktX3_isNew_1 : List UInt8 := dkwX3_isNew_1 ++ dktX3_isNew_2
def dkwX3_isNew_0 : List UInt8 := [27, 3, 4, 42, 180, 0, 191, 120, 4, 100, 184, 0, 194, 154, 0, 5, 3, 172, 4, 61, 3, 62, 29, 42]
abbrev dktX3_isNew_0 : List UInt8 := dkwX3_isNew_0 ++ dktX3_isNew_1
theorem dksX3_isNew_0 : cX3_isNew.data.toList.drop 0 = dktX3_isNew_0 := by decide +kernel
theorem dksX3_isNew_1 : cX3_isNew.data.toList.drop 24 = dktX3_isNew_1 := dk_seg dksX3_isNew_0 24 rfl rfl
theorem dksX3_isNew_2 : cX3_isNew.data.toList.drop 48 = dktX3_isNew_2 := dk_seg dksX3_isNew_1 24 rfl rfl
theorem dX3_isNew_0 : decode cX3_isNew 0 = .ok (.iload_n 1, 1) := dk_27 (dk_at dksX3_isNew_0 0 rfl rfl)
theorem dX3_isNew_1 : decode cX3_isNew 1 = .ok (.iconst 0, 1) := dk_3 (dk_at dksX3_isNew_0 1 rfl rfl)
theorem dX3_isNew_2 : decode cX3_isNew 2 = .ok (.iconst 1, 1) := dk_4 (dk_at dksX3_isNew_0 2 rfl rfl)
theorem dX3_isNew_3 : decode cX3_isNew 3 = .ok (.aload_n 0, 1) := dk_42 (dk_at dksX3_isNew_0 3 rfl rfl)
theorem dX3_isNew_4 : decode cX3_isNew 4 = .ok (.getfield 191, 3) := dk_180 0 191 (dk_at dksX3_isNew_0 4 rfl rfl)
theorem dX3_isNew_7 : decode cX3_isNew 7 = .ok (.ishl, 1) := dk_120 (dk_at dksX3_isNew_0 7 rfl rfl)
theorem dX3_isNew_8 : decode cX3_isNew 8 = .ok (.iconst 1, 1) := dk_4 (dk_at dksX3_isNew_0 8 rfl rfl)
theorem dX3_isNew_9 : decode cX3_isNew 9 = .ok (.isub, 1) := dk_100 (dk_at dksX3_isNew_0 9 rfl rfl)
theorem dX3_isNew_10 : decode cX3_isNew 10 = .ok (.invokestatic 194, 3) := dk_184 0 194 (dk_at dksX3_isNew_0 10 rfl rfl)
theorem dX3_isNew_13 : decode cX3_isNew 13 = .ok (.ifCond .ne 5, 3) := dk_154 0 5 (dk_at dksX3_isNew_0 13 rfl rfl)
theorem dX3_isNew_16 : decode cX3_isNew 16 = .ok (.iconst 0, 1) := dk_3 (dk_at dksX3_isNew_0 16 rfl rfl)
theorem dX3_isNew_17 : decode cX3_isNew 17 = .ok (.ireturn, 1) := dk_172 (dk_at dksX3_isNew_0 17 rfl rfl)
theorem dX3_isNew_18 : decode cX3_isNew 18 = .ok (.iconst 1, 1) := dk_4 (dk_at dksX3_isNew_0 18 rfl rfl)
theorem dX3_isNew_19 : decode cX3_isNew 19 = .ok (.istore_n 2, 1) := dk_61 (dk_at dksX3_isNew_0 19 rfl rfl)
theorem dX3_isNew_20 : decode cX3_isNew 20 = .ok (.iconst 0, 1) := dk_3 (dk_at dksX3_isNew_0 20 rfl rfl)
theorem dX3_isNew_21 : decode cX3_isNew 21 = .ok (.istore_n 3, 1) := dk_62 (dk_at dksX3_isNew_0 21 rfl rfl)
theorem dX3_isNew_22 : decode cX3_isNew 22 = .ok (.iload_n 3, 1) := dk_29 (dk_at dksX3_isNew_0 22 rfl rfl)
theorem dX3_isNew_23 : decode cX3_isNew 23 = .ok (.aload_n 0, 1) := dk_42 (dk_at dksX3_isNew_0 23 rfl rfl)
theorem dX3_isNew_24 : decode cX3_isNew 24 = .ok (.getfield 191, 3) := dk_180 0 191 (dk_at dksX3_isNew_1 0 rfl rfl)
theorem dX3_isNew_27 : decode cX3_isNew 27 = .ok (.if_icmp .ge 36, 3) := dk_162 0 36 (dk_at dksX3_isNew_1 3 rfl rfl)
theorem dX3_isNew_30 : decode cX3_isNew 30 = .ok (.iload_n 2, 1) := dk_28 (dk_at dksX3_isNew_1 6 rfl rfl)
theorem dX3_isNew_31 : decode cX3_isNew 31 = .ok (.ifCond .eq 24, 3) := dk_153 0 24 (dk_at dksX3_isNew_1 7 rfl rfl)
theorem dX3_isNew_34 : decode cX3_isNew 34 = .ok (.iload_n 1, 1) := dk_27 (dk_at dksX3_isNew_1 10 rfl rfl)
theorem dX3_isNew_35 : decode cX3_isNew 35 = .ok (.iload_n 3, 1) := dk_29 (dk_at dksX3_isNew_1 11 rfl rfl)
theorem dX3_isNew_36 : decode cX3_isNew 36 = .ok (.ishr, 1) := dk_122 (dk_at dksX3_isNew_1 12 rfl rfl)
theorem dX3_isNew_37 : decode cX3_isNew 37 = .ok (.iconst 1, 1) := dk_4 (dk_at dksX3_isNew_1 13 rfl rfl)
theorem dX3_isNew_38 : decode cX3_isNew 38 = .ok (.iand, 1) := dk_126 (dk_at dksX3_isNew_1 14 rfl rfl)
theorem dX3_isNew_39 : decode cX3_isNew 39 = .ok (.ifCond .eq 12, 3) := dk_153 0 12 (dk_at dksX3_isNew_1 15 rfl rfl)
theorem dX3_isNew_42 : decode cX3_isNew 42 = .ok (.aload_n 0, 1) := dk_42 (dk_at dksX3_isNew_1 18 rfl rfl)
theorem dX3_isNew_43 : decode cX3_isNew 43 = .ok (.getfield 25, 3) := dk_180 0 25 (dk_at dksX3_isNew_1 19 rfl rfl)
theorem dX3_isNew_46 : decode cX3_isNew 46 = .ok (.iload_n 3, 1) := dk_29 (dk_at dksX3_isNew_1 22 rfl rfl)
theorem dX3_isNew_47 : decode cX3_isNew 47 = .ok (.baload, 1) := dk_51 (dk_at dksX3_isNew_1 23 rfl rfl)
theorem dX3_isNew_48 : decode cX3_isNew 48 = .ok (.ifCond .ne 7, 3) := dk_154 0 7 (dk_at dksX3_isNew_2 0 rfl rfl)
theorem dX3_isNew_51 : decode cX3_isNew 51 = .ok (.iconst 1, 1) := dk_4 (dk_at dksX3_isNew_2 3 rfl rfl)
theorem dX3_isNew_52 : decode cX3_isNew 52 = .ok (.goto 4, 3) := dk_167 0 4 (dk_at dksX3_isNew_2 4 rfl rfl)
theorem dX3_isNew_55 : decode cX3_isNew 55 = .ok (.iconst 0, 1) := dk_3 (dk_at dksX3_isNew_2 7 rfl rfl)
theorem dX3_isNew_56 : decode cX3_isNew 56 = .ok (.istore_n 2, 1) := dk_61 (dk_at dksX3_isNew_2 8 rfl rfl)
theorem dX3_isNew_57 : decode cX3_isNew 57 = .ok (.iinc 3 1, 3) := dk_132 3 1 (dk_at dksX3_isNew_2 9 rfl rfl)
theorem dX3_isNew_60 : decode cX3_isNew 60 = .ok (.goto (-38), 3) := dk_167 255 218 (dk_at dksX3_isNew_2 12 rfl rfl)
theorem dX3_isNew_63 : decode cX3_isNew 63 = .ok (.iload_n 2, 1) := dk_28 (dk_at dksX3_isNew_2 15 rfl rfl)
theorem dX3_isNew_64 : decode cX3_isNew 64 = .ok (.ireturn, 1) := dk_172 (dk_at dksX3_isNew_2 16 rfl rfl)
def dkwX3_best_11 : List UInt8 := [167, 0, 21, 21, 4, 6, 160, 0, 10, 42, 180, 1, 10, 167, 0, 8, 42, 180, 1, 19, 133, 173]
abbrev dktX3_best_11 : List UInt8 := dkwX3_best_11 ++ []
def dkwX3_best_10 : List UInt8 := [160, 0, 9, 21, 6, 133, 167, 0, 39, 21, 4, 5, 160, 0, 15, 21, 6, 184, 1, 60, 21, 5, 104, 133]
abbrev dktX3_best_10 : List UInt8 := dkwX3_best_10 ++ dktX3_best_11
def dkwX3_best_9 : List UInt8 := [20, 1, 57, 173, 42, 21, 6, 182, 1, 42, 21, 4, 154, 0, 8, 22, 7, 167, 0, 51, 21, 4, 4]
abbrev dktX3_best_9 : List UInt8 := dkwX3_best_9 ++ dktX3_best_10
def dkwX3_best_8 : List UInt8 := [167, 0, 11, 21, 9, 54, 6, 22, 10, 55, 7, 132, 9, 1, 167, 255, 128, 21, 6, 2, 160, 0, 7]
abbrev dktX3_best_8 : List UInt8 := dkwX3_best_8 ++ dktX3_best_9
def dkwX3_best_7 : List UInt8 := [157, 0, 35, 22, 10, 22, 7, 148, 154, 0, 19, 21, 9, 184, 1, 60, 21, 6, 184, 1, 60, 161, 0, 6]
abbrev dktX3_best_7 : List UInt8 := dkwX3_best_7 ++ dktX3_best_8
def dkwX3_best_6 : List UInt8 := [180, 1, 19, 133, 105, 42, 180, 1, 10, 97, 55, 10, 21, 6, 2, 159, 0, 35, 22, 10, 22, 7, 148]
abbrev dktX3_best_6 : List UInt8 := dkwX3_best_6 ++ dktX3_best_7
def dkwX3_best_5 : List UInt8 := [182, 0, 205, 42, 7, 182, 0, 209, 164, 0, 6, 167, 0, 70, 42, 21, 9, 182, 1, 42, 29, 133, 42]
abbrev dktX3_best_5 : List UInt8 := dkwX3_best_5 ++ dktX3_best_6
def dkwX3_best_4 : List UInt8 := [184, 1, 60, 21, 5, 104, 28, 163, 0, 96, 42, 21, 9, 182, 1, 54, 153, 0, 87, 42, 21, 9]
abbrev dktX3_best_4 : List UInt8 := dkwX3_best_4 ++ dktX3_best_5
def dkwX3_best_3 : List UInt8 := [54, 9, 21, 9, 4, 42, 180, 0, 191, 120, 162, 0, 123, 21, 9, 184, 1, 60, 27, 163, 0, 108, 21, 9]
abbrev dktX3_best_3 : List UInt8 := dkwX3_best_3 ++ dktX3_best_4
def dkwX3_best_2 : List UInt8 := [16, 10, 182, 0, 209, 16, 100, 42, 16, 11, 182, 0, 209, 104, 96, 54, 5, 2, 54, 6, 9, 55, 7, 3]
abbrev dktX3_best_2 : List UInt8 := dkwX3_best_2 ++ dktX3_best_3
def dkwX3_best_1 : List UInt8 := [17, 39, 16, 184, 0, 194, 153, 0, 13, 21, 4, 3, 7, 184, 0, 194, 154, 0, 7, 20, 1, 57, 173, 42]
abbrev dktX3_best_1 : List UInt8 := dkwX3_best_1 ++ dktX3_best_2
def dkwX3_best_0 : List UInt8 := [27, 3, 7, 184, 0, 194, 153, 0, 35, 28, 3, 19, 1, 59, 184, 0, 194, 153, 0, 24, 29, 3]
abbrev dktX3_best_0 : List UInt8 := dkwX3_best_0 ++ dktX3_best_1
theorem dksX3_best_0 : cX3_best.data.toList.drop 0 = dktX3_best_0 := by decide +kernel
theorem dksX3_best_1 : cX3_best.data.toList.drop 22 = dktX3_best_1 := dk_seg dksX3_best_0 22 rfl rfl
theorem dksX3_best_2 : cX3_best.data.toList.drop 46 = dktX3_best_2 := dk_seg dksX3_best_1 24 rfl rfl
theorem dksX3_best_3 : cX3_best.data.toList.drop 70 = dktX3_best_3 := dk_seg dksX3_best_2 24 rfl rfl
theorem dksX3_best_4 : cX3_best.data.toList.drop 94 = dktX3_best_4 := dk_seg dksX3_best_3 24 rfl rfl
theorem dksX3_best_5 : cX3_best.data.toList.drop 116 = dktX3_best_5 := dk_seg dksX3_best_4 22 rfl rfl
theorem dksX3_best_6 : cX3_best.data.toList.drop 139 = dktX3_best_6 := dk_seg dksX3_best_5 23 rfl rfl
theorem dksX3_best_7 : cX3_best.data.toList.drop 162 = dktX3_best_7 := dk_seg dksX3_best_6 23 rfl rfl
theorem dksX3_best_8 : cX3_best.data.toList.drop 186 = dktX3_best_8 := dk_seg dksX3_best_7 24 rfl rfl
theorem dksX3_best_9 : cX3_best.data.toList.drop 209 = dktX3_best_9 := dk_seg dksX3_best_8 23 rfl rfl
theorem dksX3_best_10 : cX3_best.data.toList.drop 232 = dktX3_best_10 := dk_seg dksX3_best_9 23 rfl rfl
theorem dksX3_best_11 : cX3_best.data.toList.drop 256 = dktX3_best_11 := dk_seg dksX3_best_10 24 rfl rfl
theorem dX3_best_0 : decode cX3_best 0 = .ok (.iload_n 1, 1) := dk_27 (dk_at dksX3_best_0 0 rfl rfl)
theorem dX3_best_1 : decode cX3_best 1 = .ok (.iconst 0, 1) := dk_3 (dk_at dksX3_best_0 1 rfl rfl)
theorem dX3_best_2 : decode cX3_best 2 = .ok (.iconst 4, 1) := dk_7 (dk_at dksX3_best_0 2 rfl rfl)
theorem dX3_best_3 : decode cX3_best 3 = .ok (.invokestatic 194, 3) := dk_184 0 194 (dk_at dksX3_best_0 3 rfl rfl)
theorem dX3_best_6 : decode cX3_best 6 = .ok (.ifCond .eq 35, 3) := dk_153 0 35 (dk_at dksX3_best_0 6 rfl rfl)
theorem dX3_best_9 : decode cX3_best 9 = .ok (.iload_n 2, 1) := dk_28 (dk_at dksX3_best_0 9 rfl rfl)
theorem dX3_best_10 : decode cX3_best 10 = .ok (.iconst 0, 1) := dk_3 (dk_at dksX3_best_0 10 rfl rfl)
theorem dX3_best_11 : decode cX3_best 11 = .ok (.ldc_w 315, 3) := dk_19 1 59 (dk_at dksX3_best_0 11 rfl rfl)
theorem dX3_best_14 : decode cX3_best 14 = .ok (.invokestatic 194, 3) := dk_184 0 194 (dk_at dksX3_best_0 14 rfl rfl)
theorem dX3_best_17 : decode cX3_best 17 = .ok (.ifCond .eq 24, 3) := dk_153 0 24 (dk_at dksX3_best_0 17 rfl rfl)
theorem dX3_best_20 : decode cX3_best 20 = .ok (.iload_n 3, 1) := dk_29 (dk_at dksX3_best_0 20 rfl rfl)
theorem dX3_best_21 : decode cX3_best 21 = .ok (.iconst 0, 1) := dk_3 (dk_at dksX3_best_0 21 rfl rfl)
theorem dX3_best_22 : decode cX3_best 22 = .ok (.sipush 10000, 3) := dk_17 39 16 (dk_at dksX3_best_1 0 rfl rfl)
theorem dX3_best_25 : decode cX3_best 25 = .ok (.invokestatic 194, 3) := dk_184 0 194 (dk_at dksX3_best_1 3 rfl rfl)
theorem dX3_best_28 : decode cX3_best 28 = .ok (.ifCond .eq 13, 3) := dk_153 0 13 (dk_at dksX3_best_1 6 rfl rfl)
theorem dX3_best_31 : decode cX3_best 31 = .ok (.iload 4, 2) := dk_21 4 (dk_at dksX3_best_1 9 rfl rfl)
theorem dX3_best_33 : decode cX3_best 33 = .ok (.iconst 0, 1) := dk_3 (dk_at dksX3_best_1 11 rfl rfl)
theorem dX3_best_34 : decode cX3_best 34 = .ok (.iconst 4, 1) := dk_7 (dk_at dksX3_best_1 12 rfl rfl)
theorem dX3_best_35 : decode cX3_best 35 = .ok (.invokestatic 194, 3) := dk_184 0 194 (dk_at dksX3_best_1 13 rfl rfl)
theorem dX3_best_38 : decode cX3_best 38 = .ok (.ifCond .ne 7, 3) := dk_154 0 7 (dk_at dksX3_best_1 16 rfl rfl)
theorem dX3_best_41 : decode cX3_best 41 = .ok (.ldc2_w 313, 3) := dk_20 1 57 (dk_at dksX3_best_1 19 rfl rfl)
theorem dX3_best_44 : decode cX3_best 44 = .ok (.lreturn, 1) := dk_173 (dk_at dksX3_best_1 22 rfl rfl)
theorem dX3_best_45 : decode cX3_best 45 = .ok (.aload_n 0, 1) := dk_42 (dk_at dksX3_best_1 23 rfl rfl)
theorem dX3_best_46 : decode cX3_best 46 = .ok (.bipush 10, 2) := dk_16 10 (dk_at dksX3_best_2 0 rfl rfl)
theorem dX3_best_48 : decode cX3_best 48 = .ok (.invokevirtual 209, 3) := dk_182 0 209 (dk_at dksX3_best_2 2 rfl rfl)
theorem dX3_best_51 : decode cX3_best 51 = .ok (.bipush 100, 2) := dk_16 100 (dk_at dksX3_best_2 5 rfl rfl)
theorem dX3_best_53 : decode cX3_best 53 = .ok (.aload_n 0, 1) := dk_42 (dk_at dksX3_best_2 7 rfl rfl)
theorem dX3_best_54 : decode cX3_best 54 = .ok (.bipush 11, 2) := dk_16 11 (dk_at dksX3_best_2 8 rfl rfl)
theorem dX3_best_56 : decode cX3_best 56 = .ok (.invokevirtual 209, 3) := dk_182 0 209 (dk_at dksX3_best_2 10 rfl rfl)
theorem dX3_best_59 : decode cX3_best 59 = .ok (.imul, 1) := dk_104 (dk_at dksX3_best_2 13 rfl rfl)
theorem dX3_best_60 : decode cX3_best 60 = .ok (.iadd, 1) := dk_96 (dk_at dksX3_best_2 14 rfl rfl)
theorem dX3_best_61 : decode cX3_best 61 = .ok (.istore 5, 2) := dk_54 5 (dk_at dksX3_best_2 15 rfl rfl)
theorem dX3_best_63 : decode cX3_best 63 = .ok (.iconst (-1), 1) := dk_2 (dk_at dksX3_best_2 17 rfl rfl)
theorem dX3_best_64 : decode cX3_best 64 = .ok (.istore 6, 2) := dk_54 6 (dk_at dksX3_best_2 18 rfl rfl)
theorem dX3_best_66 : decode cX3_best 66 = .ok (.lconst 0, 1) := dk_9 (dk_at dksX3_best_2 20 rfl rfl)
theorem dX3_best_67 : decode cX3_best 67 = .ok (.lstore 7, 2) := dk_55 7 (dk_at dksX3_best_2 21 rfl rfl)
theorem dX3_best_69 : decode cX3_best 69 = .ok (.iconst 0, 1) := dk_3 (dk_at dksX3_best_2 23 rfl rfl)
theorem dX3_best_70 : decode cX3_best 70 = .ok (.istore 9, 2) := dk_54 9 (dk_at dksX3_best_3 0 rfl rfl)
theorem dX3_best_72 : decode cX3_best 72 = .ok (.iload 9, 2) := dk_21 9 (dk_at dksX3_best_3 2 rfl rfl)
theorem dX3_best_74 : decode cX3_best 74 = .ok (.iconst 1, 1) := dk_4 (dk_at dksX3_best_3 4 rfl rfl)
theorem dX3_best_75 : decode cX3_best 75 = .ok (.aload_n 0, 1) := dk_42 (dk_at dksX3_best_3 5 rfl rfl)
theorem dX3_best_76 : decode cX3_best 76 = .ok (.getfield 191, 3) := dk_180 0 191 (dk_at dksX3_best_3 6 rfl rfl)
theorem dX3_best_79 : decode cX3_best 79 = .ok (.ishl, 1) := dk_120 (dk_at dksX3_best_3 9 rfl rfl)
theorem dX3_best_80 : decode cX3_best 80 = .ok (.if_icmp .ge 123, 3) := dk_162 0 123 (dk_at dksX3_best_3 10 rfl rfl)
theorem dX3_best_83 : decode cX3_best 83 = .ok (.iload 9, 2) := dk_21 9 (dk_at dksX3_best_3 13 rfl rfl)
theorem dX3_best_85 : decode cX3_best 85 = .ok (.invokestatic 316, 3) := dk_184 1 60 (dk_at dksX3_best_3 15 rfl rfl)
theorem dX3_best_88 : decode cX3_best 88 = .ok (.iload_n 1, 1) := dk_27 (dk_at dksX3_best_3 18 rfl rfl)
theorem dX3_best_89 : decode cX3_best 89 = .ok (.if_icmp .gt 108, 3) := dk_163 0 108 (dk_at dksX3_best_3 19 rfl rfl)
theorem dX3_best_92 : decode cX3_best 92 = .ok (.iload 9, 2) := dk_21 9 (dk_at dksX3_best_3 22 rfl rfl)
theorem dX3_best_94 : decode cX3_best 94 = .ok (.invokestatic 316, 3) := dk_184 1 60 (dk_at dksX3_best_4 0 rfl rfl)
theorem dX3_best_97 : decode cX3_best 97 = .ok (.iload 5, 2) := dk_21 5 (dk_at dksX3_best_4 3 rfl rfl)
theorem dX3_best_99 : decode cX3_best 99 = .ok (.imul, 1) := dk_104 (dk_at dksX3_best_4 5 rfl rfl)
theorem dX3_best_100 : decode cX3_best 100 = .ok (.iload_n 2, 1) := dk_28 (dk_at dksX3_best_4 6 rfl rfl)
theorem dX3_best_101 : decode cX3_best 101 = .ok (.if_icmp .gt 96, 3) := dk_163 0 96 (dk_at dksX3_best_4 7 rfl rfl)
theorem dX3_best_104 : decode cX3_best 104 = .ok (.aload_n 0, 1) := dk_42 (dk_at dksX3_best_4 10 rfl rfl)
theorem dX3_best_105 : decode cX3_best 105 = .ok (.iload 9, 2) := dk_21 9 (dk_at dksX3_best_4 11 rfl rfl)
theorem dX3_best_107 : decode cX3_best 107 = .ok (.invokevirtual 310, 3) := dk_182 1 54 (dk_at dksX3_best_4 13 rfl rfl)
theorem dX3_best_110 : decode cX3_best 110 = .ok (.ifCond .eq 87, 3) := dk_153 0 87 (dk_at dksX3_best_4 16 rfl rfl)
theorem dX3_best_113 : decode cX3_best 113 = .ok (.aload_n 0, 1) := dk_42 (dk_at dksX3_best_4 19 rfl rfl)
theorem dX3_best_114 : decode cX3_best 114 = .ok (.iload 9, 2) := dk_21 9 (dk_at dksX3_best_4 20 rfl rfl)
theorem dX3_best_116 : decode cX3_best 116 = .ok (.invokevirtual 205, 3) := dk_182 0 205 (dk_at dksX3_best_5 0 rfl rfl)
theorem dX3_best_119 : decode cX3_best 119 = .ok (.aload_n 0, 1) := dk_42 (dk_at dksX3_best_5 3 rfl rfl)
theorem dX3_best_120 : decode cX3_best 120 = .ok (.iconst 4, 1) := dk_7 (dk_at dksX3_best_5 4 rfl rfl)
theorem dX3_best_121 : decode cX3_best 121 = .ok (.invokevirtual 209, 3) := dk_182 0 209 (dk_at dksX3_best_5 5 rfl rfl)
theorem dX3_best_124 : decode cX3_best 124 = .ok (.if_icmp .le 6, 3) := dk_164 0 6 (dk_at dksX3_best_5 8 rfl rfl)
theorem dX3_best_127 : decode cX3_best 127 = .ok (.goto 70, 3) := dk_167 0 70 (dk_at dksX3_best_5 11 rfl rfl)
theorem dX3_best_130 : decode cX3_best 130 = .ok (.aload_n 0, 1) := dk_42 (dk_at dksX3_best_5 14 rfl rfl)
theorem dX3_best_131 : decode cX3_best 131 = .ok (.iload 9, 2) := dk_21 9 (dk_at dksX3_best_5 15 rfl rfl)
theorem dX3_best_133 : decode cX3_best 133 = .ok (.invokevirtual 298, 3) := dk_182 1 42 (dk_at dksX3_best_5 17 rfl rfl)
theorem dX3_best_136 : decode cX3_best 136 = .ok (.iload_n 3, 1) := dk_29 (dk_at dksX3_best_5 20 rfl rfl)
theorem dX3_best_137 : decode cX3_best 137 = .ok (.i2l, 1) := dk_133 (dk_at dksX3_best_5 21 rfl rfl)
theorem dX3_best_138 : decode cX3_best 138 = .ok (.aload_n 0, 1) := dk_42 (dk_at dksX3_best_5 22 rfl rfl)
theorem dX3_best_139 : decode cX3_best 139 = .ok (.getfield 275, 3) := dk_180 1 19 (dk_at dksX3_best_6 0 rfl rfl)
theorem dX3_best_142 : decode cX3_best 142 = .ok (.i2l, 1) := dk_133 (dk_at dksX3_best_6 3 rfl rfl)
theorem dX3_best_143 : decode cX3_best 143 = .ok (.lmul, 1) := dk_105 (dk_at dksX3_best_6 4 rfl rfl)
theorem dX3_best_144 : decode cX3_best 144 = .ok (.aload_n 0, 1) := dk_42 (dk_at dksX3_best_6 5 rfl rfl)
theorem dX3_best_145 : decode cX3_best 145 = .ok (.getfield 266, 3) := dk_180 1 10 (dk_at dksX3_best_6 6 rfl rfl)
theorem dX3_best_148 : decode cX3_best 148 = .ok (.ladd, 1) := dk_97 (dk_at dksX3_best_6 9 rfl rfl)
theorem dX3_best_149 : decode cX3_best 149 = .ok (.lstore 10, 2) := dk_55 10 (dk_at dksX3_best_6 10 rfl rfl)
theorem dX3_best_151 : decode cX3_best 151 = .ok (.iload 6, 2) := dk_21 6 (dk_at dksX3_best_6 12 rfl rfl)
theorem dX3_best_153 : decode cX3_best 153 = .ok (.iconst (-1), 1) := dk_2 (dk_at dksX3_best_6 14 rfl rfl)
theorem dX3_best_154 : decode cX3_best 154 = .ok (.if_icmp .eq 35, 3) := dk_159 0 35 (dk_at dksX3_best_6 15 rfl rfl)
theorem dX3_best_157 : decode cX3_best 157 = .ok (.lload 10, 2) := dk_22 10 (dk_at dksX3_best_6 18 rfl rfl)
theorem dX3_best_159 : decode cX3_best 159 = .ok (.lload 7, 2) := dk_22 7 (dk_at dksX3_best_6 20 rfl rfl)
theorem dX3_best_161 : decode cX3_best 161 = .ok (.lcmp, 1) := dk_148 (dk_at dksX3_best_6 22 rfl rfl)
theorem dX3_best_162 : decode cX3_best 162 = .ok (.ifCond .gt 35, 3) := dk_157 0 35 (dk_at dksX3_best_7 0 rfl rfl)
theorem dX3_best_165 : decode cX3_best 165 = .ok (.lload 10, 2) := dk_22 10 (dk_at dksX3_best_7 3 rfl rfl)
theorem dX3_best_167 : decode cX3_best 167 = .ok (.lload 7, 2) := dk_22 7 (dk_at dksX3_best_7 5 rfl rfl)
theorem dX3_best_169 : decode cX3_best 169 = .ok (.lcmp, 1) := dk_148 (dk_at dksX3_best_7 7 rfl rfl)
theorem dX3_best_170 : decode cX3_best 170 = .ok (.ifCond .ne 19, 3) := dk_154 0 19 (dk_at dksX3_best_7 8 rfl rfl)
theorem dX3_best_173 : decode cX3_best 173 = .ok (.iload 9, 2) := dk_21 9 (dk_at dksX3_best_7 11 rfl rfl)
theorem dX3_best_175 : decode cX3_best 175 = .ok (.invokestatic 316, 3) := dk_184 1 60 (dk_at dksX3_best_7 13 rfl rfl)
theorem dX3_best_178 : decode cX3_best 178 = .ok (.iload 6, 2) := dk_21 6 (dk_at dksX3_best_7 16 rfl rfl)
theorem dX3_best_180 : decode cX3_best 180 = .ok (.invokestatic 316, 3) := dk_184 1 60 (dk_at dksX3_best_7 18 rfl rfl)
theorem dX3_best_183 : decode cX3_best 183 = .ok (.if_icmp .lt 6, 3) := dk_161 0 6 (dk_at dksX3_best_7 21 rfl rfl)
theorem dX3_best_186 : decode cX3_best 186 = .ok (.goto 11, 3) := dk_167 0 11 (dk_at dksX3_best_8 0 rfl rfl)
theorem dX3_best_189 : decode cX3_best 189 = .ok (.iload 9, 2) := dk_21 9 (dk_at dksX3_best_8 3 rfl rfl)
theorem dX3_best_191 : decode cX3_best 191 = .ok (.istore 6, 2) := dk_54 6 (dk_at dksX3_best_8 5 rfl rfl)
theorem dX3_best_193 : decode cX3_best 193 = .ok (.lload 10, 2) := dk_22 10 (dk_at dksX3_best_8 7 rfl rfl)
theorem dX3_best_195 : decode cX3_best 195 = .ok (.lstore 7, 2) := dk_55 7 (dk_at dksX3_best_8 9 rfl rfl)
theorem dX3_best_197 : decode cX3_best 197 = .ok (.iinc 9 1, 3) := dk_132 9 1 (dk_at dksX3_best_8 11 rfl rfl)
theorem dX3_best_200 : decode cX3_best 200 = .ok (.goto (-128), 3) := dk_167 255 128 (dk_at dksX3_best_8 14 rfl rfl)
theorem dX3_best_203 : decode cX3_best 203 = .ok (.iload 6, 2) := dk_21 6 (dk_at dksX3_best_8 17 rfl rfl)
theorem dX3_best_205 : decode cX3_best 205 = .ok (.iconst (-1), 1) := dk_2 (dk_at dksX3_best_8 19 rfl rfl)
theorem dX3_best_206 : decode cX3_best 206 = .ok (.if_icmp .ne 7, 3) := dk_160 0 7 (dk_at dksX3_best_8 20 rfl rfl)
theorem dX3_best_209 : decode cX3_best 209 = .ok (.ldc2_w 313, 3) := dk_20 1 57 (dk_at dksX3_best_9 0 rfl rfl)
theorem dX3_best_212 : decode cX3_best 212 = .ok (.lreturn, 1) := dk_173 (dk_at dksX3_best_9 3 rfl rfl)
theorem dX3_best_213 : decode cX3_best 213 = .ok (.aload_n 0, 1) := dk_42 (dk_at dksX3_best_9 4 rfl rfl)
theorem dX3_best_214 : decode cX3_best 214 = .ok (.iload 6, 2) := dk_21 6 (dk_at dksX3_best_9 5 rfl rfl)
theorem dX3_best_216 : decode cX3_best 216 = .ok (.invokevirtual 298, 3) := dk_182 1 42 (dk_at dksX3_best_9 7 rfl rfl)
theorem dX3_best_219 : decode cX3_best 219 = .ok (.iload 4, 2) := dk_21 4 (dk_at dksX3_best_9 10 rfl rfl)
theorem dX3_best_221 : decode cX3_best 221 = .ok (.ifCond .ne 8, 3) := dk_154 0 8 (dk_at dksX3_best_9 12 rfl rfl)
theorem dX3_best_224 : decode cX3_best 224 = .ok (.lload 7, 2) := dk_22 7 (dk_at dksX3_best_9 15 rfl rfl)
theorem dX3_best_226 : decode cX3_best 226 = .ok (.goto 51, 3) := dk_167 0 51 (dk_at dksX3_best_9 17 rfl rfl)
theorem dX3_best_229 : decode cX3_best 229 = .ok (.iload 4, 2) := dk_21 4 (dk_at dksX3_best_9 20 rfl rfl)
theorem dX3_best_231 : decode cX3_best 231 = .ok (.iconst 1, 1) := dk_4 (dk_at dksX3_best_9 22 rfl rfl)
theorem dX3_best_232 : decode cX3_best 232 = .ok (.if_icmp .ne 9, 3) := dk_160 0 9 (dk_at dksX3_best_10 0 rfl rfl)
theorem dX3_best_235 : decode cX3_best 235 = .ok (.iload 6, 2) := dk_21 6 (dk_at dksX3_best_10 3 rfl rfl)
theorem dX3_best_237 : decode cX3_best 237 = .ok (.i2l, 1) := dk_133 (dk_at dksX3_best_10 5 rfl rfl)
theorem dX3_best_238 : decode cX3_best 238 = .ok (.goto 39, 3) := dk_167 0 39 (dk_at dksX3_best_10 6 rfl rfl)
theorem dX3_best_241 : decode cX3_best 241 = .ok (.iload 4, 2) := dk_21 4 (dk_at dksX3_best_10 9 rfl rfl)
theorem dX3_best_243 : decode cX3_best 243 = .ok (.iconst 2, 1) := dk_5 (dk_at dksX3_best_10 11 rfl rfl)
theorem dX3_best_244 : decode cX3_best 244 = .ok (.if_icmp .ne 15, 3) := dk_160 0 15 (dk_at dksX3_best_10 12 rfl rfl)
theorem dX3_best_247 : decode cX3_best 247 = .ok (.iload 6, 2) := dk_21 6 (dk_at dksX3_best_10 15 rfl rfl)
theorem dX3_best_249 : decode cX3_best 249 = .ok (.invokestatic 316, 3) := dk_184 1 60 (dk_at dksX3_best_10 17 rfl rfl)
theorem dX3_best_252 : decode cX3_best 252 = .ok (.iload 5, 2) := dk_21 5 (dk_at dksX3_best_10 20 rfl rfl)
theorem dX3_best_254 : decode cX3_best 254 = .ok (.imul, 1) := dk_104 (dk_at dksX3_best_10 22 rfl rfl)
theorem dX3_best_255 : decode cX3_best 255 = .ok (.i2l, 1) := dk_133 (dk_at dksX3_best_10 23 rfl rfl)
theorem dX3_best_256 : decode cX3_best 256 = .ok (.goto 21, 3) := dk_167 0 21 (dk_at dksX3_best_11 0 rfl rfl)
theorem dX3_best_259 : decode cX3_best 259 = .ok (.iload 4, 2) := dk_21 4 (dk_at dksX3_best_11 3 rfl rfl)
theorem dX3_best_261 : decode cX3_best 261 = .ok (.iconst 3, 1) := dk_6 (dk_at dksX3_best_11 5 rfl rfl)
theorem dX3_best_262 : decode cX3_best 262 = .ok (.if_icmp .ne 10, 3) := dk_160 0 10 (dk_at dksX3_best_11 6 rfl rfl)
theorem dX3_best_265 : decode cX3_best 265 = .ok (.aload_n 0, 1) := dk_42 (dk_at dksX3_best_11 9 rfl rfl)
theorem dX3_best_266 : decode cX3_best 266 = .ok (.getfield 266, 3) := dk_180 1 10 (dk_at dksX3_best_11 10 rfl rfl)
theorem dX3_best_269 : decode cX3_best 269 = .ok (.goto 8, 3) := dk_167 0 8 (dk_at dksX3_best_11 13 rfl rfl)
theorem dX3_best_272 : decode cX3_best 272 = .ok (.aload_n 0, 1) := dk_42 (dk_at dksX3_best_11 16 rfl rfl)
theorem dX3_best_273 : decode cX3_best 273 = .ok (.getfield 275, 3) := dk_180 1 19 (dk_at dksX3_best_11 17 rfl rfl)
theorem dX3_best_276 : decode cX3_best 276 = .ok (.i2l, 1) := dk_133 (dk_at dksX3_best_11 20 rfl rfl)
theorem dX3_best_277 : decode cX3_best 277 = .ok (.lreturn, 1) := dk_173 (dk_at dksX3_best_11 21 rfl rfl)
def dkwX3_bits_0 : List UInt8 := [3, 60, 26, 61, 28, 158, 0, 16, 27, 28, 4, 126, 96, 60, 28, 4, 122, 61, 167, 255, 242, 27, 172]
abbrev dktX3_bits_0 : List UInt8 := dkwX3_bits_0 ++ []
theorem dksX3_bits_0 : cX3_bits.data.toList.drop 0 = dktX3_bits_0 := by decide +kernel
theorem dX3_bits_0 : decode cX3_bits 0 = .ok (.iconst 0, 1) := dk_3 (dk_at dksX3_bits_0 0 rfl rfl)
theorem dX3_bits_1 : decode cX3_bits 1 = .ok (.istore_n 1, 1) := dk_60 (dk_at dksX3_bits_0 1 rfl rfl)
theorem dX3_bits_2 : decode cX3_bits 2 = .ok (.iload_n 0, 1) := dk_26 (dk_at dksX3_bits_0 2 rfl rfl)
theorem dX3_bits_3 : decode cX3_bits 3 = .ok (.istore_n 2, 1) := dk_61 (dk_at dksX3_bits_0 3 rfl rfl)
theorem dX3_bits_4 : decode cX3_bits 4 = .ok (.iload_n 2, 1) := dk_28 (dk_at dksX3_bits_0 4 rfl rfl)
theorem dX3_bits_5 : decode cX3_bits 5 = .ok (.ifCond .le 16, 3) := dk_158 0 16 (dk_at dksX3_bits_0 5 rfl rfl)
theorem dX3_bits_8 : decode cX3_bits 8 = .ok (.iload_n 1, 1) := dk_27 (dk_at dksX3_bits_0 8 rfl rfl)
theorem dX3_bits_9 : decode cX3_bits 9 = .ok (.iload_n 2, 1) := dk_28 (dk_at dksX3_bits_0 9 rfl rfl)
theorem dX3_bits_10 : decode cX3_bits 10 = .ok (.iconst 1, 1) := dk_4 (dk_at dksX3_bits_0 10 rfl rfl)
theorem dX3_bits_11 : decode cX3_bits 11 = .ok (.iand, 1) := dk_126 (dk_at dksX3_bits_0 11 rfl rfl)
theorem dX3_bits_12 : decode cX3_bits 12 = .ok (.iadd, 1) := dk_96 (dk_at dksX3_bits_0 12 rfl rfl)
theorem dX3_bits_13 : decode cX3_bits 13 = .ok (.istore_n 1, 1) := dk_60 (dk_at dksX3_bits_0 13 rfl rfl)
theorem dX3_bits_14 : decode cX3_bits 14 = .ok (.iload_n 2, 1) := dk_28 (dk_at dksX3_bits_0 14 rfl rfl)
theorem dX3_bits_15 : decode cX3_bits 15 = .ok (.iconst 1, 1) := dk_4 (dk_at dksX3_bits_0 15 rfl rfl)
theorem dX3_bits_16 : decode cX3_bits 16 = .ok (.ishr, 1) := dk_122 (dk_at dksX3_bits_0 16 rfl rfl)
theorem dX3_bits_17 : decode cX3_bits 17 = .ok (.istore_n 2, 1) := dk_61 (dk_at dksX3_bits_0 17 rfl rfl)
theorem dX3_bits_18 : decode cX3_bits 18 = .ok (.goto (-14), 3) := dk_167 255 242 (dk_at dksX3_bits_0 18 rfl rfl)
theorem dX3_bits_21 : decode cX3_bits 21 = .ok (.iload_n 1, 1) := dk_27 (dk_at dksX3_bits_0 21 rfl rfl)
theorem dX3_bits_22 : decode cX3_bits 22 = .ok (.ireturn, 1) := dk_172 (dk_at dksX3_bits_0 22 rfl rfl)
def dkwX3_helps_2 : List UInt8 := [182, 1, 42, 33, 42, 180, 0, 108, 28, 47, 101, 173]
abbrev dktX3_helps_2 : List UInt8 := dkwX3_helps_2 ++ []
def dkwX3_helps_1 : List UInt8 := [154, 0, 7, 20, 1, 57, 173, 42, 3, 182, 1, 42, 42, 180, 0, 108, 28, 47, 66, 42, 4, 27, 120]
abbrev dktX3_helps_1 : List UInt8 := dkwX3_helps_1 ++ dktX3_helps_2
def dkwX3_helps_0 : List UInt8 := [42, 27, 182, 0, 198, 153, 0, 20, 42, 180, 0, 25, 27, 51, 154, 0, 11, 42, 28, 182, 0, 198]
abbrev dktX3_helps_0 : List UInt8 := dkwX3_helps_0 ++ dktX3_helps_1
theorem dksX3_helps_0 : cX3_helps.data.toList.drop 0 = dktX3_helps_0 := by decide +kernel
theorem dksX3_helps_1 : cX3_helps.data.toList.drop 22 = dktX3_helps_1 := dk_seg dksX3_helps_0 22 rfl rfl
theorem dksX3_helps_2 : cX3_helps.data.toList.drop 45 = dktX3_helps_2 := dk_seg dksX3_helps_1 23 rfl rfl
theorem dX3_helps_0 : decode cX3_helps 0 = .ok (.aload_n 0, 1) := dk_42 (dk_at dksX3_helps_0 0 rfl rfl)
theorem dX3_helps_1 : decode cX3_helps 1 = .ok (.iload_n 1, 1) := dk_27 (dk_at dksX3_helps_0 1 rfl rfl)
theorem dX3_helps_2 : decode cX3_helps 2 = .ok (.invokevirtual 198, 3) := dk_182 0 198 (dk_at dksX3_helps_0 2 rfl rfl)
theorem dX3_helps_5 : decode cX3_helps 5 = .ok (.ifCond .eq 20, 3) := dk_153 0 20 (dk_at dksX3_helps_0 5 rfl rfl)
theorem dX3_helps_8 : decode cX3_helps 8 = .ok (.aload_n 0, 1) := dk_42 (dk_at dksX3_helps_0 8 rfl rfl)
theorem dX3_helps_9 : decode cX3_helps 9 = .ok (.getfield 25, 3) := dk_180 0 25 (dk_at dksX3_helps_0 9 rfl rfl)
theorem dX3_helps_12 : decode cX3_helps 12 = .ok (.iload_n 1, 1) := dk_27 (dk_at dksX3_helps_0 12 rfl rfl)
theorem dX3_helps_13 : decode cX3_helps 13 = .ok (.baload, 1) := dk_51 (dk_at dksX3_helps_0 13 rfl rfl)
theorem dX3_helps_14 : decode cX3_helps 14 = .ok (.ifCond .ne 11, 3) := dk_154 0 11 (dk_at dksX3_helps_0 14 rfl rfl)
theorem dX3_helps_17 : decode cX3_helps 17 = .ok (.aload_n 0, 1) := dk_42 (dk_at dksX3_helps_0 17 rfl rfl)
theorem dX3_helps_18 : decode cX3_helps 18 = .ok (.iload_n 2, 1) := dk_28 (dk_at dksX3_helps_0 18 rfl rfl)
theorem dX3_helps_19 : decode cX3_helps 19 = .ok (.invokevirtual 198, 3) := dk_182 0 198 (dk_at dksX3_helps_0 19 rfl rfl)
theorem dX3_helps_22 : decode cX3_helps 22 = .ok (.ifCond .ne 7, 3) := dk_154 0 7 (dk_at dksX3_helps_1 0 rfl rfl)
theorem dX3_helps_25 : decode cX3_helps 25 = .ok (.ldc2_w 313, 3) := dk_20 1 57 (dk_at dksX3_helps_1 3 rfl rfl)
theorem dX3_helps_28 : decode cX3_helps 28 = .ok (.lreturn, 1) := dk_173 (dk_at dksX3_helps_1 6 rfl rfl)
theorem dX3_helps_29 : decode cX3_helps 29 = .ok (.aload_n 0, 1) := dk_42 (dk_at dksX3_helps_1 7 rfl rfl)
theorem dX3_helps_30 : decode cX3_helps 30 = .ok (.iconst 0, 1) := dk_3 (dk_at dksX3_helps_1 8 rfl rfl)
theorem dX3_helps_31 : decode cX3_helps 31 = .ok (.invokevirtual 298, 3) := dk_182 1 42 (dk_at dksX3_helps_1 9 rfl rfl)
theorem dX3_helps_34 : decode cX3_helps 34 = .ok (.aload_n 0, 1) := dk_42 (dk_at dksX3_helps_1 12 rfl rfl)
theorem dX3_helps_35 : decode cX3_helps 35 = .ok (.getfield 108, 3) := dk_180 0 108 (dk_at dksX3_helps_1 13 rfl rfl)
theorem dX3_helps_38 : decode cX3_helps 38 = .ok (.iload_n 2, 1) := dk_28 (dk_at dksX3_helps_1 16 rfl rfl)
theorem dX3_helps_39 : decode cX3_helps 39 = .ok (.laload, 1) := dk_47 (dk_at dksX3_helps_1 17 rfl rfl)
theorem dX3_helps_40 : decode cX3_helps 40 = .ok (.lstore_n 3, 1) := dk_66 (dk_at dksX3_helps_1 18 rfl rfl)
theorem dX3_helps_41 : decode cX3_helps 41 = .ok (.aload_n 0, 1) := dk_42 (dk_at dksX3_helps_1 19 rfl rfl)
theorem dX3_helps_42 : decode cX3_helps 42 = .ok (.iconst 1, 1) := dk_4 (dk_at dksX3_helps_1 20 rfl rfl)
theorem dX3_helps_43 : decode cX3_helps 43 = .ok (.iload_n 1, 1) := dk_27 (dk_at dksX3_helps_1 21 rfl rfl)
theorem dX3_helps_44 : decode cX3_helps 44 = .ok (.ishl, 1) := dk_120 (dk_at dksX3_helps_1 22 rfl rfl)
theorem dX3_helps_45 : decode cX3_helps 45 = .ok (.invokevirtual 298, 3) := dk_182 1 42 (dk_at dksX3_helps_2 0 rfl rfl)
theorem dX3_helps_48 : decode cX3_helps 48 = .ok (.lload_n 3, 1) := dk_33 (dk_at dksX3_helps_2 3 rfl rfl)
theorem dX3_helps_49 : decode cX3_helps 49 = .ok (.aload_n 0, 1) := dk_42 (dk_at dksX3_helps_2 4 rfl rfl)
theorem dX3_helps_50 : decode cX3_helps 50 = .ok (.getfield 108, 3) := dk_180 0 108 (dk_at dksX3_helps_2 5 rfl rfl)
theorem dX3_helps_53 : decode cX3_helps 53 = .ok (.iload_n 2, 1) := dk_28 (dk_at dksX3_helps_2 8 rfl rfl)
theorem dX3_helps_54 : decode cX3_helps 54 = .ok (.laload, 1) := dk_47 (dk_at dksX3_helps_2 9 rfl rfl)
theorem dX3_helps_55 : decode cX3_helps 55 = .ok (.lsub, 1) := dk_101 (dk_at dksX3_helps_2 10 rfl rfl)
theorem dX3_helps_56 : decode cX3_helps 56 = .ok (.lreturn, 1) := dk_173 (dk_at dksX3_helps_2 11 rfl rfl)
def dkwX3_told_4 : List UInt8 := [180, 0, 126, 27, 47, 136, 172, 42, 180, 0, 129, 27, 47, 136, 172, 42, 180, 0, 138, 27, 46, 172, 2, 172]
abbrev dktX3_told_4 : List UInt8 := dkwX3_told_4 ++ []
def dkwX3_told_3 : List UInt8 := [180, 0, 19, 27, 46, 172, 42, 180, 0, 22, 27, 46, 172, 42, 180, 0, 25, 27, 51, 184, 1, 63, 172, 42]
abbrev dktX3_told_3 : List UInt8 := dkwX3_told_3 ++ dktX3_told_4
def dkwX3_told_2 : List UInt8 := [42, 180, 0, 7, 27, 46, 172, 42, 180, 0, 13, 27, 46, 172, 42, 180, 0, 16, 27, 46, 172, 42]
abbrev dktX3_told_2 : List UInt8 := dkwX3_told_2 ++ dktX3_told_3
def dkwX3_told_1 : List UInt8 := [170, 0, 0, 0, 117, 0, 0, 0, 0, 0, 0, 0, 8, 0, 0, 0, 49, 0, 0, 0, 56, 0, 0, 0, 63, 0, 0, 0, 70, 0, 0, 0, 77, 0, 0, 0, 84, 0, 0, 0, 94, 0, 0, 0, 102, 0, 0, 0, 110]
abbrev dktX3_told_1 : List UInt8 := dkwX3_told_1 ++ dktX3_told_2
def dkwX3_told_0 : List UInt8 := [42, 27, 182, 0, 198, 154, 0, 5, 2, 172, 28]
abbrev dktX3_told_0 : List UInt8 := dkwX3_told_0 ++ dktX3_told_1
theorem dksX3_told_0 : cX3_told.data.toList.drop 0 = dktX3_told_0 := by decide +kernel
theorem dksX3_told_1 : cX3_told.data.toList.drop 11 = dktX3_told_1 := dk_seg dksX3_told_0 11 rfl rfl
theorem dksX3_told_2 : cX3_told.data.toList.drop 60 = dktX3_told_2 := dk_seg dksX3_told_1 49 rfl rfl
theorem dksX3_told_3 : cX3_told.data.toList.drop 82 = dktX3_told_3 := dk_seg dksX3_told_2 22 rfl rfl
theorem dksX3_told_4 : cX3_told.data.toList.drop 106 = dktX3_told_4 := dk_seg dksX3_told_3 24 rfl rfl
theorem dX3_told_0 : decode cX3_told 0 = .ok (.aload_n 0, 1) := dk_42 (dk_at dksX3_told_0 0 rfl rfl)
theorem dX3_told_1 : decode cX3_told 1 = .ok (.iload_n 1, 1) := dk_27 (dk_at dksX3_told_0 1 rfl rfl)
theorem dX3_told_2 : decode cX3_told 2 = .ok (.invokevirtual 198, 3) := dk_182 0 198 (dk_at dksX3_told_0 2 rfl rfl)
theorem dX3_told_5 : decode cX3_told 5 = .ok (.ifCond .ne 5, 3) := dk_154 0 5 (dk_at dksX3_told_0 5 rfl rfl)
theorem dX3_told_8 : decode cX3_told 8 = .ok (.iconst (-1), 1) := dk_2 (dk_at dksX3_told_0 8 rfl rfl)
theorem dX3_told_9 : decode cX3_told 9 = .ok (.ireturn, 1) := dk_172 (dk_at dksX3_told_0 9 rfl rfl)
theorem dX3_told_10 : decode cX3_told 10 = .ok (.iload_n 2, 1) := dk_28 (dk_at dksX3_told_0 10 rfl rfl)
theorem dX3_told_11 : decode cX3_told 11 = .ok (.tableswitch 117 0 8 #[49, 56, 63, 70, 77, 84, 94, 102, 110], 49) := by decide +kernel
theorem dX3_told_60 : decode cX3_told 60 = .ok (.aload_n 0, 1) := dk_42 (dk_at dksX3_told_2 0 rfl rfl)
theorem dX3_told_61 : decode cX3_told 61 = .ok (.getfield 7, 3) := dk_180 0 7 (dk_at dksX3_told_2 1 rfl rfl)
theorem dX3_told_64 : decode cX3_told 64 = .ok (.iload_n 1, 1) := dk_27 (dk_at dksX3_told_2 4 rfl rfl)
theorem dX3_told_65 : decode cX3_told 65 = .ok (.iaload, 1) := dk_46 (dk_at dksX3_told_2 5 rfl rfl)
theorem dX3_told_66 : decode cX3_told 66 = .ok (.ireturn, 1) := dk_172 (dk_at dksX3_told_2 6 rfl rfl)
theorem dX3_told_67 : decode cX3_told 67 = .ok (.aload_n 0, 1) := dk_42 (dk_at dksX3_told_2 7 rfl rfl)
theorem dX3_told_68 : decode cX3_told 68 = .ok (.getfield 13, 3) := dk_180 0 13 (dk_at dksX3_told_2 8 rfl rfl)
theorem dX3_told_71 : decode cX3_told 71 = .ok (.iload_n 1, 1) := dk_27 (dk_at dksX3_told_2 11 rfl rfl)
theorem dX3_told_72 : decode cX3_told 72 = .ok (.iaload, 1) := dk_46 (dk_at dksX3_told_2 12 rfl rfl)
theorem dX3_told_73 : decode cX3_told 73 = .ok (.ireturn, 1) := dk_172 (dk_at dksX3_told_2 13 rfl rfl)
theorem dX3_told_74 : decode cX3_told 74 = .ok (.aload_n 0, 1) := dk_42 (dk_at dksX3_told_2 14 rfl rfl)
theorem dX3_told_75 : decode cX3_told 75 = .ok (.getfield 16, 3) := dk_180 0 16 (dk_at dksX3_told_2 15 rfl rfl)
theorem dX3_told_78 : decode cX3_told 78 = .ok (.iload_n 1, 1) := dk_27 (dk_at dksX3_told_2 18 rfl rfl)
theorem dX3_told_79 : decode cX3_told 79 = .ok (.iaload, 1) := dk_46 (dk_at dksX3_told_2 19 rfl rfl)
theorem dX3_told_80 : decode cX3_told 80 = .ok (.ireturn, 1) := dk_172 (dk_at dksX3_told_2 20 rfl rfl)
theorem dX3_told_81 : decode cX3_told 81 = .ok (.aload_n 0, 1) := dk_42 (dk_at dksX3_told_2 21 rfl rfl)
theorem dX3_told_82 : decode cX3_told 82 = .ok (.getfield 19, 3) := dk_180 0 19 (dk_at dksX3_told_3 0 rfl rfl)
theorem dX3_told_85 : decode cX3_told 85 = .ok (.iload_n 1, 1) := dk_27 (dk_at dksX3_told_3 3 rfl rfl)
theorem dX3_told_86 : decode cX3_told 86 = .ok (.iaload, 1) := dk_46 (dk_at dksX3_told_3 4 rfl rfl)
theorem dX3_told_87 : decode cX3_told 87 = .ok (.ireturn, 1) := dk_172 (dk_at dksX3_told_3 5 rfl rfl)
theorem dX3_told_88 : decode cX3_told 88 = .ok (.aload_n 0, 1) := dk_42 (dk_at dksX3_told_3 6 rfl rfl)
theorem dX3_told_89 : decode cX3_told 89 = .ok (.getfield 22, 3) := dk_180 0 22 (dk_at dksX3_told_3 7 rfl rfl)
theorem dX3_told_92 : decode cX3_told 92 = .ok (.iload_n 1, 1) := dk_27 (dk_at dksX3_told_3 10 rfl rfl)
theorem dX3_told_93 : decode cX3_told 93 = .ok (.iaload, 1) := dk_46 (dk_at dksX3_told_3 11 rfl rfl)
theorem dX3_told_94 : decode cX3_told 94 = .ok (.ireturn, 1) := dk_172 (dk_at dksX3_told_3 12 rfl rfl)
theorem dX3_told_95 : decode cX3_told 95 = .ok (.aload_n 0, 1) := dk_42 (dk_at dksX3_told_3 13 rfl rfl)
theorem dX3_told_96 : decode cX3_told 96 = .ok (.getfield 25, 3) := dk_180 0 25 (dk_at dksX3_told_3 14 rfl rfl)
theorem dX3_told_99 : decode cX3_told 99 = .ok (.iload_n 1, 1) := dk_27 (dk_at dksX3_told_3 17 rfl rfl)
theorem dX3_told_100 : decode cX3_told 100 = .ok (.baload, 1) := dk_51 (dk_at dksX3_told_3 18 rfl rfl)
theorem dX3_told_101 : decode cX3_told 101 = .ok (.invokestatic 319, 3) := dk_184 1 63 (dk_at dksX3_told_3 19 rfl rfl)
theorem dX3_told_104 : decode cX3_told 104 = .ok (.ireturn, 1) := dk_172 (dk_at dksX3_told_3 22 rfl rfl)
theorem dX3_told_105 : decode cX3_told 105 = .ok (.aload_n 0, 1) := dk_42 (dk_at dksX3_told_3 23 rfl rfl)
theorem dX3_told_106 : decode cX3_told 106 = .ok (.getfield 126, 3) := dk_180 0 126 (dk_at dksX3_told_4 0 rfl rfl)
theorem dX3_told_109 : decode cX3_told 109 = .ok (.iload_n 1, 1) := dk_27 (dk_at dksX3_told_4 3 rfl rfl)
theorem dX3_told_110 : decode cX3_told 110 = .ok (.laload, 1) := dk_47 (dk_at dksX3_told_4 4 rfl rfl)
theorem dX3_told_111 : decode cX3_told 111 = .ok (.l2i, 1) := dk_136 (dk_at dksX3_told_4 5 rfl rfl)
theorem dX3_told_112 : decode cX3_told 112 = .ok (.ireturn, 1) := dk_172 (dk_at dksX3_told_4 6 rfl rfl)
theorem dX3_told_113 : decode cX3_told 113 = .ok (.aload_n 0, 1) := dk_42 (dk_at dksX3_told_4 7 rfl rfl)
theorem dX3_told_114 : decode cX3_told 114 = .ok (.getfield 129, 3) := dk_180 0 129 (dk_at dksX3_told_4 8 rfl rfl)
theorem dX3_told_117 : decode cX3_told 117 = .ok (.iload_n 1, 1) := dk_27 (dk_at dksX3_told_4 11 rfl rfl)
theorem dX3_told_118 : decode cX3_told 118 = .ok (.laload, 1) := dk_47 (dk_at dksX3_told_4 12 rfl rfl)
theorem dX3_told_119 : decode cX3_told 119 = .ok (.l2i, 1) := dk_136 (dk_at dksX3_told_4 13 rfl rfl)
theorem dX3_told_120 : decode cX3_told 120 = .ok (.ireturn, 1) := dk_172 (dk_at dksX3_told_4 14 rfl rfl)
theorem dX3_told_121 : decode cX3_told 121 = .ok (.aload_n 0, 1) := dk_42 (dk_at dksX3_told_4 15 rfl rfl)
theorem dX3_told_122 : decode cX3_told 122 = .ok (.getfield 138, 3) := dk_180 0 138 (dk_at dksX3_told_4 16 rfl rfl)
theorem dX3_told_125 : decode cX3_told 125 = .ok (.iload_n 1, 1) := dk_27 (dk_at dksX3_told_4 19 rfl rfl)
theorem dX3_told_126 : decode cX3_told 126 = .ok (.iaload, 1) := dk_46 (dk_at dksX3_told_4 20 rfl rfl)
theorem dX3_told_127 : decode cX3_told 127 = .ok (.ireturn, 1) := dk_172 (dk_at dksX3_told_4 21 rfl rfl)
theorem dX3_told_128 : decode cX3_told 128 = .ok (.iconst (-1), 1) := dk_2 (dk_at dksX3_told_4 22 rfl rfl)
theorem dX3_told_129 : decode cX3_told 129 = .ok (.ireturn, 1) := dk_172 (dk_at dksX3_told_4 23 rfl rfl)
def dkwX3_one_0 : List UInt8 := [26, 153, 0, 7, 4, 167, 0, 4, 3, 172]
abbrev dktX3_one_0 : List UInt8 := dkwX3_one_0 ++ []
theorem dksX3_one_0 : cX3_one.data.toList.drop 0 = dktX3_one_0 := by decide +kernel
theorem dX3_one_0 : decode cX3_one 0 = .ok (.iload_n 0, 1) := dk_26 (dk_at dksX3_one_0 0 rfl rfl)
theorem dX3_one_1 : decode cX3_one 1 = .ok (.ifCond .eq 7, 3) := dk_153 0 7 (dk_at dksX3_one_0 1 rfl rfl)
theorem dX3_one_4 : decode cX3_one 4 = .ok (.iconst 1, 1) := dk_4 (dk_at dksX3_one_0 4 rfl rfl)
theorem dX3_one_5 : decode cX3_one 5 = .ok (.goto 4, 3) := dk_167 0 4 (dk_at dksX3_one_0 5 rfl rfl)
theorem dX3_one_8 : decode cX3_one 8 = .ok (.iconst 0, 1) := dk_3 (dk_at dksX3_one_0 8 rfl rfl)
theorem dX3_one_9 : decode cX3_one 9 = .ok (.ireturn, 1) := dk_172 (dk_at dksX3_one_0 9 rfl rfl)
def dkwX3_bedOf_8 : List UInt8 := [5, 29, 104, 96, 182, 0, 209, 104, 16, 100, 108, 172, 2, 172]
abbrev dktX3_bedOf_8 : List UInt8 := dkwX3_bedOf_8 ++ []
def dkwX3_bedOf_7 : List UInt8 := [172, 29, 2, 160, 0, 7, 2, 167, 0, 28, 42, 180, 0, 83, 42, 180, 0, 35, 27, 46, 46, 42, 16, 14]
abbrev dktX3_bedOf_7 : List UInt8 := dkwX3_bedOf_7 ++ dktX3_bedOf_8
def dkwX3_bedOf_6 : List UInt8 := [180, 0, 83, 42, 180, 0, 35, 27, 46, 46, 42, 16, 13, 5, 29, 104, 96, 182, 0, 209, 104, 16, 100, 108]
abbrev dktX3_bedOf_6 : List UInt8 := dkwX3_bedOf_6 ++ dktX3_bedOf_7
def dkwX3_bedOf_5 : List UInt8 := [180, 0, 56, 27, 46, 172, 42, 27, 182, 0, 230, 172, 29, 172, 29, 2, 160, 0, 7, 2, 167, 0, 28, 42]
abbrev dktX3_bedOf_5 : List UInt8 := dkwX3_bedOf_5 ++ dktX3_bedOf_6
def dkwX3_bedOf_4 : List UInt8 := [180, 0, 50, 27, 46, 172, 42, 180, 0, 32, 27, 51, 184, 1, 63, 172, 42, 180, 0, 53, 27, 46, 172, 42]
abbrev dktX3_bedOf_4 : List UInt8 := dkwX3_bedOf_4 ++ dktX3_bedOf_5
def dkwX3_bedOf_3 : List UInt8 := [42, 180, 0, 41, 27, 46, 172, 42, 180, 0, 44, 27, 46, 172, 42, 180, 0, 47, 27, 46, 172, 42]
abbrev dktX3_bedOf_3 : List UInt8 := dkwX3_bedOf_3 ++ dktX3_bedOf_4
def dkwX3_bedOf_2 : List UInt8 := [42, 180, 0, 35, 27, 46, 172, 42, 180, 0, 38, 27, 46, 172, 42, 180, 0, 29, 27, 51, 184, 1, 63, 172]
abbrev dktX3_bedOf_2 : List UInt8 := dkwX3_bedOf_2 ++ dktX3_bedOf_3
def dkwX3_bedOf_1 : List UInt8 := [170, 0, 0, 0, 0, 224, 0, 0, 0, 0, 0, 0, 0, 13, 0, 0, 0, 70, 0, 0, 0, 77, 0, 0, 0, 84, 0, 0, 0, 94, 0, 0, 0, 101, 0, 0, 0, 108, 0, 0, 0, 115, 0, 0, 0, 122, 0, 0, 0, 132, 0, 0, 0, 139, 0, 0, 0, 146, 0, 0, 0, 152, 0, 0, 0, 154, 0, 0, 0, 189]
abbrev dktX3_bedOf_1 : List UInt8 := dkwX3_bedOf_1 ++ dktX3_bedOf_2
def dkwX3_bedOf_0 : List UInt8 := [42, 27, 182, 0, 219, 154, 0, 5, 2, 172, 42, 180, 0, 59, 27, 46, 62, 28]
abbrev dktX3_bedOf_0 : List UInt8 := dkwX3_bedOf_0 ++ dktX3_bedOf_1
theorem dksX3_bedOf_0 : cX3_bedOf.data.toList.drop 0 = dktX3_bedOf_0 := by decide +kernel
theorem dksX3_bedOf_1 : cX3_bedOf.data.toList.drop 18 = dktX3_bedOf_1 := dk_seg dksX3_bedOf_0 18 rfl rfl
theorem dksX3_bedOf_2 : cX3_bedOf.data.toList.drop 88 = dktX3_bedOf_2 := dk_seg dksX3_bedOf_1 70 rfl rfl
theorem dksX3_bedOf_3 : cX3_bedOf.data.toList.drop 112 = dktX3_bedOf_3 := dk_seg dksX3_bedOf_2 24 rfl rfl
theorem dksX3_bedOf_4 : cX3_bedOf.data.toList.drop 134 = dktX3_bedOf_4 := dk_seg dksX3_bedOf_3 22 rfl rfl
theorem dksX3_bedOf_5 : cX3_bedOf.data.toList.drop 158 = dktX3_bedOf_5 := dk_seg dksX3_bedOf_4 24 rfl rfl
theorem dksX3_bedOf_6 : cX3_bedOf.data.toList.drop 182 = dktX3_bedOf_6 := dk_seg dksX3_bedOf_5 24 rfl rfl
theorem dksX3_bedOf_7 : cX3_bedOf.data.toList.drop 206 = dktX3_bedOf_7 := dk_seg dksX3_bedOf_6 24 rfl rfl
theorem dksX3_bedOf_8 : cX3_bedOf.data.toList.drop 230 = dktX3_bedOf_8 := dk_seg dksX3_bedOf_7 24 rfl rfl
theorem dX3_bedOf_0 : decode cX3_bedOf 0 = .ok (.aload_n 0, 1) := dk_42 (dk_at dksX3_bedOf_0 0 rfl rfl)
theorem dX3_bedOf_1 : decode cX3_bedOf 1 = .ok (.iload_n 1, 1) := dk_27 (dk_at dksX3_bedOf_0 1 rfl rfl)
theorem dX3_bedOf_2 : decode cX3_bedOf 2 = .ok (.invokevirtual 219, 3) := dk_182 0 219 (dk_at dksX3_bedOf_0 2 rfl rfl)
theorem dX3_bedOf_5 : decode cX3_bedOf 5 = .ok (.ifCond .ne 5, 3) := dk_154 0 5 (dk_at dksX3_bedOf_0 5 rfl rfl)
theorem dX3_bedOf_8 : decode cX3_bedOf 8 = .ok (.iconst (-1), 1) := dk_2 (dk_at dksX3_bedOf_0 8 rfl rfl)
theorem dX3_bedOf_9 : decode cX3_bedOf 9 = .ok (.ireturn, 1) := dk_172 (dk_at dksX3_bedOf_0 9 rfl rfl)
theorem dX3_bedOf_10 : decode cX3_bedOf 10 = .ok (.aload_n 0, 1) := dk_42 (dk_at dksX3_bedOf_0 10 rfl rfl)
theorem dX3_bedOf_11 : decode cX3_bedOf 11 = .ok (.getfield 59, 3) := dk_180 0 59 (dk_at dksX3_bedOf_0 11 rfl rfl)
theorem dX3_bedOf_14 : decode cX3_bedOf 14 = .ok (.iload_n 1, 1) := dk_27 (dk_at dksX3_bedOf_0 14 rfl rfl)
theorem dX3_bedOf_15 : decode cX3_bedOf 15 = .ok (.iaload, 1) := dk_46 (dk_at dksX3_bedOf_0 15 rfl rfl)
theorem dX3_bedOf_16 : decode cX3_bedOf 16 = .ok (.istore_n 3, 1) := dk_62 (dk_at dksX3_bedOf_0 16 rfl rfl)
theorem dX3_bedOf_17 : decode cX3_bedOf 17 = .ok (.iload_n 2, 1) := dk_28 (dk_at dksX3_bedOf_0 17 rfl rfl)
theorem dX3_bedOf_18 : decode cX3_bedOf 18 = .ok (.tableswitch 224 0 13 #[70, 77, 84, 94, 101, 108, 115, 122, 132, 139, 146, 152, 154, 189], 70) := by decide +kernel
theorem dX3_bedOf_88 : decode cX3_bedOf 88 = .ok (.aload_n 0, 1) := dk_42 (dk_at dksX3_bedOf_2 0 rfl rfl)
theorem dX3_bedOf_89 : decode cX3_bedOf 89 = .ok (.getfield 35, 3) := dk_180 0 35 (dk_at dksX3_bedOf_2 1 rfl rfl)
theorem dX3_bedOf_92 : decode cX3_bedOf 92 = .ok (.iload_n 1, 1) := dk_27 (dk_at dksX3_bedOf_2 4 rfl rfl)
theorem dX3_bedOf_93 : decode cX3_bedOf 93 = .ok (.iaload, 1) := dk_46 (dk_at dksX3_bedOf_2 5 rfl rfl)
theorem dX3_bedOf_94 : decode cX3_bedOf 94 = .ok (.ireturn, 1) := dk_172 (dk_at dksX3_bedOf_2 6 rfl rfl)
theorem dX3_bedOf_95 : decode cX3_bedOf 95 = .ok (.aload_n 0, 1) := dk_42 (dk_at dksX3_bedOf_2 7 rfl rfl)
theorem dX3_bedOf_96 : decode cX3_bedOf 96 = .ok (.getfield 38, 3) := dk_180 0 38 (dk_at dksX3_bedOf_2 8 rfl rfl)
theorem dX3_bedOf_99 : decode cX3_bedOf 99 = .ok (.iload_n 1, 1) := dk_27 (dk_at dksX3_bedOf_2 11 rfl rfl)
theorem dX3_bedOf_100 : decode cX3_bedOf 100 = .ok (.iaload, 1) := dk_46 (dk_at dksX3_bedOf_2 12 rfl rfl)
theorem dX3_bedOf_101 : decode cX3_bedOf 101 = .ok (.ireturn, 1) := dk_172 (dk_at dksX3_bedOf_2 13 rfl rfl)
theorem dX3_bedOf_102 : decode cX3_bedOf 102 = .ok (.aload_n 0, 1) := dk_42 (dk_at dksX3_bedOf_2 14 rfl rfl)
theorem dX3_bedOf_103 : decode cX3_bedOf 103 = .ok (.getfield 29, 3) := dk_180 0 29 (dk_at dksX3_bedOf_2 15 rfl rfl)
theorem dX3_bedOf_106 : decode cX3_bedOf 106 = .ok (.iload_n 1, 1) := dk_27 (dk_at dksX3_bedOf_2 18 rfl rfl)
theorem dX3_bedOf_107 : decode cX3_bedOf 107 = .ok (.baload, 1) := dk_51 (dk_at dksX3_bedOf_2 19 rfl rfl)
theorem dX3_bedOf_108 : decode cX3_bedOf 108 = .ok (.invokestatic 319, 3) := dk_184 1 63 (dk_at dksX3_bedOf_2 20 rfl rfl)
theorem dX3_bedOf_111 : decode cX3_bedOf 111 = .ok (.ireturn, 1) := dk_172 (dk_at dksX3_bedOf_2 23 rfl rfl)
theorem dX3_bedOf_112 : decode cX3_bedOf 112 = .ok (.aload_n 0, 1) := dk_42 (dk_at dksX3_bedOf_3 0 rfl rfl)
theorem dX3_bedOf_113 : decode cX3_bedOf 113 = .ok (.getfield 41, 3) := dk_180 0 41 (dk_at dksX3_bedOf_3 1 rfl rfl)
theorem dX3_bedOf_116 : decode cX3_bedOf 116 = .ok (.iload_n 1, 1) := dk_27 (dk_at dksX3_bedOf_3 4 rfl rfl)
theorem dX3_bedOf_117 : decode cX3_bedOf 117 = .ok (.iaload, 1) := dk_46 (dk_at dksX3_bedOf_3 5 rfl rfl)
theorem dX3_bedOf_118 : decode cX3_bedOf 118 = .ok (.ireturn, 1) := dk_172 (dk_at dksX3_bedOf_3 6 rfl rfl)
theorem dX3_bedOf_119 : decode cX3_bedOf 119 = .ok (.aload_n 0, 1) := dk_42 (dk_at dksX3_bedOf_3 7 rfl rfl)
theorem dX3_bedOf_120 : decode cX3_bedOf 120 = .ok (.getfield 44, 3) := dk_180 0 44 (dk_at dksX3_bedOf_3 8 rfl rfl)
theorem dX3_bedOf_123 : decode cX3_bedOf 123 = .ok (.iload_n 1, 1) := dk_27 (dk_at dksX3_bedOf_3 11 rfl rfl)
theorem dX3_bedOf_124 : decode cX3_bedOf 124 = .ok (.iaload, 1) := dk_46 (dk_at dksX3_bedOf_3 12 rfl rfl)
theorem dX3_bedOf_125 : decode cX3_bedOf 125 = .ok (.ireturn, 1) := dk_172 (dk_at dksX3_bedOf_3 13 rfl rfl)
theorem dX3_bedOf_126 : decode cX3_bedOf 126 = .ok (.aload_n 0, 1) := dk_42 (dk_at dksX3_bedOf_3 14 rfl rfl)
theorem dX3_bedOf_127 : decode cX3_bedOf 127 = .ok (.getfield 47, 3) := dk_180 0 47 (dk_at dksX3_bedOf_3 15 rfl rfl)
theorem dX3_bedOf_130 : decode cX3_bedOf 130 = .ok (.iload_n 1, 1) := dk_27 (dk_at dksX3_bedOf_3 18 rfl rfl)
theorem dX3_bedOf_131 : decode cX3_bedOf 131 = .ok (.iaload, 1) := dk_46 (dk_at dksX3_bedOf_3 19 rfl rfl)
theorem dX3_bedOf_132 : decode cX3_bedOf 132 = .ok (.ireturn, 1) := dk_172 (dk_at dksX3_bedOf_3 20 rfl rfl)
theorem dX3_bedOf_133 : decode cX3_bedOf 133 = .ok (.aload_n 0, 1) := dk_42 (dk_at dksX3_bedOf_3 21 rfl rfl)
theorem dX3_bedOf_134 : decode cX3_bedOf 134 = .ok (.getfield 50, 3) := dk_180 0 50 (dk_at dksX3_bedOf_4 0 rfl rfl)
theorem dX3_bedOf_137 : decode cX3_bedOf 137 = .ok (.iload_n 1, 1) := dk_27 (dk_at dksX3_bedOf_4 3 rfl rfl)
theorem dX3_bedOf_138 : decode cX3_bedOf 138 = .ok (.iaload, 1) := dk_46 (dk_at dksX3_bedOf_4 4 rfl rfl)
theorem dX3_bedOf_139 : decode cX3_bedOf 139 = .ok (.ireturn, 1) := dk_172 (dk_at dksX3_bedOf_4 5 rfl rfl)
theorem dX3_bedOf_140 : decode cX3_bedOf 140 = .ok (.aload_n 0, 1) := dk_42 (dk_at dksX3_bedOf_4 6 rfl rfl)
theorem dX3_bedOf_141 : decode cX3_bedOf 141 = .ok (.getfield 32, 3) := dk_180 0 32 (dk_at dksX3_bedOf_4 7 rfl rfl)
theorem dX3_bedOf_144 : decode cX3_bedOf 144 = .ok (.iload_n 1, 1) := dk_27 (dk_at dksX3_bedOf_4 10 rfl rfl)
theorem dX3_bedOf_145 : decode cX3_bedOf 145 = .ok (.baload, 1) := dk_51 (dk_at dksX3_bedOf_4 11 rfl rfl)
theorem dX3_bedOf_146 : decode cX3_bedOf 146 = .ok (.invokestatic 319, 3) := dk_184 1 63 (dk_at dksX3_bedOf_4 12 rfl rfl)
theorem dX3_bedOf_149 : decode cX3_bedOf 149 = .ok (.ireturn, 1) := dk_172 (dk_at dksX3_bedOf_4 15 rfl rfl)
theorem dX3_bedOf_150 : decode cX3_bedOf 150 = .ok (.aload_n 0, 1) := dk_42 (dk_at dksX3_bedOf_4 16 rfl rfl)
theorem dX3_bedOf_151 : decode cX3_bedOf 151 = .ok (.getfield 53, 3) := dk_180 0 53 (dk_at dksX3_bedOf_4 17 rfl rfl)
theorem dX3_bedOf_154 : decode cX3_bedOf 154 = .ok (.iload_n 1, 1) := dk_27 (dk_at dksX3_bedOf_4 20 rfl rfl)
theorem dX3_bedOf_155 : decode cX3_bedOf 155 = .ok (.iaload, 1) := dk_46 (dk_at dksX3_bedOf_4 21 rfl rfl)
theorem dX3_bedOf_156 : decode cX3_bedOf 156 = .ok (.ireturn, 1) := dk_172 (dk_at dksX3_bedOf_4 22 rfl rfl)
theorem dX3_bedOf_157 : decode cX3_bedOf 157 = .ok (.aload_n 0, 1) := dk_42 (dk_at dksX3_bedOf_4 23 rfl rfl)
theorem dX3_bedOf_158 : decode cX3_bedOf 158 = .ok (.getfield 56, 3) := dk_180 0 56 (dk_at dksX3_bedOf_5 0 rfl rfl)
theorem dX3_bedOf_161 : decode cX3_bedOf 161 = .ok (.iload_n 1, 1) := dk_27 (dk_at dksX3_bedOf_5 3 rfl rfl)
theorem dX3_bedOf_162 : decode cX3_bedOf 162 = .ok (.iaload, 1) := dk_46 (dk_at dksX3_bedOf_5 4 rfl rfl)
theorem dX3_bedOf_163 : decode cX3_bedOf 163 = .ok (.ireturn, 1) := dk_172 (dk_at dksX3_bedOf_5 5 rfl rfl)
theorem dX3_bedOf_164 : decode cX3_bedOf 164 = .ok (.aload_n 0, 1) := dk_42 (dk_at dksX3_bedOf_5 6 rfl rfl)
theorem dX3_bedOf_165 : decode cX3_bedOf 165 = .ok (.iload_n 1, 1) := dk_27 (dk_at dksX3_bedOf_5 7 rfl rfl)
theorem dX3_bedOf_166 : decode cX3_bedOf 166 = .ok (.invokevirtual 230, 3) := dk_182 0 230 (dk_at dksX3_bedOf_5 8 rfl rfl)
theorem dX3_bedOf_169 : decode cX3_bedOf 169 = .ok (.ireturn, 1) := dk_172 (dk_at dksX3_bedOf_5 11 rfl rfl)
theorem dX3_bedOf_170 : decode cX3_bedOf 170 = .ok (.iload_n 3, 1) := dk_29 (dk_at dksX3_bedOf_5 12 rfl rfl)
theorem dX3_bedOf_171 : decode cX3_bedOf 171 = .ok (.ireturn, 1) := dk_172 (dk_at dksX3_bedOf_5 13 rfl rfl)
theorem dX3_bedOf_172 : decode cX3_bedOf 172 = .ok (.iload_n 3, 1) := dk_29 (dk_at dksX3_bedOf_5 14 rfl rfl)
theorem dX3_bedOf_173 : decode cX3_bedOf 173 = .ok (.iconst (-1), 1) := dk_2 (dk_at dksX3_bedOf_5 15 rfl rfl)
theorem dX3_bedOf_174 : decode cX3_bedOf 174 = .ok (.if_icmp .ne 7, 3) := dk_160 0 7 (dk_at dksX3_bedOf_5 16 rfl rfl)
theorem dX3_bedOf_177 : decode cX3_bedOf 177 = .ok (.iconst (-1), 1) := dk_2 (dk_at dksX3_bedOf_5 19 rfl rfl)
theorem dX3_bedOf_178 : decode cX3_bedOf 178 = .ok (.goto 28, 3) := dk_167 0 28 (dk_at dksX3_bedOf_5 20 rfl rfl)
theorem dX3_bedOf_181 : decode cX3_bedOf 181 = .ok (.aload_n 0, 1) := dk_42 (dk_at dksX3_bedOf_5 23 rfl rfl)
theorem dX3_bedOf_182 : decode cX3_bedOf 182 = .ok (.getfield 83, 3) := dk_180 0 83 (dk_at dksX3_bedOf_6 0 rfl rfl)
theorem dX3_bedOf_185 : decode cX3_bedOf 185 = .ok (.aload_n 0, 1) := dk_42 (dk_at dksX3_bedOf_6 3 rfl rfl)
theorem dX3_bedOf_186 : decode cX3_bedOf 186 = .ok (.getfield 35, 3) := dk_180 0 35 (dk_at dksX3_bedOf_6 4 rfl rfl)
theorem dX3_bedOf_189 : decode cX3_bedOf 189 = .ok (.iload_n 1, 1) := dk_27 (dk_at dksX3_bedOf_6 7 rfl rfl)
theorem dX3_bedOf_190 : decode cX3_bedOf 190 = .ok (.iaload, 1) := dk_46 (dk_at dksX3_bedOf_6 8 rfl rfl)
theorem dX3_bedOf_191 : decode cX3_bedOf 191 = .ok (.iaload, 1) := dk_46 (dk_at dksX3_bedOf_6 9 rfl rfl)
theorem dX3_bedOf_192 : decode cX3_bedOf 192 = .ok (.aload_n 0, 1) := dk_42 (dk_at dksX3_bedOf_6 10 rfl rfl)
theorem dX3_bedOf_193 : decode cX3_bedOf 193 = .ok (.bipush 13, 2) := dk_16 13 (dk_at dksX3_bedOf_6 11 rfl rfl)
theorem dX3_bedOf_195 : decode cX3_bedOf 195 = .ok (.iconst 2, 1) := dk_5 (dk_at dksX3_bedOf_6 13 rfl rfl)
theorem dX3_bedOf_196 : decode cX3_bedOf 196 = .ok (.iload_n 3, 1) := dk_29 (dk_at dksX3_bedOf_6 14 rfl rfl)
theorem dX3_bedOf_197 : decode cX3_bedOf 197 = .ok (.imul, 1) := dk_104 (dk_at dksX3_bedOf_6 15 rfl rfl)
theorem dX3_bedOf_198 : decode cX3_bedOf 198 = .ok (.iadd, 1) := dk_96 (dk_at dksX3_bedOf_6 16 rfl rfl)
theorem dX3_bedOf_199 : decode cX3_bedOf 199 = .ok (.invokevirtual 209, 3) := dk_182 0 209 (dk_at dksX3_bedOf_6 17 rfl rfl)
theorem dX3_bedOf_202 : decode cX3_bedOf 202 = .ok (.imul, 1) := dk_104 (dk_at dksX3_bedOf_6 20 rfl rfl)
theorem dX3_bedOf_203 : decode cX3_bedOf 203 = .ok (.bipush 100, 2) := dk_16 100 (dk_at dksX3_bedOf_6 21 rfl rfl)
theorem dX3_bedOf_205 : decode cX3_bedOf 205 = .ok (.idiv, 1) := dk_108 (dk_at dksX3_bedOf_6 23 rfl rfl)
theorem dX3_bedOf_206 : decode cX3_bedOf 206 = .ok (.ireturn, 1) := dk_172 (dk_at dksX3_bedOf_7 0 rfl rfl)
theorem dX3_bedOf_207 : decode cX3_bedOf 207 = .ok (.iload_n 3, 1) := dk_29 (dk_at dksX3_bedOf_7 1 rfl rfl)
theorem dX3_bedOf_208 : decode cX3_bedOf 208 = .ok (.iconst (-1), 1) := dk_2 (dk_at dksX3_bedOf_7 2 rfl rfl)
theorem dX3_bedOf_209 : decode cX3_bedOf 209 = .ok (.if_icmp .ne 7, 3) := dk_160 0 7 (dk_at dksX3_bedOf_7 3 rfl rfl)
theorem dX3_bedOf_212 : decode cX3_bedOf 212 = .ok (.iconst (-1), 1) := dk_2 (dk_at dksX3_bedOf_7 6 rfl rfl)
theorem dX3_bedOf_213 : decode cX3_bedOf 213 = .ok (.goto 28, 3) := dk_167 0 28 (dk_at dksX3_bedOf_7 7 rfl rfl)
theorem dX3_bedOf_216 : decode cX3_bedOf 216 = .ok (.aload_n 0, 1) := dk_42 (dk_at dksX3_bedOf_7 10 rfl rfl)
theorem dX3_bedOf_217 : decode cX3_bedOf 217 = .ok (.getfield 83, 3) := dk_180 0 83 (dk_at dksX3_bedOf_7 11 rfl rfl)
theorem dX3_bedOf_220 : decode cX3_bedOf 220 = .ok (.aload_n 0, 1) := dk_42 (dk_at dksX3_bedOf_7 14 rfl rfl)
theorem dX3_bedOf_221 : decode cX3_bedOf 221 = .ok (.getfield 35, 3) := dk_180 0 35 (dk_at dksX3_bedOf_7 15 rfl rfl)
theorem dX3_bedOf_224 : decode cX3_bedOf 224 = .ok (.iload_n 1, 1) := dk_27 (dk_at dksX3_bedOf_7 18 rfl rfl)
theorem dX3_bedOf_225 : decode cX3_bedOf 225 = .ok (.iaload, 1) := dk_46 (dk_at dksX3_bedOf_7 19 rfl rfl)
theorem dX3_bedOf_226 : decode cX3_bedOf 226 = .ok (.iaload, 1) := dk_46 (dk_at dksX3_bedOf_7 20 rfl rfl)
theorem dX3_bedOf_227 : decode cX3_bedOf 227 = .ok (.aload_n 0, 1) := dk_42 (dk_at dksX3_bedOf_7 21 rfl rfl)
theorem dX3_bedOf_228 : decode cX3_bedOf 228 = .ok (.bipush 14, 2) := dk_16 14 (dk_at dksX3_bedOf_7 22 rfl rfl)
theorem dX3_bedOf_230 : decode cX3_bedOf 230 = .ok (.iconst 2, 1) := dk_5 (dk_at dksX3_bedOf_8 0 rfl rfl)
theorem dX3_bedOf_231 : decode cX3_bedOf 231 = .ok (.iload_n 3, 1) := dk_29 (dk_at dksX3_bedOf_8 1 rfl rfl)
theorem dX3_bedOf_232 : decode cX3_bedOf 232 = .ok (.imul, 1) := dk_104 (dk_at dksX3_bedOf_8 2 rfl rfl)
theorem dX3_bedOf_233 : decode cX3_bedOf 233 = .ok (.iadd, 1) := dk_96 (dk_at dksX3_bedOf_8 3 rfl rfl)
theorem dX3_bedOf_234 : decode cX3_bedOf 234 = .ok (.invokevirtual 209, 3) := dk_182 0 209 (dk_at dksX3_bedOf_8 4 rfl rfl)
theorem dX3_bedOf_237 : decode cX3_bedOf 237 = .ok (.imul, 1) := dk_104 (dk_at dksX3_bedOf_8 7 rfl rfl)
theorem dX3_bedOf_238 : decode cX3_bedOf 238 = .ok (.bipush 100, 2) := dk_16 100 (dk_at dksX3_bedOf_8 8 rfl rfl)
theorem dX3_bedOf_240 : decode cX3_bedOf 240 = .ok (.idiv, 1) := dk_108 (dk_at dksX3_bedOf_8 10 rfl rfl)
theorem dX3_bedOf_241 : decode cX3_bedOf 241 = .ok (.ireturn, 1) := dk_172 (dk_at dksX3_bedOf_8 11 rfl rfl)
theorem dX3_bedOf_242 : decode cX3_bedOf 242 = .ok (.iconst (-1), 1) := dk_2 (dk_at dksX3_bedOf_8 12 rfl rfl)
theorem dX3_bedOf_243 : decode cX3_bedOf 243 = .ok (.ireturn, 1) := dk_172 (dk_at dksX3_bedOf_8 13 rfl rfl)
def dkwX3_roofOf_5 : List UInt8 := [167, 255, 228, 29, 172, 2, 172]
abbrev dktX3_roofOf_5 : List UInt8 := dkwX3_roofOf_5 ++ []
def dkwX3_roofOf_4 : List UInt8 := [162, 0, 27, 42, 180, 0, 80, 27, 46, 21, 4, 122, 4, 126, 4, 160, 0, 6, 21, 4, 62, 132, 4, 1]
abbrev dktX3_roofOf_4 : List UInt8 := dkwX3_roofOf_4 ++ dktX3_roofOf_5
def dkwX3_roofOf_3 : List UInt8 := [180, 0, 74, 27, 46, 172, 42, 180, 0, 77, 27, 46, 172, 2, 62, 3, 54, 4, 21, 4, 16, 10]
abbrev dktX3_roofOf_3 : List UInt8 := dkwX3_roofOf_3 ++ dktX3_roofOf_4
def dkwX3_roofOf_2 : List UInt8 := [42, 180, 0, 65, 27, 46, 172, 42, 180, 0, 68, 27, 46, 172, 42, 180, 0, 71, 27, 46, 172, 42]
abbrev dktX3_roofOf_2 : List UInt8 := dkwX3_roofOf_2 ++ dktX3_roofOf_3
def dkwX3_roofOf_1 : List UInt8 := [170, 0, 0, 0, 0, 0, 112, 0, 0, 0, 0, 0, 0, 0, 5, 0, 0, 0, 39, 0, 0, 0, 46, 0, 0, 0, 53, 0, 0, 0, 60, 0, 0, 0, 67, 0, 0, 0, 74]
abbrev dktX3_roofOf_1 : List UInt8 := dkwX3_roofOf_1 ++ dktX3_roofOf_2
def dkwX3_roofOf_0 : List UInt8 := [27, 3, 42, 180, 0, 202, 4, 100, 184, 0, 194, 154, 0, 5, 2, 172, 28]
abbrev dktX3_roofOf_0 : List UInt8 := dkwX3_roofOf_0 ++ dktX3_roofOf_1
theorem dksX3_roofOf_0 : cX3_roofOf.data.toList.drop 0 = dktX3_roofOf_0 := by decide +kernel
theorem dksX3_roofOf_1 : cX3_roofOf.data.toList.drop 17 = dktX3_roofOf_1 := dk_seg dksX3_roofOf_0 17 rfl rfl
theorem dksX3_roofOf_2 : cX3_roofOf.data.toList.drop 56 = dktX3_roofOf_2 := dk_seg dksX3_roofOf_1 39 rfl rfl
theorem dksX3_roofOf_3 : cX3_roofOf.data.toList.drop 78 = dktX3_roofOf_3 := dk_seg dksX3_roofOf_2 22 rfl rfl
theorem dksX3_roofOf_4 : cX3_roofOf.data.toList.drop 100 = dktX3_roofOf_4 := dk_seg dksX3_roofOf_3 22 rfl rfl
theorem dksX3_roofOf_5 : cX3_roofOf.data.toList.drop 124 = dktX3_roofOf_5 := dk_seg dksX3_roofOf_4 24 rfl rfl
theorem dX3_roofOf_0 : decode cX3_roofOf 0 = .ok (.iload_n 1, 1) := dk_27 (dk_at dksX3_roofOf_0 0 rfl rfl)
theorem dX3_roofOf_1 : decode cX3_roofOf 1 = .ok (.iconst 0, 1) := dk_3 (dk_at dksX3_roofOf_0 1 rfl rfl)
theorem dX3_roofOf_2 : decode cX3_roofOf 2 = .ok (.aload_n 0, 1) := dk_42 (dk_at dksX3_roofOf_0 2 rfl rfl)
theorem dX3_roofOf_3 : decode cX3_roofOf 3 = .ok (.getfield 202, 3) := dk_180 0 202 (dk_at dksX3_roofOf_0 3 rfl rfl)
theorem dX3_roofOf_6 : decode cX3_roofOf 6 = .ok (.iconst 1, 1) := dk_4 (dk_at dksX3_roofOf_0 6 rfl rfl)
theorem dX3_roofOf_7 : decode cX3_roofOf 7 = .ok (.isub, 1) := dk_100 (dk_at dksX3_roofOf_0 7 rfl rfl)
theorem dX3_roofOf_8 : decode cX3_roofOf 8 = .ok (.invokestatic 194, 3) := dk_184 0 194 (dk_at dksX3_roofOf_0 8 rfl rfl)
theorem dX3_roofOf_11 : decode cX3_roofOf 11 = .ok (.ifCond .ne 5, 3) := dk_154 0 5 (dk_at dksX3_roofOf_0 11 rfl rfl)
theorem dX3_roofOf_14 : decode cX3_roofOf 14 = .ok (.iconst (-1), 1) := dk_2 (dk_at dksX3_roofOf_0 14 rfl rfl)
theorem dX3_roofOf_15 : decode cX3_roofOf 15 = .ok (.ireturn, 1) := dk_172 (dk_at dksX3_roofOf_0 15 rfl rfl)
theorem dX3_roofOf_16 : decode cX3_roofOf 16 = .ok (.iload_n 2, 1) := dk_28 (dk_at dksX3_roofOf_0 16 rfl rfl)
theorem dX3_roofOf_17 : decode cX3_roofOf 17 = .ok (.tableswitch 112 0 5 #[39, 46, 53, 60, 67, 74], 39) := by decide +kernel
theorem dX3_roofOf_56 : decode cX3_roofOf 56 = .ok (.aload_n 0, 1) := dk_42 (dk_at dksX3_roofOf_2 0 rfl rfl)
theorem dX3_roofOf_57 : decode cX3_roofOf 57 = .ok (.getfield 65, 3) := dk_180 0 65 (dk_at dksX3_roofOf_2 1 rfl rfl)
theorem dX3_roofOf_60 : decode cX3_roofOf 60 = .ok (.iload_n 1, 1) := dk_27 (dk_at dksX3_roofOf_2 4 rfl rfl)
theorem dX3_roofOf_61 : decode cX3_roofOf 61 = .ok (.iaload, 1) := dk_46 (dk_at dksX3_roofOf_2 5 rfl rfl)
theorem dX3_roofOf_62 : decode cX3_roofOf 62 = .ok (.ireturn, 1) := dk_172 (dk_at dksX3_roofOf_2 6 rfl rfl)
theorem dX3_roofOf_63 : decode cX3_roofOf 63 = .ok (.aload_n 0, 1) := dk_42 (dk_at dksX3_roofOf_2 7 rfl rfl)
theorem dX3_roofOf_64 : decode cX3_roofOf 64 = .ok (.getfield 68, 3) := dk_180 0 68 (dk_at dksX3_roofOf_2 8 rfl rfl)
theorem dX3_roofOf_67 : decode cX3_roofOf 67 = .ok (.iload_n 1, 1) := dk_27 (dk_at dksX3_roofOf_2 11 rfl rfl)
theorem dX3_roofOf_68 : decode cX3_roofOf 68 = .ok (.iaload, 1) := dk_46 (dk_at dksX3_roofOf_2 12 rfl rfl)
theorem dX3_roofOf_69 : decode cX3_roofOf 69 = .ok (.ireturn, 1) := dk_172 (dk_at dksX3_roofOf_2 13 rfl rfl)
theorem dX3_roofOf_70 : decode cX3_roofOf 70 = .ok (.aload_n 0, 1) := dk_42 (dk_at dksX3_roofOf_2 14 rfl rfl)
theorem dX3_roofOf_71 : decode cX3_roofOf 71 = .ok (.getfield 71, 3) := dk_180 0 71 (dk_at dksX3_roofOf_2 15 rfl rfl)
theorem dX3_roofOf_74 : decode cX3_roofOf 74 = .ok (.iload_n 1, 1) := dk_27 (dk_at dksX3_roofOf_2 18 rfl rfl)
theorem dX3_roofOf_75 : decode cX3_roofOf 75 = .ok (.iaload, 1) := dk_46 (dk_at dksX3_roofOf_2 19 rfl rfl)
theorem dX3_roofOf_76 : decode cX3_roofOf 76 = .ok (.ireturn, 1) := dk_172 (dk_at dksX3_roofOf_2 20 rfl rfl)
theorem dX3_roofOf_77 : decode cX3_roofOf 77 = .ok (.aload_n 0, 1) := dk_42 (dk_at dksX3_roofOf_2 21 rfl rfl)
theorem dX3_roofOf_78 : decode cX3_roofOf 78 = .ok (.getfield 74, 3) := dk_180 0 74 (dk_at dksX3_roofOf_3 0 rfl rfl)
theorem dX3_roofOf_81 : decode cX3_roofOf 81 = .ok (.iload_n 1, 1) := dk_27 (dk_at dksX3_roofOf_3 3 rfl rfl)
theorem dX3_roofOf_82 : decode cX3_roofOf 82 = .ok (.iaload, 1) := dk_46 (dk_at dksX3_roofOf_3 4 rfl rfl)
theorem dX3_roofOf_83 : decode cX3_roofOf 83 = .ok (.ireturn, 1) := dk_172 (dk_at dksX3_roofOf_3 5 rfl rfl)
theorem dX3_roofOf_84 : decode cX3_roofOf 84 = .ok (.aload_n 0, 1) := dk_42 (dk_at dksX3_roofOf_3 6 rfl rfl)
theorem dX3_roofOf_85 : decode cX3_roofOf 85 = .ok (.getfield 77, 3) := dk_180 0 77 (dk_at dksX3_roofOf_3 7 rfl rfl)
theorem dX3_roofOf_88 : decode cX3_roofOf 88 = .ok (.iload_n 1, 1) := dk_27 (dk_at dksX3_roofOf_3 10 rfl rfl)
theorem dX3_roofOf_89 : decode cX3_roofOf 89 = .ok (.iaload, 1) := dk_46 (dk_at dksX3_roofOf_3 11 rfl rfl)
theorem dX3_roofOf_90 : decode cX3_roofOf 90 = .ok (.ireturn, 1) := dk_172 (dk_at dksX3_roofOf_3 12 rfl rfl)
theorem dX3_roofOf_91 : decode cX3_roofOf 91 = .ok (.iconst (-1), 1) := dk_2 (dk_at dksX3_roofOf_3 13 rfl rfl)
theorem dX3_roofOf_92 : decode cX3_roofOf 92 = .ok (.istore_n 3, 1) := dk_62 (dk_at dksX3_roofOf_3 14 rfl rfl)
theorem dX3_roofOf_93 : decode cX3_roofOf 93 = .ok (.iconst 0, 1) := dk_3 (dk_at dksX3_roofOf_3 15 rfl rfl)
theorem dX3_roofOf_94 : decode cX3_roofOf 94 = .ok (.istore 4, 2) := dk_54 4 (dk_at dksX3_roofOf_3 16 rfl rfl)
theorem dX3_roofOf_96 : decode cX3_roofOf 96 = .ok (.iload 4, 2) := dk_21 4 (dk_at dksX3_roofOf_3 18 rfl rfl)
theorem dX3_roofOf_98 : decode cX3_roofOf 98 = .ok (.bipush 10, 2) := dk_16 10 (dk_at dksX3_roofOf_3 20 rfl rfl)
theorem dX3_roofOf_100 : decode cX3_roofOf 100 = .ok (.if_icmp .ge 27, 3) := dk_162 0 27 (dk_at dksX3_roofOf_4 0 rfl rfl)
theorem dX3_roofOf_103 : decode cX3_roofOf 103 = .ok (.aload_n 0, 1) := dk_42 (dk_at dksX3_roofOf_4 3 rfl rfl)
theorem dX3_roofOf_104 : decode cX3_roofOf 104 = .ok (.getfield 80, 3) := dk_180 0 80 (dk_at dksX3_roofOf_4 4 rfl rfl)
theorem dX3_roofOf_107 : decode cX3_roofOf 107 = .ok (.iload_n 1, 1) := dk_27 (dk_at dksX3_roofOf_4 7 rfl rfl)
theorem dX3_roofOf_108 : decode cX3_roofOf 108 = .ok (.iaload, 1) := dk_46 (dk_at dksX3_roofOf_4 8 rfl rfl)
theorem dX3_roofOf_109 : decode cX3_roofOf 109 = .ok (.iload 4, 2) := dk_21 4 (dk_at dksX3_roofOf_4 9 rfl rfl)
theorem dX3_roofOf_111 : decode cX3_roofOf 111 = .ok (.ishr, 1) := dk_122 (dk_at dksX3_roofOf_4 11 rfl rfl)
theorem dX3_roofOf_112 : decode cX3_roofOf 112 = .ok (.iconst 1, 1) := dk_4 (dk_at dksX3_roofOf_4 12 rfl rfl)
theorem dX3_roofOf_113 : decode cX3_roofOf 113 = .ok (.iand, 1) := dk_126 (dk_at dksX3_roofOf_4 13 rfl rfl)
theorem dX3_roofOf_114 : decode cX3_roofOf 114 = .ok (.iconst 1, 1) := dk_4 (dk_at dksX3_roofOf_4 14 rfl rfl)
theorem dX3_roofOf_115 : decode cX3_roofOf 115 = .ok (.if_icmp .ne 6, 3) := dk_160 0 6 (dk_at dksX3_roofOf_4 15 rfl rfl)
theorem dX3_roofOf_118 : decode cX3_roofOf 118 = .ok (.iload 4, 2) := dk_21 4 (dk_at dksX3_roofOf_4 18 rfl rfl)
theorem dX3_roofOf_120 : decode cX3_roofOf 120 = .ok (.istore_n 3, 1) := dk_62 (dk_at dksX3_roofOf_4 20 rfl rfl)
theorem dX3_roofOf_121 : decode cX3_roofOf 121 = .ok (.iinc 4 1, 3) := dk_132 4 1 (dk_at dksX3_roofOf_4 21 rfl rfl)
theorem dX3_roofOf_124 : decode cX3_roofOf 124 = .ok (.goto (-28), 3) := dk_167 255 228 (dk_at dksX3_roofOf_5 0 rfl rfl)
theorem dX3_roofOf_127 : decode cX3_roofOf 127 = .ok (.iload_n 3, 1) := dk_29 (dk_at dksX3_roofOf_5 3 rfl rfl)
theorem dX3_roofOf_128 : decode cX3_roofOf 128 = .ok (.ireturn, 1) := dk_172 (dk_at dksX3_roofOf_5 4 rfl rfl)
theorem dX3_roofOf_129 : decode cX3_roofOf 129 = .ok (.iconst (-1), 1) := dk_2 (dk_at dksX3_roofOf_5 5 rfl rfl)
theorem dX3_roofOf_130 : decode cX3_roofOf 130 = .ok (.ireturn, 1) := dk_172 (dk_at dksX3_roofOf_5 6 rfl rfl)
def dkwX3_prove_1 : List UInt8 := [172, 42, 180, 0, 80, 27, 92, 46, 4, 42, 180, 0, 212, 17, 1, 109, 108, 120, 128, 79, 4, 172]
abbrev dktX3_prove_1 : List UInt8 := dkwX3_prove_1 ++ []
def dkwX3_prove_0 : List UInt8 := [27, 3, 42, 180, 0, 202, 4, 100, 184, 0, 194, 153, 0, 12, 42, 180, 0, 74, 27, 46, 154, 0, 5, 3]
abbrev dktX3_prove_0 : List UInt8 := dkwX3_prove_0 ++ dktX3_prove_1
theorem dksX3_prove_0 : cX3_prove.data.toList.drop 0 = dktX3_prove_0 := by decide +kernel
theorem dksX3_prove_1 : cX3_prove.data.toList.drop 24 = dktX3_prove_1 := dk_seg dksX3_prove_0 24 rfl rfl
theorem dX3_prove_0 : decode cX3_prove 0 = .ok (.iload_n 1, 1) := dk_27 (dk_at dksX3_prove_0 0 rfl rfl)
theorem dX3_prove_1 : decode cX3_prove 1 = .ok (.iconst 0, 1) := dk_3 (dk_at dksX3_prove_0 1 rfl rfl)
theorem dX3_prove_2 : decode cX3_prove 2 = .ok (.aload_n 0, 1) := dk_42 (dk_at dksX3_prove_0 2 rfl rfl)
theorem dX3_prove_3 : decode cX3_prove 3 = .ok (.getfield 202, 3) := dk_180 0 202 (dk_at dksX3_prove_0 3 rfl rfl)
theorem dX3_prove_6 : decode cX3_prove 6 = .ok (.iconst 1, 1) := dk_4 (dk_at dksX3_prove_0 6 rfl rfl)
theorem dX3_prove_7 : decode cX3_prove 7 = .ok (.isub, 1) := dk_100 (dk_at dksX3_prove_0 7 rfl rfl)
theorem dX3_prove_8 : decode cX3_prove 8 = .ok (.invokestatic 194, 3) := dk_184 0 194 (dk_at dksX3_prove_0 8 rfl rfl)
theorem dX3_prove_11 : decode cX3_prove 11 = .ok (.ifCond .eq 12, 3) := dk_153 0 12 (dk_at dksX3_prove_0 11 rfl rfl)
theorem dX3_prove_14 : decode cX3_prove 14 = .ok (.aload_n 0, 1) := dk_42 (dk_at dksX3_prove_0 14 rfl rfl)
theorem dX3_prove_15 : decode cX3_prove 15 = .ok (.getfield 74, 3) := dk_180 0 74 (dk_at dksX3_prove_0 15 rfl rfl)
theorem dX3_prove_18 : decode cX3_prove 18 = .ok (.iload_n 1, 1) := dk_27 (dk_at dksX3_prove_0 18 rfl rfl)
theorem dX3_prove_19 : decode cX3_prove 19 = .ok (.iaload, 1) := dk_46 (dk_at dksX3_prove_0 19 rfl rfl)
theorem dX3_prove_20 : decode cX3_prove 20 = .ok (.ifCond .ne 5, 3) := dk_154 0 5 (dk_at dksX3_prove_0 20 rfl rfl)
theorem dX3_prove_23 : decode cX3_prove 23 = .ok (.iconst 0, 1) := dk_3 (dk_at dksX3_prove_0 23 rfl rfl)
theorem dX3_prove_24 : decode cX3_prove 24 = .ok (.ireturn, 1) := dk_172 (dk_at dksX3_prove_1 0 rfl rfl)
theorem dX3_prove_25 : decode cX3_prove 25 = .ok (.aload_n 0, 1) := dk_42 (dk_at dksX3_prove_1 1 rfl rfl)
theorem dX3_prove_26 : decode cX3_prove 26 = .ok (.getfield 80, 3) := dk_180 0 80 (dk_at dksX3_prove_1 2 rfl rfl)
theorem dX3_prove_29 : decode cX3_prove 29 = .ok (.iload_n 1, 1) := dk_27 (dk_at dksX3_prove_1 5 rfl rfl)
theorem dX3_prove_30 : decode cX3_prove 30 = .ok (.dup2, 1) := dk_92 (dk_at dksX3_prove_1 6 rfl rfl)
theorem dX3_prove_31 : decode cX3_prove 31 = .ok (.iaload, 1) := dk_46 (dk_at dksX3_prove_1 7 rfl rfl)
theorem dX3_prove_32 : decode cX3_prove 32 = .ok (.iconst 1, 1) := dk_4 (dk_at dksX3_prove_1 8 rfl rfl)
theorem dX3_prove_33 : decode cX3_prove 33 = .ok (.aload_n 0, 1) := dk_42 (dk_at dksX3_prove_1 9 rfl rfl)
theorem dX3_prove_34 : decode cX3_prove 34 = .ok (.getfield 212, 3) := dk_180 0 212 (dk_at dksX3_prove_1 10 rfl rfl)
theorem dX3_prove_37 : decode cX3_prove 37 = .ok (.sipush 365, 3) := dk_17 1 109 (dk_at dksX3_prove_1 13 rfl rfl)
theorem dX3_prove_40 : decode cX3_prove 40 = .ok (.idiv, 1) := dk_108 (dk_at dksX3_prove_1 16 rfl rfl)
theorem dX3_prove_41 : decode cX3_prove 41 = .ok (.ishl, 1) := dk_120 (dk_at dksX3_prove_1 17 rfl rfl)
theorem dX3_prove_42 : decode cX3_prove 42 = .ok (.ior, 1) := dk_128 (dk_at dksX3_prove_1 18 rfl rfl)
theorem dX3_prove_43 : decode cX3_prove 43 = .ok (.iastore, 1) := dk_79 (dk_at dksX3_prove_1 19 rfl rfl)
theorem dX3_prove_44 : decode cX3_prove 44 = .ok (.iconst 1, 1) := dk_4 (dk_at dksX3_prove_1 20 rfl rfl)
theorem dX3_prove_45 : decode cX3_prove 45 = .ok (.ireturn, 1) := dk_172 (dk_at dksX3_prove_1 21 rfl rfl)
def dkwX3_stormOf_3 : List UInt8 := [180, 0, 135, 27, 46, 133, 173, 42, 180, 0, 123, 27, 47, 173, 20, 1, 57, 173]
abbrev dktX3_stormOf_3 : List UInt8 := dkwX3_stormOf_3 ++ []
def dkwX3_stormOf_2 : List UInt8 := [42, 180, 0, 132, 27, 46, 133, 173, 42, 180, 0, 117, 27, 47, 173, 42, 180, 0, 120, 27, 47, 173, 42]
abbrev dktX3_stormOf_2 : List UInt8 := dkwX3_stormOf_2 ++ dktX3_stormOf_3
def dkwX3_stormOf_1 : List UInt8 := [170, 0, 0, 0, 70, 0, 0, 0, 0, 0, 0, 0, 4, 0, 0, 0, 33, 0, 0, 0, 41, 0, 0, 0, 48, 0, 0, 0, 55, 0, 0, 0, 63]
abbrev dktX3_stormOf_1 : List UInt8 := dkwX3_stormOf_1 ++ dktX3_stormOf_2
def dkwX3_stormOf_0 : List UInt8 := [27, 3, 42, 180, 1, 39, 4, 100, 184, 0, 194, 154, 0, 7, 20, 1, 57, 173, 28]
abbrev dktX3_stormOf_0 : List UInt8 := dkwX3_stormOf_0 ++ dktX3_stormOf_1
theorem dksX3_stormOf_0 : cX3_stormOf.data.toList.drop 0 = dktX3_stormOf_0 := by decide +kernel
theorem dksX3_stormOf_1 : cX3_stormOf.data.toList.drop 19 = dktX3_stormOf_1 := dk_seg dksX3_stormOf_0 19 rfl rfl
theorem dksX3_stormOf_2 : cX3_stormOf.data.toList.drop 52 = dktX3_stormOf_2 := dk_seg dksX3_stormOf_1 33 rfl rfl
theorem dksX3_stormOf_3 : cX3_stormOf.data.toList.drop 75 = dktX3_stormOf_3 := dk_seg dksX3_stormOf_2 23 rfl rfl
theorem dX3_stormOf_0 : decode cX3_stormOf 0 = .ok (.iload_n 1, 1) := dk_27 (dk_at dksX3_stormOf_0 0 rfl rfl)
theorem dX3_stormOf_1 : decode cX3_stormOf 1 = .ok (.iconst 0, 1) := dk_3 (dk_at dksX3_stormOf_0 1 rfl rfl)
theorem dX3_stormOf_2 : decode cX3_stormOf 2 = .ok (.aload_n 0, 1) := dk_42 (dk_at dksX3_stormOf_0 2 rfl rfl)
theorem dX3_stormOf_3 : decode cX3_stormOf 3 = .ok (.getfield 295, 3) := dk_180 1 39 (dk_at dksX3_stormOf_0 3 rfl rfl)
theorem dX3_stormOf_6 : decode cX3_stormOf 6 = .ok (.iconst 1, 1) := dk_4 (dk_at dksX3_stormOf_0 6 rfl rfl)
theorem dX3_stormOf_7 : decode cX3_stormOf 7 = .ok (.isub, 1) := dk_100 (dk_at dksX3_stormOf_0 7 rfl rfl)
theorem dX3_stormOf_8 : decode cX3_stormOf 8 = .ok (.invokestatic 194, 3) := dk_184 0 194 (dk_at dksX3_stormOf_0 8 rfl rfl)
theorem dX3_stormOf_11 : decode cX3_stormOf 11 = .ok (.ifCond .ne 7, 3) := dk_154 0 7 (dk_at dksX3_stormOf_0 11 rfl rfl)
theorem dX3_stormOf_14 : decode cX3_stormOf 14 = .ok (.ldc2_w 313, 3) := dk_20 1 57 (dk_at dksX3_stormOf_0 14 rfl rfl)
theorem dX3_stormOf_17 : decode cX3_stormOf 17 = .ok (.lreturn, 1) := dk_173 (dk_at dksX3_stormOf_0 17 rfl rfl)
theorem dX3_stormOf_18 : decode cX3_stormOf 18 = .ok (.iload_n 2, 1) := dk_28 (dk_at dksX3_stormOf_0 18 rfl rfl)
theorem dX3_stormOf_19 : decode cX3_stormOf 19 = .ok (.tableswitch 70 0 4 #[33, 41, 48, 55, 63], 33) := by decide +kernel
theorem dX3_stormOf_52 : decode cX3_stormOf 52 = .ok (.aload_n 0, 1) := dk_42 (dk_at dksX3_stormOf_2 0 rfl rfl)
theorem dX3_stormOf_53 : decode cX3_stormOf 53 = .ok (.getfield 132, 3) := dk_180 0 132 (dk_at dksX3_stormOf_2 1 rfl rfl)
theorem dX3_stormOf_56 : decode cX3_stormOf 56 = .ok (.iload_n 1, 1) := dk_27 (dk_at dksX3_stormOf_2 4 rfl rfl)
theorem dX3_stormOf_57 : decode cX3_stormOf 57 = .ok (.iaload, 1) := dk_46 (dk_at dksX3_stormOf_2 5 rfl rfl)
theorem dX3_stormOf_58 : decode cX3_stormOf 58 = .ok (.i2l, 1) := dk_133 (dk_at dksX3_stormOf_2 6 rfl rfl)
theorem dX3_stormOf_59 : decode cX3_stormOf 59 = .ok (.lreturn, 1) := dk_173 (dk_at dksX3_stormOf_2 7 rfl rfl)
theorem dX3_stormOf_60 : decode cX3_stormOf 60 = .ok (.aload_n 0, 1) := dk_42 (dk_at dksX3_stormOf_2 8 rfl rfl)
theorem dX3_stormOf_61 : decode cX3_stormOf 61 = .ok (.getfield 117, 3) := dk_180 0 117 (dk_at dksX3_stormOf_2 9 rfl rfl)
theorem dX3_stormOf_64 : decode cX3_stormOf 64 = .ok (.iload_n 1, 1) := dk_27 (dk_at dksX3_stormOf_2 12 rfl rfl)
theorem dX3_stormOf_65 : decode cX3_stormOf 65 = .ok (.laload, 1) := dk_47 (dk_at dksX3_stormOf_2 13 rfl rfl)
theorem dX3_stormOf_66 : decode cX3_stormOf 66 = .ok (.lreturn, 1) := dk_173 (dk_at dksX3_stormOf_2 14 rfl rfl)
theorem dX3_stormOf_67 : decode cX3_stormOf 67 = .ok (.aload_n 0, 1) := dk_42 (dk_at dksX3_stormOf_2 15 rfl rfl)
theorem dX3_stormOf_68 : decode cX3_stormOf 68 = .ok (.getfield 120, 3) := dk_180 0 120 (dk_at dksX3_stormOf_2 16 rfl rfl)
theorem dX3_stormOf_71 : decode cX3_stormOf 71 = .ok (.iload_n 1, 1) := dk_27 (dk_at dksX3_stormOf_2 19 rfl rfl)
theorem dX3_stormOf_72 : decode cX3_stormOf 72 = .ok (.laload, 1) := dk_47 (dk_at dksX3_stormOf_2 20 rfl rfl)
theorem dX3_stormOf_73 : decode cX3_stormOf 73 = .ok (.lreturn, 1) := dk_173 (dk_at dksX3_stormOf_2 21 rfl rfl)
theorem dX3_stormOf_74 : decode cX3_stormOf 74 = .ok (.aload_n 0, 1) := dk_42 (dk_at dksX3_stormOf_2 22 rfl rfl)
theorem dX3_stormOf_75 : decode cX3_stormOf 75 = .ok (.getfield 135, 3) := dk_180 0 135 (dk_at dksX3_stormOf_3 0 rfl rfl)
theorem dX3_stormOf_78 : decode cX3_stormOf 78 = .ok (.iload_n 1, 1) := dk_27 (dk_at dksX3_stormOf_3 3 rfl rfl)
theorem dX3_stormOf_79 : decode cX3_stormOf 79 = .ok (.iaload, 1) := dk_46 (dk_at dksX3_stormOf_3 4 rfl rfl)
theorem dX3_stormOf_80 : decode cX3_stormOf 80 = .ok (.i2l, 1) := dk_133 (dk_at dksX3_stormOf_3 5 rfl rfl)
theorem dX3_stormOf_81 : decode cX3_stormOf 81 = .ok (.lreturn, 1) := dk_173 (dk_at dksX3_stormOf_3 6 rfl rfl)
theorem dX3_stormOf_82 : decode cX3_stormOf 82 = .ok (.aload_n 0, 1) := dk_42 (dk_at dksX3_stormOf_3 7 rfl rfl)
theorem dX3_stormOf_83 : decode cX3_stormOf 83 = .ok (.getfield 123, 3) := dk_180 0 123 (dk_at dksX3_stormOf_3 8 rfl rfl)
theorem dX3_stormOf_86 : decode cX3_stormOf 86 = .ok (.iload_n 1, 1) := dk_27 (dk_at dksX3_stormOf_3 11 rfl rfl)
theorem dX3_stormOf_87 : decode cX3_stormOf 87 = .ok (.laload, 1) := dk_47 (dk_at dksX3_stormOf_3 12 rfl rfl)
theorem dX3_stormOf_88 : decode cX3_stormOf 88 = .ok (.lreturn, 1) := dk_173 (dk_at dksX3_stormOf_3 13 rfl rfl)
theorem dX3_stormOf_89 : decode cX3_stormOf 89 = .ok (.ldc2_w 313, 3) := dk_20 1 57 (dk_at dksX3_stormOf_3 14 rfl rfl)
theorem dX3_stormOf_92 : decode cX3_stormOf 92 = .ok (.lreturn, 1) := dk_173 (dk_at dksX3_stormOf_3 17 rfl rfl)
def dkwX3_compare_7 : List UInt8 := [184, 1, 63, 133, 173]
abbrev dktX3_compare_7 : List UInt8 := dkwX3_compare_7 ++ []
def dkwX3_compare_6 : List UInt8 := [101, 20, 1, 71, 105, 42, 16, 12, 182, 0, 209, 133, 22, 4, 105, 148, 158, 0, 7, 4, 167, 0, 4, 3]
abbrev dktX3_compare_6 : List UInt8 := dkwX3_compare_6 ++ dktX3_compare_7
def dkwX3_compare_5 : List UInt8 := [28, 4, 160, 0, 8, 22, 4, 167, 0, 45, 28, 5, 160, 0, 8, 22, 6, 167, 0, 35, 22, 4, 22, 6]
abbrev dktX3_compare_5 : List UInt8 := dkwX3_compare_5 ++ dktX3_compare_6
def dkwX3_compare_4 : List UInt8 := [180, 0, 120, 21, 8, 47, 97, 55, 6, 132, 8, 1, 167, 255, 184, 28, 154, 0, 8, 29, 133, 167, 0, 55]
abbrev dktX3_compare_4 : List UInt8 := dkwX3_compare_4 ++ dktX3_compare_5
def dkwX3_compare_3 : List UInt8 := [160, 0, 6, 167, 0, 30, 132, 3, 1, 22, 4, 42, 180, 0, 120, 21, 9, 47, 97, 55, 4, 22, 6, 42]
abbrev dktX3_compare_3 : List UInt8 := dkwX3_compare_3 ++ dktX3_compare_4
def dkwX3_compare_2 : List UInt8 := [21, 8, 46, 27, 162, 0, 7, 2, 167, 0, 10, 42, 21, 8, 27, 182, 1, 73, 54, 9, 21, 9, 2]
abbrev dktX3_compare_2 : List UInt8 := dkwX3_compare_2 ++ dktX3_compare_3
def dkwX3_compare_1 : List UInt8 := [3, 62, 9, 55, 4, 9, 55, 6, 3, 54, 8, 21, 8, 42, 180, 1, 39, 162, 0, 69, 42, 180, 0, 132]
abbrev dktX3_compare_1 : List UInt8 := dkwX3_compare_1 ++ dktX3_compare_2
def dkwX3_compare_0 : List UInt8 := [27, 3, 17, 14, 65, 184, 0, 194, 153, 0, 12, 28, 3, 6, 184, 0, 194, 154, 0, 7, 20, 1, 57, 173]
abbrev dktX3_compare_0 : List UInt8 := dkwX3_compare_0 ++ dktX3_compare_1
theorem dksX3_compare_0 : cX3_compare.data.toList.drop 0 = dktX3_compare_0 := by decide +kernel
theorem dksX3_compare_1 : cX3_compare.data.toList.drop 24 = dktX3_compare_1 := dk_seg dksX3_compare_0 24 rfl rfl
theorem dksX3_compare_2 : cX3_compare.data.toList.drop 48 = dktX3_compare_2 := dk_seg dksX3_compare_1 24 rfl rfl
theorem dksX3_compare_3 : cX3_compare.data.toList.drop 71 = dktX3_compare_3 := dk_seg dksX3_compare_2 23 rfl rfl
theorem dksX3_compare_4 : cX3_compare.data.toList.drop 95 = dktX3_compare_4 := dk_seg dksX3_compare_3 24 rfl rfl
theorem dksX3_compare_5 : cX3_compare.data.toList.drop 119 = dktX3_compare_5 := dk_seg dksX3_compare_4 24 rfl rfl
theorem dksX3_compare_6 : cX3_compare.data.toList.drop 143 = dktX3_compare_6 := dk_seg dksX3_compare_5 24 rfl rfl
theorem dksX3_compare_7 : cX3_compare.data.toList.drop 167 = dktX3_compare_7 := dk_seg dksX3_compare_6 24 rfl rfl
theorem dX3_compare_0 : decode cX3_compare 0 = .ok (.iload_n 1, 1) := dk_27 (dk_at dksX3_compare_0 0 rfl rfl)
theorem dX3_compare_1 : decode cX3_compare 1 = .ok (.iconst 0, 1) := dk_3 (dk_at dksX3_compare_0 1 rfl rfl)
theorem dX3_compare_2 : decode cX3_compare 2 = .ok (.sipush 3649, 3) := dk_17 14 65 (dk_at dksX3_compare_0 2 rfl rfl)
theorem dX3_compare_5 : decode cX3_compare 5 = .ok (.invokestatic 194, 3) := dk_184 0 194 (dk_at dksX3_compare_0 5 rfl rfl)
theorem dX3_compare_8 : decode cX3_compare 8 = .ok (.ifCond .eq 12, 3) := dk_153 0 12 (dk_at dksX3_compare_0 8 rfl rfl)
theorem dX3_compare_11 : decode cX3_compare 11 = .ok (.iload_n 2, 1) := dk_28 (dk_at dksX3_compare_0 11 rfl rfl)
theorem dX3_compare_12 : decode cX3_compare 12 = .ok (.iconst 0, 1) := dk_3 (dk_at dksX3_compare_0 12 rfl rfl)
theorem dX3_compare_13 : decode cX3_compare 13 = .ok (.iconst 3, 1) := dk_6 (dk_at dksX3_compare_0 13 rfl rfl)
theorem dX3_compare_14 : decode cX3_compare 14 = .ok (.invokestatic 194, 3) := dk_184 0 194 (dk_at dksX3_compare_0 14 rfl rfl)
theorem dX3_compare_17 : decode cX3_compare 17 = .ok (.ifCond .ne 7, 3) := dk_154 0 7 (dk_at dksX3_compare_0 17 rfl rfl)
theorem dX3_compare_20 : decode cX3_compare 20 = .ok (.ldc2_w 313, 3) := dk_20 1 57 (dk_at dksX3_compare_0 20 rfl rfl)
theorem dX3_compare_23 : decode cX3_compare 23 = .ok (.lreturn, 1) := dk_173 (dk_at dksX3_compare_0 23 rfl rfl)
theorem dX3_compare_24 : decode cX3_compare 24 = .ok (.iconst 0, 1) := dk_3 (dk_at dksX3_compare_1 0 rfl rfl)
theorem dX3_compare_25 : decode cX3_compare 25 = .ok (.istore_n 3, 1) := dk_62 (dk_at dksX3_compare_1 1 rfl rfl)
theorem dX3_compare_26 : decode cX3_compare 26 = .ok (.lconst 0, 1) := dk_9 (dk_at dksX3_compare_1 2 rfl rfl)
theorem dX3_compare_27 : decode cX3_compare 27 = .ok (.lstore 4, 2) := dk_55 4 (dk_at dksX3_compare_1 3 rfl rfl)
theorem dX3_compare_29 : decode cX3_compare 29 = .ok (.lconst 0, 1) := dk_9 (dk_at dksX3_compare_1 5 rfl rfl)
theorem dX3_compare_30 : decode cX3_compare 30 = .ok (.lstore 6, 2) := dk_55 6 (dk_at dksX3_compare_1 6 rfl rfl)
theorem dX3_compare_32 : decode cX3_compare 32 = .ok (.iconst 0, 1) := dk_3 (dk_at dksX3_compare_1 8 rfl rfl)
theorem dX3_compare_33 : decode cX3_compare 33 = .ok (.istore 8, 2) := dk_54 8 (dk_at dksX3_compare_1 9 rfl rfl)
theorem dX3_compare_35 : decode cX3_compare 35 = .ok (.iload 8, 2) := dk_21 8 (dk_at dksX3_compare_1 11 rfl rfl)
theorem dX3_compare_37 : decode cX3_compare 37 = .ok (.aload_n 0, 1) := dk_42 (dk_at dksX3_compare_1 13 rfl rfl)
theorem dX3_compare_38 : decode cX3_compare 38 = .ok (.getfield 295, 3) := dk_180 1 39 (dk_at dksX3_compare_1 14 rfl rfl)
theorem dX3_compare_41 : decode cX3_compare 41 = .ok (.if_icmp .ge 69, 3) := dk_162 0 69 (dk_at dksX3_compare_1 17 rfl rfl)
theorem dX3_compare_44 : decode cX3_compare 44 = .ok (.aload_n 0, 1) := dk_42 (dk_at dksX3_compare_1 20 rfl rfl)
theorem dX3_compare_45 : decode cX3_compare 45 = .ok (.getfield 132, 3) := dk_180 0 132 (dk_at dksX3_compare_1 21 rfl rfl)
theorem dX3_compare_48 : decode cX3_compare 48 = .ok (.iload 8, 2) := dk_21 8 (dk_at dksX3_compare_2 0 rfl rfl)
theorem dX3_compare_50 : decode cX3_compare 50 = .ok (.iaload, 1) := dk_46 (dk_at dksX3_compare_2 2 rfl rfl)
theorem dX3_compare_51 : decode cX3_compare 51 = .ok (.iload_n 1, 1) := dk_27 (dk_at dksX3_compare_2 3 rfl rfl)
theorem dX3_compare_52 : decode cX3_compare 52 = .ok (.if_icmp .ge 7, 3) := dk_162 0 7 (dk_at dksX3_compare_2 4 rfl rfl)
theorem dX3_compare_55 : decode cX3_compare 55 = .ok (.iconst (-1), 1) := dk_2 (dk_at dksX3_compare_2 7 rfl rfl)
theorem dX3_compare_56 : decode cX3_compare 56 = .ok (.goto 10, 3) := dk_167 0 10 (dk_at dksX3_compare_2 8 rfl rfl)
theorem dX3_compare_59 : decode cX3_compare 59 = .ok (.aload_n 0, 1) := dk_42 (dk_at dksX3_compare_2 11 rfl rfl)
theorem dX3_compare_60 : decode cX3_compare 60 = .ok (.iload 8, 2) := dk_21 8 (dk_at dksX3_compare_2 12 rfl rfl)
theorem dX3_compare_62 : decode cX3_compare 62 = .ok (.iload_n 1, 1) := dk_27 (dk_at dksX3_compare_2 14 rfl rfl)
theorem dX3_compare_63 : decode cX3_compare 63 = .ok (.invokevirtual 329, 3) := dk_182 1 73 (dk_at dksX3_compare_2 15 rfl rfl)
theorem dX3_compare_66 : decode cX3_compare 66 = .ok (.istore 9, 2) := dk_54 9 (dk_at dksX3_compare_2 18 rfl rfl)
theorem dX3_compare_68 : decode cX3_compare 68 = .ok (.iload 9, 2) := dk_21 9 (dk_at dksX3_compare_2 20 rfl rfl)
theorem dX3_compare_70 : decode cX3_compare 70 = .ok (.iconst (-1), 1) := dk_2 (dk_at dksX3_compare_2 22 rfl rfl)
theorem dX3_compare_71 : decode cX3_compare 71 = .ok (.if_icmp .ne 6, 3) := dk_160 0 6 (dk_at dksX3_compare_3 0 rfl rfl)
theorem dX3_compare_74 : decode cX3_compare 74 = .ok (.goto 30, 3) := dk_167 0 30 (dk_at dksX3_compare_3 3 rfl rfl)
theorem dX3_compare_77 : decode cX3_compare 77 = .ok (.iinc 3 1, 3) := dk_132 3 1 (dk_at dksX3_compare_3 6 rfl rfl)
theorem dX3_compare_80 : decode cX3_compare 80 = .ok (.lload 4, 2) := dk_22 4 (dk_at dksX3_compare_3 9 rfl rfl)
theorem dX3_compare_82 : decode cX3_compare 82 = .ok (.aload_n 0, 1) := dk_42 (dk_at dksX3_compare_3 11 rfl rfl)
theorem dX3_compare_83 : decode cX3_compare 83 = .ok (.getfield 120, 3) := dk_180 0 120 (dk_at dksX3_compare_3 12 rfl rfl)
theorem dX3_compare_86 : decode cX3_compare 86 = .ok (.iload 9, 2) := dk_21 9 (dk_at dksX3_compare_3 15 rfl rfl)
theorem dX3_compare_88 : decode cX3_compare 88 = .ok (.laload, 1) := dk_47 (dk_at dksX3_compare_3 17 rfl rfl)
theorem dX3_compare_89 : decode cX3_compare 89 = .ok (.ladd, 1) := dk_97 (dk_at dksX3_compare_3 18 rfl rfl)
theorem dX3_compare_90 : decode cX3_compare 90 = .ok (.lstore 4, 2) := dk_55 4 (dk_at dksX3_compare_3 19 rfl rfl)
theorem dX3_compare_92 : decode cX3_compare 92 = .ok (.lload 6, 2) := dk_22 6 (dk_at dksX3_compare_3 21 rfl rfl)
theorem dX3_compare_94 : decode cX3_compare 94 = .ok (.aload_n 0, 1) := dk_42 (dk_at dksX3_compare_3 23 rfl rfl)
theorem dX3_compare_95 : decode cX3_compare 95 = .ok (.getfield 120, 3) := dk_180 0 120 (dk_at dksX3_compare_4 0 rfl rfl)
theorem dX3_compare_98 : decode cX3_compare 98 = .ok (.iload 8, 2) := dk_21 8 (dk_at dksX3_compare_4 3 rfl rfl)
theorem dX3_compare_100 : decode cX3_compare 100 = .ok (.laload, 1) := dk_47 (dk_at dksX3_compare_4 5 rfl rfl)
theorem dX3_compare_101 : decode cX3_compare 101 = .ok (.ladd, 1) := dk_97 (dk_at dksX3_compare_4 6 rfl rfl)
theorem dX3_compare_102 : decode cX3_compare 102 = .ok (.lstore 6, 2) := dk_55 6 (dk_at dksX3_compare_4 7 rfl rfl)
theorem dX3_compare_104 : decode cX3_compare 104 = .ok (.iinc 8 1, 3) := dk_132 8 1 (dk_at dksX3_compare_4 9 rfl rfl)
theorem dX3_compare_107 : decode cX3_compare 107 = .ok (.goto (-72), 3) := dk_167 255 184 (dk_at dksX3_compare_4 12 rfl rfl)
theorem dX3_compare_110 : decode cX3_compare 110 = .ok (.iload_n 2, 1) := dk_28 (dk_at dksX3_compare_4 15 rfl rfl)
theorem dX3_compare_111 : decode cX3_compare 111 = .ok (.ifCond .ne 8, 3) := dk_154 0 8 (dk_at dksX3_compare_4 16 rfl rfl)
theorem dX3_compare_114 : decode cX3_compare 114 = .ok (.iload_n 3, 1) := dk_29 (dk_at dksX3_compare_4 19 rfl rfl)
theorem dX3_compare_115 : decode cX3_compare 115 = .ok (.i2l, 1) := dk_133 (dk_at dksX3_compare_4 20 rfl rfl)
theorem dX3_compare_116 : decode cX3_compare 116 = .ok (.goto 55, 3) := dk_167 0 55 (dk_at dksX3_compare_4 21 rfl rfl)
theorem dX3_compare_119 : decode cX3_compare 119 = .ok (.iload_n 2, 1) := dk_28 (dk_at dksX3_compare_5 0 rfl rfl)
theorem dX3_compare_120 : decode cX3_compare 120 = .ok (.iconst 1, 1) := dk_4 (dk_at dksX3_compare_5 1 rfl rfl)
theorem dX3_compare_121 : decode cX3_compare 121 = .ok (.if_icmp .ne 8, 3) := dk_160 0 8 (dk_at dksX3_compare_5 2 rfl rfl)
theorem dX3_compare_124 : decode cX3_compare 124 = .ok (.lload 4, 2) := dk_22 4 (dk_at dksX3_compare_5 5 rfl rfl)
theorem dX3_compare_126 : decode cX3_compare 126 = .ok (.goto 45, 3) := dk_167 0 45 (dk_at dksX3_compare_5 7 rfl rfl)
theorem dX3_compare_129 : decode cX3_compare 129 = .ok (.iload_n 2, 1) := dk_28 (dk_at dksX3_compare_5 10 rfl rfl)
theorem dX3_compare_130 : decode cX3_compare 130 = .ok (.iconst 2, 1) := dk_5 (dk_at dksX3_compare_5 11 rfl rfl)
theorem dX3_compare_131 : decode cX3_compare 131 = .ok (.if_icmp .ne 8, 3) := dk_160 0 8 (dk_at dksX3_compare_5 12 rfl rfl)
theorem dX3_compare_134 : decode cX3_compare 134 = .ok (.lload 6, 2) := dk_22 6 (dk_at dksX3_compare_5 15 rfl rfl)
theorem dX3_compare_136 : decode cX3_compare 136 = .ok (.goto 35, 3) := dk_167 0 35 (dk_at dksX3_compare_5 17 rfl rfl)
theorem dX3_compare_139 : decode cX3_compare 139 = .ok (.lload 4, 2) := dk_22 4 (dk_at dksX3_compare_5 20 rfl rfl)
theorem dX3_compare_141 : decode cX3_compare 141 = .ok (.lload 6, 2) := dk_22 6 (dk_at dksX3_compare_5 22 rfl rfl)
theorem dX3_compare_143 : decode cX3_compare 143 = .ok (.lsub, 1) := dk_101 (dk_at dksX3_compare_6 0 rfl rfl)
theorem dX3_compare_144 : decode cX3_compare 144 = .ok (.ldc2_w 327, 3) := dk_20 1 71 (dk_at dksX3_compare_6 1 rfl rfl)
theorem dX3_compare_147 : decode cX3_compare 147 = .ok (.lmul, 1) := dk_105 (dk_at dksX3_compare_6 4 rfl rfl)
theorem dX3_compare_148 : decode cX3_compare 148 = .ok (.aload_n 0, 1) := dk_42 (dk_at dksX3_compare_6 5 rfl rfl)
theorem dX3_compare_149 : decode cX3_compare 149 = .ok (.bipush 12, 2) := dk_16 12 (dk_at dksX3_compare_6 6 rfl rfl)
theorem dX3_compare_151 : decode cX3_compare 151 = .ok (.invokevirtual 209, 3) := dk_182 0 209 (dk_at dksX3_compare_6 8 rfl rfl)
theorem dX3_compare_154 : decode cX3_compare 154 = .ok (.i2l, 1) := dk_133 (dk_at dksX3_compare_6 11 rfl rfl)
theorem dX3_compare_155 : decode cX3_compare 155 = .ok (.lload 4, 2) := dk_22 4 (dk_at dksX3_compare_6 12 rfl rfl)
theorem dX3_compare_157 : decode cX3_compare 157 = .ok (.lmul, 1) := dk_105 (dk_at dksX3_compare_6 14 rfl rfl)
theorem dX3_compare_158 : decode cX3_compare 158 = .ok (.lcmp, 1) := dk_148 (dk_at dksX3_compare_6 15 rfl rfl)
theorem dX3_compare_159 : decode cX3_compare 159 = .ok (.ifCond .le 7, 3) := dk_158 0 7 (dk_at dksX3_compare_6 16 rfl rfl)
theorem dX3_compare_162 : decode cX3_compare 162 = .ok (.iconst 1, 1) := dk_4 (dk_at dksX3_compare_6 19 rfl rfl)
theorem dX3_compare_163 : decode cX3_compare 163 = .ok (.goto 4, 3) := dk_167 0 4 (dk_at dksX3_compare_6 20 rfl rfl)
theorem dX3_compare_166 : decode cX3_compare 166 = .ok (.iconst 0, 1) := dk_3 (dk_at dksX3_compare_6 23 rfl rfl)
theorem dX3_compare_167 : decode cX3_compare 167 = .ok (.invokestatic 319, 3) := dk_184 1 63 (dk_at dksX3_compare_7 0 rfl rfl)
theorem dX3_compare_170 : decode cX3_compare 170 = .ok (.i2l, 1) := dk_133 (dk_at dksX3_compare_7 3 rfl rfl)
theorem dX3_compare_171 : decode cX3_compare 171 = .ok (.lreturn, 1) := dk_173 (dk_at dksX3_compare_7 4 rfl rfl)
def dkwX3_like_4 : List UInt8 := [132, 6, 1, 167, 255, 167, 29, 172]
abbrev dktX3_like_4 : List UInt8 := dkwX3_like_4 ++ []
def dkwX3_like_3 : List UInt8 := [29, 2, 159, 0, 14, 22, 7, 22, 4, 148, 158, 0, 6, 167, 0, 10, 21, 6, 62, 22, 7, 55, 4]
abbrev dktX3_like_3 : List UInt8 := dkwX3_like_3 ++ dktX3_like_4
def dkwX3_like_2 : List UInt8 := [22, 7, 20, 1, 71, 105, 42, 16, 12, 182, 0, 209, 133, 42, 180, 0, 117, 27, 47, 105, 148, 157, 0, 26]
abbrev dktX3_like_2 : List UInt8 := dkwX3_like_2 ++ dktX3_like_3
def dkwX3_like_1 : List UInt8 := [42, 180, 0, 117, 27, 47, 101, 184, 1, 67, 55, 7, 42, 180, 0, 132, 21, 6, 46, 28, 162, 0, 50]
abbrev dktX3_like_1 : List UInt8 := dkwX3_like_1 ++ dktX3_like_2
def dkwX3_like_0 : List UInt8 := [2, 62, 9, 55, 4, 3, 54, 6, 21, 6, 42, 180, 1, 39, 162, 0, 86, 42, 180, 0, 117, 21, 6, 47]
abbrev dktX3_like_0 : List UInt8 := dkwX3_like_0 ++ dktX3_like_1
theorem dksX3_like_0 : cX3_like.data.toList.drop 0 = dktX3_like_0 := by decide +kernel
theorem dksX3_like_1 : cX3_like.data.toList.drop 24 = dktX3_like_1 := dk_seg dksX3_like_0 24 rfl rfl
theorem dksX3_like_2 : cX3_like.data.toList.drop 47 = dktX3_like_2 := dk_seg dksX3_like_1 23 rfl rfl
theorem dksX3_like_3 : cX3_like.data.toList.drop 71 = dktX3_like_3 := dk_seg dksX3_like_2 24 rfl rfl
theorem dksX3_like_4 : cX3_like.data.toList.drop 94 = dktX3_like_4 := dk_seg dksX3_like_3 23 rfl rfl
theorem dX3_like_0 : decode cX3_like 0 = .ok (.iconst (-1), 1) := dk_2 (dk_at dksX3_like_0 0 rfl rfl)
theorem dX3_like_1 : decode cX3_like 1 = .ok (.istore_n 3, 1) := dk_62 (dk_at dksX3_like_0 1 rfl rfl)
theorem dX3_like_2 : decode cX3_like 2 = .ok (.lconst 0, 1) := dk_9 (dk_at dksX3_like_0 2 rfl rfl)
theorem dX3_like_3 : decode cX3_like 3 = .ok (.lstore 4, 2) := dk_55 4 (dk_at dksX3_like_0 3 rfl rfl)
theorem dX3_like_5 : decode cX3_like 5 = .ok (.iconst 0, 1) := dk_3 (dk_at dksX3_like_0 5 rfl rfl)
theorem dX3_like_6 : decode cX3_like 6 = .ok (.istore 6, 2) := dk_54 6 (dk_at dksX3_like_0 6 rfl rfl)
theorem dX3_like_8 : decode cX3_like 8 = .ok (.iload 6, 2) := dk_21 6 (dk_at dksX3_like_0 8 rfl rfl)
theorem dX3_like_10 : decode cX3_like 10 = .ok (.aload_n 0, 1) := dk_42 (dk_at dksX3_like_0 10 rfl rfl)
theorem dX3_like_11 : decode cX3_like 11 = .ok (.getfield 295, 3) := dk_180 1 39 (dk_at dksX3_like_0 11 rfl rfl)
theorem dX3_like_14 : decode cX3_like 14 = .ok (.if_icmp .ge 86, 3) := dk_162 0 86 (dk_at dksX3_like_0 14 rfl rfl)
theorem dX3_like_17 : decode cX3_like 17 = .ok (.aload_n 0, 1) := dk_42 (dk_at dksX3_like_0 17 rfl rfl)
theorem dX3_like_18 : decode cX3_like 18 = .ok (.getfield 117, 3) := dk_180 0 117 (dk_at dksX3_like_0 18 rfl rfl)
theorem dX3_like_21 : decode cX3_like 21 = .ok (.iload 6, 2) := dk_21 6 (dk_at dksX3_like_0 21 rfl rfl)
theorem dX3_like_23 : decode cX3_like 23 = .ok (.laload, 1) := dk_47 (dk_at dksX3_like_0 23 rfl rfl)
theorem dX3_like_24 : decode cX3_like 24 = .ok (.aload_n 0, 1) := dk_42 (dk_at dksX3_like_1 0 rfl rfl)
theorem dX3_like_25 : decode cX3_like 25 = .ok (.getfield 117, 3) := dk_180 0 117 (dk_at dksX3_like_1 1 rfl rfl)
theorem dX3_like_28 : decode cX3_like 28 = .ok (.iload_n 1, 1) := dk_27 (dk_at dksX3_like_1 4 rfl rfl)
theorem dX3_like_29 : decode cX3_like 29 = .ok (.laload, 1) := dk_47 (dk_at dksX3_like_1 5 rfl rfl)
theorem dX3_like_30 : decode cX3_like 30 = .ok (.lsub, 1) := dk_101 (dk_at dksX3_like_1 6 rfl rfl)
theorem dX3_like_31 : decode cX3_like 31 = .ok (.invokestatic 323, 3) := dk_184 1 67 (dk_at dksX3_like_1 7 rfl rfl)
theorem dX3_like_34 : decode cX3_like 34 = .ok (.lstore 7, 2) := dk_55 7 (dk_at dksX3_like_1 10 rfl rfl)
theorem dX3_like_36 : decode cX3_like 36 = .ok (.aload_n 0, 1) := dk_42 (dk_at dksX3_like_1 12 rfl rfl)
theorem dX3_like_37 : decode cX3_like 37 = .ok (.getfield 132, 3) := dk_180 0 132 (dk_at dksX3_like_1 13 rfl rfl)
theorem dX3_like_40 : decode cX3_like 40 = .ok (.iload 6, 2) := dk_21 6 (dk_at dksX3_like_1 16 rfl rfl)
theorem dX3_like_42 : decode cX3_like 42 = .ok (.iaload, 1) := dk_46 (dk_at dksX3_like_1 18 rfl rfl)
theorem dX3_like_43 : decode cX3_like 43 = .ok (.iload_n 2, 1) := dk_28 (dk_at dksX3_like_1 19 rfl rfl)
theorem dX3_like_44 : decode cX3_like 44 = .ok (.if_icmp .ge 50, 3) := dk_162 0 50 (dk_at dksX3_like_1 20 rfl rfl)
theorem dX3_like_47 : decode cX3_like 47 = .ok (.lload 7, 2) := dk_22 7 (dk_at dksX3_like_2 0 rfl rfl)
theorem dX3_like_49 : decode cX3_like 49 = .ok (.ldc2_w 327, 3) := dk_20 1 71 (dk_at dksX3_like_2 2 rfl rfl)
theorem dX3_like_52 : decode cX3_like 52 = .ok (.lmul, 1) := dk_105 (dk_at dksX3_like_2 5 rfl rfl)
theorem dX3_like_53 : decode cX3_like 53 = .ok (.aload_n 0, 1) := dk_42 (dk_at dksX3_like_2 6 rfl rfl)
theorem dX3_like_54 : decode cX3_like 54 = .ok (.bipush 12, 2) := dk_16 12 (dk_at dksX3_like_2 7 rfl rfl)
theorem dX3_like_56 : decode cX3_like 56 = .ok (.invokevirtual 209, 3) := dk_182 0 209 (dk_at dksX3_like_2 9 rfl rfl)
theorem dX3_like_59 : decode cX3_like 59 = .ok (.i2l, 1) := dk_133 (dk_at dksX3_like_2 12 rfl rfl)
theorem dX3_like_60 : decode cX3_like 60 = .ok (.aload_n 0, 1) := dk_42 (dk_at dksX3_like_2 13 rfl rfl)
theorem dX3_like_61 : decode cX3_like 61 = .ok (.getfield 117, 3) := dk_180 0 117 (dk_at dksX3_like_2 14 rfl rfl)
theorem dX3_like_64 : decode cX3_like 64 = .ok (.iload_n 1, 1) := dk_27 (dk_at dksX3_like_2 17 rfl rfl)
theorem dX3_like_65 : decode cX3_like 65 = .ok (.laload, 1) := dk_47 (dk_at dksX3_like_2 18 rfl rfl)
theorem dX3_like_66 : decode cX3_like 66 = .ok (.lmul, 1) := dk_105 (dk_at dksX3_like_2 19 rfl rfl)
theorem dX3_like_67 : decode cX3_like 67 = .ok (.lcmp, 1) := dk_148 (dk_at dksX3_like_2 20 rfl rfl)
theorem dX3_like_68 : decode cX3_like 68 = .ok (.ifCond .gt 26, 3) := dk_157 0 26 (dk_at dksX3_like_2 21 rfl rfl)
theorem dX3_like_71 : decode cX3_like 71 = .ok (.iload_n 3, 1) := dk_29 (dk_at dksX3_like_3 0 rfl rfl)
theorem dX3_like_72 : decode cX3_like 72 = .ok (.iconst (-1), 1) := dk_2 (dk_at dksX3_like_3 1 rfl rfl)
theorem dX3_like_73 : decode cX3_like 73 = .ok (.if_icmp .eq 14, 3) := dk_159 0 14 (dk_at dksX3_like_3 2 rfl rfl)
theorem dX3_like_76 : decode cX3_like 76 = .ok (.lload 7, 2) := dk_22 7 (dk_at dksX3_like_3 5 rfl rfl)
theorem dX3_like_78 : decode cX3_like 78 = .ok (.lload 4, 2) := dk_22 4 (dk_at dksX3_like_3 7 rfl rfl)
theorem dX3_like_80 : decode cX3_like 80 = .ok (.lcmp, 1) := dk_148 (dk_at dksX3_like_3 9 rfl rfl)
theorem dX3_like_81 : decode cX3_like 81 = .ok (.ifCond .le 6, 3) := dk_158 0 6 (dk_at dksX3_like_3 10 rfl rfl)
theorem dX3_like_84 : decode cX3_like 84 = .ok (.goto 10, 3) := dk_167 0 10 (dk_at dksX3_like_3 13 rfl rfl)
theorem dX3_like_87 : decode cX3_like 87 = .ok (.iload 6, 2) := dk_21 6 (dk_at dksX3_like_3 16 rfl rfl)
theorem dX3_like_89 : decode cX3_like 89 = .ok (.istore_n 3, 1) := dk_62 (dk_at dksX3_like_3 18 rfl rfl)
theorem dX3_like_90 : decode cX3_like 90 = .ok (.lload 7, 2) := dk_22 7 (dk_at dksX3_like_3 19 rfl rfl)
theorem dX3_like_92 : decode cX3_like 92 = .ok (.lstore 4, 2) := dk_55 4 (dk_at dksX3_like_3 21 rfl rfl)
theorem dX3_like_94 : decode cX3_like 94 = .ok (.iinc 6 1, 3) := dk_132 6 1 (dk_at dksX3_like_4 0 rfl rfl)
theorem dX3_like_97 : decode cX3_like 97 = .ok (.goto (-89), 3) := dk_167 255 167 (dk_at dksX3_like_4 3 rfl rfl)
theorem dX3_like_100 : decode cX3_like 100 = .ok (.iload_n 3, 1) := dk_29 (dk_at dksX3_like_4 6 rfl rfl)
theorem dX3_like_101 : decode cX3_like 101 = .ok (.ireturn, 1) := dk_172 (dk_at dksX3_like_4 7 rfl rfl)
def dkwX3_crew_9 : List UInt8 := [154, 0, 8, 21, 4, 167, 0, 14, 28, 4, 160, 0, 7, 29, 167, 0, 5, 21, 5, 172]
abbrev dktX3_crew_9 : List UInt8 := dkwX3_crew_9 ++ []
def dkwX3_crew_8 : List UInt8 := [21, 7, 54, 4, 21, 8, 5, 21, 6, 184, 1, 60, 104, 96, 54, 5, 132, 6, 1, 167, 255, 83, 28]
abbrev dktX3_crew_8 : List UInt8 := dkwX3_crew_8 ++ dktX3_crew_9
def dkwX3_crew_7 : List UInt8 := [21, 6, 184, 1, 60, 104, 96, 27, 163, 0, 32, 21, 7, 21, 4, 163, 0, 6, 167, 0, 22, 21, 6, 62]
abbrev dktX3_crew_7 : List UInt8 := dkwX3_crew_7 ++ dktX3_crew_8
def dkwX3_crew_6 : List UInt8 := [21, 10, 182, 0, 230, 100, 96, 54, 7, 132, 10, 1, 167, 255, 160, 21, 9, 153, 0, 46, 21, 8, 5]
abbrev dktX3_crew_6 : List UInt8 := dkwX3_crew_6 ++ dktX3_crew_7
def dkwX3_crew_5 : List UInt8 := [21, 7, 42, 21, 10, 3, 42, 180, 0, 44, 21, 10, 46, 16, 30, 100, 184, 0, 222, 182, 0, 215, 42]
abbrev dktX3_crew_5 : List UInt8 := dkwX3_crew_5 ++ dktX3_crew_6
def dkwX3_crew_4 : List UInt8 := [167, 0, 4, 3, 54, 9, 42, 180, 0, 25, 21, 10, 51, 154, 0, 6, 167, 0, 39, 21, 10, 54, 8]
abbrev dktX3_crew_4 : List UInt8 := dkwX3_crew_4 ++ dktX3_crew_5
def dkwX3_crew_3 : List UInt8 := [154, 0, 6, 167, 0, 74, 21, 9, 153, 0, 17, 42, 180, 0, 25, 21, 10, 51, 153, 0, 7, 4]
abbrev dktX3_crew_3 : List UInt8 := dkwX3_crew_3 ++ dktX3_crew_4
def dkwX3_crew_2 : List UInt8 := [54, 8, 4, 54, 9, 3, 54, 10, 21, 10, 42, 180, 0, 191, 162, 0, 93, 21, 6, 21, 10, 122, 4, 126]
abbrev dktX3_crew_2 : List UInt8 := dkwX3_crew_2 ++ dktX3_crew_3
def dkwX3_crew_1 : List UInt8 := [54, 4, 3, 54, 5, 4, 54, 6, 21, 6, 4, 42, 180, 0, 191, 120, 162, 0, 168, 3, 54, 7, 3]
abbrev dktX3_crew_1 : List UInt8 := dkwX3_crew_1 ++ dktX3_crew_2
def dkwX3_crew_0 : List UInt8 := [27, 3, 16, 60, 184, 0, 194, 153, 0, 12, 28, 3, 5, 184, 0, 194, 154, 0, 5, 2, 172, 3, 62, 3]
abbrev dktX3_crew_0 : List UInt8 := dkwX3_crew_0 ++ dktX3_crew_1
theorem dksX3_crew_0 : cX3_crew.data.toList.drop 0 = dktX3_crew_0 := by decide +kernel
theorem dksX3_crew_1 : cX3_crew.data.toList.drop 24 = dktX3_crew_1 := dk_seg dksX3_crew_0 24 rfl rfl
theorem dksX3_crew_2 : cX3_crew.data.toList.drop 47 = dktX3_crew_2 := dk_seg dksX3_crew_1 23 rfl rfl
theorem dksX3_crew_3 : cX3_crew.data.toList.drop 71 = dktX3_crew_3 := dk_seg dksX3_crew_2 24 rfl rfl
theorem dksX3_crew_4 : cX3_crew.data.toList.drop 93 = dktX3_crew_4 := dk_seg dksX3_crew_3 22 rfl rfl
theorem dksX3_crew_5 : cX3_crew.data.toList.drop 116 = dktX3_crew_5 := dk_seg dksX3_crew_4 23 rfl rfl
theorem dksX3_crew_6 : cX3_crew.data.toList.drop 139 = dktX3_crew_6 := dk_seg dksX3_crew_5 23 rfl rfl
theorem dksX3_crew_7 : cX3_crew.data.toList.drop 162 = dktX3_crew_7 := dk_seg dksX3_crew_6 23 rfl rfl
theorem dksX3_crew_8 : cX3_crew.data.toList.drop 186 = dktX3_crew_8 := dk_seg dksX3_crew_7 24 rfl rfl
theorem dksX3_crew_9 : cX3_crew.data.toList.drop 209 = dktX3_crew_9 := dk_seg dksX3_crew_8 23 rfl rfl
theorem dX3_crew_0 : decode cX3_crew 0 = .ok (.iload_n 1, 1) := dk_27 (dk_at dksX3_crew_0 0 rfl rfl)
theorem dX3_crew_1 : decode cX3_crew 1 = .ok (.iconst 0, 1) := dk_3 (dk_at dksX3_crew_0 1 rfl rfl)
theorem dX3_crew_2 : decode cX3_crew 2 = .ok (.bipush 60, 2) := dk_16 60 (dk_at dksX3_crew_0 2 rfl rfl)
theorem dX3_crew_4 : decode cX3_crew 4 = .ok (.invokestatic 194, 3) := dk_184 0 194 (dk_at dksX3_crew_0 4 rfl rfl)
theorem dX3_crew_7 : decode cX3_crew 7 = .ok (.ifCond .eq 12, 3) := dk_153 0 12 (dk_at dksX3_crew_0 7 rfl rfl)
theorem dX3_crew_10 : decode cX3_crew 10 = .ok (.iload_n 2, 1) := dk_28 (dk_at dksX3_crew_0 10 rfl rfl)
theorem dX3_crew_11 : decode cX3_crew 11 = .ok (.iconst 0, 1) := dk_3 (dk_at dksX3_crew_0 11 rfl rfl)
theorem dX3_crew_12 : decode cX3_crew 12 = .ok (.iconst 2, 1) := dk_5 (dk_at dksX3_crew_0 12 rfl rfl)
theorem dX3_crew_13 : decode cX3_crew 13 = .ok (.invokestatic 194, 3) := dk_184 0 194 (dk_at dksX3_crew_0 13 rfl rfl)
theorem dX3_crew_16 : decode cX3_crew 16 = .ok (.ifCond .ne 5, 3) := dk_154 0 5 (dk_at dksX3_crew_0 16 rfl rfl)
theorem dX3_crew_19 : decode cX3_crew 19 = .ok (.iconst (-1), 1) := dk_2 (dk_at dksX3_crew_0 19 rfl rfl)
theorem dX3_crew_20 : decode cX3_crew 20 = .ok (.ireturn, 1) := dk_172 (dk_at dksX3_crew_0 20 rfl rfl)
theorem dX3_crew_21 : decode cX3_crew 21 = .ok (.iconst 0, 1) := dk_3 (dk_at dksX3_crew_0 21 rfl rfl)
theorem dX3_crew_22 : decode cX3_crew 22 = .ok (.istore_n 3, 1) := dk_62 (dk_at dksX3_crew_0 22 rfl rfl)
theorem dX3_crew_23 : decode cX3_crew 23 = .ok (.iconst 0, 1) := dk_3 (dk_at dksX3_crew_0 23 rfl rfl)
theorem dX3_crew_24 : decode cX3_crew 24 = .ok (.istore 4, 2) := dk_54 4 (dk_at dksX3_crew_1 0 rfl rfl)
theorem dX3_crew_26 : decode cX3_crew 26 = .ok (.iconst 0, 1) := dk_3 (dk_at dksX3_crew_1 2 rfl rfl)
theorem dX3_crew_27 : decode cX3_crew 27 = .ok (.istore 5, 2) := dk_54 5 (dk_at dksX3_crew_1 3 rfl rfl)
theorem dX3_crew_29 : decode cX3_crew 29 = .ok (.iconst 1, 1) := dk_4 (dk_at dksX3_crew_1 5 rfl rfl)
theorem dX3_crew_30 : decode cX3_crew 30 = .ok (.istore 6, 2) := dk_54 6 (dk_at dksX3_crew_1 6 rfl rfl)
theorem dX3_crew_32 : decode cX3_crew 32 = .ok (.iload 6, 2) := dk_21 6 (dk_at dksX3_crew_1 8 rfl rfl)
theorem dX3_crew_34 : decode cX3_crew 34 = .ok (.iconst 1, 1) := dk_4 (dk_at dksX3_crew_1 10 rfl rfl)
theorem dX3_crew_35 : decode cX3_crew 35 = .ok (.aload_n 0, 1) := dk_42 (dk_at dksX3_crew_1 11 rfl rfl)
theorem dX3_crew_36 : decode cX3_crew 36 = .ok (.getfield 191, 3) := dk_180 0 191 (dk_at dksX3_crew_1 12 rfl rfl)
theorem dX3_crew_39 : decode cX3_crew 39 = .ok (.ishl, 1) := dk_120 (dk_at dksX3_crew_1 15 rfl rfl)
theorem dX3_crew_40 : decode cX3_crew 40 = .ok (.if_icmp .ge 168, 3) := dk_162 0 168 (dk_at dksX3_crew_1 16 rfl rfl)
theorem dX3_crew_43 : decode cX3_crew 43 = .ok (.iconst 0, 1) := dk_3 (dk_at dksX3_crew_1 19 rfl rfl)
theorem dX3_crew_44 : decode cX3_crew 44 = .ok (.istore 7, 2) := dk_54 7 (dk_at dksX3_crew_1 20 rfl rfl)
theorem dX3_crew_46 : decode cX3_crew 46 = .ok (.iconst 0, 1) := dk_3 (dk_at dksX3_crew_1 22 rfl rfl)
theorem dX3_crew_47 : decode cX3_crew 47 = .ok (.istore 8, 2) := dk_54 8 (dk_at dksX3_crew_2 0 rfl rfl)
theorem dX3_crew_49 : decode cX3_crew 49 = .ok (.iconst 1, 1) := dk_4 (dk_at dksX3_crew_2 2 rfl rfl)
theorem dX3_crew_50 : decode cX3_crew 50 = .ok (.istore 9, 2) := dk_54 9 (dk_at dksX3_crew_2 3 rfl rfl)
theorem dX3_crew_52 : decode cX3_crew 52 = .ok (.iconst 0, 1) := dk_3 (dk_at dksX3_crew_2 5 rfl rfl)
theorem dX3_crew_53 : decode cX3_crew 53 = .ok (.istore 10, 2) := dk_54 10 (dk_at dksX3_crew_2 6 rfl rfl)
theorem dX3_crew_55 : decode cX3_crew 55 = .ok (.iload 10, 2) := dk_21 10 (dk_at dksX3_crew_2 8 rfl rfl)
theorem dX3_crew_57 : decode cX3_crew 57 = .ok (.aload_n 0, 1) := dk_42 (dk_at dksX3_crew_2 10 rfl rfl)
theorem dX3_crew_58 : decode cX3_crew 58 = .ok (.getfield 191, 3) := dk_180 0 191 (dk_at dksX3_crew_2 11 rfl rfl)
theorem dX3_crew_61 : decode cX3_crew 61 = .ok (.if_icmp .ge 93, 3) := dk_162 0 93 (dk_at dksX3_crew_2 14 rfl rfl)
theorem dX3_crew_64 : decode cX3_crew 64 = .ok (.iload 6, 2) := dk_21 6 (dk_at dksX3_crew_2 17 rfl rfl)
theorem dX3_crew_66 : decode cX3_crew 66 = .ok (.iload 10, 2) := dk_21 10 (dk_at dksX3_crew_2 19 rfl rfl)
theorem dX3_crew_68 : decode cX3_crew 68 = .ok (.ishr, 1) := dk_122 (dk_at dksX3_crew_2 21 rfl rfl)
theorem dX3_crew_69 : decode cX3_crew 69 = .ok (.iconst 1, 1) := dk_4 (dk_at dksX3_crew_2 22 rfl rfl)
theorem dX3_crew_70 : decode cX3_crew 70 = .ok (.iand, 1) := dk_126 (dk_at dksX3_crew_2 23 rfl rfl)
theorem dX3_crew_71 : decode cX3_crew 71 = .ok (.ifCond .ne 6, 3) := dk_154 0 6 (dk_at dksX3_crew_3 0 rfl rfl)
theorem dX3_crew_74 : decode cX3_crew 74 = .ok (.goto 74, 3) := dk_167 0 74 (dk_at dksX3_crew_3 3 rfl rfl)
theorem dX3_crew_77 : decode cX3_crew 77 = .ok (.iload 9, 2) := dk_21 9 (dk_at dksX3_crew_3 6 rfl rfl)
theorem dX3_crew_79 : decode cX3_crew 79 = .ok (.ifCond .eq 17, 3) := dk_153 0 17 (dk_at dksX3_crew_3 8 rfl rfl)
theorem dX3_crew_82 : decode cX3_crew 82 = .ok (.aload_n 0, 1) := dk_42 (dk_at dksX3_crew_3 11 rfl rfl)
theorem dX3_crew_83 : decode cX3_crew 83 = .ok (.getfield 25, 3) := dk_180 0 25 (dk_at dksX3_crew_3 12 rfl rfl)
theorem dX3_crew_86 : decode cX3_crew 86 = .ok (.iload 10, 2) := dk_21 10 (dk_at dksX3_crew_3 15 rfl rfl)
theorem dX3_crew_88 : decode cX3_crew 88 = .ok (.baload, 1) := dk_51 (dk_at dksX3_crew_3 17 rfl rfl)
theorem dX3_crew_89 : decode cX3_crew 89 = .ok (.ifCond .eq 7, 3) := dk_153 0 7 (dk_at dksX3_crew_3 18 rfl rfl)
theorem dX3_crew_92 : decode cX3_crew 92 = .ok (.iconst 1, 1) := dk_4 (dk_at dksX3_crew_3 21 rfl rfl)
theorem dX3_crew_93 : decode cX3_crew 93 = .ok (.goto 4, 3) := dk_167 0 4 (dk_at dksX3_crew_4 0 rfl rfl)
theorem dX3_crew_96 : decode cX3_crew 96 = .ok (.iconst 0, 1) := dk_3 (dk_at dksX3_crew_4 3 rfl rfl)
theorem dX3_crew_97 : decode cX3_crew 97 = .ok (.istore 9, 2) := dk_54 9 (dk_at dksX3_crew_4 4 rfl rfl)
theorem dX3_crew_99 : decode cX3_crew 99 = .ok (.aload_n 0, 1) := dk_42 (dk_at dksX3_crew_4 6 rfl rfl)
theorem dX3_crew_100 : decode cX3_crew 100 = .ok (.getfield 25, 3) := dk_180 0 25 (dk_at dksX3_crew_4 7 rfl rfl)
theorem dX3_crew_103 : decode cX3_crew 103 = .ok (.iload 10, 2) := dk_21 10 (dk_at dksX3_crew_4 10 rfl rfl)
theorem dX3_crew_105 : decode cX3_crew 105 = .ok (.baload, 1) := dk_51 (dk_at dksX3_crew_4 12 rfl rfl)
theorem dX3_crew_106 : decode cX3_crew 106 = .ok (.ifCond .ne 6, 3) := dk_154 0 6 (dk_at dksX3_crew_4 13 rfl rfl)
theorem dX3_crew_109 : decode cX3_crew 109 = .ok (.goto 39, 3) := dk_167 0 39 (dk_at dksX3_crew_4 16 rfl rfl)
theorem dX3_crew_112 : decode cX3_crew 112 = .ok (.iload 10, 2) := dk_21 10 (dk_at dksX3_crew_4 19 rfl rfl)
theorem dX3_crew_114 : decode cX3_crew 114 = .ok (.istore 8, 2) := dk_54 8 (dk_at dksX3_crew_4 21 rfl rfl)
theorem dX3_crew_116 : decode cX3_crew 116 = .ok (.iload 7, 2) := dk_21 7 (dk_at dksX3_crew_5 0 rfl rfl)
theorem dX3_crew_118 : decode cX3_crew 118 = .ok (.aload_n 0, 1) := dk_42 (dk_at dksX3_crew_5 2 rfl rfl)
theorem dX3_crew_119 : decode cX3_crew 119 = .ok (.iload 10, 2) := dk_21 10 (dk_at dksX3_crew_5 3 rfl rfl)
theorem dX3_crew_121 : decode cX3_crew 121 = .ok (.iconst 0, 1) := dk_3 (dk_at dksX3_crew_5 5 rfl rfl)
theorem dX3_crew_122 : decode cX3_crew 122 = .ok (.aload_n 0, 1) := dk_42 (dk_at dksX3_crew_5 6 rfl rfl)
theorem dX3_crew_123 : decode cX3_crew 123 = .ok (.getfield 44, 3) := dk_180 0 44 (dk_at dksX3_crew_5 7 rfl rfl)
theorem dX3_crew_126 : decode cX3_crew 126 = .ok (.iload 10, 2) := dk_21 10 (dk_at dksX3_crew_5 10 rfl rfl)
theorem dX3_crew_128 : decode cX3_crew 128 = .ok (.iaload, 1) := dk_46 (dk_at dksX3_crew_5 12 rfl rfl)
theorem dX3_crew_129 : decode cX3_crew 129 = .ok (.bipush 30, 2) := dk_16 30 (dk_at dksX3_crew_5 13 rfl rfl)
theorem dX3_crew_131 : decode cX3_crew 131 = .ok (.isub, 1) := dk_100 (dk_at dksX3_crew_5 15 rfl rfl)
theorem dX3_crew_132 : decode cX3_crew 132 = .ok (.invokestatic 222, 3) := dk_184 0 222 (dk_at dksX3_crew_5 16 rfl rfl)
theorem dX3_crew_135 : decode cX3_crew 135 = .ok (.invokevirtual 215, 3) := dk_182 0 215 (dk_at dksX3_crew_5 19 rfl rfl)
theorem dX3_crew_138 : decode cX3_crew 138 = .ok (.aload_n 0, 1) := dk_42 (dk_at dksX3_crew_5 22 rfl rfl)
theorem dX3_crew_139 : decode cX3_crew 139 = .ok (.iload 10, 2) := dk_21 10 (dk_at dksX3_crew_6 0 rfl rfl)
theorem dX3_crew_141 : decode cX3_crew 141 = .ok (.invokevirtual 230, 3) := dk_182 0 230 (dk_at dksX3_crew_6 2 rfl rfl)
theorem dX3_crew_144 : decode cX3_crew 144 = .ok (.isub, 1) := dk_100 (dk_at dksX3_crew_6 5 rfl rfl)
theorem dX3_crew_145 : decode cX3_crew 145 = .ok (.iadd, 1) := dk_96 (dk_at dksX3_crew_6 6 rfl rfl)
theorem dX3_crew_146 : decode cX3_crew 146 = .ok (.istore 7, 2) := dk_54 7 (dk_at dksX3_crew_6 7 rfl rfl)
theorem dX3_crew_148 : decode cX3_crew 148 = .ok (.iinc 10 1, 3) := dk_132 10 1 (dk_at dksX3_crew_6 9 rfl rfl)
theorem dX3_crew_151 : decode cX3_crew 151 = .ok (.goto (-96), 3) := dk_167 255 160 (dk_at dksX3_crew_6 12 rfl rfl)
theorem dX3_crew_154 : decode cX3_crew 154 = .ok (.iload 9, 2) := dk_21 9 (dk_at dksX3_crew_6 15 rfl rfl)
theorem dX3_crew_156 : decode cX3_crew 156 = .ok (.ifCond .eq 46, 3) := dk_153 0 46 (dk_at dksX3_crew_6 17 rfl rfl)
theorem dX3_crew_159 : decode cX3_crew 159 = .ok (.iload 8, 2) := dk_21 8 (dk_at dksX3_crew_6 20 rfl rfl)
theorem dX3_crew_161 : decode cX3_crew 161 = .ok (.iconst 2, 1) := dk_5 (dk_at dksX3_crew_6 22 rfl rfl)
theorem dX3_crew_162 : decode cX3_crew 162 = .ok (.iload 6, 2) := dk_21 6 (dk_at dksX3_crew_7 0 rfl rfl)
theorem dX3_crew_164 : decode cX3_crew 164 = .ok (.invokestatic 316, 3) := dk_184 1 60 (dk_at dksX3_crew_7 2 rfl rfl)
theorem dX3_crew_167 : decode cX3_crew 167 = .ok (.imul, 1) := dk_104 (dk_at dksX3_crew_7 5 rfl rfl)
theorem dX3_crew_168 : decode cX3_crew 168 = .ok (.iadd, 1) := dk_96 (dk_at dksX3_crew_7 6 rfl rfl)
theorem dX3_crew_169 : decode cX3_crew 169 = .ok (.iload_n 1, 1) := dk_27 (dk_at dksX3_crew_7 7 rfl rfl)
theorem dX3_crew_170 : decode cX3_crew 170 = .ok (.if_icmp .gt 32, 3) := dk_163 0 32 (dk_at dksX3_crew_7 8 rfl rfl)
theorem dX3_crew_173 : decode cX3_crew 173 = .ok (.iload 7, 2) := dk_21 7 (dk_at dksX3_crew_7 11 rfl rfl)
theorem dX3_crew_175 : decode cX3_crew 175 = .ok (.iload 4, 2) := dk_21 4 (dk_at dksX3_crew_7 13 rfl rfl)
theorem dX3_crew_177 : decode cX3_crew 177 = .ok (.if_icmp .gt 6, 3) := dk_163 0 6 (dk_at dksX3_crew_7 15 rfl rfl)
theorem dX3_crew_180 : decode cX3_crew 180 = .ok (.goto 22, 3) := dk_167 0 22 (dk_at dksX3_crew_7 18 rfl rfl)
theorem dX3_crew_183 : decode cX3_crew 183 = .ok (.iload 6, 2) := dk_21 6 (dk_at dksX3_crew_7 21 rfl rfl)
theorem dX3_crew_185 : decode cX3_crew 185 = .ok (.istore_n 3, 1) := dk_62 (dk_at dksX3_crew_7 23 rfl rfl)
theorem dX3_crew_186 : decode cX3_crew 186 = .ok (.iload 7, 2) := dk_21 7 (dk_at dksX3_crew_8 0 rfl rfl)
theorem dX3_crew_188 : decode cX3_crew 188 = .ok (.istore 4, 2) := dk_54 4 (dk_at dksX3_crew_8 2 rfl rfl)
theorem dX3_crew_190 : decode cX3_crew 190 = .ok (.iload 8, 2) := dk_21 8 (dk_at dksX3_crew_8 4 rfl rfl)
theorem dX3_crew_192 : decode cX3_crew 192 = .ok (.iconst 2, 1) := dk_5 (dk_at dksX3_crew_8 6 rfl rfl)
theorem dX3_crew_193 : decode cX3_crew 193 = .ok (.iload 6, 2) := dk_21 6 (dk_at dksX3_crew_8 7 rfl rfl)
theorem dX3_crew_195 : decode cX3_crew 195 = .ok (.invokestatic 316, 3) := dk_184 1 60 (dk_at dksX3_crew_8 9 rfl rfl)
theorem dX3_crew_198 : decode cX3_crew 198 = .ok (.imul, 1) := dk_104 (dk_at dksX3_crew_8 12 rfl rfl)
theorem dX3_crew_199 : decode cX3_crew 199 = .ok (.iadd, 1) := dk_96 (dk_at dksX3_crew_8 13 rfl rfl)
theorem dX3_crew_200 : decode cX3_crew 200 = .ok (.istore 5, 2) := dk_54 5 (dk_at dksX3_crew_8 14 rfl rfl)
theorem dX3_crew_202 : decode cX3_crew 202 = .ok (.iinc 6 1, 3) := dk_132 6 1 (dk_at dksX3_crew_8 16 rfl rfl)
theorem dX3_crew_205 : decode cX3_crew 205 = .ok (.goto (-173), 3) := dk_167 255 83 (dk_at dksX3_crew_8 19 rfl rfl)
theorem dX3_crew_208 : decode cX3_crew 208 = .ok (.iload_n 2, 1) := dk_28 (dk_at dksX3_crew_8 22 rfl rfl)
theorem dX3_crew_209 : decode cX3_crew 209 = .ok (.ifCond .ne 8, 3) := dk_154 0 8 (dk_at dksX3_crew_9 0 rfl rfl)
theorem dX3_crew_212 : decode cX3_crew 212 = .ok (.iload 4, 2) := dk_21 4 (dk_at dksX3_crew_9 3 rfl rfl)
theorem dX3_crew_214 : decode cX3_crew 214 = .ok (.goto 14, 3) := dk_167 0 14 (dk_at dksX3_crew_9 5 rfl rfl)
theorem dX3_crew_217 : decode cX3_crew 217 = .ok (.iload_n 2, 1) := dk_28 (dk_at dksX3_crew_9 8 rfl rfl)
theorem dX3_crew_218 : decode cX3_crew 218 = .ok (.iconst 1, 1) := dk_4 (dk_at dksX3_crew_9 9 rfl rfl)
theorem dX3_crew_219 : decode cX3_crew 219 = .ok (.if_icmp .ne 7, 3) := dk_160 0 7 (dk_at dksX3_crew_9 10 rfl rfl)
theorem dX3_crew_222 : decode cX3_crew 222 = .ok (.iload_n 3, 1) := dk_29 (dk_at dksX3_crew_9 13 rfl rfl)
theorem dX3_crew_223 : decode cX3_crew 223 = .ok (.goto 5, 3) := dk_167 0 5 (dk_at dksX3_crew_9 14 rfl rfl)
theorem dX3_crew_226 : decode cX3_crew 226 = .ok (.iload 5, 2) := dk_21 5 (dk_at dksX3_crew_9 17 rfl rfl)
theorem dX3_crew_228 : decode cX3_crew 228 = .ok (.ireturn, 1) := dk_172 (dk_at dksX3_crew_9 19 rfl rfl)
def dkwX3_neighbour_2 : List UInt8 := [132, 4, 1, 167, 255, 231, 28, 154, 0, 12, 42, 180, 0, 89, 27, 46, 167, 0, 4, 29, 172]
abbrev dktX3_neighbour_2 : List UInt8 := dkwX3_neighbour_2 ++ []
def dkwX3_neighbour_1 : List UInt8 := [54, 4, 21, 4, 16, 10, 162, 0, 24, 29, 42, 180, 0, 92, 16, 10, 21, 4, 104, 27, 96, 46, 96, 62]
abbrev dktX3_neighbour_1 : List UInt8 := dkwX3_neighbour_1 ++ dktX3_neighbour_2
def dkwX3_neighbour_0 : List UInt8 := [27, 3, 16, 9, 184, 0, 194, 153, 0, 12, 28, 3, 4, 184, 0, 194, 154, 0, 5, 2, 172, 3, 62, 3]
abbrev dktX3_neighbour_0 : List UInt8 := dkwX3_neighbour_0 ++ dktX3_neighbour_1
theorem dksX3_neighbour_0 : cX3_neighbour.data.toList.drop 0 = dktX3_neighbour_0 := by decide +kernel
theorem dksX3_neighbour_1 : cX3_neighbour.data.toList.drop 24 = dktX3_neighbour_1 := dk_seg dksX3_neighbour_0 24 rfl rfl
theorem dksX3_neighbour_2 : cX3_neighbour.data.toList.drop 48 = dktX3_neighbour_2 := dk_seg dksX3_neighbour_1 24 rfl rfl
theorem dX3_neighbour_0 : decode cX3_neighbour 0 = .ok (.iload_n 1, 1) := dk_27 (dk_at dksX3_neighbour_0 0 rfl rfl)
theorem dX3_neighbour_1 : decode cX3_neighbour 1 = .ok (.iconst 0, 1) := dk_3 (dk_at dksX3_neighbour_0 1 rfl rfl)
theorem dX3_neighbour_2 : decode cX3_neighbour 2 = .ok (.bipush 9, 2) := dk_16 9 (dk_at dksX3_neighbour_0 2 rfl rfl)
theorem dX3_neighbour_4 : decode cX3_neighbour 4 = .ok (.invokestatic 194, 3) := dk_184 0 194 (dk_at dksX3_neighbour_0 4 rfl rfl)
theorem dX3_neighbour_7 : decode cX3_neighbour 7 = .ok (.ifCond .eq 12, 3) := dk_153 0 12 (dk_at dksX3_neighbour_0 7 rfl rfl)
theorem dX3_neighbour_10 : decode cX3_neighbour 10 = .ok (.iload_n 2, 1) := dk_28 (dk_at dksX3_neighbour_0 10 rfl rfl)
theorem dX3_neighbour_11 : decode cX3_neighbour 11 = .ok (.iconst 0, 1) := dk_3 (dk_at dksX3_neighbour_0 11 rfl rfl)
theorem dX3_neighbour_12 : decode cX3_neighbour 12 = .ok (.iconst 1, 1) := dk_4 (dk_at dksX3_neighbour_0 12 rfl rfl)
theorem dX3_neighbour_13 : decode cX3_neighbour 13 = .ok (.invokestatic 194, 3) := dk_184 0 194 (dk_at dksX3_neighbour_0 13 rfl rfl)
theorem dX3_neighbour_16 : decode cX3_neighbour 16 = .ok (.ifCond .ne 5, 3) := dk_154 0 5 (dk_at dksX3_neighbour_0 16 rfl rfl)
theorem dX3_neighbour_19 : decode cX3_neighbour 19 = .ok (.iconst (-1), 1) := dk_2 (dk_at dksX3_neighbour_0 19 rfl rfl)
theorem dX3_neighbour_20 : decode cX3_neighbour 20 = .ok (.ireturn, 1) := dk_172 (dk_at dksX3_neighbour_0 20 rfl rfl)
theorem dX3_neighbour_21 : decode cX3_neighbour 21 = .ok (.iconst 0, 1) := dk_3 (dk_at dksX3_neighbour_0 21 rfl rfl)
theorem dX3_neighbour_22 : decode cX3_neighbour 22 = .ok (.istore_n 3, 1) := dk_62 (dk_at dksX3_neighbour_0 22 rfl rfl)
theorem dX3_neighbour_23 : decode cX3_neighbour 23 = .ok (.iconst 0, 1) := dk_3 (dk_at dksX3_neighbour_0 23 rfl rfl)
theorem dX3_neighbour_24 : decode cX3_neighbour 24 = .ok (.istore 4, 2) := dk_54 4 (dk_at dksX3_neighbour_1 0 rfl rfl)
theorem dX3_neighbour_26 : decode cX3_neighbour 26 = .ok (.iload 4, 2) := dk_21 4 (dk_at dksX3_neighbour_1 2 rfl rfl)
theorem dX3_neighbour_28 : decode cX3_neighbour 28 = .ok (.bipush 10, 2) := dk_16 10 (dk_at dksX3_neighbour_1 4 rfl rfl)
theorem dX3_neighbour_30 : decode cX3_neighbour 30 = .ok (.if_icmp .ge 24, 3) := dk_162 0 24 (dk_at dksX3_neighbour_1 6 rfl rfl)
theorem dX3_neighbour_33 : decode cX3_neighbour 33 = .ok (.iload_n 3, 1) := dk_29 (dk_at dksX3_neighbour_1 9 rfl rfl)
theorem dX3_neighbour_34 : decode cX3_neighbour 34 = .ok (.aload_n 0, 1) := dk_42 (dk_at dksX3_neighbour_1 10 rfl rfl)
theorem dX3_neighbour_35 : decode cX3_neighbour 35 = .ok (.getfield 92, 3) := dk_180 0 92 (dk_at dksX3_neighbour_1 11 rfl rfl)
theorem dX3_neighbour_38 : decode cX3_neighbour 38 = .ok (.bipush 10, 2) := dk_16 10 (dk_at dksX3_neighbour_1 14 rfl rfl)
theorem dX3_neighbour_40 : decode cX3_neighbour 40 = .ok (.iload 4, 2) := dk_21 4 (dk_at dksX3_neighbour_1 16 rfl rfl)
theorem dX3_neighbour_42 : decode cX3_neighbour 42 = .ok (.imul, 1) := dk_104 (dk_at dksX3_neighbour_1 18 rfl rfl)
theorem dX3_neighbour_43 : decode cX3_neighbour 43 = .ok (.iload_n 1, 1) := dk_27 (dk_at dksX3_neighbour_1 19 rfl rfl)
theorem dX3_neighbour_44 : decode cX3_neighbour 44 = .ok (.iadd, 1) := dk_96 (dk_at dksX3_neighbour_1 20 rfl rfl)
theorem dX3_neighbour_45 : decode cX3_neighbour 45 = .ok (.iaload, 1) := dk_46 (dk_at dksX3_neighbour_1 21 rfl rfl)
theorem dX3_neighbour_46 : decode cX3_neighbour 46 = .ok (.iadd, 1) := dk_96 (dk_at dksX3_neighbour_1 22 rfl rfl)
theorem dX3_neighbour_47 : decode cX3_neighbour 47 = .ok (.istore_n 3, 1) := dk_62 (dk_at dksX3_neighbour_1 23 rfl rfl)
theorem dX3_neighbour_48 : decode cX3_neighbour 48 = .ok (.iinc 4 1, 3) := dk_132 4 1 (dk_at dksX3_neighbour_2 0 rfl rfl)
theorem dX3_neighbour_51 : decode cX3_neighbour 51 = .ok (.goto (-25), 3) := dk_167 255 231 (dk_at dksX3_neighbour_2 3 rfl rfl)
theorem dX3_neighbour_54 : decode cX3_neighbour 54 = .ok (.iload_n 2, 1) := dk_28 (dk_at dksX3_neighbour_2 6 rfl rfl)
theorem dX3_neighbour_55 : decode cX3_neighbour 55 = .ok (.ifCond .ne 12, 3) := dk_154 0 12 (dk_at dksX3_neighbour_2 7 rfl rfl)
theorem dX3_neighbour_58 : decode cX3_neighbour 58 = .ok (.aload_n 0, 1) := dk_42 (dk_at dksX3_neighbour_2 10 rfl rfl)
theorem dX3_neighbour_59 : decode cX3_neighbour 59 = .ok (.getfield 89, 3) := dk_180 0 89 (dk_at dksX3_neighbour_2 11 rfl rfl)
theorem dX3_neighbour_62 : decode cX3_neighbour 62 = .ok (.iload_n 1, 1) := dk_27 (dk_at dksX3_neighbour_2 14 rfl rfl)
theorem dX3_neighbour_63 : decode cX3_neighbour 63 = .ok (.iaload, 1) := dk_46 (dk_at dksX3_neighbour_2 15 rfl rfl)
theorem dX3_neighbour_64 : decode cX3_neighbour 64 = .ok (.goto 4, 3) := dk_167 0 4 (dk_at dksX3_neighbour_2 16 rfl rfl)
theorem dX3_neighbour_67 : decode cX3_neighbour 67 = .ok (.iload_n 3, 1) := dk_29 (dk_at dksX3_neighbour_2 19 rfl rfl)
theorem dX3_neighbour_68 : decode cX3_neighbour 68 = .ok (.ireturn, 1) := dk_172 (dk_at dksX3_neighbour_2 20 rfl rfl)
def dkwX3_fee_6 : List UInt8 := [180, 0, 92, 16, 10, 28, 104, 27, 96, 46, 104, 100, 54, 4, 3, 21, 4, 184, 0, 222, 172]
abbrev dktX3_fee_6 : List UInt8 := dkwX3_fee_6 ++ []
def dkwX3_fee_5 : List UInt8 := [54, 4, 132, 5, 1, 167, 255, 175, 27, 16, 10, 162, 0, 27, 21, 4, 42, 29, 16, 9, 182, 1, 76, 42]
abbrev dktX3_fee_5 : List UInt8 := dkwX3_fee_5 ++ dktX3_fee_6
def dkwX3_fee_4 : List UInt8 := [160, 0, 21, 42, 29, 16, 8, 182, 1, 76, 42, 180, 0, 74, 21, 5, 46, 104, 167, 0, 4, 3, 100, 96]
abbrev dktX3_fee_4 : List UInt8 := dkwX3_fee_4 ++ dktX3_fee_5
def dkwX3_fee_3 : List UInt8 := [182, 1, 76, 42, 180, 0, 71, 21, 5, 46, 104, 42, 180, 0, 80, 21, 5, 46, 28, 122, 4, 126, 4]
abbrev dktX3_fee_3 : List UInt8 := dkwX3_fee_3 ++ dktX3_fee_4
def dkwX3_fee_2 : List UInt8 := [162, 0, 78, 42, 180, 0, 68, 21, 5, 46, 27, 159, 0, 6, 167, 0, 58, 21, 4, 42, 29, 16, 7]
abbrev dktX3_fee_2 : List UInt8 := dkwX3_fee_2 ++ dktX3_fee_3
def dkwX3_fee_1 : List UInt8 := [17, 1, 109, 28, 104, 17, 1, 109, 96, 4, 100, 62, 3, 54, 4, 3, 54, 5, 21, 5, 42, 180, 0, 202]
abbrev dktX3_fee_1 : List UInt8 := dkwX3_fee_1 ++ dktX3_fee_2
def dkwX3_fee_0 : List UInt8 := [27, 3, 16, 19, 184, 0, 194, 153, 0, 13, 28, 3, 16, 9, 184, 0, 194, 154, 0, 5, 2, 172]
abbrev dktX3_fee_0 : List UInt8 := dkwX3_fee_0 ++ dktX3_fee_1
theorem dksX3_fee_0 : cX3_fee.data.toList.drop 0 = dktX3_fee_0 := by decide +kernel
theorem dksX3_fee_1 : cX3_fee.data.toList.drop 22 = dktX3_fee_1 := dk_seg dksX3_fee_0 22 rfl rfl
theorem dksX3_fee_2 : cX3_fee.data.toList.drop 46 = dktX3_fee_2 := dk_seg dksX3_fee_1 24 rfl rfl
theorem dksX3_fee_3 : cX3_fee.data.toList.drop 69 = dktX3_fee_3 := dk_seg dksX3_fee_2 23 rfl rfl
theorem dksX3_fee_4 : cX3_fee.data.toList.drop 92 = dktX3_fee_4 := dk_seg dksX3_fee_3 23 rfl rfl
theorem dksX3_fee_5 : cX3_fee.data.toList.drop 116 = dktX3_fee_5 := dk_seg dksX3_fee_4 24 rfl rfl
theorem dksX3_fee_6 : cX3_fee.data.toList.drop 140 = dktX3_fee_6 := dk_seg dksX3_fee_5 24 rfl rfl
theorem dX3_fee_0 : decode cX3_fee 0 = .ok (.iload_n 1, 1) := dk_27 (dk_at dksX3_fee_0 0 rfl rfl)
theorem dX3_fee_1 : decode cX3_fee 1 = .ok (.iconst 0, 1) := dk_3 (dk_at dksX3_fee_0 1 rfl rfl)
theorem dX3_fee_2 : decode cX3_fee 2 = .ok (.bipush 19, 2) := dk_16 19 (dk_at dksX3_fee_0 2 rfl rfl)
theorem dX3_fee_4 : decode cX3_fee 4 = .ok (.invokestatic 194, 3) := dk_184 0 194 (dk_at dksX3_fee_0 4 rfl rfl)
theorem dX3_fee_7 : decode cX3_fee 7 = .ok (.ifCond .eq 13, 3) := dk_153 0 13 (dk_at dksX3_fee_0 7 rfl rfl)
theorem dX3_fee_10 : decode cX3_fee 10 = .ok (.iload_n 2, 1) := dk_28 (dk_at dksX3_fee_0 10 rfl rfl)
theorem dX3_fee_11 : decode cX3_fee 11 = .ok (.iconst 0, 1) := dk_3 (dk_at dksX3_fee_0 11 rfl rfl)
theorem dX3_fee_12 : decode cX3_fee 12 = .ok (.bipush 9, 2) := dk_16 9 (dk_at dksX3_fee_0 12 rfl rfl)
theorem dX3_fee_14 : decode cX3_fee 14 = .ok (.invokestatic 194, 3) := dk_184 0 194 (dk_at dksX3_fee_0 14 rfl rfl)
theorem dX3_fee_17 : decode cX3_fee 17 = .ok (.ifCond .ne 5, 3) := dk_154 0 5 (dk_at dksX3_fee_0 17 rfl rfl)
theorem dX3_fee_20 : decode cX3_fee 20 = .ok (.iconst (-1), 1) := dk_2 (dk_at dksX3_fee_0 20 rfl rfl)
theorem dX3_fee_21 : decode cX3_fee 21 = .ok (.ireturn, 1) := dk_172 (dk_at dksX3_fee_0 21 rfl rfl)
theorem dX3_fee_22 : decode cX3_fee 22 = .ok (.sipush 365, 3) := dk_17 1 109 (dk_at dksX3_fee_1 0 rfl rfl)
theorem dX3_fee_25 : decode cX3_fee 25 = .ok (.iload_n 2, 1) := dk_28 (dk_at dksX3_fee_1 3 rfl rfl)
theorem dX3_fee_26 : decode cX3_fee 26 = .ok (.imul, 1) := dk_104 (dk_at dksX3_fee_1 4 rfl rfl)
theorem dX3_fee_27 : decode cX3_fee 27 = .ok (.sipush 365, 3) := dk_17 1 109 (dk_at dksX3_fee_1 5 rfl rfl)
theorem dX3_fee_30 : decode cX3_fee 30 = .ok (.iadd, 1) := dk_96 (dk_at dksX3_fee_1 8 rfl rfl)
theorem dX3_fee_31 : decode cX3_fee 31 = .ok (.iconst 1, 1) := dk_4 (dk_at dksX3_fee_1 9 rfl rfl)
theorem dX3_fee_32 : decode cX3_fee 32 = .ok (.isub, 1) := dk_100 (dk_at dksX3_fee_1 10 rfl rfl)
theorem dX3_fee_33 : decode cX3_fee 33 = .ok (.istore_n 3, 1) := dk_62 (dk_at dksX3_fee_1 11 rfl rfl)
theorem dX3_fee_34 : decode cX3_fee 34 = .ok (.iconst 0, 1) := dk_3 (dk_at dksX3_fee_1 12 rfl rfl)
theorem dX3_fee_35 : decode cX3_fee 35 = .ok (.istore 4, 2) := dk_54 4 (dk_at dksX3_fee_1 13 rfl rfl)
theorem dX3_fee_37 : decode cX3_fee 37 = .ok (.iconst 0, 1) := dk_3 (dk_at dksX3_fee_1 15 rfl rfl)
theorem dX3_fee_38 : decode cX3_fee 38 = .ok (.istore 5, 2) := dk_54 5 (dk_at dksX3_fee_1 16 rfl rfl)
theorem dX3_fee_40 : decode cX3_fee 40 = .ok (.iload 5, 2) := dk_21 5 (dk_at dksX3_fee_1 18 rfl rfl)
theorem dX3_fee_42 : decode cX3_fee 42 = .ok (.aload_n 0, 1) := dk_42 (dk_at dksX3_fee_1 20 rfl rfl)
theorem dX3_fee_43 : decode cX3_fee 43 = .ok (.getfield 202, 3) := dk_180 0 202 (dk_at dksX3_fee_1 21 rfl rfl)
theorem dX3_fee_46 : decode cX3_fee 46 = .ok (.if_icmp .ge 78, 3) := dk_162 0 78 (dk_at dksX3_fee_2 0 rfl rfl)
theorem dX3_fee_49 : decode cX3_fee 49 = .ok (.aload_n 0, 1) := dk_42 (dk_at dksX3_fee_2 3 rfl rfl)
theorem dX3_fee_50 : decode cX3_fee 50 = .ok (.getfield 68, 3) := dk_180 0 68 (dk_at dksX3_fee_2 4 rfl rfl)
theorem dX3_fee_53 : decode cX3_fee 53 = .ok (.iload 5, 2) := dk_21 5 (dk_at dksX3_fee_2 7 rfl rfl)
theorem dX3_fee_55 : decode cX3_fee 55 = .ok (.iaload, 1) := dk_46 (dk_at dksX3_fee_2 9 rfl rfl)
theorem dX3_fee_56 : decode cX3_fee 56 = .ok (.iload_n 1, 1) := dk_27 (dk_at dksX3_fee_2 10 rfl rfl)
theorem dX3_fee_57 : decode cX3_fee 57 = .ok (.if_icmp .eq 6, 3) := dk_159 0 6 (dk_at dksX3_fee_2 11 rfl rfl)
theorem dX3_fee_60 : decode cX3_fee 60 = .ok (.goto 58, 3) := dk_167 0 58 (dk_at dksX3_fee_2 14 rfl rfl)
theorem dX3_fee_63 : decode cX3_fee 63 = .ok (.iload 4, 2) := dk_21 4 (dk_at dksX3_fee_2 17 rfl rfl)
theorem dX3_fee_65 : decode cX3_fee 65 = .ok (.aload_n 0, 1) := dk_42 (dk_at dksX3_fee_2 19 rfl rfl)
theorem dX3_fee_66 : decode cX3_fee 66 = .ok (.iload_n 3, 1) := dk_29 (dk_at dksX3_fee_2 20 rfl rfl)
theorem dX3_fee_67 : decode cX3_fee 67 = .ok (.bipush 7, 2) := dk_16 7 (dk_at dksX3_fee_2 21 rfl rfl)
theorem dX3_fee_69 : decode cX3_fee 69 = .ok (.invokevirtual 332, 3) := dk_182 1 76 (dk_at dksX3_fee_3 0 rfl rfl)
theorem dX3_fee_72 : decode cX3_fee 72 = .ok (.aload_n 0, 1) := dk_42 (dk_at dksX3_fee_3 3 rfl rfl)
theorem dX3_fee_73 : decode cX3_fee 73 = .ok (.getfield 71, 3) := dk_180 0 71 (dk_at dksX3_fee_3 4 rfl rfl)
theorem dX3_fee_76 : decode cX3_fee 76 = .ok (.iload 5, 2) := dk_21 5 (dk_at dksX3_fee_3 7 rfl rfl)
theorem dX3_fee_78 : decode cX3_fee 78 = .ok (.iaload, 1) := dk_46 (dk_at dksX3_fee_3 9 rfl rfl)
theorem dX3_fee_79 : decode cX3_fee 79 = .ok (.imul, 1) := dk_104 (dk_at dksX3_fee_3 10 rfl rfl)
theorem dX3_fee_80 : decode cX3_fee 80 = .ok (.aload_n 0, 1) := dk_42 (dk_at dksX3_fee_3 11 rfl rfl)
theorem dX3_fee_81 : decode cX3_fee 81 = .ok (.getfield 80, 3) := dk_180 0 80 (dk_at dksX3_fee_3 12 rfl rfl)
theorem dX3_fee_84 : decode cX3_fee 84 = .ok (.iload 5, 2) := dk_21 5 (dk_at dksX3_fee_3 15 rfl rfl)
theorem dX3_fee_86 : decode cX3_fee 86 = .ok (.iaload, 1) := dk_46 (dk_at dksX3_fee_3 17 rfl rfl)
theorem dX3_fee_87 : decode cX3_fee 87 = .ok (.iload_n 2, 1) := dk_28 (dk_at dksX3_fee_3 18 rfl rfl)
theorem dX3_fee_88 : decode cX3_fee 88 = .ok (.ishr, 1) := dk_122 (dk_at dksX3_fee_3 19 rfl rfl)
theorem dX3_fee_89 : decode cX3_fee 89 = .ok (.iconst 1, 1) := dk_4 (dk_at dksX3_fee_3 20 rfl rfl)
theorem dX3_fee_90 : decode cX3_fee 90 = .ok (.iand, 1) := dk_126 (dk_at dksX3_fee_3 21 rfl rfl)
theorem dX3_fee_91 : decode cX3_fee 91 = .ok (.iconst 1, 1) := dk_4 (dk_at dksX3_fee_3 22 rfl rfl)
theorem dX3_fee_92 : decode cX3_fee 92 = .ok (.if_icmp .ne 21, 3) := dk_160 0 21 (dk_at dksX3_fee_4 0 rfl rfl)
theorem dX3_fee_95 : decode cX3_fee 95 = .ok (.aload_n 0, 1) := dk_42 (dk_at dksX3_fee_4 3 rfl rfl)
theorem dX3_fee_96 : decode cX3_fee 96 = .ok (.iload_n 3, 1) := dk_29 (dk_at dksX3_fee_4 4 rfl rfl)
theorem dX3_fee_97 : decode cX3_fee 97 = .ok (.bipush 8, 2) := dk_16 8 (dk_at dksX3_fee_4 5 rfl rfl)
theorem dX3_fee_99 : decode cX3_fee 99 = .ok (.invokevirtual 332, 3) := dk_182 1 76 (dk_at dksX3_fee_4 7 rfl rfl)
theorem dX3_fee_102 : decode cX3_fee 102 = .ok (.aload_n 0, 1) := dk_42 (dk_at dksX3_fee_4 10 rfl rfl)
theorem dX3_fee_103 : decode cX3_fee 103 = .ok (.getfield 74, 3) := dk_180 0 74 (dk_at dksX3_fee_4 11 rfl rfl)
theorem dX3_fee_106 : decode cX3_fee 106 = .ok (.iload 5, 2) := dk_21 5 (dk_at dksX3_fee_4 14 rfl rfl)
theorem dX3_fee_108 : decode cX3_fee 108 = .ok (.iaload, 1) := dk_46 (dk_at dksX3_fee_4 16 rfl rfl)
theorem dX3_fee_109 : decode cX3_fee 109 = .ok (.imul, 1) := dk_104 (dk_at dksX3_fee_4 17 rfl rfl)
theorem dX3_fee_110 : decode cX3_fee 110 = .ok (.goto 4, 3) := dk_167 0 4 (dk_at dksX3_fee_4 18 rfl rfl)
theorem dX3_fee_113 : decode cX3_fee 113 = .ok (.iconst 0, 1) := dk_3 (dk_at dksX3_fee_4 21 rfl rfl)
theorem dX3_fee_114 : decode cX3_fee 114 = .ok (.isub, 1) := dk_100 (dk_at dksX3_fee_4 22 rfl rfl)
theorem dX3_fee_115 : decode cX3_fee 115 = .ok (.iadd, 1) := dk_96 (dk_at dksX3_fee_4 23 rfl rfl)
theorem dX3_fee_116 : decode cX3_fee 116 = .ok (.istore 4, 2) := dk_54 4 (dk_at dksX3_fee_5 0 rfl rfl)
theorem dX3_fee_118 : decode cX3_fee 118 = .ok (.iinc 5 1, 3) := dk_132 5 1 (dk_at dksX3_fee_5 2 rfl rfl)
theorem dX3_fee_121 : decode cX3_fee 121 = .ok (.goto (-81), 3) := dk_167 255 175 (dk_at dksX3_fee_5 5 rfl rfl)
theorem dX3_fee_124 : decode cX3_fee 124 = .ok (.iload_n 1, 1) := dk_27 (dk_at dksX3_fee_5 8 rfl rfl)
theorem dX3_fee_125 : decode cX3_fee 125 = .ok (.bipush 10, 2) := dk_16 10 (dk_at dksX3_fee_5 9 rfl rfl)
theorem dX3_fee_127 : decode cX3_fee 127 = .ok (.if_icmp .ge 27, 3) := dk_162 0 27 (dk_at dksX3_fee_5 11 rfl rfl)
theorem dX3_fee_130 : decode cX3_fee 130 = .ok (.iload 4, 2) := dk_21 4 (dk_at dksX3_fee_5 14 rfl rfl)
theorem dX3_fee_132 : decode cX3_fee 132 = .ok (.aload_n 0, 1) := dk_42 (dk_at dksX3_fee_5 16 rfl rfl)
theorem dX3_fee_133 : decode cX3_fee 133 = .ok (.iload_n 3, 1) := dk_29 (dk_at dksX3_fee_5 17 rfl rfl)
theorem dX3_fee_134 : decode cX3_fee 134 = .ok (.bipush 9, 2) := dk_16 9 (dk_at dksX3_fee_5 18 rfl rfl)
theorem dX3_fee_136 : decode cX3_fee 136 = .ok (.invokevirtual 332, 3) := dk_182 1 76 (dk_at dksX3_fee_5 20 rfl rfl)
theorem dX3_fee_139 : decode cX3_fee 139 = .ok (.aload_n 0, 1) := dk_42 (dk_at dksX3_fee_5 23 rfl rfl)
theorem dX3_fee_140 : decode cX3_fee 140 = .ok (.getfield 92, 3) := dk_180 0 92 (dk_at dksX3_fee_6 0 rfl rfl)
theorem dX3_fee_143 : decode cX3_fee 143 = .ok (.bipush 10, 2) := dk_16 10 (dk_at dksX3_fee_6 3 rfl rfl)
theorem dX3_fee_145 : decode cX3_fee 145 = .ok (.iload_n 2, 1) := dk_28 (dk_at dksX3_fee_6 5 rfl rfl)
theorem dX3_fee_146 : decode cX3_fee 146 = .ok (.imul, 1) := dk_104 (dk_at dksX3_fee_6 6 rfl rfl)
theorem dX3_fee_147 : decode cX3_fee 147 = .ok (.iload_n 1, 1) := dk_27 (dk_at dksX3_fee_6 7 rfl rfl)
theorem dX3_fee_148 : decode cX3_fee 148 = .ok (.iadd, 1) := dk_96 (dk_at dksX3_fee_6 8 rfl rfl)
theorem dX3_fee_149 : decode cX3_fee 149 = .ok (.iaload, 1) := dk_46 (dk_at dksX3_fee_6 9 rfl rfl)
theorem dX3_fee_150 : decode cX3_fee 150 = .ok (.imul, 1) := dk_104 (dk_at dksX3_fee_6 10 rfl rfl)
theorem dX3_fee_151 : decode cX3_fee 151 = .ok (.isub, 1) := dk_100 (dk_at dksX3_fee_6 11 rfl rfl)
theorem dX3_fee_152 : decode cX3_fee 152 = .ok (.istore 4, 2) := dk_54 4 (dk_at dksX3_fee_6 12 rfl rfl)
theorem dX3_fee_154 : decode cX3_fee 154 = .ok (.iconst 0, 1) := dk_3 (dk_at dksX3_fee_6 14 rfl rfl)
theorem dX3_fee_155 : decode cX3_fee 155 = .ok (.iload 4, 2) := dk_21 4 (dk_at dksX3_fee_6 15 rfl rfl)
theorem dX3_fee_157 : decode cX3_fee 157 = .ok (.invokestatic 222, 3) := dk_184 0 222 (dk_at dksX3_fee_6 17 rfl rfl)
theorem dX3_fee_160 : decode cX3_fee 160 = .ok (.ireturn, 1) := dk_172 (dk_at dksX3_fee_6 20 rfl rfl)
def dkwX3_look_1 : List UInt8 := [28, 79, 42, 89, 180, 1, 79, 4, 96, 181, 1, 79, 42, 180, 1, 79, 172]
abbrev dktX3_look_1 : List UInt8 := dkwX3_look_1 ++ []
def dkwX3_look_0 : List UInt8 := [42, 27, 182, 0, 219, 153, 0, 12, 28, 3, 6, 184, 0, 194, 154, 0, 5, 2, 172, 42, 180, 0, 59, 27]
abbrev dktX3_look_0 : List UInt8 := dkwX3_look_0 ++ dktX3_look_1
theorem dksX3_look_0 : cX3_look.data.toList.drop 0 = dktX3_look_0 := by decide +kernel
theorem dksX3_look_1 : cX3_look.data.toList.drop 24 = dktX3_look_1 := dk_seg dksX3_look_0 24 rfl rfl
theorem dX3_look_0 : decode cX3_look 0 = .ok (.aload_n 0, 1) := dk_42 (dk_at dksX3_look_0 0 rfl rfl)
theorem dX3_look_1 : decode cX3_look 1 = .ok (.iload_n 1, 1) := dk_27 (dk_at dksX3_look_0 1 rfl rfl)
theorem dX3_look_2 : decode cX3_look 2 = .ok (.invokevirtual 219, 3) := dk_182 0 219 (dk_at dksX3_look_0 2 rfl rfl)
theorem dX3_look_5 : decode cX3_look 5 = .ok (.ifCond .eq 12, 3) := dk_153 0 12 (dk_at dksX3_look_0 5 rfl rfl)
theorem dX3_look_8 : decode cX3_look 8 = .ok (.iload_n 2, 1) := dk_28 (dk_at dksX3_look_0 8 rfl rfl)
theorem dX3_look_9 : decode cX3_look 9 = .ok (.iconst 0, 1) := dk_3 (dk_at dksX3_look_0 9 rfl rfl)
theorem dX3_look_10 : decode cX3_look 10 = .ok (.iconst 3, 1) := dk_6 (dk_at dksX3_look_0 10 rfl rfl)
theorem dX3_look_11 : decode cX3_look 11 = .ok (.invokestatic 194, 3) := dk_184 0 194 (dk_at dksX3_look_0 11 rfl rfl)
theorem dX3_look_14 : decode cX3_look 14 = .ok (.ifCond .ne 5, 3) := dk_154 0 5 (dk_at dksX3_look_0 14 rfl rfl)
theorem dX3_look_17 : decode cX3_look 17 = .ok (.iconst (-1), 1) := dk_2 (dk_at dksX3_look_0 17 rfl rfl)
theorem dX3_look_18 : decode cX3_look 18 = .ok (.ireturn, 1) := dk_172 (dk_at dksX3_look_0 18 rfl rfl)
theorem dX3_look_19 : decode cX3_look 19 = .ok (.aload_n 0, 1) := dk_42 (dk_at dksX3_look_0 19 rfl rfl)
theorem dX3_look_20 : decode cX3_look 20 = .ok (.getfield 59, 3) := dk_180 0 59 (dk_at dksX3_look_0 20 rfl rfl)
theorem dX3_look_23 : decode cX3_look 23 = .ok (.iload_n 1, 1) := dk_27 (dk_at dksX3_look_0 23 rfl rfl)
theorem dX3_look_24 : decode cX3_look 24 = .ok (.iload_n 2, 1) := dk_28 (dk_at dksX3_look_1 0 rfl rfl)
theorem dX3_look_25 : decode cX3_look 25 = .ok (.iastore, 1) := dk_79 (dk_at dksX3_look_1 1 rfl rfl)
theorem dX3_look_26 : decode cX3_look 26 = .ok (.aload_n 0, 1) := dk_42 (dk_at dksX3_look_1 2 rfl rfl)
theorem dX3_look_27 : decode cX3_look 27 = .ok (.dup, 1) := dk_89 (dk_at dksX3_look_1 3 rfl rfl)
theorem dX3_look_28 : decode cX3_look 28 = .ok (.getfield 335, 3) := dk_180 1 79 (dk_at dksX3_look_1 4 rfl rfl)
theorem dX3_look_31 : decode cX3_look 31 = .ok (.iconst 1, 1) := dk_4 (dk_at dksX3_look_1 7 rfl rfl)
theorem dX3_look_32 : decode cX3_look 32 = .ok (.iadd, 1) := dk_96 (dk_at dksX3_look_1 8 rfl rfl)
theorem dX3_look_33 : decode cX3_look 33 = .ok (.putfield 335, 3) := dk_181 1 79 (dk_at dksX3_look_1 9 rfl rfl)
theorem dX3_look_36 : decode cX3_look 36 = .ok (.aload_n 0, 1) := dk_42 (dk_at dksX3_look_1 12 rfl rfl)
theorem dX3_look_37 : decode cX3_look 37 = .ok (.getfield 335, 3) := dk_180 1 79 (dk_at dksX3_look_1 13 rfl rfl)
theorem dX3_look_40 : decode cX3_look 40 = .ok (.ireturn, 1) := dk_172 (dk_at dksX3_look_1 16 rfl rfl)
def dkwX3_worst_7 : List UInt8 := [160, 0, 8, 21, 4, 167, 0, 4, 2, 172]
abbrev dktX3_worst_7 : List UInt8 := dkwX3_worst_7 ++ []
def dkwX3_worst_6 : List UInt8 := [2, 167, 0, 31, 27, 154, 0, 7, 28, 167, 0, 23, 27, 4, 160, 0, 7, 29, 167, 0, 14, 27, 5]
abbrev dktX3_worst_6 : List UInt8 := dkwX3_worst_6 ++ dktX3_worst_7
def dkwX3_worst_5 : List UInt8 := [167, 0, 13, 21, 5, 61, 21, 6, 62, 21, 7, 54, 4, 132, 5, 1, 167, 255, 135, 28, 2, 160, 0, 7]
abbrev dktX3_worst_5 : List UInt8 := dkwX3_worst_5 ++ dktX3_worst_6
def dkwX3_worst_4 : List UInt8 := [21, 7, 5, 161, 0, 33, 28, 2, 159, 0, 18, 21, 6, 21, 4, 104, 29, 21, 7, 104, 163, 0, 6]
abbrev dktX3_worst_4 : List UInt8 := dkwX3_worst_4 ++ dktX3_worst_5
def dkwX3_worst_3 : List UInt8 := [167, 0, 18, 21, 6, 42, 180, 0, 59, 21, 8, 46, 96, 54, 6, 132, 7, 1, 132, 8, 1, 167, 255, 193]
abbrev dktX3_worst_3 : List UInt8 := dkwX3_worst_3 ++ dktX3_worst_4
def dkwX3_worst_2 : List UInt8 := [180, 0, 35, 21, 8, 46, 21, 5, 160, 0, 32, 42, 180, 0, 59, 21, 8, 46, 2, 160, 0, 6]
abbrev dktX3_worst_2 : List UInt8 := dkwX3_worst_2 ++ dktX3_worst_3
def dkwX3_worst_1 : List UInt8 := [54, 8, 21, 8, 42, 180, 0, 191, 162, 0, 60, 42, 180, 0, 25, 21, 8, 51, 153, 0, 44, 42]
abbrev dktX3_worst_1 : List UInt8 := dkwX3_worst_1 ++ dktX3_worst_2
def dkwX3_worst_0 : List UInt8 := [2, 61, 3, 62, 3, 54, 4, 3, 54, 5, 21, 5, 16, 10, 162, 0, 120, 3, 54, 6, 3, 54, 7, 3]
abbrev dktX3_worst_0 : List UInt8 := dkwX3_worst_0 ++ dktX3_worst_1
theorem dksX3_worst_0 : cX3_worst.data.toList.drop 0 = dktX3_worst_0 := by decide +kernel
theorem dksX3_worst_1 : cX3_worst.data.toList.drop 24 = dktX3_worst_1 := dk_seg dksX3_worst_0 24 rfl rfl
theorem dksX3_worst_2 : cX3_worst.data.toList.drop 46 = dktX3_worst_2 := dk_seg dksX3_worst_1 22 rfl rfl
theorem dksX3_worst_3 : cX3_worst.data.toList.drop 68 = dktX3_worst_3 := dk_seg dksX3_worst_2 22 rfl rfl
theorem dksX3_worst_4 : cX3_worst.data.toList.drop 92 = dktX3_worst_4 := dk_seg dksX3_worst_3 24 rfl rfl
theorem dksX3_worst_5 : cX3_worst.data.toList.drop 115 = dktX3_worst_5 := dk_seg dksX3_worst_4 23 rfl rfl
theorem dksX3_worst_6 : cX3_worst.data.toList.drop 139 = dktX3_worst_6 := dk_seg dksX3_worst_5 24 rfl rfl
theorem dksX3_worst_7 : cX3_worst.data.toList.drop 162 = dktX3_worst_7 := dk_seg dksX3_worst_6 23 rfl rfl
theorem dX3_worst_0 : decode cX3_worst 0 = .ok (.iconst (-1), 1) := dk_2 (dk_at dksX3_worst_0 0 rfl rfl)
theorem dX3_worst_1 : decode cX3_worst 1 = .ok (.istore_n 2, 1) := dk_61 (dk_at dksX3_worst_0 1 rfl rfl)
theorem dX3_worst_2 : decode cX3_worst 2 = .ok (.iconst 0, 1) := dk_3 (dk_at dksX3_worst_0 2 rfl rfl)
theorem dX3_worst_3 : decode cX3_worst 3 = .ok (.istore_n 3, 1) := dk_62 (dk_at dksX3_worst_0 3 rfl rfl)
theorem dX3_worst_4 : decode cX3_worst 4 = .ok (.iconst 0, 1) := dk_3 (dk_at dksX3_worst_0 4 rfl rfl)
theorem dX3_worst_5 : decode cX3_worst 5 = .ok (.istore 4, 2) := dk_54 4 (dk_at dksX3_worst_0 5 rfl rfl)
theorem dX3_worst_7 : decode cX3_worst 7 = .ok (.iconst 0, 1) := dk_3 (dk_at dksX3_worst_0 7 rfl rfl)
theorem dX3_worst_8 : decode cX3_worst 8 = .ok (.istore 5, 2) := dk_54 5 (dk_at dksX3_worst_0 8 rfl rfl)
theorem dX3_worst_10 : decode cX3_worst 10 = .ok (.iload 5, 2) := dk_21 5 (dk_at dksX3_worst_0 10 rfl rfl)
theorem dX3_worst_12 : decode cX3_worst 12 = .ok (.bipush 10, 2) := dk_16 10 (dk_at dksX3_worst_0 12 rfl rfl)
theorem dX3_worst_14 : decode cX3_worst 14 = .ok (.if_icmp .ge 120, 3) := dk_162 0 120 (dk_at dksX3_worst_0 14 rfl rfl)
theorem dX3_worst_17 : decode cX3_worst 17 = .ok (.iconst 0, 1) := dk_3 (dk_at dksX3_worst_0 17 rfl rfl)
theorem dX3_worst_18 : decode cX3_worst 18 = .ok (.istore 6, 2) := dk_54 6 (dk_at dksX3_worst_0 18 rfl rfl)
theorem dX3_worst_20 : decode cX3_worst 20 = .ok (.iconst 0, 1) := dk_3 (dk_at dksX3_worst_0 20 rfl rfl)
theorem dX3_worst_21 : decode cX3_worst 21 = .ok (.istore 7, 2) := dk_54 7 (dk_at dksX3_worst_0 21 rfl rfl)
theorem dX3_worst_23 : decode cX3_worst 23 = .ok (.iconst 0, 1) := dk_3 (dk_at dksX3_worst_0 23 rfl rfl)
theorem dX3_worst_24 : decode cX3_worst 24 = .ok (.istore 8, 2) := dk_54 8 (dk_at dksX3_worst_1 0 rfl rfl)
theorem dX3_worst_26 : decode cX3_worst 26 = .ok (.iload 8, 2) := dk_21 8 (dk_at dksX3_worst_1 2 rfl rfl)
theorem dX3_worst_28 : decode cX3_worst 28 = .ok (.aload_n 0, 1) := dk_42 (dk_at dksX3_worst_1 4 rfl rfl)
theorem dX3_worst_29 : decode cX3_worst 29 = .ok (.getfield 191, 3) := dk_180 0 191 (dk_at dksX3_worst_1 5 rfl rfl)
theorem dX3_worst_32 : decode cX3_worst 32 = .ok (.if_icmp .ge 60, 3) := dk_162 0 60 (dk_at dksX3_worst_1 8 rfl rfl)
theorem dX3_worst_35 : decode cX3_worst 35 = .ok (.aload_n 0, 1) := dk_42 (dk_at dksX3_worst_1 11 rfl rfl)
theorem dX3_worst_36 : decode cX3_worst 36 = .ok (.getfield 25, 3) := dk_180 0 25 (dk_at dksX3_worst_1 12 rfl rfl)
theorem dX3_worst_39 : decode cX3_worst 39 = .ok (.iload 8, 2) := dk_21 8 (dk_at dksX3_worst_1 15 rfl rfl)
theorem dX3_worst_41 : decode cX3_worst 41 = .ok (.baload, 1) := dk_51 (dk_at dksX3_worst_1 17 rfl rfl)
theorem dX3_worst_42 : decode cX3_worst 42 = .ok (.ifCond .eq 44, 3) := dk_153 0 44 (dk_at dksX3_worst_1 18 rfl rfl)
theorem dX3_worst_45 : decode cX3_worst 45 = .ok (.aload_n 0, 1) := dk_42 (dk_at dksX3_worst_1 21 rfl rfl)
theorem dX3_worst_46 : decode cX3_worst 46 = .ok (.getfield 35, 3) := dk_180 0 35 (dk_at dksX3_worst_2 0 rfl rfl)
theorem dX3_worst_49 : decode cX3_worst 49 = .ok (.iload 8, 2) := dk_21 8 (dk_at dksX3_worst_2 3 rfl rfl)
theorem dX3_worst_51 : decode cX3_worst 51 = .ok (.iaload, 1) := dk_46 (dk_at dksX3_worst_2 5 rfl rfl)
theorem dX3_worst_52 : decode cX3_worst 52 = .ok (.iload 5, 2) := dk_21 5 (dk_at dksX3_worst_2 6 rfl rfl)
theorem dX3_worst_54 : decode cX3_worst 54 = .ok (.if_icmp .ne 32, 3) := dk_160 0 32 (dk_at dksX3_worst_2 8 rfl rfl)
theorem dX3_worst_57 : decode cX3_worst 57 = .ok (.aload_n 0, 1) := dk_42 (dk_at dksX3_worst_2 11 rfl rfl)
theorem dX3_worst_58 : decode cX3_worst 58 = .ok (.getfield 59, 3) := dk_180 0 59 (dk_at dksX3_worst_2 12 rfl rfl)
theorem dX3_worst_61 : decode cX3_worst 61 = .ok (.iload 8, 2) := dk_21 8 (dk_at dksX3_worst_2 15 rfl rfl)
theorem dX3_worst_63 : decode cX3_worst 63 = .ok (.iaload, 1) := dk_46 (dk_at dksX3_worst_2 17 rfl rfl)
theorem dX3_worst_64 : decode cX3_worst 64 = .ok (.iconst (-1), 1) := dk_2 (dk_at dksX3_worst_2 18 rfl rfl)
theorem dX3_worst_65 : decode cX3_worst 65 = .ok (.if_icmp .ne 6, 3) := dk_160 0 6 (dk_at dksX3_worst_2 19 rfl rfl)
theorem dX3_worst_68 : decode cX3_worst 68 = .ok (.goto 18, 3) := dk_167 0 18 (dk_at dksX3_worst_3 0 rfl rfl)
theorem dX3_worst_71 : decode cX3_worst 71 = .ok (.iload 6, 2) := dk_21 6 (dk_at dksX3_worst_3 3 rfl rfl)
theorem dX3_worst_73 : decode cX3_worst 73 = .ok (.aload_n 0, 1) := dk_42 (dk_at dksX3_worst_3 5 rfl rfl)
theorem dX3_worst_74 : decode cX3_worst 74 = .ok (.getfield 59, 3) := dk_180 0 59 (dk_at dksX3_worst_3 6 rfl rfl)
theorem dX3_worst_77 : decode cX3_worst 77 = .ok (.iload 8, 2) := dk_21 8 (dk_at dksX3_worst_3 9 rfl rfl)
theorem dX3_worst_79 : decode cX3_worst 79 = .ok (.iaload, 1) := dk_46 (dk_at dksX3_worst_3 11 rfl rfl)
theorem dX3_worst_80 : decode cX3_worst 80 = .ok (.iadd, 1) := dk_96 (dk_at dksX3_worst_3 12 rfl rfl)
theorem dX3_worst_81 : decode cX3_worst 81 = .ok (.istore 6, 2) := dk_54 6 (dk_at dksX3_worst_3 13 rfl rfl)
theorem dX3_worst_83 : decode cX3_worst 83 = .ok (.iinc 7 1, 3) := dk_132 7 1 (dk_at dksX3_worst_3 15 rfl rfl)
theorem dX3_worst_86 : decode cX3_worst 86 = .ok (.iinc 8 1, 3) := dk_132 8 1 (dk_at dksX3_worst_3 18 rfl rfl)
theorem dX3_worst_89 : decode cX3_worst 89 = .ok (.goto (-63), 3) := dk_167 255 193 (dk_at dksX3_worst_3 21 rfl rfl)
theorem dX3_worst_92 : decode cX3_worst 92 = .ok (.iload 7, 2) := dk_21 7 (dk_at dksX3_worst_4 0 rfl rfl)
theorem dX3_worst_94 : decode cX3_worst 94 = .ok (.iconst 2, 1) := dk_5 (dk_at dksX3_worst_4 2 rfl rfl)
theorem dX3_worst_95 : decode cX3_worst 95 = .ok (.if_icmp .lt 33, 3) := dk_161 0 33 (dk_at dksX3_worst_4 3 rfl rfl)
theorem dX3_worst_98 : decode cX3_worst 98 = .ok (.iload_n 2, 1) := dk_28 (dk_at dksX3_worst_4 6 rfl rfl)
theorem dX3_worst_99 : decode cX3_worst 99 = .ok (.iconst (-1), 1) := dk_2 (dk_at dksX3_worst_4 7 rfl rfl)
theorem dX3_worst_100 : decode cX3_worst 100 = .ok (.if_icmp .eq 18, 3) := dk_159 0 18 (dk_at dksX3_worst_4 8 rfl rfl)
theorem dX3_worst_103 : decode cX3_worst 103 = .ok (.iload 6, 2) := dk_21 6 (dk_at dksX3_worst_4 11 rfl rfl)
theorem dX3_worst_105 : decode cX3_worst 105 = .ok (.iload 4, 2) := dk_21 4 (dk_at dksX3_worst_4 13 rfl rfl)
theorem dX3_worst_107 : decode cX3_worst 107 = .ok (.imul, 1) := dk_104 (dk_at dksX3_worst_4 15 rfl rfl)
theorem dX3_worst_108 : decode cX3_worst 108 = .ok (.iload_n 3, 1) := dk_29 (dk_at dksX3_worst_4 16 rfl rfl)
theorem dX3_worst_109 : decode cX3_worst 109 = .ok (.iload 7, 2) := dk_21 7 (dk_at dksX3_worst_4 17 rfl rfl)
theorem dX3_worst_111 : decode cX3_worst 111 = .ok (.imul, 1) := dk_104 (dk_at dksX3_worst_4 19 rfl rfl)
theorem dX3_worst_112 : decode cX3_worst 112 = .ok (.if_icmp .gt 6, 3) := dk_163 0 6 (dk_at dksX3_worst_4 20 rfl rfl)
theorem dX3_worst_115 : decode cX3_worst 115 = .ok (.goto 13, 3) := dk_167 0 13 (dk_at dksX3_worst_5 0 rfl rfl)
theorem dX3_worst_118 : decode cX3_worst 118 = .ok (.iload 5, 2) := dk_21 5 (dk_at dksX3_worst_5 3 rfl rfl)
theorem dX3_worst_120 : decode cX3_worst 120 = .ok (.istore_n 2, 1) := dk_61 (dk_at dksX3_worst_5 5 rfl rfl)
theorem dX3_worst_121 : decode cX3_worst 121 = .ok (.iload 6, 2) := dk_21 6 (dk_at dksX3_worst_5 6 rfl rfl)
theorem dX3_worst_123 : decode cX3_worst 123 = .ok (.istore_n 3, 1) := dk_62 (dk_at dksX3_worst_5 8 rfl rfl)
theorem dX3_worst_124 : decode cX3_worst 124 = .ok (.iload 7, 2) := dk_21 7 (dk_at dksX3_worst_5 9 rfl rfl)
theorem dX3_worst_126 : decode cX3_worst 126 = .ok (.istore 4, 2) := dk_54 4 (dk_at dksX3_worst_5 11 rfl rfl)
theorem dX3_worst_128 : decode cX3_worst 128 = .ok (.iinc 5 1, 3) := dk_132 5 1 (dk_at dksX3_worst_5 13 rfl rfl)
theorem dX3_worst_131 : decode cX3_worst 131 = .ok (.goto (-121), 3) := dk_167 255 135 (dk_at dksX3_worst_5 16 rfl rfl)
theorem dX3_worst_134 : decode cX3_worst 134 = .ok (.iload_n 2, 1) := dk_28 (dk_at dksX3_worst_5 19 rfl rfl)
theorem dX3_worst_135 : decode cX3_worst 135 = .ok (.iconst (-1), 1) := dk_2 (dk_at dksX3_worst_5 20 rfl rfl)
theorem dX3_worst_136 : decode cX3_worst 136 = .ok (.if_icmp .ne 7, 3) := dk_160 0 7 (dk_at dksX3_worst_5 21 rfl rfl)
theorem dX3_worst_139 : decode cX3_worst 139 = .ok (.iconst (-1), 1) := dk_2 (dk_at dksX3_worst_6 0 rfl rfl)
theorem dX3_worst_140 : decode cX3_worst 140 = .ok (.goto 31, 3) := dk_167 0 31 (dk_at dksX3_worst_6 1 rfl rfl)
theorem dX3_worst_143 : decode cX3_worst 143 = .ok (.iload_n 1, 1) := dk_27 (dk_at dksX3_worst_6 4 rfl rfl)
theorem dX3_worst_144 : decode cX3_worst 144 = .ok (.ifCond .ne 7, 3) := dk_154 0 7 (dk_at dksX3_worst_6 5 rfl rfl)
theorem dX3_worst_147 : decode cX3_worst 147 = .ok (.iload_n 2, 1) := dk_28 (dk_at dksX3_worst_6 8 rfl rfl)
theorem dX3_worst_148 : decode cX3_worst 148 = .ok (.goto 23, 3) := dk_167 0 23 (dk_at dksX3_worst_6 9 rfl rfl)
theorem dX3_worst_151 : decode cX3_worst 151 = .ok (.iload_n 1, 1) := dk_27 (dk_at dksX3_worst_6 12 rfl rfl)
theorem dX3_worst_152 : decode cX3_worst 152 = .ok (.iconst 1, 1) := dk_4 (dk_at dksX3_worst_6 13 rfl rfl)
theorem dX3_worst_153 : decode cX3_worst 153 = .ok (.if_icmp .ne 7, 3) := dk_160 0 7 (dk_at dksX3_worst_6 14 rfl rfl)
theorem dX3_worst_156 : decode cX3_worst 156 = .ok (.iload_n 3, 1) := dk_29 (dk_at dksX3_worst_6 17 rfl rfl)
theorem dX3_worst_157 : decode cX3_worst 157 = .ok (.goto 14, 3) := dk_167 0 14 (dk_at dksX3_worst_6 18 rfl rfl)
theorem dX3_worst_160 : decode cX3_worst 160 = .ok (.iload_n 1, 1) := dk_27 (dk_at dksX3_worst_6 21 rfl rfl)
theorem dX3_worst_161 : decode cX3_worst 161 = .ok (.iconst 2, 1) := dk_5 (dk_at dksX3_worst_6 22 rfl rfl)
theorem dX3_worst_162 : decode cX3_worst 162 = .ok (.if_icmp .ne 8, 3) := dk_160 0 8 (dk_at dksX3_worst_7 0 rfl rfl)
theorem dX3_worst_165 : decode cX3_worst 165 = .ok (.iload 4, 2) := dk_21 4 (dk_at dksX3_worst_7 3 rfl rfl)
theorem dX3_worst_167 : decode cX3_worst 167 = .ok (.goto 4, 3) := dk_167 0 4 (dk_at dksX3_worst_7 5 rfl rfl)
theorem dX3_worst_170 : decode cX3_worst 170 = .ok (.iconst (-1), 1) := dk_2 (dk_at dksX3_worst_7 8 rfl rfl)
theorem dX3_worst_171 : decode cX3_worst 171 = .ok (.ireturn, 1) := dk_172 (dk_at dksX3_worst_7 9 rfl rfl)
def dkwX3_close_1 : List UInt8 := [172, 42, 180, 0, 156, 27, 3, 84, 4, 172]
abbrev dktX3_close_1 : List UInt8 := dkwX3_close_1 ++ []
def dkwX3_close_0 : List UInt8 := [27, 3, 42, 180, 1, 82, 4, 100, 184, 0, 194, 153, 0, 12, 42, 180, 0, 156, 27, 51, 154, 0, 5, 3]
abbrev dktX3_close_0 : List UInt8 := dkwX3_close_0 ++ dktX3_close_1
theorem dksX3_close_0 : cX3_close.data.toList.drop 0 = dktX3_close_0 := by decide +kernel
theorem dksX3_close_1 : cX3_close.data.toList.drop 24 = dktX3_close_1 := dk_seg dksX3_close_0 24 rfl rfl
theorem dX3_close_0 : decode cX3_close 0 = .ok (.iload_n 1, 1) := dk_27 (dk_at dksX3_close_0 0 rfl rfl)
theorem dX3_close_1 : decode cX3_close 1 = .ok (.iconst 0, 1) := dk_3 (dk_at dksX3_close_0 1 rfl rfl)
theorem dX3_close_2 : decode cX3_close 2 = .ok (.aload_n 0, 1) := dk_42 (dk_at dksX3_close_0 2 rfl rfl)
theorem dX3_close_3 : decode cX3_close 3 = .ok (.getfield 338, 3) := dk_180 1 82 (dk_at dksX3_close_0 3 rfl rfl)
theorem dX3_close_6 : decode cX3_close 6 = .ok (.iconst 1, 1) := dk_4 (dk_at dksX3_close_0 6 rfl rfl)
theorem dX3_close_7 : decode cX3_close 7 = .ok (.isub, 1) := dk_100 (dk_at dksX3_close_0 7 rfl rfl)
theorem dX3_close_8 : decode cX3_close 8 = .ok (.invokestatic 194, 3) := dk_184 0 194 (dk_at dksX3_close_0 8 rfl rfl)
theorem dX3_close_11 : decode cX3_close 11 = .ok (.ifCond .eq 12, 3) := dk_153 0 12 (dk_at dksX3_close_0 11 rfl rfl)
theorem dX3_close_14 : decode cX3_close 14 = .ok (.aload_n 0, 1) := dk_42 (dk_at dksX3_close_0 14 rfl rfl)
theorem dX3_close_15 : decode cX3_close 15 = .ok (.getfield 156, 3) := dk_180 0 156 (dk_at dksX3_close_0 15 rfl rfl)
theorem dX3_close_18 : decode cX3_close 18 = .ok (.iload_n 1, 1) := dk_27 (dk_at dksX3_close_0 18 rfl rfl)
theorem dX3_close_19 : decode cX3_close 19 = .ok (.baload, 1) := dk_51 (dk_at dksX3_close_0 19 rfl rfl)
theorem dX3_close_20 : decode cX3_close 20 = .ok (.ifCond .ne 5, 3) := dk_154 0 5 (dk_at dksX3_close_0 20 rfl rfl)
theorem dX3_close_23 : decode cX3_close 23 = .ok (.iconst 0, 1) := dk_3 (dk_at dksX3_close_0 23 rfl rfl)
theorem dX3_close_24 : decode cX3_close 24 = .ok (.ireturn, 1) := dk_172 (dk_at dksX3_close_1 0 rfl rfl)
theorem dX3_close_25 : decode cX3_close 25 = .ok (.aload_n 0, 1) := dk_42 (dk_at dksX3_close_1 1 rfl rfl)
theorem dX3_close_26 : decode cX3_close 26 = .ok (.getfield 156, 3) := dk_180 0 156 (dk_at dksX3_close_1 2 rfl rfl)
theorem dX3_close_29 : decode cX3_close 29 = .ok (.iload_n 1, 1) := dk_27 (dk_at dksX3_close_1 5 rfl rfl)
theorem dX3_close_30 : decode cX3_close 30 = .ok (.iconst 0, 1) := dk_3 (dk_at dksX3_close_1 6 rfl rfl)
theorem dX3_close_31 : decode cX3_close 31 = .ok (.bastore, 1) := dk_84 (dk_at dksX3_close_1 7 rfl rfl)
theorem dX3_close_32 : decode cX3_close 32 = .ok (.iconst 1, 1) := dk_4 (dk_at dksX3_close_1 8 rfl rfl)
theorem dX3_close_33 : decode cX3_close 33 = .ok (.ireturn, 1) := dk_172 (dk_at dksX3_close_1 9 rfl rfl)
def dkwX3_complaint_4 : List UInt8 := [172]
abbrev dktX3_complaint_4 : List UInt8 := dkwX3_complaint_4 ++ []
def dkwX3_complaint_3 : List UInt8 := [180, 0, 150, 27, 46, 172, 42, 180, 0, 153, 27, 46, 172, 42, 180, 0, 156, 27, 51, 184, 1, 63, 172, 2]
abbrev dktX3_complaint_3 : List UInt8 := dkwX3_complaint_3 ++ dktX3_complaint_4
def dkwX3_complaint_2 : List UInt8 := [42, 180, 0, 141, 27, 46, 172, 42, 180, 0, 144, 27, 46, 172, 42, 180, 0, 147, 27, 46, 172, 42]
abbrev dktX3_complaint_2 : List UInt8 := dkwX3_complaint_2 ++ dktX3_complaint_3
def dkwX3_complaint_1 : List UInt8 := [170, 0, 0, 0, 0, 0, 84, 0, 0, 0, 0, 0, 0, 0, 5, 0, 0, 0, 39, 0, 0, 0, 46, 0, 0, 0, 53, 0, 0, 0, 60, 0, 0, 0, 67, 0, 0, 0, 74]
abbrev dktX3_complaint_1 : List UInt8 := dkwX3_complaint_1 ++ dktX3_complaint_2
def dkwX3_complaint_0 : List UInt8 := [27, 3, 42, 180, 1, 82, 4, 100, 184, 0, 194, 154, 0, 5, 2, 172, 28]
abbrev dktX3_complaint_0 : List UInt8 := dkwX3_complaint_0 ++ dktX3_complaint_1
theorem dksX3_complaint_0 : cX3_complaint.data.toList.drop 0 = dktX3_complaint_0 := by decide +kernel
theorem dksX3_complaint_1 : cX3_complaint.data.toList.drop 17 = dktX3_complaint_1 := dk_seg dksX3_complaint_0 17 rfl rfl
theorem dksX3_complaint_2 : cX3_complaint.data.toList.drop 56 = dktX3_complaint_2 := dk_seg dksX3_complaint_1 39 rfl rfl
theorem dksX3_complaint_3 : cX3_complaint.data.toList.drop 78 = dktX3_complaint_3 := dk_seg dksX3_complaint_2 22 rfl rfl
theorem dksX3_complaint_4 : cX3_complaint.data.toList.drop 102 = dktX3_complaint_4 := dk_seg dksX3_complaint_3 24 rfl rfl
theorem dX3_complaint_0 : decode cX3_complaint 0 = .ok (.iload_n 1, 1) := dk_27 (dk_at dksX3_complaint_0 0 rfl rfl)
theorem dX3_complaint_1 : decode cX3_complaint 1 = .ok (.iconst 0, 1) := dk_3 (dk_at dksX3_complaint_0 1 rfl rfl)
theorem dX3_complaint_2 : decode cX3_complaint 2 = .ok (.aload_n 0, 1) := dk_42 (dk_at dksX3_complaint_0 2 rfl rfl)
theorem dX3_complaint_3 : decode cX3_complaint 3 = .ok (.getfield 338, 3) := dk_180 1 82 (dk_at dksX3_complaint_0 3 rfl rfl)
theorem dX3_complaint_6 : decode cX3_complaint 6 = .ok (.iconst 1, 1) := dk_4 (dk_at dksX3_complaint_0 6 rfl rfl)
theorem dX3_complaint_7 : decode cX3_complaint 7 = .ok (.isub, 1) := dk_100 (dk_at dksX3_complaint_0 7 rfl rfl)
theorem dX3_complaint_8 : decode cX3_complaint 8 = .ok (.invokestatic 194, 3) := dk_184 0 194 (dk_at dksX3_complaint_0 8 rfl rfl)
theorem dX3_complaint_11 : decode cX3_complaint 11 = .ok (.ifCond .ne 5, 3) := dk_154 0 5 (dk_at dksX3_complaint_0 11 rfl rfl)
theorem dX3_complaint_14 : decode cX3_complaint 14 = .ok (.iconst (-1), 1) := dk_2 (dk_at dksX3_complaint_0 14 rfl rfl)
theorem dX3_complaint_15 : decode cX3_complaint 15 = .ok (.ireturn, 1) := dk_172 (dk_at dksX3_complaint_0 15 rfl rfl)
theorem dX3_complaint_16 : decode cX3_complaint 16 = .ok (.iload_n 2, 1) := dk_28 (dk_at dksX3_complaint_0 16 rfl rfl)
theorem dX3_complaint_17 : decode cX3_complaint 17 = .ok (.tableswitch 84 0 5 #[39, 46, 53, 60, 67, 74], 39) := by decide +kernel
theorem dX3_complaint_56 : decode cX3_complaint 56 = .ok (.aload_n 0, 1) := dk_42 (dk_at dksX3_complaint_2 0 rfl rfl)
theorem dX3_complaint_57 : decode cX3_complaint 57 = .ok (.getfield 141, 3) := dk_180 0 141 (dk_at dksX3_complaint_2 1 rfl rfl)
theorem dX3_complaint_60 : decode cX3_complaint 60 = .ok (.iload_n 1, 1) := dk_27 (dk_at dksX3_complaint_2 4 rfl rfl)
theorem dX3_complaint_61 : decode cX3_complaint 61 = .ok (.iaload, 1) := dk_46 (dk_at dksX3_complaint_2 5 rfl rfl)
theorem dX3_complaint_62 : decode cX3_complaint 62 = .ok (.ireturn, 1) := dk_172 (dk_at dksX3_complaint_2 6 rfl rfl)
theorem dX3_complaint_63 : decode cX3_complaint 63 = .ok (.aload_n 0, 1) := dk_42 (dk_at dksX3_complaint_2 7 rfl rfl)
theorem dX3_complaint_64 : decode cX3_complaint 64 = .ok (.getfield 144, 3) := dk_180 0 144 (dk_at dksX3_complaint_2 8 rfl rfl)
theorem dX3_complaint_67 : decode cX3_complaint 67 = .ok (.iload_n 1, 1) := dk_27 (dk_at dksX3_complaint_2 11 rfl rfl)
theorem dX3_complaint_68 : decode cX3_complaint 68 = .ok (.iaload, 1) := dk_46 (dk_at dksX3_complaint_2 12 rfl rfl)
theorem dX3_complaint_69 : decode cX3_complaint 69 = .ok (.ireturn, 1) := dk_172 (dk_at dksX3_complaint_2 13 rfl rfl)
theorem dX3_complaint_70 : decode cX3_complaint 70 = .ok (.aload_n 0, 1) := dk_42 (dk_at dksX3_complaint_2 14 rfl rfl)
theorem dX3_complaint_71 : decode cX3_complaint 71 = .ok (.getfield 147, 3) := dk_180 0 147 (dk_at dksX3_complaint_2 15 rfl rfl)
theorem dX3_complaint_74 : decode cX3_complaint 74 = .ok (.iload_n 1, 1) := dk_27 (dk_at dksX3_complaint_2 18 rfl rfl)
theorem dX3_complaint_75 : decode cX3_complaint 75 = .ok (.iaload, 1) := dk_46 (dk_at dksX3_complaint_2 19 rfl rfl)
theorem dX3_complaint_76 : decode cX3_complaint 76 = .ok (.ireturn, 1) := dk_172 (dk_at dksX3_complaint_2 20 rfl rfl)
theorem dX3_complaint_77 : decode cX3_complaint 77 = .ok (.aload_n 0, 1) := dk_42 (dk_at dksX3_complaint_2 21 rfl rfl)
theorem dX3_complaint_78 : decode cX3_complaint 78 = .ok (.getfield 150, 3) := dk_180 0 150 (dk_at dksX3_complaint_3 0 rfl rfl)
theorem dX3_complaint_81 : decode cX3_complaint 81 = .ok (.iload_n 1, 1) := dk_27 (dk_at dksX3_complaint_3 3 rfl rfl)
theorem dX3_complaint_82 : decode cX3_complaint 82 = .ok (.iaload, 1) := dk_46 (dk_at dksX3_complaint_3 4 rfl rfl)
theorem dX3_complaint_83 : decode cX3_complaint 83 = .ok (.ireturn, 1) := dk_172 (dk_at dksX3_complaint_3 5 rfl rfl)
theorem dX3_complaint_84 : decode cX3_complaint 84 = .ok (.aload_n 0, 1) := dk_42 (dk_at dksX3_complaint_3 6 rfl rfl)
theorem dX3_complaint_85 : decode cX3_complaint 85 = .ok (.getfield 153, 3) := dk_180 0 153 (dk_at dksX3_complaint_3 7 rfl rfl)
theorem dX3_complaint_88 : decode cX3_complaint 88 = .ok (.iload_n 1, 1) := dk_27 (dk_at dksX3_complaint_3 10 rfl rfl)
theorem dX3_complaint_89 : decode cX3_complaint 89 = .ok (.iaload, 1) := dk_46 (dk_at dksX3_complaint_3 11 rfl rfl)
theorem dX3_complaint_90 : decode cX3_complaint 90 = .ok (.ireturn, 1) := dk_172 (dk_at dksX3_complaint_3 12 rfl rfl)
theorem dX3_complaint_91 : decode cX3_complaint 91 = .ok (.aload_n 0, 1) := dk_42 (dk_at dksX3_complaint_3 13 rfl rfl)
theorem dX3_complaint_92 : decode cX3_complaint 92 = .ok (.getfield 156, 3) := dk_180 0 156 (dk_at dksX3_complaint_3 14 rfl rfl)
theorem dX3_complaint_95 : decode cX3_complaint 95 = .ok (.iload_n 1, 1) := dk_27 (dk_at dksX3_complaint_3 17 rfl rfl)
theorem dX3_complaint_96 : decode cX3_complaint 96 = .ok (.baload, 1) := dk_51 (dk_at dksX3_complaint_3 18 rfl rfl)
theorem dX3_complaint_97 : decode cX3_complaint 97 = .ok (.invokestatic 319, 3) := dk_184 1 63 (dk_at dksX3_complaint_3 19 rfl rfl)
theorem dX3_complaint_100 : decode cX3_complaint 100 = .ok (.ireturn, 1) := dk_172 (dk_at dksX3_complaint_3 22 rfl rfl)
theorem dX3_complaint_101 : decode cX3_complaint 101 = .ok (.iconst (-1), 1) := dk_2 (dk_at dksX3_complaint_3 23 rfl rfl)
theorem dX3_complaint_102 : decode cX3_complaint 102 = .ok (.ireturn, 1) := dk_172 (dk_at dksX3_complaint_4 0 rfl rfl)
def dkwX3_feed_2 : List UInt8 := [172]
abbrev dktX3_feed_2 : List UInt8 := dkwX3_feed_2 ++ []
def dkwX3_feed_1 : List UInt8 := [182, 1, 88, 42, 29, 182, 1, 88, 42, 21, 4, 182, 1, 88, 42, 21, 5, 182, 1, 88, 42, 180, 1, 85]
abbrev dktX3_feed_1 : List UInt8 := dkwX3_feed_1 ++ dktX3_feed_2
def dkwX3_feed_0 : List UInt8 := [42, 180, 1, 85, 16, 20, 96, 17, 2, 188, 164, 0, 5, 2, 172, 42, 27, 182, 1, 88, 42, 28]
abbrev dktX3_feed_0 : List UInt8 := dkwX3_feed_0 ++ dktX3_feed_1
theorem dksX3_feed_0 : cX3_feed.data.toList.drop 0 = dktX3_feed_0 := by decide +kernel
theorem dksX3_feed_1 : cX3_feed.data.toList.drop 22 = dktX3_feed_1 := dk_seg dksX3_feed_0 22 rfl rfl
theorem dksX3_feed_2 : cX3_feed.data.toList.drop 46 = dktX3_feed_2 := dk_seg dksX3_feed_1 24 rfl rfl
theorem dX3_feed_0 : decode cX3_feed 0 = .ok (.aload_n 0, 1) := dk_42 (dk_at dksX3_feed_0 0 rfl rfl)
theorem dX3_feed_1 : decode cX3_feed 1 = .ok (.getfield 341, 3) := dk_180 1 85 (dk_at dksX3_feed_0 1 rfl rfl)
theorem dX3_feed_4 : decode cX3_feed 4 = .ok (.bipush 20, 2) := dk_16 20 (dk_at dksX3_feed_0 4 rfl rfl)
theorem dX3_feed_6 : decode cX3_feed 6 = .ok (.iadd, 1) := dk_96 (dk_at dksX3_feed_0 6 rfl rfl)
theorem dX3_feed_7 : decode cX3_feed 7 = .ok (.sipush 700, 3) := dk_17 2 188 (dk_at dksX3_feed_0 7 rfl rfl)
theorem dX3_feed_10 : decode cX3_feed 10 = .ok (.if_icmp .le 5, 3) := dk_164 0 5 (dk_at dksX3_feed_0 10 rfl rfl)
theorem dX3_feed_13 : decode cX3_feed 13 = .ok (.iconst (-1), 1) := dk_2 (dk_at dksX3_feed_0 13 rfl rfl)
theorem dX3_feed_14 : decode cX3_feed 14 = .ok (.ireturn, 1) := dk_172 (dk_at dksX3_feed_0 14 rfl rfl)
theorem dX3_feed_15 : decode cX3_feed 15 = .ok (.aload_n 0, 1) := dk_42 (dk_at dksX3_feed_0 15 rfl rfl)
theorem dX3_feed_16 : decode cX3_feed 16 = .ok (.iload_n 1, 1) := dk_27 (dk_at dksX3_feed_0 16 rfl rfl)
theorem dX3_feed_17 : decode cX3_feed 17 = .ok (.invokevirtual 344, 3) := dk_182 1 88 (dk_at dksX3_feed_0 17 rfl rfl)
theorem dX3_feed_20 : decode cX3_feed 20 = .ok (.aload_n 0, 1) := dk_42 (dk_at dksX3_feed_0 20 rfl rfl)
theorem dX3_feed_21 : decode cX3_feed 21 = .ok (.iload_n 2, 1) := dk_28 (dk_at dksX3_feed_0 21 rfl rfl)
theorem dX3_feed_22 : decode cX3_feed 22 = .ok (.invokevirtual 344, 3) := dk_182 1 88 (dk_at dksX3_feed_1 0 rfl rfl)
theorem dX3_feed_25 : decode cX3_feed 25 = .ok (.aload_n 0, 1) := dk_42 (dk_at dksX3_feed_1 3 rfl rfl)
theorem dX3_feed_26 : decode cX3_feed 26 = .ok (.iload_n 3, 1) := dk_29 (dk_at dksX3_feed_1 4 rfl rfl)
theorem dX3_feed_27 : decode cX3_feed 27 = .ok (.invokevirtual 344, 3) := dk_182 1 88 (dk_at dksX3_feed_1 5 rfl rfl)
theorem dX3_feed_30 : decode cX3_feed 30 = .ok (.aload_n 0, 1) := dk_42 (dk_at dksX3_feed_1 8 rfl rfl)
theorem dX3_feed_31 : decode cX3_feed 31 = .ok (.iload 4, 2) := dk_21 4 (dk_at dksX3_feed_1 9 rfl rfl)
theorem dX3_feed_33 : decode cX3_feed 33 = .ok (.invokevirtual 344, 3) := dk_182 1 88 (dk_at dksX3_feed_1 11 rfl rfl)
theorem dX3_feed_36 : decode cX3_feed 36 = .ok (.aload_n 0, 1) := dk_42 (dk_at dksX3_feed_1 14 rfl rfl)
theorem dX3_feed_37 : decode cX3_feed 37 = .ok (.iload 5, 2) := dk_21 5 (dk_at dksX3_feed_1 15 rfl rfl)
theorem dX3_feed_39 : decode cX3_feed 39 = .ok (.invokevirtual 344, 3) := dk_182 1 88 (dk_at dksX3_feed_1 17 rfl rfl)
theorem dX3_feed_42 : decode cX3_feed 42 = .ok (.aload_n 0, 1) := dk_42 (dk_at dksX3_feed_1 20 rfl rfl)
theorem dX3_feed_43 : decode cX3_feed 43 = .ok (.getfield 341, 3) := dk_180 1 85 (dk_at dksX3_feed_1 21 rfl rfl)
theorem dX3_feed_46 : decode cX3_feed 46 = .ok (.ireturn, 1) := dk_172 (dk_at dksX3_feed_2 0 rfl rfl)
def dkwX3_four_1 : List UInt8 := [180, 1, 85, 4, 96, 181, 1, 85, 132, 2, 248, 167, 255, 226, 177]
abbrev dktX3_four_1 : List UInt8 := dkwX3_four_1 ++ []
def dkwX3_four_0 : List UInt8 := [16, 24, 61, 28, 155, 0, 32, 42, 180, 0, 180, 42, 180, 1, 85, 27, 28, 122, 145, 84, 42, 89]
abbrev dktX3_four_0 : List UInt8 := dkwX3_four_0 ++ dktX3_four_1
theorem dksX3_four_0 : cX3_four.data.toList.drop 0 = dktX3_four_0 := by decide +kernel
theorem dksX3_four_1 : cX3_four.data.toList.drop 22 = dktX3_four_1 := dk_seg dksX3_four_0 22 rfl rfl
theorem dX3_four_0 : decode cX3_four 0 = .ok (.bipush 24, 2) := dk_16 24 (dk_at dksX3_four_0 0 rfl rfl)
theorem dX3_four_2 : decode cX3_four 2 = .ok (.istore_n 2, 1) := dk_61 (dk_at dksX3_four_0 2 rfl rfl)
theorem dX3_four_3 : decode cX3_four 3 = .ok (.iload_n 2, 1) := dk_28 (dk_at dksX3_four_0 3 rfl rfl)
theorem dX3_four_4 : decode cX3_four 4 = .ok (.ifCond .lt 32, 3) := dk_155 0 32 (dk_at dksX3_four_0 4 rfl rfl)
theorem dX3_four_7 : decode cX3_four 7 = .ok (.aload_n 0, 1) := dk_42 (dk_at dksX3_four_0 7 rfl rfl)
theorem dX3_four_8 : decode cX3_four 8 = .ok (.getfield 180, 3) := dk_180 0 180 (dk_at dksX3_four_0 8 rfl rfl)
theorem dX3_four_11 : decode cX3_four 11 = .ok (.aload_n 0, 1) := dk_42 (dk_at dksX3_four_0 11 rfl rfl)
theorem dX3_four_12 : decode cX3_four 12 = .ok (.getfield 341, 3) := dk_180 1 85 (dk_at dksX3_four_0 12 rfl rfl)
theorem dX3_four_15 : decode cX3_four 15 = .ok (.iload_n 1, 1) := dk_27 (dk_at dksX3_four_0 15 rfl rfl)
theorem dX3_four_16 : decode cX3_four 16 = .ok (.iload_n 2, 1) := dk_28 (dk_at dksX3_four_0 16 rfl rfl)
theorem dX3_four_17 : decode cX3_four 17 = .ok (.ishr, 1) := dk_122 (dk_at dksX3_four_0 17 rfl rfl)
theorem dX3_four_18 : decode cX3_four 18 = .ok (.i2b, 1) := dk_145 (dk_at dksX3_four_0 18 rfl rfl)
theorem dX3_four_19 : decode cX3_four 19 = .ok (.bastore, 1) := dk_84 (dk_at dksX3_four_0 19 rfl rfl)
theorem dX3_four_20 : decode cX3_four 20 = .ok (.aload_n 0, 1) := dk_42 (dk_at dksX3_four_0 20 rfl rfl)
theorem dX3_four_21 : decode cX3_four 21 = .ok (.dup, 1) := dk_89 (dk_at dksX3_four_0 21 rfl rfl)
theorem dX3_four_22 : decode cX3_four 22 = .ok (.getfield 341, 3) := dk_180 1 85 (dk_at dksX3_four_1 0 rfl rfl)
theorem dX3_four_25 : decode cX3_four 25 = .ok (.iconst 1, 1) := dk_4 (dk_at dksX3_four_1 3 rfl rfl)
theorem dX3_four_26 : decode cX3_four 26 = .ok (.iadd, 1) := dk_96 (dk_at dksX3_four_1 4 rfl rfl)
theorem dX3_four_27 : decode cX3_four 27 = .ok (.putfield 341, 3) := dk_181 1 85 (dk_at dksX3_four_1 5 rfl rfl)
theorem dX3_four_30 : decode cX3_four 30 = .ok (.iinc 2 (-8), 3) := dk_132 2 248 (dk_at dksX3_four_1 8 rfl rfl)
theorem dX3_four_33 : decode cX3_four 33 = .ok (.goto (-30), 3) := dk_167 255 226 (dk_at dksX3_four_1 11 rfl rfl)
theorem dX3_four_36 : decode cX3_four 36 = .ok (.return_, 1) := dk_177 (dk_at dksX3_four_1 14 rfl rfl)
def dkwX3_rules_9 : List UInt8 := [96, 181, 1, 163, 42, 180, 1, 163, 4, 100, 172]
abbrev dktX3_rules_9 : List UInt8 := dkwX3_rules_9 ++ []
def dkwX3_rules_8 : List UInt8 := [154, 0, 5, 2, 172, 42, 180, 0, 162, 42, 180, 1, 163, 42, 180, 0, 212, 79, 42, 89, 180, 1, 163, 4]
abbrev dktX3_rules_8 : List UInt8 := dkwX3_rules_8 ++ dktX3_rules_9
def dkwX3_rules_7 : List UInt8 := [182, 1, 97, 167, 255, 173, 42, 28, 153, 0, 7, 2, 167, 0, 7, 42, 180, 1, 91, 181, 0, 187, 28]
abbrev dktX3_rules_7 : List UInt8 := dkwX3_rules_7 ++ dktX3_rules_8
def dkwX3_rules_6 : List UInt8 := [3, 61, 28, 154, 0, 6, 167, 255, 193, 42, 180, 0, 159, 42, 180, 1, 163, 92, 46, 4, 96, 79, 42]
abbrev dktX3_rules_6 : List UInt8 := dkwX3_rules_6 ++ dktX3_rules_7
def dkwX3_rules_5 : List UInt8 := [180, 1, 163, 104, 42, 180, 0, 159, 42, 180, 1, 163, 46, 96, 182, 1, 166, 153, 0, 7, 4, 167, 0, 4]
abbrev dktX3_rules_5 : List UInt8 := dkwX3_rules_5 ++ dktX3_rules_6
def dkwX3_rules_4 : List UInt8 := [180, 1, 94, 162, 0, 74, 42, 180, 0, 159, 42, 180, 1, 163, 46, 16, 24, 162, 0, 31, 42, 16, 24, 42]
abbrev dktX3_rules_4 : List UInt8 := dkwX3_rules_4 ++ dktX3_rules_5
def dkwX3_rules_3 : List UInt8 := [180, 0, 159, 42, 180, 1, 163, 3, 79, 4, 61, 42, 182, 1, 97, 28, 153, 0, 85, 42, 180, 1, 91, 42]
abbrev dktX3_rules_3 : List UInt8 := dkwX3_rules_3 ++ dktX3_rules_4
def dkwX3_rules_2 : List UInt8 := [132, 2, 1, 167, 255, 236, 42, 27, 181, 1, 94, 42, 3, 181, 1, 85, 42, 3, 181, 1, 91, 42]
abbrev dktX3_rules_2 : List UInt8 := dkwX3_rules_2 ++ dktX3_rules_3
def dkwX3_rules_1 : List UInt8 := [16, 253, 172, 3, 61, 28, 27, 162, 0, 21, 42, 180, 0, 184, 28, 42, 180, 0, 180, 28, 51, 84]
abbrev dktX3_rules_1 : List UInt8 := dkwX3_rules_1 ++ dktX3_rules_2
def dkwX3_rules_0 : List UInt8 := [27, 3, 42, 180, 1, 85, 184, 0, 194, 154, 0, 6, 16, 254, 172, 42, 180, 1, 163, 16, 10, 160, 0, 6]
abbrev dktX3_rules_0 : List UInt8 := dkwX3_rules_0 ++ dktX3_rules_1
theorem dksX3_rules_0 : cX3_rules.data.toList.drop 0 = dktX3_rules_0 := by decide +kernel
theorem dksX3_rules_1 : cX3_rules.data.toList.drop 24 = dktX3_rules_1 := dk_seg dksX3_rules_0 24 rfl rfl
theorem dksX3_rules_2 : cX3_rules.data.toList.drop 46 = dktX3_rules_2 := dk_seg dksX3_rules_1 22 rfl rfl
theorem dksX3_rules_3 : cX3_rules.data.toList.drop 68 = dktX3_rules_3 := dk_seg dksX3_rules_2 22 rfl rfl
theorem dksX3_rules_4 : cX3_rules.data.toList.drop 92 = dktX3_rules_4 := dk_seg dksX3_rules_3 24 rfl rfl
theorem dksX3_rules_5 : cX3_rules.data.toList.drop 116 = dktX3_rules_5 := dk_seg dksX3_rules_4 24 rfl rfl
theorem dksX3_rules_6 : cX3_rules.data.toList.drop 140 = dktX3_rules_6 := dk_seg dksX3_rules_5 24 rfl rfl
theorem dksX3_rules_7 : cX3_rules.data.toList.drop 163 = dktX3_rules_7 := dk_seg dksX3_rules_6 23 rfl rfl
theorem dksX3_rules_8 : cX3_rules.data.toList.drop 186 = dktX3_rules_8 := dk_seg dksX3_rules_7 23 rfl rfl
theorem dksX3_rules_9 : cX3_rules.data.toList.drop 210 = dktX3_rules_9 := dk_seg dksX3_rules_8 24 rfl rfl
theorem dX3_rules_0 : decode cX3_rules 0 = .ok (.iload_n 1, 1) := dk_27 (dk_at dksX3_rules_0 0 rfl rfl)
theorem dX3_rules_1 : decode cX3_rules 1 = .ok (.iconst 0, 1) := dk_3 (dk_at dksX3_rules_0 1 rfl rfl)
theorem dX3_rules_2 : decode cX3_rules 2 = .ok (.aload_n 0, 1) := dk_42 (dk_at dksX3_rules_0 2 rfl rfl)
theorem dX3_rules_3 : decode cX3_rules 3 = .ok (.getfield 341, 3) := dk_180 1 85 (dk_at dksX3_rules_0 3 rfl rfl)
theorem dX3_rules_6 : decode cX3_rules 6 = .ok (.invokestatic 194, 3) := dk_184 0 194 (dk_at dksX3_rules_0 6 rfl rfl)
theorem dX3_rules_9 : decode cX3_rules 9 = .ok (.ifCond .ne 6, 3) := dk_154 0 6 (dk_at dksX3_rules_0 9 rfl rfl)
theorem dX3_rules_12 : decode cX3_rules 12 = .ok (.bipush (-2), 2) := dk_16 254 (dk_at dksX3_rules_0 12 rfl rfl)
theorem dX3_rules_14 : decode cX3_rules 14 = .ok (.ireturn, 1) := dk_172 (dk_at dksX3_rules_0 14 rfl rfl)
theorem dX3_rules_15 : decode cX3_rules 15 = .ok (.aload_n 0, 1) := dk_42 (dk_at dksX3_rules_0 15 rfl rfl)
theorem dX3_rules_16 : decode cX3_rules 16 = .ok (.getfield 419, 3) := dk_180 1 163 (dk_at dksX3_rules_0 16 rfl rfl)
theorem dX3_rules_19 : decode cX3_rules 19 = .ok (.bipush 10, 2) := dk_16 10 (dk_at dksX3_rules_0 19 rfl rfl)
theorem dX3_rules_21 : decode cX3_rules 21 = .ok (.if_icmp .ne 6, 3) := dk_160 0 6 (dk_at dksX3_rules_0 21 rfl rfl)
theorem dX3_rules_24 : decode cX3_rules 24 = .ok (.bipush (-3), 2) := dk_16 253 (dk_at dksX3_rules_1 0 rfl rfl)
theorem dX3_rules_26 : decode cX3_rules 26 = .ok (.ireturn, 1) := dk_172 (dk_at dksX3_rules_1 2 rfl rfl)
theorem dX3_rules_27 : decode cX3_rules 27 = .ok (.iconst 0, 1) := dk_3 (dk_at dksX3_rules_1 3 rfl rfl)
theorem dX3_rules_28 : decode cX3_rules 28 = .ok (.istore_n 2, 1) := dk_61 (dk_at dksX3_rules_1 4 rfl rfl)
theorem dX3_rules_29 : decode cX3_rules 29 = .ok (.iload_n 2, 1) := dk_28 (dk_at dksX3_rules_1 5 rfl rfl)
theorem dX3_rules_30 : decode cX3_rules 30 = .ok (.iload_n 1, 1) := dk_27 (dk_at dksX3_rules_1 6 rfl rfl)
theorem dX3_rules_31 : decode cX3_rules 31 = .ok (.if_icmp .ge 21, 3) := dk_162 0 21 (dk_at dksX3_rules_1 7 rfl rfl)
theorem dX3_rules_34 : decode cX3_rules 34 = .ok (.aload_n 0, 1) := dk_42 (dk_at dksX3_rules_1 10 rfl rfl)
theorem dX3_rules_35 : decode cX3_rules 35 = .ok (.getfield 184, 3) := dk_180 0 184 (dk_at dksX3_rules_1 11 rfl rfl)
theorem dX3_rules_38 : decode cX3_rules 38 = .ok (.iload_n 2, 1) := dk_28 (dk_at dksX3_rules_1 14 rfl rfl)
theorem dX3_rules_39 : decode cX3_rules 39 = .ok (.aload_n 0, 1) := dk_42 (dk_at dksX3_rules_1 15 rfl rfl)
theorem dX3_rules_40 : decode cX3_rules 40 = .ok (.getfield 180, 3) := dk_180 0 180 (dk_at dksX3_rules_1 16 rfl rfl)
theorem dX3_rules_43 : decode cX3_rules 43 = .ok (.iload_n 2, 1) := dk_28 (dk_at dksX3_rules_1 19 rfl rfl)
theorem dX3_rules_44 : decode cX3_rules 44 = .ok (.baload, 1) := dk_51 (dk_at dksX3_rules_1 20 rfl rfl)
theorem dX3_rules_45 : decode cX3_rules 45 = .ok (.bastore, 1) := dk_84 (dk_at dksX3_rules_1 21 rfl rfl)
theorem dX3_rules_46 : decode cX3_rules 46 = .ok (.iinc 2 1, 3) := dk_132 2 1 (dk_at dksX3_rules_2 0 rfl rfl)
theorem dX3_rules_49 : decode cX3_rules 49 = .ok (.goto (-20), 3) := dk_167 255 236 (dk_at dksX3_rules_2 3 rfl rfl)
theorem dX3_rules_52 : decode cX3_rules 52 = .ok (.aload_n 0, 1) := dk_42 (dk_at dksX3_rules_2 6 rfl rfl)
theorem dX3_rules_53 : decode cX3_rules 53 = .ok (.iload_n 1, 1) := dk_27 (dk_at dksX3_rules_2 7 rfl rfl)
theorem dX3_rules_54 : decode cX3_rules 54 = .ok (.putfield 350, 3) := dk_181 1 94 (dk_at dksX3_rules_2 8 rfl rfl)
theorem dX3_rules_57 : decode cX3_rules 57 = .ok (.aload_n 0, 1) := dk_42 (dk_at dksX3_rules_2 11 rfl rfl)
theorem dX3_rules_58 : decode cX3_rules 58 = .ok (.iconst 0, 1) := dk_3 (dk_at dksX3_rules_2 12 rfl rfl)
theorem dX3_rules_59 : decode cX3_rules 59 = .ok (.putfield 341, 3) := dk_181 1 85 (dk_at dksX3_rules_2 13 rfl rfl)
theorem dX3_rules_62 : decode cX3_rules 62 = .ok (.aload_n 0, 1) := dk_42 (dk_at dksX3_rules_2 16 rfl rfl)
theorem dX3_rules_63 : decode cX3_rules 63 = .ok (.iconst 0, 1) := dk_3 (dk_at dksX3_rules_2 17 rfl rfl)
theorem dX3_rules_64 : decode cX3_rules 64 = .ok (.putfield 347, 3) := dk_181 1 91 (dk_at dksX3_rules_2 18 rfl rfl)
theorem dX3_rules_67 : decode cX3_rules 67 = .ok (.aload_n 0, 1) := dk_42 (dk_at dksX3_rules_2 21 rfl rfl)
theorem dX3_rules_68 : decode cX3_rules 68 = .ok (.getfield 159, 3) := dk_180 0 159 (dk_at dksX3_rules_3 0 rfl rfl)
theorem dX3_rules_71 : decode cX3_rules 71 = .ok (.aload_n 0, 1) := dk_42 (dk_at dksX3_rules_3 3 rfl rfl)
theorem dX3_rules_72 : decode cX3_rules 72 = .ok (.getfield 419, 3) := dk_180 1 163 (dk_at dksX3_rules_3 4 rfl rfl)
theorem dX3_rules_75 : decode cX3_rules 75 = .ok (.iconst 0, 1) := dk_3 (dk_at dksX3_rules_3 7 rfl rfl)
theorem dX3_rules_76 : decode cX3_rules 76 = .ok (.iastore, 1) := dk_79 (dk_at dksX3_rules_3 8 rfl rfl)
theorem dX3_rules_77 : decode cX3_rules 77 = .ok (.iconst 1, 1) := dk_4 (dk_at dksX3_rules_3 9 rfl rfl)
theorem dX3_rules_78 : decode cX3_rules 78 = .ok (.istore_n 2, 1) := dk_61 (dk_at dksX3_rules_3 10 rfl rfl)
theorem dX3_rules_79 : decode cX3_rules 79 = .ok (.aload_n 0, 1) := dk_42 (dk_at dksX3_rules_3 11 rfl rfl)
theorem dX3_rules_80 : decode cX3_rules 80 = .ok (.invokevirtual 353, 3) := dk_182 1 97 (dk_at dksX3_rules_3 12 rfl rfl)
theorem dX3_rules_83 : decode cX3_rules 83 = .ok (.iload_n 2, 1) := dk_28 (dk_at dksX3_rules_3 15 rfl rfl)
theorem dX3_rules_84 : decode cX3_rules 84 = .ok (.ifCond .eq 85, 3) := dk_153 0 85 (dk_at dksX3_rules_3 16 rfl rfl)
theorem dX3_rules_87 : decode cX3_rules 87 = .ok (.aload_n 0, 1) := dk_42 (dk_at dksX3_rules_3 19 rfl rfl)
theorem dX3_rules_88 : decode cX3_rules 88 = .ok (.getfield 347, 3) := dk_180 1 91 (dk_at dksX3_rules_3 20 rfl rfl)
theorem dX3_rules_91 : decode cX3_rules 91 = .ok (.aload_n 0, 1) := dk_42 (dk_at dksX3_rules_3 23 rfl rfl)
theorem dX3_rules_92 : decode cX3_rules 92 = .ok (.getfield 350, 3) := dk_180 1 94 (dk_at dksX3_rules_4 0 rfl rfl)
theorem dX3_rules_95 : decode cX3_rules 95 = .ok (.if_icmp .ge 74, 3) := dk_162 0 74 (dk_at dksX3_rules_4 3 rfl rfl)
theorem dX3_rules_98 : decode cX3_rules 98 = .ok (.aload_n 0, 1) := dk_42 (dk_at dksX3_rules_4 6 rfl rfl)
theorem dX3_rules_99 : decode cX3_rules 99 = .ok (.getfield 159, 3) := dk_180 0 159 (dk_at dksX3_rules_4 7 rfl rfl)
theorem dX3_rules_102 : decode cX3_rules 102 = .ok (.aload_n 0, 1) := dk_42 (dk_at dksX3_rules_4 10 rfl rfl)
theorem dX3_rules_103 : decode cX3_rules 103 = .ok (.getfield 419, 3) := dk_180 1 163 (dk_at dksX3_rules_4 11 rfl rfl)
theorem dX3_rules_106 : decode cX3_rules 106 = .ok (.iaload, 1) := dk_46 (dk_at dksX3_rules_4 14 rfl rfl)
theorem dX3_rules_107 : decode cX3_rules 107 = .ok (.bipush 24, 2) := dk_16 24 (dk_at dksX3_rules_4 15 rfl rfl)
theorem dX3_rules_109 : decode cX3_rules 109 = .ok (.if_icmp .ge 31, 3) := dk_162 0 31 (dk_at dksX3_rules_4 17 rfl rfl)
theorem dX3_rules_112 : decode cX3_rules 112 = .ok (.aload_n 0, 1) := dk_42 (dk_at dksX3_rules_4 20 rfl rfl)
theorem dX3_rules_113 : decode cX3_rules 113 = .ok (.bipush 24, 2) := dk_16 24 (dk_at dksX3_rules_4 21 rfl rfl)
theorem dX3_rules_115 : decode cX3_rules 115 = .ok (.aload_n 0, 1) := dk_42 (dk_at dksX3_rules_4 23 rfl rfl)
theorem dX3_rules_116 : decode cX3_rules 116 = .ok (.getfield 419, 3) := dk_180 1 163 (dk_at dksX3_rules_5 0 rfl rfl)
theorem dX3_rules_119 : decode cX3_rules 119 = .ok (.imul, 1) := dk_104 (dk_at dksX3_rules_5 3 rfl rfl)
theorem dX3_rules_120 : decode cX3_rules 120 = .ok (.aload_n 0, 1) := dk_42 (dk_at dksX3_rules_5 4 rfl rfl)
theorem dX3_rules_121 : decode cX3_rules 121 = .ok (.getfield 159, 3) := dk_180 0 159 (dk_at dksX3_rules_5 5 rfl rfl)
theorem dX3_rules_124 : decode cX3_rules 124 = .ok (.aload_n 0, 1) := dk_42 (dk_at dksX3_rules_5 8 rfl rfl)
theorem dX3_rules_125 : decode cX3_rules 125 = .ok (.getfield 419, 3) := dk_180 1 163 (dk_at dksX3_rules_5 9 rfl rfl)
theorem dX3_rules_128 : decode cX3_rules 128 = .ok (.iaload, 1) := dk_46 (dk_at dksX3_rules_5 12 rfl rfl)
theorem dX3_rules_129 : decode cX3_rules 129 = .ok (.iadd, 1) := dk_96 (dk_at dksX3_rules_5 13 rfl rfl)
theorem dX3_rules_130 : decode cX3_rules 130 = .ok (.invokevirtual 422, 3) := dk_182 1 166 (dk_at dksX3_rules_5 14 rfl rfl)
theorem dX3_rules_133 : decode cX3_rules 133 = .ok (.ifCond .eq 7, 3) := dk_153 0 7 (dk_at dksX3_rules_5 17 rfl rfl)
theorem dX3_rules_136 : decode cX3_rules 136 = .ok (.iconst 1, 1) := dk_4 (dk_at dksX3_rules_5 20 rfl rfl)
theorem dX3_rules_137 : decode cX3_rules 137 = .ok (.goto 4, 3) := dk_167 0 4 (dk_at dksX3_rules_5 21 rfl rfl)
theorem dX3_rules_140 : decode cX3_rules 140 = .ok (.iconst 0, 1) := dk_3 (dk_at dksX3_rules_6 0 rfl rfl)
theorem dX3_rules_141 : decode cX3_rules 141 = .ok (.istore_n 2, 1) := dk_61 (dk_at dksX3_rules_6 1 rfl rfl)
theorem dX3_rules_142 : decode cX3_rules 142 = .ok (.iload_n 2, 1) := dk_28 (dk_at dksX3_rules_6 2 rfl rfl)
theorem dX3_rules_143 : decode cX3_rules 143 = .ok (.ifCond .ne 6, 3) := dk_154 0 6 (dk_at dksX3_rules_6 3 rfl rfl)
theorem dX3_rules_146 : decode cX3_rules 146 = .ok (.goto (-63), 3) := dk_167 255 193 (dk_at dksX3_rules_6 6 rfl rfl)
theorem dX3_rules_149 : decode cX3_rules 149 = .ok (.aload_n 0, 1) := dk_42 (dk_at dksX3_rules_6 9 rfl rfl)
theorem dX3_rules_150 : decode cX3_rules 150 = .ok (.getfield 159, 3) := dk_180 0 159 (dk_at dksX3_rules_6 10 rfl rfl)
theorem dX3_rules_153 : decode cX3_rules 153 = .ok (.aload_n 0, 1) := dk_42 (dk_at dksX3_rules_6 13 rfl rfl)
theorem dX3_rules_154 : decode cX3_rules 154 = .ok (.getfield 419, 3) := dk_180 1 163 (dk_at dksX3_rules_6 14 rfl rfl)
theorem dX3_rules_157 : decode cX3_rules 157 = .ok (.dup2, 1) := dk_92 (dk_at dksX3_rules_6 17 rfl rfl)
theorem dX3_rules_158 : decode cX3_rules 158 = .ok (.iaload, 1) := dk_46 (dk_at dksX3_rules_6 18 rfl rfl)
theorem dX3_rules_159 : decode cX3_rules 159 = .ok (.iconst 1, 1) := dk_4 (dk_at dksX3_rules_6 19 rfl rfl)
theorem dX3_rules_160 : decode cX3_rules 160 = .ok (.iadd, 1) := dk_96 (dk_at dksX3_rules_6 20 rfl rfl)
theorem dX3_rules_161 : decode cX3_rules 161 = .ok (.iastore, 1) := dk_79 (dk_at dksX3_rules_6 21 rfl rfl)
theorem dX3_rules_162 : decode cX3_rules 162 = .ok (.aload_n 0, 1) := dk_42 (dk_at dksX3_rules_6 22 rfl rfl)
theorem dX3_rules_163 : decode cX3_rules 163 = .ok (.invokevirtual 353, 3) := dk_182 1 97 (dk_at dksX3_rules_7 0 rfl rfl)
theorem dX3_rules_166 : decode cX3_rules 166 = .ok (.goto (-83), 3) := dk_167 255 173 (dk_at dksX3_rules_7 3 rfl rfl)
theorem dX3_rules_169 : decode cX3_rules 169 = .ok (.aload_n 0, 1) := dk_42 (dk_at dksX3_rules_7 6 rfl rfl)
theorem dX3_rules_170 : decode cX3_rules 170 = .ok (.iload_n 2, 1) := dk_28 (dk_at dksX3_rules_7 7 rfl rfl)
theorem dX3_rules_171 : decode cX3_rules 171 = .ok (.ifCond .eq 7, 3) := dk_153 0 7 (dk_at dksX3_rules_7 8 rfl rfl)
theorem dX3_rules_174 : decode cX3_rules 174 = .ok (.iconst (-1), 1) := dk_2 (dk_at dksX3_rules_7 11 rfl rfl)
theorem dX3_rules_175 : decode cX3_rules 175 = .ok (.goto 7, 3) := dk_167 0 7 (dk_at dksX3_rules_7 12 rfl rfl)
theorem dX3_rules_178 : decode cX3_rules 178 = .ok (.aload_n 0, 1) := dk_42 (dk_at dksX3_rules_7 15 rfl rfl)
theorem dX3_rules_179 : decode cX3_rules 179 = .ok (.getfield 347, 3) := dk_180 1 91 (dk_at dksX3_rules_7 16 rfl rfl)
theorem dX3_rules_182 : decode cX3_rules 182 = .ok (.putfield 187, 3) := dk_181 0 187 (dk_at dksX3_rules_7 19 rfl rfl)
theorem dX3_rules_185 : decode cX3_rules 185 = .ok (.iload_n 2, 1) := dk_28 (dk_at dksX3_rules_7 22 rfl rfl)
theorem dX3_rules_186 : decode cX3_rules 186 = .ok (.ifCond .ne 5, 3) := dk_154 0 5 (dk_at dksX3_rules_8 0 rfl rfl)
theorem dX3_rules_189 : decode cX3_rules 189 = .ok (.iconst (-1), 1) := dk_2 (dk_at dksX3_rules_8 3 rfl rfl)
theorem dX3_rules_190 : decode cX3_rules 190 = .ok (.ireturn, 1) := dk_172 (dk_at dksX3_rules_8 4 rfl rfl)
theorem dX3_rules_191 : decode cX3_rules 191 = .ok (.aload_n 0, 1) := dk_42 (dk_at dksX3_rules_8 5 rfl rfl)
theorem dX3_rules_192 : decode cX3_rules 192 = .ok (.getfield 162, 3) := dk_180 0 162 (dk_at dksX3_rules_8 6 rfl rfl)
theorem dX3_rules_195 : decode cX3_rules 195 = .ok (.aload_n 0, 1) := dk_42 (dk_at dksX3_rules_8 9 rfl rfl)
theorem dX3_rules_196 : decode cX3_rules 196 = .ok (.getfield 419, 3) := dk_180 1 163 (dk_at dksX3_rules_8 10 rfl rfl)
theorem dX3_rules_199 : decode cX3_rules 199 = .ok (.aload_n 0, 1) := dk_42 (dk_at dksX3_rules_8 13 rfl rfl)
theorem dX3_rules_200 : decode cX3_rules 200 = .ok (.getfield 212, 3) := dk_180 0 212 (dk_at dksX3_rules_8 14 rfl rfl)
theorem dX3_rules_203 : decode cX3_rules 203 = .ok (.iastore, 1) := dk_79 (dk_at dksX3_rules_8 17 rfl rfl)
theorem dX3_rules_204 : decode cX3_rules 204 = .ok (.aload_n 0, 1) := dk_42 (dk_at dksX3_rules_8 18 rfl rfl)
theorem dX3_rules_205 : decode cX3_rules 205 = .ok (.dup, 1) := dk_89 (dk_at dksX3_rules_8 19 rfl rfl)
theorem dX3_rules_206 : decode cX3_rules 206 = .ok (.getfield 419, 3) := dk_180 1 163 (dk_at dksX3_rules_8 20 rfl rfl)
theorem dX3_rules_209 : decode cX3_rules 209 = .ok (.iconst 1, 1) := dk_4 (dk_at dksX3_rules_8 23 rfl rfl)
theorem dX3_rules_210 : decode cX3_rules 210 = .ok (.iadd, 1) := dk_96 (dk_at dksX3_rules_9 0 rfl rfl)
theorem dX3_rules_211 : decode cX3_rules 211 = .ok (.putfield 419, 3) := dk_181 1 163 (dk_at dksX3_rules_9 1 rfl rfl)
theorem dX3_rules_214 : decode cX3_rules 214 = .ok (.aload_n 0, 1) := dk_42 (dk_at dksX3_rules_9 4 rfl rfl)
theorem dX3_rules_215 : decode cX3_rules 215 = .ok (.getfield 419, 3) := dk_180 1 163 (dk_at dksX3_rules_9 5 rfl rfl)
theorem dX3_rules_218 : decode cX3_rules 218 = .ok (.iconst 1, 1) := dk_4 (dk_at dksX3_rules_9 8 rfl rfl)
theorem dX3_rules_219 : decode cX3_rules 219 = .ok (.isub, 1) := dk_100 (dk_at dksX3_rules_9 9 rfl rfl)
theorem dX3_rules_220 : decode cX3_rules 220 = .ok (.ireturn, 1) := dk_172 (dk_at dksX3_rules_9 10 rfl rfl)
def dkwX3_blanks_2 : List UInt8 := [181, 1, 91, 167, 255, 207, 177]
abbrev dktX3_blanks_2 : List UInt8 := dkwX3_blanks_2 ++ []
def dkwX3_blanks_1 : List UInt8 := [159, 0, 17, 42, 180, 0, 184, 42, 180, 1, 91, 51, 16, 10, 160, 0, 16, 42, 89, 180, 1, 91, 4, 96]
abbrev dktX3_blanks_1 : List UInt8 := dkwX3_blanks_1 ++ dktX3_blanks_2
def dkwX3_blanks_0 : List UInt8 := [42, 180, 1, 91, 42, 180, 1, 94, 162, 0, 44, 42, 180, 0, 184, 42, 180, 1, 91, 51, 16, 32]
abbrev dktX3_blanks_0 : List UInt8 := dkwX3_blanks_0 ++ dktX3_blanks_1
theorem dksX3_blanks_0 : cX3_blanks.data.toList.drop 0 = dktX3_blanks_0 := by decide +kernel
theorem dksX3_blanks_1 : cX3_blanks.data.toList.drop 22 = dktX3_blanks_1 := dk_seg dksX3_blanks_0 22 rfl rfl
theorem dksX3_blanks_2 : cX3_blanks.data.toList.drop 46 = dktX3_blanks_2 := dk_seg dksX3_blanks_1 24 rfl rfl
theorem dX3_blanks_0 : decode cX3_blanks 0 = .ok (.aload_n 0, 1) := dk_42 (dk_at dksX3_blanks_0 0 rfl rfl)
theorem dX3_blanks_1 : decode cX3_blanks 1 = .ok (.getfield 347, 3) := dk_180 1 91 (dk_at dksX3_blanks_0 1 rfl rfl)
theorem dX3_blanks_4 : decode cX3_blanks 4 = .ok (.aload_n 0, 1) := dk_42 (dk_at dksX3_blanks_0 4 rfl rfl)
theorem dX3_blanks_5 : decode cX3_blanks 5 = .ok (.getfield 350, 3) := dk_180 1 94 (dk_at dksX3_blanks_0 5 rfl rfl)
theorem dX3_blanks_8 : decode cX3_blanks 8 = .ok (.if_icmp .ge 44, 3) := dk_162 0 44 (dk_at dksX3_blanks_0 8 rfl rfl)
theorem dX3_blanks_11 : decode cX3_blanks 11 = .ok (.aload_n 0, 1) := dk_42 (dk_at dksX3_blanks_0 11 rfl rfl)
theorem dX3_blanks_12 : decode cX3_blanks 12 = .ok (.getfield 184, 3) := dk_180 0 184 (dk_at dksX3_blanks_0 12 rfl rfl)
theorem dX3_blanks_15 : decode cX3_blanks 15 = .ok (.aload_n 0, 1) := dk_42 (dk_at dksX3_blanks_0 15 rfl rfl)
theorem dX3_blanks_16 : decode cX3_blanks 16 = .ok (.getfield 347, 3) := dk_180 1 91 (dk_at dksX3_blanks_0 16 rfl rfl)
theorem dX3_blanks_19 : decode cX3_blanks 19 = .ok (.baload, 1) := dk_51 (dk_at dksX3_blanks_0 19 rfl rfl)
theorem dX3_blanks_20 : decode cX3_blanks 20 = .ok (.bipush 32, 2) := dk_16 32 (dk_at dksX3_blanks_0 20 rfl rfl)
theorem dX3_blanks_22 : decode cX3_blanks 22 = .ok (.if_icmp .eq 17, 3) := dk_159 0 17 (dk_at dksX3_blanks_1 0 rfl rfl)
theorem dX3_blanks_25 : decode cX3_blanks 25 = .ok (.aload_n 0, 1) := dk_42 (dk_at dksX3_blanks_1 3 rfl rfl)
theorem dX3_blanks_26 : decode cX3_blanks 26 = .ok (.getfield 184, 3) := dk_180 0 184 (dk_at dksX3_blanks_1 4 rfl rfl)
theorem dX3_blanks_29 : decode cX3_blanks 29 = .ok (.aload_n 0, 1) := dk_42 (dk_at dksX3_blanks_1 7 rfl rfl)
theorem dX3_blanks_30 : decode cX3_blanks 30 = .ok (.getfield 347, 3) := dk_180 1 91 (dk_at dksX3_blanks_1 8 rfl rfl)
theorem dX3_blanks_33 : decode cX3_blanks 33 = .ok (.baload, 1) := dk_51 (dk_at dksX3_blanks_1 11 rfl rfl)
theorem dX3_blanks_34 : decode cX3_blanks 34 = .ok (.bipush 10, 2) := dk_16 10 (dk_at dksX3_blanks_1 12 rfl rfl)
theorem dX3_blanks_36 : decode cX3_blanks 36 = .ok (.if_icmp .ne 16, 3) := dk_160 0 16 (dk_at dksX3_blanks_1 14 rfl rfl)
theorem dX3_blanks_39 : decode cX3_blanks 39 = .ok (.aload_n 0, 1) := dk_42 (dk_at dksX3_blanks_1 17 rfl rfl)
theorem dX3_blanks_40 : decode cX3_blanks 40 = .ok (.dup, 1) := dk_89 (dk_at dksX3_blanks_1 18 rfl rfl)
theorem dX3_blanks_41 : decode cX3_blanks 41 = .ok (.getfield 347, 3) := dk_180 1 91 (dk_at dksX3_blanks_1 19 rfl rfl)
theorem dX3_blanks_44 : decode cX3_blanks 44 = .ok (.iconst 1, 1) := dk_4 (dk_at dksX3_blanks_1 22 rfl rfl)
theorem dX3_blanks_45 : decode cX3_blanks 45 = .ok (.iadd, 1) := dk_96 (dk_at dksX3_blanks_1 23 rfl rfl)
theorem dX3_blanks_46 : decode cX3_blanks 46 = .ok (.putfield 347, 3) := dk_181 1 91 (dk_at dksX3_blanks_2 0 rfl rfl)
theorem dX3_blanks_49 : decode cX3_blanks 49 = .ok (.goto (-49), 3) := dk_167 255 207 (dk_at dksX3_blanks_2 3 rfl rfl)
theorem dX3_blanks_52 : decode cX3_blanks 52 = .ok (.return_, 1) := dk_177 (dk_at dksX3_blanks_2 6 rfl rfl)
def dkwX3_statement_6 : List UInt8 := [42, 180, 1, 91, 51, 16, 59, 159, 0, 5, 3, 172, 42, 89, 180, 1, 91, 4, 96, 181, 1, 91, 4, 172]
abbrev dktX3_statement_6 : List UInt8 := dkwX3_statement_6 ++ []
def dkwX3_statement_5 : List UInt8 := [154, 0, 5, 3, 172, 42, 182, 1, 97, 42, 180, 1, 91, 42, 180, 1, 94, 159, 0, 17, 42, 180, 0, 184]
abbrev dktX3_statement_5 : List UInt8 := dkwX3_statement_5 ++ dktX3_statement_6
def dkwX3_statement_4 : List UInt8 := [153, 0, 17, 42, 27, 16, 10, 20, 1, 158, 9, 182, 1, 134, 167, 0, 8, 42, 27, 182, 1, 160, 61, 28]
abbrev dktX3_statement_4 : List UInt8 := dkwX3_statement_4 ++ dktX3_statement_5
def dkwX3_statement_3 : List UInt8 := [27, 16, 7, 20, 1, 152, 20, 1, 154, 182, 1, 134, 167, 0, 32, 42, 20, 1, 156, 182, 1, 112]
abbrev dktX3_statement_3 : List UInt8 := dkwX3_statement_3 ++ dktX3_statement_4
def dkwX3_statement_2 : List UInt8 := [42, 27, 4, 20, 1, 120, 9, 182, 1, 134, 167, 0, 58, 42, 20, 1, 150, 182, 1, 112, 153, 0, 19, 42]
abbrev dktX3_statement_2 : List UInt8 := dkwX3_statement_2 ++ dktX3_statement_3
def dkwX3_statement_1 : List UInt8 := [182, 1, 112, 153, 0, 11, 42, 27, 182, 1, 145, 167, 0, 81, 42, 20, 1, 148, 182, 1, 112, 153, 0, 16]
abbrev dktX3_statement_1 : List UInt8 := dkwX3_statement_1 ++ dktX3_statement_2
def dkwX3_statement_0 : List UInt8 := [42, 20, 1, 138, 182, 1, 112, 153, 0, 11, 42, 27, 182, 1, 140, 167, 0, 99, 42, 20, 1, 143]
abbrev dktX3_statement_0 : List UInt8 := dkwX3_statement_0 ++ dktX3_statement_1
theorem dksX3_statement_0 : cX3_statement.data.toList.drop 0 = dktX3_statement_0 := by decide +kernel
theorem dksX3_statement_1 : cX3_statement.data.toList.drop 22 = dktX3_statement_1 := dk_seg dksX3_statement_0 22 rfl rfl
theorem dksX3_statement_2 : cX3_statement.data.toList.drop 46 = dktX3_statement_2 := dk_seg dksX3_statement_1 24 rfl rfl
theorem dksX3_statement_3 : cX3_statement.data.toList.drop 70 = dktX3_statement_3 := dk_seg dksX3_statement_2 24 rfl rfl
theorem dksX3_statement_4 : cX3_statement.data.toList.drop 92 = dktX3_statement_4 := dk_seg dksX3_statement_3 22 rfl rfl
theorem dksX3_statement_5 : cX3_statement.data.toList.drop 116 = dktX3_statement_5 := dk_seg dksX3_statement_4 24 rfl rfl
theorem dksX3_statement_6 : cX3_statement.data.toList.drop 140 = dktX3_statement_6 := dk_seg dksX3_statement_5 24 rfl rfl
theorem dX3_statement_0 : decode cX3_statement 0 = .ok (.aload_n 0, 1) := dk_42 (dk_at dksX3_statement_0 0 rfl rfl)
theorem dX3_statement_1 : decode cX3_statement 1 = .ok (.ldc2_w 394, 3) := dk_20 1 138 (dk_at dksX3_statement_0 1 rfl rfl)
theorem dX3_statement_4 : decode cX3_statement 4 = .ok (.invokevirtual 368, 3) := dk_182 1 112 (dk_at dksX3_statement_0 4 rfl rfl)
theorem dX3_statement_7 : decode cX3_statement 7 = .ok (.ifCond .eq 11, 3) := dk_153 0 11 (dk_at dksX3_statement_0 7 rfl rfl)
theorem dX3_statement_10 : decode cX3_statement 10 = .ok (.aload_n 0, 1) := dk_42 (dk_at dksX3_statement_0 10 rfl rfl)
theorem dX3_statement_11 : decode cX3_statement 11 = .ok (.iload_n 1, 1) := dk_27 (dk_at dksX3_statement_0 11 rfl rfl)
theorem dX3_statement_12 : decode cX3_statement 12 = .ok (.invokevirtual 396, 3) := dk_182 1 140 (dk_at dksX3_statement_0 12 rfl rfl)
theorem dX3_statement_15 : decode cX3_statement 15 = .ok (.goto 99, 3) := dk_167 0 99 (dk_at dksX3_statement_0 15 rfl rfl)
theorem dX3_statement_18 : decode cX3_statement 18 = .ok (.aload_n 0, 1) := dk_42 (dk_at dksX3_statement_0 18 rfl rfl)
theorem dX3_statement_19 : decode cX3_statement 19 = .ok (.ldc2_w 399, 3) := dk_20 1 143 (dk_at dksX3_statement_0 19 rfl rfl)
theorem dX3_statement_22 : decode cX3_statement 22 = .ok (.invokevirtual 368, 3) := dk_182 1 112 (dk_at dksX3_statement_1 0 rfl rfl)
theorem dX3_statement_25 : decode cX3_statement 25 = .ok (.ifCond .eq 11, 3) := dk_153 0 11 (dk_at dksX3_statement_1 3 rfl rfl)
theorem dX3_statement_28 : decode cX3_statement 28 = .ok (.aload_n 0, 1) := dk_42 (dk_at dksX3_statement_1 6 rfl rfl)
theorem dX3_statement_29 : decode cX3_statement 29 = .ok (.iload_n 1, 1) := dk_27 (dk_at dksX3_statement_1 7 rfl rfl)
theorem dX3_statement_30 : decode cX3_statement 30 = .ok (.invokevirtual 401, 3) := dk_182 1 145 (dk_at dksX3_statement_1 8 rfl rfl)
theorem dX3_statement_33 : decode cX3_statement 33 = .ok (.goto 81, 3) := dk_167 0 81 (dk_at dksX3_statement_1 11 rfl rfl)
theorem dX3_statement_36 : decode cX3_statement 36 = .ok (.aload_n 0, 1) := dk_42 (dk_at dksX3_statement_1 14 rfl rfl)
theorem dX3_statement_37 : decode cX3_statement 37 = .ok (.ldc2_w 404, 3) := dk_20 1 148 (dk_at dksX3_statement_1 15 rfl rfl)
theorem dX3_statement_40 : decode cX3_statement 40 = .ok (.invokevirtual 368, 3) := dk_182 1 112 (dk_at dksX3_statement_1 18 rfl rfl)
theorem dX3_statement_43 : decode cX3_statement 43 = .ok (.ifCond .eq 16, 3) := dk_153 0 16 (dk_at dksX3_statement_1 21 rfl rfl)
theorem dX3_statement_46 : decode cX3_statement 46 = .ok (.aload_n 0, 1) := dk_42 (dk_at dksX3_statement_2 0 rfl rfl)
theorem dX3_statement_47 : decode cX3_statement 47 = .ok (.iload_n 1, 1) := dk_27 (dk_at dksX3_statement_2 1 rfl rfl)
theorem dX3_statement_48 : decode cX3_statement 48 = .ok (.iconst 1, 1) := dk_4 (dk_at dksX3_statement_2 2 rfl rfl)
theorem dX3_statement_49 : decode cX3_statement 49 = .ok (.ldc2_w 376, 3) := dk_20 1 120 (dk_at dksX3_statement_2 3 rfl rfl)
theorem dX3_statement_52 : decode cX3_statement 52 = .ok (.lconst 0, 1) := dk_9 (dk_at dksX3_statement_2 6 rfl rfl)
theorem dX3_statement_53 : decode cX3_statement 53 = .ok (.invokevirtual 390, 3) := dk_182 1 134 (dk_at dksX3_statement_2 7 rfl rfl)
theorem dX3_statement_56 : decode cX3_statement 56 = .ok (.goto 58, 3) := dk_167 0 58 (dk_at dksX3_statement_2 10 rfl rfl)
theorem dX3_statement_59 : decode cX3_statement 59 = .ok (.aload_n 0, 1) := dk_42 (dk_at dksX3_statement_2 13 rfl rfl)
theorem dX3_statement_60 : decode cX3_statement 60 = .ok (.ldc2_w 406, 3) := dk_20 1 150 (dk_at dksX3_statement_2 14 rfl rfl)
theorem dX3_statement_63 : decode cX3_statement 63 = .ok (.invokevirtual 368, 3) := dk_182 1 112 (dk_at dksX3_statement_2 17 rfl rfl)
theorem dX3_statement_66 : decode cX3_statement 66 = .ok (.ifCond .eq 19, 3) := dk_153 0 19 (dk_at dksX3_statement_2 20 rfl rfl)
theorem dX3_statement_69 : decode cX3_statement 69 = .ok (.aload_n 0, 1) := dk_42 (dk_at dksX3_statement_2 23 rfl rfl)
theorem dX3_statement_70 : decode cX3_statement 70 = .ok (.iload_n 1, 1) := dk_27 (dk_at dksX3_statement_3 0 rfl rfl)
theorem dX3_statement_71 : decode cX3_statement 71 = .ok (.bipush 7, 2) := dk_16 7 (dk_at dksX3_statement_3 1 rfl rfl)
theorem dX3_statement_73 : decode cX3_statement 73 = .ok (.ldc2_w 408, 3) := dk_20 1 152 (dk_at dksX3_statement_3 3 rfl rfl)
theorem dX3_statement_76 : decode cX3_statement 76 = .ok (.ldc2_w 410, 3) := dk_20 1 154 (dk_at dksX3_statement_3 6 rfl rfl)
theorem dX3_statement_79 : decode cX3_statement 79 = .ok (.invokevirtual 390, 3) := dk_182 1 134 (dk_at dksX3_statement_3 9 rfl rfl)
theorem dX3_statement_82 : decode cX3_statement 82 = .ok (.goto 32, 3) := dk_167 0 32 (dk_at dksX3_statement_3 12 rfl rfl)
theorem dX3_statement_85 : decode cX3_statement 85 = .ok (.aload_n 0, 1) := dk_42 (dk_at dksX3_statement_3 15 rfl rfl)
theorem dX3_statement_86 : decode cX3_statement 86 = .ok (.ldc2_w 412, 3) := dk_20 1 156 (dk_at dksX3_statement_3 16 rfl rfl)
theorem dX3_statement_89 : decode cX3_statement 89 = .ok (.invokevirtual 368, 3) := dk_182 1 112 (dk_at dksX3_statement_3 19 rfl rfl)
theorem dX3_statement_92 : decode cX3_statement 92 = .ok (.ifCond .eq 17, 3) := dk_153 0 17 (dk_at dksX3_statement_4 0 rfl rfl)
theorem dX3_statement_95 : decode cX3_statement 95 = .ok (.aload_n 0, 1) := dk_42 (dk_at dksX3_statement_4 3 rfl rfl)
theorem dX3_statement_96 : decode cX3_statement 96 = .ok (.iload_n 1, 1) := dk_27 (dk_at dksX3_statement_4 4 rfl rfl)
theorem dX3_statement_97 : decode cX3_statement 97 = .ok (.bipush 10, 2) := dk_16 10 (dk_at dksX3_statement_4 5 rfl rfl)
theorem dX3_statement_99 : decode cX3_statement 99 = .ok (.ldc2_w 414, 3) := dk_20 1 158 (dk_at dksX3_statement_4 7 rfl rfl)
theorem dX3_statement_102 : decode cX3_statement 102 = .ok (.lconst 0, 1) := dk_9 (dk_at dksX3_statement_4 10 rfl rfl)
theorem dX3_statement_103 : decode cX3_statement 103 = .ok (.invokevirtual 390, 3) := dk_182 1 134 (dk_at dksX3_statement_4 11 rfl rfl)
theorem dX3_statement_106 : decode cX3_statement 106 = .ok (.goto 8, 3) := dk_167 0 8 (dk_at dksX3_statement_4 14 rfl rfl)
theorem dX3_statement_109 : decode cX3_statement 109 = .ok (.aload_n 0, 1) := dk_42 (dk_at dksX3_statement_4 17 rfl rfl)
theorem dX3_statement_110 : decode cX3_statement 110 = .ok (.iload_n 1, 1) := dk_27 (dk_at dksX3_statement_4 18 rfl rfl)
theorem dX3_statement_111 : decode cX3_statement 111 = .ok (.invokevirtual 416, 3) := dk_182 1 160 (dk_at dksX3_statement_4 19 rfl rfl)
theorem dX3_statement_114 : decode cX3_statement 114 = .ok (.istore_n 2, 1) := dk_61 (dk_at dksX3_statement_4 22 rfl rfl)
theorem dX3_statement_115 : decode cX3_statement 115 = .ok (.iload_n 2, 1) := dk_28 (dk_at dksX3_statement_4 23 rfl rfl)
theorem dX3_statement_116 : decode cX3_statement 116 = .ok (.ifCond .ne 5, 3) := dk_154 0 5 (dk_at dksX3_statement_5 0 rfl rfl)
theorem dX3_statement_119 : decode cX3_statement 119 = .ok (.iconst 0, 1) := dk_3 (dk_at dksX3_statement_5 3 rfl rfl)
theorem dX3_statement_120 : decode cX3_statement 120 = .ok (.ireturn, 1) := dk_172 (dk_at dksX3_statement_5 4 rfl rfl)
theorem dX3_statement_121 : decode cX3_statement 121 = .ok (.aload_n 0, 1) := dk_42 (dk_at dksX3_statement_5 5 rfl rfl)
theorem dX3_statement_122 : decode cX3_statement 122 = .ok (.invokevirtual 353, 3) := dk_182 1 97 (dk_at dksX3_statement_5 6 rfl rfl)
theorem dX3_statement_125 : decode cX3_statement 125 = .ok (.aload_n 0, 1) := dk_42 (dk_at dksX3_statement_5 9 rfl rfl)
theorem dX3_statement_126 : decode cX3_statement 126 = .ok (.getfield 347, 3) := dk_180 1 91 (dk_at dksX3_statement_5 10 rfl rfl)
theorem dX3_statement_129 : decode cX3_statement 129 = .ok (.aload_n 0, 1) := dk_42 (dk_at dksX3_statement_5 13 rfl rfl)
theorem dX3_statement_130 : decode cX3_statement 130 = .ok (.getfield 350, 3) := dk_180 1 94 (dk_at dksX3_statement_5 14 rfl rfl)
theorem dX3_statement_133 : decode cX3_statement 133 = .ok (.if_icmp .eq 17, 3) := dk_159 0 17 (dk_at dksX3_statement_5 17 rfl rfl)
theorem dX3_statement_136 : decode cX3_statement 136 = .ok (.aload_n 0, 1) := dk_42 (dk_at dksX3_statement_5 20 rfl rfl)
theorem dX3_statement_137 : decode cX3_statement 137 = .ok (.getfield 184, 3) := dk_180 0 184 (dk_at dksX3_statement_5 21 rfl rfl)
theorem dX3_statement_140 : decode cX3_statement 140 = .ok (.aload_n 0, 1) := dk_42 (dk_at dksX3_statement_6 0 rfl rfl)
theorem dX3_statement_141 : decode cX3_statement 141 = .ok (.getfield 347, 3) := dk_180 1 91 (dk_at dksX3_statement_6 1 rfl rfl)
theorem dX3_statement_144 : decode cX3_statement 144 = .ok (.baload, 1) := dk_51 (dk_at dksX3_statement_6 4 rfl rfl)
theorem dX3_statement_145 : decode cX3_statement 145 = .ok (.bipush 59, 2) := dk_16 59 (dk_at dksX3_statement_6 5 rfl rfl)
theorem dX3_statement_147 : decode cX3_statement 147 = .ok (.if_icmp .eq 5, 3) := dk_159 0 5 (dk_at dksX3_statement_6 7 rfl rfl)
theorem dX3_statement_150 : decode cX3_statement 150 = .ok (.iconst 0, 1) := dk_3 (dk_at dksX3_statement_6 10 rfl rfl)
theorem dX3_statement_151 : decode cX3_statement 151 = .ok (.ireturn, 1) := dk_172 (dk_at dksX3_statement_6 11 rfl rfl)
theorem dX3_statement_152 : decode cX3_statement 152 = .ok (.aload_n 0, 1) := dk_42 (dk_at dksX3_statement_6 12 rfl rfl)
theorem dX3_statement_153 : decode cX3_statement 153 = .ok (.dup, 1) := dk_89 (dk_at dksX3_statement_6 13 rfl rfl)
theorem dX3_statement_154 : decode cX3_statement 154 = .ok (.getfield 347, 3) := dk_180 1 91 (dk_at dksX3_statement_6 14 rfl rfl)
theorem dX3_statement_157 : decode cX3_statement 157 = .ok (.iconst 1, 1) := dk_4 (dk_at dksX3_statement_6 17 rfl rfl)
theorem dX3_statement_158 : decode cX3_statement 158 = .ok (.iadd, 1) := dk_96 (dk_at dksX3_statement_6 18 rfl rfl)
theorem dX3_statement_159 : decode cX3_statement 159 = .ok (.putfield 347, 3) := dk_181 1 91 (dk_at dksX3_statement_6 19 rfl rfl)
theorem dX3_statement_162 : decode cX3_statement 162 = .ok (.iconst 1, 1) := dk_4 (dk_at dksX3_statement_6 22 rfl rfl)
theorem dX3_statement_163 : decode cX3_statement 163 = .ok (.ireturn, 1) := dk_172 (dk_at dksX3_statement_6 23 rfl rfl)
def dkwX3_takes_4 : List UInt8 := [3, 172, 42, 29, 181, 1, 91, 4, 172]
abbrev dktX3_takes_4 : List UInt8 := dkwX3_takes_4 ++ []
def dkwX3_takes_3 : List UInt8 := [132, 3, 1, 167, 255, 193, 29, 42, 180, 1, 91, 100, 16, 7, 163, 0, 10, 22, 4, 31, 148, 153, 0, 5]
abbrev dktX3_takes_3 : List UInt8 := dkwX3_takes_3 ++ dktX3_takes_4
def dkwX3_takes_2 : List UInt8 := [16, 7, 162, 0, 19, 22, 4, 16, 8, 121, 42, 180, 0, 184, 29, 51, 133, 129, 167, 0, 4, 9, 55, 4]
abbrev dktX3_takes_2 : List UInt8 := dkwX3_takes_2 ++ dktX3_takes_3
def dkwX3_takes_1 : List UInt8 := [29, 51, 16, 97, 161, 0, 50, 42, 180, 0, 184, 29, 51, 16, 122, 163, 0, 39, 29, 42, 180, 1, 91, 100]
abbrev dktX3_takes_1 : List UInt8 := dkwX3_takes_1 ++ dktX3_takes_2
def dkwX3_takes_0 : List UInt8 := [42, 182, 1, 97, 42, 180, 1, 91, 62, 9, 55, 4, 29, 42, 180, 1, 94, 162, 0, 61, 42, 180, 0, 184]
abbrev dktX3_takes_0 : List UInt8 := dkwX3_takes_0 ++ dktX3_takes_1
theorem dksX3_takes_0 : cX3_takes.data.toList.drop 0 = dktX3_takes_0 := by decide +kernel
theorem dksX3_takes_1 : cX3_takes.data.toList.drop 24 = dktX3_takes_1 := dk_seg dksX3_takes_0 24 rfl rfl
theorem dksX3_takes_2 : cX3_takes.data.toList.drop 48 = dktX3_takes_2 := dk_seg dksX3_takes_1 24 rfl rfl
theorem dksX3_takes_3 : cX3_takes.data.toList.drop 72 = dktX3_takes_3 := dk_seg dksX3_takes_2 24 rfl rfl
theorem dksX3_takes_4 : cX3_takes.data.toList.drop 96 = dktX3_takes_4 := dk_seg dksX3_takes_3 24 rfl rfl
theorem dX3_takes_0 : decode cX3_takes 0 = .ok (.aload_n 0, 1) := dk_42 (dk_at dksX3_takes_0 0 rfl rfl)
theorem dX3_takes_1 : decode cX3_takes 1 = .ok (.invokevirtual 353, 3) := dk_182 1 97 (dk_at dksX3_takes_0 1 rfl rfl)
theorem dX3_takes_4 : decode cX3_takes 4 = .ok (.aload_n 0, 1) := dk_42 (dk_at dksX3_takes_0 4 rfl rfl)
theorem dX3_takes_5 : decode cX3_takes 5 = .ok (.getfield 347, 3) := dk_180 1 91 (dk_at dksX3_takes_0 5 rfl rfl)
theorem dX3_takes_8 : decode cX3_takes 8 = .ok (.istore_n 3, 1) := dk_62 (dk_at dksX3_takes_0 8 rfl rfl)
theorem dX3_takes_9 : decode cX3_takes 9 = .ok (.lconst 0, 1) := dk_9 (dk_at dksX3_takes_0 9 rfl rfl)
theorem dX3_takes_10 : decode cX3_takes 10 = .ok (.lstore 4, 2) := dk_55 4 (dk_at dksX3_takes_0 10 rfl rfl)
theorem dX3_takes_12 : decode cX3_takes 12 = .ok (.iload_n 3, 1) := dk_29 (dk_at dksX3_takes_0 12 rfl rfl)
theorem dX3_takes_13 : decode cX3_takes 13 = .ok (.aload_n 0, 1) := dk_42 (dk_at dksX3_takes_0 13 rfl rfl)
theorem dX3_takes_14 : decode cX3_takes 14 = .ok (.getfield 350, 3) := dk_180 1 94 (dk_at dksX3_takes_0 14 rfl rfl)
theorem dX3_takes_17 : decode cX3_takes 17 = .ok (.if_icmp .ge 61, 3) := dk_162 0 61 (dk_at dksX3_takes_0 17 rfl rfl)
theorem dX3_takes_20 : decode cX3_takes 20 = .ok (.aload_n 0, 1) := dk_42 (dk_at dksX3_takes_0 20 rfl rfl)
theorem dX3_takes_21 : decode cX3_takes 21 = .ok (.getfield 184, 3) := dk_180 0 184 (dk_at dksX3_takes_0 21 rfl rfl)
theorem dX3_takes_24 : decode cX3_takes 24 = .ok (.iload_n 3, 1) := dk_29 (dk_at dksX3_takes_1 0 rfl rfl)
theorem dX3_takes_25 : decode cX3_takes 25 = .ok (.baload, 1) := dk_51 (dk_at dksX3_takes_1 1 rfl rfl)
theorem dX3_takes_26 : decode cX3_takes 26 = .ok (.bipush 97, 2) := dk_16 97 (dk_at dksX3_takes_1 2 rfl rfl)
theorem dX3_takes_28 : decode cX3_takes 28 = .ok (.if_icmp .lt 50, 3) := dk_161 0 50 (dk_at dksX3_takes_1 4 rfl rfl)
theorem dX3_takes_31 : decode cX3_takes 31 = .ok (.aload_n 0, 1) := dk_42 (dk_at dksX3_takes_1 7 rfl rfl)
theorem dX3_takes_32 : decode cX3_takes 32 = .ok (.getfield 184, 3) := dk_180 0 184 (dk_at dksX3_takes_1 8 rfl rfl)
theorem dX3_takes_35 : decode cX3_takes 35 = .ok (.iload_n 3, 1) := dk_29 (dk_at dksX3_takes_1 11 rfl rfl)
theorem dX3_takes_36 : decode cX3_takes 36 = .ok (.baload, 1) := dk_51 (dk_at dksX3_takes_1 12 rfl rfl)
theorem dX3_takes_37 : decode cX3_takes 37 = .ok (.bipush 122, 2) := dk_16 122 (dk_at dksX3_takes_1 13 rfl rfl)
theorem dX3_takes_39 : decode cX3_takes 39 = .ok (.if_icmp .gt 39, 3) := dk_163 0 39 (dk_at dksX3_takes_1 15 rfl rfl)
theorem dX3_takes_42 : decode cX3_takes 42 = .ok (.iload_n 3, 1) := dk_29 (dk_at dksX3_takes_1 18 rfl rfl)
theorem dX3_takes_43 : decode cX3_takes 43 = .ok (.aload_n 0, 1) := dk_42 (dk_at dksX3_takes_1 19 rfl rfl)
theorem dX3_takes_44 : decode cX3_takes 44 = .ok (.getfield 347, 3) := dk_180 1 91 (dk_at dksX3_takes_1 20 rfl rfl)
theorem dX3_takes_47 : decode cX3_takes 47 = .ok (.isub, 1) := dk_100 (dk_at dksX3_takes_1 23 rfl rfl)
theorem dX3_takes_48 : decode cX3_takes 48 = .ok (.bipush 7, 2) := dk_16 7 (dk_at dksX3_takes_2 0 rfl rfl)
theorem dX3_takes_50 : decode cX3_takes 50 = .ok (.if_icmp .ge 19, 3) := dk_162 0 19 (dk_at dksX3_takes_2 2 rfl rfl)
theorem dX3_takes_53 : decode cX3_takes 53 = .ok (.lload 4, 2) := dk_22 4 (dk_at dksX3_takes_2 5 rfl rfl)
theorem dX3_takes_55 : decode cX3_takes 55 = .ok (.bipush 8, 2) := dk_16 8 (dk_at dksX3_takes_2 7 rfl rfl)
theorem dX3_takes_57 : decode cX3_takes 57 = .ok (.lshl, 1) := dk_121 (dk_at dksX3_takes_2 9 rfl rfl)
theorem dX3_takes_58 : decode cX3_takes 58 = .ok (.aload_n 0, 1) := dk_42 (dk_at dksX3_takes_2 10 rfl rfl)
theorem dX3_takes_59 : decode cX3_takes 59 = .ok (.getfield 184, 3) := dk_180 0 184 (dk_at dksX3_takes_2 11 rfl rfl)
theorem dX3_takes_62 : decode cX3_takes 62 = .ok (.iload_n 3, 1) := dk_29 (dk_at dksX3_takes_2 14 rfl rfl)
theorem dX3_takes_63 : decode cX3_takes 63 = .ok (.baload, 1) := dk_51 (dk_at dksX3_takes_2 15 rfl rfl)
theorem dX3_takes_64 : decode cX3_takes 64 = .ok (.i2l, 1) := dk_133 (dk_at dksX3_takes_2 16 rfl rfl)
theorem dX3_takes_65 : decode cX3_takes 65 = .ok (.lor, 1) := dk_129 (dk_at dksX3_takes_2 17 rfl rfl)
theorem dX3_takes_66 : decode cX3_takes 66 = .ok (.goto 4, 3) := dk_167 0 4 (dk_at dksX3_takes_2 18 rfl rfl)
theorem dX3_takes_69 : decode cX3_takes 69 = .ok (.lconst 0, 1) := dk_9 (dk_at dksX3_takes_2 21 rfl rfl)
theorem dX3_takes_70 : decode cX3_takes 70 = .ok (.lstore 4, 2) := dk_55 4 (dk_at dksX3_takes_2 22 rfl rfl)
theorem dX3_takes_72 : decode cX3_takes 72 = .ok (.iinc 3 1, 3) := dk_132 3 1 (dk_at dksX3_takes_3 0 rfl rfl)
theorem dX3_takes_75 : decode cX3_takes 75 = .ok (.goto (-63), 3) := dk_167 255 193 (dk_at dksX3_takes_3 3 rfl rfl)
theorem dX3_takes_78 : decode cX3_takes 78 = .ok (.iload_n 3, 1) := dk_29 (dk_at dksX3_takes_3 6 rfl rfl)
theorem dX3_takes_79 : decode cX3_takes 79 = .ok (.aload_n 0, 1) := dk_42 (dk_at dksX3_takes_3 7 rfl rfl)
theorem dX3_takes_80 : decode cX3_takes 80 = .ok (.getfield 347, 3) := dk_180 1 91 (dk_at dksX3_takes_3 8 rfl rfl)
theorem dX3_takes_83 : decode cX3_takes 83 = .ok (.isub, 1) := dk_100 (dk_at dksX3_takes_3 11 rfl rfl)
theorem dX3_takes_84 : decode cX3_takes 84 = .ok (.bipush 7, 2) := dk_16 7 (dk_at dksX3_takes_3 12 rfl rfl)
theorem dX3_takes_86 : decode cX3_takes 86 = .ok (.if_icmp .gt 10, 3) := dk_163 0 10 (dk_at dksX3_takes_3 14 rfl rfl)
theorem dX3_takes_89 : decode cX3_takes 89 = .ok (.lload 4, 2) := dk_22 4 (dk_at dksX3_takes_3 17 rfl rfl)
theorem dX3_takes_91 : decode cX3_takes 91 = .ok (.lload_n 1, 1) := dk_31 (dk_at dksX3_takes_3 19 rfl rfl)
theorem dX3_takes_92 : decode cX3_takes 92 = .ok (.lcmp, 1) := dk_148 (dk_at dksX3_takes_3 20 rfl rfl)
theorem dX3_takes_93 : decode cX3_takes 93 = .ok (.ifCond .eq 5, 3) := dk_153 0 5 (dk_at dksX3_takes_3 21 rfl rfl)
theorem dX3_takes_96 : decode cX3_takes 96 = .ok (.iconst 0, 1) := dk_3 (dk_at dksX3_takes_4 0 rfl rfl)
theorem dX3_takes_97 : decode cX3_takes 97 = .ok (.ireturn, 1) := dk_172 (dk_at dksX3_takes_4 1 rfl rfl)
theorem dX3_takes_98 : decode cX3_takes 98 = .ok (.aload_n 0, 1) := dk_42 (dk_at dksX3_takes_4 2 rfl rfl)
theorem dX3_takes_99 : decode cX3_takes 99 = .ok (.iload_n 3, 1) := dk_29 (dk_at dksX3_takes_4 3 rfl rfl)
theorem dX3_takes_100 : decode cX3_takes 100 = .ok (.putfield 347, 3) := dk_181 1 91 (dk_at dksX3_takes_4 4 rfl rfl)
theorem dX3_takes_103 : decode cX3_takes 103 = .ok (.iconst 1, 1) := dk_4 (dk_at dksX3_takes_4 7 rfl rfl)
theorem dX3_takes_104 : decode cX3_takes 104 = .ok (.ireturn, 1) := dk_172 (dk_at dksX3_takes_4 8 rfl rfl)
def dkwX3_turnsIn_5 : List UInt8 := [79, 4, 172]
abbrev dktX3_turnsIn_5 : List UInt8 := dkwX3_turnsIn_5 ++ []
def dkwX3_turnsIn_4 : List UInt8 := [182, 1, 112, 153, 0, 10, 42, 182, 1, 106, 154, 0, 5, 3, 172, 42, 180, 0, 177, 27, 42, 180, 1, 100]
abbrev dktX3_turnsIn_4 : List UInt8 := dkwX3_turnsIn_4 ++ dktX3_turnsIn_5
def dkwX3_turnsIn_3 : List UInt8 := [182, 1, 103, 154, 0, 5, 3, 172, 42, 180, 0, 174, 27, 42, 180, 1, 100, 79, 42, 20, 1, 118]
abbrev dktX3_turnsIn_3 : List UInt8 := dkwX3_turnsIn_3 ++ dktX3_turnsIn_4
def dkwX3_turnsIn_2 : List UInt8 := [180, 0, 171, 27, 42, 180, 1, 100, 79, 42, 20, 1, 116, 182, 1, 112, 153, 0, 14, 42, 4, 17, 39, 15]
abbrev dktX3_turnsIn_2 : List UInt8 := dkwX3_turnsIn_2 ++ dktX3_turnsIn_3
def dkwX3_turnsIn_1 : List UInt8 := [180, 1, 100, 79, 42, 20, 1, 110, 182, 1, 112, 153, 0, 10, 42, 182, 1, 106, 154, 0, 5, 3, 172, 42]
abbrev dktX3_turnsIn_1 : List UInt8 := dkwX3_turnsIn_1 ++ dktX3_turnsIn_2
def dkwX3_turnsIn_0 : List UInt8 := [42, 180, 0, 165, 27, 16, 30, 79, 42, 182, 1, 106, 154, 0, 5, 3, 172, 42, 180, 0, 168, 27, 42]
abbrev dktX3_turnsIn_0 : List UInt8 := dkwX3_turnsIn_0 ++ dktX3_turnsIn_1
theorem dksX3_turnsIn_0 : cX3_turnsIn.data.toList.drop 0 = dktX3_turnsIn_0 := by decide +kernel
theorem dksX3_turnsIn_1 : cX3_turnsIn.data.toList.drop 23 = dktX3_turnsIn_1 := dk_seg dksX3_turnsIn_0 23 rfl rfl
theorem dksX3_turnsIn_2 : cX3_turnsIn.data.toList.drop 47 = dktX3_turnsIn_2 := dk_seg dksX3_turnsIn_1 24 rfl rfl
theorem dksX3_turnsIn_3 : cX3_turnsIn.data.toList.drop 71 = dktX3_turnsIn_3 := dk_seg dksX3_turnsIn_2 24 rfl rfl
theorem dksX3_turnsIn_4 : cX3_turnsIn.data.toList.drop 93 = dktX3_turnsIn_4 := dk_seg dksX3_turnsIn_3 22 rfl rfl
theorem dksX3_turnsIn_5 : cX3_turnsIn.data.toList.drop 117 = dktX3_turnsIn_5 := dk_seg dksX3_turnsIn_4 24 rfl rfl
theorem dX3_turnsIn_0 : decode cX3_turnsIn 0 = .ok (.aload_n 0, 1) := dk_42 (dk_at dksX3_turnsIn_0 0 rfl rfl)
theorem dX3_turnsIn_1 : decode cX3_turnsIn 1 = .ok (.getfield 165, 3) := dk_180 0 165 (dk_at dksX3_turnsIn_0 1 rfl rfl)
theorem dX3_turnsIn_4 : decode cX3_turnsIn 4 = .ok (.iload_n 1, 1) := dk_27 (dk_at dksX3_turnsIn_0 4 rfl rfl)
theorem dX3_turnsIn_5 : decode cX3_turnsIn 5 = .ok (.bipush 30, 2) := dk_16 30 (dk_at dksX3_turnsIn_0 5 rfl rfl)
theorem dX3_turnsIn_7 : decode cX3_turnsIn 7 = .ok (.iastore, 1) := dk_79 (dk_at dksX3_turnsIn_0 7 rfl rfl)
theorem dX3_turnsIn_8 : decode cX3_turnsIn 8 = .ok (.aload_n 0, 1) := dk_42 (dk_at dksX3_turnsIn_0 8 rfl rfl)
theorem dX3_turnsIn_9 : decode cX3_turnsIn 9 = .ok (.invokevirtual 362, 3) := dk_182 1 106 (dk_at dksX3_turnsIn_0 9 rfl rfl)
theorem dX3_turnsIn_12 : decode cX3_turnsIn 12 = .ok (.ifCond .ne 5, 3) := dk_154 0 5 (dk_at dksX3_turnsIn_0 12 rfl rfl)
theorem dX3_turnsIn_15 : decode cX3_turnsIn 15 = .ok (.iconst 0, 1) := dk_3 (dk_at dksX3_turnsIn_0 15 rfl rfl)
theorem dX3_turnsIn_16 : decode cX3_turnsIn 16 = .ok (.ireturn, 1) := dk_172 (dk_at dksX3_turnsIn_0 16 rfl rfl)
theorem dX3_turnsIn_17 : decode cX3_turnsIn 17 = .ok (.aload_n 0, 1) := dk_42 (dk_at dksX3_turnsIn_0 17 rfl rfl)
theorem dX3_turnsIn_18 : decode cX3_turnsIn 18 = .ok (.getfield 168, 3) := dk_180 0 168 (dk_at dksX3_turnsIn_0 18 rfl rfl)
theorem dX3_turnsIn_21 : decode cX3_turnsIn 21 = .ok (.iload_n 1, 1) := dk_27 (dk_at dksX3_turnsIn_0 21 rfl rfl)
theorem dX3_turnsIn_22 : decode cX3_turnsIn 22 = .ok (.aload_n 0, 1) := dk_42 (dk_at dksX3_turnsIn_0 22 rfl rfl)
theorem dX3_turnsIn_23 : decode cX3_turnsIn 23 = .ok (.getfield 356, 3) := dk_180 1 100 (dk_at dksX3_turnsIn_1 0 rfl rfl)
theorem dX3_turnsIn_26 : decode cX3_turnsIn 26 = .ok (.iastore, 1) := dk_79 (dk_at dksX3_turnsIn_1 3 rfl rfl)
theorem dX3_turnsIn_27 : decode cX3_turnsIn 27 = .ok (.aload_n 0, 1) := dk_42 (dk_at dksX3_turnsIn_1 4 rfl rfl)
theorem dX3_turnsIn_28 : decode cX3_turnsIn 28 = .ok (.ldc2_w 366, 3) := dk_20 1 110 (dk_at dksX3_turnsIn_1 5 rfl rfl)
theorem dX3_turnsIn_31 : decode cX3_turnsIn 31 = .ok (.invokevirtual 368, 3) := dk_182 1 112 (dk_at dksX3_turnsIn_1 8 rfl rfl)
theorem dX3_turnsIn_34 : decode cX3_turnsIn 34 = .ok (.ifCond .eq 10, 3) := dk_153 0 10 (dk_at dksX3_turnsIn_1 11 rfl rfl)
theorem dX3_turnsIn_37 : decode cX3_turnsIn 37 = .ok (.aload_n 0, 1) := dk_42 (dk_at dksX3_turnsIn_1 14 rfl rfl)
theorem dX3_turnsIn_38 : decode cX3_turnsIn 38 = .ok (.invokevirtual 362, 3) := dk_182 1 106 (dk_at dksX3_turnsIn_1 15 rfl rfl)
theorem dX3_turnsIn_41 : decode cX3_turnsIn 41 = .ok (.ifCond .ne 5, 3) := dk_154 0 5 (dk_at dksX3_turnsIn_1 18 rfl rfl)
theorem dX3_turnsIn_44 : decode cX3_turnsIn 44 = .ok (.iconst 0, 1) := dk_3 (dk_at dksX3_turnsIn_1 21 rfl rfl)
theorem dX3_turnsIn_45 : decode cX3_turnsIn 45 = .ok (.ireturn, 1) := dk_172 (dk_at dksX3_turnsIn_1 22 rfl rfl)
theorem dX3_turnsIn_46 : decode cX3_turnsIn 46 = .ok (.aload_n 0, 1) := dk_42 (dk_at dksX3_turnsIn_1 23 rfl rfl)
theorem dX3_turnsIn_47 : decode cX3_turnsIn 47 = .ok (.getfield 171, 3) := dk_180 0 171 (dk_at dksX3_turnsIn_2 0 rfl rfl)
theorem dX3_turnsIn_50 : decode cX3_turnsIn 50 = .ok (.iload_n 1, 1) := dk_27 (dk_at dksX3_turnsIn_2 3 rfl rfl)
theorem dX3_turnsIn_51 : decode cX3_turnsIn 51 = .ok (.aload_n 0, 1) := dk_42 (dk_at dksX3_turnsIn_2 4 rfl rfl)
theorem dX3_turnsIn_52 : decode cX3_turnsIn 52 = .ok (.getfield 356, 3) := dk_180 1 100 (dk_at dksX3_turnsIn_2 5 rfl rfl)
theorem dX3_turnsIn_55 : decode cX3_turnsIn 55 = .ok (.iastore, 1) := dk_79 (dk_at dksX3_turnsIn_2 8 rfl rfl)
theorem dX3_turnsIn_56 : decode cX3_turnsIn 56 = .ok (.aload_n 0, 1) := dk_42 (dk_at dksX3_turnsIn_2 9 rfl rfl)
theorem dX3_turnsIn_57 : decode cX3_turnsIn 57 = .ok (.ldc2_w 372, 3) := dk_20 1 116 (dk_at dksX3_turnsIn_2 10 rfl rfl)
theorem dX3_turnsIn_60 : decode cX3_turnsIn 60 = .ok (.invokevirtual 368, 3) := dk_182 1 112 (dk_at dksX3_turnsIn_2 13 rfl rfl)
theorem dX3_turnsIn_63 : decode cX3_turnsIn 63 = .ok (.ifCond .eq 14, 3) := dk_153 0 14 (dk_at dksX3_turnsIn_2 16 rfl rfl)
theorem dX3_turnsIn_66 : decode cX3_turnsIn 66 = .ok (.aload_n 0, 1) := dk_42 (dk_at dksX3_turnsIn_2 19 rfl rfl)
theorem dX3_turnsIn_67 : decode cX3_turnsIn 67 = .ok (.iconst 1, 1) := dk_4 (dk_at dksX3_turnsIn_2 20 rfl rfl)
theorem dX3_turnsIn_68 : decode cX3_turnsIn 68 = .ok (.sipush 9999, 3) := dk_17 39 15 (dk_at dksX3_turnsIn_2 21 rfl rfl)
theorem dX3_turnsIn_71 : decode cX3_turnsIn 71 = .ok (.invokevirtual 359, 3) := dk_182 1 103 (dk_at dksX3_turnsIn_3 0 rfl rfl)
theorem dX3_turnsIn_74 : decode cX3_turnsIn 74 = .ok (.ifCond .ne 5, 3) := dk_154 0 5 (dk_at dksX3_turnsIn_3 3 rfl rfl)
theorem dX3_turnsIn_77 : decode cX3_turnsIn 77 = .ok (.iconst 0, 1) := dk_3 (dk_at dksX3_turnsIn_3 6 rfl rfl)
theorem dX3_turnsIn_78 : decode cX3_turnsIn 78 = .ok (.ireturn, 1) := dk_172 (dk_at dksX3_turnsIn_3 7 rfl rfl)
theorem dX3_turnsIn_79 : decode cX3_turnsIn 79 = .ok (.aload_n 0, 1) := dk_42 (dk_at dksX3_turnsIn_3 8 rfl rfl)
theorem dX3_turnsIn_80 : decode cX3_turnsIn 80 = .ok (.getfield 174, 3) := dk_180 0 174 (dk_at dksX3_turnsIn_3 9 rfl rfl)
theorem dX3_turnsIn_83 : decode cX3_turnsIn 83 = .ok (.iload_n 1, 1) := dk_27 (dk_at dksX3_turnsIn_3 12 rfl rfl)
theorem dX3_turnsIn_84 : decode cX3_turnsIn 84 = .ok (.aload_n 0, 1) := dk_42 (dk_at dksX3_turnsIn_3 13 rfl rfl)
theorem dX3_turnsIn_85 : decode cX3_turnsIn 85 = .ok (.getfield 356, 3) := dk_180 1 100 (dk_at dksX3_turnsIn_3 14 rfl rfl)
theorem dX3_turnsIn_88 : decode cX3_turnsIn 88 = .ok (.iastore, 1) := dk_79 (dk_at dksX3_turnsIn_3 17 rfl rfl)
theorem dX3_turnsIn_89 : decode cX3_turnsIn 89 = .ok (.aload_n 0, 1) := dk_42 (dk_at dksX3_turnsIn_3 18 rfl rfl)
theorem dX3_turnsIn_90 : decode cX3_turnsIn 90 = .ok (.ldc2_w 374, 3) := dk_20 1 118 (dk_at dksX3_turnsIn_3 19 rfl rfl)
theorem dX3_turnsIn_93 : decode cX3_turnsIn 93 = .ok (.invokevirtual 368, 3) := dk_182 1 112 (dk_at dksX3_turnsIn_4 0 rfl rfl)
theorem dX3_turnsIn_96 : decode cX3_turnsIn 96 = .ok (.ifCond .eq 10, 3) := dk_153 0 10 (dk_at dksX3_turnsIn_4 3 rfl rfl)
theorem dX3_turnsIn_99 : decode cX3_turnsIn 99 = .ok (.aload_n 0, 1) := dk_42 (dk_at dksX3_turnsIn_4 6 rfl rfl)
theorem dX3_turnsIn_100 : decode cX3_turnsIn 100 = .ok (.invokevirtual 362, 3) := dk_182 1 106 (dk_at dksX3_turnsIn_4 7 rfl rfl)
theorem dX3_turnsIn_103 : decode cX3_turnsIn 103 = .ok (.ifCond .ne 5, 3) := dk_154 0 5 (dk_at dksX3_turnsIn_4 10 rfl rfl)
theorem dX3_turnsIn_106 : decode cX3_turnsIn 106 = .ok (.iconst 0, 1) := dk_3 (dk_at dksX3_turnsIn_4 13 rfl rfl)
theorem dX3_turnsIn_107 : decode cX3_turnsIn 107 = .ok (.ireturn, 1) := dk_172 (dk_at dksX3_turnsIn_4 14 rfl rfl)
theorem dX3_turnsIn_108 : decode cX3_turnsIn 108 = .ok (.aload_n 0, 1) := dk_42 (dk_at dksX3_turnsIn_4 15 rfl rfl)
theorem dX3_turnsIn_109 : decode cX3_turnsIn 109 = .ok (.getfield 177, 3) := dk_180 0 177 (dk_at dksX3_turnsIn_4 16 rfl rfl)
theorem dX3_turnsIn_112 : decode cX3_turnsIn 112 = .ok (.iload_n 1, 1) := dk_27 (dk_at dksX3_turnsIn_4 19 rfl rfl)
theorem dX3_turnsIn_113 : decode cX3_turnsIn 113 = .ok (.aload_n 0, 1) := dk_42 (dk_at dksX3_turnsIn_4 20 rfl rfl)
theorem dX3_turnsIn_114 : decode cX3_turnsIn 114 = .ok (.getfield 356, 3) := dk_180 1 100 (dk_at dksX3_turnsIn_4 21 rfl rfl)
theorem dX3_turnsIn_117 : decode cX3_turnsIn 117 = .ok (.iastore, 1) := dk_79 (dk_at dksX3_turnsIn_5 0 rfl rfl)
theorem dX3_turnsIn_118 : decode cX3_turnsIn 118 = .ok (.iconst 1, 1) := dk_4 (dk_at dksX3_turnsIn_5 1 rfl rfl)
theorem dX3_turnsIn_119 : decode cX3_turnsIn 119 = .ok (.ireturn, 1) := dk_172 (dk_at dksX3_turnsIn_5 2 rfl rfl)
def dkwX3_takesPlain_0 : List UInt8 := [42, 3, 17, 39, 15, 182, 1, 103, 172]
abbrev dktX3_takesPlain_0 : List UInt8 := dkwX3_takesPlain_0 ++ []
theorem dksX3_takesPlain_0 : cX3_takesPlain.data.toList.drop 0 = dktX3_takesPlain_0 := by decide +kernel
theorem dX3_takesPlain_0 : decode cX3_takesPlain 0 = .ok (.aload_n 0, 1) := dk_42 (dk_at dksX3_takesPlain_0 0 rfl rfl)
theorem dX3_takesPlain_1 : decode cX3_takesPlain 1 = .ok (.iconst 0, 1) := dk_3 (dk_at dksX3_takesPlain_0 1 rfl rfl)
theorem dX3_takesPlain_2 : decode cX3_takesPlain 2 = .ok (.sipush 9999, 3) := dk_17 39 15 (dk_at dksX3_takesPlain_0 2 rfl rfl)
theorem dX3_takesPlain_5 : decode cX3_takesPlain 5 = .ok (.invokevirtual 359, 3) := dk_182 1 103 (dk_at dksX3_takesPlain_0 5 rfl rfl)
theorem dX3_takesPlain_8 : decode cX3_takesPlain 8 = .ok (.ireturn, 1) := dk_172 (dk_at dksX3_takesPlain_0 8 rfl rfl)
def dkwX3_takesNumber_5 : List UInt8 := [181, 1, 91, 4, 172]
abbrev dktX3_takesNumber_5 : List UInt8 := dkwX3_takesNumber_5 ++ []
def dkwX3_takesNumber_4 : List UInt8 := [180, 1, 91, 100, 7, 163, 0, 15, 42, 180, 1, 100, 27, 28, 184, 0, 194, 154, 0, 5, 3, 172, 42, 29]
abbrev dktX3_takesNumber_4 : List UInt8 := dkwX3_takesNumber_4 ++ dktX3_takesNumber_5
def dkwX3_takesNumber_3 : List UInt8 := [16, 48, 100, 181, 1, 100, 132, 3, 1, 167, 255, 192, 29, 42, 180, 1, 91, 159, 0, 25, 29, 42]
abbrev dktX3_takesNumber_3 : List UInt8 := dkwX3_takesNumber_3 ++ dktX3_takesNumber_4
def dkwX3_takesNumber_2 : List UInt8 := [180, 1, 91, 100, 7, 162, 0, 24, 42, 16, 10, 42, 180, 1, 100, 104, 42, 180, 0, 184, 29, 51, 96]
abbrev dktX3_takesNumber_2 : List UInt8 := dkwX3_takesNumber_2 ++ dktX3_takesNumber_3
def dkwX3_takesNumber_1 : List UInt8 := [180, 0, 184, 29, 51, 16, 48, 161, 0, 51, 42, 180, 0, 184, 29, 51, 16, 57, 163, 0, 40, 29, 42]
abbrev dktX3_takesNumber_1 : List UInt8 := dkwX3_takesNumber_1 ++ dktX3_takesNumber_2
def dkwX3_takesNumber_0 : List UInt8 := [42, 182, 1, 97, 42, 180, 1, 91, 62, 42, 3, 181, 1, 100, 29, 42, 180, 1, 94, 162, 0, 62, 42]
abbrev dktX3_takesNumber_0 : List UInt8 := dkwX3_takesNumber_0 ++ dktX3_takesNumber_1
theorem dksX3_takesNumber_0 : cX3_takesNumber.data.toList.drop 0 = dktX3_takesNumber_0 := by decide +kernel
theorem dksX3_takesNumber_1 : cX3_takesNumber.data.toList.drop 23 = dktX3_takesNumber_1 := dk_seg dksX3_takesNumber_0 23 rfl rfl
theorem dksX3_takesNumber_2 : cX3_takesNumber.data.toList.drop 46 = dktX3_takesNumber_2 := dk_seg dksX3_takesNumber_1 23 rfl rfl
theorem dksX3_takesNumber_3 : cX3_takesNumber.data.toList.drop 69 = dktX3_takesNumber_3 := dk_seg dksX3_takesNumber_2 23 rfl rfl
theorem dksX3_takesNumber_4 : cX3_takesNumber.data.toList.drop 91 = dktX3_takesNumber_4 := dk_seg dksX3_takesNumber_3 22 rfl rfl
theorem dksX3_takesNumber_5 : cX3_takesNumber.data.toList.drop 115 = dktX3_takesNumber_5 := dk_seg dksX3_takesNumber_4 24 rfl rfl
theorem dX3_takesNumber_0 : decode cX3_takesNumber 0 = .ok (.aload_n 0, 1) := dk_42 (dk_at dksX3_takesNumber_0 0 rfl rfl)
theorem dX3_takesNumber_1 : decode cX3_takesNumber 1 = .ok (.invokevirtual 353, 3) := dk_182 1 97 (dk_at dksX3_takesNumber_0 1 rfl rfl)
theorem dX3_takesNumber_4 : decode cX3_takesNumber 4 = .ok (.aload_n 0, 1) := dk_42 (dk_at dksX3_takesNumber_0 4 rfl rfl)
theorem dX3_takesNumber_5 : decode cX3_takesNumber 5 = .ok (.getfield 347, 3) := dk_180 1 91 (dk_at dksX3_takesNumber_0 5 rfl rfl)
theorem dX3_takesNumber_8 : decode cX3_takesNumber 8 = .ok (.istore_n 3, 1) := dk_62 (dk_at dksX3_takesNumber_0 8 rfl rfl)
theorem dX3_takesNumber_9 : decode cX3_takesNumber 9 = .ok (.aload_n 0, 1) := dk_42 (dk_at dksX3_takesNumber_0 9 rfl rfl)
theorem dX3_takesNumber_10 : decode cX3_takesNumber 10 = .ok (.iconst 0, 1) := dk_3 (dk_at dksX3_takesNumber_0 10 rfl rfl)
theorem dX3_takesNumber_11 : decode cX3_takesNumber 11 = .ok (.putfield 356, 3) := dk_181 1 100 (dk_at dksX3_takesNumber_0 11 rfl rfl)
theorem dX3_takesNumber_14 : decode cX3_takesNumber 14 = .ok (.iload_n 3, 1) := dk_29 (dk_at dksX3_takesNumber_0 14 rfl rfl)
theorem dX3_takesNumber_15 : decode cX3_takesNumber 15 = .ok (.aload_n 0, 1) := dk_42 (dk_at dksX3_takesNumber_0 15 rfl rfl)
theorem dX3_takesNumber_16 : decode cX3_takesNumber 16 = .ok (.getfield 350, 3) := dk_180 1 94 (dk_at dksX3_takesNumber_0 16 rfl rfl)
theorem dX3_takesNumber_19 : decode cX3_takesNumber 19 = .ok (.if_icmp .ge 62, 3) := dk_162 0 62 (dk_at dksX3_takesNumber_0 19 rfl rfl)
theorem dX3_takesNumber_22 : decode cX3_takesNumber 22 = .ok (.aload_n 0, 1) := dk_42 (dk_at dksX3_takesNumber_0 22 rfl rfl)
theorem dX3_takesNumber_23 : decode cX3_takesNumber 23 = .ok (.getfield 184, 3) := dk_180 0 184 (dk_at dksX3_takesNumber_1 0 rfl rfl)
theorem dX3_takesNumber_26 : decode cX3_takesNumber 26 = .ok (.iload_n 3, 1) := dk_29 (dk_at dksX3_takesNumber_1 3 rfl rfl)
theorem dX3_takesNumber_27 : decode cX3_takesNumber 27 = .ok (.baload, 1) := dk_51 (dk_at dksX3_takesNumber_1 4 rfl rfl)
theorem dX3_takesNumber_28 : decode cX3_takesNumber 28 = .ok (.bipush 48, 2) := dk_16 48 (dk_at dksX3_takesNumber_1 5 rfl rfl)
theorem dX3_takesNumber_30 : decode cX3_takesNumber 30 = .ok (.if_icmp .lt 51, 3) := dk_161 0 51 (dk_at dksX3_takesNumber_1 7 rfl rfl)
theorem dX3_takesNumber_33 : decode cX3_takesNumber 33 = .ok (.aload_n 0, 1) := dk_42 (dk_at dksX3_takesNumber_1 10 rfl rfl)
theorem dX3_takesNumber_34 : decode cX3_takesNumber 34 = .ok (.getfield 184, 3) := dk_180 0 184 (dk_at dksX3_takesNumber_1 11 rfl rfl)
theorem dX3_takesNumber_37 : decode cX3_takesNumber 37 = .ok (.iload_n 3, 1) := dk_29 (dk_at dksX3_takesNumber_1 14 rfl rfl)
theorem dX3_takesNumber_38 : decode cX3_takesNumber 38 = .ok (.baload, 1) := dk_51 (dk_at dksX3_takesNumber_1 15 rfl rfl)
theorem dX3_takesNumber_39 : decode cX3_takesNumber 39 = .ok (.bipush 57, 2) := dk_16 57 (dk_at dksX3_takesNumber_1 16 rfl rfl)
theorem dX3_takesNumber_41 : decode cX3_takesNumber 41 = .ok (.if_icmp .gt 40, 3) := dk_163 0 40 (dk_at dksX3_takesNumber_1 18 rfl rfl)
theorem dX3_takesNumber_44 : decode cX3_takesNumber 44 = .ok (.iload_n 3, 1) := dk_29 (dk_at dksX3_takesNumber_1 21 rfl rfl)
theorem dX3_takesNumber_45 : decode cX3_takesNumber 45 = .ok (.aload_n 0, 1) := dk_42 (dk_at dksX3_takesNumber_1 22 rfl rfl)
theorem dX3_takesNumber_46 : decode cX3_takesNumber 46 = .ok (.getfield 347, 3) := dk_180 1 91 (dk_at dksX3_takesNumber_2 0 rfl rfl)
theorem dX3_takesNumber_49 : decode cX3_takesNumber 49 = .ok (.isub, 1) := dk_100 (dk_at dksX3_takesNumber_2 3 rfl rfl)
theorem dX3_takesNumber_50 : decode cX3_takesNumber 50 = .ok (.iconst 4, 1) := dk_7 (dk_at dksX3_takesNumber_2 4 rfl rfl)
theorem dX3_takesNumber_51 : decode cX3_takesNumber 51 = .ok (.if_icmp .ge 24, 3) := dk_162 0 24 (dk_at dksX3_takesNumber_2 5 rfl rfl)
theorem dX3_takesNumber_54 : decode cX3_takesNumber 54 = .ok (.aload_n 0, 1) := dk_42 (dk_at dksX3_takesNumber_2 8 rfl rfl)
theorem dX3_takesNumber_55 : decode cX3_takesNumber 55 = .ok (.bipush 10, 2) := dk_16 10 (dk_at dksX3_takesNumber_2 9 rfl rfl)
theorem dX3_takesNumber_57 : decode cX3_takesNumber 57 = .ok (.aload_n 0, 1) := dk_42 (dk_at dksX3_takesNumber_2 11 rfl rfl)
theorem dX3_takesNumber_58 : decode cX3_takesNumber 58 = .ok (.getfield 356, 3) := dk_180 1 100 (dk_at dksX3_takesNumber_2 12 rfl rfl)
theorem dX3_takesNumber_61 : decode cX3_takesNumber 61 = .ok (.imul, 1) := dk_104 (dk_at dksX3_takesNumber_2 15 rfl rfl)
theorem dX3_takesNumber_62 : decode cX3_takesNumber 62 = .ok (.aload_n 0, 1) := dk_42 (dk_at dksX3_takesNumber_2 16 rfl rfl)
theorem dX3_takesNumber_63 : decode cX3_takesNumber 63 = .ok (.getfield 184, 3) := dk_180 0 184 (dk_at dksX3_takesNumber_2 17 rfl rfl)
theorem dX3_takesNumber_66 : decode cX3_takesNumber 66 = .ok (.iload_n 3, 1) := dk_29 (dk_at dksX3_takesNumber_2 20 rfl rfl)
theorem dX3_takesNumber_67 : decode cX3_takesNumber 67 = .ok (.baload, 1) := dk_51 (dk_at dksX3_takesNumber_2 21 rfl rfl)
theorem dX3_takesNumber_68 : decode cX3_takesNumber 68 = .ok (.iadd, 1) := dk_96 (dk_at dksX3_takesNumber_2 22 rfl rfl)
theorem dX3_takesNumber_69 : decode cX3_takesNumber 69 = .ok (.bipush 48, 2) := dk_16 48 (dk_at dksX3_takesNumber_3 0 rfl rfl)
theorem dX3_takesNumber_71 : decode cX3_takesNumber 71 = .ok (.isub, 1) := dk_100 (dk_at dksX3_takesNumber_3 2 rfl rfl)
theorem dX3_takesNumber_72 : decode cX3_takesNumber 72 = .ok (.putfield 356, 3) := dk_181 1 100 (dk_at dksX3_takesNumber_3 3 rfl rfl)
theorem dX3_takesNumber_75 : decode cX3_takesNumber 75 = .ok (.iinc 3 1, 3) := dk_132 3 1 (dk_at dksX3_takesNumber_3 6 rfl rfl)
theorem dX3_takesNumber_78 : decode cX3_takesNumber 78 = .ok (.goto (-64), 3) := dk_167 255 192 (dk_at dksX3_takesNumber_3 9 rfl rfl)
theorem dX3_takesNumber_81 : decode cX3_takesNumber 81 = .ok (.iload_n 3, 1) := dk_29 (dk_at dksX3_takesNumber_3 12 rfl rfl)
theorem dX3_takesNumber_82 : decode cX3_takesNumber 82 = .ok (.aload_n 0, 1) := dk_42 (dk_at dksX3_takesNumber_3 13 rfl rfl)
theorem dX3_takesNumber_83 : decode cX3_takesNumber 83 = .ok (.getfield 347, 3) := dk_180 1 91 (dk_at dksX3_takesNumber_3 14 rfl rfl)
theorem dX3_takesNumber_86 : decode cX3_takesNumber 86 = .ok (.if_icmp .eq 25, 3) := dk_159 0 25 (dk_at dksX3_takesNumber_3 17 rfl rfl)
theorem dX3_takesNumber_89 : decode cX3_takesNumber 89 = .ok (.iload_n 3, 1) := dk_29 (dk_at dksX3_takesNumber_3 20 rfl rfl)
theorem dX3_takesNumber_90 : decode cX3_takesNumber 90 = .ok (.aload_n 0, 1) := dk_42 (dk_at dksX3_takesNumber_3 21 rfl rfl)
theorem dX3_takesNumber_91 : decode cX3_takesNumber 91 = .ok (.getfield 347, 3) := dk_180 1 91 (dk_at dksX3_takesNumber_4 0 rfl rfl)
theorem dX3_takesNumber_94 : decode cX3_takesNumber 94 = .ok (.isub, 1) := dk_100 (dk_at dksX3_takesNumber_4 3 rfl rfl)
theorem dX3_takesNumber_95 : decode cX3_takesNumber 95 = .ok (.iconst 4, 1) := dk_7 (dk_at dksX3_takesNumber_4 4 rfl rfl)
theorem dX3_takesNumber_96 : decode cX3_takesNumber 96 = .ok (.if_icmp .gt 15, 3) := dk_163 0 15 (dk_at dksX3_takesNumber_4 5 rfl rfl)
theorem dX3_takesNumber_99 : decode cX3_takesNumber 99 = .ok (.aload_n 0, 1) := dk_42 (dk_at dksX3_takesNumber_4 8 rfl rfl)
theorem dX3_takesNumber_100 : decode cX3_takesNumber 100 = .ok (.getfield 356, 3) := dk_180 1 100 (dk_at dksX3_takesNumber_4 9 rfl rfl)
theorem dX3_takesNumber_103 : decode cX3_takesNumber 103 = .ok (.iload_n 1, 1) := dk_27 (dk_at dksX3_takesNumber_4 12 rfl rfl)
theorem dX3_takesNumber_104 : decode cX3_takesNumber 104 = .ok (.iload_n 2, 1) := dk_28 (dk_at dksX3_takesNumber_4 13 rfl rfl)
theorem dX3_takesNumber_105 : decode cX3_takesNumber 105 = .ok (.invokestatic 194, 3) := dk_184 0 194 (dk_at dksX3_takesNumber_4 14 rfl rfl)
theorem dX3_takesNumber_108 : decode cX3_takesNumber 108 = .ok (.ifCond .ne 5, 3) := dk_154 0 5 (dk_at dksX3_takesNumber_4 17 rfl rfl)
theorem dX3_takesNumber_111 : decode cX3_takesNumber 111 = .ok (.iconst 0, 1) := dk_3 (dk_at dksX3_takesNumber_4 20 rfl rfl)
theorem dX3_takesNumber_112 : decode cX3_takesNumber 112 = .ok (.ireturn, 1) := dk_172 (dk_at dksX3_takesNumber_4 21 rfl rfl)
theorem dX3_takesNumber_113 : decode cX3_takesNumber 113 = .ok (.aload_n 0, 1) := dk_42 (dk_at dksX3_takesNumber_4 22 rfl rfl)
theorem dX3_takesNumber_114 : decode cX3_takesNumber 114 = .ok (.iload_n 3, 1) := dk_29 (dk_at dksX3_takesNumber_4 23 rfl rfl)
theorem dX3_takesNumber_115 : decode cX3_takesNumber 115 = .ok (.putfield 347, 3) := dk_181 1 91 (dk_at dksX3_takesNumber_5 0 rfl rfl)
theorem dX3_takesNumber_118 : decode cX3_takesNumber 118 = .ok (.iconst 1, 1) := dk_4 (dk_at dksX3_takesNumber_5 3 rfl rfl)
theorem dX3_takesNumber_119 : decode cX3_takesNumber 119 = .ok (.ireturn, 1) := dk_172 (dk_at dksX3_takesNumber_5 4 rfl rfl)
def dkwX3_grades_3 : List UInt8 := [154, 0, 5, 3, 172, 42, 180, 0, 174, 27, 42, 180, 1, 100, 79, 4, 172]
abbrev dktX3_grades_3 : List UInt8 := dkwX3_grades_3 ++ []
def dkwX3_grades_2 : List UInt8 := [42, 180, 0, 171, 27, 42, 180, 1, 100, 79, 42, 20, 1, 120, 182, 1, 112, 153, 0, 10, 42, 182, 1, 106]
abbrev dktX3_grades_2 : List UInt8 := dkwX3_grades_2 ++ dktX3_grades_3
def dkwX3_grades_1 : List UInt8 := [42, 180, 1, 100, 79, 42, 20, 1, 118, 182, 1, 112, 153, 0, 10, 42, 182, 1, 106, 154, 0, 5, 3, 172]
abbrev dktX3_grades_1 : List UInt8 := dkwX3_grades_1 ++ dktX3_grades_2
def dkwX3_grades_0 : List UInt8 := [42, 180, 0, 165, 27, 16, 31, 79, 42, 3, 6, 182, 1, 103, 154, 0, 5, 3, 172, 42, 180, 0, 168, 27]
abbrev dktX3_grades_0 : List UInt8 := dkwX3_grades_0 ++ dktX3_grades_1
theorem dksX3_grades_0 : cX3_grades.data.toList.drop 0 = dktX3_grades_0 := by decide +kernel
theorem dksX3_grades_1 : cX3_grades.data.toList.drop 24 = dktX3_grades_1 := dk_seg dksX3_grades_0 24 rfl rfl
theorem dksX3_grades_2 : cX3_grades.data.toList.drop 48 = dktX3_grades_2 := dk_seg dksX3_grades_1 24 rfl rfl
theorem dksX3_grades_3 : cX3_grades.data.toList.drop 72 = dktX3_grades_3 := dk_seg dksX3_grades_2 24 rfl rfl
theorem dX3_grades_0 : decode cX3_grades 0 = .ok (.aload_n 0, 1) := dk_42 (dk_at dksX3_grades_0 0 rfl rfl)
theorem dX3_grades_1 : decode cX3_grades 1 = .ok (.getfield 165, 3) := dk_180 0 165 (dk_at dksX3_grades_0 1 rfl rfl)
theorem dX3_grades_4 : decode cX3_grades 4 = .ok (.iload_n 1, 1) := dk_27 (dk_at dksX3_grades_0 4 rfl rfl)
theorem dX3_grades_5 : decode cX3_grades 5 = .ok (.bipush 31, 2) := dk_16 31 (dk_at dksX3_grades_0 5 rfl rfl)
theorem dX3_grades_7 : decode cX3_grades 7 = .ok (.iastore, 1) := dk_79 (dk_at dksX3_grades_0 7 rfl rfl)
theorem dX3_grades_8 : decode cX3_grades 8 = .ok (.aload_n 0, 1) := dk_42 (dk_at dksX3_grades_0 8 rfl rfl)
theorem dX3_grades_9 : decode cX3_grades 9 = .ok (.iconst 0, 1) := dk_3 (dk_at dksX3_grades_0 9 rfl rfl)
theorem dX3_grades_10 : decode cX3_grades 10 = .ok (.iconst 3, 1) := dk_6 (dk_at dksX3_grades_0 10 rfl rfl)
theorem dX3_grades_11 : decode cX3_grades 11 = .ok (.invokevirtual 359, 3) := dk_182 1 103 (dk_at dksX3_grades_0 11 rfl rfl)
theorem dX3_grades_14 : decode cX3_grades 14 = .ok (.ifCond .ne 5, 3) := dk_154 0 5 (dk_at dksX3_grades_0 14 rfl rfl)
theorem dX3_grades_17 : decode cX3_grades 17 = .ok (.iconst 0, 1) := dk_3 (dk_at dksX3_grades_0 17 rfl rfl)
theorem dX3_grades_18 : decode cX3_grades 18 = .ok (.ireturn, 1) := dk_172 (dk_at dksX3_grades_0 18 rfl rfl)
theorem dX3_grades_19 : decode cX3_grades 19 = .ok (.aload_n 0, 1) := dk_42 (dk_at dksX3_grades_0 19 rfl rfl)
theorem dX3_grades_20 : decode cX3_grades 20 = .ok (.getfield 168, 3) := dk_180 0 168 (dk_at dksX3_grades_0 20 rfl rfl)
theorem dX3_grades_23 : decode cX3_grades 23 = .ok (.iload_n 1, 1) := dk_27 (dk_at dksX3_grades_0 23 rfl rfl)
theorem dX3_grades_24 : decode cX3_grades 24 = .ok (.aload_n 0, 1) := dk_42 (dk_at dksX3_grades_1 0 rfl rfl)
theorem dX3_grades_25 : decode cX3_grades 25 = .ok (.getfield 356, 3) := dk_180 1 100 (dk_at dksX3_grades_1 1 rfl rfl)
theorem dX3_grades_28 : decode cX3_grades 28 = .ok (.iastore, 1) := dk_79 (dk_at dksX3_grades_1 4 rfl rfl)
theorem dX3_grades_29 : decode cX3_grades 29 = .ok (.aload_n 0, 1) := dk_42 (dk_at dksX3_grades_1 5 rfl rfl)
theorem dX3_grades_30 : decode cX3_grades 30 = .ok (.ldc2_w 374, 3) := dk_20 1 118 (dk_at dksX3_grades_1 6 rfl rfl)
theorem dX3_grades_33 : decode cX3_grades 33 = .ok (.invokevirtual 368, 3) := dk_182 1 112 (dk_at dksX3_grades_1 9 rfl rfl)
theorem dX3_grades_36 : decode cX3_grades 36 = .ok (.ifCond .eq 10, 3) := dk_153 0 10 (dk_at dksX3_grades_1 12 rfl rfl)
theorem dX3_grades_39 : decode cX3_grades 39 = .ok (.aload_n 0, 1) := dk_42 (dk_at dksX3_grades_1 15 rfl rfl)
theorem dX3_grades_40 : decode cX3_grades 40 = .ok (.invokevirtual 362, 3) := dk_182 1 106 (dk_at dksX3_grades_1 16 rfl rfl)
theorem dX3_grades_43 : decode cX3_grades 43 = .ok (.ifCond .ne 5, 3) := dk_154 0 5 (dk_at dksX3_grades_1 19 rfl rfl)
theorem dX3_grades_46 : decode cX3_grades 46 = .ok (.iconst 0, 1) := dk_3 (dk_at dksX3_grades_1 22 rfl rfl)
theorem dX3_grades_47 : decode cX3_grades 47 = .ok (.ireturn, 1) := dk_172 (dk_at dksX3_grades_1 23 rfl rfl)
theorem dX3_grades_48 : decode cX3_grades 48 = .ok (.aload_n 0, 1) := dk_42 (dk_at dksX3_grades_2 0 rfl rfl)
theorem dX3_grades_49 : decode cX3_grades 49 = .ok (.getfield 171, 3) := dk_180 0 171 (dk_at dksX3_grades_2 1 rfl rfl)
theorem dX3_grades_52 : decode cX3_grades 52 = .ok (.iload_n 1, 1) := dk_27 (dk_at dksX3_grades_2 4 rfl rfl)
theorem dX3_grades_53 : decode cX3_grades 53 = .ok (.aload_n 0, 1) := dk_42 (dk_at dksX3_grades_2 5 rfl rfl)
theorem dX3_grades_54 : decode cX3_grades 54 = .ok (.getfield 356, 3) := dk_180 1 100 (dk_at dksX3_grades_2 6 rfl rfl)
theorem dX3_grades_57 : decode cX3_grades 57 = .ok (.iastore, 1) := dk_79 (dk_at dksX3_grades_2 9 rfl rfl)
theorem dX3_grades_58 : decode cX3_grades 58 = .ok (.aload_n 0, 1) := dk_42 (dk_at dksX3_grades_2 10 rfl rfl)
theorem dX3_grades_59 : decode cX3_grades 59 = .ok (.ldc2_w 376, 3) := dk_20 1 120 (dk_at dksX3_grades_2 11 rfl rfl)
theorem dX3_grades_62 : decode cX3_grades 62 = .ok (.invokevirtual 368, 3) := dk_182 1 112 (dk_at dksX3_grades_2 14 rfl rfl)
theorem dX3_grades_65 : decode cX3_grades 65 = .ok (.ifCond .eq 10, 3) := dk_153 0 10 (dk_at dksX3_grades_2 17 rfl rfl)
theorem dX3_grades_68 : decode cX3_grades 68 = .ok (.aload_n 0, 1) := dk_42 (dk_at dksX3_grades_2 20 rfl rfl)
theorem dX3_grades_69 : decode cX3_grades 69 = .ok (.invokevirtual 362, 3) := dk_182 1 106 (dk_at dksX3_grades_2 21 rfl rfl)
theorem dX3_grades_72 : decode cX3_grades 72 = .ok (.ifCond .ne 5, 3) := dk_154 0 5 (dk_at dksX3_grades_3 0 rfl rfl)
theorem dX3_grades_75 : decode cX3_grades 75 = .ok (.iconst 0, 1) := dk_3 (dk_at dksX3_grades_3 3 rfl rfl)
theorem dX3_grades_76 : decode cX3_grades 76 = .ok (.ireturn, 1) := dk_172 (dk_at dksX3_grades_3 4 rfl rfl)
theorem dX3_grades_77 : decode cX3_grades 77 = .ok (.aload_n 0, 1) := dk_42 (dk_at dksX3_grades_3 5 rfl rfl)
theorem dX3_grades_78 : decode cX3_grades 78 = .ok (.getfield 174, 3) := dk_180 0 174 (dk_at dksX3_grades_3 6 rfl rfl)
theorem dX3_grades_81 : decode cX3_grades 81 = .ok (.iload_n 1, 1) := dk_27 (dk_at dksX3_grades_3 9 rfl rfl)
theorem dX3_grades_82 : decode cX3_grades 82 = .ok (.aload_n 0, 1) := dk_42 (dk_at dksX3_grades_3 10 rfl rfl)
theorem dX3_grades_83 : decode cX3_grades 83 = .ok (.getfield 356, 3) := dk_180 1 100 (dk_at dksX3_grades_3 11 rfl rfl)
theorem dX3_grades_86 : decode cX3_grades 86 = .ok (.iastore, 1) := dk_79 (dk_at dksX3_grades_3 14 rfl rfl)
theorem dX3_grades_87 : decode cX3_grades 87 = .ok (.iconst 1, 1) := dk_4 (dk_at dksX3_grades_3 15 rfl rfl)
theorem dX3_grades_88 : decode cX3_grades 88 = .ok (.ireturn, 1) := dk_172 (dk_at dksX3_grades_3 16 rfl rfl)
def dkwX3_row_4 : List UInt8 := [180, 1, 100, 79, 4, 172]
abbrev dktX3_row_4 : List UInt8 := dkwX3_row_4 ++ []
def dkwX3_row_3 : List UInt8 := [22, 5, 182, 1, 112, 153, 0, 10, 42, 182, 1, 106, 154, 0, 5, 3, 172, 42, 180, 0, 174, 27, 42]
abbrev dktX3_row_3 : List UInt8 := dkwX3_row_3 ++ dktX3_row_4
def dkwX3_row_2 : List UInt8 := [154, 0, 5, 3, 172, 42, 180, 0, 171, 27, 42, 180, 1, 100, 79, 22, 5, 9, 148, 153, 0, 31, 42]
abbrev dktX3_row_2 : List UInt8 := dkwX3_row_2 ++ dktX3_row_3
def dkwX3_row_1 : List UInt8 := [180, 1, 100, 79, 33, 9, 148, 153, 0, 30, 42, 33, 182, 1, 112, 153, 0, 10, 42, 182, 1, 106]
abbrev dktX3_row_1 : List UInt8 := dkwX3_row_1 ++ dktX3_row_2
def dkwX3_row_0 : List UInt8 := [42, 180, 0, 165, 27, 28, 79, 42, 182, 1, 106, 154, 0, 5, 3, 172, 42, 180, 0, 168, 27, 42]
abbrev dktX3_row_0 : List UInt8 := dkwX3_row_0 ++ dktX3_row_1
theorem dksX3_row_0 : cX3_row.data.toList.drop 0 = dktX3_row_0 := by decide +kernel
theorem dksX3_row_1 : cX3_row.data.toList.drop 22 = dktX3_row_1 := dk_seg dksX3_row_0 22 rfl rfl
theorem dksX3_row_2 : cX3_row.data.toList.drop 44 = dktX3_row_2 := dk_seg dksX3_row_1 22 rfl rfl
theorem dksX3_row_3 : cX3_row.data.toList.drop 67 = dktX3_row_3 := dk_seg dksX3_row_2 23 rfl rfl
theorem dksX3_row_4 : cX3_row.data.toList.drop 90 = dktX3_row_4 := dk_seg dksX3_row_3 23 rfl rfl
theorem dX3_row_0 : decode cX3_row 0 = .ok (.aload_n 0, 1) := dk_42 (dk_at dksX3_row_0 0 rfl rfl)
theorem dX3_row_1 : decode cX3_row 1 = .ok (.getfield 165, 3) := dk_180 0 165 (dk_at dksX3_row_0 1 rfl rfl)
theorem dX3_row_4 : decode cX3_row 4 = .ok (.iload_n 1, 1) := dk_27 (dk_at dksX3_row_0 4 rfl rfl)
theorem dX3_row_5 : decode cX3_row 5 = .ok (.iload_n 2, 1) := dk_28 (dk_at dksX3_row_0 5 rfl rfl)
theorem dX3_row_6 : decode cX3_row 6 = .ok (.iastore, 1) := dk_79 (dk_at dksX3_row_0 6 rfl rfl)
theorem dX3_row_7 : decode cX3_row 7 = .ok (.aload_n 0, 1) := dk_42 (dk_at dksX3_row_0 7 rfl rfl)
theorem dX3_row_8 : decode cX3_row 8 = .ok (.invokevirtual 362, 3) := dk_182 1 106 (dk_at dksX3_row_0 8 rfl rfl)
theorem dX3_row_11 : decode cX3_row 11 = .ok (.ifCond .ne 5, 3) := dk_154 0 5 (dk_at dksX3_row_0 11 rfl rfl)
theorem dX3_row_14 : decode cX3_row 14 = .ok (.iconst 0, 1) := dk_3 (dk_at dksX3_row_0 14 rfl rfl)
theorem dX3_row_15 : decode cX3_row 15 = .ok (.ireturn, 1) := dk_172 (dk_at dksX3_row_0 15 rfl rfl)
theorem dX3_row_16 : decode cX3_row 16 = .ok (.aload_n 0, 1) := dk_42 (dk_at dksX3_row_0 16 rfl rfl)
theorem dX3_row_17 : decode cX3_row 17 = .ok (.getfield 168, 3) := dk_180 0 168 (dk_at dksX3_row_0 17 rfl rfl)
theorem dX3_row_20 : decode cX3_row 20 = .ok (.iload_n 1, 1) := dk_27 (dk_at dksX3_row_0 20 rfl rfl)
theorem dX3_row_21 : decode cX3_row 21 = .ok (.aload_n 0, 1) := dk_42 (dk_at dksX3_row_0 21 rfl rfl)
theorem dX3_row_22 : decode cX3_row 22 = .ok (.getfield 356, 3) := dk_180 1 100 (dk_at dksX3_row_1 0 rfl rfl)
theorem dX3_row_25 : decode cX3_row 25 = .ok (.iastore, 1) := dk_79 (dk_at dksX3_row_1 3 rfl rfl)
theorem dX3_row_26 : decode cX3_row 26 = .ok (.lload_n 3, 1) := dk_33 (dk_at dksX3_row_1 4 rfl rfl)
theorem dX3_row_27 : decode cX3_row 27 = .ok (.lconst 0, 1) := dk_9 (dk_at dksX3_row_1 5 rfl rfl)
theorem dX3_row_28 : decode cX3_row 28 = .ok (.lcmp, 1) := dk_148 (dk_at dksX3_row_1 6 rfl rfl)
theorem dX3_row_29 : decode cX3_row 29 = .ok (.ifCond .eq 30, 3) := dk_153 0 30 (dk_at dksX3_row_1 7 rfl rfl)
theorem dX3_row_32 : decode cX3_row 32 = .ok (.aload_n 0, 1) := dk_42 (dk_at dksX3_row_1 10 rfl rfl)
theorem dX3_row_33 : decode cX3_row 33 = .ok (.lload_n 3, 1) := dk_33 (dk_at dksX3_row_1 11 rfl rfl)
theorem dX3_row_34 : decode cX3_row 34 = .ok (.invokevirtual 368, 3) := dk_182 1 112 (dk_at dksX3_row_1 12 rfl rfl)
theorem dX3_row_37 : decode cX3_row 37 = .ok (.ifCond .eq 10, 3) := dk_153 0 10 (dk_at dksX3_row_1 15 rfl rfl)
theorem dX3_row_40 : decode cX3_row 40 = .ok (.aload_n 0, 1) := dk_42 (dk_at dksX3_row_1 18 rfl rfl)
theorem dX3_row_41 : decode cX3_row 41 = .ok (.invokevirtual 362, 3) := dk_182 1 106 (dk_at dksX3_row_1 19 rfl rfl)
theorem dX3_row_44 : decode cX3_row 44 = .ok (.ifCond .ne 5, 3) := dk_154 0 5 (dk_at dksX3_row_2 0 rfl rfl)
theorem dX3_row_47 : decode cX3_row 47 = .ok (.iconst 0, 1) := dk_3 (dk_at dksX3_row_2 3 rfl rfl)
theorem dX3_row_48 : decode cX3_row 48 = .ok (.ireturn, 1) := dk_172 (dk_at dksX3_row_2 4 rfl rfl)
theorem dX3_row_49 : decode cX3_row 49 = .ok (.aload_n 0, 1) := dk_42 (dk_at dksX3_row_2 5 rfl rfl)
theorem dX3_row_50 : decode cX3_row 50 = .ok (.getfield 171, 3) := dk_180 0 171 (dk_at dksX3_row_2 6 rfl rfl)
theorem dX3_row_53 : decode cX3_row 53 = .ok (.iload_n 1, 1) := dk_27 (dk_at dksX3_row_2 9 rfl rfl)
theorem dX3_row_54 : decode cX3_row 54 = .ok (.aload_n 0, 1) := dk_42 (dk_at dksX3_row_2 10 rfl rfl)
theorem dX3_row_55 : decode cX3_row 55 = .ok (.getfield 356, 3) := dk_180 1 100 (dk_at dksX3_row_2 11 rfl rfl)
theorem dX3_row_58 : decode cX3_row 58 = .ok (.iastore, 1) := dk_79 (dk_at dksX3_row_2 14 rfl rfl)
theorem dX3_row_59 : decode cX3_row 59 = .ok (.lload 5, 2) := dk_22 5 (dk_at dksX3_row_2 15 rfl rfl)
theorem dX3_row_61 : decode cX3_row 61 = .ok (.lconst 0, 1) := dk_9 (dk_at dksX3_row_2 17 rfl rfl)
theorem dX3_row_62 : decode cX3_row 62 = .ok (.lcmp, 1) := dk_148 (dk_at dksX3_row_2 18 rfl rfl)
theorem dX3_row_63 : decode cX3_row 63 = .ok (.ifCond .eq 31, 3) := dk_153 0 31 (dk_at dksX3_row_2 19 rfl rfl)
theorem dX3_row_66 : decode cX3_row 66 = .ok (.aload_n 0, 1) := dk_42 (dk_at dksX3_row_2 22 rfl rfl)
theorem dX3_row_67 : decode cX3_row 67 = .ok (.lload 5, 2) := dk_22 5 (dk_at dksX3_row_3 0 rfl rfl)
theorem dX3_row_69 : decode cX3_row 69 = .ok (.invokevirtual 368, 3) := dk_182 1 112 (dk_at dksX3_row_3 2 rfl rfl)
theorem dX3_row_72 : decode cX3_row 72 = .ok (.ifCond .eq 10, 3) := dk_153 0 10 (dk_at dksX3_row_3 5 rfl rfl)
theorem dX3_row_75 : decode cX3_row 75 = .ok (.aload_n 0, 1) := dk_42 (dk_at dksX3_row_3 8 rfl rfl)
theorem dX3_row_76 : decode cX3_row 76 = .ok (.invokevirtual 362, 3) := dk_182 1 106 (dk_at dksX3_row_3 9 rfl rfl)
theorem dX3_row_79 : decode cX3_row 79 = .ok (.ifCond .ne 5, 3) := dk_154 0 5 (dk_at dksX3_row_3 12 rfl rfl)
theorem dX3_row_82 : decode cX3_row 82 = .ok (.iconst 0, 1) := dk_3 (dk_at dksX3_row_3 15 rfl rfl)
theorem dX3_row_83 : decode cX3_row 83 = .ok (.ireturn, 1) := dk_172 (dk_at dksX3_row_3 16 rfl rfl)
theorem dX3_row_84 : decode cX3_row 84 = .ok (.aload_n 0, 1) := dk_42 (dk_at dksX3_row_3 17 rfl rfl)
theorem dX3_row_85 : decode cX3_row 85 = .ok (.getfield 174, 3) := dk_180 0 174 (dk_at dksX3_row_3 18 rfl rfl)
theorem dX3_row_88 : decode cX3_row 88 = .ok (.iload_n 1, 1) := dk_27 (dk_at dksX3_row_3 21 rfl rfl)
theorem dX3_row_89 : decode cX3_row 89 = .ok (.aload_n 0, 1) := dk_42 (dk_at dksX3_row_3 22 rfl rfl)
theorem dX3_row_90 : decode cX3_row 90 = .ok (.getfield 356, 3) := dk_180 1 100 (dk_at dksX3_row_4 0 rfl rfl)
theorem dX3_row_93 : decode cX3_row 93 = .ok (.iastore, 1) := dk_79 (dk_at dksX3_row_4 3 rfl rfl)
theorem dX3_row_94 : decode cX3_row 94 = .ok (.iconst 1, 1) := dk_4 (dk_at dksX3_row_4 4 rfl rfl)
theorem dX3_row_95 : decode cX3_row 95 = .ok (.ireturn, 1) := dk_172 (dk_at dksX3_row_4 5 rfl rfl)
def dkwX3_others_4 : List UInt8 := [159, 0, 18, 42, 27, 28, 9, 9, 182, 1, 134, 153, 0, 7, 4, 167, 0, 4, 3, 172]
abbrev dktX3_others_4 : List UInt8 := dkwX3_others_4 ++ []
def dkwX3_others_3 : List UInt8 := [167, 0, 19, 42, 20, 1, 132, 182, 1, 112, 153, 0, 8, 16, 12, 167, 0, 4, 2, 61, 28, 2]
abbrev dktX3_others_3 : List UInt8 := dkwX3_others_3 ++ dktX3_others_4
def dkwX3_others_2 : List UInt8 := [182, 1, 112, 153, 0, 7, 8, 167, 0, 34, 42, 20, 1, 130, 182, 1, 112, 153, 0, 8, 16, 6]
abbrev dktX3_others_2 : List UInt8 := dkwX3_others_2 ++ dktX3_others_3
def dkwX3_others_1 : List UInt8 := [6, 167, 0, 62, 42, 20, 1, 126, 182, 1, 112, 153, 0, 7, 7, 167, 0, 48, 42, 20, 1, 128]
abbrev dktX3_others_1 : List UInt8 := dkwX3_others_1 ++ dktX3_others_2
def dkwX3_others_0 : List UInt8 := [42, 20, 1, 122, 182, 1, 112, 153, 0, 7, 3, 167, 0, 76, 42, 20, 1, 124, 182, 1, 112, 153, 0, 7]
abbrev dktX3_others_0 : List UInt8 := dkwX3_others_0 ++ dktX3_others_1
theorem dksX3_others_0 : cX3_others.data.toList.drop 0 = dktX3_others_0 := by decide +kernel
theorem dksX3_others_1 : cX3_others.data.toList.drop 24 = dktX3_others_1 := dk_seg dksX3_others_0 24 rfl rfl
theorem dksX3_others_2 : cX3_others.data.toList.drop 46 = dktX3_others_2 := dk_seg dksX3_others_1 22 rfl rfl
theorem dksX3_others_3 : cX3_others.data.toList.drop 68 = dktX3_others_3 := dk_seg dksX3_others_2 22 rfl rfl
theorem dksX3_others_4 : cX3_others.data.toList.drop 90 = dktX3_others_4 := dk_seg dksX3_others_3 22 rfl rfl
theorem dX3_others_0 : decode cX3_others 0 = .ok (.aload_n 0, 1) := dk_42 (dk_at dksX3_others_0 0 rfl rfl)
theorem dX3_others_1 : decode cX3_others 1 = .ok (.ldc2_w 378, 3) := dk_20 1 122 (dk_at dksX3_others_0 1 rfl rfl)
theorem dX3_others_4 : decode cX3_others 4 = .ok (.invokevirtual 368, 3) := dk_182 1 112 (dk_at dksX3_others_0 4 rfl rfl)
theorem dX3_others_7 : decode cX3_others 7 = .ok (.ifCond .eq 7, 3) := dk_153 0 7 (dk_at dksX3_others_0 7 rfl rfl)
theorem dX3_others_10 : decode cX3_others 10 = .ok (.iconst 0, 1) := dk_3 (dk_at dksX3_others_0 10 rfl rfl)
theorem dX3_others_11 : decode cX3_others 11 = .ok (.goto 76, 3) := dk_167 0 76 (dk_at dksX3_others_0 11 rfl rfl)
theorem dX3_others_14 : decode cX3_others 14 = .ok (.aload_n 0, 1) := dk_42 (dk_at dksX3_others_0 14 rfl rfl)
theorem dX3_others_15 : decode cX3_others 15 = .ok (.ldc2_w 380, 3) := dk_20 1 124 (dk_at dksX3_others_0 15 rfl rfl)
theorem dX3_others_18 : decode cX3_others 18 = .ok (.invokevirtual 368, 3) := dk_182 1 112 (dk_at dksX3_others_0 18 rfl rfl)
theorem dX3_others_21 : decode cX3_others 21 = .ok (.ifCond .eq 7, 3) := dk_153 0 7 (dk_at dksX3_others_0 21 rfl rfl)
theorem dX3_others_24 : decode cX3_others 24 = .ok (.iconst 3, 1) := dk_6 (dk_at dksX3_others_1 0 rfl rfl)
theorem dX3_others_25 : decode cX3_others 25 = .ok (.goto 62, 3) := dk_167 0 62 (dk_at dksX3_others_1 1 rfl rfl)
theorem dX3_others_28 : decode cX3_others 28 = .ok (.aload_n 0, 1) := dk_42 (dk_at dksX3_others_1 4 rfl rfl)
theorem dX3_others_29 : decode cX3_others 29 = .ok (.ldc2_w 382, 3) := dk_20 1 126 (dk_at dksX3_others_1 5 rfl rfl)
theorem dX3_others_32 : decode cX3_others 32 = .ok (.invokevirtual 368, 3) := dk_182 1 112 (dk_at dksX3_others_1 8 rfl rfl)
theorem dX3_others_35 : decode cX3_others 35 = .ok (.ifCond .eq 7, 3) := dk_153 0 7 (dk_at dksX3_others_1 11 rfl rfl)
theorem dX3_others_38 : decode cX3_others 38 = .ok (.iconst 4, 1) := dk_7 (dk_at dksX3_others_1 14 rfl rfl)
theorem dX3_others_39 : decode cX3_others 39 = .ok (.goto 48, 3) := dk_167 0 48 (dk_at dksX3_others_1 15 rfl rfl)
theorem dX3_others_42 : decode cX3_others 42 = .ok (.aload_n 0, 1) := dk_42 (dk_at dksX3_others_1 18 rfl rfl)
theorem dX3_others_43 : decode cX3_others 43 = .ok (.ldc2_w 384, 3) := dk_20 1 128 (dk_at dksX3_others_1 19 rfl rfl)
theorem dX3_others_46 : decode cX3_others 46 = .ok (.invokevirtual 368, 3) := dk_182 1 112 (dk_at dksX3_others_2 0 rfl rfl)
theorem dX3_others_49 : decode cX3_others 49 = .ok (.ifCond .eq 7, 3) := dk_153 0 7 (dk_at dksX3_others_2 3 rfl rfl)
theorem dX3_others_52 : decode cX3_others 52 = .ok (.iconst 5, 1) := dk_8 (dk_at dksX3_others_2 6 rfl rfl)
theorem dX3_others_53 : decode cX3_others 53 = .ok (.goto 34, 3) := dk_167 0 34 (dk_at dksX3_others_2 7 rfl rfl)
theorem dX3_others_56 : decode cX3_others 56 = .ok (.aload_n 0, 1) := dk_42 (dk_at dksX3_others_2 10 rfl rfl)
theorem dX3_others_57 : decode cX3_others 57 = .ok (.ldc2_w 386, 3) := dk_20 1 130 (dk_at dksX3_others_2 11 rfl rfl)
theorem dX3_others_60 : decode cX3_others 60 = .ok (.invokevirtual 368, 3) := dk_182 1 112 (dk_at dksX3_others_2 14 rfl rfl)
theorem dX3_others_63 : decode cX3_others 63 = .ok (.ifCond .eq 8, 3) := dk_153 0 8 (dk_at dksX3_others_2 17 rfl rfl)
theorem dX3_others_66 : decode cX3_others 66 = .ok (.bipush 6, 2) := dk_16 6 (dk_at dksX3_others_2 20 rfl rfl)
theorem dX3_others_68 : decode cX3_others 68 = .ok (.goto 19, 3) := dk_167 0 19 (dk_at dksX3_others_3 0 rfl rfl)
theorem dX3_others_71 : decode cX3_others 71 = .ok (.aload_n 0, 1) := dk_42 (dk_at dksX3_others_3 3 rfl rfl)
theorem dX3_others_72 : decode cX3_others 72 = .ok (.ldc2_w 388, 3) := dk_20 1 132 (dk_at dksX3_others_3 4 rfl rfl)
theorem dX3_others_75 : decode cX3_others 75 = .ok (.invokevirtual 368, 3) := dk_182 1 112 (dk_at dksX3_others_3 7 rfl rfl)
theorem dX3_others_78 : decode cX3_others 78 = .ok (.ifCond .eq 8, 3) := dk_153 0 8 (dk_at dksX3_others_3 10 rfl rfl)
theorem dX3_others_81 : decode cX3_others 81 = .ok (.bipush 12, 2) := dk_16 12 (dk_at dksX3_others_3 13 rfl rfl)
theorem dX3_others_83 : decode cX3_others 83 = .ok (.goto 4, 3) := dk_167 0 4 (dk_at dksX3_others_3 15 rfl rfl)
theorem dX3_others_86 : decode cX3_others 86 = .ok (.iconst (-1), 1) := dk_2 (dk_at dksX3_others_3 18 rfl rfl)
theorem dX3_others_87 : decode cX3_others 87 = .ok (.istore_n 2, 1) := dk_61 (dk_at dksX3_others_3 19 rfl rfl)
theorem dX3_others_88 : decode cX3_others 88 = .ok (.iload_n 2, 1) := dk_28 (dk_at dksX3_others_3 20 rfl rfl)
theorem dX3_others_89 : decode cX3_others 89 = .ok (.iconst (-1), 1) := dk_2 (dk_at dksX3_others_3 21 rfl rfl)
theorem dX3_others_90 : decode cX3_others 90 = .ok (.if_icmp .eq 18, 3) := dk_159 0 18 (dk_at dksX3_others_4 0 rfl rfl)
theorem dX3_others_93 : decode cX3_others 93 = .ok (.aload_n 0, 1) := dk_42 (dk_at dksX3_others_4 3 rfl rfl)
theorem dX3_others_94 : decode cX3_others 94 = .ok (.iload_n 1, 1) := dk_27 (dk_at dksX3_others_4 4 rfl rfl)
theorem dX3_others_95 : decode cX3_others 95 = .ok (.iload_n 2, 1) := dk_28 (dk_at dksX3_others_4 5 rfl rfl)
theorem dX3_others_96 : decode cX3_others 96 = .ok (.lconst 0, 1) := dk_9 (dk_at dksX3_others_4 6 rfl rfl)
theorem dX3_others_97 : decode cX3_others 97 = .ok (.lconst 0, 1) := dk_9 (dk_at dksX3_others_4 7 rfl rfl)
theorem dX3_others_98 : decode cX3_others 98 = .ok (.invokevirtual 390, 3) := dk_182 1 134 (dk_at dksX3_others_4 8 rfl rfl)
theorem dX3_others_101 : decode cX3_others 101 = .ok (.ifCond .eq 7, 3) := dk_153 0 7 (dk_at dksX3_others_4 11 rfl rfl)
theorem dX3_others_104 : decode cX3_others 104 = .ok (.iconst 1, 1) := dk_4 (dk_at dksX3_others_4 14 rfl rfl)
theorem dX3_others_105 : decode cX3_others 105 = .ok (.goto 4, 3) := dk_167 0 4 (dk_at dksX3_others_4 15 rfl rfl)
theorem dX3_others_108 : decode cX3_others 108 = .ok (.iconst 0, 1) := dk_3 (dk_at dksX3_others_4 18 rfl rfl)
theorem dX3_others_109 : decode cX3_others 109 = .ok (.ireturn, 1) := dk_172 (dk_at dksX3_others_4 19 rfl rfl)
theorem dX3_fault_0 : decode cX3_fault 0 = .ok (.aload_n 0, 1) := by decide +kernel
theorem dX3_fault_1 : decode cX3_fault 1 = .ok (.getfield 187, 3) := by decide +kernel
theorem dX3_fault_4 : decode cX3_fault 4 = .ok (.ireturn, 1) := by decide +kernel
def dkwX3_law_4 : List UInt8 := [4, 167, 0, 4, 3, 184, 1, 63, 96, 54, 4, 132, 5, 1, 167, 255, 207, 21, 4, 172]
abbrev dktX3_law_4 : List UInt8 := dkwX3_law_4 ++ []
def dkwX3_law_3 : List UInt8 := [42, 180, 0, 159, 29, 46, 96, 162, 0, 34, 21, 4, 42, 180, 0, 165, 21, 5, 46, 16, 30, 160, 0, 7]
abbrev dktX3_law_3 : List UInt8 := dkwX3_law_3 ++ dktX3_law_4
def dkwX3_law_2 : List UInt8 := [182, 1, 76, 172, 3, 54, 4, 16, 24, 29, 104, 54, 5, 29, 2, 159, 0, 50, 21, 5, 16, 24, 29, 104]
abbrev dktX3_law_2 : List UInt8 := dkwX3_law_2 ++ dktX3_law_3
def dkwX3_law_1 : List UInt8 := [27, 182, 0, 240, 62, 28, 16, 22, 160, 0, 5, 29, 172, 28, 16, 21, 162, 0, 10, 42, 27, 28]
abbrev dktX3_law_1 : List UInt8 := dkwX3_law_1 ++ dktX3_law_2
def dkwX3_law_0 : List UInt8 := [27, 3, 17, 14, 65, 184, 0, 194, 153, 0, 13, 28, 3, 16, 22, 184, 0, 194, 154, 0, 5, 2, 172, 42]
abbrev dktX3_law_0 : List UInt8 := dkwX3_law_0 ++ dktX3_law_1
theorem dksX3_law_0 : cX3_law.data.toList.drop 0 = dktX3_law_0 := by decide +kernel
theorem dksX3_law_1 : cX3_law.data.toList.drop 24 = dktX3_law_1 := dk_seg dksX3_law_0 24 rfl rfl
theorem dksX3_law_2 : cX3_law.data.toList.drop 46 = dktX3_law_2 := dk_seg dksX3_law_1 22 rfl rfl
theorem dksX3_law_3 : cX3_law.data.toList.drop 70 = dktX3_law_3 := dk_seg dksX3_law_2 24 rfl rfl
theorem dksX3_law_4 : cX3_law.data.toList.drop 94 = dktX3_law_4 := dk_seg dksX3_law_3 24 rfl rfl
theorem dX3_law_0 : decode cX3_law 0 = .ok (.iload_n 1, 1) := dk_27 (dk_at dksX3_law_0 0 rfl rfl)
theorem dX3_law_1 : decode cX3_law 1 = .ok (.iconst 0, 1) := dk_3 (dk_at dksX3_law_0 1 rfl rfl)
theorem dX3_law_2 : decode cX3_law 2 = .ok (.sipush 3649, 3) := dk_17 14 65 (dk_at dksX3_law_0 2 rfl rfl)
theorem dX3_law_5 : decode cX3_law 5 = .ok (.invokestatic 194, 3) := dk_184 0 194 (dk_at dksX3_law_0 5 rfl rfl)
theorem dX3_law_8 : decode cX3_law 8 = .ok (.ifCond .eq 13, 3) := dk_153 0 13 (dk_at dksX3_law_0 8 rfl rfl)
theorem dX3_law_11 : decode cX3_law 11 = .ok (.iload_n 2, 1) := dk_28 (dk_at dksX3_law_0 11 rfl rfl)
theorem dX3_law_12 : decode cX3_law 12 = .ok (.iconst 0, 1) := dk_3 (dk_at dksX3_law_0 12 rfl rfl)
theorem dX3_law_13 : decode cX3_law 13 = .ok (.bipush 22, 2) := dk_16 22 (dk_at dksX3_law_0 13 rfl rfl)
theorem dX3_law_15 : decode cX3_law 15 = .ok (.invokestatic 194, 3) := dk_184 0 194 (dk_at dksX3_law_0 15 rfl rfl)
theorem dX3_law_18 : decode cX3_law 18 = .ok (.ifCond .ne 5, 3) := dk_154 0 5 (dk_at dksX3_law_0 18 rfl rfl)
theorem dX3_law_21 : decode cX3_law 21 = .ok (.iconst (-1), 1) := dk_2 (dk_at dksX3_law_0 21 rfl rfl)
theorem dX3_law_22 : decode cX3_law 22 = .ok (.ireturn, 1) := dk_172 (dk_at dksX3_law_0 22 rfl rfl)
theorem dX3_law_23 : decode cX3_law 23 = .ok (.aload_n 0, 1) := dk_42 (dk_at dksX3_law_0 23 rfl rfl)
theorem dX3_law_24 : decode cX3_law 24 = .ok (.iload_n 1, 1) := dk_27 (dk_at dksX3_law_1 0 rfl rfl)
theorem dX3_law_25 : decode cX3_law 25 = .ok (.invokevirtual 240, 3) := dk_182 0 240 (dk_at dksX3_law_1 1 rfl rfl)
theorem dX3_law_28 : decode cX3_law 28 = .ok (.istore_n 3, 1) := dk_62 (dk_at dksX3_law_1 4 rfl rfl)
theorem dX3_law_29 : decode cX3_law 29 = .ok (.iload_n 2, 1) := dk_28 (dk_at dksX3_law_1 5 rfl rfl)
theorem dX3_law_30 : decode cX3_law 30 = .ok (.bipush 22, 2) := dk_16 22 (dk_at dksX3_law_1 6 rfl rfl)
theorem dX3_law_32 : decode cX3_law 32 = .ok (.if_icmp .ne 5, 3) := dk_160 0 5 (dk_at dksX3_law_1 8 rfl rfl)
theorem dX3_law_35 : decode cX3_law 35 = .ok (.iload_n 3, 1) := dk_29 (dk_at dksX3_law_1 11 rfl rfl)
theorem dX3_law_36 : decode cX3_law 36 = .ok (.ireturn, 1) := dk_172 (dk_at dksX3_law_1 12 rfl rfl)
theorem dX3_law_37 : decode cX3_law 37 = .ok (.iload_n 2, 1) := dk_28 (dk_at dksX3_law_1 13 rfl rfl)
theorem dX3_law_38 : decode cX3_law 38 = .ok (.bipush 21, 2) := dk_16 21 (dk_at dksX3_law_1 14 rfl rfl)
theorem dX3_law_40 : decode cX3_law 40 = .ok (.if_icmp .ge 10, 3) := dk_162 0 10 (dk_at dksX3_law_1 16 rfl rfl)
theorem dX3_law_43 : decode cX3_law 43 = .ok (.aload_n 0, 1) := dk_42 (dk_at dksX3_law_1 19 rfl rfl)
theorem dX3_law_44 : decode cX3_law 44 = .ok (.iload_n 1, 1) := dk_27 (dk_at dksX3_law_1 20 rfl rfl)
theorem dX3_law_45 : decode cX3_law 45 = .ok (.iload_n 2, 1) := dk_28 (dk_at dksX3_law_1 21 rfl rfl)
theorem dX3_law_46 : decode cX3_law 46 = .ok (.invokevirtual 332, 3) := dk_182 1 76 (dk_at dksX3_law_2 0 rfl rfl)
theorem dX3_law_49 : decode cX3_law 49 = .ok (.ireturn, 1) := dk_172 (dk_at dksX3_law_2 3 rfl rfl)
theorem dX3_law_50 : decode cX3_law 50 = .ok (.iconst 0, 1) := dk_3 (dk_at dksX3_law_2 4 rfl rfl)
theorem dX3_law_51 : decode cX3_law 51 = .ok (.istore 4, 2) := dk_54 4 (dk_at dksX3_law_2 5 rfl rfl)
theorem dX3_law_53 : decode cX3_law 53 = .ok (.bipush 24, 2) := dk_16 24 (dk_at dksX3_law_2 7 rfl rfl)
theorem dX3_law_55 : decode cX3_law 55 = .ok (.iload_n 3, 1) := dk_29 (dk_at dksX3_law_2 9 rfl rfl)
theorem dX3_law_56 : decode cX3_law 56 = .ok (.imul, 1) := dk_104 (dk_at dksX3_law_2 10 rfl rfl)
theorem dX3_law_57 : decode cX3_law 57 = .ok (.istore 5, 2) := dk_54 5 (dk_at dksX3_law_2 11 rfl rfl)
theorem dX3_law_59 : decode cX3_law 59 = .ok (.iload_n 3, 1) := dk_29 (dk_at dksX3_law_2 13 rfl rfl)
theorem dX3_law_60 : decode cX3_law 60 = .ok (.iconst (-1), 1) := dk_2 (dk_at dksX3_law_2 14 rfl rfl)
theorem dX3_law_61 : decode cX3_law 61 = .ok (.if_icmp .eq 50, 3) := dk_159 0 50 (dk_at dksX3_law_2 15 rfl rfl)
theorem dX3_law_64 : decode cX3_law 64 = .ok (.iload 5, 2) := dk_21 5 (dk_at dksX3_law_2 18 rfl rfl)
theorem dX3_law_66 : decode cX3_law 66 = .ok (.bipush 24, 2) := dk_16 24 (dk_at dksX3_law_2 20 rfl rfl)
theorem dX3_law_68 : decode cX3_law 68 = .ok (.iload_n 3, 1) := dk_29 (dk_at dksX3_law_2 22 rfl rfl)
theorem dX3_law_69 : decode cX3_law 69 = .ok (.imul, 1) := dk_104 (dk_at dksX3_law_2 23 rfl rfl)
theorem dX3_law_70 : decode cX3_law 70 = .ok (.aload_n 0, 1) := dk_42 (dk_at dksX3_law_3 0 rfl rfl)
theorem dX3_law_71 : decode cX3_law 71 = .ok (.getfield 159, 3) := dk_180 0 159 (dk_at dksX3_law_3 1 rfl rfl)
theorem dX3_law_74 : decode cX3_law 74 = .ok (.iload_n 3, 1) := dk_29 (dk_at dksX3_law_3 4 rfl rfl)
theorem dX3_law_75 : decode cX3_law 75 = .ok (.iaload, 1) := dk_46 (dk_at dksX3_law_3 5 rfl rfl)
theorem dX3_law_76 : decode cX3_law 76 = .ok (.iadd, 1) := dk_96 (dk_at dksX3_law_3 6 rfl rfl)
theorem dX3_law_77 : decode cX3_law 77 = .ok (.if_icmp .ge 34, 3) := dk_162 0 34 (dk_at dksX3_law_3 7 rfl rfl)
theorem dX3_law_80 : decode cX3_law 80 = .ok (.iload 4, 2) := dk_21 4 (dk_at dksX3_law_3 10 rfl rfl)
theorem dX3_law_82 : decode cX3_law 82 = .ok (.aload_n 0, 1) := dk_42 (dk_at dksX3_law_3 12 rfl rfl)
theorem dX3_law_83 : decode cX3_law 83 = .ok (.getfield 165, 3) := dk_180 0 165 (dk_at dksX3_law_3 13 rfl rfl)
theorem dX3_law_86 : decode cX3_law 86 = .ok (.iload 5, 2) := dk_21 5 (dk_at dksX3_law_3 16 rfl rfl)
theorem dX3_law_88 : decode cX3_law 88 = .ok (.iaload, 1) := dk_46 (dk_at dksX3_law_3 18 rfl rfl)
theorem dX3_law_89 : decode cX3_law 89 = .ok (.bipush 30, 2) := dk_16 30 (dk_at dksX3_law_3 19 rfl rfl)
theorem dX3_law_91 : decode cX3_law 91 = .ok (.if_icmp .ne 7, 3) := dk_160 0 7 (dk_at dksX3_law_3 21 rfl rfl)
theorem dX3_law_94 : decode cX3_law 94 = .ok (.iconst 1, 1) := dk_4 (dk_at dksX3_law_4 0 rfl rfl)
theorem dX3_law_95 : decode cX3_law 95 = .ok (.goto 4, 3) := dk_167 0 4 (dk_at dksX3_law_4 1 rfl rfl)
theorem dX3_law_98 : decode cX3_law 98 = .ok (.iconst 0, 1) := dk_3 (dk_at dksX3_law_4 4 rfl rfl)
theorem dX3_law_99 : decode cX3_law 99 = .ok (.invokestatic 319, 3) := dk_184 1 63 (dk_at dksX3_law_4 5 rfl rfl)
theorem dX3_law_102 : decode cX3_law 102 = .ok (.iadd, 1) := dk_96 (dk_at dksX3_law_4 8 rfl rfl)
theorem dX3_law_103 : decode cX3_law 103 = .ok (.istore 4, 2) := dk_54 4 (dk_at dksX3_law_4 9 rfl rfl)
theorem dX3_law_105 : decode cX3_law 105 = .ok (.iinc 5 1, 3) := dk_132 5 1 (dk_at dksX3_law_4 11 rfl rfl)
theorem dX3_law_108 : decode cX3_law 108 = .ok (.goto (-49), 3) := dk_167 255 207 (dk_at dksX3_law_4 14 rfl rfl)
theorem dX3_law_111 : decode cX3_law 111 = .ok (.iload 4, 2) := dk_21 4 (dk_at dksX3_law_4 17 rfl rfl)
theorem dX3_law_113 : decode cX3_law 113 = .ok (.ireturn, 1) := dk_172 (dk_at dksX3_law_4 19 rfl rfl)
def dkwX3_turn_5 : List UInt8 := [132, 6, 1, 167, 255, 185, 21, 5, 184, 1, 63, 172]
abbrev dktX3_turn_5 : List UInt8 := dkwX3_turn_5 ++ []
def dkwX3_turn_4 : List UInt8 := [46, 27, 160, 0, 18, 42, 180, 0, 171, 21, 6, 46, 28, 160, 0, 7, 4, 167, 0, 4, 3, 54, 5]
abbrev dktX3_turn_4 : List UInt8 := dkwX3_turn_4 ++ dktX3_turn_5
def dkwX3_turn_3 : List UInt8 := [162, 0, 53, 21, 5, 154, 0, 35, 42, 21, 6, 29, 182, 0, 243, 153, 0, 29, 42, 180, 0, 168, 21, 6]
abbrev dktX3_turn_3 : List UInt8 := dkwX3_turn_3 ++ dktX3_turn_4
def dkwX3_turn_2 : List UInt8 := [54, 6, 21, 4, 2, 159, 0, 71, 21, 6, 16, 24, 21, 4, 104, 42, 180, 0, 159, 21, 4, 46, 96]
abbrev dktX3_turn_2 : List UInt8 := dkwX3_turn_2 ++ dktX3_turn_3
def dkwX3_turn_1 : List UInt8 := [184, 0, 194, 154, 0, 5, 2, 172, 42, 29, 182, 0, 240, 54, 4, 3, 54, 5, 16, 24, 21, 4, 104]
abbrev dktX3_turn_1 : List UInt8 := dkwX3_turn_1 ++ dktX3_turn_2
def dkwX3_turn_0 : List UInt8 := [27, 3, 16, 9, 184, 0, 194, 153, 0, 22, 42, 28, 182, 0, 198, 153, 0, 14, 29, 3, 17, 14, 65]
abbrev dktX3_turn_0 : List UInt8 := dkwX3_turn_0 ++ dktX3_turn_1
theorem dksX3_turn_0 : cX3_turn.data.toList.drop 0 = dktX3_turn_0 := by decide +kernel
theorem dksX3_turn_1 : cX3_turn.data.toList.drop 23 = dktX3_turn_1 := dk_seg dksX3_turn_0 23 rfl rfl
theorem dksX3_turn_2 : cX3_turn.data.toList.drop 46 = dktX3_turn_2 := dk_seg dksX3_turn_1 23 rfl rfl
theorem dksX3_turn_3 : cX3_turn.data.toList.drop 69 = dktX3_turn_3 := dk_seg dksX3_turn_2 23 rfl rfl
theorem dksX3_turn_4 : cX3_turn.data.toList.drop 93 = dktX3_turn_4 := dk_seg dksX3_turn_3 24 rfl rfl
theorem dksX3_turn_5 : cX3_turn.data.toList.drop 116 = dktX3_turn_5 := dk_seg dksX3_turn_4 23 rfl rfl
theorem dX3_turn_0 : decode cX3_turn 0 = .ok (.iload_n 1, 1) := dk_27 (dk_at dksX3_turn_0 0 rfl rfl)
theorem dX3_turn_1 : decode cX3_turn 1 = .ok (.iconst 0, 1) := dk_3 (dk_at dksX3_turn_0 1 rfl rfl)
theorem dX3_turn_2 : decode cX3_turn 2 = .ok (.bipush 9, 2) := dk_16 9 (dk_at dksX3_turn_0 2 rfl rfl)
theorem dX3_turn_4 : decode cX3_turn 4 = .ok (.invokestatic 194, 3) := dk_184 0 194 (dk_at dksX3_turn_0 4 rfl rfl)
theorem dX3_turn_7 : decode cX3_turn 7 = .ok (.ifCond .eq 22, 3) := dk_153 0 22 (dk_at dksX3_turn_0 7 rfl rfl)
theorem dX3_turn_10 : decode cX3_turn 10 = .ok (.aload_n 0, 1) := dk_42 (dk_at dksX3_turn_0 10 rfl rfl)
theorem dX3_turn_11 : decode cX3_turn 11 = .ok (.iload_n 2, 1) := dk_28 (dk_at dksX3_turn_0 11 rfl rfl)
theorem dX3_turn_12 : decode cX3_turn 12 = .ok (.invokevirtual 198, 3) := dk_182 0 198 (dk_at dksX3_turn_0 12 rfl rfl)
theorem dX3_turn_15 : decode cX3_turn 15 = .ok (.ifCond .eq 14, 3) := dk_153 0 14 (dk_at dksX3_turn_0 15 rfl rfl)
theorem dX3_turn_18 : decode cX3_turn 18 = .ok (.iload_n 3, 1) := dk_29 (dk_at dksX3_turn_0 18 rfl rfl)
theorem dX3_turn_19 : decode cX3_turn 19 = .ok (.iconst 0, 1) := dk_3 (dk_at dksX3_turn_0 19 rfl rfl)
theorem dX3_turn_20 : decode cX3_turn 20 = .ok (.sipush 3649, 3) := dk_17 14 65 (dk_at dksX3_turn_0 20 rfl rfl)
theorem dX3_turn_23 : decode cX3_turn 23 = .ok (.invokestatic 194, 3) := dk_184 0 194 (dk_at dksX3_turn_1 0 rfl rfl)
theorem dX3_turn_26 : decode cX3_turn 26 = .ok (.ifCond .ne 5, 3) := dk_154 0 5 (dk_at dksX3_turn_1 3 rfl rfl)
theorem dX3_turn_29 : decode cX3_turn 29 = .ok (.iconst (-1), 1) := dk_2 (dk_at dksX3_turn_1 6 rfl rfl)
theorem dX3_turn_30 : decode cX3_turn 30 = .ok (.ireturn, 1) := dk_172 (dk_at dksX3_turn_1 7 rfl rfl)
theorem dX3_turn_31 : decode cX3_turn 31 = .ok (.aload_n 0, 1) := dk_42 (dk_at dksX3_turn_1 8 rfl rfl)
theorem dX3_turn_32 : decode cX3_turn 32 = .ok (.iload_n 3, 1) := dk_29 (dk_at dksX3_turn_1 9 rfl rfl)
theorem dX3_turn_33 : decode cX3_turn 33 = .ok (.invokevirtual 240, 3) := dk_182 0 240 (dk_at dksX3_turn_1 10 rfl rfl)
theorem dX3_turn_36 : decode cX3_turn 36 = .ok (.istore 4, 2) := dk_54 4 (dk_at dksX3_turn_1 13 rfl rfl)
theorem dX3_turn_38 : decode cX3_turn 38 = .ok (.iconst 0, 1) := dk_3 (dk_at dksX3_turn_1 15 rfl rfl)
theorem dX3_turn_39 : decode cX3_turn 39 = .ok (.istore 5, 2) := dk_54 5 (dk_at dksX3_turn_1 16 rfl rfl)
theorem dX3_turn_41 : decode cX3_turn 41 = .ok (.bipush 24, 2) := dk_16 24 (dk_at dksX3_turn_1 18 rfl rfl)
theorem dX3_turn_43 : decode cX3_turn 43 = .ok (.iload 4, 2) := dk_21 4 (dk_at dksX3_turn_1 20 rfl rfl)
theorem dX3_turn_45 : decode cX3_turn 45 = .ok (.imul, 1) := dk_104 (dk_at dksX3_turn_1 22 rfl rfl)
theorem dX3_turn_46 : decode cX3_turn 46 = .ok (.istore 6, 2) := dk_54 6 (dk_at dksX3_turn_2 0 rfl rfl)
theorem dX3_turn_48 : decode cX3_turn 48 = .ok (.iload 4, 2) := dk_21 4 (dk_at dksX3_turn_2 2 rfl rfl)
theorem dX3_turn_50 : decode cX3_turn 50 = .ok (.iconst (-1), 1) := dk_2 (dk_at dksX3_turn_2 4 rfl rfl)
theorem dX3_turn_51 : decode cX3_turn 51 = .ok (.if_icmp .eq 71, 3) := dk_159 0 71 (dk_at dksX3_turn_2 5 rfl rfl)
theorem dX3_turn_54 : decode cX3_turn 54 = .ok (.iload 6, 2) := dk_21 6 (dk_at dksX3_turn_2 8 rfl rfl)
theorem dX3_turn_56 : decode cX3_turn 56 = .ok (.bipush 24, 2) := dk_16 24 (dk_at dksX3_turn_2 10 rfl rfl)
theorem dX3_turn_58 : decode cX3_turn 58 = .ok (.iload 4, 2) := dk_21 4 (dk_at dksX3_turn_2 12 rfl rfl)
theorem dX3_turn_60 : decode cX3_turn 60 = .ok (.imul, 1) := dk_104 (dk_at dksX3_turn_2 14 rfl rfl)
theorem dX3_turn_61 : decode cX3_turn 61 = .ok (.aload_n 0, 1) := dk_42 (dk_at dksX3_turn_2 15 rfl rfl)
theorem dX3_turn_62 : decode cX3_turn 62 = .ok (.getfield 159, 3) := dk_180 0 159 (dk_at dksX3_turn_2 16 rfl rfl)
theorem dX3_turn_65 : decode cX3_turn 65 = .ok (.iload 4, 2) := dk_21 4 (dk_at dksX3_turn_2 19 rfl rfl)
theorem dX3_turn_67 : decode cX3_turn 67 = .ok (.iaload, 1) := dk_46 (dk_at dksX3_turn_2 21 rfl rfl)
theorem dX3_turn_68 : decode cX3_turn 68 = .ok (.iadd, 1) := dk_96 (dk_at dksX3_turn_2 22 rfl rfl)
theorem dX3_turn_69 : decode cX3_turn 69 = .ok (.if_icmp .ge 53, 3) := dk_162 0 53 (dk_at dksX3_turn_3 0 rfl rfl)
theorem dX3_turn_72 : decode cX3_turn 72 = .ok (.iload 5, 2) := dk_21 5 (dk_at dksX3_turn_3 3 rfl rfl)
theorem dX3_turn_74 : decode cX3_turn 74 = .ok (.ifCond .ne 35, 3) := dk_154 0 35 (dk_at dksX3_turn_3 5 rfl rfl)
theorem dX3_turn_77 : decode cX3_turn 77 = .ok (.aload_n 0, 1) := dk_42 (dk_at dksX3_turn_3 8 rfl rfl)
theorem dX3_turn_78 : decode cX3_turn 78 = .ok (.iload 6, 2) := dk_21 6 (dk_at dksX3_turn_3 9 rfl rfl)
theorem dX3_turn_80 : decode cX3_turn 80 = .ok (.iload_n 3, 1) := dk_29 (dk_at dksX3_turn_3 11 rfl rfl)
theorem dX3_turn_81 : decode cX3_turn 81 = .ok (.invokevirtual 243, 3) := dk_182 0 243 (dk_at dksX3_turn_3 12 rfl rfl)
theorem dX3_turn_84 : decode cX3_turn 84 = .ok (.ifCond .eq 29, 3) := dk_153 0 29 (dk_at dksX3_turn_3 15 rfl rfl)
theorem dX3_turn_87 : decode cX3_turn 87 = .ok (.aload_n 0, 1) := dk_42 (dk_at dksX3_turn_3 18 rfl rfl)
theorem dX3_turn_88 : decode cX3_turn 88 = .ok (.getfield 168, 3) := dk_180 0 168 (dk_at dksX3_turn_3 19 rfl rfl)
theorem dX3_turn_91 : decode cX3_turn 91 = .ok (.iload 6, 2) := dk_21 6 (dk_at dksX3_turn_3 22 rfl rfl)
theorem dX3_turn_93 : decode cX3_turn 93 = .ok (.iaload, 1) := dk_46 (dk_at dksX3_turn_4 0 rfl rfl)
theorem dX3_turn_94 : decode cX3_turn 94 = .ok (.iload_n 1, 1) := dk_27 (dk_at dksX3_turn_4 1 rfl rfl)
theorem dX3_turn_95 : decode cX3_turn 95 = .ok (.if_icmp .ne 18, 3) := dk_160 0 18 (dk_at dksX3_turn_4 2 rfl rfl)
theorem dX3_turn_98 : decode cX3_turn 98 = .ok (.aload_n 0, 1) := dk_42 (dk_at dksX3_turn_4 5 rfl rfl)
theorem dX3_turn_99 : decode cX3_turn 99 = .ok (.getfield 171, 3) := dk_180 0 171 (dk_at dksX3_turn_4 6 rfl rfl)
theorem dX3_turn_102 : decode cX3_turn 102 = .ok (.iload 6, 2) := dk_21 6 (dk_at dksX3_turn_4 9 rfl rfl)
theorem dX3_turn_104 : decode cX3_turn 104 = .ok (.iaload, 1) := dk_46 (dk_at dksX3_turn_4 11 rfl rfl)
theorem dX3_turn_105 : decode cX3_turn 105 = .ok (.iload_n 2, 1) := dk_28 (dk_at dksX3_turn_4 12 rfl rfl)
theorem dX3_turn_106 : decode cX3_turn 106 = .ok (.if_icmp .ne 7, 3) := dk_160 0 7 (dk_at dksX3_turn_4 13 rfl rfl)
theorem dX3_turn_109 : decode cX3_turn 109 = .ok (.iconst 1, 1) := dk_4 (dk_at dksX3_turn_4 16 rfl rfl)
theorem dX3_turn_110 : decode cX3_turn 110 = .ok (.goto 4, 3) := dk_167 0 4 (dk_at dksX3_turn_4 17 rfl rfl)
theorem dX3_turn_113 : decode cX3_turn 113 = .ok (.iconst 0, 1) := dk_3 (dk_at dksX3_turn_4 20 rfl rfl)
theorem dX3_turn_114 : decode cX3_turn 114 = .ok (.istore 5, 2) := dk_54 5 (dk_at dksX3_turn_4 21 rfl rfl)
theorem dX3_turn_116 : decode cX3_turn 116 = .ok (.iinc 6 1, 3) := dk_132 6 1 (dk_at dksX3_turn_5 0 rfl rfl)
theorem dX3_turn_119 : decode cX3_turn 119 = .ok (.goto (-71), 3) := dk_167 255 185 (dk_at dksX3_turn_5 3 rfl rfl)
theorem dX3_turn_122 : decode cX3_turn 122 = .ok (.iload 5, 2) := dk_21 5 (dk_at dksX3_turn_5 6 rfl rfl)
theorem dX3_turn_124 : decode cX3_turn 124 = .ok (.invokestatic 319, 3) := dk_184 1 63 (dk_at dksX3_turn_5 8 rfl rfl)
theorem dX3_turn_127 : decode cX3_turn 127 = .ok (.ireturn, 1) := dk_172 (dk_at dksX3_turn_5 11 rfl rfl)
def dkwX3_sum_5 : List UInt8 := [180, 0, 77, 21, 4, 46, 133, 97, 65, 132, 4, 1, 167, 255, 233, 32, 173, 20, 1, 57, 173]
abbrev dktX3_sum_5 : List UInt8 := dkwX3_sum_5 ++ []
def dkwX3_sum_4 : List UInt8 := [167, 255, 233, 32, 173, 42, 180, 0, 251, 173, 3, 54, 4, 21, 4, 42, 180, 0, 202, 162, 0, 20, 32, 42]
abbrev dktX3_sum_4 : List UInt8 := dkwX3_sum_4 ++ dktX3_sum_5
def dkwX3_sum_3 : List UInt8 := [21, 4, 42, 180, 0, 191, 162, 0, 20, 32, 42, 180, 0, 53, 21, 4, 46, 133, 97, 65, 132, 4, 1]
abbrev dktX3_sum_3 : List UInt8 := dkwX3_sum_3 ++ dktX3_sum_4
def dkwX3_sum_2 : List UInt8 := [42, 180, 1, 45, 173, 42, 180, 0, 233, 173, 42, 180, 1, 48, 173, 42, 180, 1, 51, 173, 3, 54, 4]
abbrev dktX3_sum_2 : List UInt8 := dkwX3_sum_2 ++ dktX3_sum_3
def dkwX3_sum_1 : List UInt8 := [170, 0, 0, 0, 128, 0, 0, 0, 0, 0, 0, 0, 6, 0, 0, 0, 41, 0, 0, 0, 46, 0, 0, 0, 51, 0, 0, 0, 56, 0, 0, 0, 61, 0, 0, 0, 92, 0, 0, 0, 97]
abbrev dktX3_sum_1 : List UInt8 := dkwX3_sum_1 ++ dktX3_sum_2
def dkwX3_sum_0 : List UInt8 := [9, 65, 27]
abbrev dktX3_sum_0 : List UInt8 := dkwX3_sum_0 ++ dktX3_sum_1
theorem dksX3_sum_0 : cX3_sum.data.toList.drop 0 = dktX3_sum_0 := by decide +kernel
theorem dksX3_sum_1 : cX3_sum.data.toList.drop 3 = dktX3_sum_1 := dk_seg dksX3_sum_0 3 rfl rfl
theorem dksX3_sum_2 : cX3_sum.data.toList.drop 44 = dktX3_sum_2 := dk_seg dksX3_sum_1 41 rfl rfl
theorem dksX3_sum_3 : cX3_sum.data.toList.drop 67 = dktX3_sum_3 := dk_seg dksX3_sum_2 23 rfl rfl
theorem dksX3_sum_4 : cX3_sum.data.toList.drop 90 = dktX3_sum_4 := dk_seg dksX3_sum_3 23 rfl rfl
theorem dksX3_sum_5 : cX3_sum.data.toList.drop 114 = dktX3_sum_5 := dk_seg dksX3_sum_4 24 rfl rfl
theorem dX3_sum_0 : decode cX3_sum 0 = .ok (.lconst 0, 1) := dk_9 (dk_at dksX3_sum_0 0 rfl rfl)
theorem dX3_sum_1 : decode cX3_sum 1 = .ok (.lstore_n 2, 1) := dk_65 (dk_at dksX3_sum_0 1 rfl rfl)
theorem dX3_sum_2 : decode cX3_sum 2 = .ok (.iload_n 1, 1) := dk_27 (dk_at dksX3_sum_0 2 rfl rfl)
theorem dX3_sum_3 : decode cX3_sum 3 = .ok (.tableswitch 128 0 6 #[41, 46, 51, 56, 61, 92, 97], 41) := by decide +kernel
theorem dX3_sum_44 : decode cX3_sum 44 = .ok (.aload_n 0, 1) := dk_42 (dk_at dksX3_sum_2 0 rfl rfl)
theorem dX3_sum_45 : decode cX3_sum 45 = .ok (.getfield 301, 3) := dk_180 1 45 (dk_at dksX3_sum_2 1 rfl rfl)
theorem dX3_sum_48 : decode cX3_sum 48 = .ok (.lreturn, 1) := dk_173 (dk_at dksX3_sum_2 4 rfl rfl)
theorem dX3_sum_49 : decode cX3_sum 49 = .ok (.aload_n 0, 1) := dk_42 (dk_at dksX3_sum_2 5 rfl rfl)
theorem dX3_sum_50 : decode cX3_sum 50 = .ok (.getfield 233, 3) := dk_180 0 233 (dk_at dksX3_sum_2 6 rfl rfl)
theorem dX3_sum_53 : decode cX3_sum 53 = .ok (.lreturn, 1) := dk_173 (dk_at dksX3_sum_2 9 rfl rfl)
theorem dX3_sum_54 : decode cX3_sum 54 = .ok (.aload_n 0, 1) := dk_42 (dk_at dksX3_sum_2 10 rfl rfl)
theorem dX3_sum_55 : decode cX3_sum 55 = .ok (.getfield 304, 3) := dk_180 1 48 (dk_at dksX3_sum_2 11 rfl rfl)
theorem dX3_sum_58 : decode cX3_sum 58 = .ok (.lreturn, 1) := dk_173 (dk_at dksX3_sum_2 14 rfl rfl)
theorem dX3_sum_59 : decode cX3_sum 59 = .ok (.aload_n 0, 1) := dk_42 (dk_at dksX3_sum_2 15 rfl rfl)
theorem dX3_sum_60 : decode cX3_sum 60 = .ok (.getfield 307, 3) := dk_180 1 51 (dk_at dksX3_sum_2 16 rfl rfl)
theorem dX3_sum_63 : decode cX3_sum 63 = .ok (.lreturn, 1) := dk_173 (dk_at dksX3_sum_2 19 rfl rfl)
theorem dX3_sum_64 : decode cX3_sum 64 = .ok (.iconst 0, 1) := dk_3 (dk_at dksX3_sum_2 20 rfl rfl)
theorem dX3_sum_65 : decode cX3_sum 65 = .ok (.istore 4, 2) := dk_54 4 (dk_at dksX3_sum_2 21 rfl rfl)
theorem dX3_sum_67 : decode cX3_sum 67 = .ok (.iload 4, 2) := dk_21 4 (dk_at dksX3_sum_3 0 rfl rfl)
theorem dX3_sum_69 : decode cX3_sum 69 = .ok (.aload_n 0, 1) := dk_42 (dk_at dksX3_sum_3 2 rfl rfl)
theorem dX3_sum_70 : decode cX3_sum 70 = .ok (.getfield 191, 3) := dk_180 0 191 (dk_at dksX3_sum_3 3 rfl rfl)
theorem dX3_sum_73 : decode cX3_sum 73 = .ok (.if_icmp .ge 20, 3) := dk_162 0 20 (dk_at dksX3_sum_3 6 rfl rfl)
theorem dX3_sum_76 : decode cX3_sum 76 = .ok (.lload_n 2, 1) := dk_32 (dk_at dksX3_sum_3 9 rfl rfl)
theorem dX3_sum_77 : decode cX3_sum 77 = .ok (.aload_n 0, 1) := dk_42 (dk_at dksX3_sum_3 10 rfl rfl)
theorem dX3_sum_78 : decode cX3_sum 78 = .ok (.getfield 53, 3) := dk_180 0 53 (dk_at dksX3_sum_3 11 rfl rfl)
theorem dX3_sum_81 : decode cX3_sum 81 = .ok (.iload 4, 2) := dk_21 4 (dk_at dksX3_sum_3 14 rfl rfl)
theorem dX3_sum_83 : decode cX3_sum 83 = .ok (.iaload, 1) := dk_46 (dk_at dksX3_sum_3 16 rfl rfl)
theorem dX3_sum_84 : decode cX3_sum 84 = .ok (.i2l, 1) := dk_133 (dk_at dksX3_sum_3 17 rfl rfl)
theorem dX3_sum_85 : decode cX3_sum 85 = .ok (.ladd, 1) := dk_97 (dk_at dksX3_sum_3 18 rfl rfl)
theorem dX3_sum_86 : decode cX3_sum 86 = .ok (.lstore_n 2, 1) := dk_65 (dk_at dksX3_sum_3 19 rfl rfl)
theorem dX3_sum_87 : decode cX3_sum 87 = .ok (.iinc 4 1, 3) := dk_132 4 1 (dk_at dksX3_sum_3 20 rfl rfl)
theorem dX3_sum_90 : decode cX3_sum 90 = .ok (.goto (-23), 3) := dk_167 255 233 (dk_at dksX3_sum_4 0 rfl rfl)
theorem dX3_sum_93 : decode cX3_sum 93 = .ok (.lload_n 2, 1) := dk_32 (dk_at dksX3_sum_4 3 rfl rfl)
theorem dX3_sum_94 : decode cX3_sum 94 = .ok (.lreturn, 1) := dk_173 (dk_at dksX3_sum_4 4 rfl rfl)
theorem dX3_sum_95 : decode cX3_sum 95 = .ok (.aload_n 0, 1) := dk_42 (dk_at dksX3_sum_4 5 rfl rfl)
theorem dX3_sum_96 : decode cX3_sum 96 = .ok (.getfield 251, 3) := dk_180 0 251 (dk_at dksX3_sum_4 6 rfl rfl)
theorem dX3_sum_99 : decode cX3_sum 99 = .ok (.lreturn, 1) := dk_173 (dk_at dksX3_sum_4 9 rfl rfl)
theorem dX3_sum_100 : decode cX3_sum 100 = .ok (.iconst 0, 1) := dk_3 (dk_at dksX3_sum_4 10 rfl rfl)
theorem dX3_sum_101 : decode cX3_sum 101 = .ok (.istore 4, 2) := dk_54 4 (dk_at dksX3_sum_4 11 rfl rfl)
theorem dX3_sum_103 : decode cX3_sum 103 = .ok (.iload 4, 2) := dk_21 4 (dk_at dksX3_sum_4 13 rfl rfl)
theorem dX3_sum_105 : decode cX3_sum 105 = .ok (.aload_n 0, 1) := dk_42 (dk_at dksX3_sum_4 15 rfl rfl)
theorem dX3_sum_106 : decode cX3_sum 106 = .ok (.getfield 202, 3) := dk_180 0 202 (dk_at dksX3_sum_4 16 rfl rfl)
theorem dX3_sum_109 : decode cX3_sum 109 = .ok (.if_icmp .ge 20, 3) := dk_162 0 20 (dk_at dksX3_sum_4 19 rfl rfl)
theorem dX3_sum_112 : decode cX3_sum 112 = .ok (.lload_n 2, 1) := dk_32 (dk_at dksX3_sum_4 22 rfl rfl)
theorem dX3_sum_113 : decode cX3_sum 113 = .ok (.aload_n 0, 1) := dk_42 (dk_at dksX3_sum_4 23 rfl rfl)
theorem dX3_sum_114 : decode cX3_sum 114 = .ok (.getfield 77, 3) := dk_180 0 77 (dk_at dksX3_sum_5 0 rfl rfl)
theorem dX3_sum_117 : decode cX3_sum 117 = .ok (.iload 4, 2) := dk_21 4 (dk_at dksX3_sum_5 3 rfl rfl)
theorem dX3_sum_119 : decode cX3_sum 119 = .ok (.iaload, 1) := dk_46 (dk_at dksX3_sum_5 5 rfl rfl)
theorem dX3_sum_120 : decode cX3_sum 120 = .ok (.i2l, 1) := dk_133 (dk_at dksX3_sum_5 6 rfl rfl)
theorem dX3_sum_121 : decode cX3_sum 121 = .ok (.ladd, 1) := dk_97 (dk_at dksX3_sum_5 7 rfl rfl)
theorem dX3_sum_122 : decode cX3_sum 122 = .ok (.lstore_n 2, 1) := dk_65 (dk_at dksX3_sum_5 8 rfl rfl)
theorem dX3_sum_123 : decode cX3_sum 123 = .ok (.iinc 4 1, 3) := dk_132 4 1 (dk_at dksX3_sum_5 9 rfl rfl)
theorem dX3_sum_126 : decode cX3_sum 126 = .ok (.goto (-23), 3) := dk_167 255 233 (dk_at dksX3_sum_5 12 rfl rfl)
theorem dX3_sum_129 : decode cX3_sum 129 = .ok (.lload_n 2, 1) := dk_32 (dk_at dksX3_sum_5 15 rfl rfl)
theorem dX3_sum_130 : decode cX3_sum 130 = .ok (.lreturn, 1) := dk_173 (dk_at dksX3_sum_5 16 rfl rfl)
theorem dX3_sum_131 : decode cX3_sum 131 = .ok (.ldc2_w 313, 3) := dk_20 1 57 (dk_at dksX3_sum_5 17 rfl rfl)
theorem dX3_sum_134 : decode cX3_sum 134 = .ok (.lreturn, 1) := dk_173 (dk_at dksX3_sum_5 20 rfl rfl)
def dkwX3_count_8 : List UInt8 := [184, 1, 63, 96, 61, 132, 3, 1, 167, 255, 216, 28, 172, 42, 180, 1, 85, 172, 2, 172]
abbrev dktX3_count_8 : List UInt8 := dkwX3_count_8 ++ []
def dkwX3_count_7 : List UInt8 := [42, 180, 0, 25, 29, 51, 153, 0, 16, 42, 180, 0, 32, 29, 51, 154, 0, 7, 4, 167, 0, 4, 3]
abbrev dktX3_count_7 : List UInt8 := dkwX3_count_7 ++ dktX3_count_8
def dkwX3_count_6 : List UInt8 := [184, 1, 63, 96, 61, 132, 3, 1, 167, 255, 233, 28, 172, 3, 62, 29, 42, 180, 0, 191, 162, 0, 38, 28]
abbrev dktX3_count_6 : List UInt8 := dkwX3_count_6 ++ dktX3_count_7
def dkwX3_count_5 : List UInt8 := [172, 42, 180, 1, 82, 172, 3, 62, 29, 42, 180, 1, 82, 162, 0, 21, 28, 42, 180, 0, 156, 29, 51]
abbrev dktX3_count_5 : List UInt8 := dkwX3_count_5 ++ dktX3_count_6
def dkwX3_count_4 : List UInt8 := [3, 182, 0, 205, 172, 42, 180, 1, 1, 172, 42, 180, 1, 39, 172, 42, 180, 1, 163, 172, 42, 180, 1, 79]
abbrev dktX3_count_4 : List UInt8 := dkwX3_count_4 ++ dktX3_count_5
def dkwX3_count_3 : List UInt8 := [162, 0, 21, 28, 42, 180, 0, 25, 29, 51, 184, 1, 63, 96, 61, 132, 3, 1, 167, 255, 233, 28, 172, 42]
abbrev dktX3_count_3 : List UInt8 := dkwX3_count_3 ++ dktX3_count_4
def dkwX3_count_2 : List UInt8 := [42, 180, 0, 212, 172, 42, 180, 0, 191, 172, 42, 180, 0, 202, 172, 3, 62, 29, 42, 180, 0, 191]
abbrev dktX3_count_2 : List UInt8 := dkwX3_count_2 ++ dktX3_count_3
def dkwX3_count_1 : List UInt8 := [170, 0, 0, 0, 223, 0, 0, 0, 0, 0, 0, 0, 12, 0, 0, 0, 65, 0, 0, 0, 70, 0, 0, 0, 75, 0, 0, 0, 80, 0, 0, 0, 110, 0, 0, 0, 116, 0, 0, 0, 121, 0, 0, 0, 126, 0, 0, 0, 131, 0, 0, 0, 136, 0, 0, 0, 141, 0, 0, 0, 171, 0, 0, 0, 218]
abbrev dktX3_count_1 : List UInt8 := dkwX3_count_1 ++ dktX3_count_2
def dkwX3_count_0 : List UInt8 := [3, 61, 27]
abbrev dktX3_count_0 : List UInt8 := dkwX3_count_0 ++ dktX3_count_1
theorem dksX3_count_0 : cX3_count.data.toList.drop 0 = dktX3_count_0 := by decide +kernel
theorem dksX3_count_1 : cX3_count.data.toList.drop 3 = dktX3_count_1 := dk_seg dksX3_count_0 3 rfl rfl
theorem dksX3_count_2 : cX3_count.data.toList.drop 68 = dktX3_count_2 := dk_seg dksX3_count_1 65 rfl rfl
theorem dksX3_count_3 : cX3_count.data.toList.drop 90 = dktX3_count_3 := dk_seg dksX3_count_2 22 rfl rfl
theorem dksX3_count_4 : cX3_count.data.toList.drop 114 = dktX3_count_4 := dk_seg dksX3_count_3 24 rfl rfl
theorem dksX3_count_5 : cX3_count.data.toList.drop 138 = dktX3_count_5 := dk_seg dksX3_count_4 24 rfl rfl
theorem dksX3_count_6 : cX3_count.data.toList.drop 161 = dktX3_count_6 := dk_seg dksX3_count_5 23 rfl rfl
theorem dksX3_count_7 : cX3_count.data.toList.drop 185 = dktX3_count_7 := dk_seg dksX3_count_6 24 rfl rfl
theorem dksX3_count_8 : cX3_count.data.toList.drop 208 = dktX3_count_8 := dk_seg dksX3_count_7 23 rfl rfl
theorem dX3_count_0 : decode cX3_count 0 = .ok (.iconst 0, 1) := dk_3 (dk_at dksX3_count_0 0 rfl rfl)
theorem dX3_count_1 : decode cX3_count 1 = .ok (.istore_n 2, 1) := dk_61 (dk_at dksX3_count_0 1 rfl rfl)
theorem dX3_count_2 : decode cX3_count 2 = .ok (.iload_n 1, 1) := dk_27 (dk_at dksX3_count_0 2 rfl rfl)
theorem dX3_count_3 : decode cX3_count 3 = .ok (.tableswitch 223 0 12 #[65, 70, 75, 80, 110, 116, 121, 126, 131, 136, 141, 171, 218], 65) := by decide +kernel
theorem dX3_count_68 : decode cX3_count 68 = .ok (.aload_n 0, 1) := dk_42 (dk_at dksX3_count_2 0 rfl rfl)
theorem dX3_count_69 : decode cX3_count 69 = .ok (.getfield 212, 3) := dk_180 0 212 (dk_at dksX3_count_2 1 rfl rfl)
theorem dX3_count_72 : decode cX3_count 72 = .ok (.ireturn, 1) := dk_172 (dk_at dksX3_count_2 4 rfl rfl)
theorem dX3_count_73 : decode cX3_count 73 = .ok (.aload_n 0, 1) := dk_42 (dk_at dksX3_count_2 5 rfl rfl)
theorem dX3_count_74 : decode cX3_count 74 = .ok (.getfield 191, 3) := dk_180 0 191 (dk_at dksX3_count_2 6 rfl rfl)
theorem dX3_count_77 : decode cX3_count 77 = .ok (.ireturn, 1) := dk_172 (dk_at dksX3_count_2 9 rfl rfl)
theorem dX3_count_78 : decode cX3_count 78 = .ok (.aload_n 0, 1) := dk_42 (dk_at dksX3_count_2 10 rfl rfl)
theorem dX3_count_79 : decode cX3_count 79 = .ok (.getfield 202, 3) := dk_180 0 202 (dk_at dksX3_count_2 11 rfl rfl)
theorem dX3_count_82 : decode cX3_count 82 = .ok (.ireturn, 1) := dk_172 (dk_at dksX3_count_2 14 rfl rfl)
theorem dX3_count_83 : decode cX3_count 83 = .ok (.iconst 0, 1) := dk_3 (dk_at dksX3_count_2 15 rfl rfl)
theorem dX3_count_84 : decode cX3_count 84 = .ok (.istore_n 3, 1) := dk_62 (dk_at dksX3_count_2 16 rfl rfl)
theorem dX3_count_85 : decode cX3_count 85 = .ok (.iload_n 3, 1) := dk_29 (dk_at dksX3_count_2 17 rfl rfl)
theorem dX3_count_86 : decode cX3_count 86 = .ok (.aload_n 0, 1) := dk_42 (dk_at dksX3_count_2 18 rfl rfl)
theorem dX3_count_87 : decode cX3_count 87 = .ok (.getfield 191, 3) := dk_180 0 191 (dk_at dksX3_count_2 19 rfl rfl)
theorem dX3_count_90 : decode cX3_count 90 = .ok (.if_icmp .ge 21, 3) := dk_162 0 21 (dk_at dksX3_count_3 0 rfl rfl)
theorem dX3_count_93 : decode cX3_count 93 = .ok (.iload_n 2, 1) := dk_28 (dk_at dksX3_count_3 3 rfl rfl)
theorem dX3_count_94 : decode cX3_count 94 = .ok (.aload_n 0, 1) := dk_42 (dk_at dksX3_count_3 4 rfl rfl)
theorem dX3_count_95 : decode cX3_count 95 = .ok (.getfield 25, 3) := dk_180 0 25 (dk_at dksX3_count_3 5 rfl rfl)
theorem dX3_count_98 : decode cX3_count 98 = .ok (.iload_n 3, 1) := dk_29 (dk_at dksX3_count_3 8 rfl rfl)
theorem dX3_count_99 : decode cX3_count 99 = .ok (.baload, 1) := dk_51 (dk_at dksX3_count_3 9 rfl rfl)
theorem dX3_count_100 : decode cX3_count 100 = .ok (.invokestatic 319, 3) := dk_184 1 63 (dk_at dksX3_count_3 10 rfl rfl)
theorem dX3_count_103 : decode cX3_count 103 = .ok (.iadd, 1) := dk_96 (dk_at dksX3_count_3 13 rfl rfl)
theorem dX3_count_104 : decode cX3_count 104 = .ok (.istore_n 2, 1) := dk_61 (dk_at dksX3_count_3 14 rfl rfl)
theorem dX3_count_105 : decode cX3_count 105 = .ok (.iinc 3 1, 3) := dk_132 3 1 (dk_at dksX3_count_3 15 rfl rfl)
theorem dX3_count_108 : decode cX3_count 108 = .ok (.goto (-23), 3) := dk_167 255 233 (dk_at dksX3_count_3 18 rfl rfl)
theorem dX3_count_111 : decode cX3_count 111 = .ok (.iload_n 2, 1) := dk_28 (dk_at dksX3_count_3 21 rfl rfl)
theorem dX3_count_112 : decode cX3_count 112 = .ok (.ireturn, 1) := dk_172 (dk_at dksX3_count_3 22 rfl rfl)
theorem dX3_count_113 : decode cX3_count 113 = .ok (.aload_n 0, 1) := dk_42 (dk_at dksX3_count_3 23 rfl rfl)
theorem dX3_count_114 : decode cX3_count 114 = .ok (.iconst 0, 1) := dk_3 (dk_at dksX3_count_4 0 rfl rfl)
theorem dX3_count_115 : decode cX3_count 115 = .ok (.invokevirtual 205, 3) := dk_182 0 205 (dk_at dksX3_count_4 1 rfl rfl)
theorem dX3_count_118 : decode cX3_count 118 = .ok (.ireturn, 1) := dk_172 (dk_at dksX3_count_4 4 rfl rfl)
theorem dX3_count_119 : decode cX3_count 119 = .ok (.aload_n 0, 1) := dk_42 (dk_at dksX3_count_4 5 rfl rfl)
theorem dX3_count_120 : decode cX3_count 120 = .ok (.getfield 257, 3) := dk_180 1 1 (dk_at dksX3_count_4 6 rfl rfl)
theorem dX3_count_123 : decode cX3_count 123 = .ok (.ireturn, 1) := dk_172 (dk_at dksX3_count_4 9 rfl rfl)
theorem dX3_count_124 : decode cX3_count 124 = .ok (.aload_n 0, 1) := dk_42 (dk_at dksX3_count_4 10 rfl rfl)
theorem dX3_count_125 : decode cX3_count 125 = .ok (.getfield 295, 3) := dk_180 1 39 (dk_at dksX3_count_4 11 rfl rfl)
theorem dX3_count_128 : decode cX3_count 128 = .ok (.ireturn, 1) := dk_172 (dk_at dksX3_count_4 14 rfl rfl)
theorem dX3_count_129 : decode cX3_count 129 = .ok (.aload_n 0, 1) := dk_42 (dk_at dksX3_count_4 15 rfl rfl)
theorem dX3_count_130 : decode cX3_count 130 = .ok (.getfield 419, 3) := dk_180 1 163 (dk_at dksX3_count_4 16 rfl rfl)
theorem dX3_count_133 : decode cX3_count 133 = .ok (.ireturn, 1) := dk_172 (dk_at dksX3_count_4 19 rfl rfl)
theorem dX3_count_134 : decode cX3_count 134 = .ok (.aload_n 0, 1) := dk_42 (dk_at dksX3_count_4 20 rfl rfl)
theorem dX3_count_135 : decode cX3_count 135 = .ok (.getfield 335, 3) := dk_180 1 79 (dk_at dksX3_count_4 21 rfl rfl)
theorem dX3_count_138 : decode cX3_count 138 = .ok (.ireturn, 1) := dk_172 (dk_at dksX3_count_5 0 rfl rfl)
theorem dX3_count_139 : decode cX3_count 139 = .ok (.aload_n 0, 1) := dk_42 (dk_at dksX3_count_5 1 rfl rfl)
theorem dX3_count_140 : decode cX3_count 140 = .ok (.getfield 338, 3) := dk_180 1 82 (dk_at dksX3_count_5 2 rfl rfl)
theorem dX3_count_143 : decode cX3_count 143 = .ok (.ireturn, 1) := dk_172 (dk_at dksX3_count_5 5 rfl rfl)
theorem dX3_count_144 : decode cX3_count 144 = .ok (.iconst 0, 1) := dk_3 (dk_at dksX3_count_5 6 rfl rfl)
theorem dX3_count_145 : decode cX3_count 145 = .ok (.istore_n 3, 1) := dk_62 (dk_at dksX3_count_5 7 rfl rfl)
theorem dX3_count_146 : decode cX3_count 146 = .ok (.iload_n 3, 1) := dk_29 (dk_at dksX3_count_5 8 rfl rfl)
theorem dX3_count_147 : decode cX3_count 147 = .ok (.aload_n 0, 1) := dk_42 (dk_at dksX3_count_5 9 rfl rfl)
theorem dX3_count_148 : decode cX3_count 148 = .ok (.getfield 338, 3) := dk_180 1 82 (dk_at dksX3_count_5 10 rfl rfl)
theorem dX3_count_151 : decode cX3_count 151 = .ok (.if_icmp .ge 21, 3) := dk_162 0 21 (dk_at dksX3_count_5 13 rfl rfl)
theorem dX3_count_154 : decode cX3_count 154 = .ok (.iload_n 2, 1) := dk_28 (dk_at dksX3_count_5 16 rfl rfl)
theorem dX3_count_155 : decode cX3_count 155 = .ok (.aload_n 0, 1) := dk_42 (dk_at dksX3_count_5 17 rfl rfl)
theorem dX3_count_156 : decode cX3_count 156 = .ok (.getfield 156, 3) := dk_180 0 156 (dk_at dksX3_count_5 18 rfl rfl)
theorem dX3_count_159 : decode cX3_count 159 = .ok (.iload_n 3, 1) := dk_29 (dk_at dksX3_count_5 21 rfl rfl)
theorem dX3_count_160 : decode cX3_count 160 = .ok (.baload, 1) := dk_51 (dk_at dksX3_count_5 22 rfl rfl)
theorem dX3_count_161 : decode cX3_count 161 = .ok (.invokestatic 319, 3) := dk_184 1 63 (dk_at dksX3_count_6 0 rfl rfl)
theorem dX3_count_164 : decode cX3_count 164 = .ok (.iadd, 1) := dk_96 (dk_at dksX3_count_6 3 rfl rfl)
theorem dX3_count_165 : decode cX3_count 165 = .ok (.istore_n 2, 1) := dk_61 (dk_at dksX3_count_6 4 rfl rfl)
theorem dX3_count_166 : decode cX3_count 166 = .ok (.iinc 3 1, 3) := dk_132 3 1 (dk_at dksX3_count_6 5 rfl rfl)
theorem dX3_count_169 : decode cX3_count 169 = .ok (.goto (-23), 3) := dk_167 255 233 (dk_at dksX3_count_6 8 rfl rfl)
theorem dX3_count_172 : decode cX3_count 172 = .ok (.iload_n 2, 1) := dk_28 (dk_at dksX3_count_6 11 rfl rfl)
theorem dX3_count_173 : decode cX3_count 173 = .ok (.ireturn, 1) := dk_172 (dk_at dksX3_count_6 12 rfl rfl)
theorem dX3_count_174 : decode cX3_count 174 = .ok (.iconst 0, 1) := dk_3 (dk_at dksX3_count_6 13 rfl rfl)
theorem dX3_count_175 : decode cX3_count 175 = .ok (.istore_n 3, 1) := dk_62 (dk_at dksX3_count_6 14 rfl rfl)
theorem dX3_count_176 : decode cX3_count 176 = .ok (.iload_n 3, 1) := dk_29 (dk_at dksX3_count_6 15 rfl rfl)
theorem dX3_count_177 : decode cX3_count 177 = .ok (.aload_n 0, 1) := dk_42 (dk_at dksX3_count_6 16 rfl rfl)
theorem dX3_count_178 : decode cX3_count 178 = .ok (.getfield 191, 3) := dk_180 0 191 (dk_at dksX3_count_6 17 rfl rfl)
theorem dX3_count_181 : decode cX3_count 181 = .ok (.if_icmp .ge 38, 3) := dk_162 0 38 (dk_at dksX3_count_6 20 rfl rfl)
theorem dX3_count_184 : decode cX3_count 184 = .ok (.iload_n 2, 1) := dk_28 (dk_at dksX3_count_6 23 rfl rfl)
theorem dX3_count_185 : decode cX3_count 185 = .ok (.aload_n 0, 1) := dk_42 (dk_at dksX3_count_7 0 rfl rfl)
theorem dX3_count_186 : decode cX3_count 186 = .ok (.getfield 25, 3) := dk_180 0 25 (dk_at dksX3_count_7 1 rfl rfl)
theorem dX3_count_189 : decode cX3_count 189 = .ok (.iload_n 3, 1) := dk_29 (dk_at dksX3_count_7 4 rfl rfl)
theorem dX3_count_190 : decode cX3_count 190 = .ok (.baload, 1) := dk_51 (dk_at dksX3_count_7 5 rfl rfl)
theorem dX3_count_191 : decode cX3_count 191 = .ok (.ifCond .eq 16, 3) := dk_153 0 16 (dk_at dksX3_count_7 6 rfl rfl)
theorem dX3_count_194 : decode cX3_count 194 = .ok (.aload_n 0, 1) := dk_42 (dk_at dksX3_count_7 9 rfl rfl)
theorem dX3_count_195 : decode cX3_count 195 = .ok (.getfield 32, 3) := dk_180 0 32 (dk_at dksX3_count_7 10 rfl rfl)
theorem dX3_count_198 : decode cX3_count 198 = .ok (.iload_n 3, 1) := dk_29 (dk_at dksX3_count_7 13 rfl rfl)
theorem dX3_count_199 : decode cX3_count 199 = .ok (.baload, 1) := dk_51 (dk_at dksX3_count_7 14 rfl rfl)
theorem dX3_count_200 : decode cX3_count 200 = .ok (.ifCond .ne 7, 3) := dk_154 0 7 (dk_at dksX3_count_7 15 rfl rfl)
theorem dX3_count_203 : decode cX3_count 203 = .ok (.iconst 1, 1) := dk_4 (dk_at dksX3_count_7 18 rfl rfl)
theorem dX3_count_204 : decode cX3_count 204 = .ok (.goto 4, 3) := dk_167 0 4 (dk_at dksX3_count_7 19 rfl rfl)
theorem dX3_count_207 : decode cX3_count 207 = .ok (.iconst 0, 1) := dk_3 (dk_at dksX3_count_7 22 rfl rfl)
theorem dX3_count_208 : decode cX3_count 208 = .ok (.invokestatic 319, 3) := dk_184 1 63 (dk_at dksX3_count_8 0 rfl rfl)
theorem dX3_count_211 : decode cX3_count 211 = .ok (.iadd, 1) := dk_96 (dk_at dksX3_count_8 3 rfl rfl)
theorem dX3_count_212 : decode cX3_count 212 = .ok (.istore_n 2, 1) := dk_61 (dk_at dksX3_count_8 4 rfl rfl)
theorem dX3_count_213 : decode cX3_count 213 = .ok (.iinc 3 1, 3) := dk_132 3 1 (dk_at dksX3_count_8 5 rfl rfl)
theorem dX3_count_216 : decode cX3_count 216 = .ok (.goto (-40), 3) := dk_167 255 216 (dk_at dksX3_count_8 8 rfl rfl)
theorem dX3_count_219 : decode cX3_count 219 = .ok (.iload_n 2, 1) := dk_28 (dk_at dksX3_count_8 11 rfl rfl)
theorem dX3_count_220 : decode cX3_count 220 = .ok (.ireturn, 1) := dk_172 (dk_at dksX3_count_8 12 rfl rfl)
theorem dX3_count_221 : decode cX3_count 221 = .ok (.aload_n 0, 1) := dk_42 (dk_at dksX3_count_8 13 rfl rfl)
theorem dX3_count_222 : decode cX3_count 222 = .ok (.getfield 341, 3) := dk_180 1 85 (dk_at dksX3_count_8 14 rfl rfl)
theorem dX3_count_225 : decode cX3_count 225 = .ok (.ireturn, 1) := dk_172 (dk_at dksX3_count_8 17 rfl rfl)
theorem dX3_count_226 : decode cX3_count 226 = .ok (.iconst (-1), 1) := dk_2 (dk_at dksX3_count_8 18 rfl rfl)
theorem dX3_count_227 : decode cX3_count 227 = .ok (.ireturn, 1) := dk_172 (dk_at dksX3_count_8 19 rfl rfl)
