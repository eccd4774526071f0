/-! decode rows -/
set_option maxRecDepth 100000
def dkwX0_init_6 : List UInt8 := [16, 10, 162, 0, 17, 42, 180, 0, 13, 27, 16, 20, 79, 132, 1, 1, 167, 255, 239, 177]
abbrev dktX0_init_6 : List UInt8 := dkwX0_init_6 ++ []
def dkwX0_init_5 : List UInt8 := [187, 0, 17, 89, 183, 0, 19, 181, 0, 71, 42, 187, 0, 17, 89, 183, 0, 19, 181, 0, 74, 3, 60, 27]
abbrev dktX0_init_5 : List UInt8 := dkwX0_init_5 ++ dktX0_init_6
def dkwX0_init_4 : List UInt8 := [181, 0, 56, 42, 16, 30, 188, 10, 181, 0, 59, 42, 187, 0, 62, 89, 42, 183, 0, 64, 181, 0, 67, 42]
abbrev dktX0_init_4 : List UInt8 := dkwX0_init_4 ++ dktX0_init_5
def dkwX0_init_3 : List UInt8 := [181, 0, 43, 42, 18, 47, 181, 0, 49, 42, 16, 10, 188, 10, 181, 0, 53, 42, 16, 100, 188, 10]
abbrev dktX0_init_3 : List UInt8 := dkwX0_init_3 ++ dktX0_init_4
def dkwX0_init_2 : List UInt8 := [187, 0, 30, 89, 3, 183, 0, 32, 181, 0, 35, 42, 17, 2, 188, 188, 8, 181, 0, 39, 42, 2]
abbrev dktX0_init_2 : List UInt8 := dkwX0_init_2 ++ dktX0_init_3
def dkwX0_init_1 : List UInt8 := [187, 0, 17, 89, 183, 0, 19, 181, 0, 24, 42, 187, 0, 17, 89, 183, 0, 19, 181, 0, 27, 42]
abbrev dktX0_init_1 : List UInt8 := dkwX0_init_1 ++ dktX0_init_2
def dkwX0_init_0 : List UInt8 := [42, 183, 0, 7, 42, 16, 10, 188, 10, 181, 0, 13, 42, 187, 0, 17, 89, 183, 0, 19, 181, 0, 20, 42]
abbrev dktX0_init_0 : List UInt8 := dkwX0_init_0 ++ dktX0_init_1
theorem dksX0_init_0 : cX0_init.data.toList.drop 0 = dktX0_init_0 := by decide +kernel
theorem dksX0_init_1 : cX0_init.data.toList.drop 24 = dktX0_init_1 := dk_seg dksX0_init_0 24 rfl rfl
theorem dksX0_init_2 : cX0_init.data.toList.drop 46 = dktX0_init_2 := dk_seg dksX0_init_1 22 rfl rfl
theorem dksX0_init_3 : cX0_init.data.toList.drop 68 = dktX0_init_3 := dk_seg dksX0_init_2 22 rfl rfl
theorem dksX0_init_4 : cX0_init.data.toList.drop 90 = dktX0_init_4 := dk_seg dksX0_init_3 22 rfl rfl
theorem dksX0_init_5 : cX0_init.data.toList.drop 114 = dktX0_init_5 := dk_seg dksX0_init_4 24 rfl rfl
theorem dksX0_init_6 : cX0_init.data.toList.drop 138 = dktX0_init_6 := dk_seg dksX0_init_5 24 rfl rfl
theorem dX0_init_0 : decode cX0_init 0 = .ok (.aload_n 0, 1) := dk_42 (dk_at dksX0_init_0 0 rfl rfl)
theorem dX0_init_1 : decode cX0_init 1 = .ok (.invokespecial 7, 3) := dk_183 0 7 (dk_at dksX0_init_0 1 rfl rfl)
theorem dX0_init_4 : decode cX0_init 4 = .ok (.aload_n 0, 1) := dk_42 (dk_at dksX0_init_0 4 rfl rfl)
theorem dX0_init_5 : decode cX0_init 5 = .ok (.bipush 10, 2) := dk_16 10 (dk_at dksX0_init_0 5 rfl rfl)
theorem dX0_init_7 : decode cX0_init 7 = .ok (.newarray .int, 2) := dk_188_10 (dk_at dksX0_init_0 7 rfl rfl)
theorem dX0_init_9 : decode cX0_init 9 = .ok (.putfield 13, 3) := dk_181 0 13 (dk_at dksX0_init_0 9 rfl rfl)
theorem dX0_init_12 : decode cX0_init 12 = .ok (.aload_n 0, 1) := dk_42 (dk_at dksX0_init_0 12 rfl rfl)
theorem dX0_init_13 : decode cX0_init 13 = .ok (.new 17, 3) := dk_187 0 17 (dk_at dksX0_init_0 13 rfl rfl)
theorem dX0_init_16 : decode cX0_init 16 = .ok (.dup, 1) := dk_89 (dk_at dksX0_init_0 16 rfl rfl)
theorem dX0_init_17 : decode cX0_init 17 = .ok (.invokespecial 19, 3) := dk_183 0 19 (dk_at dksX0_init_0 17 rfl rfl)
theorem dX0_init_20 : decode cX0_init 20 = .ok (.putfield 20, 3) := dk_181 0 20 (dk_at dksX0_init_0 20 rfl rfl)
theorem dX0_init_23 : decode cX0_init 23 = .ok (.aload_n 0, 1) := dk_42 (dk_at dksX0_init_0 23 rfl rfl)
theorem dX0_init_24 : decode cX0_init 24 = .ok (.new 17, 3) := dk_187 0 17 (dk_at dksX0_init_1 0 rfl rfl)
theorem dX0_init_27 : decode cX0_init 27 = .ok (.dup, 1) := dk_89 (dk_at dksX0_init_1 3 rfl rfl)
theorem dX0_init_28 : decode cX0_init 28 = .ok (.invokespecial 19, 3) := dk_183 0 19 (dk_at dksX0_init_1 4 rfl rfl)
theorem dX0_init_31 : decode cX0_init 31 = .ok (.putfield 24, 3) := dk_181 0 24 (dk_at dksX0_init_1 7 rfl rfl)
theorem dX0_init_34 : decode cX0_init 34 = .ok (.aload_n 0, 1) := dk_42 (dk_at dksX0_init_1 10 rfl rfl)
theorem dX0_init_35 : decode cX0_init 35 = .ok (.new 17, 3) := dk_187 0 17 (dk_at dksX0_init_1 11 rfl rfl)
theorem dX0_init_38 : decode cX0_init 38 = .ok (.dup, 1) := dk_89 (dk_at dksX0_init_1 14 rfl rfl)
theorem dX0_init_39 : decode cX0_init 39 = .ok (.invokespecial 19, 3) := dk_183 0 19 (dk_at dksX0_init_1 15 rfl rfl)
theorem dX0_init_42 : decode cX0_init 42 = .ok (.putfield 27, 3) := dk_181 0 27 (dk_at dksX0_init_1 18 rfl rfl)
theorem dX0_init_45 : decode cX0_init 45 = .ok (.aload_n 0, 1) := dk_42 (dk_at dksX0_init_1 21 rfl rfl)
theorem dX0_init_46 : decode cX0_init 46 = .ok (.new 30, 3) := dk_187 0 30 (dk_at dksX0_init_2 0 rfl rfl)
theorem dX0_init_49 : decode cX0_init 49 = .ok (.dup, 1) := dk_89 (dk_at dksX0_init_2 3 rfl rfl)
theorem dX0_init_50 : decode cX0_init 50 = .ok (.iconst 0, 1) := dk_3 (dk_at dksX0_init_2 4 rfl rfl)
theorem dX0_init_51 : decode cX0_init 51 = .ok (.invokespecial 32, 3) := dk_183 0 32 (dk_at dksX0_init_2 5 rfl rfl)
theorem dX0_init_54 : decode cX0_init 54 = .ok (.putfield 35, 3) := dk_181 0 35 (dk_at dksX0_init_2 8 rfl rfl)
theorem dX0_init_57 : decode cX0_init 57 = .ok (.aload_n 0, 1) := dk_42 (dk_at dksX0_init_2 11 rfl rfl)
theorem dX0_init_58 : decode cX0_init 58 = .ok (.sipush 700, 3) := dk_17 2 188 (dk_at dksX0_init_2 12 rfl rfl)
theorem dX0_init_61 : decode cX0_init 61 = .ok (.newarray .byte, 2) := dk_188_8 (dk_at dksX0_init_2 15 rfl rfl)
theorem dX0_init_63 : decode cX0_init 63 = .ok (.putfield 39, 3) := dk_181 0 39 (dk_at dksX0_init_2 17 rfl rfl)
theorem dX0_init_66 : decode cX0_init 66 = .ok (.aload_n 0, 1) := dk_42 (dk_at dksX0_init_2 20 rfl rfl)
theorem dX0_init_67 : decode cX0_init 67 = .ok (.iconst (-1), 1) := dk_2 (dk_at dksX0_init_2 21 rfl rfl)
theorem dX0_init_68 : decode cX0_init 68 = .ok (.putfield 43, 3) := dk_181 0 43 (dk_at dksX0_init_3 0 rfl rfl)
theorem dX0_init_71 : decode cX0_init 71 = .ok (.aload_n 0, 1) := dk_42 (dk_at dksX0_init_3 3 rfl rfl)
theorem dX0_init_72 : decode cX0_init 72 = .ok (.ldc 47, 2) := dk_18 47 (dk_at dksX0_init_3 4 rfl rfl)
theorem dX0_init_74 : decode cX0_init 74 = .ok (.putfield 49, 3) := dk_181 0 49 (dk_at dksX0_init_3 6 rfl rfl)
theorem dX0_init_77 : decode cX0_init 77 = .ok (.aload_n 0, 1) := dk_42 (dk_at dksX0_init_3 9 rfl rfl)
theorem dX0_init_78 : decode cX0_init 78 = .ok (.bipush 10, 2) := dk_16 10 (dk_at dksX0_init_3 10 rfl rfl)
theorem dX0_init_80 : decode cX0_init 80 = .ok (.newarray .int, 2) := dk_188_10 (dk_at dksX0_init_3 12 rfl rfl)
theorem dX0_init_82 : decode cX0_init 82 = .ok (.putfield 53, 3) := dk_181 0 53 (dk_at dksX0_init_3 14 rfl rfl)
theorem dX0_init_85 : decode cX0_init 85 = .ok (.aload_n 0, 1) := dk_42 (dk_at dksX0_init_3 17 rfl rfl)
theorem dX0_init_86 : decode cX0_init 86 = .ok (.bipush 100, 2) := dk_16 100 (dk_at dksX0_init_3 18 rfl rfl)
theorem dX0_init_88 : decode cX0_init 88 = .ok (.newarray .int, 2) := dk_188_10 (dk_at dksX0_init_3 20 rfl rfl)
theorem dX0_init_90 : decode cX0_init 90 = .ok (.putfield 56, 3) := dk_181 0 56 (dk_at dksX0_init_4 0 rfl rfl)
theorem dX0_init_93 : decode cX0_init 93 = .ok (.aload_n 0, 1) := dk_42 (dk_at dksX0_init_4 3 rfl rfl)
theorem dX0_init_94 : decode cX0_init 94 = .ok (.bipush 30, 2) := dk_16 30 (dk_at dksX0_init_4 4 rfl rfl)
theorem dX0_init_96 : decode cX0_init 96 = .ok (.newarray .int, 2) := dk_188_10 (dk_at dksX0_init_4 6 rfl rfl)
theorem dX0_init_98 : decode cX0_init 98 = .ok (.putfield 59, 3) := dk_181 0 59 (dk_at dksX0_init_4 8 rfl rfl)
theorem dX0_init_101 : decode cX0_init 101 = .ok (.aload_n 0, 1) := dk_42 (dk_at dksX0_init_4 11 rfl rfl)
theorem dX0_init_102 : decode cX0_init 102 = .ok (.new 62, 3) := dk_187 0 62 (dk_at dksX0_init_4 12 rfl rfl)
theorem dX0_init_105 : decode cX0_init 105 = .ok (.dup, 1) := dk_89 (dk_at dksX0_init_4 15 rfl rfl)
theorem dX0_init_106 : decode cX0_init 106 = .ok (.aload_n 0, 1) := dk_42 (dk_at dksX0_init_4 16 rfl rfl)
theorem dX0_init_107 : decode cX0_init 107 = .ok (.invokespecial 64, 3) := dk_183 0 64 (dk_at dksX0_init_4 17 rfl rfl)
theorem dX0_init_110 : decode cX0_init 110 = .ok (.putfield 67, 3) := dk_181 0 67 (dk_at dksX0_init_4 20 rfl rfl)
theorem dX0_init_113 : decode cX0_init 113 = .ok (.aload_n 0, 1) := dk_42 (dk_at dksX0_init_4 23 rfl rfl)
theorem dX0_init_114 : decode cX0_init 114 = .ok (.new 17, 3) := dk_187 0 17 (dk_at dksX0_init_5 0 rfl rfl)
theorem dX0_init_117 : decode cX0_init 117 = .ok (.dup, 1) := dk_89 (dk_at dksX0_init_5 3 rfl rfl)
theorem dX0_init_118 : decode cX0_init 118 = .ok (.invokespecial 19, 3) := dk_183 0 19 (dk_at dksX0_init_5 4 rfl rfl)
theorem dX0_init_121 : decode cX0_init 121 = .ok (.putfield 71, 3) := dk_181 0 71 (dk_at dksX0_init_5 7 rfl rfl)
theorem dX0_init_124 : decode cX0_init 124 = .ok (.aload_n 0, 1) := dk_42 (dk_at dksX0_init_5 10 rfl rfl)
theorem dX0_init_125 : decode cX0_init 125 = .ok (.new 17, 3) := dk_187 0 17 (dk_at dksX0_init_5 11 rfl rfl)
theorem dX0_init_128 : decode cX0_init 128 = .ok (.dup, 1) := dk_89 (dk_at dksX0_init_5 14 rfl rfl)
theorem dX0_init_129 : decode cX0_init 129 = .ok (.invokespecial 19, 3) := dk_183 0 19 (dk_at dksX0_init_5 15 rfl rfl)
theorem dX0_init_132 : decode cX0_init 132 = .ok (.putfield 74, 3) := dk_181 0 74 (dk_at dksX0_init_5 18 rfl rfl)
theorem dX0_init_135 : decode cX0_init 135 = .ok (.iconst 0, 1) := dk_3 (dk_at dksX0_init_5 21 rfl rfl)
theorem dX0_init_136 : decode cX0_init 136 = .ok (.istore_n 1, 1) := dk_60 (dk_at dksX0_init_5 22 rfl rfl)
theorem dX0_init_137 : decode cX0_init 137 = .ok (.iload_n 1, 1) := dk_27 (dk_at dksX0_init_5 23 rfl rfl)
theorem dX0_init_138 : decode cX0_init 138 = .ok (.bipush 10, 2) := dk_16 10 (dk_at dksX0_init_6 0 rfl rfl)
theorem dX0_init_140 : decode cX0_init 140 = .ok (.if_icmp .ge 17, 3) := dk_162 0 17 (dk_at dksX0_init_6 2 rfl rfl)
theorem dX0_init_143 : decode cX0_init 143 = .ok (.aload_n 0, 1) := dk_42 (dk_at dksX0_init_6 5 rfl rfl)
theorem dX0_init_144 : decode cX0_init 144 = .ok (.getfield 13, 3) := dk_180 0 13 (dk_at dksX0_init_6 6 rfl rfl)
theorem dX0_init_147 : decode cX0_init 147 = .ok (.iload_n 1, 1) := dk_27 (dk_at dksX0_init_6 9 rfl rfl)
theorem dX0_init_148 : decode cX0_init 148 = .ok (.bipush 20, 2) := dk_16 20 (dk_at dksX0_init_6 10 rfl rfl)
theorem dX0_init_150 : decode cX0_init 150 = .ok (.iastore, 1) := dk_79 (dk_at dksX0_init_6 12 rfl rfl)
theorem dX0_init_151 : decode cX0_init 151 = .ok (.iinc 1 1, 3) := dk_132 1 1 (dk_at dksX0_init_6 13 rfl rfl)
theorem dX0_init_154 : decode cX0_init 154 = .ok (.goto (-17), 3) := dk_167 255 239 (dk_at dksX0_init_6 16 rfl rfl)
theorem dX0_init_157 : decode cX0_init 157 = .ok (.return_, 1) := dk_177 (dk_at dksX0_init_6 19 rfl rfl)
def dkwX0_corner_4 : List UInt8 := [172]
abbrev dktX0_corner_4 : List UInt8 := dkwX0_corner_4 ++ []
def dkwX0_corner_3 : List UInt8 := [182, 0, 77, 27, 28, 29, 21, 4, 183, 0, 97, 182, 0, 100, 87, 42, 180, 0, 20, 182, 0, 77, 4, 100]
abbrev dktX0_corner_3 : List UInt8 := dkwX0_corner_3 ++ dktX0_corner_4
def dkwX0_corner_2 : List UInt8 := [182, 0, 77, 16, 12, 160, 0, 5, 2, 172, 42, 180, 0, 20, 187, 0, 85, 89, 42, 180, 0, 20]
abbrev dktX0_corner_2 : List UInt8 := dkwX0_corner_2 ++ dktX0_corner_3
def dkwX0_corner_1 : List UInt8 := [16, 9, 184, 0, 3, 153, 0, 27, 21, 4, 3, 17, 1, 244, 184, 0, 3, 153, 0, 15, 42, 180, 0, 20]
abbrev dktX0_corner_1 : List UInt8 := dkwX0_corner_1 ++ dktX0_corner_2
def dkwX0_corner_0 : List UInt8 := [27, 4, 16, 100, 184, 0, 3, 153, 0, 48, 28, 4, 17, 1, 244, 184, 0, 3, 153, 0, 37, 29, 3]
abbrev dktX0_corner_0 : List UInt8 := dkwX0_corner_0 ++ dktX0_corner_1
theorem dksX0_corner_0 : cX0_corner.data.toList.drop 0 = dktX0_corner_0 := by decide +kernel
theorem dksX0_corner_1 : cX0_corner.data.toList.drop 23 = dktX0_corner_1 := dk_seg dksX0_corner_0 23 rfl rfl
theorem dksX0_corner_2 : cX0_corner.data.toList.drop 47 = dktX0_corner_2 := dk_seg dksX0_corner_1 24 rfl rfl
theorem dksX0_corner_3 : cX0_corner.data.toList.drop 69 = dktX0_corner_3 := dk_seg dksX0_corner_2 22 rfl rfl
theorem dksX0_corner_4 : cX0_corner.data.toList.drop 93 = dktX0_corner_4 := dk_seg dksX0_corner_3 24 rfl rfl
theorem dX0_corner_0 : decode cX0_corner 0 = .ok (.iload_n 1, 1) := dk_27 (dk_at dksX0_corner_0 0 rfl rfl)
theorem dX0_corner_1 : decode cX0_corner 1 = .ok (.iconst 1, 1) := dk_4 (dk_at dksX0_corner_0 1 rfl rfl)
theorem dX0_corner_2 : decode cX0_corner 2 = .ok (.bipush 100, 2) := dk_16 100 (dk_at dksX0_corner_0 2 rfl rfl)
theorem dX0_corner_4 : decode cX0_corner 4 = .ok (.invokestatic 3, 3) := dk_184 0 3 (dk_at dksX0_corner_0 4 rfl rfl)
theorem dX0_corner_7 : decode cX0_corner 7 = .ok (.ifCond .eq 48, 3) := dk_153 0 48 (dk_at dksX0_corner_0 7 rfl rfl)
theorem dX0_corner_10 : decode cX0_corner 10 = .ok (.iload_n 2, 1) := dk_28 (dk_at dksX0_corner_0 10 rfl rfl)
theorem dX0_corner_11 : decode cX0_corner 11 = .ok (.iconst 1, 1) := dk_4 (dk_at dksX0_corner_0 11 rfl rfl)
theorem dX0_corner_12 : decode cX0_corner 12 = .ok (.sipush 500, 3) := dk_17 1 244 (dk_at dksX0_corner_0 12 rfl rfl)
theorem dX0_corner_15 : decode cX0_corner 15 = .ok (.invokestatic 3, 3) := dk_184 0 3 (dk_at dksX0_corner_0 15 rfl rfl)
theorem dX0_corner_18 : decode cX0_corner 18 = .ok (.ifCond .eq 37, 3) := dk_153 0 37 (dk_at dksX0_corner_0 18 rfl rfl)
theorem dX0_corner_21 : decode cX0_corner 21 = .ok (.iload_n 3, 1) := dk_29 (dk_at dksX0_corner_0 21 rfl rfl)
theorem dX0_corner_22 : decode cX0_corner 22 = .ok (.iconst 0, 1) := dk_3 (dk_at dksX0_corner_0 22 rfl rfl)
theorem dX0_corner_23 : decode cX0_corner 23 = .ok (.bipush 9, 2) := dk_16 9 (dk_at dksX0_corner_1 0 rfl rfl)
theorem dX0_corner_25 : decode cX0_corner 25 = .ok (.invokestatic 3, 3) := dk_184 0 3 (dk_at dksX0_corner_1 2 rfl rfl)
theorem dX0_corner_28 : decode cX0_corner 28 = .ok (.ifCond .eq 27, 3) := dk_153 0 27 (dk_at dksX0_corner_1 5 rfl rfl)
theorem dX0_corner_31 : decode cX0_corner 31 = .ok (.iload 4, 2) := dk_21 4 (dk_at dksX0_corner_1 8 rfl rfl)
theorem dX0_corner_33 : decode cX0_corner 33 = .ok (.iconst 0, 1) := dk_3 (dk_at dksX0_corner_1 10 rfl rfl)
theorem dX0_corner_34 : decode cX0_corner 34 = .ok (.sipush 500, 3) := dk_17 1 244 (dk_at dksX0_corner_1 11 rfl rfl)
theorem dX0_corner_37 : decode cX0_corner 37 = .ok (.invokestatic 3, 3) := dk_184 0 3 (dk_at dksX0_corner_1 14 rfl rfl)
theorem dX0_corner_40 : decode cX0_corner 40 = .ok (.ifCond .eq 15, 3) := dk_153 0 15 (dk_at dksX0_corner_1 17 rfl rfl)
theorem dX0_corner_43 : decode cX0_corner 43 = .ok (.aload_n 0, 1) := dk_42 (dk_at dksX0_corner_1 20 rfl rfl)
theorem dX0_corner_44 : decode cX0_corner 44 = .ok (.getfield 20, 3) := dk_180 0 20 (dk_at dksX0_corner_1 21 rfl rfl)
theorem dX0_corner_47 : decode cX0_corner 47 = .ok (.invokevirtual 77, 3) := dk_182 0 77 (dk_at dksX0_corner_2 0 rfl rfl)
theorem dX0_corner_50 : decode cX0_corner 50 = .ok (.bipush 12, 2) := dk_16 12 (dk_at dksX0_corner_2 3 rfl rfl)
theorem dX0_corner_52 : decode cX0_corner 52 = .ok (.if_icmp .ne 5, 3) := dk_160 0 5 (dk_at dksX0_corner_2 5 rfl rfl)
theorem dX0_corner_55 : decode cX0_corner 55 = .ok (.iconst (-1), 1) := dk_2 (dk_at dksX0_corner_2 8 rfl rfl)
theorem dX0_corner_56 : decode cX0_corner 56 = .ok (.ireturn, 1) := dk_172 (dk_at dksX0_corner_2 9 rfl rfl)
theorem dX0_corner_57 : decode cX0_corner 57 = .ok (.aload_n 0, 1) := dk_42 (dk_at dksX0_corner_2 10 rfl rfl)
theorem dX0_corner_58 : decode cX0_corner 58 = .ok (.getfield 20, 3) := dk_180 0 20 (dk_at dksX0_corner_2 11 rfl rfl)
theorem dX0_corner_61 : decode cX0_corner 61 = .ok (.new 85, 3) := dk_187 0 85 (dk_at dksX0_corner_2 14 rfl rfl)
theorem dX0_corner_64 : decode cX0_corner 64 = .ok (.dup, 1) := dk_89 (dk_at dksX0_corner_2 17 rfl rfl)
theorem dX0_corner_65 : decode cX0_corner 65 = .ok (.aload_n 0, 1) := dk_42 (dk_at dksX0_corner_2 18 rfl rfl)
theorem dX0_corner_66 : decode cX0_corner 66 = .ok (.getfield 20, 3) := dk_180 0 20 (dk_at dksX0_corner_2 19 rfl rfl)
theorem dX0_corner_69 : decode cX0_corner 69 = .ok (.invokevirtual 77, 3) := dk_182 0 77 (dk_at dksX0_corner_3 0 rfl rfl)
theorem dX0_corner_72 : decode cX0_corner 72 = .ok (.iload_n 1, 1) := dk_27 (dk_at dksX0_corner_3 3 rfl rfl)
theorem dX0_corner_73 : decode cX0_corner 73 = .ok (.iload_n 2, 1) := dk_28 (dk_at dksX0_corner_3 4 rfl rfl)
theorem dX0_corner_74 : decode cX0_corner 74 = .ok (.iload_n 3, 1) := dk_29 (dk_at dksX0_corner_3 5 rfl rfl)
theorem dX0_corner_75 : decode cX0_corner 75 = .ok (.iload 4, 2) := dk_21 4 (dk_at dksX0_corner_3 6 rfl rfl)
theorem dX0_corner_77 : decode cX0_corner 77 = .ok (.invokespecial 97, 3) := dk_183 0 97 (dk_at dksX0_corner_3 8 rfl rfl)
theorem dX0_corner_80 : decode cX0_corner 80 = .ok (.invokevirtual 100, 3) := dk_182 0 100 (dk_at dksX0_corner_3 11 rfl rfl)
theorem dX0_corner_83 : decode cX0_corner 83 = .ok (.pop, 1) := dk_87 (dk_at dksX0_corner_3 14 rfl rfl)
theorem dX0_corner_84 : decode cX0_corner 84 = .ok (.aload_n 0, 1) := dk_42 (dk_at dksX0_corner_3 15 rfl rfl)
theorem dX0_corner_85 : decode cX0_corner 85 = .ok (.getfield 20, 3) := dk_180 0 20 (dk_at dksX0_corner_3 16 rfl rfl)
theorem dX0_corner_88 : decode cX0_corner 88 = .ok (.invokevirtual 77, 3) := dk_182 0 77 (dk_at dksX0_corner_3 19 rfl rfl)
theorem dX0_corner_91 : decode cX0_corner 91 = .ok (.iconst 1, 1) := dk_4 (dk_at dksX0_corner_3 22 rfl rfl)
theorem dX0_corner_92 : decode cX0_corner 92 = .ok (.isub, 1) := dk_100 (dk_at dksX0_corner_3 23 rfl rfl)
theorem dX0_corner_93 : decode cX0_corner 93 = .ok (.ireturn, 1) := dk_172 (dk_at dksX0_corner_4 0 rfl rfl)
def dkwX0_isIn_0 : List UInt8 := [26, 27, 161, 0, 12, 26, 28, 163, 0, 7, 4, 167, 0, 4, 3, 172]
abbrev dktX0_isIn_0 : List UInt8 := dkwX0_isIn_0 ++ []
theorem dksX0_isIn_0 : cX0_isIn.data.toList.drop 0 = dktX0_isIn_0 := by decide +kernel
theorem dX0_isIn_0 : decode cX0_isIn 0 = .ok (.iload_n 0, 1) := dk_26 (dk_at dksX0_isIn_0 0 rfl rfl)
theorem dX0_isIn_1 : decode cX0_isIn 1 = .ok (.iload_n 1, 1) := dk_27 (dk_at dksX0_isIn_0 1 rfl rfl)
theorem dX0_isIn_2 : decode cX0_isIn 2 = .ok (.if_icmp .lt 12, 3) := dk_161 0 12 (dk_at dksX0_isIn_0 2 rfl rfl)
theorem dX0_isIn_5 : decode cX0_isIn 5 = .ok (.iload_n 0, 1) := dk_26 (dk_at dksX0_isIn_0 5 rfl rfl)
theorem dX0_isIn_6 : decode cX0_isIn 6 = .ok (.iload_n 2, 1) := dk_28 (dk_at dksX0_isIn_0 6 rfl rfl)
theorem dX0_isIn_7 : decode cX0_isIn 7 = .ok (.if_icmp .gt 7, 3) := dk_163 0 7 (dk_at dksX0_isIn_0 7 rfl rfl)
theorem dX0_isIn_10 : decode cX0_isIn 10 = .ok (.iconst 1, 1) := dk_4 (dk_at dksX0_isIn_0 10 rfl rfl)
theorem dX0_isIn_11 : decode cX0_isIn 11 = .ok (.goto 4, 3) := dk_167 0 4 (dk_at dksX0_isIn_0 11 rfl rfl)
theorem dX0_isIn_14 : decode cX0_isIn 14 = .ok (.iconst 0, 1) := dk_3 (dk_at dksX0_isIn_0 14 rfl rfl)
theorem dX0_isIn_15 : decode cX0_isIn 15 = .ok (.ireturn, 1) := dk_172 (dk_at dksX0_isIn_0 15 rfl rfl)
def dkwX0_below_1 : List UInt8 := [163, 0, 5, 3, 172, 42, 180, 0, 20, 27, 182, 0, 81, 192, 0, 85, 28, 181, 0, 104, 4, 172]
abbrev dktX0_below_1 : List UInt8 := dkwX0_below_1 ++ []
def dkwX0_below_0 : List UInt8 := [42, 27, 182, 0, 87, 198, 0, 21, 28, 2, 159, 0, 18, 42, 28, 182, 0, 87, 198, 0, 8, 28, 27]
abbrev dktX0_below_0 : List UInt8 := dkwX0_below_0 ++ dktX0_below_1
theorem dksX0_below_0 : cX0_below.data.toList.drop 0 = dktX0_below_0 := by decide +kernel
theorem dksX0_below_1 : cX0_below.data.toList.drop 23 = dktX0_below_1 := dk_seg dksX0_below_0 23 rfl rfl
theorem dX0_below_0 : decode cX0_below 0 = .ok (.aload_n 0, 1) := dk_42 (dk_at dksX0_below_0 0 rfl rfl)
theorem dX0_below_1 : decode cX0_below 1 = .ok (.iload_n 1, 1) := dk_27 (dk_at dksX0_below_0 1 rfl rfl)
theorem dX0_below_2 : decode cX0_below 2 = .ok (.invokevirtual 87, 3) := dk_182 0 87 (dk_at dksX0_below_0 2 rfl rfl)
theorem dX0_below_5 : decode cX0_below 5 = .ok (.ifnull 21, 3) := dk_198 0 21 (dk_at dksX0_below_0 5 rfl rfl)
theorem dX0_below_8 : decode cX0_below 8 = .ok (.iload_n 2, 1) := dk_28 (dk_at dksX0_below_0 8 rfl rfl)
theorem dX0_below_9 : decode cX0_below 9 = .ok (.iconst (-1), 1) := dk_2 (dk_at dksX0_below_0 9 rfl rfl)
theorem dX0_below_10 : decode cX0_below 10 = .ok (.if_icmp .eq 18, 3) := dk_159 0 18 (dk_at dksX0_below_0 10 rfl rfl)
theorem dX0_below_13 : decode cX0_below 13 = .ok (.aload_n 0, 1) := dk_42 (dk_at dksX0_below_0 13 rfl rfl)
theorem dX0_below_14 : decode cX0_below 14 = .ok (.iload_n 2, 1) := dk_28 (dk_at dksX0_below_0 14 rfl rfl)
theorem dX0_below_15 : decode cX0_below 15 = .ok (.invokevirtual 87, 3) := dk_182 0 87 (dk_at dksX0_below_0 15 rfl rfl)
theorem dX0_below_18 : decode cX0_below 18 = .ok (.ifnull 8, 3) := dk_198 0 8 (dk_at dksX0_below_0 18 rfl rfl)
theorem dX0_below_21 : decode cX0_below 21 = .ok (.iload_n 2, 1) := dk_28 (dk_at dksX0_below_0 21 rfl rfl)
theorem dX0_below_22 : decode cX0_below 22 = .ok (.iload_n 1, 1) := dk_27 (dk_at dksX0_below_0 22 rfl rfl)
theorem dX0_below_23 : decode cX0_below 23 = .ok (.if_icmp .gt 5, 3) := dk_163 0 5 (dk_at dksX0_below_1 0 rfl rfl)
theorem dX0_below_26 : decode cX0_below 26 = .ok (.iconst 0, 1) := dk_3 (dk_at dksX0_below_1 3 rfl rfl)
theorem dX0_below_27 : decode cX0_below 27 = .ok (.ireturn, 1) := dk_172 (dk_at dksX0_below_1 4 rfl rfl)
theorem dX0_below_28 : decode cX0_below 28 = .ok (.aload_n 0, 1) := dk_42 (dk_at dksX0_below_1 5 rfl rfl)
theorem dX0_below_29 : decode cX0_below 29 = .ok (.getfield 20, 3) := dk_180 0 20 (dk_at dksX0_below_1 6 rfl rfl)
theorem dX0_below_32 : decode cX0_below 32 = .ok (.iload_n 1, 1) := dk_27 (dk_at dksX0_below_1 9 rfl rfl)
theorem dX0_below_33 : decode cX0_below 33 = .ok (.invokevirtual 81, 3) := dk_182 0 81 (dk_at dksX0_below_1 10 rfl rfl)
theorem dX0_below_36 : decode cX0_below 36 = .ok (.checkcast 85, 3) := dk_192 0 85 (dk_at dksX0_below_1 13 rfl rfl)
theorem dX0_below_39 : decode cX0_below 39 = .ok (.iload_n 2, 1) := dk_28 (dk_at dksX0_below_1 16 rfl rfl)
theorem dX0_below_40 : decode cX0_below 40 = .ok (.putfield 104, 3) := dk_181 0 104 (dk_at dksX0_below_1 17 rfl rfl)
theorem dX0_below_43 : decode cX0_below 43 = .ok (.iconst 1, 1) := dk_4 (dk_at dksX0_below_1 20 rfl rfl)
theorem dX0_below_44 : decode cX0_below 44 = .ok (.ireturn, 1) := dk_172 (dk_at dksX0_below_1 21 rfl rfl)
def dkwX0_at_1 : List UInt8 := [182, 0, 81, 192, 0, 85, 167, 0, 4, 1, 176]
abbrev dktX0_at_1 : List UInt8 := dkwX0_at_1 ++ []
def dkwX0_at_0 : List UInt8 := [27, 3, 42, 180, 0, 20, 182, 0, 77, 4, 100, 184, 0, 3, 153, 0, 17, 42, 180, 0, 20, 27]
abbrev dktX0_at_0 : List UInt8 := dkwX0_at_0 ++ dktX0_at_1
theorem dksX0_at_0 : cX0_at.data.toList.drop 0 = dktX0_at_0 := by decide +kernel
theorem dksX0_at_1 : cX0_at.data.toList.drop 22 = dktX0_at_1 := dk_seg dksX0_at_0 22 rfl rfl
theorem dX0_at_0 : decode cX0_at 0 = .ok (.iload_n 1, 1) := dk_27 (dk_at dksX0_at_0 0 rfl rfl)
theorem dX0_at_1 : decode cX0_at 1 = .ok (.iconst 0, 1) := dk_3 (dk_at dksX0_at_0 1 rfl rfl)
theorem dX0_at_2 : decode cX0_at 2 = .ok (.aload_n 0, 1) := dk_42 (dk_at dksX0_at_0 2 rfl rfl)
theorem dX0_at_3 : decode cX0_at 3 = .ok (.getfield 20, 3) := dk_180 0 20 (dk_at dksX0_at_0 3 rfl rfl)
theorem dX0_at_6 : decode cX0_at 6 = .ok (.invokevirtual 77, 3) := dk_182 0 77 (dk_at dksX0_at_0 6 rfl rfl)
theorem dX0_at_9 : decode cX0_at 9 = .ok (.iconst 1, 1) := dk_4 (dk_at dksX0_at_0 9 rfl rfl)
theorem dX0_at_10 : decode cX0_at 10 = .ok (.isub, 1) := dk_100 (dk_at dksX0_at_0 10 rfl rfl)
theorem dX0_at_11 : decode cX0_at 11 = .ok (.invokestatic 3, 3) := dk_184 0 3 (dk_at dksX0_at_0 11 rfl rfl)
theorem dX0_at_14 : decode cX0_at 14 = .ok (.ifCond .eq 17, 3) := dk_153 0 17 (dk_at dksX0_at_0 14 rfl rfl)
theorem dX0_at_17 : decode cX0_at 17 = .ok (.aload_n 0, 1) := dk_42 (dk_at dksX0_at_0 17 rfl rfl)
theorem dX0_at_18 : decode cX0_at 18 = .ok (.getfield 20, 3) := dk_180 0 20 (dk_at dksX0_at_0 18 rfl rfl)
theorem dX0_at_21 : decode cX0_at 21 = .ok (.iload_n 1, 1) := dk_27 (dk_at dksX0_at_0 21 rfl rfl)
theorem dX0_at_22 : decode cX0_at 22 = .ok (.invokevirtual 81, 3) := dk_182 0 81 (dk_at dksX0_at_1 0 rfl rfl)
theorem dX0_at_25 : decode cX0_at 25 = .ok (.checkcast 85, 3) := dk_192 0 85 (dk_at dksX0_at_1 3 rfl rfl)
theorem dX0_at_28 : decode cX0_at 28 = .ok (.goto 4, 3) := dk_167 0 4 (dk_at dksX0_at_1 6 rfl rfl)
theorem dX0_at_31 : decode cX0_at 31 = .ok (.aconst_null, 1) := dk_1 (dk_at dksX0_at_1 9 rfl rfl)
theorem dX0_at_32 : decode cX0_at 32 = .ok (.areturn, 1) := dk_176 (dk_at dksX0_at_1 10 rfl rfl)
def dkwX0_roof_4 : List UInt8 := [25, 6, 182, 0, 100, 87, 25, 6, 180, 0, 111, 172]
abbrev dktX0_roof_4 : List UInt8 := dkwX0_roof_4 ++ []
def dkwX0_roof_3 : List UInt8 := [29, 21, 4, 183, 0, 107, 58, 6, 42, 180, 0, 24, 25, 6, 182, 0, 100, 87, 25, 5, 180, 0, 110]
abbrev dktX0_roof_3 : List UInt8 := dkwX0_roof_3 ++ dktX0_roof_4
def dkwX0_roof_2 : List UInt8 := [182, 0, 77, 16, 30, 160, 0, 5, 2, 172, 187, 0, 95, 89, 42, 180, 0, 24, 182, 0, 77, 25, 5, 28]
abbrev dktX0_roof_2 : List UInt8 := dkwX0_roof_2 ++ dktX0_roof_3
def dkwX0_roof_1 : List UInt8 := [16, 50, 184, 0, 3, 153, 0, 27, 21, 4, 3, 17, 0, 200, 184, 0, 3, 153, 0, 15, 42, 180, 0, 24]
abbrev dktX0_roof_1 : List UInt8 := dkwX0_roof_1 ++ dktX0_roof_2
def dkwX0_roof_0 : List UInt8 := [42, 27, 182, 0, 87, 58, 5, 25, 5, 198, 0, 47, 28, 3, 16, 19, 184, 0, 3, 153, 0, 37, 29, 4]
abbrev dktX0_roof_0 : List UInt8 := dkwX0_roof_0 ++ dktX0_roof_1
theorem dksX0_roof_0 : cX0_roof.data.toList.drop 0 = dktX0_roof_0 := by decide +kernel
theorem dksX0_roof_1 : cX0_roof.data.toList.drop 24 = dktX0_roof_1 := dk_seg dksX0_roof_0 24 rfl rfl
theorem dksX0_roof_2 : cX0_roof.data.toList.drop 48 = dktX0_roof_2 := dk_seg dksX0_roof_1 24 rfl rfl
theorem dksX0_roof_3 : cX0_roof.data.toList.drop 72 = dktX0_roof_3 := dk_seg dksX0_roof_2 24 rfl rfl
theorem dksX0_roof_4 : cX0_roof.data.toList.drop 95 = dktX0_roof_4 := dk_seg dksX0_roof_3 23 rfl rfl
theorem dX0_roof_0 : decode cX0_roof 0 = .ok (.aload_n 0, 1) := dk_42 (dk_at dksX0_roof_0 0 rfl rfl)
theorem dX0_roof_1 : decode cX0_roof 1 = .ok (.iload_n 1, 1) := dk_27 (dk_at dksX0_roof_0 1 rfl rfl)
theorem dX0_roof_2 : decode cX0_roof 2 = .ok (.invokevirtual 87, 3) := dk_182 0 87 (dk_at dksX0_roof_0 2 rfl rfl)
theorem dX0_roof_5 : decode cX0_roof 5 = .ok (.astore 5, 2) := dk_58 5 (dk_at dksX0_roof_0 5 rfl rfl)
theorem dX0_roof_7 : decode cX0_roof 7 = .ok (.aload 5, 2) := dk_25 5 (dk_at dksX0_roof_0 7 rfl rfl)
theorem dX0_roof_9 : decode cX0_roof 9 = .ok (.ifnull 47, 3) := dk_198 0 47 (dk_at dksX0_roof_0 9 rfl rfl)
theorem dX0_roof_12 : decode cX0_roof 12 = .ok (.iload_n 2, 1) := dk_28 (dk_at dksX0_roof_0 12 rfl rfl)
theorem dX0_roof_13 : decode cX0_roof 13 = .ok (.iconst 0, 1) := dk_3 (dk_at dksX0_roof_0 13 rfl rfl)
theorem dX0_roof_14 : decode cX0_roof 14 = .ok (.bipush 19, 2) := dk_16 19 (dk_at dksX0_roof_0 14 rfl rfl)
theorem dX0_roof_16 : decode cX0_roof 16 = .ok (.invokestatic 3, 3) := dk_184 0 3 (dk_at dksX0_roof_0 16 rfl rfl)
theorem dX0_roof_19 : decode cX0_roof 19 = .ok (.ifCond .eq 37, 3) := dk_153 0 37 (dk_at dksX0_roof_0 19 rfl rfl)
theorem dX0_roof_22 : decode cX0_roof 22 = .ok (.iload_n 3, 1) := dk_29 (dk_at dksX0_roof_0 22 rfl rfl)
theorem dX0_roof_23 : decode cX0_roof 23 = .ok (.iconst 1, 1) := dk_4 (dk_at dksX0_roof_0 23 rfl rfl)
theorem dX0_roof_24 : decode cX0_roof 24 = .ok (.bipush 50, 2) := dk_16 50 (dk_at dksX0_roof_1 0 rfl rfl)
theorem dX0_roof_26 : decode cX0_roof 26 = .ok (.invokestatic 3, 3) := dk_184 0 3 (dk_at dksX0_roof_1 2 rfl rfl)
theorem dX0_roof_29 : decode cX0_roof 29 = .ok (.ifCond .eq 27, 3) := dk_153 0 27 (dk_at dksX0_roof_1 5 rfl rfl)
theorem dX0_roof_32 : decode cX0_roof 32 = .ok (.iload 4, 2) := dk_21 4 (dk_at dksX0_roof_1 8 rfl rfl)
theorem dX0_roof_34 : decode cX0_roof 34 = .ok (.iconst 0, 1) := dk_3 (dk_at dksX0_roof_1 10 rfl rfl)
theorem dX0_roof_35 : decode cX0_roof 35 = .ok (.sipush 200, 3) := dk_17 0 200 (dk_at dksX0_roof_1 11 rfl rfl)
theorem dX0_roof_38 : decode cX0_roof 38 = .ok (.invokestatic 3, 3) := dk_184 0 3 (dk_at dksX0_roof_1 14 rfl rfl)
theorem dX0_roof_41 : decode cX0_roof 41 = .ok (.ifCond .eq 15, 3) := dk_153 0 15 (dk_at dksX0_roof_1 17 rfl rfl)
theorem dX0_roof_44 : decode cX0_roof 44 = .ok (.aload_n 0, 1) := dk_42 (dk_at dksX0_roof_1 20 rfl rfl)
theorem dX0_roof_45 : decode cX0_roof 45 = .ok (.getfield 24, 3) := dk_180 0 24 (dk_at dksX0_roof_1 21 rfl rfl)
theorem dX0_roof_48 : decode cX0_roof 48 = .ok (.invokevirtual 77, 3) := dk_182 0 77 (dk_at dksX0_roof_2 0 rfl rfl)
theorem dX0_roof_51 : decode cX0_roof 51 = .ok (.bipush 30, 2) := dk_16 30 (dk_at dksX0_roof_2 3 rfl rfl)
theorem dX0_roof_53 : decode cX0_roof 53 = .ok (.if_icmp .ne 5, 3) := dk_160 0 5 (dk_at dksX0_roof_2 5 rfl rfl)
theorem dX0_roof_56 : decode cX0_roof 56 = .ok (.iconst (-1), 1) := dk_2 (dk_at dksX0_roof_2 8 rfl rfl)
theorem dX0_roof_57 : decode cX0_roof 57 = .ok (.ireturn, 1) := dk_172 (dk_at dksX0_roof_2 9 rfl rfl)
theorem dX0_roof_58 : decode cX0_roof 58 = .ok (.new 95, 3) := dk_187 0 95 (dk_at dksX0_roof_2 10 rfl rfl)
theorem dX0_roof_61 : decode cX0_roof 61 = .ok (.dup, 1) := dk_89 (dk_at dksX0_roof_2 13 rfl rfl)
theorem dX0_roof_62 : decode cX0_roof 62 = .ok (.aload_n 0, 1) := dk_42 (dk_at dksX0_roof_2 14 rfl rfl)
theorem dX0_roof_63 : decode cX0_roof 63 = .ok (.getfield 24, 3) := dk_180 0 24 (dk_at dksX0_roof_2 15 rfl rfl)
theorem dX0_roof_66 : decode cX0_roof 66 = .ok (.invokevirtual 77, 3) := dk_182 0 77 (dk_at dksX0_roof_2 18 rfl rfl)
theorem dX0_roof_69 : decode cX0_roof 69 = .ok (.aload 5, 2) := dk_25 5 (dk_at dksX0_roof_2 21 rfl rfl)
theorem dX0_roof_71 : decode cX0_roof 71 = .ok (.iload_n 2, 1) := dk_28 (dk_at dksX0_roof_2 23 rfl rfl)
theorem dX0_roof_72 : decode cX0_roof 72 = .ok (.iload_n 3, 1) := dk_29 (dk_at dksX0_roof_3 0 rfl rfl)
theorem dX0_roof_73 : decode cX0_roof 73 = .ok (.iload 4, 2) := dk_21 4 (dk_at dksX0_roof_3 1 rfl rfl)
theorem dX0_roof_75 : decode cX0_roof 75 = .ok (.invokespecial 107, 3) := dk_183 0 107 (dk_at dksX0_roof_3 3 rfl rfl)
theorem dX0_roof_78 : decode cX0_roof 78 = .ok (.astore 6, 2) := dk_58 6 (dk_at dksX0_roof_3 6 rfl rfl)
theorem dX0_roof_80 : decode cX0_roof 80 = .ok (.aload_n 0, 1) := dk_42 (dk_at dksX0_roof_3 8 rfl rfl)
theorem dX0_roof_81 : decode cX0_roof 81 = .ok (.getfield 24, 3) := dk_180 0 24 (dk_at dksX0_roof_3 9 rfl rfl)
theorem dX0_roof_84 : decode cX0_roof 84 = .ok (.aload 6, 2) := dk_25 6 (dk_at dksX0_roof_3 12 rfl rfl)
theorem dX0_roof_86 : decode cX0_roof 86 = .ok (.invokevirtual 100, 3) := dk_182 0 100 (dk_at dksX0_roof_3 14 rfl rfl)
theorem dX0_roof_89 : decode cX0_roof 89 = .ok (.pop, 1) := dk_87 (dk_at dksX0_roof_3 17 rfl rfl)
theorem dX0_roof_90 : decode cX0_roof 90 = .ok (.aload 5, 2) := dk_25 5 (dk_at dksX0_roof_3 18 rfl rfl)
theorem dX0_roof_92 : decode cX0_roof 92 = .ok (.getfield 110, 3) := dk_180 0 110 (dk_at dksX0_roof_3 20 rfl rfl)
theorem dX0_roof_95 : decode cX0_roof 95 = .ok (.aload 6, 2) := dk_25 6 (dk_at dksX0_roof_4 0 rfl rfl)
theorem dX0_roof_97 : decode cX0_roof 97 = .ok (.invokevirtual 100, 3) := dk_182 0 100 (dk_at dksX0_roof_4 2 rfl rfl)
theorem dX0_roof_100 : decode cX0_roof 100 = .ok (.pop, 1) := dk_87 (dk_at dksX0_roof_4 5 rfl rfl)
theorem dX0_roof_101 : decode cX0_roof 101 = .ok (.aload 6, 2) := dk_25 6 (dk_at dksX0_roof_4 6 rfl rfl)
theorem dX0_roof_103 : decode cX0_roof 103 = .ok (.getfield 111, 3) := dk_180 0 111 (dk_at dksX0_roof_4 8 rfl rfl)
theorem dX0_roof_106 : decode cX0_roof 106 = .ok (.ireturn, 1) := dk_172 (dk_at dksX0_roof_4 11 rfl rfl)
def dkwX0_lot_1 : List UInt8 := [180, 0, 13, 27, 28, 79, 4, 172]
abbrev dktX0_lot_1 : List UInt8 := dkwX0_lot_1 ++ []
def dkwX0_lot_0 : List UInt8 := [27, 3, 16, 9, 184, 0, 3, 153, 0, 13, 28, 4, 16, 100, 184, 0, 3, 154, 0, 5, 3, 172, 42]
abbrev dktX0_lot_0 : List UInt8 := dkwX0_lot_0 ++ dktX0_lot_1
theorem dksX0_lot_0 : cX0_lot.data.toList.drop 0 = dktX0_lot_0 := by decide +kernel
theorem dksX0_lot_1 : cX0_lot.data.toList.drop 23 = dktX0_lot_1 := dk_seg dksX0_lot_0 23 rfl rfl
theorem dX0_lot_0 : decode cX0_lot 0 = .ok (.iload_n 1, 1) := dk_27 (dk_at dksX0_lot_0 0 rfl rfl)
theorem dX0_lot_1 : decode cX0_lot 1 = .ok (.iconst 0, 1) := dk_3 (dk_at dksX0_lot_0 1 rfl rfl)
theorem dX0_lot_2 : decode cX0_lot 2 = .ok (.bipush 9, 2) := dk_16 9 (dk_at dksX0_lot_0 2 rfl rfl)
theorem dX0_lot_4 : decode cX0_lot 4 = .ok (.invokestatic 3, 3) := dk_184 0 3 (dk_at dksX0_lot_0 4 rfl rfl)
theorem dX0_lot_7 : decode cX0_lot 7 = .ok (.ifCond .eq 13, 3) := dk_153 0 13 (dk_at dksX0_lot_0 7 rfl rfl)
theorem dX0_lot_10 : decode cX0_lot 10 = .ok (.iload_n 2, 1) := dk_28 (dk_at dksX0_lot_0 10 rfl rfl)
theorem dX0_lot_11 : decode cX0_lot 11 = .ok (.iconst 1, 1) := dk_4 (dk_at dksX0_lot_0 11 rfl rfl)
theorem dX0_lot_12 : decode cX0_lot 12 = .ok (.bipush 100, 2) := dk_16 100 (dk_at dksX0_lot_0 12 rfl rfl)
theorem dX0_lot_14 : decode cX0_lot 14 = .ok (.invokestatic 3, 3) := dk_184 0 3 (dk_at dksX0_lot_0 14 rfl rfl)
theorem dX0_lot_17 : decode cX0_lot 17 = .ok (.ifCond .ne 5, 3) := dk_154 0 5 (dk_at dksX0_lot_0 17 rfl rfl)
theorem dX0_lot_20 : decode cX0_lot 20 = .ok (.iconst 0, 1) := dk_3 (dk_at dksX0_lot_0 20 rfl rfl)
theorem dX0_lot_21 : decode cX0_lot 21 = .ok (.ireturn, 1) := dk_172 (dk_at dksX0_lot_0 21 rfl rfl)
theorem dX0_lot_22 : decode cX0_lot 22 = .ok (.aload_n 0, 1) := dk_42 (dk_at dksX0_lot_0 22 rfl rfl)
theorem dX0_lot_23 : decode cX0_lot 23 = .ok (.getfield 13, 3) := dk_180 0 13 (dk_at dksX0_lot_1 0 rfl rfl)
theorem dX0_lot_26 : decode cX0_lot 26 = .ok (.iload_n 1, 1) := dk_27 (dk_at dksX0_lot_1 3 rfl rfl)
theorem dX0_lot_27 : decode cX0_lot 27 = .ok (.iload_n 2, 1) := dk_28 (dk_at dksX0_lot_1 4 rfl rfl)
theorem dX0_lot_28 : decode cX0_lot 28 = .ok (.iastore, 1) := dk_79 (dk_at dksX0_lot_1 5 rfl rfl)
theorem dX0_lot_29 : decode cX0_lot 29 = .ok (.iconst 1, 1) := dk_4 (dk_at dksX0_lot_1 6 rfl rfl)
theorem dX0_lot_30 : decode cX0_lot 30 = .ok (.ireturn, 1) := dk_172 (dk_at dksX0_lot_1 7 rfl rfl)
def dkwX0_bed_3 : List UInt8 := [187, 0, 127, 89, 42, 25, 5, 28, 29, 21, 4, 183, 0, 129, 181, 0, 91, 4, 172]
abbrev dktX0_bed_3 : List UInt8 := dkwX0_bed_3 ++ []
def dkwX0_bed_2 : List UInt8 := [180, 0, 114, 96, 42, 42, 180, 0, 119, 182, 0, 122, 180, 0, 126, 164, 0, 5, 3, 172, 25, 5]
abbrev dktX0_bed_2 : List UInt8 := dkwX0_bed_2 ++ dktX0_bed_3
def dkwX0_bed_1 : List UInt8 := [17, 1, 244, 184, 0, 3, 153, 0, 35, 25, 5, 180, 0, 91, 199, 0, 27, 42, 182, 0, 117, 25, 5]
abbrev dktX0_bed_1 : List UInt8 := dkwX0_bed_1 ++ dktX0_bed_2
def dkwX0_bed_0 : List UInt8 := [42, 27, 182, 0, 87, 58, 5, 25, 5, 198, 0, 56, 28, 3, 16, 9, 184, 0, 3, 153, 0, 46, 29, 4]
abbrev dktX0_bed_0 : List UInt8 := dkwX0_bed_0 ++ dktX0_bed_1
theorem dksX0_bed_0 : cX0_bed.data.toList.drop 0 = dktX0_bed_0 := by decide +kernel
theorem dksX0_bed_1 : cX0_bed.data.toList.drop 24 = dktX0_bed_1 := dk_seg dksX0_bed_0 24 rfl rfl
theorem dksX0_bed_2 : cX0_bed.data.toList.drop 47 = dktX0_bed_2 := dk_seg dksX0_bed_1 23 rfl rfl
theorem dksX0_bed_3 : cX0_bed.data.toList.drop 69 = dktX0_bed_3 := dk_seg dksX0_bed_2 22 rfl rfl
theorem dX0_bed_0 : decode cX0_bed 0 = .ok (.aload_n 0, 1) := dk_42 (dk_at dksX0_bed_0 0 rfl rfl)
theorem dX0_bed_1 : decode cX0_bed 1 = .ok (.iload_n 1, 1) := dk_27 (dk_at dksX0_bed_0 1 rfl rfl)
theorem dX0_bed_2 : decode cX0_bed 2 = .ok (.invokevirtual 87, 3) := dk_182 0 87 (dk_at dksX0_bed_0 2 rfl rfl)
theorem dX0_bed_5 : decode cX0_bed 5 = .ok (.astore 5, 2) := dk_58 5 (dk_at dksX0_bed_0 5 rfl rfl)
theorem dX0_bed_7 : decode cX0_bed 7 = .ok (.aload 5, 2) := dk_25 5 (dk_at dksX0_bed_0 7 rfl rfl)
theorem dX0_bed_9 : decode cX0_bed 9 = .ok (.ifnull 56, 3) := dk_198 0 56 (dk_at dksX0_bed_0 9 rfl rfl)
theorem dX0_bed_12 : decode cX0_bed 12 = .ok (.iload_n 2, 1) := dk_28 (dk_at dksX0_bed_0 12 rfl rfl)
theorem dX0_bed_13 : decode cX0_bed 13 = .ok (.iconst 0, 1) := dk_3 (dk_at dksX0_bed_0 13 rfl rfl)
theorem dX0_bed_14 : decode cX0_bed 14 = .ok (.bipush 9, 2) := dk_16 9 (dk_at dksX0_bed_0 14 rfl rfl)
theorem dX0_bed_16 : decode cX0_bed 16 = .ok (.invokestatic 3, 3) := dk_184 0 3 (dk_at dksX0_bed_0 16 rfl rfl)
theorem dX0_bed_19 : decode cX0_bed 19 = .ok (.ifCond .eq 46, 3) := dk_153 0 46 (dk_at dksX0_bed_0 19 rfl rfl)
theorem dX0_bed_22 : decode cX0_bed 22 = .ok (.iload_n 3, 1) := dk_29 (dk_at dksX0_bed_0 22 rfl rfl)
theorem dX0_bed_23 : decode cX0_bed 23 = .ok (.iconst 1, 1) := dk_4 (dk_at dksX0_bed_0 23 rfl rfl)
theorem dX0_bed_24 : decode cX0_bed 24 = .ok (.sipush 500, 3) := dk_17 1 244 (dk_at dksX0_bed_1 0 rfl rfl)
theorem dX0_bed_27 : decode cX0_bed 27 = .ok (.invokestatic 3, 3) := dk_184 0 3 (dk_at dksX0_bed_1 3 rfl rfl)
theorem dX0_bed_30 : decode cX0_bed 30 = .ok (.ifCond .eq 35, 3) := dk_153 0 35 (dk_at dksX0_bed_1 6 rfl rfl)
theorem dX0_bed_33 : decode cX0_bed 33 = .ok (.aload 5, 2) := dk_25 5 (dk_at dksX0_bed_1 9 rfl rfl)
theorem dX0_bed_35 : decode cX0_bed 35 = .ok (.getfield 91, 3) := dk_180 0 91 (dk_at dksX0_bed_1 11 rfl rfl)
theorem dX0_bed_38 : decode cX0_bed 38 = .ok (.ifnonnull 27, 3) := dk_199 0 27 (dk_at dksX0_bed_1 14 rfl rfl)
theorem dX0_bed_41 : decode cX0_bed 41 = .ok (.aload_n 0, 1) := dk_42 (dk_at dksX0_bed_1 17 rfl rfl)
theorem dX0_bed_42 : decode cX0_bed 42 = .ok (.invokevirtual 117, 3) := dk_182 0 117 (dk_at dksX0_bed_1 18 rfl rfl)
theorem dX0_bed_45 : decode cX0_bed 45 = .ok (.aload 5, 2) := dk_25 5 (dk_at dksX0_bed_1 21 rfl rfl)
theorem dX0_bed_47 : decode cX0_bed 47 = .ok (.getfield 114, 3) := dk_180 0 114 (dk_at dksX0_bed_2 0 rfl rfl)
theorem dX0_bed_50 : decode cX0_bed 50 = .ok (.iadd, 1) := dk_96 (dk_at dksX0_bed_2 3 rfl rfl)
theorem dX0_bed_51 : decode cX0_bed 51 = .ok (.aload_n 0, 1) := dk_42 (dk_at dksX0_bed_2 4 rfl rfl)
theorem dX0_bed_52 : decode cX0_bed 52 = .ok (.aload_n 0, 1) := dk_42 (dk_at dksX0_bed_2 5 rfl rfl)
theorem dX0_bed_53 : decode cX0_bed 53 = .ok (.getfield 119, 3) := dk_180 0 119 (dk_at dksX0_bed_2 6 rfl rfl)
theorem dX0_bed_56 : decode cX0_bed 56 = .ok (.invokevirtual 122, 3) := dk_182 0 122 (dk_at dksX0_bed_2 9 rfl rfl)
theorem dX0_bed_59 : decode cX0_bed 59 = .ok (.getfield 126, 3) := dk_180 0 126 (dk_at dksX0_bed_2 12 rfl rfl)
theorem dX0_bed_62 : decode cX0_bed 62 = .ok (.if_icmp .le 5, 3) := dk_164 0 5 (dk_at dksX0_bed_2 15 rfl rfl)
theorem dX0_bed_65 : decode cX0_bed 65 = .ok (.iconst 0, 1) := dk_3 (dk_at dksX0_bed_2 18 rfl rfl)
theorem dX0_bed_66 : decode cX0_bed 66 = .ok (.ireturn, 1) := dk_172 (dk_at dksX0_bed_2 19 rfl rfl)
theorem dX0_bed_67 : decode cX0_bed 67 = .ok (.aload 5, 2) := dk_25 5 (dk_at dksX0_bed_2 20 rfl rfl)
theorem dX0_bed_69 : decode cX0_bed 69 = .ok (.new 127, 3) := dk_187 0 127 (dk_at dksX0_bed_3 0 rfl rfl)
theorem dX0_bed_72 : decode cX0_bed 72 = .ok (.dup, 1) := dk_89 (dk_at dksX0_bed_3 3 rfl rfl)
theorem dX0_bed_73 : decode cX0_bed 73 = .ok (.aload_n 0, 1) := dk_42 (dk_at dksX0_bed_3 4 rfl rfl)
theorem dX0_bed_74 : decode cX0_bed 74 = .ok (.aload 5, 2) := dk_25 5 (dk_at dksX0_bed_3 5 rfl rfl)
theorem dX0_bed_76 : decode cX0_bed 76 = .ok (.iload_n 2, 1) := dk_28 (dk_at dksX0_bed_3 7 rfl rfl)
theorem dX0_bed_77 : decode cX0_bed 77 = .ok (.iload_n 3, 1) := dk_29 (dk_at dksX0_bed_3 8 rfl rfl)
theorem dX0_bed_78 : decode cX0_bed 78 = .ok (.iload 4, 2) := dk_21 4 (dk_at dksX0_bed_3 9 rfl rfl)
theorem dX0_bed_80 : decode cX0_bed 80 = .ok (.invokespecial 129, 3) := dk_183 0 129 (dk_at dksX0_bed_3 11 rfl rfl)
theorem dX0_bed_83 : decode cX0_bed 83 = .ok (.putfield 91, 3) := dk_181 0 91 (dk_at dksX0_bed_3 14 rfl rfl)
theorem dX0_bed_86 : decode cX0_bed 86 = .ok (.iconst 1, 1) := dk_4 (dk_at dksX0_bed_3 17 rfl rfl)
theorem dX0_bed_87 : decode cX0_bed 87 = .ok (.ireturn, 1) := dk_172 (dk_at dksX0_bed_3 18 rfl rfl)
def dkwX0_parking_2 : List UInt8 := [180, 0, 114, 96, 60, 132, 2, 1, 167, 255, 204, 27, 172]
abbrev dktX0_parking_2 : List UInt8 := dkwX0_parking_2 ++ []
def dkwX0_parking_1 : List UInt8 := [192, 0, 85, 180, 0, 91, 199, 0, 7, 3, 167, 0, 17, 42, 180, 0, 20, 28, 182, 0, 81, 192, 0, 85]
abbrev dktX0_parking_1 : List UInt8 := dkwX0_parking_1 ++ dktX0_parking_2
def dkwX0_parking_0 : List UInt8 := [3, 60, 3, 61, 28, 42, 180, 0, 20, 182, 0, 77, 162, 0, 47, 27, 42, 180, 0, 20, 28, 182, 0, 81]
abbrev dktX0_parking_0 : List UInt8 := dkwX0_parking_0 ++ dktX0_parking_1
theorem dksX0_parking_0 : cX0_parking.data.toList.drop 0 = dktX0_parking_0 := by decide +kernel
theorem dksX0_parking_1 : cX0_parking.data.toList.drop 24 = dktX0_parking_1 := dk_seg dksX0_parking_0 24 rfl rfl
theorem dksX0_parking_2 : cX0_parking.data.toList.drop 48 = dktX0_parking_2 := dk_seg dksX0_parking_1 24 rfl rfl
theorem dX0_parking_0 : decode cX0_parking 0 = .ok (.iconst 0, 1) := dk_3 (dk_at dksX0_parking_0 0 rfl rfl)
theorem dX0_parking_1 : decode cX0_parking 1 = .ok (.istore_n 1, 1) := dk_60 (dk_at dksX0_parking_0 1 rfl rfl)
theorem dX0_parking_2 : decode cX0_parking 2 = .ok (.iconst 0, 1) := dk_3 (dk_at dksX0_parking_0 2 rfl rfl)
theorem dX0_parking_3 : decode cX0_parking 3 = .ok (.istore_n 2, 1) := dk_61 (dk_at dksX0_parking_0 3 rfl rfl)
theorem dX0_parking_4 : decode cX0_parking 4 = .ok (.iload_n 2, 1) := dk_28 (dk_at dksX0_parking_0 4 rfl rfl)
theorem dX0_parking_5 : decode cX0_parking 5 = .ok (.aload_n 0, 1) := dk_42 (dk_at dksX0_parking_0 5 rfl rfl)
theorem dX0_parking_6 : decode cX0_parking 6 = .ok (.getfield 20, 3) := dk_180 0 20 (dk_at dksX0_parking_0 6 rfl rfl)
theorem dX0_parking_9 : decode cX0_parking 9 = .ok (.invokevirtual 77, 3) := dk_182 0 77 (dk_at dksX0_parking_0 9 rfl rfl)
theorem dX0_parking_12 : decode cX0_parking 12 = .ok (.if_icmp .ge 47, 3) := dk_162 0 47 (dk_at dksX0_parking_0 12 rfl rfl)
theorem dX0_parking_15 : decode cX0_parking 15 = .ok (.iload_n 1, 1) := dk_27 (dk_at dksX0_parking_0 15 rfl rfl)
theorem dX0_parking_16 : decode cX0_parking 16 = .ok (.aload_n 0, 1) := dk_42 (dk_at dksX0_parking_0 16 rfl rfl)
theorem dX0_parking_17 : decode cX0_parking 17 = .ok (.getfield 20, 3) := dk_180 0 20 (dk_at dksX0_parking_0 17 rfl rfl)
theorem dX0_parking_20 : decode cX0_parking 20 = .ok (.iload_n 2, 1) := dk_28 (dk_at dksX0_parking_0 20 rfl rfl)
theorem dX0_parking_21 : decode cX0_parking 21 = .ok (.invokevirtual 81, 3) := dk_182 0 81 (dk_at dksX0_parking_0 21 rfl rfl)
theorem dX0_parking_24 : decode cX0_parking 24 = .ok (.checkcast 85, 3) := dk_192 0 85 (dk_at dksX0_parking_1 0 rfl rfl)
theorem dX0_parking_27 : decode cX0_parking 27 = .ok (.getfield 91, 3) := dk_180 0 91 (dk_at dksX0_parking_1 3 rfl rfl)
theorem dX0_parking_30 : decode cX0_parking 30 = .ok (.ifnonnull 7, 3) := dk_199 0 7 (dk_at dksX0_parking_1 6 rfl rfl)
theorem dX0_parking_33 : decode cX0_parking 33 = .ok (.iconst 0, 1) := dk_3 (dk_at dksX0_parking_1 9 rfl rfl)
theorem dX0_parking_34 : decode cX0_parking 34 = .ok (.goto 17, 3) := dk_167 0 17 (dk_at dksX0_parking_1 10 rfl rfl)
theorem dX0_parking_37 : decode cX0_parking 37 = .ok (.aload_n 0, 1) := dk_42 (dk_at dksX0_parking_1 13 rfl rfl)
theorem dX0_parking_38 : decode cX0_parking 38 = .ok (.getfield 20, 3) := dk_180 0 20 (dk_at dksX0_parking_1 14 rfl rfl)
theorem dX0_parking_41 : decode cX0_parking 41 = .ok (.iload_n 2, 1) := dk_28 (dk_at dksX0_parking_1 17 rfl rfl)
theorem dX0_parking_42 : decode cX0_parking 42 = .ok (.invokevirtual 81, 3) := dk_182 0 81 (dk_at dksX0_parking_1 18 rfl rfl)
theorem dX0_parking_45 : decode cX0_parking 45 = .ok (.checkcast 85, 3) := dk_192 0 85 (dk_at dksX0_parking_1 21 rfl rfl)
theorem dX0_parking_48 : decode cX0_parking 48 = .ok (.getfield 114, 3) := dk_180 0 114 (dk_at dksX0_parking_2 0 rfl rfl)
theorem dX0_parking_51 : decode cX0_parking 51 = .ok (.iadd, 1) := dk_96 (dk_at dksX0_parking_2 3 rfl rfl)
theorem dX0_parking_52 : decode cX0_parking 52 = .ok (.istore_n 1, 1) := dk_60 (dk_at dksX0_parking_2 4 rfl rfl)
theorem dX0_parking_53 : decode cX0_parking 53 = .ok (.iinc 2 1, 3) := dk_132 2 1 (dk_at dksX0_parking_2 5 rfl rfl)
theorem dX0_parking_56 : decode cX0_parking 56 = .ok (.goto (-52), 3) := dk_167 255 204 (dk_at dksX0_parking_2 8 rfl rfl)
theorem dX0_parking_59 : decode cX0_parking 59 = .ok (.iload_n 1, 1) := dk_27 (dk_at dksX0_parking_2 11 rfl rfl)
theorem dX0_parking_60 : decode cX0_parking 60 = .ok (.ireturn, 1) := dk_172 (dk_at dksX0_parking_2 12 rfl rfl)
def dkwX0_on_1 : List UInt8 := [182, 0, 81, 192, 0, 30, 176]
abbrev dktX0_on_1 : List UInt8 := dkwX0_on_1 ++ []
def dkwX0_on_0 : List UInt8 := [42, 27, 182, 0, 168, 156, 0, 10, 42, 180, 0, 35, 167, 0, 18, 42, 180, 0, 27, 42, 27, 182, 0, 168]
abbrev dktX0_on_0 : List UInt8 := dkwX0_on_0 ++ dktX0_on_1
theorem dksX0_on_0 : cX0_on.data.toList.drop 0 = dktX0_on_0 := by decide +kernel
theorem dksX0_on_1 : cX0_on.data.toList.drop 24 = dktX0_on_1 := dk_seg dksX0_on_0 24 rfl rfl
theorem dX0_on_0 : decode cX0_on 0 = .ok (.aload_n 0, 1) := dk_42 (dk_at dksX0_on_0 0 rfl rfl)
theorem dX0_on_1 : decode cX0_on 1 = .ok (.iload_n 1, 1) := dk_27 (dk_at dksX0_on_0 1 rfl rfl)
theorem dX0_on_2 : decode cX0_on 2 = .ok (.invokevirtual 168, 3) := dk_182 0 168 (dk_at dksX0_on_0 2 rfl rfl)
theorem dX0_on_5 : decode cX0_on 5 = .ok (.ifCond .ge 10, 3) := dk_156 0 10 (dk_at dksX0_on_0 5 rfl rfl)
theorem dX0_on_8 : decode cX0_on 8 = .ok (.aload_n 0, 1) := dk_42 (dk_at dksX0_on_0 8 rfl rfl)
theorem dX0_on_9 : decode cX0_on 9 = .ok (.getfield 35, 3) := dk_180 0 35 (dk_at dksX0_on_0 9 rfl rfl)
theorem dX0_on_12 : decode cX0_on 12 = .ok (.goto 18, 3) := dk_167 0 18 (dk_at dksX0_on_0 12 rfl rfl)
theorem dX0_on_15 : decode cX0_on 15 = .ok (.aload_n 0, 1) := dk_42 (dk_at dksX0_on_0 15 rfl rfl)
theorem dX0_on_16 : decode cX0_on 16 = .ok (.getfield 27, 3) := dk_180 0 27 (dk_at dksX0_on_0 16 rfl rfl)
theorem dX0_on_19 : decode cX0_on 19 = .ok (.aload_n 0, 1) := dk_42 (dk_at dksX0_on_0 19 rfl rfl)
theorem dX0_on_20 : decode cX0_on 20 = .ok (.iload_n 1, 1) := dk_27 (dk_at dksX0_on_0 20 rfl rfl)
theorem dX0_on_21 : decode cX0_on 21 = .ok (.invokevirtual 168, 3) := dk_182 0 168 (dk_at dksX0_on_0 21 rfl rfl)
theorem dX0_on_24 : decode cX0_on 24 = .ok (.invokevirtual 81, 3) := dk_182 0 81 (dk_at dksX0_on_1 0 rfl rfl)
theorem dX0_on_27 : decode cX0_on 27 = .ok (.checkcast 30, 3) := dk_192 0 30 (dk_at dksX0_on_1 3 rfl rfl)
theorem dX0_on_30 : decode cX0_on 30 = .ok (.areturn, 1) := dk_176 (dk_at dksX0_on_1 6 rfl rfl)
def dkwX0_numberOn_1 : List UInt8 := [192, 0, 30, 180, 0, 165, 27, 163, 0, 5, 29, 61, 132, 3, 1, 167, 255, 222, 28, 172]
abbrev dktX0_numberOn_1 : List UInt8 := dkwX0_numberOn_1 ++ []
def dkwX0_numberOn_0 : List UInt8 := [2, 61, 3, 62, 29, 42, 180, 0, 27, 182, 0, 77, 162, 0, 29, 42, 180, 0, 27, 29, 182, 0, 81]
abbrev dktX0_numberOn_0 : List UInt8 := dkwX0_numberOn_0 ++ dktX0_numberOn_1
theorem dksX0_numberOn_0 : cX0_numberOn.data.toList.drop 0 = dktX0_numberOn_0 := by decide +kernel
theorem dksX0_numberOn_1 : cX0_numberOn.data.toList.drop 23 = dktX0_numberOn_1 := dk_seg dksX0_numberOn_0 23 rfl rfl
theorem dX0_numberOn_0 : decode cX0_numberOn 0 = .ok (.iconst (-1), 1) := dk_2 (dk_at dksX0_numberOn_0 0 rfl rfl)
theorem dX0_numberOn_1 : decode cX0_numberOn 1 = .ok (.istore_n 2, 1) := dk_61 (dk_at dksX0_numberOn_0 1 rfl rfl)
theorem dX0_numberOn_2 : decode cX0_numberOn 2 = .ok (.iconst 0, 1) := dk_3 (dk_at dksX0_numberOn_0 2 rfl rfl)
theorem dX0_numberOn_3 : decode cX0_numberOn 3 = .ok (.istore_n 3, 1) := dk_62 (dk_at dksX0_numberOn_0 3 rfl rfl)
theorem dX0_numberOn_4 : decode cX0_numberOn 4 = .ok (.iload_n 3, 1) := dk_29 (dk_at dksX0_numberOn_0 4 rfl rfl)
theorem dX0_numberOn_5 : decode cX0_numberOn 5 = .ok (.aload_n 0, 1) := dk_42 (dk_at dksX0_numberOn_0 5 rfl rfl)
theorem dX0_numberOn_6 : decode cX0_numberOn 6 = .ok (.getfield 27, 3) := dk_180 0 27 (dk_at dksX0_numberOn_0 6 rfl rfl)
theorem dX0_numberOn_9 : decode cX0_numberOn 9 = .ok (.invokevirtual 77, 3) := dk_182 0 77 (dk_at dksX0_numberOn_0 9 rfl rfl)
theorem dX0_numberOn_12 : decode cX0_numberOn 12 = .ok (.if_icmp .ge 29, 3) := dk_162 0 29 (dk_at dksX0_numberOn_0 12 rfl rfl)
theorem dX0_numberOn_15 : decode cX0_numberOn 15 = .ok (.aload_n 0, 1) := dk_42 (dk_at dksX0_numberOn_0 15 rfl rfl)
theorem dX0_numberOn_16 : decode cX0_numberOn 16 = .ok (.getfield 27, 3) := dk_180 0 27 (dk_at dksX0_numberOn_0 16 rfl rfl)
theorem dX0_numberOn_19 : decode cX0_numberOn 19 = .ok (.iload_n 3, 1) := dk_29 (dk_at dksX0_numberOn_0 19 rfl rfl)
theorem dX0_numberOn_20 : decode cX0_numberOn 20 = .ok (.invokevirtual 81, 3) := dk_182 0 81 (dk_at dksX0_numberOn_0 20 rfl rfl)
theorem dX0_numberOn_23 : decode cX0_numberOn 23 = .ok (.checkcast 30, 3) := dk_192 0 30 (dk_at dksX0_numberOn_1 0 rfl rfl)
theorem dX0_numberOn_26 : decode cX0_numberOn 26 = .ok (.getfield 165, 3) := dk_180 0 165 (dk_at dksX0_numberOn_1 3 rfl rfl)
theorem dX0_numberOn_29 : decode cX0_numberOn 29 = .ok (.iload_n 1, 1) := dk_27 (dk_at dksX0_numberOn_1 6 rfl rfl)
theorem dX0_numberOn_30 : decode cX0_numberOn 30 = .ok (.if_icmp .gt 5, 3) := dk_163 0 5 (dk_at dksX0_numberOn_1 7 rfl rfl)
theorem dX0_numberOn_33 : decode cX0_numberOn 33 = .ok (.iload_n 3, 1) := dk_29 (dk_at dksX0_numberOn_1 10 rfl rfl)
theorem dX0_numberOn_34 : decode cX0_numberOn 34 = .ok (.istore_n 2, 1) := dk_61 (dk_at dksX0_numberOn_1 11 rfl rfl)
theorem dX0_numberOn_35 : decode cX0_numberOn 35 = .ok (.iinc 3 1, 3) := dk_132 3 1 (dk_at dksX0_numberOn_1 12 rfl rfl)
theorem dX0_numberOn_38 : decode cX0_numberOn 38 = .ok (.goto (-34), 3) := dk_167 255 222 (dk_at dksX0_numberOn_1 15 rfl rfl)
theorem dX0_numberOn_41 : decode cX0_numberOn 41 = .ok (.iload_n 2, 1) := dk_28 (dk_at dksX0_numberOn_1 18 rfl rfl)
theorem dX0_numberOn_42 : decode cX0_numberOn 42 = .ok (.ireturn, 1) := dk_172 (dk_at dksX0_numberOn_1 19 rfl rfl)
def dkwX0_care_2 : List UInt8 := [180, 0, 143, 16, 30, 100, 184, 0, 146, 181, 0, 143, 45, 3, 181, 0, 152, 4, 172]
abbrev dktX0_care_2 : List UInt8 := dkwX0_care_2 ++ []
def dkwX0_care_1 : List UInt8 := [182, 0, 136, 153, 0, 5, 3, 172, 45, 89, 180, 0, 140, 4, 28, 120, 128, 181, 0, 140, 45, 3, 45]
abbrev dktX0_care_1 : List UInt8 := dkwX0_care_1 ++ dktX0_care_2
def dkwX0_care_0 : List UInt8 := [42, 27, 182, 0, 132, 78, 45, 198, 0, 21, 28, 3, 16, 10, 184, 0, 3, 153, 0, 11, 45, 28]
abbrev dktX0_care_0 : List UInt8 := dkwX0_care_0 ++ dktX0_care_1
theorem dksX0_care_0 : cX0_care.data.toList.drop 0 = dktX0_care_0 := by decide +kernel
theorem dksX0_care_1 : cX0_care.data.toList.drop 22 = dktX0_care_1 := dk_seg dksX0_care_0 22 rfl rfl
theorem dksX0_care_2 : cX0_care.data.toList.drop 45 = dktX0_care_2 := dk_seg dksX0_care_1 23 rfl rfl
theorem dX0_care_0 : decode cX0_care 0 = .ok (.aload_n 0, 1) := dk_42 (dk_at dksX0_care_0 0 rfl rfl)
theorem dX0_care_1 : decode cX0_care 1 = .ok (.iload_n 1, 1) := dk_27 (dk_at dksX0_care_0 1 rfl rfl)
theorem dX0_care_2 : decode cX0_care 2 = .ok (.invokevirtual 132, 3) := dk_182 0 132 (dk_at dksX0_care_0 2 rfl rfl)
theorem dX0_care_5 : decode cX0_care 5 = .ok (.astore_n 3, 1) := dk_78 (dk_at dksX0_care_0 5 rfl rfl)
theorem dX0_care_6 : decode cX0_care 6 = .ok (.aload_n 3, 1) := dk_45 (dk_at dksX0_care_0 6 rfl rfl)
theorem dX0_care_7 : decode cX0_care 7 = .ok (.ifnull 21, 3) := dk_198 0 21 (dk_at dksX0_care_0 7 rfl rfl)
theorem dX0_care_10 : decode cX0_care 10 = .ok (.iload_n 2, 1) := dk_28 (dk_at dksX0_care_0 10 rfl rfl)
theorem dX0_care_11 : decode cX0_care 11 = .ok (.iconst 0, 1) := dk_3 (dk_at dksX0_care_0 11 rfl rfl)
theorem dX0_care_12 : decode cX0_care 12 = .ok (.bipush 10, 2) := dk_16 10 (dk_at dksX0_care_0 12 rfl rfl)
theorem dX0_care_14 : decode cX0_care 14 = .ok (.invokestatic 3, 3) := dk_184 0 3 (dk_at dksX0_care_0 14 rfl rfl)
theorem dX0_care_17 : decode cX0_care 17 = .ok (.ifCond .eq 11, 3) := dk_153 0 11 (dk_at dksX0_care_0 17 rfl rfl)
theorem dX0_care_20 : decode cX0_care 20 = .ok (.aload_n 3, 1) := dk_45 (dk_at dksX0_care_0 20 rfl rfl)
theorem dX0_care_21 : decode cX0_care 21 = .ok (.iload_n 2, 1) := dk_28 (dk_at dksX0_care_0 21 rfl rfl)
theorem dX0_care_22 : decode cX0_care 22 = .ok (.invokevirtual 136, 3) := dk_182 0 136 (dk_at dksX0_care_1 0 rfl rfl)
theorem dX0_care_25 : decode cX0_care 25 = .ok (.ifCond .eq 5, 3) := dk_153 0 5 (dk_at dksX0_care_1 3 rfl rfl)
theorem dX0_care_28 : decode cX0_care 28 = .ok (.iconst 0, 1) := dk_3 (dk_at dksX0_care_1 6 rfl rfl)
theorem dX0_care_29 : decode cX0_care 29 = .ok (.ireturn, 1) := dk_172 (dk_at dksX0_care_1 7 rfl rfl)
theorem dX0_care_30 : decode cX0_care 30 = .ok (.aload_n 3, 1) := dk_45 (dk_at dksX0_care_1 8 rfl rfl)
theorem dX0_care_31 : decode cX0_care 31 = .ok (.dup, 1) := dk_89 (dk_at dksX0_care_1 9 rfl rfl)
theorem dX0_care_32 : decode cX0_care 32 = .ok (.getfield 140, 3) := dk_180 0 140 (dk_at dksX0_care_1 10 rfl rfl)
theorem dX0_care_35 : decode cX0_care 35 = .ok (.iconst 1, 1) := dk_4 (dk_at dksX0_care_1 13 rfl rfl)
theorem dX0_care_36 : decode cX0_care 36 = .ok (.iload_n 2, 1) := dk_28 (dk_at dksX0_care_1 14 rfl rfl)
theorem dX0_care_37 : decode cX0_care 37 = .ok (.ishl, 1) := dk_120 (dk_at dksX0_care_1 15 rfl rfl)
theorem dX0_care_38 : decode cX0_care 38 = .ok (.ior, 1) := dk_128 (dk_at dksX0_care_1 16 rfl rfl)
theorem dX0_care_39 : decode cX0_care 39 = .ok (.putfield 140, 3) := dk_181 0 140 (dk_at dksX0_care_1 17 rfl rfl)
theorem dX0_care_42 : decode cX0_care 42 = .ok (.aload_n 3, 1) := dk_45 (dk_at dksX0_care_1 20 rfl rfl)
theorem dX0_care_43 : decode cX0_care 43 = .ok (.iconst 0, 1) := dk_3 (dk_at dksX0_care_1 21 rfl rfl)
theorem dX0_care_44 : decode cX0_care 44 = .ok (.aload_n 3, 1) := dk_45 (dk_at dksX0_care_1 22 rfl rfl)
theorem dX0_care_45 : decode cX0_care 45 = .ok (.getfield 143, 3) := dk_180 0 143 (dk_at dksX0_care_2 0 rfl rfl)
theorem dX0_care_48 : decode cX0_care 48 = .ok (.bipush 30, 2) := dk_16 30 (dk_at dksX0_care_2 3 rfl rfl)
theorem dX0_care_50 : decode cX0_care 50 = .ok (.isub, 1) := dk_100 (dk_at dksX0_care_2 5 rfl rfl)
theorem dX0_care_51 : decode cX0_care 51 = .ok (.invokestatic 146, 3) := dk_184 0 146 (dk_at dksX0_care_2 6 rfl rfl)
theorem dX0_care_54 : decode cX0_care 54 = .ok (.putfield 143, 3) := dk_181 0 143 (dk_at dksX0_care_2 9 rfl rfl)
theorem dX0_care_57 : decode cX0_care 57 = .ok (.aload_n 3, 1) := dk_45 (dk_at dksX0_care_2 12 rfl rfl)
theorem dX0_care_58 : decode cX0_care 58 = .ok (.iconst 0, 1) := dk_3 (dk_at dksX0_care_2 13 rfl rfl)
theorem dX0_care_59 : decode cX0_care 59 = .ok (.putfield 152, 3) := dk_181 0 152 (dk_at dksX0_care_2 14 rfl rfl)
theorem dX0_care_62 : decode cX0_care 62 = .ok (.iconst 1, 1) := dk_4 (dk_at dksX0_care_2 17 rfl rfl)
theorem dX0_care_63 : decode cX0_care 63 = .ok (.ireturn, 1) := dk_172 (dk_at dksX0_care_2 18 rfl rfl)
def dkwX0_bedAt_1 : List UInt8 := [180, 0, 91, 176]
abbrev dktX0_bedAt_1 : List UInt8 := dkwX0_bedAt_1 ++ []
def dkwX0_bedAt_0 : List UInt8 := [42, 27, 182, 0, 87, 199, 0, 7, 1, 167, 0, 17, 42, 180, 0, 20, 27, 182, 0, 81, 192, 0, 85]
abbrev dktX0_bedAt_0 : List UInt8 := dkwX0_bedAt_0 ++ dktX0_bedAt_1
theorem dksX0_bedAt_0 : cX0_bedAt.data.toList.drop 0 = dktX0_bedAt_0 := by decide +kernel
theorem dksX0_bedAt_1 : cX0_bedAt.data.toList.drop 23 = dktX0_bedAt_1 := dk_seg dksX0_bedAt_0 23 rfl rfl
theorem dX0_bedAt_0 : decode cX0_bedAt 0 = .ok (.aload_n 0, 1) := dk_42 (dk_at dksX0_bedAt_0 0 rfl rfl)
theorem dX0_bedAt_1 : decode cX0_bedAt 1 = .ok (.iload_n 1, 1) := dk_27 (dk_at dksX0_bedAt_0 1 rfl rfl)
theorem dX0_bedAt_2 : decode cX0_bedAt 2 = .ok (.invokevirtual 87, 3) := dk_182 0 87 (dk_at dksX0_bedAt_0 2 rfl rfl)
theorem dX0_bedAt_5 : decode cX0_bedAt 5 = .ok (.ifnonnull 7, 3) := dk_199 0 7 (dk_at dksX0_bedAt_0 5 rfl rfl)
theorem dX0_bedAt_8 : decode cX0_bedAt 8 = .ok (.aconst_null, 1) := dk_1 (dk_at dksX0_bedAt_0 8 rfl rfl)
theorem dX0_bedAt_9 : decode cX0_bedAt 9 = .ok (.goto 17, 3) := dk_167 0 17 (dk_at dksX0_bedAt_0 9 rfl rfl)
theorem dX0_bedAt_12 : decode cX0_bedAt 12 = .ok (.aload_n 0, 1) := dk_42 (dk_at dksX0_bedAt_0 12 rfl rfl)
theorem dX0_bedAt_13 : decode cX0_bedAt 13 = .ok (.getfield 20, 3) := dk_180 0 20 (dk_at dksX0_bedAt_0 13 rfl rfl)
theorem dX0_bedAt_16 : decode cX0_bedAt 16 = .ok (.iload_n 1, 1) := dk_27 (dk_at dksX0_bedAt_0 16 rfl rfl)
theorem dX0_bedAt_17 : decode cX0_bedAt 17 = .ok (.invokevirtual 81, 3) := dk_182 0 81 (dk_at dksX0_bedAt_0 17 rfl rfl)
theorem dX0_bedAt_20 : decode cX0_bedAt 20 = .ok (.checkcast 85, 3) := dk_192 0 85 (dk_at dksX0_bedAt_0 20 rfl rfl)
theorem dX0_bedAt_23 : decode cX0_bedAt 23 = .ok (.getfield 91, 3) := dk_180 0 91 (dk_at dksX0_bedAt_1 0 rfl rfl)
theorem dX0_bedAt_26 : decode cX0_bedAt 26 = .ok (.areturn, 1) := dk_176 (dk_at dksX0_bedAt_1 3 rfl rfl)
def dkwX0_treat_2 : List UInt8 := [184, 0, 162, 181, 0, 159, 167, 0, 8, 45, 4, 181, 0, 155, 4, 172]
abbrev dktX0_treat_2 : List UInt8 := dkwX0_treat_2 ++ []
def dkwX0_treat_1 : List UInt8 := [45, 180, 0, 155, 153, 0, 5, 3, 172, 28, 154, 0, 22, 45, 16, 100, 45, 180, 0, 159, 16, 10, 96]
abbrev dktX0_treat_1 : List UInt8 := dkwX0_treat_1 ++ dktX0_treat_2
def dkwX0_treat_0 : List UInt8 := [42, 27, 182, 0, 132, 78, 45, 198, 0, 24, 28, 3, 4, 184, 0, 3, 153, 0, 15, 28, 4, 160, 0, 12]
abbrev dktX0_treat_0 : List UInt8 := dkwX0_treat_0 ++ dktX0_treat_1
theorem dksX0_treat_0 : cX0_treat.data.toList.drop 0 = dktX0_treat_0 := by decide +kernel
theorem dksX0_treat_1 : cX0_treat.data.toList.drop 24 = dktX0_treat_1 := dk_seg dksX0_treat_0 24 rfl rfl
theorem dksX0_treat_2 : cX0_treat.data.toList.drop 47 = dktX0_treat_2 := dk_seg dksX0_treat_1 23 rfl rfl
theorem dX0_treat_0 : decode cX0_treat 0 = .ok (.aload_n 0, 1) := dk_42 (dk_at dksX0_treat_0 0 rfl rfl)
theorem dX0_treat_1 : decode cX0_treat 1 = .ok (.iload_n 1, 1) := dk_27 (dk_at dksX0_treat_0 1 rfl rfl)
theorem dX0_treat_2 : decode cX0_treat 2 = .ok (.invokevirtual 132, 3) := dk_182 0 132 (dk_at dksX0_treat_0 2 rfl rfl)
theorem dX0_treat_5 : decode cX0_treat 5 = .ok (.astore_n 3, 1) := dk_78 (dk_at dksX0_treat_0 5 rfl rfl)
theorem dX0_treat_6 : decode cX0_treat 6 = .ok (.aload_n 3, 1) := dk_45 (dk_at dksX0_treat_0 6 rfl rfl)
theorem dX0_treat_7 : decode cX0_treat 7 = .ok (.ifnull 24, 3) := dk_198 0 24 (dk_at dksX0_treat_0 7 rfl rfl)
theorem dX0_treat_10 : decode cX0_treat 10 = .ok (.iload_n 2, 1) := dk_28 (dk_at dksX0_treat_0 10 rfl rfl)
theorem dX0_treat_11 : decode cX0_treat 11 = .ok (.iconst 0, 1) := dk_3 (dk_at dksX0_treat_0 11 rfl rfl)
theorem dX0_treat_12 : decode cX0_treat 12 = .ok (.iconst 1, 1) := dk_4 (dk_at dksX0_treat_0 12 rfl rfl)
theorem dX0_treat_13 : decode cX0_treat 13 = .ok (.invokestatic 3, 3) := dk_184 0 3 (dk_at dksX0_treat_0 13 rfl rfl)
theorem dX0_treat_16 : decode cX0_treat 16 = .ok (.ifCond .eq 15, 3) := dk_153 0 15 (dk_at dksX0_treat_0 16 rfl rfl)
theorem dX0_treat_19 : decode cX0_treat 19 = .ok (.iload_n 2, 1) := dk_28 (dk_at dksX0_treat_0 19 rfl rfl)
theorem dX0_treat_20 : decode cX0_treat 20 = .ok (.iconst 1, 1) := dk_4 (dk_at dksX0_treat_0 20 rfl rfl)
theorem dX0_treat_21 : decode cX0_treat 21 = .ok (.if_icmp .ne 12, 3) := dk_160 0 12 (dk_at dksX0_treat_0 21 rfl rfl)
theorem dX0_treat_24 : decode cX0_treat 24 = .ok (.aload_n 3, 1) := dk_45 (dk_at dksX0_treat_1 0 rfl rfl)
theorem dX0_treat_25 : decode cX0_treat 25 = .ok (.getfield 155, 3) := dk_180 0 155 (dk_at dksX0_treat_1 1 rfl rfl)
theorem dX0_treat_28 : decode cX0_treat 28 = .ok (.ifCond .eq 5, 3) := dk_153 0 5 (dk_at dksX0_treat_1 4 rfl rfl)
theorem dX0_treat_31 : decode cX0_treat 31 = .ok (.iconst 0, 1) := dk_3 (dk_at dksX0_treat_1 7 rfl rfl)
theorem dX0_treat_32 : decode cX0_treat 32 = .ok (.ireturn, 1) := dk_172 (dk_at dksX0_treat_1 8 rfl rfl)
theorem dX0_treat_33 : decode cX0_treat 33 = .ok (.iload_n 2, 1) := dk_28 (dk_at dksX0_treat_1 9 rfl rfl)
theorem dX0_treat_34 : decode cX0_treat 34 = .ok (.ifCond .ne 22, 3) := dk_154 0 22 (dk_at dksX0_treat_1 10 rfl rfl)
theorem dX0_treat_37 : decode cX0_treat 37 = .ok (.aload_n 3, 1) := dk_45 (dk_at dksX0_treat_1 13 rfl rfl)
theorem dX0_treat_38 : decode cX0_treat 38 = .ok (.bipush 100, 2) := dk_16 100 (dk_at dksX0_treat_1 14 rfl rfl)
theorem dX0_treat_40 : decode cX0_treat 40 = .ok (.aload_n 3, 1) := dk_45 (dk_at dksX0_treat_1 16 rfl rfl)
theorem dX0_treat_41 : decode cX0_treat 41 = .ok (.getfield 159, 3) := dk_180 0 159 (dk_at dksX0_treat_1 17 rfl rfl)
theorem dX0_treat_44 : decode cX0_treat 44 = .ok (.bipush 10, 2) := dk_16 10 (dk_at dksX0_treat_1 20 rfl rfl)
theorem dX0_treat_46 : decode cX0_treat 46 = .ok (.iadd, 1) := dk_96 (dk_at dksX0_treat_1 22 rfl rfl)
theorem dX0_treat_47 : decode cX0_treat 47 = .ok (.invokestatic 162, 3) := dk_184 0 162 (dk_at dksX0_treat_2 0 rfl rfl)
theorem dX0_treat_50 : decode cX0_treat 50 = .ok (.putfield 159, 3) := dk_181 0 159 (dk_at dksX0_treat_2 3 rfl rfl)
theorem dX0_treat_53 : decode cX0_treat 53 = .ok (.goto 8, 3) := dk_167 0 8 (dk_at dksX0_treat_2 6 rfl rfl)
theorem dX0_treat_56 : decode cX0_treat 56 = .ok (.aload_n 3, 1) := dk_45 (dk_at dksX0_treat_2 9 rfl rfl)
theorem dX0_treat_57 : decode cX0_treat 57 = .ok (.iconst 1, 1) := dk_4 (dk_at dksX0_treat_2 10 rfl rfl)
theorem dX0_treat_58 : decode cX0_treat 58 = .ok (.putfield 155, 3) := dk_181 0 155 (dk_at dksX0_treat_2 11 rfl rfl)
theorem dX0_treat_61 : decode cX0_treat 61 = .ok (.iconst 1, 1) := dk_4 (dk_at dksX0_treat_2 14 rfl rfl)
theorem dX0_treat_62 : decode cX0_treat 62 = .ok (.ireturn, 1) := dk_172 (dk_at dksX0_treat_2 15 rfl rfl)
def dkwX0_feed_1 : List UInt8 := [79, 89, 4, 28, 79, 89, 5, 29, 79, 89, 6, 21, 4, 79, 89, 7, 21, 5, 79, 182, 0, 175, 172]
abbrev dktX0_feed_1 : List UInt8 := dkwX0_feed_1 ++ []
def dkwX0_feed_0 : List UInt8 := [42, 180, 0, 172, 16, 20, 96, 17, 2, 188, 164, 0, 7, 2, 167, 0, 32, 42, 8, 188, 10, 89, 3, 27]
abbrev dktX0_feed_0 : List UInt8 := dkwX0_feed_0 ++ dktX0_feed_1
theorem dksX0_feed_0 : cX0_feed.data.toList.drop 0 = dktX0_feed_0 := by decide +kernel
theorem dksX0_feed_1 : cX0_feed.data.toList.drop 24 = dktX0_feed_1 := dk_seg dksX0_feed_0 24 rfl rfl
theorem dX0_feed_0 : decode cX0_feed 0 = .ok (.aload_n 0, 1) := dk_42 (dk_at dksX0_feed_0 0 rfl rfl)
theorem dX0_feed_1 : decode cX0_feed 1 = .ok (.getfield 172, 3) := dk_180 0 172 (dk_at dksX0_feed_0 1 rfl rfl)
theorem dX0_feed_4 : decode cX0_feed 4 = .ok (.bipush 20, 2) := dk_16 20 (dk_at dksX0_feed_0 4 rfl rfl)
theorem dX0_feed_6 : decode cX0_feed 6 = .ok (.iadd, 1) := dk_96 (dk_at dksX0_feed_0 6 rfl rfl)
theorem dX0_feed_7 : decode cX0_feed 7 = .ok (.sipush 700, 3) := dk_17 2 188 (dk_at dksX0_feed_0 7 rfl rfl)
theorem dX0_feed_10 : decode cX0_feed 10 = .ok (.if_icmp .le 7, 3) := dk_164 0 7 (dk_at dksX0_feed_0 10 rfl rfl)
theorem dX0_feed_13 : decode cX0_feed 13 = .ok (.iconst (-1), 1) := dk_2 (dk_at dksX0_feed_0 13 rfl rfl)
theorem dX0_feed_14 : decode cX0_feed 14 = .ok (.goto 32, 3) := dk_167 0 32 (dk_at dksX0_feed_0 14 rfl rfl)
theorem dX0_feed_17 : decode cX0_feed 17 = .ok (.aload_n 0, 1) := dk_42 (dk_at dksX0_feed_0 17 rfl rfl)
theorem dX0_feed_18 : decode cX0_feed 18 = .ok (.iconst 5, 1) := dk_8 (dk_at dksX0_feed_0 18 rfl rfl)
theorem dX0_feed_19 : decode cX0_feed 19 = .ok (.newarray .int, 2) := dk_188_10 (dk_at dksX0_feed_0 19 rfl rfl)
theorem dX0_feed_21 : decode cX0_feed 21 = .ok (.dup, 1) := dk_89 (dk_at dksX0_feed_0 21 rfl rfl)
theorem dX0_feed_22 : decode cX0_feed 22 = .ok (.iconst 0, 1) := dk_3 (dk_at dksX0_feed_0 22 rfl rfl)
theorem dX0_feed_23 : decode cX0_feed 23 = .ok (.iload_n 1, 1) := dk_27 (dk_at dksX0_feed_0 23 rfl rfl)
theorem dX0_feed_24 : decode cX0_feed 24 = .ok (.iastore, 1) := dk_79 (dk_at dksX0_feed_1 0 rfl rfl)
theorem dX0_feed_25 : decode cX0_feed 25 = .ok (.dup, 1) := dk_89 (dk_at dksX0_feed_1 1 rfl rfl)
theorem dX0_feed_26 : decode cX0_feed 26 = .ok (.iconst 1, 1) := dk_4 (dk_at dksX0_feed_1 2 rfl rfl)
theorem dX0_feed_27 : decode cX0_feed 27 = .ok (.iload_n 2, 1) := dk_28 (dk_at dksX0_feed_1 3 rfl rfl)
theorem dX0_feed_28 : decode cX0_feed 28 = .ok (.iastore, 1) := dk_79 (dk_at dksX0_feed_1 4 rfl rfl)
theorem dX0_feed_29 : decode cX0_feed 29 = .ok (.dup, 1) := dk_89 (dk_at dksX0_feed_1 5 rfl rfl)
theorem dX0_feed_30 : decode cX0_feed 30 = .ok (.iconst 2, 1) := dk_5 (dk_at dksX0_feed_1 6 rfl rfl)
theorem dX0_feed_31 : decode cX0_feed 31 = .ok (.iload_n 3, 1) := dk_29 (dk_at dksX0_feed_1 7 rfl rfl)
theorem dX0_feed_32 : decode cX0_feed 32 = .ok (.iastore, 1) := dk_79 (dk_at dksX0_feed_1 8 rfl rfl)
theorem dX0_feed_33 : decode cX0_feed 33 = .ok (.dup, 1) := dk_89 (dk_at dksX0_feed_1 9 rfl rfl)
theorem dX0_feed_34 : decode cX0_feed 34 = .ok (.iconst 3, 1) := dk_6 (dk_at dksX0_feed_1 10 rfl rfl)
theorem dX0_feed_35 : decode cX0_feed 35 = .ok (.iload 4, 2) := dk_21 4 (dk_at dksX0_feed_1 11 rfl rfl)
theorem dX0_feed_37 : decode cX0_feed 37 = .ok (.iastore, 1) := dk_79 (dk_at dksX0_feed_1 13 rfl rfl)
theorem dX0_feed_38 : decode cX0_feed 38 = .ok (.dup, 1) := dk_89 (dk_at dksX0_feed_1 14 rfl rfl)
theorem dX0_feed_39 : decode cX0_feed 39 = .ok (.iconst 4, 1) := dk_7 (dk_at dksX0_feed_1 15 rfl rfl)
theorem dX0_feed_40 : decode cX0_feed 40 = .ok (.iload 5, 2) := dk_21 5 (dk_at dksX0_feed_1 16 rfl rfl)
theorem dX0_feed_42 : decode cX0_feed 42 = .ok (.iastore, 1) := dk_79 (dk_at dksX0_feed_1 18 rfl rfl)
theorem dX0_feed_43 : decode cX0_feed 43 = .ok (.invokevirtual 175, 3) := dk_182 0 175 (dk_at dksX0_feed_1 19 rfl rfl)
theorem dX0_feed_46 : decode cX0_feed 46 = .ok (.ireturn, 1) := dk_172 (dk_at dksX0_feed_1 22 rfl rfl)
def dkwX0_tapes_2 : List UInt8 := [122, 145, 84, 132, 6, 248, 167, 255, 226, 132, 4, 1, 167, 255, 204, 42, 180, 0, 172, 172]
abbrev dktX0_tapes_2 : List UInt8 := dkwX0_tapes_2 ++ []
def dkwX0_tapes_1 : List UInt8 := [21, 6, 155, 0, 31, 42, 180, 0, 39, 42, 89, 180, 0, 172, 90, 4, 96, 181, 0, 172, 21, 5, 21, 6]
abbrev dktX0_tapes_1 : List UInt8 := dkwX0_tapes_1 ++ dktX0_tapes_2
def dkwX0_tapes_0 : List UInt8 := [43, 77, 44, 190, 62, 3, 54, 4, 21, 4, 29, 162, 0, 52, 44, 21, 4, 46, 54, 5, 16, 24, 54, 6]
abbrev dktX0_tapes_0 : List UInt8 := dkwX0_tapes_0 ++ dktX0_tapes_1
theorem dksX0_tapes_0 : cX0_tapes.data.toList.drop 0 = dktX0_tapes_0 := by decide +kernel
theorem dksX0_tapes_1 : cX0_tapes.data.toList.drop 24 = dktX0_tapes_1 := dk_seg dksX0_tapes_0 24 rfl rfl
theorem dksX0_tapes_2 : cX0_tapes.data.toList.drop 48 = dktX0_tapes_2 := dk_seg dksX0_tapes_1 24 rfl rfl
theorem dX0_tapes_0 : decode cX0_tapes 0 = .ok (.aload_n 1, 1) := dk_43 (dk_at dksX0_tapes_0 0 rfl rfl)
theorem dX0_tapes_1 : decode cX0_tapes 1 = .ok (.astore_n 2, 1) := dk_77 (dk_at dksX0_tapes_0 1 rfl rfl)
theorem dX0_tapes_2 : decode cX0_tapes 2 = .ok (.aload_n 2, 1) := dk_44 (dk_at dksX0_tapes_0 2 rfl rfl)
theorem dX0_tapes_3 : decode cX0_tapes 3 = .ok (.arraylength, 1) := dk_190 (dk_at dksX0_tapes_0 3 rfl rfl)
theorem dX0_tapes_4 : decode cX0_tapes 4 = .ok (.istore_n 3, 1) := dk_62 (dk_at dksX0_tapes_0 4 rfl rfl)
theorem dX0_tapes_5 : decode cX0_tapes 5 = .ok (.iconst 0, 1) := dk_3 (dk_at dksX0_tapes_0 5 rfl rfl)
theorem dX0_tapes_6 : decode cX0_tapes 6 = .ok (.istore 4, 2) := dk_54 4 (dk_at dksX0_tapes_0 6 rfl rfl)
theorem dX0_tapes_8 : decode cX0_tapes 8 = .ok (.iload 4, 2) := dk_21 4 (dk_at dksX0_tapes_0 8 rfl rfl)
theorem dX0_tapes_10 : decode cX0_tapes 10 = .ok (.iload_n 3, 1) := dk_29 (dk_at dksX0_tapes_0 10 rfl rfl)
theorem dX0_tapes_11 : decode cX0_tapes 11 = .ok (.if_icmp .ge 52, 3) := dk_162 0 52 (dk_at dksX0_tapes_0 11 rfl rfl)
theorem dX0_tapes_14 : decode cX0_tapes 14 = .ok (.aload_n 2, 1) := dk_44 (dk_at dksX0_tapes_0 14 rfl rfl)
theorem dX0_tapes_15 : decode cX0_tapes 15 = .ok (.iload 4, 2) := dk_21 4 (dk_at dksX0_tapes_0 15 rfl rfl)
theorem dX0_tapes_17 : decode cX0_tapes 17 = .ok (.iaload, 1) := dk_46 (dk_at dksX0_tapes_0 17 rfl rfl)
theorem dX0_tapes_18 : decode cX0_tapes 18 = .ok (.istore 5, 2) := dk_54 5 (dk_at dksX0_tapes_0 18 rfl rfl)
theorem dX0_tapes_20 : decode cX0_tapes 20 = .ok (.bipush 24, 2) := dk_16 24 (dk_at dksX0_tapes_0 20 rfl rfl)
theorem dX0_tapes_22 : decode cX0_tapes 22 = .ok (.istore 6, 2) := dk_54 6 (dk_at dksX0_tapes_0 22 rfl rfl)
theorem dX0_tapes_24 : decode cX0_tapes 24 = .ok (.iload 6, 2) := dk_21 6 (dk_at dksX0_tapes_1 0 rfl rfl)
theorem dX0_tapes_26 : decode cX0_tapes 26 = .ok (.ifCond .lt 31, 3) := dk_155 0 31 (dk_at dksX0_tapes_1 2 rfl rfl)
theorem dX0_tapes_29 : decode cX0_tapes 29 = .ok (.aload_n 0, 1) := dk_42 (dk_at dksX0_tapes_1 5 rfl rfl)
theorem dX0_tapes_30 : decode cX0_tapes 30 = .ok (.getfield 39, 3) := dk_180 0 39 (dk_at dksX0_tapes_1 6 rfl rfl)
theorem dX0_tapes_33 : decode cX0_tapes 33 = .ok (.aload_n 0, 1) := dk_42 (dk_at dksX0_tapes_1 9 rfl rfl)
theorem dX0_tapes_34 : decode cX0_tapes 34 = .ok (.dup, 1) := dk_89 (dk_at dksX0_tapes_1 10 rfl rfl)
theorem dX0_tapes_35 : decode cX0_tapes 35 = .ok (.getfield 172, 3) := dk_180 0 172 (dk_at dksX0_tapes_1 11 rfl rfl)
theorem dX0_tapes_38 : decode cX0_tapes 38 = .ok (.dup_x1, 1) := dk_90 (dk_at dksX0_tapes_1 14 rfl rfl)
theorem dX0_tapes_39 : decode cX0_tapes 39 = .ok (.iconst 1, 1) := dk_4 (dk_at dksX0_tapes_1 15 rfl rfl)
theorem dX0_tapes_40 : decode cX0_tapes 40 = .ok (.iadd, 1) := dk_96 (dk_at dksX0_tapes_1 16 rfl rfl)
theorem dX0_tapes_41 : decode cX0_tapes 41 = .ok (.putfield 172, 3) := dk_181 0 172 (dk_at dksX0_tapes_1 17 rfl rfl)
theorem dX0_tapes_44 : decode cX0_tapes 44 = .ok (.iload 5, 2) := dk_21 5 (dk_at dksX0_tapes_1 20 rfl rfl)
theorem dX0_tapes_46 : decode cX0_tapes 46 = .ok (.iload 6, 2) := dk_21 6 (dk_at dksX0_tapes_1 22 rfl rfl)
theorem dX0_tapes_48 : decode cX0_tapes 48 = .ok (.ishr, 1) := dk_122 (dk_at dksX0_tapes_2 0 rfl rfl)
theorem dX0_tapes_49 : decode cX0_tapes 49 = .ok (.i2b, 1) := dk_145 (dk_at dksX0_tapes_2 1 rfl rfl)
theorem dX0_tapes_50 : decode cX0_tapes 50 = .ok (.bastore, 1) := dk_84 (dk_at dksX0_tapes_2 2 rfl rfl)
theorem dX0_tapes_51 : decode cX0_tapes 51 = .ok (.iinc 6 (-8), 3) := dk_132 6 248 (dk_at dksX0_tapes_2 3 rfl rfl)
theorem dX0_tapes_54 : decode cX0_tapes 54 = .ok (.goto (-30), 3) := dk_167 255 226 (dk_at dksX0_tapes_2 6 rfl rfl)
theorem dX0_tapes_57 : decode cX0_tapes 57 = .ok (.iinc 4 1, 3) := dk_132 4 1 (dk_at dksX0_tapes_2 9 rfl rfl)
theorem dX0_tapes_60 : decode cX0_tapes 60 = .ok (.goto (-52), 3) := dk_167 255 204 (dk_at dksX0_tapes_2 12 rfl rfl)
theorem dX0_tapes_63 : decode cX0_tapes 63 = .ok (.aload_n 0, 1) := dk_42 (dk_at dksX0_tapes_2 15 rfl rfl)
theorem dX0_tapes_64 : decode cX0_tapes 64 = .ok (.getfield 172, 3) := dk_180 0 172 (dk_at dksX0_tapes_2 16 rfl rfl)
theorem dX0_tapes_67 : decode cX0_tapes 67 = .ok (.ireturn, 1) := dk_172 (dk_at dksX0_tapes_2 19 rfl rfl)
def dkwX0_rules_6 : List UInt8 := [181, 0, 43, 2, 54, 4, 42, 3, 181, 0, 172, 21, 4, 172, 58, 5, 42, 3, 181, 0, 172, 25, 5, 191]
abbrev dktX0_rules_6 : List UInt8 := dkwX0_rules_6 ++ []
def dkwX0_rules_5 : List UInt8 := [87, 42, 180, 0, 27, 182, 0, 77, 4, 100, 62, 42, 3, 181, 0, 172, 29, 172, 78, 42, 45, 180, 1, 68]
abbrev dktX0_rules_5 : List UInt8 := dkwX0_rules_5 ++ dktX0_rules_6
def dkwX0_rules_4 : List UInt8 := [182, 1, 65, 44, 89, 180, 1, 62, 4, 96, 181, 1, 62, 167, 255, 211, 42, 180, 0, 27, 44, 182, 0, 100]
abbrev dktX0_rules_4 : List UInt8 := dkwX0_rules_4 ++ dktX0_rules_5
def dkwX0_rules_3 : List UInt8 := [180, 1, 62, 16, 24, 160, 0, 15, 187, 0, 214, 89, 42, 180, 0, 188, 183, 0, 216, 191, 42, 44]
abbrev dktX0_rules_3 : List UInt8 := dkwX0_rules_3 ++ dktX0_rules_4
def dkwX0_rules_2 : List UInt8 := [89, 42, 180, 0, 119, 183, 0, 32, 77, 42, 182, 0, 217, 42, 180, 0, 189, 16, 46, 159, 0, 42, 44]
abbrev dktX0_rules_2 : List UInt8 := dkwX0_rules_2 ++ dktX0_rules_3
def dkwX0_rules_1 : List UInt8 := [160, 0, 6, 16, 253, 172, 42, 27, 181, 0, 179, 42, 3, 181, 0, 182, 42, 2, 181, 0, 43, 187, 0, 30]
abbrev dktX0_rules_1 : List UInt8 := dkwX0_rules_1 ++ dktX0_rules_2
def dkwX0_rules_0 : List UInt8 := [27, 3, 42, 180, 0, 172, 184, 0, 3, 154, 0, 6, 16, 254, 172, 42, 180, 0, 27, 182, 0, 77, 16, 10]
abbrev dktX0_rules_0 : List UInt8 := dkwX0_rules_0 ++ dktX0_rules_1
theorem dksX0_rules_0 : cX0_rules.data.toList.drop 0 = dktX0_rules_0 := by decide +kernel
theorem dksX0_rules_1 : cX0_rules.data.toList.drop 24 = dktX0_rules_1 := dk_seg dksX0_rules_0 24 rfl rfl
theorem dksX0_rules_2 : cX0_rules.data.toList.drop 48 = dktX0_rules_2 := dk_seg dksX0_rules_1 24 rfl rfl
theorem dksX0_rules_3 : cX0_rules.data.toList.drop 71 = dktX0_rules_3 := dk_seg dksX0_rules_2 23 rfl rfl
theorem dksX0_rules_4 : cX0_rules.data.toList.drop 93 = dktX0_rules_4 := dk_seg dksX0_rules_3 22 rfl rfl
theorem dksX0_rules_5 : cX0_rules.data.toList.drop 117 = dktX0_rules_5 := dk_seg dksX0_rules_4 24 rfl rfl
theorem dksX0_rules_6 : cX0_rules.data.toList.drop 141 = dktX0_rules_6 := dk_seg dksX0_rules_5 24 rfl rfl
theorem dX0_rules_0 : decode cX0_rules 0 = .ok (.iload_n 1, 1) := dk_27 (dk_at dksX0_rules_0 0 rfl rfl)
theorem dX0_rules_1 : decode cX0_rules 1 = .ok (.iconst 0, 1) := dk_3 (dk_at dksX0_rules_0 1 rfl rfl)
theorem dX0_rules_2 : decode cX0_rules 2 = .ok (.aload_n 0, 1) := dk_42 (dk_at dksX0_rules_0 2 rfl rfl)
theorem dX0_rules_3 : decode cX0_rules 3 = .ok (.getfield 172, 3) := dk_180 0 172 (dk_at dksX0_rules_0 3 rfl rfl)
theorem dX0_rules_6 : decode cX0_rules 6 = .ok (.invokestatic 3, 3) := dk_184 0 3 (dk_at dksX0_rules_0 6 rfl rfl)
theorem dX0_rules_9 : decode cX0_rules 9 = .ok (.ifCond .ne 6, 3) := dk_154 0 6 (dk_at dksX0_rules_0 9 rfl rfl)
theorem dX0_rules_12 : decode cX0_rules 12 = .ok (.bipush (-2), 2) := dk_16 254 (dk_at dksX0_rules_0 12 rfl rfl)
theorem dX0_rules_14 : decode cX0_rules 14 = .ok (.ireturn, 1) := dk_172 (dk_at dksX0_rules_0 14 rfl rfl)
theorem dX0_rules_15 : decode cX0_rules 15 = .ok (.aload_n 0, 1) := dk_42 (dk_at dksX0_rules_0 15 rfl rfl)
theorem dX0_rules_16 : decode cX0_rules 16 = .ok (.getfield 27, 3) := dk_180 0 27 (dk_at dksX0_rules_0 16 rfl rfl)
theorem dX0_rules_19 : decode cX0_rules 19 = .ok (.invokevirtual 77, 3) := dk_182 0 77 (dk_at dksX0_rules_0 19 rfl rfl)
theorem dX0_rules_22 : decode cX0_rules 22 = .ok (.bipush 10, 2) := dk_16 10 (dk_at dksX0_rules_0 22 rfl rfl)
theorem dX0_rules_24 : decode cX0_rules 24 = .ok (.if_icmp .ne 6, 3) := dk_160 0 6 (dk_at dksX0_rules_1 0 rfl rfl)
theorem dX0_rules_27 : decode cX0_rules 27 = .ok (.bipush (-3), 2) := dk_16 253 (dk_at dksX0_rules_1 3 rfl rfl)
theorem dX0_rules_29 : decode cX0_rules 29 = .ok (.ireturn, 1) := dk_172 (dk_at dksX0_rules_1 5 rfl rfl)
theorem dX0_rules_30 : decode cX0_rules 30 = .ok (.aload_n 0, 1) := dk_42 (dk_at dksX0_rules_1 6 rfl rfl)
theorem dX0_rules_31 : decode cX0_rules 31 = .ok (.iload_n 1, 1) := dk_27 (dk_at dksX0_rules_1 7 rfl rfl)
theorem dX0_rules_32 : decode cX0_rules 32 = .ok (.putfield 179, 3) := dk_181 0 179 (dk_at dksX0_rules_1 8 rfl rfl)
theorem dX0_rules_35 : decode cX0_rules 35 = .ok (.aload_n 0, 1) := dk_42 (dk_at dksX0_rules_1 11 rfl rfl)
theorem dX0_rules_36 : decode cX0_rules 36 = .ok (.iconst 0, 1) := dk_3 (dk_at dksX0_rules_1 12 rfl rfl)
theorem dX0_rules_37 : decode cX0_rules 37 = .ok (.putfield 182, 3) := dk_181 0 182 (dk_at dksX0_rules_1 13 rfl rfl)
theorem dX0_rules_40 : decode cX0_rules 40 = .ok (.aload_n 0, 1) := dk_42 (dk_at dksX0_rules_1 16 rfl rfl)
theorem dX0_rules_41 : decode cX0_rules 41 = .ok (.iconst (-1), 1) := dk_2 (dk_at dksX0_rules_1 17 rfl rfl)
theorem dX0_rules_42 : decode cX0_rules 42 = .ok (.putfield 43, 3) := dk_181 0 43 (dk_at dksX0_rules_1 18 rfl rfl)
theorem dX0_rules_45 : decode cX0_rules 45 = .ok (.new 30, 3) := dk_187 0 30 (dk_at dksX0_rules_1 21 rfl rfl)
theorem dX0_rules_48 : decode cX0_rules 48 = .ok (.dup, 1) := dk_89 (dk_at dksX0_rules_2 0 rfl rfl)
theorem dX0_rules_49 : decode cX0_rules 49 = .ok (.aload_n 0, 1) := dk_42 (dk_at dksX0_rules_2 1 rfl rfl)
theorem dX0_rules_50 : decode cX0_rules 50 = .ok (.getfield 119, 3) := dk_180 0 119 (dk_at dksX0_rules_2 2 rfl rfl)
theorem dX0_rules_53 : decode cX0_rules 53 = .ok (.invokespecial 32, 3) := dk_183 0 32 (dk_at dksX0_rules_2 5 rfl rfl)
theorem dX0_rules_56 : decode cX0_rules 56 = .ok (.astore_n 2, 1) := dk_77 (dk_at dksX0_rules_2 8 rfl rfl)
theorem dX0_rules_57 : decode cX0_rules 57 = .ok (.aload_n 0, 1) := dk_42 (dk_at dksX0_rules_2 9 rfl rfl)
theorem dX0_rules_58 : decode cX0_rules 58 = .ok (.invokevirtual 217, 3) := dk_182 0 217 (dk_at dksX0_rules_2 10 rfl rfl)
theorem dX0_rules_61 : decode cX0_rules 61 = .ok (.aload_n 0, 1) := dk_42 (dk_at dksX0_rules_2 13 rfl rfl)
theorem dX0_rules_62 : decode cX0_rules 62 = .ok (.getfield 189, 3) := dk_180 0 189 (dk_at dksX0_rules_2 14 rfl rfl)
theorem dX0_rules_65 : decode cX0_rules 65 = .ok (.bipush 46, 2) := dk_16 46 (dk_at dksX0_rules_2 17 rfl rfl)
theorem dX0_rules_67 : decode cX0_rules 67 = .ok (.if_icmp .eq 42, 3) := dk_159 0 42 (dk_at dksX0_rules_2 19 rfl rfl)
theorem dX0_rules_70 : decode cX0_rules 70 = .ok (.aload_n 2, 1) := dk_44 (dk_at dksX0_rules_2 22 rfl rfl)
theorem dX0_rules_71 : decode cX0_rules 71 = .ok (.getfield 318, 3) := dk_180 1 62 (dk_at dksX0_rules_3 0 rfl rfl)
theorem dX0_rules_74 : decode cX0_rules 74 = .ok (.bipush 24, 2) := dk_16 24 (dk_at dksX0_rules_3 3 rfl rfl)
theorem dX0_rules_76 : decode cX0_rules 76 = .ok (.if_icmp .ne 15, 3) := dk_160 0 15 (dk_at dksX0_rules_3 5 rfl rfl)
theorem dX0_rules_79 : decode cX0_rules 79 = .ok (.new 214, 3) := dk_187 0 214 (dk_at dksX0_rules_3 8 rfl rfl)
theorem dX0_rules_82 : decode cX0_rules 82 = .ok (.dup, 1) := dk_89 (dk_at dksX0_rules_3 11 rfl rfl)
theorem dX0_rules_83 : decode cX0_rules 83 = .ok (.aload_n 0, 1) := dk_42 (dk_at dksX0_rules_3 12 rfl rfl)
theorem dX0_rules_84 : decode cX0_rules 84 = .ok (.getfield 188, 3) := dk_180 0 188 (dk_at dksX0_rules_3 13 rfl rfl)
theorem dX0_rules_87 : decode cX0_rules 87 = .ok (.invokespecial 216, 3) := dk_183 0 216 (dk_at dksX0_rules_3 16 rfl rfl)
theorem dX0_rules_90 : decode cX0_rules 90 = .ok (.athrow, 1) := dk_191 (dk_at dksX0_rules_3 19 rfl rfl)
theorem dX0_rules_91 : decode cX0_rules 91 = .ok (.aload_n 0, 1) := dk_42 (dk_at dksX0_rules_3 20 rfl rfl)
theorem dX0_rules_92 : decode cX0_rules 92 = .ok (.aload_n 2, 1) := dk_44 (dk_at dksX0_rules_3 21 rfl rfl)
theorem dX0_rules_93 : decode cX0_rules 93 = .ok (.invokevirtual 321, 3) := dk_182 1 65 (dk_at dksX0_rules_4 0 rfl rfl)
theorem dX0_rules_96 : decode cX0_rules 96 = .ok (.aload_n 2, 1) := dk_44 (dk_at dksX0_rules_4 3 rfl rfl)
theorem dX0_rules_97 : decode cX0_rules 97 = .ok (.dup, 1) := dk_89 (dk_at dksX0_rules_4 4 rfl rfl)
theorem dX0_rules_98 : decode cX0_rules 98 = .ok (.getfield 318, 3) := dk_180 1 62 (dk_at dksX0_rules_4 5 rfl rfl)
theorem dX0_rules_101 : decode cX0_rules 101 = .ok (.iconst 1, 1) := dk_4 (dk_at dksX0_rules_4 8 rfl rfl)
theorem dX0_rules_102 : decode cX0_rules 102 = .ok (.iadd, 1) := dk_96 (dk_at dksX0_rules_4 9 rfl rfl)
theorem dX0_rules_103 : decode cX0_rules 103 = .ok (.putfield 318, 3) := dk_181 1 62 (dk_at dksX0_rules_4 10 rfl rfl)
theorem dX0_rules_106 : decode cX0_rules 106 = .ok (.goto (-45), 3) := dk_167 255 211 (dk_at dksX0_rules_4 13 rfl rfl)
theorem dX0_rules_109 : decode cX0_rules 109 = .ok (.aload_n 0, 1) := dk_42 (dk_at dksX0_rules_4 16 rfl rfl)
theorem dX0_rules_110 : decode cX0_rules 110 = .ok (.getfield 27, 3) := dk_180 0 27 (dk_at dksX0_rules_4 17 rfl rfl)
theorem dX0_rules_113 : decode cX0_rules 113 = .ok (.aload_n 2, 1) := dk_44 (dk_at dksX0_rules_4 20 rfl rfl)
theorem dX0_rules_114 : decode cX0_rules 114 = .ok (.invokevirtual 100, 3) := dk_182 0 100 (dk_at dksX0_rules_4 21 rfl rfl)
theorem dX0_rules_117 : decode cX0_rules 117 = .ok (.pop, 1) := dk_87 (dk_at dksX0_rules_5 0 rfl rfl)
theorem dX0_rules_118 : decode cX0_rules 118 = .ok (.aload_n 0, 1) := dk_42 (dk_at dksX0_rules_5 1 rfl rfl)
theorem dX0_rules_119 : decode cX0_rules 119 = .ok (.getfield 27, 3) := dk_180 0 27 (dk_at dksX0_rules_5 2 rfl rfl)
theorem dX0_rules_122 : decode cX0_rules 122 = .ok (.invokevirtual 77, 3) := dk_182 0 77 (dk_at dksX0_rules_5 5 rfl rfl)
theorem dX0_rules_125 : decode cX0_rules 125 = .ok (.iconst 1, 1) := dk_4 (dk_at dksX0_rules_5 8 rfl rfl)
theorem dX0_rules_126 : decode cX0_rules 126 = .ok (.isub, 1) := dk_100 (dk_at dksX0_rules_5 9 rfl rfl)
theorem dX0_rules_127 : decode cX0_rules 127 = .ok (.istore_n 3, 1) := dk_62 (dk_at dksX0_rules_5 10 rfl rfl)
theorem dX0_rules_128 : decode cX0_rules 128 = .ok (.aload_n 0, 1) := dk_42 (dk_at dksX0_rules_5 11 rfl rfl)
theorem dX0_rules_129 : decode cX0_rules 129 = .ok (.iconst 0, 1) := dk_3 (dk_at dksX0_rules_5 12 rfl rfl)
theorem dX0_rules_130 : decode cX0_rules 130 = .ok (.putfield 172, 3) := dk_181 0 172 (dk_at dksX0_rules_5 13 rfl rfl)
theorem dX0_rules_133 : decode cX0_rules 133 = .ok (.iload_n 3, 1) := dk_29 (dk_at dksX0_rules_5 16 rfl rfl)
theorem dX0_rules_134 : decode cX0_rules 134 = .ok (.ireturn, 1) := dk_172 (dk_at dksX0_rules_5 17 rfl rfl)
theorem dX0_rules_135 : decode cX0_rules 135 = .ok (.astore_n 3, 1) := dk_78 (dk_at dksX0_rules_5 18 rfl rfl)
theorem dX0_rules_136 : decode cX0_rules 136 = .ok (.aload_n 0, 1) := dk_42 (dk_at dksX0_rules_5 19 rfl rfl)
theorem dX0_rules_137 : decode cX0_rules 137 = .ok (.aload_n 3, 1) := dk_45 (dk_at dksX0_rules_5 20 rfl rfl)
theorem dX0_rules_138 : decode cX0_rules 138 = .ok (.getfield 324, 3) := dk_180 1 68 (dk_at dksX0_rules_5 21 rfl rfl)
theorem dX0_rules_141 : decode cX0_rules 141 = .ok (.putfield 43, 3) := dk_181 0 43 (dk_at dksX0_rules_6 0 rfl rfl)
theorem dX0_rules_144 : decode cX0_rules 144 = .ok (.iconst (-1), 1) := dk_2 (dk_at dksX0_rules_6 3 rfl rfl)
theorem dX0_rules_145 : decode cX0_rules 145 = .ok (.istore 4, 2) := dk_54 4 (dk_at dksX0_rules_6 4 rfl rfl)
theorem dX0_rules_147 : decode cX0_rules 147 = .ok (.aload_n 0, 1) := dk_42 (dk_at dksX0_rules_6 6 rfl rfl)
theorem dX0_rules_148 : decode cX0_rules 148 = .ok (.iconst 0, 1) := dk_3 (dk_at dksX0_rules_6 7 rfl rfl)
theorem dX0_rules_149 : decode cX0_rules 149 = .ok (.putfield 172, 3) := dk_181 0 172 (dk_at dksX0_rules_6 8 rfl rfl)
theorem dX0_rules_152 : decode cX0_rules 152 = .ok (.iload 4, 2) := dk_21 4 (dk_at dksX0_rules_6 11 rfl rfl)
theorem dX0_rules_154 : decode cX0_rules 154 = .ok (.ireturn, 1) := dk_172 (dk_at dksX0_rules_6 13 rfl rfl)
theorem dX0_rules_155 : decode cX0_rules 155 = .ok (.astore 5, 2) := dk_58 5 (dk_at dksX0_rules_6 14 rfl rfl)
theorem dX0_rules_157 : decode cX0_rules 157 = .ok (.aload_n 0, 1) := dk_42 (dk_at dksX0_rules_6 16 rfl rfl)
theorem dX0_rules_158 : decode cX0_rules 158 = .ok (.iconst 0, 1) := dk_3 (dk_at dksX0_rules_6 17 rfl rfl)
theorem dX0_rules_159 : decode cX0_rules 159 = .ok (.putfield 172, 3) := dk_181 0 172 (dk_at dksX0_rules_6 18 rfl rfl)
theorem dX0_rules_162 : decode cX0_rules 162 = .ok (.aload 5, 2) := dk_25 5 (dk_at dksX0_rules_6 21 rfl rfl)
theorem dX0_rules_164 : decode cX0_rules 164 = .ok (.athrow, 1) := dk_191 (dk_at dksX0_rules_6 23 rfl rfl)
def dkwX0_next_11 : List UInt8 := [16, 63, 181, 0, 189, 42, 89, 180, 0, 182, 4, 96, 181, 0, 182, 177]
abbrev dktX0_next_11 : List UInt8 := dkwX0_next_11 ++ []
def dkwX0_next_10 : List UInt8 := [167, 0, 5, 16, 63, 181, 0, 189, 167, 0, 30, 42, 27, 16, 59, 160, 0, 8, 16, 59, 167, 0, 5]
abbrev dktX0_next_10 : List UInt8 := dkwX0_next_10 ++ dktX0_next_11
def dkwX0_next_9 : List UInt8 := [181, 0, 182, 167, 255, 204, 42, 42, 180, 0, 182, 42, 180, 0, 188, 100, 7, 163, 0, 8, 16, 110]
abbrev dktX0_next_9 : List UInt8 := dkwX0_next_9 ++ dktX0_next_10
def dkwX0_next_8 : List UInt8 := [180, 0, 182, 182, 0, 185, 96, 16, 48, 100, 184, 0, 162, 181, 0, 210, 42, 89, 180, 0, 182, 4, 96]
abbrev dktX0_next_8 : List UInt8 := dkwX0_next_8 ++ dktX0_next_9
def dkwX0_next_7 : List UInt8 := [180, 0, 182, 182, 0, 185, 184, 0, 207, 153, 0, 44, 42, 18, 213, 16, 10, 42, 180, 0, 210, 104, 42, 42]
abbrev dktX0_next_7 : List UInt8 := dkwX0_next_7 ++ dktX0_next_8
def dkwX0_next_6 : List UInt8 := [182, 0, 203, 181, 0, 49, 167, 0, 124, 27, 184, 0, 207, 153, 0, 90, 42, 3, 181, 0, 210, 42, 42]
abbrev dktX0_next_6 : List UInt8 := dkwX0_next_6 ++ dktX0_next_7
def dkwX0_next_5 : List UInt8 := [182, 0, 185, 146, 182, 0, 199, 87, 42, 89, 180, 0, 182, 4, 96, 181, 0, 182, 167, 255, 218, 42, 44]
abbrev dktX0_next_5 : List UInt8 := dkwX0_next_5 ++ dktX0_next_6
def dkwX0_next_4 : List UInt8 := [183, 0, 198, 77, 42, 42, 180, 0, 182, 182, 0, 185, 184, 0, 193, 153, 0, 30, 44, 42, 42, 180, 0, 182]
abbrev dktX0_next_4 : List UInt8 := dkwX0_next_4 ++ dktX0_next_5
def dkwX0_next_3 : List UInt8 := [181, 0, 189, 167, 0, 197, 27, 184, 0, 193, 153, 0, 69, 42, 16, 119, 181, 0, 189, 187, 0, 196, 89]
abbrev dktX0_next_3 : List UInt8 := dkwX0_next_3 ++ dktX0_next_4
def dkwX0_next_2 : List UInt8 := [42, 18, 47, 181, 0, 49, 42, 42, 180, 0, 182, 182, 0, 185, 60, 27, 156, 0, 12, 42, 16, 46]
abbrev dktX0_next_2 : List UInt8 := dkwX0_next_2 ++ dktX0_next_3
def dkwX0_next_1 : List UInt8 := [160, 0, 16, 42, 89, 180, 0, 182, 4, 96, 181, 0, 182, 167, 255, 220, 42, 42, 180, 0, 182, 181, 0, 188]
abbrev dktX0_next_1 : List UInt8 := dkwX0_next_1 ++ dktX0_next_2
def dkwX0_next_0 : List UInt8 := [42, 42, 180, 0, 182, 182, 0, 185, 16, 32, 159, 0, 16, 42, 42, 180, 0, 182, 182, 0, 185, 16, 10]
abbrev dktX0_next_0 : List UInt8 := dkwX0_next_0 ++ dktX0_next_1
theorem dksX0_next_0 : cX0_next.data.toList.drop 0 = dktX0_next_0 := by decide +kernel
theorem dksX0_next_1 : cX0_next.data.toList.drop 23 = dktX0_next_1 := dk_seg dksX0_next_0 23 rfl rfl
theorem dksX0_next_2 : cX0_next.data.toList.drop 47 = dktX0_next_2 := dk_seg dksX0_next_1 24 rfl rfl
theorem dksX0_next_3 : cX0_next.data.toList.drop 69 = dktX0_next_3 := dk_seg dksX0_next_2 22 rfl rfl
theorem dksX0_next_4 : cX0_next.data.toList.drop 92 = dktX0_next_4 := dk_seg dksX0_next_3 23 rfl rfl
theorem dksX0_next_5 : cX0_next.data.toList.drop 116 = dktX0_next_5 := dk_seg dksX0_next_4 24 rfl rfl
theorem dksX0_next_6 : cX0_next.data.toList.drop 139 = dktX0_next_6 := dk_seg dksX0_next_5 23 rfl rfl
theorem dksX0_next_7 : cX0_next.data.toList.drop 162 = dktX0_next_7 := dk_seg dksX0_next_6 23 rfl rfl
theorem dksX0_next_8 : cX0_next.data.toList.drop 186 = dktX0_next_8 := dk_seg dksX0_next_7 24 rfl rfl
theorem dksX0_next_9 : cX0_next.data.toList.drop 209 = dktX0_next_9 := dk_seg dksX0_next_8 23 rfl rfl
theorem dksX0_next_10 : cX0_next.data.toList.drop 231 = dktX0_next_10 := dk_seg dksX0_next_9 22 rfl rfl
theorem dksX0_next_11 : cX0_next.data.toList.drop 254 = dktX0_next_11 := dk_seg dksX0_next_10 23 rfl rfl
theorem dX0_next_0 : decode cX0_next 0 = .ok (.aload_n 0, 1) := dk_42 (dk_at dksX0_next_0 0 rfl rfl)
theorem dX0_next_1 : decode cX0_next 1 = .ok (.aload_n 0, 1) := dk_42 (dk_at dksX0_next_0 1 rfl rfl)
theorem dX0_next_2 : decode cX0_next 2 = .ok (.getfield 182, 3) := dk_180 0 182 (dk_at dksX0_next_0 2 rfl rfl)
theorem dX0_next_5 : decode cX0_next 5 = .ok (.invokevirtual 185, 3) := dk_182 0 185 (dk_at dksX0_next_0 5 rfl rfl)
theorem dX0_next_8 : decode cX0_next 8 = .ok (.bipush 32, 2) := dk_16 32 (dk_at dksX0_next_0 8 rfl rfl)
theorem dX0_next_10 : decode cX0_next 10 = .ok (.if_icmp .eq 16, 3) := dk_159 0 16 (dk_at dksX0_next_0 10 rfl rfl)
theorem dX0_next_13 : decode cX0_next 13 = .ok (.aload_n 0, 1) := dk_42 (dk_at dksX0_next_0 13 rfl rfl)
theorem dX0_next_14 : decode cX0_next 14 = .ok (.aload_n 0, 1) := dk_42 (dk_at dksX0_next_0 14 rfl rfl)
theorem dX0_next_15 : decode cX0_next 15 = .ok (.getfield 182, 3) := dk_180 0 182 (dk_at dksX0_next_0 15 rfl rfl)
theorem dX0_next_18 : decode cX0_next 18 = .ok (.invokevirtual 185, 3) := dk_182 0 185 (dk_at dksX0_next_0 18 rfl rfl)
theorem dX0_next_21 : decode cX0_next 21 = .ok (.bipush 10, 2) := dk_16 10 (dk_at dksX0_next_0 21 rfl rfl)
theorem dX0_next_23 : decode cX0_next 23 = .ok (.if_icmp .ne 16, 3) := dk_160 0 16 (dk_at dksX0_next_1 0 rfl rfl)
theorem dX0_next_26 : decode cX0_next 26 = .ok (.aload_n 0, 1) := dk_42 (dk_at dksX0_next_1 3 rfl rfl)
theorem dX0_next_27 : decode cX0_next 27 = .ok (.dup, 1) := dk_89 (dk_at dksX0_next_1 4 rfl rfl)
theorem dX0_next_28 : decode cX0_next 28 = .ok (.getfield 182, 3) := dk_180 0 182 (dk_at dksX0_next_1 5 rfl rfl)
theorem dX0_next_31 : decode cX0_next 31 = .ok (.iconst 1, 1) := dk_4 (dk_at dksX0_next_1 8 rfl rfl)
theorem dX0_next_32 : decode cX0_next 32 = .ok (.iadd, 1) := dk_96 (dk_at dksX0_next_1 9 rfl rfl)
theorem dX0_next_33 : decode cX0_next 33 = .ok (.putfield 182, 3) := dk_181 0 182 (dk_at dksX0_next_1 10 rfl rfl)
theorem dX0_next_36 : decode cX0_next 36 = .ok (.goto (-36), 3) := dk_167 255 220 (dk_at dksX0_next_1 13 rfl rfl)
theorem dX0_next_39 : decode cX0_next 39 = .ok (.aload_n 0, 1) := dk_42 (dk_at dksX0_next_1 16 rfl rfl)
theorem dX0_next_40 : decode cX0_next 40 = .ok (.aload_n 0, 1) := dk_42 (dk_at dksX0_next_1 17 rfl rfl)
theorem dX0_next_41 : decode cX0_next 41 = .ok (.getfield 182, 3) := dk_180 0 182 (dk_at dksX0_next_1 18 rfl rfl)
theorem dX0_next_44 : decode cX0_next 44 = .ok (.putfield 188, 3) := dk_181 0 188 (dk_at dksX0_next_1 21 rfl rfl)
theorem dX0_next_47 : decode cX0_next 47 = .ok (.aload_n 0, 1) := dk_42 (dk_at dksX0_next_2 0 rfl rfl)
theorem dX0_next_48 : decode cX0_next 48 = .ok (.ldc 47, 2) := dk_18 47 (dk_at dksX0_next_2 1 rfl rfl)
theorem dX0_next_50 : decode cX0_next 50 = .ok (.putfield 49, 3) := dk_181 0 49 (dk_at dksX0_next_2 3 rfl rfl)
theorem dX0_next_53 : decode cX0_next 53 = .ok (.aload_n 0, 1) := dk_42 (dk_at dksX0_next_2 6 rfl rfl)
theorem dX0_next_54 : decode cX0_next 54 = .ok (.aload_n 0, 1) := dk_42 (dk_at dksX0_next_2 7 rfl rfl)
theorem dX0_next_55 : decode cX0_next 55 = .ok (.getfield 182, 3) := dk_180 0 182 (dk_at dksX0_next_2 8 rfl rfl)
theorem dX0_next_58 : decode cX0_next 58 = .ok (.invokevirtual 185, 3) := dk_182 0 185 (dk_at dksX0_next_2 11 rfl rfl)
theorem dX0_next_61 : decode cX0_next 61 = .ok (.istore_n 1, 1) := dk_60 (dk_at dksX0_next_2 14 rfl rfl)
theorem dX0_next_62 : decode cX0_next 62 = .ok (.iload_n 1, 1) := dk_27 (dk_at dksX0_next_2 15 rfl rfl)
theorem dX0_next_63 : decode cX0_next 63 = .ok (.ifCond .ge 12, 3) := dk_156 0 12 (dk_at dksX0_next_2 16 rfl rfl)
theorem dX0_next_66 : decode cX0_next 66 = .ok (.aload_n 0, 1) := dk_42 (dk_at dksX0_next_2 19 rfl rfl)
theorem dX0_next_67 : decode cX0_next 67 = .ok (.bipush 46, 2) := dk_16 46 (dk_at dksX0_next_2 20 rfl rfl)
theorem dX0_next_69 : decode cX0_next 69 = .ok (.putfield 189, 3) := dk_181 0 189 (dk_at dksX0_next_3 0 rfl rfl)
theorem dX0_next_72 : decode cX0_next 72 = .ok (.goto 197, 3) := dk_167 0 197 (dk_at dksX0_next_3 3 rfl rfl)
theorem dX0_next_75 : decode cX0_next 75 = .ok (.iload_n 1, 1) := dk_27 (dk_at dksX0_next_3 6 rfl rfl)
theorem dX0_next_76 : decode cX0_next 76 = .ok (.invokestatic 193, 3) := dk_184 0 193 (dk_at dksX0_next_3 7 rfl rfl)
theorem dX0_next_79 : decode cX0_next 79 = .ok (.ifCond .eq 69, 3) := dk_153 0 69 (dk_at dksX0_next_3 10 rfl rfl)
theorem dX0_next_82 : decode cX0_next 82 = .ok (.aload_n 0, 1) := dk_42 (dk_at dksX0_next_3 13 rfl rfl)
theorem dX0_next_83 : decode cX0_next 83 = .ok (.bipush 119, 2) := dk_16 119 (dk_at dksX0_next_3 14 rfl rfl)
theorem dX0_next_85 : decode cX0_next 85 = .ok (.putfield 189, 3) := dk_181 0 189 (dk_at dksX0_next_3 16 rfl rfl)
theorem dX0_next_88 : decode cX0_next 88 = .ok (.new 196, 3) := dk_187 0 196 (dk_at dksX0_next_3 19 rfl rfl)
theorem dX0_next_91 : decode cX0_next 91 = .ok (.dup, 1) := dk_89 (dk_at dksX0_next_3 22 rfl rfl)
theorem dX0_next_92 : decode cX0_next 92 = .ok (.invokespecial 198, 3) := dk_183 0 198 (dk_at dksX0_next_4 0 rfl rfl)
theorem dX0_next_95 : decode cX0_next 95 = .ok (.astore_n 2, 1) := dk_77 (dk_at dksX0_next_4 3 rfl rfl)
theorem dX0_next_96 : decode cX0_next 96 = .ok (.aload_n 0, 1) := dk_42 (dk_at dksX0_next_4 4 rfl rfl)
theorem dX0_next_97 : decode cX0_next 97 = .ok (.aload_n 0, 1) := dk_42 (dk_at dksX0_next_4 5 rfl rfl)
theorem dX0_next_98 : decode cX0_next 98 = .ok (.getfield 182, 3) := dk_180 0 182 (dk_at dksX0_next_4 6 rfl rfl)
theorem dX0_next_101 : decode cX0_next 101 = .ok (.invokevirtual 185, 3) := dk_182 0 185 (dk_at dksX0_next_4 9 rfl rfl)
theorem dX0_next_104 : decode cX0_next 104 = .ok (.invokestatic 193, 3) := dk_184 0 193 (dk_at dksX0_next_4 12 rfl rfl)
theorem dX0_next_107 : decode cX0_next 107 = .ok (.ifCond .eq 30, 3) := dk_153 0 30 (dk_at dksX0_next_4 15 rfl rfl)
theorem dX0_next_110 : decode cX0_next 110 = .ok (.aload_n 2, 1) := dk_44 (dk_at dksX0_next_4 18 rfl rfl)
theorem dX0_next_111 : decode cX0_next 111 = .ok (.aload_n 0, 1) := dk_42 (dk_at dksX0_next_4 19 rfl rfl)
theorem dX0_next_112 : decode cX0_next 112 = .ok (.aload_n 0, 1) := dk_42 (dk_at dksX0_next_4 20 rfl rfl)
theorem dX0_next_113 : decode cX0_next 113 = .ok (.getfield 182, 3) := dk_180 0 182 (dk_at dksX0_next_4 21 rfl rfl)
theorem dX0_next_116 : decode cX0_next 116 = .ok (.invokevirtual 185, 3) := dk_182 0 185 (dk_at dksX0_next_5 0 rfl rfl)
theorem dX0_next_119 : decode cX0_next 119 = .ok (.i2c, 1) := dk_146 (dk_at dksX0_next_5 3 rfl rfl)
theorem dX0_next_120 : decode cX0_next 120 = .ok (.invokevirtual 199, 3) := dk_182 0 199 (dk_at dksX0_next_5 4 rfl rfl)
theorem dX0_next_123 : decode cX0_next 123 = .ok (.pop, 1) := dk_87 (dk_at dksX0_next_5 7 rfl rfl)
theorem dX0_next_124 : decode cX0_next 124 = .ok (.aload_n 0, 1) := dk_42 (dk_at dksX0_next_5 8 rfl rfl)
theorem dX0_next_125 : decode cX0_next 125 = .ok (.dup, 1) := dk_89 (dk_at dksX0_next_5 9 rfl rfl)
theorem dX0_next_126 : decode cX0_next 126 = .ok (.getfield 182, 3) := dk_180 0 182 (dk_at dksX0_next_5 10 rfl rfl)
theorem dX0_next_129 : decode cX0_next 129 = .ok (.iconst 1, 1) := dk_4 (dk_at dksX0_next_5 13 rfl rfl)
theorem dX0_next_130 : decode cX0_next 130 = .ok (.iadd, 1) := dk_96 (dk_at dksX0_next_5 14 rfl rfl)
theorem dX0_next_131 : decode cX0_next 131 = .ok (.putfield 182, 3) := dk_181 0 182 (dk_at dksX0_next_5 15 rfl rfl)
theorem dX0_next_134 : decode cX0_next 134 = .ok (.goto (-38), 3) := dk_167 255 218 (dk_at dksX0_next_5 18 rfl rfl)
theorem dX0_next_137 : decode cX0_next 137 = .ok (.aload_n 0, 1) := dk_42 (dk_at dksX0_next_5 21 rfl rfl)
theorem dX0_next_138 : decode cX0_next 138 = .ok (.aload_n 2, 1) := dk_44 (dk_at dksX0_next_5 22 rfl rfl)
theorem dX0_next_139 : decode cX0_next 139 = .ok (.invokevirtual 203, 3) := dk_182 0 203 (dk_at dksX0_next_6 0 rfl rfl)
theorem dX0_next_142 : decode cX0_next 142 = .ok (.putfield 49, 3) := dk_181 0 49 (dk_at dksX0_next_6 3 rfl rfl)
theorem dX0_next_145 : decode cX0_next 145 = .ok (.goto 124, 3) := dk_167 0 124 (dk_at dksX0_next_6 6 rfl rfl)
theorem dX0_next_148 : decode cX0_next 148 = .ok (.iload_n 1, 1) := dk_27 (dk_at dksX0_next_6 9 rfl rfl)
theorem dX0_next_149 : decode cX0_next 149 = .ok (.invokestatic 207, 3) := dk_184 0 207 (dk_at dksX0_next_6 10 rfl rfl)
theorem dX0_next_152 : decode cX0_next 152 = .ok (.ifCond .eq 90, 3) := dk_153 0 90 (dk_at dksX0_next_6 13 rfl rfl)
theorem dX0_next_155 : decode cX0_next 155 = .ok (.aload_n 0, 1) := dk_42 (dk_at dksX0_next_6 16 rfl rfl)
theorem dX0_next_156 : decode cX0_next 156 = .ok (.iconst 0, 1) := dk_3 (dk_at dksX0_next_6 17 rfl rfl)
theorem dX0_next_157 : decode cX0_next 157 = .ok (.putfield 210, 3) := dk_181 0 210 (dk_at dksX0_next_6 18 rfl rfl)
theorem dX0_next_160 : decode cX0_next 160 = .ok (.aload_n 0, 1) := dk_42 (dk_at dksX0_next_6 21 rfl rfl)
theorem dX0_next_161 : decode cX0_next 161 = .ok (.aload_n 0, 1) := dk_42 (dk_at dksX0_next_6 22 rfl rfl)
theorem dX0_next_162 : decode cX0_next 162 = .ok (.getfield 182, 3) := dk_180 0 182 (dk_at dksX0_next_7 0 rfl rfl)
theorem dX0_next_165 : decode cX0_next 165 = .ok (.invokevirtual 185, 3) := dk_182 0 185 (dk_at dksX0_next_7 3 rfl rfl)
theorem dX0_next_168 : decode cX0_next 168 = .ok (.invokestatic 207, 3) := dk_184 0 207 (dk_at dksX0_next_7 6 rfl rfl)
theorem dX0_next_171 : decode cX0_next 171 = .ok (.ifCond .eq 44, 3) := dk_153 0 44 (dk_at dksX0_next_7 9 rfl rfl)
theorem dX0_next_174 : decode cX0_next 174 = .ok (.aload_n 0, 1) := dk_42 (dk_at dksX0_next_7 12 rfl rfl)
theorem dX0_next_175 : decode cX0_next 175 = .ok (.ldc 213, 2) := dk_18 213 (dk_at dksX0_next_7 13 rfl rfl)
theorem dX0_next_177 : decode cX0_next 177 = .ok (.bipush 10, 2) := dk_16 10 (dk_at dksX0_next_7 15 rfl rfl)
theorem dX0_next_179 : decode cX0_next 179 = .ok (.aload_n 0, 1) := dk_42 (dk_at dksX0_next_7 17 rfl rfl)
theorem dX0_next_180 : decode cX0_next 180 = .ok (.getfield 210, 3) := dk_180 0 210 (dk_at dksX0_next_7 18 rfl rfl)
theorem dX0_next_183 : decode cX0_next 183 = .ok (.imul, 1) := dk_104 (dk_at dksX0_next_7 21 rfl rfl)
theorem dX0_next_184 : decode cX0_next 184 = .ok (.aload_n 0, 1) := dk_42 (dk_at dksX0_next_7 22 rfl rfl)
theorem dX0_next_185 : decode cX0_next 185 = .ok (.aload_n 0, 1) := dk_42 (dk_at dksX0_next_7 23 rfl rfl)
theorem dX0_next_186 : decode cX0_next 186 = .ok (.getfield 182, 3) := dk_180 0 182 (dk_at dksX0_next_8 0 rfl rfl)
theorem dX0_next_189 : decode cX0_next 189 = .ok (.invokevirtual 185, 3) := dk_182 0 185 (dk_at dksX0_next_8 3 rfl rfl)
theorem dX0_next_192 : decode cX0_next 192 = .ok (.iadd, 1) := dk_96 (dk_at dksX0_next_8 6 rfl rfl)
theorem dX0_next_193 : decode cX0_next 193 = .ok (.bipush 48, 2) := dk_16 48 (dk_at dksX0_next_8 7 rfl rfl)
theorem dX0_next_195 : decode cX0_next 195 = .ok (.isub, 1) := dk_100 (dk_at dksX0_next_8 9 rfl rfl)
theorem dX0_next_196 : decode cX0_next 196 = .ok (.invokestatic 162, 3) := dk_184 0 162 (dk_at dksX0_next_8 10 rfl rfl)
theorem dX0_next_199 : decode cX0_next 199 = .ok (.putfield 210, 3) := dk_181 0 210 (dk_at dksX0_next_8 13 rfl rfl)
theorem dX0_next_202 : decode cX0_next 202 = .ok (.aload_n 0, 1) := dk_42 (dk_at dksX0_next_8 16 rfl rfl)
theorem dX0_next_203 : decode cX0_next 203 = .ok (.dup, 1) := dk_89 (dk_at dksX0_next_8 17 rfl rfl)
theorem dX0_next_204 : decode cX0_next 204 = .ok (.getfield 182, 3) := dk_180 0 182 (dk_at dksX0_next_8 18 rfl rfl)
theorem dX0_next_207 : decode cX0_next 207 = .ok (.iconst 1, 1) := dk_4 (dk_at dksX0_next_8 21 rfl rfl)
theorem dX0_next_208 : decode cX0_next 208 = .ok (.iadd, 1) := dk_96 (dk_at dksX0_next_8 22 rfl rfl)
theorem dX0_next_209 : decode cX0_next 209 = .ok (.putfield 182, 3) := dk_181 0 182 (dk_at dksX0_next_9 0 rfl rfl)
theorem dX0_next_212 : decode cX0_next 212 = .ok (.goto (-52), 3) := dk_167 255 204 (dk_at dksX0_next_9 3 rfl rfl)
theorem dX0_next_215 : decode cX0_next 215 = .ok (.aload_n 0, 1) := dk_42 (dk_at dksX0_next_9 6 rfl rfl)
theorem dX0_next_216 : decode cX0_next 216 = .ok (.aload_n 0, 1) := dk_42 (dk_at dksX0_next_9 7 rfl rfl)
theorem dX0_next_217 : decode cX0_next 217 = .ok (.getfield 182, 3) := dk_180 0 182 (dk_at dksX0_next_9 8 rfl rfl)
theorem dX0_next_220 : decode cX0_next 220 = .ok (.aload_n 0, 1) := dk_42 (dk_at dksX0_next_9 11 rfl rfl)
theorem dX0_next_221 : decode cX0_next 221 = .ok (.getfield 188, 3) := dk_180 0 188 (dk_at dksX0_next_9 12 rfl rfl)
theorem dX0_next_224 : decode cX0_next 224 = .ok (.isub, 1) := dk_100 (dk_at dksX0_next_9 15 rfl rfl)
theorem dX0_next_225 : decode cX0_next 225 = .ok (.iconst 4, 1) := dk_7 (dk_at dksX0_next_9 16 rfl rfl)
theorem dX0_next_226 : decode cX0_next 226 = .ok (.if_icmp .gt 8, 3) := dk_163 0 8 (dk_at dksX0_next_9 17 rfl rfl)
theorem dX0_next_229 : decode cX0_next 229 = .ok (.bipush 110, 2) := dk_16 110 (dk_at dksX0_next_9 20 rfl rfl)
theorem dX0_next_231 : decode cX0_next 231 = .ok (.goto 5, 3) := dk_167 0 5 (dk_at dksX0_next_10 0 rfl rfl)
theorem dX0_next_234 : decode cX0_next 234 = .ok (.bipush 63, 2) := dk_16 63 (dk_at dksX0_next_10 3 rfl rfl)
theorem dX0_next_236 : decode cX0_next 236 = .ok (.putfield 189, 3) := dk_181 0 189 (dk_at dksX0_next_10 5 rfl rfl)
theorem dX0_next_239 : decode cX0_next 239 = .ok (.goto 30, 3) := dk_167 0 30 (dk_at dksX0_next_10 8 rfl rfl)
theorem dX0_next_242 : decode cX0_next 242 = .ok (.aload_n 0, 1) := dk_42 (dk_at dksX0_next_10 11 rfl rfl)
theorem dX0_next_243 : decode cX0_next 243 = .ok (.iload_n 1, 1) := dk_27 (dk_at dksX0_next_10 12 rfl rfl)
theorem dX0_next_244 : decode cX0_next 244 = .ok (.bipush 59, 2) := dk_16 59 (dk_at dksX0_next_10 13 rfl rfl)
theorem dX0_next_246 : decode cX0_next 246 = .ok (.if_icmp .ne 8, 3) := dk_160 0 8 (dk_at dksX0_next_10 15 rfl rfl)
theorem dX0_next_249 : decode cX0_next 249 = .ok (.bipush 59, 2) := dk_16 59 (dk_at dksX0_next_10 18 rfl rfl)
theorem dX0_next_251 : decode cX0_next 251 = .ok (.goto 5, 3) := dk_167 0 5 (dk_at dksX0_next_10 20 rfl rfl)
theorem dX0_next_254 : decode cX0_next 254 = .ok (.bipush 63, 2) := dk_16 63 (dk_at dksX0_next_11 0 rfl rfl)
theorem dX0_next_256 : decode cX0_next 256 = .ok (.putfield 189, 3) := dk_181 0 189 (dk_at dksX0_next_11 2 rfl rfl)
theorem dX0_next_259 : decode cX0_next 259 = .ok (.aload_n 0, 1) := dk_42 (dk_at dksX0_next_11 5 rfl rfl)
theorem dX0_next_260 : decode cX0_next 260 = .ok (.dup, 1) := dk_89 (dk_at dksX0_next_11 6 rfl rfl)
theorem dX0_next_261 : decode cX0_next 261 = .ok (.getfield 182, 3) := dk_180 0 182 (dk_at dksX0_next_11 7 rfl rfl)
theorem dX0_next_264 : decode cX0_next 264 = .ok (.iconst 1, 1) := dk_4 (dk_at dksX0_next_11 10 rfl rfl)
theorem dX0_next_265 : decode cX0_next 265 = .ok (.iadd, 1) := dk_96 (dk_at dksX0_next_11 11 rfl rfl)
theorem dX0_next_266 : decode cX0_next 266 = .ok (.putfield 182, 3) := dk_181 0 182 (dk_at dksX0_next_11 12 rfl rfl)
theorem dX0_next_269 : decode cX0_next 269 = .ok (.return_, 1) := dk_177 (dk_at dksX0_next_11 15 rfl rfl)
def dkwX0_here_0 : List UInt8 := [27, 42, 180, 0, 179, 162, 0, 16, 42, 180, 0, 39, 27, 51, 17, 0, 255, 126, 167, 0, 4, 2, 172]
abbrev dktX0_here_0 : List UInt8 := dkwX0_here_0 ++ []
theorem dksX0_here_0 : cX0_here.data.toList.drop 0 = dktX0_here_0 := by decide +kernel
theorem dX0_here_0 : decode cX0_here 0 = .ok (.iload_n 1, 1) := dk_27 (dk_at dksX0_here_0 0 rfl rfl)
theorem dX0_here_1 : decode cX0_here 1 = .ok (.aload_n 0, 1) := dk_42 (dk_at dksX0_here_0 1 rfl rfl)
theorem dX0_here_2 : decode cX0_here 2 = .ok (.getfield 179, 3) := dk_180 0 179 (dk_at dksX0_here_0 2 rfl rfl)
theorem dX0_here_5 : decode cX0_here 5 = .ok (.if_icmp .ge 16, 3) := dk_162 0 16 (dk_at dksX0_here_0 5 rfl rfl)
theorem dX0_here_8 : decode cX0_here 8 = .ok (.aload_n 0, 1) := dk_42 (dk_at dksX0_here_0 8 rfl rfl)
theorem dX0_here_9 : decode cX0_here 9 = .ok (.getfield 39, 3) := dk_180 0 39 (dk_at dksX0_here_0 9 rfl rfl)
theorem dX0_here_12 : decode cX0_here 12 = .ok (.iload_n 1, 1) := dk_27 (dk_at dksX0_here_0 12 rfl rfl)
theorem dX0_here_13 : decode cX0_here 13 = .ok (.baload, 1) := dk_51 (dk_at dksX0_here_0 13 rfl rfl)
theorem dX0_here_14 : decode cX0_here 14 = .ok (.sipush 255, 3) := dk_17 0 255 (dk_at dksX0_here_0 14 rfl rfl)
theorem dX0_here_17 : decode cX0_here 17 = .ok (.iand, 1) := dk_126 (dk_at dksX0_here_0 17 rfl rfl)
theorem dX0_here_18 : decode cX0_here 18 = .ok (.goto 4, 3) := dk_167 0 4 (dk_at dksX0_here_0 18 rfl rfl)
theorem dX0_here_21 : decode cX0_here 21 = .ok (.iconst (-1), 1) := dk_2 (dk_at dksX0_here_0 21 rfl rfl)
theorem dX0_here_22 : decode cX0_here 22 = .ok (.ireturn, 1) := dk_172 (dk_at dksX0_here_0 22 rfl rfl)
def dkwX0_isLetter_0 : List UInt8 := [26, 16, 97, 161, 0, 13, 26, 16, 122, 163, 0, 7, 4, 167, 0, 4, 3, 172]
abbrev dktX0_isLetter_0 : List UInt8 := dkwX0_isLetter_0 ++ []
theorem dksX0_isLetter_0 : cX0_isLetter.data.toList.drop 0 = dktX0_isLetter_0 := by decide +kernel
theorem dX0_isLetter_0 : decode cX0_isLetter 0 = .ok (.iload_n 0, 1) := dk_26 (dk_at dksX0_isLetter_0 0 rfl rfl)
theorem dX0_isLetter_1 : decode cX0_isLetter 1 = .ok (.bipush 97, 2) := dk_16 97 (dk_at dksX0_isLetter_0 1 rfl rfl)
theorem dX0_isLetter_3 : decode cX0_isLetter 3 = .ok (.if_icmp .lt 13, 3) := dk_161 0 13 (dk_at dksX0_isLetter_0 3 rfl rfl)
theorem dX0_isLetter_6 : decode cX0_isLetter 6 = .ok (.iload_n 0, 1) := dk_26 (dk_at dksX0_isLetter_0 6 rfl rfl)
theorem dX0_isLetter_7 : decode cX0_isLetter 7 = .ok (.bipush 122, 2) := dk_16 122 (dk_at dksX0_isLetter_0 7 rfl rfl)
theorem dX0_isLetter_9 : decode cX0_isLetter 9 = .ok (.if_icmp .gt 7, 3) := dk_163 0 7 (dk_at dksX0_isLetter_0 9 rfl rfl)
theorem dX0_isLetter_12 : decode cX0_isLetter 12 = .ok (.iconst 1, 1) := dk_4 (dk_at dksX0_isLetter_0 12 rfl rfl)
theorem dX0_isLetter_13 : decode cX0_isLetter 13 = .ok (.goto 4, 3) := dk_167 0 4 (dk_at dksX0_isLetter_0 13 rfl rfl)
theorem dX0_isLetter_16 : decode cX0_isLetter 16 = .ok (.iconst 0, 1) := dk_3 (dk_at dksX0_isLetter_0 16 rfl rfl)
theorem dX0_isLetter_17 : decode cX0_isLetter 17 = .ok (.ireturn, 1) := dk_172 (dk_at dksX0_isLetter_0 17 rfl rfl)
def dkwX0_isDigit_0 : List UInt8 := [26, 16, 48, 161, 0, 13, 26, 16, 57, 163, 0, 7, 4, 167, 0, 4, 3, 172]
abbrev dktX0_isDigit_0 : List UInt8 := dkwX0_isDigit_0 ++ []
theorem dksX0_isDigit_0 : cX0_isDigit.data.toList.drop 0 = dktX0_isDigit_0 := by decide +kernel
theorem dX0_isDigit_0 : decode cX0_isDigit 0 = .ok (.iload_n 0, 1) := dk_26 (dk_at dksX0_isDigit_0 0 rfl rfl)
theorem dX0_isDigit_1 : decode cX0_isDigit 1 = .ok (.bipush 48, 2) := dk_16 48 (dk_at dksX0_isDigit_0 1 rfl rfl)
theorem dX0_isDigit_3 : decode cX0_isDigit 3 = .ok (.if_icmp .lt 13, 3) := dk_161 0 13 (dk_at dksX0_isDigit_0 3 rfl rfl)
theorem dX0_isDigit_6 : decode cX0_isDigit 6 = .ok (.iload_n 0, 1) := dk_26 (dk_at dksX0_isDigit_0 6 rfl rfl)
theorem dX0_isDigit_7 : decode cX0_isDigit 7 = .ok (.bipush 57, 2) := dk_16 57 (dk_at dksX0_isDigit_0 7 rfl rfl)
theorem dX0_isDigit_9 : decode cX0_isDigit 9 = .ok (.if_icmp .gt 7, 3) := dk_163 0 7 (dk_at dksX0_isDigit_0 9 rfl rfl)
theorem dX0_isDigit_12 : decode cX0_isDigit 12 = .ok (.iconst 1, 1) := dk_4 (dk_at dksX0_isDigit_0 12 rfl rfl)
theorem dX0_isDigit_13 : decode cX0_isDigit 13 = .ok (.goto 4, 3) := dk_167 0 4 (dk_at dksX0_isDigit_0 13 rfl rfl)
theorem dX0_isDigit_16 : decode cX0_isDigit 16 = .ok (.iconst 0, 1) := dk_3 (dk_at dksX0_isDigit_0 16 rfl rfl)
theorem dX0_isDigit_17 : decode cX0_isDigit 17 = .ok (.ireturn, 1) := dk_172 (dk_at dksX0_isDigit_0 17 rfl rfl)
def dkwX0_statement_19 : List UInt8 := [182, 1, 59, 42, 42, 180, 0, 189, 16, 59, 160, 0, 7, 4, 167, 0, 4, 3, 182, 0, 220, 177]
abbrev dktX0_statement_19 : List UInt8 := dkwX0_statement_19 ++ []
def dkwX0_statement_18 : List UInt8 := [182, 0, 235, 181, 1, 55, 167, 0, 19, 43, 42, 182, 0, 231, 181, 1, 57, 167, 0, 8, 42, 43]
abbrev dktX0_statement_18 : List UInt8 := dkwX0_statement_18 ++ dktX0_statement_19
def dkwX0_statement_17 : List UInt8 := [182, 0, 235, 181, 1, 49, 167, 0, 41, 43, 42, 182, 0, 231, 181, 1, 51, 43, 42, 19, 1, 53]
abbrev dktX0_statement_17 : List UInt8 := dkwX0_statement_17 ++ dktX0_statement_18
def dkwX0_statement_16 : List UInt8 := [182, 0, 231, 181, 1, 42, 43, 42, 19, 1, 44, 182, 0, 235, 181, 1, 46, 43, 42, 19, 1, 48]
abbrev dktX0_statement_16 : List UInt8 := dkwX0_statement_16 ++ dktX0_statement_17
def dkwX0_statement_15 : List UInt8 := [182, 0, 231, 181, 1, 39, 167, 0, 85, 43, 42, 182, 0, 231, 181, 1, 40, 167, 0, 74, 43, 42]
abbrev dktX0_statement_15 : List UInt8 := dkwX0_statement_15 ++ dktX0_statement_16
def dkwX0_statement_14 : List UInt8 := [43, 42, 182, 0, 231, 181, 1, 37, 167, 0, 107, 43, 42, 182, 0, 231, 181, 0, 126, 167, 0, 96, 43, 42]
abbrev dktX0_statement_14 : List UInt8 := dkwX0_statement_14 ++ dktX0_statement_15
def dkwX0_statement_13 : List UInt8 := [167, 0, 139, 43, 42, 182, 0, 231, 181, 1, 31, 43, 42, 18, 253, 182, 0, 235, 181, 1, 34, 167, 0, 118]
abbrev dktX0_statement_13 : List UInt8 := dkwX0_statement_13 ++ dktX0_statement_14
def dkwX0_statement_12 : List UInt8 := [43, 180, 1, 24, 42, 182, 1, 27, 182, 0, 100, 87, 167, 0, 150, 43, 42, 182, 0, 231, 181, 1, 30]
abbrev dktX0_statement_12 : List UInt8 := dkwX0_statement_12 ++ dktX0_statement_13
def dkwX0_statement_11 : List UInt8 := [170, 0, 0, 0, 210, 0, 0, 0, 0, 0, 0, 0, 9, 0, 0, 0, 53, 0, 0, 0, 68, 0, 0, 0, 79, 0, 0, 0, 100, 0, 0, 0, 111, 0, 0, 0, 122, 0, 0, 0, 133, 0, 0, 0, 144, 0, 0, 0, 177, 0, 0, 0, 199]
abbrev dktX0_statement_11 : List UInt8 := dkwX0_statement_11 ++ dktX0_statement_12
def dkwX0_statement_10 : List UInt8 := [21, 4]
abbrev dktX0_statement_10 : List UInt8 := dkwX0_statement_10 ++ dktX0_statement_11
def dkwX0_statement_9 : List UInt8 := [153, 0, 24, 16, 8, 54, 4, 167, 0, 17, 45, 19, 1, 16, 182, 0, 226, 153, 0, 7, 16, 9, 54, 4]
abbrev dktX0_statement_9 : List UInt8 := dkwX0_statement_9 ++ dktX0_statement_10
def dkwX0_statement_8 : List UInt8 := [19, 1, 12, 182, 0, 226, 153, 0, 41, 16, 7, 54, 4, 167, 0, 34, 45, 19, 1, 14, 182, 0, 226]
abbrev dktX0_statement_8 : List UInt8 := dkwX0_statement_8 ++ dktX0_statement_9
def dkwX0_statement_7 : List UInt8 := [54, 4, 167, 0, 68, 45, 19, 1, 10, 182, 0, 226, 153, 0, 58, 16, 6, 54, 4, 167, 0, 51, 45]
abbrev dktX0_statement_7 : List UInt8 := dkwX0_statement_7 ++ dktX0_statement_8
def dkwX0_statement_6 : List UInt8 := [182, 0, 226, 153, 0, 90, 7, 54, 4, 167, 0, 84, 45, 19, 1, 9, 182, 0, 226, 153, 0, 74, 8]
abbrev dktX0_statement_6 : List UInt8 := dkwX0_statement_6 ++ dktX0_statement_7
def dkwX0_statement_5 : List UInt8 := [167, 0, 116, 45, 19, 1, 6, 182, 0, 226, 153, 0, 106, 6, 54, 4, 167, 0, 100, 45, 19, 1, 8]
abbrev dktX0_statement_5 : List UInt8 := dkwX0_statement_5 ++ dktX0_statement_6
def dkwX0_statement_4 : List UInt8 := [153, 0, 138, 4, 54, 4, 167, 0, 132, 45, 19, 1, 5, 182, 0, 226, 153, 0, 122, 5, 54, 4]
abbrev dktX0_statement_4 : List UInt8 := dkwX0_statement_4 ++ dktX0_statement_5
def dkwX0_statement_3 : List UInt8 := [45, 19, 1, 2, 182, 0, 226, 153, 0, 154, 3, 54, 4, 167, 0, 148, 45, 19, 1, 4, 182, 0, 226]
abbrev dktX0_statement_3 : List UInt8 := dkwX0_statement_3 ++ dktX0_statement_4
def dkwX0_statement_2 : List UInt8 := [171, 0, 0, 0, 250, 0, 0, 0, 10, 190, 8, 136, 156, 0, 0, 0, 121, 208, 184, 179, 184, 0, 0, 0, 153, 0, 1, 139, 134, 0, 0, 0, 202, 0, 1, 175, 125, 0, 0, 0, 137, 0, 46, 164, 1, 0, 0, 0, 105, 0, 46, 175, 205, 0, 0, 0, 219, 0, 53, 192, 86, 0, 0, 0, 169, 0, 54, 128, 125, 0, 0, 0, 89, 5, 181, 103, 28, 0, 0, 0, 236, 6, 138, 195, 214, 0, 0, 0, 185]
abbrev dktX0_statement_2 : List UInt8 := dkwX0_statement_2 ++ dktX0_statement_3
def dkwX0_statement_1 : List UInt8 := [167, 0, 4, 3, 182, 0, 220, 44, 78, 2, 54, 4, 45, 182, 0, 255]
abbrev dktX0_statement_1 : List UInt8 := dkwX0_statement_1 ++ dktX0_statement_2
def dkwX0_statement_0 : List UInt8 := [42, 180, 0, 49, 77, 42, 42, 180, 0, 189, 16, 119, 160, 0, 14, 44, 184, 1, 20, 153, 0, 7, 4]
abbrev dktX0_statement_0 : List UInt8 := dkwX0_statement_0 ++ dktX0_statement_1
theorem dksX0_statement_0 : cX0_statement.data.toList.drop 0 = dktX0_statement_0 := by decide +kernel
theorem dksX0_statement_1 : cX0_statement.data.toList.drop 23 = dktX0_statement_1 := dk_seg dksX0_statement_0 23 rfl rfl
theorem dksX0_statement_2 : cX0_statement.data.toList.drop 39 = dktX0_statement_2 := dk_seg dksX0_statement_1 16 rfl rfl
theorem dksX0_statement_3 : cX0_statement.data.toList.drop 128 = dktX0_statement_3 := dk_seg dksX0_statement_2 89 rfl rfl
theorem dksX0_statement_4 : cX0_statement.data.toList.drop 151 = dktX0_statement_4 := dk_seg dksX0_statement_3 23 rfl rfl
theorem dksX0_statement_5 : cX0_statement.data.toList.drop 173 = dktX0_statement_5 := dk_seg dksX0_statement_4 22 rfl rfl
theorem dksX0_statement_6 : cX0_statement.data.toList.drop 196 = dktX0_statement_6 := dk_seg dksX0_statement_5 23 rfl rfl
theorem dksX0_statement_7 : cX0_statement.data.toList.drop 219 = dktX0_statement_7 := dk_seg dksX0_statement_6 23 rfl rfl
theorem dksX0_statement_8 : cX0_statement.data.toList.drop 242 = dktX0_statement_8 := dk_seg dksX0_statement_7 23 rfl rfl
theorem dksX0_statement_9 : cX0_statement.data.toList.drop 265 = dktX0_statement_9 := dk_seg dksX0_statement_8 23 rfl rfl
theorem dksX0_statement_10 : cX0_statement.data.toList.drop 289 = dktX0_statement_10 := dk_seg dksX0_statement_9 24 rfl rfl
theorem dksX0_statement_11 : cX0_statement.data.toList.drop 291 = dktX0_statement_11 := dk_seg dksX0_statement_10 2 rfl rfl
theorem dksX0_statement_12 : cX0_statement.data.toList.drop 344 = dktX0_statement_12 := dk_seg dksX0_statement_11 53 rfl rfl
theorem dksX0_statement_13 : cX0_statement.data.toList.drop 367 = dktX0_statement_13 := dk_seg dksX0_statement_12 23 rfl rfl
theorem dksX0_statement_14 : cX0_statement.data.toList.drop 391 = dktX0_statement_14 := dk_seg dksX0_statement_13 24 rfl rfl
theorem dksX0_statement_15 : cX0_statement.data.toList.drop 415 = dktX0_statement_15 := dk_seg dksX0_statement_14 24 rfl rfl
theorem dksX0_statement_16 : cX0_statement.data.toList.drop 437 = dktX0_statement_16 := dk_seg dksX0_statement_15 22 rfl rfl
theorem dksX0_statement_17 : cX0_statement.data.toList.drop 459 = dktX0_statement_17 := dk_seg dksX0_statement_16 22 rfl rfl
theorem dksX0_statement_18 : cX0_statement.data.toList.drop 481 = dktX0_statement_18 := dk_seg dksX0_statement_17 22 rfl rfl
theorem dksX0_statement_19 : cX0_statement.data.toList.drop 503 = dktX0_statement_19 := dk_seg dksX0_statement_18 22 rfl rfl
theorem dX0_statement_0 : decode cX0_statement 0 = .ok (.aload_n 0, 1) := dk_42 (dk_at dksX0_statement_0 0 rfl rfl)
theorem dX0_statement_1 : decode cX0_statement 1 = .ok (.getfield 49, 3) := dk_180 0 49 (dk_at dksX0_statement_0 1 rfl rfl)
theorem dX0_statement_4 : decode cX0_statement 4 = .ok (.astore_n 2, 1) := dk_77 (dk_at dksX0_statement_0 4 rfl rfl)
theorem dX0_statement_5 : decode cX0_statement 5 = .ok (.aload_n 0, 1) := dk_42 (dk_at dksX0_statement_0 5 rfl rfl)
theorem dX0_statement_6 : decode cX0_statement 6 = .ok (.aload_n 0, 1) := dk_42 (dk_at dksX0_statement_0 6 rfl rfl)
theorem dX0_statement_7 : decode cX0_statement 7 = .ok (.getfield 189, 3) := dk_180 0 189 (dk_at dksX0_statement_0 7 rfl rfl)
theorem dX0_statement_10 : decode cX0_statement 10 = .ok (.bipush 119, 2) := dk_16 119 (dk_at dksX0_statement_0 10 rfl rfl)
theorem dX0_statement_12 : decode cX0_statement 12 = .ok (.if_icmp .ne 14, 3) := dk_160 0 14 (dk_at dksX0_statement_0 12 rfl rfl)
theorem dX0_statement_15 : decode cX0_statement 15 = .ok (.aload_n 2, 1) := dk_44 (dk_at dksX0_statement_0 15 rfl rfl)
theorem dX0_statement_16 : decode cX0_statement 16 = .ok (.invokestatic 276, 3) := dk_184 1 20 (dk_at dksX0_statement_0 16 rfl rfl)
theorem dX0_statement_19 : decode cX0_statement 19 = .ok (.ifCond .eq 7, 3) := dk_153 0 7 (dk_at dksX0_statement_0 19 rfl rfl)
theorem dX0_statement_22 : decode cX0_statement 22 = .ok (.iconst 1, 1) := dk_4 (dk_at dksX0_statement_0 22 rfl rfl)
theorem dX0_statement_23 : decode cX0_statement 23 = .ok (.goto 4, 3) := dk_167 0 4 (dk_at dksX0_statement_1 0 rfl rfl)
theorem dX0_statement_26 : decode cX0_statement 26 = .ok (.iconst 0, 1) := dk_3 (dk_at dksX0_statement_1 3 rfl rfl)
theorem dX0_statement_27 : decode cX0_statement 27 = .ok (.invokevirtual 220, 3) := dk_182 0 220 (dk_at dksX0_statement_1 4 rfl rfl)
theorem dX0_statement_30 : decode cX0_statement 30 = .ok (.aload_n 2, 1) := dk_44 (dk_at dksX0_statement_1 7 rfl rfl)
theorem dX0_statement_31 : decode cX0_statement 31 = .ok (.astore_n 3, 1) := dk_78 (dk_at dksX0_statement_1 8 rfl rfl)
theorem dX0_statement_32 : decode cX0_statement 32 = .ok (.iconst (-1), 1) := dk_2 (dk_at dksX0_statement_1 9 rfl rfl)
theorem dX0_statement_33 : decode cX0_statement 33 = .ok (.istore 4, 2) := dk_54 4 (dk_at dksX0_statement_1 10 rfl rfl)
theorem dX0_statement_35 : decode cX0_statement 35 = .ok (.aload_n 3, 1) := dk_45 (dk_at dksX0_statement_1 12 rfl rfl)
theorem dX0_statement_36 : decode cX0_statement 36 = .ok (.invokevirtual 255, 3) := dk_182 0 255 (dk_at dksX0_statement_1 13 rfl rfl)
theorem dX0_statement_39 : decode cX0_statement 39 = .ok (.lookupswitch 250 #[(-1106736996, 121), (-793201736, 153), (101254, 202), (110461, 137), (3056641, 105), (3059661, 219), (3522646, 169), (3571837, 89), (95774492, 236), (109757398, 185)], 89) := by decide +kernel
theorem dX0_statement_128 : decode cX0_statement 128 = .ok (.aload_n 3, 1) := dk_45 (dk_at dksX0_statement_3 0 rfl rfl)
theorem dX0_statement_129 : decode cX0_statement 129 = .ok (.ldc_w 258, 3) := dk_19 1 2 (dk_at dksX0_statement_3 1 rfl rfl)
theorem dX0_statement_132 : decode cX0_statement 132 = .ok (.invokevirtual 226, 3) := dk_182 0 226 (dk_at dksX0_statement_3 4 rfl rfl)
theorem dX0_statement_135 : decode cX0_statement 135 = .ok (.ifCond .eq 154, 3) := dk_153 0 154 (dk_at dksX0_statement_3 7 rfl rfl)
theorem dX0_statement_138 : decode cX0_statement 138 = .ok (.iconst 0, 1) := dk_3 (dk_at dksX0_statement_3 10 rfl rfl)
theorem dX0_statement_139 : decode cX0_statement 139 = .ok (.istore 4, 2) := dk_54 4 (dk_at dksX0_statement_3 11 rfl rfl)
theorem dX0_statement_141 : decode cX0_statement 141 = .ok (.goto 148, 3) := dk_167 0 148 (dk_at dksX0_statement_3 13 rfl rfl)
theorem dX0_statement_144 : decode cX0_statement 144 = .ok (.aload_n 3, 1) := dk_45 (dk_at dksX0_statement_3 16 rfl rfl)
theorem dX0_statement_145 : decode cX0_statement 145 = .ok (.ldc_w 260, 3) := dk_19 1 4 (dk_at dksX0_statement_3 17 rfl rfl)
theorem dX0_statement_148 : decode cX0_statement 148 = .ok (.invokevirtual 226, 3) := dk_182 0 226 (dk_at dksX0_statement_3 20 rfl rfl)
theorem dX0_statement_151 : decode cX0_statement 151 = .ok (.ifCond .eq 138, 3) := dk_153 0 138 (dk_at dksX0_statement_4 0 rfl rfl)
theorem dX0_statement_154 : decode cX0_statement 154 = .ok (.iconst 1, 1) := dk_4 (dk_at dksX0_statement_4 3 rfl rfl)
theorem dX0_statement_155 : decode cX0_statement 155 = .ok (.istore 4, 2) := dk_54 4 (dk_at dksX0_statement_4 4 rfl rfl)
theorem dX0_statement_157 : decode cX0_statement 157 = .ok (.goto 132, 3) := dk_167 0 132 (dk_at dksX0_statement_4 6 rfl rfl)
theorem dX0_statement_160 : decode cX0_statement 160 = .ok (.aload_n 3, 1) := dk_45 (dk_at dksX0_statement_4 9 rfl rfl)
theorem dX0_statement_161 : decode cX0_statement 161 = .ok (.ldc_w 261, 3) := dk_19 1 5 (dk_at dksX0_statement_4 10 rfl rfl)
theorem dX0_statement_164 : decode cX0_statement 164 = .ok (.invokevirtual 226, 3) := dk_182 0 226 (dk_at dksX0_statement_4 13 rfl rfl)
theorem dX0_statement_167 : decode cX0_statement 167 = .ok (.ifCond .eq 122, 3) := dk_153 0 122 (dk_at dksX0_statement_4 16 rfl rfl)
theorem dX0_statement_170 : decode cX0_statement 170 = .ok (.iconst 2, 1) := dk_5 (dk_at dksX0_statement_4 19 rfl rfl)
theorem dX0_statement_171 : decode cX0_statement 171 = .ok (.istore 4, 2) := dk_54 4 (dk_at dksX0_statement_4 20 rfl rfl)
theorem dX0_statement_173 : decode cX0_statement 173 = .ok (.goto 116, 3) := dk_167 0 116 (dk_at dksX0_statement_5 0 rfl rfl)
theorem dX0_statement_176 : decode cX0_statement 176 = .ok (.aload_n 3, 1) := dk_45 (dk_at dksX0_statement_5 3 rfl rfl)
theorem dX0_statement_177 : decode cX0_statement 177 = .ok (.ldc_w 262, 3) := dk_19 1 6 (dk_at dksX0_statement_5 4 rfl rfl)
theorem dX0_statement_180 : decode cX0_statement 180 = .ok (.invokevirtual 226, 3) := dk_182 0 226 (dk_at dksX0_statement_5 7 rfl rfl)
theorem dX0_statement_183 : decode cX0_statement 183 = .ok (.ifCond .eq 106, 3) := dk_153 0 106 (dk_at dksX0_statement_5 10 rfl rfl)
theorem dX0_statement_186 : decode cX0_statement 186 = .ok (.iconst 3, 1) := dk_6 (dk_at dksX0_statement_5 13 rfl rfl)
theorem dX0_statement_187 : decode cX0_statement 187 = .ok (.istore 4, 2) := dk_54 4 (dk_at dksX0_statement_5 14 rfl rfl)
theorem dX0_statement_189 : decode cX0_statement 189 = .ok (.goto 100, 3) := dk_167 0 100 (dk_at dksX0_statement_5 16 rfl rfl)
theorem dX0_statement_192 : decode cX0_statement 192 = .ok (.aload_n 3, 1) := dk_45 (dk_at dksX0_statement_5 19 rfl rfl)
theorem dX0_statement_193 : decode cX0_statement 193 = .ok (.ldc_w 264, 3) := dk_19 1 8 (dk_at dksX0_statement_5 20 rfl rfl)
theorem dX0_statement_196 : decode cX0_statement 196 = .ok (.invokevirtual 226, 3) := dk_182 0 226 (dk_at dksX0_statement_6 0 rfl rfl)
theorem dX0_statement_199 : decode cX0_statement 199 = .ok (.ifCond .eq 90, 3) := dk_153 0 90 (dk_at dksX0_statement_6 3 rfl rfl)
theorem dX0_statement_202 : decode cX0_statement 202 = .ok (.iconst 4, 1) := dk_7 (dk_at dksX0_statement_6 6 rfl rfl)
theorem dX0_statement_203 : decode cX0_statement 203 = .ok (.istore 4, 2) := dk_54 4 (dk_at dksX0_statement_6 7 rfl rfl)
theorem dX0_statement_205 : decode cX0_statement 205 = .ok (.goto 84, 3) := dk_167 0 84 (dk_at dksX0_statement_6 9 rfl rfl)
theorem dX0_statement_208 : decode cX0_statement 208 = .ok (.aload_n 3, 1) := dk_45 (dk_at dksX0_statement_6 12 rfl rfl)
theorem dX0_statement_209 : decode cX0_statement 209 = .ok (.ldc_w 265, 3) := dk_19 1 9 (dk_at dksX0_statement_6 13 rfl rfl)
theorem dX0_statement_212 : decode cX0_statement 212 = .ok (.invokevirtual 226, 3) := dk_182 0 226 (dk_at dksX0_statement_6 16 rfl rfl)
theorem dX0_statement_215 : decode cX0_statement 215 = .ok (.ifCond .eq 74, 3) := dk_153 0 74 (dk_at dksX0_statement_6 19 rfl rfl)
theorem dX0_statement_218 : decode cX0_statement 218 = .ok (.iconst 5, 1) := dk_8 (dk_at dksX0_statement_6 22 rfl rfl)
theorem dX0_statement_219 : decode cX0_statement 219 = .ok (.istore 4, 2) := dk_54 4 (dk_at dksX0_statement_7 0 rfl rfl)
theorem dX0_statement_221 : decode cX0_statement 221 = .ok (.goto 68, 3) := dk_167 0 68 (dk_at dksX0_statement_7 2 rfl rfl)
theorem dX0_statement_224 : decode cX0_statement 224 = .ok (.aload_n 3, 1) := dk_45 (dk_at dksX0_statement_7 5 rfl rfl)
theorem dX0_statement_225 : decode cX0_statement 225 = .ok (.ldc_w 266, 3) := dk_19 1 10 (dk_at dksX0_statement_7 6 rfl rfl)
theorem dX0_statement_228 : decode cX0_statement 228 = .ok (.invokevirtual 226, 3) := dk_182 0 226 (dk_at dksX0_statement_7 9 rfl rfl)
theorem dX0_statement_231 : decode cX0_statement 231 = .ok (.ifCond .eq 58, 3) := dk_153 0 58 (dk_at dksX0_statement_7 12 rfl rfl)
theorem dX0_statement_234 : decode cX0_statement 234 = .ok (.bipush 6, 2) := dk_16 6 (dk_at dksX0_statement_7 15 rfl rfl)
theorem dX0_statement_236 : decode cX0_statement 236 = .ok (.istore 4, 2) := dk_54 4 (dk_at dksX0_statement_7 17 rfl rfl)
theorem dX0_statement_238 : decode cX0_statement 238 = .ok (.goto 51, 3) := dk_167 0 51 (dk_at dksX0_statement_7 19 rfl rfl)
theorem dX0_statement_241 : decode cX0_statement 241 = .ok (.aload_n 3, 1) := dk_45 (dk_at dksX0_statement_7 22 rfl rfl)
theorem dX0_statement_242 : decode cX0_statement 242 = .ok (.ldc_w 268, 3) := dk_19 1 12 (dk_at dksX0_statement_8 0 rfl rfl)
theorem dX0_statement_245 : decode cX0_statement 245 = .ok (.invokevirtual 226, 3) := dk_182 0 226 (dk_at dksX0_statement_8 3 rfl rfl)
theorem dX0_statement_248 : decode cX0_statement 248 = .ok (.ifCond .eq 41, 3) := dk_153 0 41 (dk_at dksX0_statement_8 6 rfl rfl)
theorem dX0_statement_251 : decode cX0_statement 251 = .ok (.bipush 7, 2) := dk_16 7 (dk_at dksX0_statement_8 9 rfl rfl)
theorem dX0_statement_253 : decode cX0_statement 253 = .ok (.istore 4, 2) := dk_54 4 (dk_at dksX0_statement_8 11 rfl rfl)
theorem dX0_statement_255 : decode cX0_statement 255 = .ok (.goto 34, 3) := dk_167 0 34 (dk_at dksX0_statement_8 13 rfl rfl)
theorem dX0_statement_258 : decode cX0_statement 258 = .ok (.aload_n 3, 1) := dk_45 (dk_at dksX0_statement_8 16 rfl rfl)
theorem dX0_statement_259 : decode cX0_statement 259 = .ok (.ldc_w 270, 3) := dk_19 1 14 (dk_at dksX0_statement_8 17 rfl rfl)
theorem dX0_statement_262 : decode cX0_statement 262 = .ok (.invokevirtual 226, 3) := dk_182 0 226 (dk_at dksX0_statement_8 20 rfl rfl)
theorem dX0_statement_265 : decode cX0_statement 265 = .ok (.ifCond .eq 24, 3) := dk_153 0 24 (dk_at dksX0_statement_9 0 rfl rfl)
theorem dX0_statement_268 : decode cX0_statement 268 = .ok (.bipush 8, 2) := dk_16 8 (dk_at dksX0_statement_9 3 rfl rfl)
theorem dX0_statement_270 : decode cX0_statement 270 = .ok (.istore 4, 2) := dk_54 4 (dk_at dksX0_statement_9 5 rfl rfl)
theorem dX0_statement_272 : decode cX0_statement 272 = .ok (.goto 17, 3) := dk_167 0 17 (dk_at dksX0_statement_9 7 rfl rfl)
theorem dX0_statement_275 : decode cX0_statement 275 = .ok (.aload_n 3, 1) := dk_45 (dk_at dksX0_statement_9 10 rfl rfl)
theorem dX0_statement_276 : decode cX0_statement 276 = .ok (.ldc_w 272, 3) := dk_19 1 16 (dk_at dksX0_statement_9 11 rfl rfl)
theorem dX0_statement_279 : decode cX0_statement 279 = .ok (.invokevirtual 226, 3) := dk_182 0 226 (dk_at dksX0_statement_9 14 rfl rfl)
theorem dX0_statement_282 : decode cX0_statement 282 = .ok (.ifCond .eq 7, 3) := dk_153 0 7 (dk_at dksX0_statement_9 17 rfl rfl)
theorem dX0_statement_285 : decode cX0_statement 285 = .ok (.bipush 9, 2) := dk_16 9 (dk_at dksX0_statement_9 20 rfl rfl)
theorem dX0_statement_287 : decode cX0_statement 287 = .ok (.istore 4, 2) := dk_54 4 (dk_at dksX0_statement_9 22 rfl rfl)
theorem dX0_statement_289 : decode cX0_statement 289 = .ok (.iload 4, 2) := dk_21 4 (dk_at dksX0_statement_10 0 rfl rfl)
theorem dX0_statement_291 : decode cX0_statement 291 = .ok (.tableswitch 210 0 9 #[53, 68, 79, 100, 111, 122, 133, 144, 177, 199], 53) := by decide +kernel
theorem dX0_statement_344 : decode cX0_statement 344 = .ok (.aload_n 1, 1) := dk_43 (dk_at dksX0_statement_12 0 rfl rfl)
theorem dX0_statement_345 : decode cX0_statement 345 = .ok (.getfield 280, 3) := dk_180 1 24 (dk_at dksX0_statement_12 1 rfl rfl)
theorem dX0_statement_348 : decode cX0_statement 348 = .ok (.aload_n 0, 1) := dk_42 (dk_at dksX0_statement_12 4 rfl rfl)
theorem dX0_statement_349 : decode cX0_statement 349 = .ok (.invokevirtual 283, 3) := dk_182 1 27 (dk_at dksX0_statement_12 5 rfl rfl)
theorem dX0_statement_352 : decode cX0_statement 352 = .ok (.invokevirtual 100, 3) := dk_182 0 100 (dk_at dksX0_statement_12 8 rfl rfl)
theorem dX0_statement_355 : decode cX0_statement 355 = .ok (.pop, 1) := dk_87 (dk_at dksX0_statement_12 11 rfl rfl)
theorem dX0_statement_356 : decode cX0_statement 356 = .ok (.goto 150, 3) := dk_167 0 150 (dk_at dksX0_statement_12 12 rfl rfl)
theorem dX0_statement_359 : decode cX0_statement 359 = .ok (.aload_n 1, 1) := dk_43 (dk_at dksX0_statement_12 15 rfl rfl)
theorem dX0_statement_360 : decode cX0_statement 360 = .ok (.aload_n 0, 1) := dk_42 (dk_at dksX0_statement_12 16 rfl rfl)
theorem dX0_statement_361 : decode cX0_statement 361 = .ok (.invokevirtual 231, 3) := dk_182 0 231 (dk_at dksX0_statement_12 17 rfl rfl)
theorem dX0_statement_364 : decode cX0_statement 364 = .ok (.putfield 286, 3) := dk_181 1 30 (dk_at dksX0_statement_12 20 rfl rfl)
theorem dX0_statement_367 : decode cX0_statement 367 = .ok (.goto 139, 3) := dk_167 0 139 (dk_at dksX0_statement_13 0 rfl rfl)
theorem dX0_statement_370 : decode cX0_statement 370 = .ok (.aload_n 1, 1) := dk_43 (dk_at dksX0_statement_13 3 rfl rfl)
theorem dX0_statement_371 : decode cX0_statement 371 = .ok (.aload_n 0, 1) := dk_42 (dk_at dksX0_statement_13 4 rfl rfl)
theorem dX0_statement_372 : decode cX0_statement 372 = .ok (.invokevirtual 231, 3) := dk_182 0 231 (dk_at dksX0_statement_13 5 rfl rfl)
theorem dX0_statement_375 : decode cX0_statement 375 = .ok (.putfield 287, 3) := dk_181 1 31 (dk_at dksX0_statement_13 8 rfl rfl)
theorem dX0_statement_378 : decode cX0_statement 378 = .ok (.aload_n 1, 1) := dk_43 (dk_at dksX0_statement_13 11 rfl rfl)
theorem dX0_statement_379 : decode cX0_statement 379 = .ok (.aload_n 0, 1) := dk_42 (dk_at dksX0_statement_13 12 rfl rfl)
theorem dX0_statement_380 : decode cX0_statement 380 = .ok (.ldc 253, 2) := dk_18 253 (dk_at dksX0_statement_13 13 rfl rfl)
theorem dX0_statement_382 : decode cX0_statement 382 = .ok (.invokevirtual 235, 3) := dk_182 0 235 (dk_at dksX0_statement_13 15 rfl rfl)
theorem dX0_statement_385 : decode cX0_statement 385 = .ok (.putfield 290, 3) := dk_181 1 34 (dk_at dksX0_statement_13 18 rfl rfl)
theorem dX0_statement_388 : decode cX0_statement 388 = .ok (.goto 118, 3) := dk_167 0 118 (dk_at dksX0_statement_13 21 rfl rfl)
theorem dX0_statement_391 : decode cX0_statement 391 = .ok (.aload_n 1, 1) := dk_43 (dk_at dksX0_statement_14 0 rfl rfl)
theorem dX0_statement_392 : decode cX0_statement 392 = .ok (.aload_n 0, 1) := dk_42 (dk_at dksX0_statement_14 1 rfl rfl)
theorem dX0_statement_393 : decode cX0_statement 393 = .ok (.invokevirtual 231, 3) := dk_182 0 231 (dk_at dksX0_statement_14 2 rfl rfl)
theorem dX0_statement_396 : decode cX0_statement 396 = .ok (.putfield 293, 3) := dk_181 1 37 (dk_at dksX0_statement_14 5 rfl rfl)
theorem dX0_statement_399 : decode cX0_statement 399 = .ok (.goto 107, 3) := dk_167 0 107 (dk_at dksX0_statement_14 8 rfl rfl)
theorem dX0_statement_402 : decode cX0_statement 402 = .ok (.aload_n 1, 1) := dk_43 (dk_at dksX0_statement_14 11 rfl rfl)
theorem dX0_statement_403 : decode cX0_statement 403 = .ok (.aload_n 0, 1) := dk_42 (dk_at dksX0_statement_14 12 rfl rfl)
theorem dX0_statement_404 : decode cX0_statement 404 = .ok (.invokevirtual 231, 3) := dk_182 0 231 (dk_at dksX0_statement_14 13 rfl rfl)
theorem dX0_statement_407 : decode cX0_statement 407 = .ok (.putfield 126, 3) := dk_181 0 126 (dk_at dksX0_statement_14 16 rfl rfl)
theorem dX0_statement_410 : decode cX0_statement 410 = .ok (.goto 96, 3) := dk_167 0 96 (dk_at dksX0_statement_14 19 rfl rfl)
theorem dX0_statement_413 : decode cX0_statement 413 = .ok (.aload_n 1, 1) := dk_43 (dk_at dksX0_statement_14 22 rfl rfl)
theorem dX0_statement_414 : decode cX0_statement 414 = .ok (.aload_n 0, 1) := dk_42 (dk_at dksX0_statement_14 23 rfl rfl)
theorem dX0_statement_415 : decode cX0_statement 415 = .ok (.invokevirtual 231, 3) := dk_182 0 231 (dk_at dksX0_statement_15 0 rfl rfl)
theorem dX0_statement_418 : decode cX0_statement 418 = .ok (.putfield 295, 3) := dk_181 1 39 (dk_at dksX0_statement_15 3 rfl rfl)
theorem dX0_statement_421 : decode cX0_statement 421 = .ok (.goto 85, 3) := dk_167 0 85 (dk_at dksX0_statement_15 6 rfl rfl)
theorem dX0_statement_424 : decode cX0_statement 424 = .ok (.aload_n 1, 1) := dk_43 (dk_at dksX0_statement_15 9 rfl rfl)
theorem dX0_statement_425 : decode cX0_statement 425 = .ok (.aload_n 0, 1) := dk_42 (dk_at dksX0_statement_15 10 rfl rfl)
theorem dX0_statement_426 : decode cX0_statement 426 = .ok (.invokevirtual 231, 3) := dk_182 0 231 (dk_at dksX0_statement_15 11 rfl rfl)
theorem dX0_statement_429 : decode cX0_statement 429 = .ok (.putfield 296, 3) := dk_181 1 40 (dk_at dksX0_statement_15 14 rfl rfl)
theorem dX0_statement_432 : decode cX0_statement 432 = .ok (.goto 74, 3) := dk_167 0 74 (dk_at dksX0_statement_15 17 rfl rfl)
theorem dX0_statement_435 : decode cX0_statement 435 = .ok (.aload_n 1, 1) := dk_43 (dk_at dksX0_statement_15 20 rfl rfl)
theorem dX0_statement_436 : decode cX0_statement 436 = .ok (.aload_n 0, 1) := dk_42 (dk_at dksX0_statement_15 21 rfl rfl)
theorem dX0_statement_437 : decode cX0_statement 437 = .ok (.invokevirtual 231, 3) := dk_182 0 231 (dk_at dksX0_statement_16 0 rfl rfl)
theorem dX0_statement_440 : decode cX0_statement 440 = .ok (.putfield 298, 3) := dk_181 1 42 (dk_at dksX0_statement_16 3 rfl rfl)
theorem dX0_statement_443 : decode cX0_statement 443 = .ok (.aload_n 1, 1) := dk_43 (dk_at dksX0_statement_16 6 rfl rfl)
theorem dX0_statement_444 : decode cX0_statement 444 = .ok (.aload_n 0, 1) := dk_42 (dk_at dksX0_statement_16 7 rfl rfl)
theorem dX0_statement_445 : decode cX0_statement 445 = .ok (.ldc_w 300, 3) := dk_19 1 44 (dk_at dksX0_statement_16 8 rfl rfl)
theorem dX0_statement_448 : decode cX0_statement 448 = .ok (.invokevirtual 235, 3) := dk_182 0 235 (dk_at dksX0_statement_16 11 rfl rfl)
theorem dX0_statement_451 : decode cX0_statement 451 = .ok (.putfield 302, 3) := dk_181 1 46 (dk_at dksX0_statement_16 14 rfl rfl)
theorem dX0_statement_454 : decode cX0_statement 454 = .ok (.aload_n 1, 1) := dk_43 (dk_at dksX0_statement_16 17 rfl rfl)
theorem dX0_statement_455 : decode cX0_statement 455 = .ok (.aload_n 0, 1) := dk_42 (dk_at dksX0_statement_16 18 rfl rfl)
theorem dX0_statement_456 : decode cX0_statement 456 = .ok (.ldc_w 304, 3) := dk_19 1 48 (dk_at dksX0_statement_16 19 rfl rfl)
theorem dX0_statement_459 : decode cX0_statement 459 = .ok (.invokevirtual 235, 3) := dk_182 0 235 (dk_at dksX0_statement_17 0 rfl rfl)
theorem dX0_statement_462 : decode cX0_statement 462 = .ok (.putfield 305, 3) := dk_181 1 49 (dk_at dksX0_statement_17 3 rfl rfl)
theorem dX0_statement_465 : decode cX0_statement 465 = .ok (.goto 41, 3) := dk_167 0 41 (dk_at dksX0_statement_17 6 rfl rfl)
theorem dX0_statement_468 : decode cX0_statement 468 = .ok (.aload_n 1, 1) := dk_43 (dk_at dksX0_statement_17 9 rfl rfl)
theorem dX0_statement_469 : decode cX0_statement 469 = .ok (.aload_n 0, 1) := dk_42 (dk_at dksX0_statement_17 10 rfl rfl)
theorem dX0_statement_470 : decode cX0_statement 470 = .ok (.invokevirtual 231, 3) := dk_182 0 231 (dk_at dksX0_statement_17 11 rfl rfl)
theorem dX0_statement_473 : decode cX0_statement 473 = .ok (.putfield 307, 3) := dk_181 1 51 (dk_at dksX0_statement_17 14 rfl rfl)
theorem dX0_statement_476 : decode cX0_statement 476 = .ok (.aload_n 1, 1) := dk_43 (dk_at dksX0_statement_17 17 rfl rfl)
theorem dX0_statement_477 : decode cX0_statement 477 = .ok (.aload_n 0, 1) := dk_42 (dk_at dksX0_statement_17 18 rfl rfl)
theorem dX0_statement_478 : decode cX0_statement 478 = .ok (.ldc_w 309, 3) := dk_19 1 53 (dk_at dksX0_statement_17 19 rfl rfl)
theorem dX0_statement_481 : decode cX0_statement 481 = .ok (.invokevirtual 235, 3) := dk_182 0 235 (dk_at dksX0_statement_18 0 rfl rfl)
theorem dX0_statement_484 : decode cX0_statement 484 = .ok (.putfield 311, 3) := dk_181 1 55 (dk_at dksX0_statement_18 3 rfl rfl)
theorem dX0_statement_487 : decode cX0_statement 487 = .ok (.goto 19, 3) := dk_167 0 19 (dk_at dksX0_statement_18 6 rfl rfl)
theorem dX0_statement_490 : decode cX0_statement 490 = .ok (.aload_n 1, 1) := dk_43 (dk_at dksX0_statement_18 9 rfl rfl)
theorem dX0_statement_491 : decode cX0_statement 491 = .ok (.aload_n 0, 1) := dk_42 (dk_at dksX0_statement_18 10 rfl rfl)
theorem dX0_statement_492 : decode cX0_statement 492 = .ok (.invokevirtual 231, 3) := dk_182 0 231 (dk_at dksX0_statement_18 11 rfl rfl)
theorem dX0_statement_495 : decode cX0_statement 495 = .ok (.putfield 313, 3) := dk_181 1 57 (dk_at dksX0_statement_18 14 rfl rfl)
theorem dX0_statement_498 : decode cX0_statement 498 = .ok (.goto 8, 3) := dk_167 0 8 (dk_at dksX0_statement_18 17 rfl rfl)
theorem dX0_statement_501 : decode cX0_statement 501 = .ok (.aload_n 0, 1) := dk_42 (dk_at dksX0_statement_18 20 rfl rfl)
theorem dX0_statement_502 : decode cX0_statement 502 = .ok (.aload_n 1, 1) := dk_43 (dk_at dksX0_statement_18 21 rfl rfl)
theorem dX0_statement_503 : decode cX0_statement 503 = .ok (.invokevirtual 315, 3) := dk_182 1 59 (dk_at dksX0_statement_19 0 rfl rfl)
theorem dX0_statement_506 : decode cX0_statement 506 = .ok (.aload_n 0, 1) := dk_42 (dk_at dksX0_statement_19 3 rfl rfl)
theorem dX0_statement_507 : decode cX0_statement 507 = .ok (.aload_n 0, 1) := dk_42 (dk_at dksX0_statement_19 4 rfl rfl)
theorem dX0_statement_508 : decode cX0_statement 508 = .ok (.getfield 189, 3) := dk_180 0 189 (dk_at dksX0_statement_19 5 rfl rfl)
theorem dX0_statement_511 : decode cX0_statement 511 = .ok (.bipush 59, 2) := dk_16 59 (dk_at dksX0_statement_19 8 rfl rfl)
theorem dX0_statement_513 : decode cX0_statement 513 = .ok (.if_icmp .ne 7, 3) := dk_160 0 7 (dk_at dksX0_statement_19 10 rfl rfl)
theorem dX0_statement_516 : decode cX0_statement 516 = .ok (.iconst 1, 1) := dk_4 (dk_at dksX0_statement_19 13 rfl rfl)
theorem dX0_statement_517 : decode cX0_statement 517 = .ok (.goto 4, 3) := dk_167 0 4 (dk_at dksX0_statement_19 14 rfl rfl)
theorem dX0_statement_520 : decode cX0_statement 520 = .ok (.iconst 0, 1) := dk_3 (dk_at dksX0_statement_19 17 rfl rfl)
theorem dX0_statement_521 : decode cX0_statement 521 = .ok (.invokevirtual 220, 3) := dk_182 0 220 (dk_at dksX0_statement_19 18 rfl rfl)
theorem dX0_statement_524 : decode cX0_statement 524 = .ok (.return_, 1) := dk_177 (dk_at dksX0_statement_19 21 rfl rfl)
def dkwX0_isOne_11 : List UInt8 := [4, 172, 3, 172]
abbrev dktX0_isOne_11 : List UInt8 := dkwX0_isOne_11 ++ []
def dkwX0_isOne_10 : List UInt8 := [170, 0, 0, 0, 0, 0, 0, 62, 0, 0, 0, 0, 0, 0, 0, 10, 0, 0, 0, 60, 0, 0, 0, 60, 0, 0, 0, 60, 0, 0, 0, 60, 0, 0, 0, 60, 0, 0, 0, 60, 0, 0, 0, 60, 0, 0, 0, 60, 0, 0, 0, 60, 0, 0, 0, 60, 0, 0, 0, 60]
abbrev dktX0_isOne_10 : List UInt8 := dkwX0_isOne_10 ++ dktX0_isOne_11
def dkwX0_isOne_9 : List UInt8 := [61, 28]
abbrev dktX0_isOne_9 : List UInt8 := dkwX0_isOne_9 ++ dktX0_isOne_10
def dkwX0_isOne_8 : List UInt8 := [182, 0, 226, 153, 0, 22, 16, 9, 61, 167, 0, 16, 43, 19, 1, 18, 182, 0, 226, 153, 0, 6, 16, 10]
abbrev dktX0_isOne_8 : List UInt8 := dkwX0_isOne_8 ++ dktX0_isOne_9
def dkwX0_isOne_7 : List UInt8 := [61, 167, 0, 48, 43, 19, 1, 14, 182, 0, 226, 153, 0, 38, 16, 8, 61, 167, 0, 32, 43, 19, 1, 16]
abbrev dktX0_isOne_7 : List UInt8 := dkwX0_isOne_7 ++ dktX0_isOne_8
def dkwX0_isOne_6 : List UInt8 := [182, 0, 226, 153, 0, 70, 16, 6, 61, 167, 0, 64, 43, 19, 1, 12, 182, 0, 226, 153, 0, 54, 16, 7]
abbrev dktX0_isOne_6 : List UInt8 := dkwX0_isOne_6 ++ dktX0_isOne_7
def dkwX0_isOne_5 : List UInt8 := [7, 61, 167, 0, 95, 43, 19, 1, 9, 182, 0, 226, 153, 0, 85, 8, 61, 167, 0, 80, 43, 19, 1, 10]
abbrev dktX0_isOne_5 : List UInt8 := dkwX0_isOne_5 ++ dktX0_isOne_6
def dkwX0_isOne_4 : List UInt8 := [19, 1, 6, 182, 0, 226, 153, 0, 115, 6, 61, 167, 0, 110, 43, 19, 1, 8, 182, 0, 226, 153, 0, 100]
abbrev dktX0_isOne_4 : List UInt8 := dkwX0_isOne_4 ++ dktX0_isOne_5
def dkwX0_isOne_3 : List UInt8 := [153, 0, 145, 4, 61, 167, 0, 140, 43, 19, 1, 5, 182, 0, 226, 153, 0, 130, 5, 61, 167, 0, 125, 43]
abbrev dktX0_isOne_3 : List UInt8 := dkwX0_isOne_3 ++ dktX0_isOne_4
def dkwX0_isOne_2 : List UInt8 := [43, 19, 1, 2, 182, 0, 226, 153, 0, 160, 3, 61, 167, 0, 155, 43, 19, 1, 4, 182, 0, 226]
abbrev dktX0_isOne_2 : List UInt8 := dkwX0_isOne_2 ++ dktX0_isOne_3
def dkwX0_isOne_1 : List UInt8 := [171, 0, 0, 0, 0, 0, 1, 11, 0, 0, 0, 11, 190, 8, 136, 156, 0, 0, 0, 130, 208, 184, 179, 184, 0, 0, 0, 160, 0, 1, 139, 134, 0, 0, 0, 206, 0, 1, 175, 125, 0, 0, 0, 145, 0, 46, 164, 1, 0, 0, 0, 115, 0, 46, 175, 205, 0, 0, 0, 222, 0, 50, 198, 159, 0, 0, 0, 254, 0, 53, 192, 86, 0, 0, 0, 175, 0, 54, 128, 125, 0, 0, 0, 100, 5, 181, 103, 28, 0, 0, 0, 238, 6, 138, 195, 214, 0, 0, 0, 190]
abbrev dktX0_isOne_1 : List UInt8 := dkwX0_isOne_1 ++ dktX0_isOne_2
def dkwX0_isOne_0 : List UInt8 := [42, 76, 2, 61, 43, 182, 0, 255]
abbrev dktX0_isOne_0 : List UInt8 := dkwX0_isOne_0 ++ dktX0_isOne_1
theorem dksX0_isOne_0 : cX0_isOne.data.toList.drop 0 = dktX0_isOne_0 := by decide +kernel
theorem dksX0_isOne_1 : cX0_isOne.data.toList.drop 8 = dktX0_isOne_1 := dk_seg dksX0_isOne_0 8 rfl rfl
theorem dksX0_isOne_2 : cX0_isOne.data.toList.drop 108 = dktX0_isOne_2 := dk_seg dksX0_isOne_1 100 rfl rfl
theorem dksX0_isOne_3 : cX0_isOne.data.toList.drop 130 = dktX0_isOne_3 := dk_seg dksX0_isOne_2 22 rfl rfl
theorem dksX0_isOne_4 : cX0_isOne.data.toList.drop 154 = dktX0_isOne_4 := dk_seg dksX0_isOne_3 24 rfl rfl
theorem dksX0_isOne_5 : cX0_isOne.data.toList.drop 178 = dktX0_isOne_5 := dk_seg dksX0_isOne_4 24 rfl rfl
theorem dksX0_isOne_6 : cX0_isOne.data.toList.drop 202 = dktX0_isOne_6 := dk_seg dksX0_isOne_5 24 rfl rfl
theorem dksX0_isOne_7 : cX0_isOne.data.toList.drop 226 = dktX0_isOne_7 := dk_seg dksX0_isOne_6 24 rfl rfl
theorem dksX0_isOne_8 : cX0_isOne.data.toList.drop 250 = dktX0_isOne_8 := dk_seg dksX0_isOne_7 24 rfl rfl
theorem dksX0_isOne_9 : cX0_isOne.data.toList.drop 274 = dktX0_isOne_9 := dk_seg dksX0_isOne_8 24 rfl rfl
theorem dksX0_isOne_10 : cX0_isOne.data.toList.drop 276 = dktX0_isOne_10 := dk_seg dksX0_isOne_9 2 rfl rfl
theorem dksX0_isOne_11 : cX0_isOne.data.toList.drop 336 = dktX0_isOne_11 := dk_seg dksX0_isOne_10 60 rfl rfl
theorem dX0_isOne_0 : decode cX0_isOne 0 = .ok (.aload_n 0, 1) := dk_42 (dk_at dksX0_isOne_0 0 rfl rfl)
theorem dX0_isOne_1 : decode cX0_isOne 1 = .ok (.astore_n 1, 1) := dk_76 (dk_at dksX0_isOne_0 1 rfl rfl)
theorem dX0_isOne_2 : decode cX0_isOne 2 = .ok (.iconst (-1), 1) := dk_2 (dk_at dksX0_isOne_0 2 rfl rfl)
theorem dX0_isOne_3 : decode cX0_isOne 3 = .ok (.istore_n 2, 1) := dk_61 (dk_at dksX0_isOne_0 3 rfl rfl)
theorem dX0_isOne_4 : decode cX0_isOne 4 = .ok (.aload_n 1, 1) := dk_43 (dk_at dksX0_isOne_0 4 rfl rfl)
theorem dX0_isOne_5 : decode cX0_isOne 5 = .ok (.invokevirtual 255, 3) := dk_182 0 255 (dk_at dksX0_isOne_0 5 rfl rfl)
theorem dX0_isOne_8 : decode cX0_isOne 8 = .ok (.lookupswitch 267 #[(-1106736996, 130), (-793201736, 160), (101254, 206), (110461, 145), (3056641, 115), (3059661, 222), (3327647, 254), (3522646, 175), (3571837, 100), (95774492, 238), (109757398, 190)], 100) := by decide +kernel
theorem dX0_isOne_108 : decode cX0_isOne 108 = .ok (.aload_n 1, 1) := dk_43 (dk_at dksX0_isOne_2 0 rfl rfl)
theorem dX0_isOne_109 : decode cX0_isOne 109 = .ok (.ldc_w 258, 3) := dk_19 1 2 (dk_at dksX0_isOne_2 1 rfl rfl)
theorem dX0_isOne_112 : decode cX0_isOne 112 = .ok (.invokevirtual 226, 3) := dk_182 0 226 (dk_at dksX0_isOne_2 4 rfl rfl)
theorem dX0_isOne_115 : decode cX0_isOne 115 = .ok (.ifCond .eq 160, 3) := dk_153 0 160 (dk_at dksX0_isOne_2 7 rfl rfl)
theorem dX0_isOne_118 : decode cX0_isOne 118 = .ok (.iconst 0, 1) := dk_3 (dk_at dksX0_isOne_2 10 rfl rfl)
theorem dX0_isOne_119 : decode cX0_isOne 119 = .ok (.istore_n 2, 1) := dk_61 (dk_at dksX0_isOne_2 11 rfl rfl)
theorem dX0_isOne_120 : decode cX0_isOne 120 = .ok (.goto 155, 3) := dk_167 0 155 (dk_at dksX0_isOne_2 12 rfl rfl)
theorem dX0_isOne_123 : decode cX0_isOne 123 = .ok (.aload_n 1, 1) := dk_43 (dk_at dksX0_isOne_2 15 rfl rfl)
theorem dX0_isOne_124 : decode cX0_isOne 124 = .ok (.ldc_w 260, 3) := dk_19 1 4 (dk_at dksX0_isOne_2 16 rfl rfl)
theorem dX0_isOne_127 : decode cX0_isOne 127 = .ok (.invokevirtual 226, 3) := dk_182 0 226 (dk_at dksX0_isOne_2 19 rfl rfl)
theorem dX0_isOne_130 : decode cX0_isOne 130 = .ok (.ifCond .eq 145, 3) := dk_153 0 145 (dk_at dksX0_isOne_3 0 rfl rfl)
theorem dX0_isOne_133 : decode cX0_isOne 133 = .ok (.iconst 1, 1) := dk_4 (dk_at dksX0_isOne_3 3 rfl rfl)
theorem dX0_isOne_134 : decode cX0_isOne 134 = .ok (.istore_n 2, 1) := dk_61 (dk_at dksX0_isOne_3 4 rfl rfl)
theorem dX0_isOne_135 : decode cX0_isOne 135 = .ok (.goto 140, 3) := dk_167 0 140 (dk_at dksX0_isOne_3 5 rfl rfl)
theorem dX0_isOne_138 : decode cX0_isOne 138 = .ok (.aload_n 1, 1) := dk_43 (dk_at dksX0_isOne_3 8 rfl rfl)
theorem dX0_isOne_139 : decode cX0_isOne 139 = .ok (.ldc_w 261, 3) := dk_19 1 5 (dk_at dksX0_isOne_3 9 rfl rfl)
theorem dX0_isOne_142 : decode cX0_isOne 142 = .ok (.invokevirtual 226, 3) := dk_182 0 226 (dk_at dksX0_isOne_3 12 rfl rfl)
theorem dX0_isOne_145 : decode cX0_isOne 145 = .ok (.ifCond .eq 130, 3) := dk_153 0 130 (dk_at dksX0_isOne_3 15 rfl rfl)
theorem dX0_isOne_148 : decode cX0_isOne 148 = .ok (.iconst 2, 1) := dk_5 (dk_at dksX0_isOne_3 18 rfl rfl)
theorem dX0_isOne_149 : decode cX0_isOne 149 = .ok (.istore_n 2, 1) := dk_61 (dk_at dksX0_isOne_3 19 rfl rfl)
theorem dX0_isOne_150 : decode cX0_isOne 150 = .ok (.goto 125, 3) := dk_167 0 125 (dk_at dksX0_isOne_3 20 rfl rfl)
theorem dX0_isOne_153 : decode cX0_isOne 153 = .ok (.aload_n 1, 1) := dk_43 (dk_at dksX0_isOne_3 23 rfl rfl)
theorem dX0_isOne_154 : decode cX0_isOne 154 = .ok (.ldc_w 262, 3) := dk_19 1 6 (dk_at dksX0_isOne_4 0 rfl rfl)
theorem dX0_isOne_157 : decode cX0_isOne 157 = .ok (.invokevirtual 226, 3) := dk_182 0 226 (dk_at dksX0_isOne_4 3 rfl rfl)
theorem dX0_isOne_160 : decode cX0_isOne 160 = .ok (.ifCond .eq 115, 3) := dk_153 0 115 (dk_at dksX0_isOne_4 6 rfl rfl)
theorem dX0_isOne_163 : decode cX0_isOne 163 = .ok (.iconst 3, 1) := dk_6 (dk_at dksX0_isOne_4 9 rfl rfl)
theorem dX0_isOne_164 : decode cX0_isOne 164 = .ok (.istore_n 2, 1) := dk_61 (dk_at dksX0_isOne_4 10 rfl rfl)
theorem dX0_isOne_165 : decode cX0_isOne 165 = .ok (.goto 110, 3) := dk_167 0 110 (dk_at dksX0_isOne_4 11 rfl rfl)
theorem dX0_isOne_168 : decode cX0_isOne 168 = .ok (.aload_n 1, 1) := dk_43 (dk_at dksX0_isOne_4 14 rfl rfl)
theorem dX0_isOne_169 : decode cX0_isOne 169 = .ok (.ldc_w 264, 3) := dk_19 1 8 (dk_at dksX0_isOne_4 15 rfl rfl)
theorem dX0_isOne_172 : decode cX0_isOne 172 = .ok (.invokevirtual 226, 3) := dk_182 0 226 (dk_at dksX0_isOne_4 18 rfl rfl)
theorem dX0_isOne_175 : decode cX0_isOne 175 = .ok (.ifCond .eq 100, 3) := dk_153 0 100 (dk_at dksX0_isOne_4 21 rfl rfl)
theorem dX0_isOne_178 : decode cX0_isOne 178 = .ok (.iconst 4, 1) := dk_7 (dk_at dksX0_isOne_5 0 rfl rfl)
theorem dX0_isOne_179 : decode cX0_isOne 179 = .ok (.istore_n 2, 1) := dk_61 (dk_at dksX0_isOne_5 1 rfl rfl)
theorem dX0_isOne_180 : decode cX0_isOne 180 = .ok (.goto 95, 3) := dk_167 0 95 (dk_at dksX0_isOne_5 2 rfl rfl)
theorem dX0_isOne_183 : decode cX0_isOne 183 = .ok (.aload_n 1, 1) := dk_43 (dk_at dksX0_isOne_5 5 rfl rfl)
theorem dX0_isOne_184 : decode cX0_isOne 184 = .ok (.ldc_w 265, 3) := dk_19 1 9 (dk_at dksX0_isOne_5 6 rfl rfl)
theorem dX0_isOne_187 : decode cX0_isOne 187 = .ok (.invokevirtual 226, 3) := dk_182 0 226 (dk_at dksX0_isOne_5 9 rfl rfl)
theorem dX0_isOne_190 : decode cX0_isOne 190 = .ok (.ifCond .eq 85, 3) := dk_153 0 85 (dk_at dksX0_isOne_5 12 rfl rfl)
theorem dX0_isOne_193 : decode cX0_isOne 193 = .ok (.iconst 5, 1) := dk_8 (dk_at dksX0_isOne_5 15 rfl rfl)
theorem dX0_isOne_194 : decode cX0_isOne 194 = .ok (.istore_n 2, 1) := dk_61 (dk_at dksX0_isOne_5 16 rfl rfl)
theorem dX0_isOne_195 : decode cX0_isOne 195 = .ok (.goto 80, 3) := dk_167 0 80 (dk_at dksX0_isOne_5 17 rfl rfl)
theorem dX0_isOne_198 : decode cX0_isOne 198 = .ok (.aload_n 1, 1) := dk_43 (dk_at dksX0_isOne_5 20 rfl rfl)
theorem dX0_isOne_199 : decode cX0_isOne 199 = .ok (.ldc_w 266, 3) := dk_19 1 10 (dk_at dksX0_isOne_5 21 rfl rfl)
theorem dX0_isOne_202 : decode cX0_isOne 202 = .ok (.invokevirtual 226, 3) := dk_182 0 226 (dk_at dksX0_isOne_6 0 rfl rfl)
theorem dX0_isOne_205 : decode cX0_isOne 205 = .ok (.ifCond .eq 70, 3) := dk_153 0 70 (dk_at dksX0_isOne_6 3 rfl rfl)
theorem dX0_isOne_208 : decode cX0_isOne 208 = .ok (.bipush 6, 2) := dk_16 6 (dk_at dksX0_isOne_6 6 rfl rfl)
theorem dX0_isOne_210 : decode cX0_isOne 210 = .ok (.istore_n 2, 1) := dk_61 (dk_at dksX0_isOne_6 8 rfl rfl)
theorem dX0_isOne_211 : decode cX0_isOne 211 = .ok (.goto 64, 3) := dk_167 0 64 (dk_at dksX0_isOne_6 9 rfl rfl)
theorem dX0_isOne_214 : decode cX0_isOne 214 = .ok (.aload_n 1, 1) := dk_43 (dk_at dksX0_isOne_6 12 rfl rfl)
theorem dX0_isOne_215 : decode cX0_isOne 215 = .ok (.ldc_w 268, 3) := dk_19 1 12 (dk_at dksX0_isOne_6 13 rfl rfl)
theorem dX0_isOne_218 : decode cX0_isOne 218 = .ok (.invokevirtual 226, 3) := dk_182 0 226 (dk_at dksX0_isOne_6 16 rfl rfl)
theorem dX0_isOne_221 : decode cX0_isOne 221 = .ok (.ifCond .eq 54, 3) := dk_153 0 54 (dk_at dksX0_isOne_6 19 rfl rfl)
theorem dX0_isOne_224 : decode cX0_isOne 224 = .ok (.bipush 7, 2) := dk_16 7 (dk_at dksX0_isOne_6 22 rfl rfl)
theorem dX0_isOne_226 : decode cX0_isOne 226 = .ok (.istore_n 2, 1) := dk_61 (dk_at dksX0_isOne_7 0 rfl rfl)
theorem dX0_isOne_227 : decode cX0_isOne 227 = .ok (.goto 48, 3) := dk_167 0 48 (dk_at dksX0_isOne_7 1 rfl rfl)
theorem dX0_isOne_230 : decode cX0_isOne 230 = .ok (.aload_n 1, 1) := dk_43 (dk_at dksX0_isOne_7 4 rfl rfl)
theorem dX0_isOne_231 : decode cX0_isOne 231 = .ok (.ldc_w 270, 3) := dk_19 1 14 (dk_at dksX0_isOne_7 5 rfl rfl)
theorem dX0_isOne_234 : decode cX0_isOne 234 = .ok (.invokevirtual 226, 3) := dk_182 0 226 (dk_at dksX0_isOne_7 8 rfl rfl)
theorem dX0_isOne_237 : decode cX0_isOne 237 = .ok (.ifCond .eq 38, 3) := dk_153 0 38 (dk_at dksX0_isOne_7 11 rfl rfl)
theorem dX0_isOne_240 : decode cX0_isOne 240 = .ok (.bipush 8, 2) := dk_16 8 (dk_at dksX0_isOne_7 14 rfl rfl)
theorem dX0_isOne_242 : decode cX0_isOne 242 = .ok (.istore_n 2, 1) := dk_61 (dk_at dksX0_isOne_7 16 rfl rfl)
theorem dX0_isOne_243 : decode cX0_isOne 243 = .ok (.goto 32, 3) := dk_167 0 32 (dk_at dksX0_isOne_7 17 rfl rfl)
theorem dX0_isOne_246 : decode cX0_isOne 246 = .ok (.aload_n 1, 1) := dk_43 (dk_at dksX0_isOne_7 20 rfl rfl)
theorem dX0_isOne_247 : decode cX0_isOne 247 = .ok (.ldc_w 272, 3) := dk_19 1 16 (dk_at dksX0_isOne_7 21 rfl rfl)
theorem dX0_isOne_250 : decode cX0_isOne 250 = .ok (.invokevirtual 226, 3) := dk_182 0 226 (dk_at dksX0_isOne_8 0 rfl rfl)
theorem dX0_isOne_253 : decode cX0_isOne 253 = .ok (.ifCond .eq 22, 3) := dk_153 0 22 (dk_at dksX0_isOne_8 3 rfl rfl)
theorem dX0_isOne_256 : decode cX0_isOne 256 = .ok (.bipush 9, 2) := dk_16 9 (dk_at dksX0_isOne_8 6 rfl rfl)
theorem dX0_isOne_258 : decode cX0_isOne 258 = .ok (.istore_n 2, 1) := dk_61 (dk_at dksX0_isOne_8 8 rfl rfl)
theorem dX0_isOne_259 : decode cX0_isOne 259 = .ok (.goto 16, 3) := dk_167 0 16 (dk_at dksX0_isOne_8 9 rfl rfl)
theorem dX0_isOne_262 : decode cX0_isOne 262 = .ok (.aload_n 1, 1) := dk_43 (dk_at dksX0_isOne_8 12 rfl rfl)
theorem dX0_isOne_263 : decode cX0_isOne 263 = .ok (.ldc_w 274, 3) := dk_19 1 18 (dk_at dksX0_isOne_8 13 rfl rfl)
theorem dX0_isOne_266 : decode cX0_isOne 266 = .ok (.invokevirtual 226, 3) := dk_182 0 226 (dk_at dksX0_isOne_8 16 rfl rfl)
theorem dX0_isOne_269 : decode cX0_isOne 269 = .ok (.ifCond .eq 6, 3) := dk_153 0 6 (dk_at dksX0_isOne_8 19 rfl rfl)
theorem dX0_isOne_272 : decode cX0_isOne 272 = .ok (.bipush 10, 2) := dk_16 10 (dk_at dksX0_isOne_8 22 rfl rfl)
theorem dX0_isOne_274 : decode cX0_isOne 274 = .ok (.istore_n 2, 1) := dk_61 (dk_at dksX0_isOne_9 0 rfl rfl)
theorem dX0_isOne_275 : decode cX0_isOne 275 = .ok (.iload_n 2, 1) := dk_28 (dk_at dksX0_isOne_9 1 rfl rfl)
theorem dX0_isOne_276 : decode cX0_isOne 276 = .ok (.tableswitch 62 0 10 #[60, 60, 60, 60, 60, 60, 60, 60, 60, 60, 60], 60) := by decide +kernel
theorem dX0_isOne_336 : decode cX0_isOne 336 = .ok (.iconst 1, 1) := dk_4 (dk_at dksX0_isOne_11 0 rfl rfl)
theorem dX0_isOne_337 : decode cX0_isOne 337 = .ok (.ireturn, 1) := dk_172 (dk_at dksX0_isOne_11 1 rfl rfl)
theorem dX0_isOne_338 : decode cX0_isOne 338 = .ok (.iconst 0, 1) := dk_3 (dk_at dksX0_isOne_11 2 rfl rfl)
theorem dX0_isOne_339 : decode cX0_isOne 339 = .ok (.ireturn, 1) := dk_172 (dk_at dksX0_isOne_11 3 rfl rfl)
def dkwX0_must_0 : List UInt8 := [27, 154, 0, 15, 187, 0, 214, 89, 42, 180, 0, 188, 183, 0, 216, 191, 42, 182, 0, 217, 177]
abbrev dktX0_must_0 : List UInt8 := dkwX0_must_0 ++ []
theorem dksX0_must_0 : cX0_must.data.toList.drop 0 = dktX0_must_0 := by decide +kernel
theorem dX0_must_0 : decode cX0_must 0 = .ok (.iload_n 1, 1) := dk_27 (dk_at dksX0_must_0 0 rfl rfl)
theorem dX0_must_1 : decode cX0_must 1 = .ok (.ifCond .ne 15, 3) := dk_154 0 15 (dk_at dksX0_must_0 1 rfl rfl)
theorem dX0_must_4 : decode cX0_must 4 = .ok (.new 214, 3) := dk_187 0 214 (dk_at dksX0_must_0 4 rfl rfl)
theorem dX0_must_7 : decode cX0_must 7 = .ok (.dup, 1) := dk_89 (dk_at dksX0_must_0 7 rfl rfl)
theorem dX0_must_8 : decode cX0_must 8 = .ok (.aload_n 0, 1) := dk_42 (dk_at dksX0_must_0 8 rfl rfl)
theorem dX0_must_9 : decode cX0_must 9 = .ok (.getfield 188, 3) := dk_180 0 188 (dk_at dksX0_must_0 9 rfl rfl)
theorem dX0_must_12 : decode cX0_must 12 = .ok (.invokespecial 216, 3) := dk_183 0 216 (dk_at dksX0_must_0 12 rfl rfl)
theorem dX0_must_15 : decode cX0_must 15 = .ok (.athrow, 1) := dk_191 (dk_at dksX0_must_0 15 rfl rfl)
theorem dX0_must_16 : decode cX0_must 16 = .ok (.aload_n 0, 1) := dk_42 (dk_at dksX0_must_0 16 rfl rfl)
theorem dX0_must_17 : decode cX0_must 17 = .ok (.invokevirtual 217, 3) := dk_182 0 217 (dk_at dksX0_must_0 17 rfl rfl)
theorem dX0_must_20 : decode cX0_must 20 = .ok (.return_, 1) := dk_177 (dk_at dksX0_must_0 20 rfl rfl)
def dkwX0_turn_2 : List UInt8 := [182, 0, 224, 62, 187, 0, 241, 89, 27, 28, 29, 42, 18, 243, 182, 0, 235, 183, 0, 244, 176]
abbrev dktX0_turn_2 : List UInt8 := dkwX0_turn_2 ++ []
def dkwX0_turn_1 : List UInt8 := [180, 0, 49, 18, 239, 182, 0, 226, 153, 0, 7, 4, 167, 0, 4, 3, 182, 0, 220, 42, 4, 17, 39, 15]
abbrev dktX0_turn_1 : List UInt8 := dkwX0_turn_1 ++ dktX0_turn_2
def dkwX0_turn_0 : List UInt8 := [42, 182, 0, 231, 60, 42, 18, 234, 182, 0, 235, 61, 42, 42, 180, 0, 189, 16, 119, 160, 0, 19, 42]
abbrev dktX0_turn_0 : List UInt8 := dkwX0_turn_0 ++ dktX0_turn_1
theorem dksX0_turn_0 : cX0_turn.data.toList.drop 0 = dktX0_turn_0 := by decide +kernel
theorem dksX0_turn_1 : cX0_turn.data.toList.drop 23 = dktX0_turn_1 := dk_seg dksX0_turn_0 23 rfl rfl
theorem dksX0_turn_2 : cX0_turn.data.toList.drop 47 = dktX0_turn_2 := dk_seg dksX0_turn_1 24 rfl rfl
theorem dX0_turn_0 : decode cX0_turn 0 = .ok (.aload_n 0, 1) := dk_42 (dk_at dksX0_turn_0 0 rfl rfl)
theorem dX0_turn_1 : decode cX0_turn 1 = .ok (.invokevirtual 231, 3) := dk_182 0 231 (dk_at dksX0_turn_0 1 rfl rfl)
theorem dX0_turn_4 : decode cX0_turn 4 = .ok (.istore_n 1, 1) := dk_60 (dk_at dksX0_turn_0 4 rfl rfl)
theorem dX0_turn_5 : decode cX0_turn 5 = .ok (.aload_n 0, 1) := dk_42 (dk_at dksX0_turn_0 5 rfl rfl)
theorem dX0_turn_6 : decode cX0_turn 6 = .ok (.ldc 234, 2) := dk_18 234 (dk_at dksX0_turn_0 6 rfl rfl)
theorem dX0_turn_8 : decode cX0_turn 8 = .ok (.invokevirtual 235, 3) := dk_182 0 235 (dk_at dksX0_turn_0 8 rfl rfl)
theorem dX0_turn_11 : decode cX0_turn 11 = .ok (.istore_n 2, 1) := dk_61 (dk_at dksX0_turn_0 11 rfl rfl)
theorem dX0_turn_12 : decode cX0_turn 12 = .ok (.aload_n 0, 1) := dk_42 (dk_at dksX0_turn_0 12 rfl rfl)
theorem dX0_turn_13 : decode cX0_turn 13 = .ok (.aload_n 0, 1) := dk_42 (dk_at dksX0_turn_0 13 rfl rfl)
theorem dX0_turn_14 : decode cX0_turn 14 = .ok (.getfield 189, 3) := dk_180 0 189 (dk_at dksX0_turn_0 14 rfl rfl)
theorem dX0_turn_17 : decode cX0_turn 17 = .ok (.bipush 119, 2) := dk_16 119 (dk_at dksX0_turn_0 17 rfl rfl)
theorem dX0_turn_19 : decode cX0_turn 19 = .ok (.if_icmp .ne 19, 3) := dk_160 0 19 (dk_at dksX0_turn_0 19 rfl rfl)
theorem dX0_turn_22 : decode cX0_turn 22 = .ok (.aload_n 0, 1) := dk_42 (dk_at dksX0_turn_0 22 rfl rfl)
theorem dX0_turn_23 : decode cX0_turn 23 = .ok (.getfield 49, 3) := dk_180 0 49 (dk_at dksX0_turn_1 0 rfl rfl)
theorem dX0_turn_26 : decode cX0_turn 26 = .ok (.ldc 239, 2) := dk_18 239 (dk_at dksX0_turn_1 3 rfl rfl)
theorem dX0_turn_28 : decode cX0_turn 28 = .ok (.invokevirtual 226, 3) := dk_182 0 226 (dk_at dksX0_turn_1 5 rfl rfl)
theorem dX0_turn_31 : decode cX0_turn 31 = .ok (.ifCond .eq 7, 3) := dk_153 0 7 (dk_at dksX0_turn_1 8 rfl rfl)
theorem dX0_turn_34 : decode cX0_turn 34 = .ok (.iconst 1, 1) := dk_4 (dk_at dksX0_turn_1 11 rfl rfl)
theorem dX0_turn_35 : decode cX0_turn 35 = .ok (.goto 4, 3) := dk_167 0 4 (dk_at dksX0_turn_1 12 rfl rfl)
theorem dX0_turn_38 : decode cX0_turn 38 = .ok (.iconst 0, 1) := dk_3 (dk_at dksX0_turn_1 15 rfl rfl)
theorem dX0_turn_39 : decode cX0_turn 39 = .ok (.invokevirtual 220, 3) := dk_182 0 220 (dk_at dksX0_turn_1 16 rfl rfl)
theorem dX0_turn_42 : decode cX0_turn 42 = .ok (.aload_n 0, 1) := dk_42 (dk_at dksX0_turn_1 19 rfl rfl)
theorem dX0_turn_43 : decode cX0_turn 43 = .ok (.iconst 1, 1) := dk_4 (dk_at dksX0_turn_1 20 rfl rfl)
theorem dX0_turn_44 : decode cX0_turn 44 = .ok (.sipush 9999, 3) := dk_17 39 15 (dk_at dksX0_turn_1 21 rfl rfl)
theorem dX0_turn_47 : decode cX0_turn 47 = .ok (.invokevirtual 224, 3) := dk_182 0 224 (dk_at dksX0_turn_2 0 rfl rfl)
theorem dX0_turn_50 : decode cX0_turn 50 = .ok (.istore_n 3, 1) := dk_62 (dk_at dksX0_turn_2 3 rfl rfl)
theorem dX0_turn_51 : decode cX0_turn 51 = .ok (.new 241, 3) := dk_187 0 241 (dk_at dksX0_turn_2 4 rfl rfl)
theorem dX0_turn_54 : decode cX0_turn 54 = .ok (.dup, 1) := dk_89 (dk_at dksX0_turn_2 7 rfl rfl)
theorem dX0_turn_55 : decode cX0_turn 55 = .ok (.iload_n 1, 1) := dk_27 (dk_at dksX0_turn_2 8 rfl rfl)
theorem dX0_turn_56 : decode cX0_turn 56 = .ok (.iload_n 2, 1) := dk_28 (dk_at dksX0_turn_2 9 rfl rfl)
theorem dX0_turn_57 : decode cX0_turn 57 = .ok (.iload_n 3, 1) := dk_29 (dk_at dksX0_turn_2 10 rfl rfl)
theorem dX0_turn_58 : decode cX0_turn 58 = .ok (.aload_n 0, 1) := dk_42 (dk_at dksX0_turn_2 11 rfl rfl)
theorem dX0_turn_59 : decode cX0_turn 59 = .ok (.ldc 243, 2) := dk_18 243 (dk_at dksX0_turn_2 12 rfl rfl)
theorem dX0_turn_61 : decode cX0_turn 61 = .ok (.invokevirtual 235, 3) := dk_182 0 235 (dk_at dksX0_turn_2 14 rfl rfl)
theorem dX0_turn_64 : decode cX0_turn 64 = .ok (.invokespecial 244, 3) := dk_183 0 244 (dk_at dksX0_turn_2 17 rfl rfl)
theorem dX0_turn_67 : decode cX0_turn 67 = .ok (.areturn, 1) := dk_176 (dk_at dksX0_turn_2 20 rfl rfl)
def dkwX0_any_0 : List UInt8 := [42, 3, 17, 39, 15, 182, 0, 224, 172]
abbrev dktX0_any_0 : List UInt8 := dkwX0_any_0 ++ []
theorem dksX0_any_0 : cX0_any.data.toList.drop 0 = dktX0_any_0 := by decide +kernel
theorem dX0_any_0 : decode cX0_any 0 = .ok (.aload_n 0, 1) := dk_42 (dk_at dksX0_any_0 0 rfl rfl)
theorem dX0_any_1 : decode cX0_any 1 = .ok (.iconst 0, 1) := dk_3 (dk_at dksX0_any_0 1 rfl rfl)
theorem dX0_any_2 : decode cX0_any 2 = .ok (.sipush 9999, 3) := dk_17 39 15 (dk_at dksX0_any_0 2 rfl rfl)
theorem dX0_any_5 : decode cX0_any 5 = .ok (.invokevirtual 224, 3) := dk_182 0 224 (dk_at dksX0_any_0 5 rfl rfl)
theorem dX0_any_8 : decode cX0_any 8 = .ok (.ireturn, 1) := dk_172 (dk_at dksX0_any_0 8 rfl rfl)
def dkwX0_number_1 : List UInt8 := [4, 167, 0, 4, 3, 182, 0, 220, 29, 172]
abbrev dktX0_number_1 : List UInt8 := dkwX0_number_1 ++ []
def dkwX0_number_0 : List UInt8 := [42, 180, 0, 210, 62, 42, 42, 180, 0, 189, 16, 110, 160, 0, 16, 29, 27, 28, 184, 0, 3, 153, 0, 7]
abbrev dktX0_number_0 : List UInt8 := dkwX0_number_0 ++ dktX0_number_1
theorem dksX0_number_0 : cX0_number.data.toList.drop 0 = dktX0_number_0 := by decide +kernel
theorem dksX0_number_1 : cX0_number.data.toList.drop 24 = dktX0_number_1 := dk_seg dksX0_number_0 24 rfl rfl
theorem dX0_number_0 : decode cX0_number 0 = .ok (.aload_n 0, 1) := dk_42 (dk_at dksX0_number_0 0 rfl rfl)
theorem dX0_number_1 : decode cX0_number 1 = .ok (.getfield 210, 3) := dk_180 0 210 (dk_at dksX0_number_0 1 rfl rfl)
theorem dX0_number_4 : decode cX0_number 4 = .ok (.istore_n 3, 1) := dk_62 (dk_at dksX0_number_0 4 rfl rfl)
theorem dX0_number_5 : decode cX0_number 5 = .ok (.aload_n 0, 1) := dk_42 (dk_at dksX0_number_0 5 rfl rfl)
theorem dX0_number_6 : decode cX0_number 6 = .ok (.aload_n 0, 1) := dk_42 (dk_at dksX0_number_0 6 rfl rfl)
theorem dX0_number_7 : decode cX0_number 7 = .ok (.getfield 189, 3) := dk_180 0 189 (dk_at dksX0_number_0 7 rfl rfl)
theorem dX0_number_10 : decode cX0_number 10 = .ok (.bipush 110, 2) := dk_16 110 (dk_at dksX0_number_0 10 rfl rfl)
theorem dX0_number_12 : decode cX0_number 12 = .ok (.if_icmp .ne 16, 3) := dk_160 0 16 (dk_at dksX0_number_0 12 rfl rfl)
theorem dX0_number_15 : decode cX0_number 15 = .ok (.iload_n 3, 1) := dk_29 (dk_at dksX0_number_0 15 rfl rfl)
theorem dX0_number_16 : decode cX0_number 16 = .ok (.iload_n 1, 1) := dk_27 (dk_at dksX0_number_0 16 rfl rfl)
theorem dX0_number_17 : decode cX0_number 17 = .ok (.iload_n 2, 1) := dk_28 (dk_at dksX0_number_0 17 rfl rfl)
theorem dX0_number_18 : decode cX0_number 18 = .ok (.invokestatic 3, 3) := dk_184 0 3 (dk_at dksX0_number_0 18 rfl rfl)
theorem dX0_number_21 : decode cX0_number 21 = .ok (.ifCond .eq 7, 3) := dk_153 0 7 (dk_at dksX0_number_0 21 rfl rfl)
theorem dX0_number_24 : decode cX0_number 24 = .ok (.iconst 1, 1) := dk_4 (dk_at dksX0_number_1 0 rfl rfl)
theorem dX0_number_25 : decode cX0_number 25 = .ok (.goto 4, 3) := dk_167 0 4 (dk_at dksX0_number_1 1 rfl rfl)
theorem dX0_number_28 : decode cX0_number 28 = .ok (.iconst 0, 1) := dk_3 (dk_at dksX0_number_1 4 rfl rfl)
theorem dX0_number_29 : decode cX0_number 29 = .ok (.invokevirtual 220, 3) := dk_182 0 220 (dk_at dksX0_number_1 5 rfl rfl)
theorem dX0_number_32 : decode cX0_number 32 = .ok (.iload_n 3, 1) := dk_29 (dk_at dksX0_number_1 8 rfl rfl)
theorem dX0_number_33 : decode cX0_number 33 = .ok (.ireturn, 1) := dk_172 (dk_at dksX0_number_1 9 rfl rfl)
def dkwX0_after_1 : List UInt8 := [167, 0, 4, 3, 182, 0, 220, 42, 182, 0, 231, 172]
abbrev dktX0_after_1 : List UInt8 := dkwX0_after_1 ++ []
def dkwX0_after_0 : List UInt8 := [42, 42, 180, 0, 189, 16, 119, 160, 0, 18, 42, 180, 0, 49, 43, 182, 0, 226, 153, 0, 7, 4]
abbrev dktX0_after_0 : List UInt8 := dkwX0_after_0 ++ dktX0_after_1
theorem dksX0_after_0 : cX0_after.data.toList.drop 0 = dktX0_after_0 := by decide +kernel
theorem dksX0_after_1 : cX0_after.data.toList.drop 22 = dktX0_after_1 := dk_seg dksX0_after_0 22 rfl rfl
theorem dX0_after_0 : decode cX0_after 0 = .ok (.aload_n 0, 1) := dk_42 (dk_at dksX0_after_0 0 rfl rfl)
theorem dX0_after_1 : decode cX0_after 1 = .ok (.aload_n 0, 1) := dk_42 (dk_at dksX0_after_0 1 rfl rfl)
theorem dX0_after_2 : decode cX0_after 2 = .ok (.getfield 189, 3) := dk_180 0 189 (dk_at dksX0_after_0 2 rfl rfl)
theorem dX0_after_5 : decode cX0_after 5 = .ok (.bipush 119, 2) := dk_16 119 (dk_at dksX0_after_0 5 rfl rfl)
theorem dX0_after_7 : decode cX0_after 7 = .ok (.if_icmp .ne 18, 3) := dk_160 0 18 (dk_at dksX0_after_0 7 rfl rfl)
theorem dX0_after_10 : decode cX0_after 10 = .ok (.aload_n 0, 1) := dk_42 (dk_at dksX0_after_0 10 rfl rfl)
theorem dX0_after_11 : decode cX0_after 11 = .ok (.getfield 49, 3) := dk_180 0 49 (dk_at dksX0_after_0 11 rfl rfl)
theorem dX0_after_14 : decode cX0_after 14 = .ok (.aload_n 1, 1) := dk_43 (dk_at dksX0_after_0 14 rfl rfl)
theorem dX0_after_15 : decode cX0_after 15 = .ok (.invokevirtual 226, 3) := dk_182 0 226 (dk_at dksX0_after_0 15 rfl rfl)
theorem dX0_after_18 : decode cX0_after 18 = .ok (.ifCond .eq 7, 3) := dk_153 0 7 (dk_at dksX0_after_0 18 rfl rfl)
theorem dX0_after_21 : decode cX0_after 21 = .ok (.iconst 1, 1) := dk_4 (dk_at dksX0_after_0 21 rfl rfl)
theorem dX0_after_22 : decode cX0_after 22 = .ok (.goto 4, 3) := dk_167 0 4 (dk_at dksX0_after_1 0 rfl rfl)
theorem dX0_after_25 : decode cX0_after 25 = .ok (.iconst 0, 1) := dk_3 (dk_at dksX0_after_1 3 rfl rfl)
theorem dX0_after_26 : decode cX0_after 26 = .ok (.invokevirtual 220, 3) := dk_182 0 220 (dk_at dksX0_after_1 4 rfl rfl)
theorem dX0_after_29 : decode cX0_after 29 = .ok (.aload_n 0, 1) := dk_42 (dk_at dksX0_after_1 7 rfl rfl)
theorem dX0_after_30 : decode cX0_after 30 = .ok (.invokevirtual 231, 3) := dk_182 0 231 (dk_at dksX0_after_1 8 rfl rfl)
theorem dX0_after_33 : decode cX0_after 33 = .ok (.ireturn, 1) := dk_172 (dk_at dksX0_after_1 11 rfl rfl)
def dkwX0_look_1 : List UInt8 := [42, 18, 253, 182, 0, 235, 79, 177]
abbrev dktX0_look_1 : List UInt8 := dkwX0_look_1 ++ []
def dkwX0_look_0 : List UInt8 := [42, 3, 6, 182, 0, 224, 61, 43, 180, 0, 247, 28, 42, 18, 243, 182, 0, 235, 79, 43, 180, 0, 250, 28]
abbrev dktX0_look_0 : List UInt8 := dkwX0_look_0 ++ dktX0_look_1
theorem dksX0_look_0 : cX0_look.data.toList.drop 0 = dktX0_look_0 := by decide +kernel
theorem dksX0_look_1 : cX0_look.data.toList.drop 24 = dktX0_look_1 := dk_seg dksX0_look_0 24 rfl rfl
theorem dX0_look_0 : decode cX0_look 0 = .ok (.aload_n 0, 1) := dk_42 (dk_at dksX0_look_0 0 rfl rfl)
theorem dX0_look_1 : decode cX0_look 1 = .ok (.iconst 0, 1) := dk_3 (dk_at dksX0_look_0 1 rfl rfl)
theorem dX0_look_2 : decode cX0_look 2 = .ok (.iconst 3, 1) := dk_6 (dk_at dksX0_look_0 2 rfl rfl)
theorem dX0_look_3 : decode cX0_look 3 = .ok (.invokevirtual 224, 3) := dk_182 0 224 (dk_at dksX0_look_0 3 rfl rfl)
theorem dX0_look_6 : decode cX0_look 6 = .ok (.istore_n 2, 1) := dk_61 (dk_at dksX0_look_0 6 rfl rfl)
theorem dX0_look_7 : decode cX0_look 7 = .ok (.aload_n 1, 1) := dk_43 (dk_at dksX0_look_0 7 rfl rfl)
theorem dX0_look_8 : decode cX0_look 8 = .ok (.getfield 247, 3) := dk_180 0 247 (dk_at dksX0_look_0 8 rfl rfl)
theorem dX0_look_11 : decode cX0_look 11 = .ok (.iload_n 2, 1) := dk_28 (dk_at dksX0_look_0 11 rfl rfl)
theorem dX0_look_12 : decode cX0_look 12 = .ok (.aload_n 0, 1) := dk_42 (dk_at dksX0_look_0 12 rfl rfl)
theorem dX0_look_13 : decode cX0_look 13 = .ok (.ldc 243, 2) := dk_18 243 (dk_at dksX0_look_0 13 rfl rfl)
theorem dX0_look_15 : decode cX0_look 15 = .ok (.invokevirtual 235, 3) := dk_182 0 235 (dk_at dksX0_look_0 15 rfl rfl)
theorem dX0_look_18 : decode cX0_look 18 = .ok (.iastore, 1) := dk_79 (dk_at dksX0_look_0 18 rfl rfl)
theorem dX0_look_19 : decode cX0_look 19 = .ok (.aload_n 1, 1) := dk_43 (dk_at dksX0_look_0 19 rfl rfl)
theorem dX0_look_20 : decode cX0_look 20 = .ok (.getfield 250, 3) := dk_180 0 250 (dk_at dksX0_look_0 20 rfl rfl)
theorem dX0_look_23 : decode cX0_look 23 = .ok (.iload_n 2, 1) := dk_28 (dk_at dksX0_look_0 23 rfl rfl)
theorem dX0_look_24 : decode cX0_look 24 = .ok (.aload_n 0, 1) := dk_42 (dk_at dksX0_look_1 0 rfl rfl)
theorem dX0_look_25 : decode cX0_look 25 = .ok (.ldc 253, 2) := dk_18 253 (dk_at dksX0_look_1 1 rfl rfl)
theorem dX0_look_27 : decode cX0_look 27 = .ok (.invokevirtual 235, 3) := dk_182 0 235 (dk_at dksX0_look_1 3 rfl rfl)
theorem dX0_look_30 : decode cX0_look 30 = .ok (.iastore, 1) := dk_79 (dk_at dksX0_look_1 6 rfl rfl)
theorem dX0_look_31 : decode cX0_look 31 = .ok (.return_, 1) := dk_177 (dk_at dksX0_look_1 7 rfl rfl)
theorem dX0_fault_0 : decode cX0_fault 0 = .ok (.aload_n 0, 1) := by decide +kernel
theorem dX0_fault_1 : decode cX0_fault 1 = .ok (.getfield 43, 3) := by decide +kernel
theorem dX0_fault_4 : decode cX0_fault 4 = .ok (.ireturn, 1) := by decide +kernel
def dkwX0_law_7 : List UInt8 := [182, 0, 77, 172, 42, 27, 182, 0, 168, 172, 2, 172]
abbrev dktX0_law_7 : List UInt8 := dkwX0_law_7 ++ []
def dkwX0_law_6 : List UInt8 := [180, 1, 49, 172, 45, 180, 1, 51, 172, 45, 180, 1, 55, 172, 45, 180, 1, 57, 172, 45, 180, 1, 24]
abbrev dktX0_law_6 : List UInt8 := dkwX0_law_6 ++ dktX0_law_7
def dkwX0_law_5 : List UInt8 := [172, 45, 180, 1, 39, 172, 45, 180, 1, 40, 172, 45, 180, 1, 42, 172, 45, 180, 1, 46, 172, 45]
abbrev dktX0_law_5 : List UInt8 := dkwX0_law_5 ++ dktX0_law_6
def dkwX0_law_4 : List UInt8 := [45, 180, 1, 30, 172, 45, 180, 1, 31, 172, 45, 180, 1, 34, 172, 45, 180, 1, 37, 172, 45, 180, 0, 126]
abbrev dktX0_law_4 : List UInt8 := dkwX0_law_4 ++ dktX0_law_5
def dkwX0_law_3 : List UInt8 := [170, 0, 0, 0, 0, 0, 0, 187, 0, 0, 0, 0, 0, 0, 0, 22, 0, 0, 0, 108, 0, 0, 0, 113, 0, 0, 0, 118, 0, 0, 0, 123, 0, 0, 0, 128, 0, 0, 0, 133, 0, 0, 0, 138, 0, 0, 0, 143, 0, 0, 0, 148, 0, 0, 0, 153, 0, 0, 0, 158, 0, 0, 0, 163, 0, 0, 0, 168, 0, 0, 0, 187, 0, 0, 0, 187, 0, 0, 0, 187, 0, 0, 0, 187, 0, 0, 0, 187, 0, 0, 0, 187, 0, 0, 0, 187, 0, 0, 0, 187, 0, 0, 0, 173, 0, 0, 0, 181]
abbrev dktX0_law_3 : List UInt8 := dkwX0_law_3 ++ dktX0_law_4
def dkwX0_law_2 : List UInt8 := [45, 180, 0, 250, 28, 16, 14, 100, 5, 108, 46, 172, 28]
abbrev dktX0_law_2 : List UInt8 := dkwX0_law_2 ++ dktX0_law_3
def dkwX0_law_1 : List UInt8 := [153, 0, 36, 28, 5, 112, 4, 160, 0, 17, 45, 180, 0, 247, 28, 16, 13, 100, 5, 108, 46, 167, 0, 14]
abbrev dktX0_law_1 : List UInt8 := dkwX0_law_1 ++ dktX0_law_2
def dkwX0_law_0 : List UInt8 := [27, 184, 1, 70, 154, 0, 5, 2, 172, 42, 27, 182, 0, 122, 78, 28, 16, 13, 16, 20, 184, 0, 3]
abbrev dktX0_law_0 : List UInt8 := dkwX0_law_0 ++ dktX0_law_1
theorem dksX0_law_0 : cX0_law.data.toList.drop 0 = dktX0_law_0 := by decide +kernel
theorem dksX0_law_1 : cX0_law.data.toList.drop 23 = dktX0_law_1 := dk_seg dksX0_law_0 23 rfl rfl
theorem dksX0_law_2 : cX0_law.data.toList.drop 47 = dktX0_law_2 := dk_seg dksX0_law_1 24 rfl rfl
theorem dksX0_law_3 : cX0_law.data.toList.drop 60 = dktX0_law_3 := dk_seg dksX0_law_2 13 rfl rfl
theorem dksX0_law_4 : cX0_law.data.toList.drop 168 = dktX0_law_4 := dk_seg dksX0_law_3 108 rfl rfl
theorem dksX0_law_5 : cX0_law.data.toList.drop 192 = dktX0_law_5 := dk_seg dksX0_law_4 24 rfl rfl
theorem dksX0_law_6 : cX0_law.data.toList.drop 214 = dktX0_law_6 := dk_seg dksX0_law_5 22 rfl rfl
theorem dksX0_law_7 : cX0_law.data.toList.drop 237 = dktX0_law_7 := dk_seg dksX0_law_6 23 rfl rfl
theorem dX0_law_0 : decode cX0_law 0 = .ok (.iload_n 1, 1) := dk_27 (dk_at dksX0_law_0 0 rfl rfl)
theorem dX0_law_1 : decode cX0_law 1 = .ok (.invokestatic 326, 3) := dk_184 1 70 (dk_at dksX0_law_0 1 rfl rfl)
theorem dX0_law_4 : decode cX0_law 4 = .ok (.ifCond .ne 5, 3) := dk_154 0 5 (dk_at dksX0_law_0 4 rfl rfl)
theorem dX0_law_7 : decode cX0_law 7 = .ok (.iconst (-1), 1) := dk_2 (dk_at dksX0_law_0 7 rfl rfl)
theorem dX0_law_8 : decode cX0_law 8 = .ok (.ireturn, 1) := dk_172 (dk_at dksX0_law_0 8 rfl rfl)
theorem dX0_law_9 : decode cX0_law 9 = .ok (.aload_n 0, 1) := dk_42 (dk_at dksX0_law_0 9 rfl rfl)
theorem dX0_law_10 : decode cX0_law 10 = .ok (.iload_n 1, 1) := dk_27 (dk_at dksX0_law_0 10 rfl rfl)
theorem dX0_law_11 : decode cX0_law 11 = .ok (.invokevirtual 122, 3) := dk_182 0 122 (dk_at dksX0_law_0 11 rfl rfl)
theorem dX0_law_14 : decode cX0_law 14 = .ok (.astore_n 3, 1) := dk_78 (dk_at dksX0_law_0 14 rfl rfl)
theorem dX0_law_15 : decode cX0_law 15 = .ok (.iload_n 2, 1) := dk_28 (dk_at dksX0_law_0 15 rfl rfl)
theorem dX0_law_16 : decode cX0_law 16 = .ok (.bipush 13, 2) := dk_16 13 (dk_at dksX0_law_0 16 rfl rfl)
theorem dX0_law_18 : decode cX0_law 18 = .ok (.bipush 20, 2) := dk_16 20 (dk_at dksX0_law_0 18 rfl rfl)
theorem dX0_law_20 : decode cX0_law 20 = .ok (.invokestatic 3, 3) := dk_184 0 3 (dk_at dksX0_law_0 20 rfl rfl)
theorem dX0_law_23 : decode cX0_law 23 = .ok (.ifCond .eq 36, 3) := dk_153 0 36 (dk_at dksX0_law_1 0 rfl rfl)
theorem dX0_law_26 : decode cX0_law 26 = .ok (.iload_n 2, 1) := dk_28 (dk_at dksX0_law_1 3 rfl rfl)
theorem dX0_law_27 : decode cX0_law 27 = .ok (.iconst 2, 1) := dk_5 (dk_at dksX0_law_1 4 rfl rfl)
theorem dX0_law_28 : decode cX0_law 28 = .ok (.irem, 1) := dk_112 (dk_at dksX0_law_1 5 rfl rfl)
theorem dX0_law_29 : decode cX0_law 29 = .ok (.iconst 1, 1) := dk_4 (dk_at dksX0_law_1 6 rfl rfl)
theorem dX0_law_30 : decode cX0_law 30 = .ok (.if_icmp .ne 17, 3) := dk_160 0 17 (dk_at dksX0_law_1 7 rfl rfl)
theorem dX0_law_33 : decode cX0_law 33 = .ok (.aload_n 3, 1) := dk_45 (dk_at dksX0_law_1 10 rfl rfl)
theorem dX0_law_34 : decode cX0_law 34 = .ok (.getfield 247, 3) := dk_180 0 247 (dk_at dksX0_law_1 11 rfl rfl)
theorem dX0_law_37 : decode cX0_law 37 = .ok (.iload_n 2, 1) := dk_28 (dk_at dksX0_law_1 14 rfl rfl)
theorem dX0_law_38 : decode cX0_law 38 = .ok (.bipush 13, 2) := dk_16 13 (dk_at dksX0_law_1 15 rfl rfl)
theorem dX0_law_40 : decode cX0_law 40 = .ok (.isub, 1) := dk_100 (dk_at dksX0_law_1 17 rfl rfl)
theorem dX0_law_41 : decode cX0_law 41 = .ok (.iconst 2, 1) := dk_5 (dk_at dksX0_law_1 18 rfl rfl)
theorem dX0_law_42 : decode cX0_law 42 = .ok (.idiv, 1) := dk_108 (dk_at dksX0_law_1 19 rfl rfl)
theorem dX0_law_43 : decode cX0_law 43 = .ok (.iaload, 1) := dk_46 (dk_at dksX0_law_1 20 rfl rfl)
theorem dX0_law_44 : decode cX0_law 44 = .ok (.goto 14, 3) := dk_167 0 14 (dk_at dksX0_law_1 21 rfl rfl)
theorem dX0_law_47 : decode cX0_law 47 = .ok (.aload_n 3, 1) := dk_45 (dk_at dksX0_law_2 0 rfl rfl)
theorem dX0_law_48 : decode cX0_law 48 = .ok (.getfield 250, 3) := dk_180 0 250 (dk_at dksX0_law_2 1 rfl rfl)
theorem dX0_law_51 : decode cX0_law 51 = .ok (.iload_n 2, 1) := dk_28 (dk_at dksX0_law_2 4 rfl rfl)
theorem dX0_law_52 : decode cX0_law 52 = .ok (.bipush 14, 2) := dk_16 14 (dk_at dksX0_law_2 5 rfl rfl)
theorem dX0_law_54 : decode cX0_law 54 = .ok (.isub, 1) := dk_100 (dk_at dksX0_law_2 7 rfl rfl)
theorem dX0_law_55 : decode cX0_law 55 = .ok (.iconst 2, 1) := dk_5 (dk_at dksX0_law_2 8 rfl rfl)
theorem dX0_law_56 : decode cX0_law 56 = .ok (.idiv, 1) := dk_108 (dk_at dksX0_law_2 9 rfl rfl)
theorem dX0_law_57 : decode cX0_law 57 = .ok (.iaload, 1) := dk_46 (dk_at dksX0_law_2 10 rfl rfl)
theorem dX0_law_58 : decode cX0_law 58 = .ok (.ireturn, 1) := dk_172 (dk_at dksX0_law_2 11 rfl rfl)
theorem dX0_law_59 : decode cX0_law 59 = .ok (.iload_n 2, 1) := dk_28 (dk_at dksX0_law_2 12 rfl rfl)
theorem dX0_law_60 : decode cX0_law 60 = .ok (.tableswitch 187 0 22 #[108, 113, 118, 123, 128, 133, 138, 143, 148, 153, 158, 163, 168, 187, 187, 187, 187, 187, 187, 187, 187, 173, 181], 108) := by decide +kernel
theorem dX0_law_168 : decode cX0_law 168 = .ok (.aload_n 3, 1) := dk_45 (dk_at dksX0_law_4 0 rfl rfl)
theorem dX0_law_169 : decode cX0_law 169 = .ok (.getfield 286, 3) := dk_180 1 30 (dk_at dksX0_law_4 1 rfl rfl)
theorem dX0_law_172 : decode cX0_law 172 = .ok (.ireturn, 1) := dk_172 (dk_at dksX0_law_4 4 rfl rfl)
theorem dX0_law_173 : decode cX0_law 173 = .ok (.aload_n 3, 1) := dk_45 (dk_at dksX0_law_4 5 rfl rfl)
theorem dX0_law_174 : decode cX0_law 174 = .ok (.getfield 287, 3) := dk_180 1 31 (dk_at dksX0_law_4 6 rfl rfl)
theorem dX0_law_177 : decode cX0_law 177 = .ok (.ireturn, 1) := dk_172 (dk_at dksX0_law_4 9 rfl rfl)
theorem dX0_law_178 : decode cX0_law 178 = .ok (.aload_n 3, 1) := dk_45 (dk_at dksX0_law_4 10 rfl rfl)
theorem dX0_law_179 : decode cX0_law 179 = .ok (.getfield 290, 3) := dk_180 1 34 (dk_at dksX0_law_4 11 rfl rfl)
theorem dX0_law_182 : decode cX0_law 182 = .ok (.ireturn, 1) := dk_172 (dk_at dksX0_law_4 14 rfl rfl)
theorem dX0_law_183 : decode cX0_law 183 = .ok (.aload_n 3, 1) := dk_45 (dk_at dksX0_law_4 15 rfl rfl)
theorem dX0_law_184 : decode cX0_law 184 = .ok (.getfield 293, 3) := dk_180 1 37 (dk_at dksX0_law_4 16 rfl rfl)
theorem dX0_law_187 : decode cX0_law 187 = .ok (.ireturn, 1) := dk_172 (dk_at dksX0_law_4 19 rfl rfl)
theorem dX0_law_188 : decode cX0_law 188 = .ok (.aload_n 3, 1) := dk_45 (dk_at dksX0_law_4 20 rfl rfl)
theorem dX0_law_189 : decode cX0_law 189 = .ok (.getfield 126, 3) := dk_180 0 126 (dk_at dksX0_law_4 21 rfl rfl)
theorem dX0_law_192 : decode cX0_law 192 = .ok (.ireturn, 1) := dk_172 (dk_at dksX0_law_5 0 rfl rfl)
theorem dX0_law_193 : decode cX0_law 193 = .ok (.aload_n 3, 1) := dk_45 (dk_at dksX0_law_5 1 rfl rfl)
theorem dX0_law_194 : decode cX0_law 194 = .ok (.getfield 295, 3) := dk_180 1 39 (dk_at dksX0_law_5 2 rfl rfl)
theorem dX0_law_197 : decode cX0_law 197 = .ok (.ireturn, 1) := dk_172 (dk_at dksX0_law_5 5 rfl rfl)
theorem dX0_law_198 : decode cX0_law 198 = .ok (.aload_n 3, 1) := dk_45 (dk_at dksX0_law_5 6 rfl rfl)
theorem dX0_law_199 : decode cX0_law 199 = .ok (.getfield 296, 3) := dk_180 1 40 (dk_at dksX0_law_5 7 rfl rfl)
theorem dX0_law_202 : decode cX0_law 202 = .ok (.ireturn, 1) := dk_172 (dk_at dksX0_law_5 10 rfl rfl)
theorem dX0_law_203 : decode cX0_law 203 = .ok (.aload_n 3, 1) := dk_45 (dk_at dksX0_law_5 11 rfl rfl)
theorem dX0_law_204 : decode cX0_law 204 = .ok (.getfield 298, 3) := dk_180 1 42 (dk_at dksX0_law_5 12 rfl rfl)
theorem dX0_law_207 : decode cX0_law 207 = .ok (.ireturn, 1) := dk_172 (dk_at dksX0_law_5 15 rfl rfl)
theorem dX0_law_208 : decode cX0_law 208 = .ok (.aload_n 3, 1) := dk_45 (dk_at dksX0_law_5 16 rfl rfl)
theorem dX0_law_209 : decode cX0_law 209 = .ok (.getfield 302, 3) := dk_180 1 46 (dk_at dksX0_law_5 17 rfl rfl)
theorem dX0_law_212 : decode cX0_law 212 = .ok (.ireturn, 1) := dk_172 (dk_at dksX0_law_5 20 rfl rfl)
theorem dX0_law_213 : decode cX0_law 213 = .ok (.aload_n 3, 1) := dk_45 (dk_at dksX0_law_5 21 rfl rfl)
theorem dX0_law_214 : decode cX0_law 214 = .ok (.getfield 305, 3) := dk_180 1 49 (dk_at dksX0_law_6 0 rfl rfl)
theorem dX0_law_217 : decode cX0_law 217 = .ok (.ireturn, 1) := dk_172 (dk_at dksX0_law_6 3 rfl rfl)
theorem dX0_law_218 : decode cX0_law 218 = .ok (.aload_n 3, 1) := dk_45 (dk_at dksX0_law_6 4 rfl rfl)
theorem dX0_law_219 : decode cX0_law 219 = .ok (.getfield 307, 3) := dk_180 1 51 (dk_at dksX0_law_6 5 rfl rfl)
theorem dX0_law_222 : decode cX0_law 222 = .ok (.ireturn, 1) := dk_172 (dk_at dksX0_law_6 8 rfl rfl)
theorem dX0_law_223 : decode cX0_law 223 = .ok (.aload_n 3, 1) := dk_45 (dk_at dksX0_law_6 9 rfl rfl)
theorem dX0_law_224 : decode cX0_law 224 = .ok (.getfield 311, 3) := dk_180 1 55 (dk_at dksX0_law_6 10 rfl rfl)
theorem dX0_law_227 : decode cX0_law 227 = .ok (.ireturn, 1) := dk_172 (dk_at dksX0_law_6 13 rfl rfl)
theorem dX0_law_228 : decode cX0_law 228 = .ok (.aload_n 3, 1) := dk_45 (dk_at dksX0_law_6 14 rfl rfl)
theorem dX0_law_229 : decode cX0_law 229 = .ok (.getfield 313, 3) := dk_180 1 57 (dk_at dksX0_law_6 15 rfl rfl)
theorem dX0_law_232 : decode cX0_law 232 = .ok (.ireturn, 1) := dk_172 (dk_at dksX0_law_6 18 rfl rfl)
theorem dX0_law_233 : decode cX0_law 233 = .ok (.aload_n 3, 1) := dk_45 (dk_at dksX0_law_6 19 rfl rfl)
theorem dX0_law_234 : decode cX0_law 234 = .ok (.getfield 280, 3) := dk_180 1 24 (dk_at dksX0_law_6 20 rfl rfl)
theorem dX0_law_237 : decode cX0_law 237 = .ok (.invokevirtual 77, 3) := dk_182 0 77 (dk_at dksX0_law_7 0 rfl rfl)
theorem dX0_law_240 : decode cX0_law 240 = .ok (.ireturn, 1) := dk_172 (dk_at dksX0_law_7 3 rfl rfl)
theorem dX0_law_241 : decode cX0_law 241 = .ok (.aload_n 0, 1) := dk_42 (dk_at dksX0_law_7 4 rfl rfl)
theorem dX0_law_242 : decode cX0_law 242 = .ok (.iload_n 1, 1) := dk_27 (dk_at dksX0_law_7 5 rfl rfl)
theorem dX0_law_243 : decode cX0_law 243 = .ok (.invokevirtual 168, 3) := dk_182 0 168 (dk_at dksX0_law_7 6 rfl rfl)
theorem dX0_law_246 : decode cX0_law 246 = .ok (.ireturn, 1) := dk_172 (dk_at dksX0_law_7 9 rfl rfl)
theorem dX0_law_247 : decode cX0_law 247 = .ok (.iconst (-1), 1) := dk_2 (dk_at dksX0_law_7 10 rfl rfl)
theorem dX0_law_248 : decode cX0_law 248 = .ok (.ireturn, 1) := dk_172 (dk_at dksX0_law_7 11 rfl rfl)
def dkwX0_isDay_0 : List UInt8 := [26, 3, 17, 14, 65, 184, 0, 3, 172]
abbrev dktX0_isDay_0 : List UInt8 := dkwX0_isDay_0 ++ []
theorem dksX0_isDay_0 : cX0_isDay.data.toList.drop 0 = dktX0_isDay_0 := by decide +kernel
theorem dX0_isDay_0 : decode cX0_isDay 0 = .ok (.iload_n 0, 1) := dk_26 (dk_at dksX0_isDay_0 0 rfl rfl)
theorem dX0_isDay_1 : decode cX0_isDay 1 = .ok (.iconst 0, 1) := dk_3 (dk_at dksX0_isDay_0 1 rfl rfl)
theorem dX0_isDay_2 : decode cX0_isDay 2 = .ok (.sipush 3649, 3) := dk_17 14 65 (dk_at dksX0_isDay_0 2 rfl rfl)
theorem dX0_isDay_5 : decode cX0_isDay 5 = .ok (.invokestatic 3, 3) := dk_184 0 3 (dk_at dksX0_isDay_0 5 rfl rfl)
theorem dX0_isDay_8 : decode cX0_isDay 8 = .ok (.ireturn, 1) := dk_172 (dk_at dksX0_isDay_0 8 rfl rfl)
def dkwX0_turn_2_4 : List UInt8 := [153, 0, 5, 4, 172, 132, 5, 1, 167, 255, 196, 3, 172]
abbrev dktX0_turn_2_4 : List UInt8 := dkwX0_turn_2_4 ++ []
def dkwX0_turn_2_3 : List UInt8 := [182, 1, 73, 27, 160, 0, 23, 25, 6, 182, 1, 76, 28, 160, 0, 14, 25, 6, 29, 182, 1, 79]
abbrev dktX0_turn_2_3 : List UInt8 := dkwX0_turn_2_3 ++ dktX0_turn_2_4
def dkwX0_turn_2_2 : List UInt8 := [182, 0, 77, 162, 0, 53, 25, 4, 180, 1, 24, 21, 5, 182, 0, 81, 192, 0, 241, 58, 6, 25, 6]
abbrev dktX0_turn_2_2 : List UInt8 := dkwX0_turn_2_2 ++ dktX0_turn_2_3
def dkwX0_turn_2_1 : List UInt8 := [154, 0, 5, 2, 172, 42, 29, 182, 0, 122, 58, 4, 3, 54, 5, 21, 5, 25, 4, 180, 1, 24]
abbrev dktX0_turn_2_1 : List UInt8 := dkwX0_turn_2_1 ++ dktX0_turn_2_2
def dkwX0_turn_2_0 : List UInt8 := [27, 3, 16, 9, 184, 0, 3, 153, 0, 18, 42, 28, 182, 0, 87, 198, 0, 10, 29, 184, 1, 70]
abbrev dktX0_turn_2_0 : List UInt8 := dkwX0_turn_2_0 ++ dktX0_turn_2_1
theorem dksX0_turn_2_0 : cX0_turn_2.data.toList.drop 0 = dktX0_turn_2_0 := by decide +kernel
theorem dksX0_turn_2_1 : cX0_turn_2.data.toList.drop 22 = dktX0_turn_2_1 := dk_seg dksX0_turn_2_0 22 rfl rfl
theorem dksX0_turn_2_2 : cX0_turn_2.data.toList.drop 44 = dktX0_turn_2_2 := dk_seg dksX0_turn_2_1 22 rfl rfl
theorem dksX0_turn_2_3 : cX0_turn_2.data.toList.drop 67 = dktX0_turn_2_3 := dk_seg dksX0_turn_2_2 23 rfl rfl
theorem dksX0_turn_2_4 : cX0_turn_2.data.toList.drop 89 = dktX0_turn_2_4 := dk_seg dksX0_turn_2_3 22 rfl rfl
theorem dX0_turn_2_0 : decode cX0_turn_2 0 = .ok (.iload_n 1, 1) := dk_27 (dk_at dksX0_turn_2_0 0 rfl rfl)
theorem dX0_turn_2_1 : decode cX0_turn_2 1 = .ok (.iconst 0, 1) := dk_3 (dk_at dksX0_turn_2_0 1 rfl rfl)
theorem dX0_turn_2_2 : decode cX0_turn_2 2 = .ok (.bipush 9, 2) := dk_16 9 (dk_at dksX0_turn_2_0 2 rfl rfl)
theorem dX0_turn_2_4 : decode cX0_turn_2 4 = .ok (.invokestatic 3, 3) := dk_184 0 3 (dk_at dksX0_turn_2_0 4 rfl rfl)
theorem dX0_turn_2_7 : decode cX0_turn_2 7 = .ok (.ifCond .eq 18, 3) := dk_153 0 18 (dk_at dksX0_turn_2_0 7 rfl rfl)
theorem dX0_turn_2_10 : decode cX0_turn_2 10 = .ok (.aload_n 0, 1) := dk_42 (dk_at dksX0_turn_2_0 10 rfl rfl)
theorem dX0_turn_2_11 : decode cX0_turn_2 11 = .ok (.iload_n 2, 1) := dk_28 (dk_at dksX0_turn_2_0 11 rfl rfl)
theorem dX0_turn_2_12 : decode cX0_turn_2 12 = .ok (.invokevirtual 87, 3) := dk_182 0 87 (dk_at dksX0_turn_2_0 12 rfl rfl)
theorem dX0_turn_2_15 : decode cX0_turn_2 15 = .ok (.ifnull 10, 3) := dk_198 0 10 (dk_at dksX0_turn_2_0 15 rfl rfl)
theorem dX0_turn_2_18 : decode cX0_turn_2 18 = .ok (.iload_n 3, 1) := dk_29 (dk_at dksX0_turn_2_0 18 rfl rfl)
theorem dX0_turn_2_19 : decode cX0_turn_2 19 = .ok (.invokestatic 326, 3) := dk_184 1 70 (dk_at dksX0_turn_2_0 19 rfl rfl)
theorem dX0_turn_2_22 : decode cX0_turn_2 22 = .ok (.ifCond .ne 5, 3) := dk_154 0 5 (dk_at dksX0_turn_2_1 0 rfl rfl)
theorem dX0_turn_2_25 : decode cX0_turn_2 25 = .ok (.iconst (-1), 1) := dk_2 (dk_at dksX0_turn_2_1 3 rfl rfl)
theorem dX0_turn_2_26 : decode cX0_turn_2 26 = .ok (.ireturn, 1) := dk_172 (dk_at dksX0_turn_2_1 4 rfl rfl)
theorem dX0_turn_2_27 : decode cX0_turn_2 27 = .ok (.aload_n 0, 1) := dk_42 (dk_at dksX0_turn_2_1 5 rfl rfl)
theorem dX0_turn_2_28 : decode cX0_turn_2 28 = .ok (.iload_n 3, 1) := dk_29 (dk_at dksX0_turn_2_1 6 rfl rfl)
theorem dX0_turn_2_29 : decode cX0_turn_2 29 = .ok (.invokevirtual 122, 3) := dk_182 0 122 (dk_at dksX0_turn_2_1 7 rfl rfl)
theorem dX0_turn_2_32 : decode cX0_turn_2 32 = .ok (.astore 4, 2) := dk_58 4 (dk_at dksX0_turn_2_1 10 rfl rfl)
theorem dX0_turn_2_34 : decode cX0_turn_2 34 = .ok (.iconst 0, 1) := dk_3 (dk_at dksX0_turn_2_1 12 rfl rfl)
theorem dX0_turn_2_35 : decode cX0_turn_2 35 = .ok (.istore 5, 2) := dk_54 5 (dk_at dksX0_turn_2_1 13 rfl rfl)
theorem dX0_turn_2_37 : decode cX0_turn_2 37 = .ok (.iload 5, 2) := dk_21 5 (dk_at dksX0_turn_2_1 15 rfl rfl)
theorem dX0_turn_2_39 : decode cX0_turn_2 39 = .ok (.aload 4, 2) := dk_25 4 (dk_at dksX0_turn_2_1 17 rfl rfl)
theorem dX0_turn_2_41 : decode cX0_turn_2 41 = .ok (.getfield 280, 3) := dk_180 1 24 (dk_at dksX0_turn_2_1 19 rfl rfl)
theorem dX0_turn_2_44 : decode cX0_turn_2 44 = .ok (.invokevirtual 77, 3) := dk_182 0 77 (dk_at dksX0_turn_2_2 0 rfl rfl)
theorem dX0_turn_2_47 : decode cX0_turn_2 47 = .ok (.if_icmp .ge 53, 3) := dk_162 0 53 (dk_at dksX0_turn_2_2 3 rfl rfl)
theorem dX0_turn_2_50 : decode cX0_turn_2 50 = .ok (.aload 4, 2) := dk_25 4 (dk_at dksX0_turn_2_2 6 rfl rfl)
theorem dX0_turn_2_52 : decode cX0_turn_2 52 = .ok (.getfield 280, 3) := dk_180 1 24 (dk_at dksX0_turn_2_2 8 rfl rfl)
theorem dX0_turn_2_55 : decode cX0_turn_2 55 = .ok (.iload 5, 2) := dk_21 5 (dk_at dksX0_turn_2_2 11 rfl rfl)
theorem dX0_turn_2_57 : decode cX0_turn_2 57 = .ok (.invokevirtual 81, 3) := dk_182 0 81 (dk_at dksX0_turn_2_2 13 rfl rfl)
theorem dX0_turn_2_60 : decode cX0_turn_2 60 = .ok (.checkcast 241, 3) := dk_192 0 241 (dk_at dksX0_turn_2_2 16 rfl rfl)
theorem dX0_turn_2_63 : decode cX0_turn_2 63 = .ok (.astore 6, 2) := dk_58 6 (dk_at dksX0_turn_2_2 19 rfl rfl)
theorem dX0_turn_2_65 : decode cX0_turn_2 65 = .ok (.aload 6, 2) := dk_25 6 (dk_at dksX0_turn_2_2 21 rfl rfl)
theorem dX0_turn_2_67 : decode cX0_turn_2 67 = .ok (.invokevirtual 329, 3) := dk_182 1 73 (dk_at dksX0_turn_2_3 0 rfl rfl)
theorem dX0_turn_2_70 : decode cX0_turn_2 70 = .ok (.iload_n 1, 1) := dk_27 (dk_at dksX0_turn_2_3 3 rfl rfl)
theorem dX0_turn_2_71 : decode cX0_turn_2 71 = .ok (.if_icmp .ne 23, 3) := dk_160 0 23 (dk_at dksX0_turn_2_3 4 rfl rfl)
theorem dX0_turn_2_74 : decode cX0_turn_2 74 = .ok (.aload 6, 2) := dk_25 6 (dk_at dksX0_turn_2_3 7 rfl rfl)
theorem dX0_turn_2_76 : decode cX0_turn_2 76 = .ok (.invokevirtual 332, 3) := dk_182 1 76 (dk_at dksX0_turn_2_3 9 rfl rfl)
theorem dX0_turn_2_79 : decode cX0_turn_2 79 = .ok (.iload_n 2, 1) := dk_28 (dk_at dksX0_turn_2_3 12 rfl rfl)
theorem dX0_turn_2_80 : decode cX0_turn_2 80 = .ok (.if_icmp .ne 14, 3) := dk_160 0 14 (dk_at dksX0_turn_2_3 13 rfl rfl)
theorem dX0_turn_2_83 : decode cX0_turn_2 83 = .ok (.aload 6, 2) := dk_25 6 (dk_at dksX0_turn_2_3 16 rfl rfl)
theorem dX0_turn_2_85 : decode cX0_turn_2 85 = .ok (.iload_n 3, 1) := dk_29 (dk_at dksX0_turn_2_3 18 rfl rfl)
theorem dX0_turn_2_86 : decode cX0_turn_2 86 = .ok (.invokevirtual 335, 3) := dk_182 1 79 (dk_at dksX0_turn_2_3 19 rfl rfl)
theorem dX0_turn_2_89 : decode cX0_turn_2 89 = .ok (.ifCond .eq 5, 3) := dk_153 0 5 (dk_at dksX0_turn_2_4 0 rfl rfl)
theorem dX0_turn_2_92 : decode cX0_turn_2 92 = .ok (.iconst 1, 1) := dk_4 (dk_at dksX0_turn_2_4 3 rfl rfl)
theorem dX0_turn_2_93 : decode cX0_turn_2 93 = .ok (.ireturn, 1) := dk_172 (dk_at dksX0_turn_2_4 4 rfl rfl)
theorem dX0_turn_2_94 : decode cX0_turn_2 94 = .ok (.iinc 5 1, 3) := dk_132 5 1 (dk_at dksX0_turn_2_4 5 rfl rfl)
theorem dX0_turn_2_97 : decode cX0_turn_2 97 = .ok (.goto (-60), 3) := dk_167 255 196 (dk_at dksX0_turn_2_4 8 rfl rfl)
theorem dX0_turn_2_100 : decode cX0_turn_2 100 = .ok (.iconst 0, 1) := dk_3 (dk_at dksX0_turn_2_4 11 rfl rfl)
theorem dX0_turn_2_101 : decode cX0_turn_2 101 = .ok (.ireturn, 1) := dk_172 (dk_at dksX0_turn_2_4 12 rfl rfl)
def dkwX0_pass_1 : List UInt8 := [3, 61, 28, 27, 162, 0, 13, 42, 182, 1, 120, 132, 2, 1, 167, 255, 244, 42, 180, 0, 119, 172]
abbrev dktX0_pass_1 : List UInt8 := dkwX0_pass_1 ++ []
def dkwX0_pass_0 : List UInt8 := [27, 4, 16, 100, 184, 0, 3, 153, 0, 15, 42, 180, 0, 119, 27, 96, 17, 14, 65, 164, 0, 5, 2, 172]
abbrev dktX0_pass_0 : List UInt8 := dkwX0_pass_0 ++ dktX0_pass_1
theorem dksX0_pass_0 : cX0_pass.data.toList.drop 0 = dktX0_pass_0 := by decide +kernel
theorem dksX0_pass_1 : cX0_pass.data.toList.drop 24 = dktX0_pass_1 := dk_seg dksX0_pass_0 24 rfl rfl
theorem dX0_pass_0 : decode cX0_pass 0 = .ok (.iload_n 1, 1) := dk_27 (dk_at dksX0_pass_0 0 rfl rfl)
theorem dX0_pass_1 : decode cX0_pass 1 = .ok (.iconst 1, 1) := dk_4 (dk_at dksX0_pass_0 1 rfl rfl)
theorem dX0_pass_2 : decode cX0_pass 2 = .ok (.bipush 100, 2) := dk_16 100 (dk_at dksX0_pass_0 2 rfl rfl)
theorem dX0_pass_4 : decode cX0_pass 4 = .ok (.invokestatic 3, 3) := dk_184 0 3 (dk_at dksX0_pass_0 4 rfl rfl)
theorem dX0_pass_7 : decode cX0_pass 7 = .ok (.ifCond .eq 15, 3) := dk_153 0 15 (dk_at dksX0_pass_0 7 rfl rfl)
theorem dX0_pass_10 : decode cX0_pass 10 = .ok (.aload_n 0, 1) := dk_42 (dk_at dksX0_pass_0 10 rfl rfl)
theorem dX0_pass_11 : decode cX0_pass 11 = .ok (.getfield 119, 3) := dk_180 0 119 (dk_at dksX0_pass_0 11 rfl rfl)
theorem dX0_pass_14 : decode cX0_pass 14 = .ok (.iload_n 1, 1) := dk_27 (dk_at dksX0_pass_0 14 rfl rfl)
theorem dX0_pass_15 : decode cX0_pass 15 = .ok (.iadd, 1) := dk_96 (dk_at dksX0_pass_0 15 rfl rfl)
theorem dX0_pass_16 : decode cX0_pass 16 = .ok (.sipush 3649, 3) := dk_17 14 65 (dk_at dksX0_pass_0 16 rfl rfl)
theorem dX0_pass_19 : decode cX0_pass 19 = .ok (.if_icmp .le 5, 3) := dk_164 0 5 (dk_at dksX0_pass_0 19 rfl rfl)
theorem dX0_pass_22 : decode cX0_pass 22 = .ok (.iconst (-1), 1) := dk_2 (dk_at dksX0_pass_0 22 rfl rfl)
theorem dX0_pass_23 : decode cX0_pass 23 = .ok (.ireturn, 1) := dk_172 (dk_at dksX0_pass_0 23 rfl rfl)
theorem dX0_pass_24 : decode cX0_pass 24 = .ok (.iconst 0, 1) := dk_3 (dk_at dksX0_pass_1 0 rfl rfl)
theorem dX0_pass_25 : decode cX0_pass 25 = .ok (.istore_n 2, 1) := dk_61 (dk_at dksX0_pass_1 1 rfl rfl)
theorem dX0_pass_26 : decode cX0_pass 26 = .ok (.iload_n 2, 1) := dk_28 (dk_at dksX0_pass_1 2 rfl rfl)
theorem dX0_pass_27 : decode cX0_pass 27 = .ok (.iload_n 1, 1) := dk_27 (dk_at dksX0_pass_1 3 rfl rfl)
theorem dX0_pass_28 : decode cX0_pass 28 = .ok (.if_icmp .ge 13, 3) := dk_162 0 13 (dk_at dksX0_pass_1 4 rfl rfl)
theorem dX0_pass_31 : decode cX0_pass 31 = .ok (.aload_n 0, 1) := dk_42 (dk_at dksX0_pass_1 7 rfl rfl)
theorem dX0_pass_32 : decode cX0_pass 32 = .ok (.invokevirtual 376, 3) := dk_182 1 120 (dk_at dksX0_pass_1 8 rfl rfl)
theorem dX0_pass_35 : decode cX0_pass 35 = .ok (.iinc 2 1, 3) := dk_132 2 1 (dk_at dksX0_pass_1 11 rfl rfl)
theorem dX0_pass_38 : decode cX0_pass 38 = .ok (.goto (-12), 3) := dk_167 255 244 (dk_at dksX0_pass_1 14 rfl rfl)
theorem dX0_pass_41 : decode cX0_pass 41 = .ok (.aload_n 0, 1) := dk_42 (dk_at dksX0_pass_1 17 rfl rfl)
theorem dX0_pass_42 : decode cX0_pass 42 = .ok (.getfield 119, 3) := dk_180 0 119 (dk_at dksX0_pass_1 18 rfl rfl)
theorem dX0_pass_45 : decode cX0_pass 45 = .ok (.ireturn, 1) := dk_172 (dk_at dksX0_pass_1 21 rfl rfl)
def dkwX0_day_6 : List UInt8 := [181, 0, 140, 132, 2, 1, 167, 255, 207, 42, 89, 180, 0, 119, 4, 96, 181, 0, 119, 177]
abbrev dktX0_day_6 : List UInt8 := dkwX0_day_6 ++ []
def dkwX0_day_5 : List UInt8 := [192, 0, 85, 180, 0, 91, 198, 0, 21, 42, 180, 0, 20, 28, 182, 0, 81, 192, 0, 85, 180, 0, 91, 3]
abbrev dktX0_day_5 : List UInt8 := dkwX0_day_5 ++ dktX0_day_6
def dkwX0_day_4 : List UInt8 := [182, 1, 118, 3, 61, 28, 42, 180, 0, 20, 182, 0, 77, 162, 0, 44, 42, 180, 0, 20, 28, 182, 0, 81]
abbrev dktX0_day_4 : List UInt8 := dkwX0_day_4 ++ dktX0_day_5
def dkwX0_day_3 : List UInt8 := [181, 1, 112, 42, 89, 180, 1, 115, 29, 133, 97, 181, 1, 115, 132, 2, 1, 167, 255, 192, 42, 43]
abbrev dktX0_day_3 : List UInt8 := dkwX0_day_3 ++ dktX0_day_4
def dkwX0_day_2 : List UInt8 := [180, 1, 112, 184, 0, 162, 62, 42, 180, 0, 24, 28, 182, 0, 81, 192, 0, 95, 89, 180, 1, 112, 29, 100]
abbrev dktX0_day_2 : List UInt8 := dkwX0_day_2 ++ dktX0_day_3
def dkwX0_day_1 : List UInt8 := [28, 42, 180, 0, 24, 182, 0, 77, 162, 0, 59, 8, 42, 180, 0, 24, 28, 182, 0, 81, 192, 0, 95]
abbrev dktX0_day_1 : List UInt8 := dkwX0_day_1 ++ dktX0_day_2
def dkwX0_day_0 : List UInt8 := [42, 42, 180, 0, 119, 182, 0, 122, 76, 42, 43, 42, 180, 0, 119, 17, 1, 109, 112, 182, 1, 109, 3, 61]
abbrev dktX0_day_0 : List UInt8 := dkwX0_day_0 ++ dktX0_day_1
theorem dksX0_day_0 : cX0_day.data.toList.drop 0 = dktX0_day_0 := by decide +kernel
theorem dksX0_day_1 : cX0_day.data.toList.drop 24 = dktX0_day_1 := dk_seg dksX0_day_0 24 rfl rfl
theorem dksX0_day_2 : cX0_day.data.toList.drop 47 = dktX0_day_2 := dk_seg dksX0_day_1 23 rfl rfl
theorem dksX0_day_3 : cX0_day.data.toList.drop 71 = dktX0_day_3 := dk_seg dksX0_day_2 24 rfl rfl
theorem dksX0_day_4 : cX0_day.data.toList.drop 93 = dktX0_day_4 := dk_seg dksX0_day_3 22 rfl rfl
theorem dksX0_day_5 : cX0_day.data.toList.drop 117 = dktX0_day_5 := dk_seg dksX0_day_4 24 rfl rfl
theorem dksX0_day_6 : cX0_day.data.toList.drop 141 = dktX0_day_6 := dk_seg dksX0_day_5 24 rfl rfl
theorem dX0_day_0 : decode cX0_day 0 = .ok (.aload_n 0, 1) := dk_42 (dk_at dksX0_day_0 0 rfl rfl)
theorem dX0_day_1 : decode cX0_day 1 = .ok (.aload_n 0, 1) := dk_42 (dk_at dksX0_day_0 1 rfl rfl)
theorem dX0_day_2 : decode cX0_day 2 = .ok (.getfield 119, 3) := dk_180 0 119 (dk_at dksX0_day_0 2 rfl rfl)
theorem dX0_day_5 : decode cX0_day 5 = .ok (.invokevirtual 122, 3) := dk_182 0 122 (dk_at dksX0_day_0 5 rfl rfl)
theorem dX0_day_8 : decode cX0_day 8 = .ok (.astore_n 1, 1) := dk_76 (dk_at dksX0_day_0 8 rfl rfl)
theorem dX0_day_9 : decode cX0_day 9 = .ok (.aload_n 0, 1) := dk_42 (dk_at dksX0_day_0 9 rfl rfl)
theorem dX0_day_10 : decode cX0_day 10 = .ok (.aload_n 1, 1) := dk_43 (dk_at dksX0_day_0 10 rfl rfl)
theorem dX0_day_11 : decode cX0_day 11 = .ok (.aload_n 0, 1) := dk_42 (dk_at dksX0_day_0 11 rfl rfl)
theorem dX0_day_12 : decode cX0_day 12 = .ok (.getfield 119, 3) := dk_180 0 119 (dk_at dksX0_day_0 12 rfl rfl)
theorem dX0_day_15 : decode cX0_day 15 = .ok (.sipush 365, 3) := dk_17 1 109 (dk_at dksX0_day_0 15 rfl rfl)
theorem dX0_day_18 : decode cX0_day 18 = .ok (.irem, 1) := dk_112 (dk_at dksX0_day_0 18 rfl rfl)
theorem dX0_day_19 : decode cX0_day 19 = .ok (.invokevirtual 365, 3) := dk_182 1 109 (dk_at dksX0_day_0 19 rfl rfl)
theorem dX0_day_22 : decode cX0_day 22 = .ok (.iconst 0, 1) := dk_3 (dk_at dksX0_day_0 22 rfl rfl)
theorem dX0_day_23 : decode cX0_day 23 = .ok (.istore_n 2, 1) := dk_61 (dk_at dksX0_day_0 23 rfl rfl)
theorem dX0_day_24 : decode cX0_day 24 = .ok (.iload_n 2, 1) := dk_28 (dk_at dksX0_day_1 0 rfl rfl)
theorem dX0_day_25 : decode cX0_day 25 = .ok (.aload_n 0, 1) := dk_42 (dk_at dksX0_day_1 1 rfl rfl)
theorem dX0_day_26 : decode cX0_day 26 = .ok (.getfield 24, 3) := dk_180 0 24 (dk_at dksX0_day_1 2 rfl rfl)
theorem dX0_day_29 : decode cX0_day 29 = .ok (.invokevirtual 77, 3) := dk_182 0 77 (dk_at dksX0_day_1 5 rfl rfl)
theorem dX0_day_32 : decode cX0_day 32 = .ok (.if_icmp .ge 59, 3) := dk_162 0 59 (dk_at dksX0_day_1 8 rfl rfl)
theorem dX0_day_35 : decode cX0_day 35 = .ok (.iconst 5, 1) := dk_8 (dk_at dksX0_day_1 11 rfl rfl)
theorem dX0_day_36 : decode cX0_day 36 = .ok (.aload_n 0, 1) := dk_42 (dk_at dksX0_day_1 12 rfl rfl)
theorem dX0_day_37 : decode cX0_day 37 = .ok (.getfield 24, 3) := dk_180 0 24 (dk_at dksX0_day_1 13 rfl rfl)
theorem dX0_day_40 : decode cX0_day 40 = .ok (.iload_n 2, 1) := dk_28 (dk_at dksX0_day_1 16 rfl rfl)
theorem dX0_day_41 : decode cX0_day 41 = .ok (.invokevirtual 81, 3) := dk_182 0 81 (dk_at dksX0_day_1 17 rfl rfl)
theorem dX0_day_44 : decode cX0_day 44 = .ok (.checkcast 95, 3) := dk_192 0 95 (dk_at dksX0_day_1 20 rfl rfl)
theorem dX0_day_47 : decode cX0_day 47 = .ok (.getfield 368, 3) := dk_180 1 112 (dk_at dksX0_day_2 0 rfl rfl)
theorem dX0_day_50 : decode cX0_day 50 = .ok (.invokestatic 162, 3) := dk_184 0 162 (dk_at dksX0_day_2 3 rfl rfl)
theorem dX0_day_53 : decode cX0_day 53 = .ok (.istore_n 3, 1) := dk_62 (dk_at dksX0_day_2 6 rfl rfl)
theorem dX0_day_54 : decode cX0_day 54 = .ok (.aload_n 0, 1) := dk_42 (dk_at dksX0_day_2 7 rfl rfl)
theorem dX0_day_55 : decode cX0_day 55 = .ok (.getfield 24, 3) := dk_180 0 24 (dk_at dksX0_day_2 8 rfl rfl)
theorem dX0_day_58 : decode cX0_day 58 = .ok (.iload_n 2, 1) := dk_28 (dk_at dksX0_day_2 11 rfl rfl)
theorem dX0_day_59 : decode cX0_day 59 = .ok (.invokevirtual 81, 3) := dk_182 0 81 (dk_at dksX0_day_2 12 rfl rfl)
theorem dX0_day_62 : decode cX0_day 62 = .ok (.checkcast 95, 3) := dk_192 0 95 (dk_at dksX0_day_2 15 rfl rfl)
theorem dX0_day_65 : decode cX0_day 65 = .ok (.dup, 1) := dk_89 (dk_at dksX0_day_2 18 rfl rfl)
theorem dX0_day_66 : decode cX0_day 66 = .ok (.getfield 368, 3) := dk_180 1 112 (dk_at dksX0_day_2 19 rfl rfl)
theorem dX0_day_69 : decode cX0_day 69 = .ok (.iload_n 3, 1) := dk_29 (dk_at dksX0_day_2 22 rfl rfl)
theorem dX0_day_70 : decode cX0_day 70 = .ok (.isub, 1) := dk_100 (dk_at dksX0_day_2 23 rfl rfl)
theorem dX0_day_71 : decode cX0_day 71 = .ok (.putfield 368, 3) := dk_181 1 112 (dk_at dksX0_day_3 0 rfl rfl)
theorem dX0_day_74 : decode cX0_day 74 = .ok (.aload_n 0, 1) := dk_42 (dk_at dksX0_day_3 3 rfl rfl)
theorem dX0_day_75 : decode cX0_day 75 = .ok (.dup, 1) := dk_89 (dk_at dksX0_day_3 4 rfl rfl)
theorem dX0_day_76 : decode cX0_day 76 = .ok (.getfield 371, 3) := dk_180 1 115 (dk_at dksX0_day_3 5 rfl rfl)
theorem dX0_day_79 : decode cX0_day 79 = .ok (.iload_n 3, 1) := dk_29 (dk_at dksX0_day_3 8 rfl rfl)
theorem dX0_day_80 : decode cX0_day 80 = .ok (.i2l, 1) := dk_133 (dk_at dksX0_day_3 9 rfl rfl)
theorem dX0_day_81 : decode cX0_day 81 = .ok (.ladd, 1) := dk_97 (dk_at dksX0_day_3 10 rfl rfl)
theorem dX0_day_82 : decode cX0_day 82 = .ok (.putfield 371, 3) := dk_181 1 115 (dk_at dksX0_day_3 11 rfl rfl)
theorem dX0_day_85 : decode cX0_day 85 = .ok (.iinc 2 1, 3) := dk_132 2 1 (dk_at dksX0_day_3 14 rfl rfl)
theorem dX0_day_88 : decode cX0_day 88 = .ok (.goto (-64), 3) := dk_167 255 192 (dk_at dksX0_day_3 17 rfl rfl)
theorem dX0_day_91 : decode cX0_day 91 = .ok (.aload_n 0, 1) := dk_42 (dk_at dksX0_day_3 20 rfl rfl)
theorem dX0_day_92 : decode cX0_day 92 = .ok (.aload_n 1, 1) := dk_43 (dk_at dksX0_day_3 21 rfl rfl)
theorem dX0_day_93 : decode cX0_day 93 = .ok (.invokevirtual 374, 3) := dk_182 1 118 (dk_at dksX0_day_4 0 rfl rfl)
theorem dX0_day_96 : decode cX0_day 96 = .ok (.iconst 0, 1) := dk_3 (dk_at dksX0_day_4 3 rfl rfl)
theorem dX0_day_97 : decode cX0_day 97 = .ok (.istore_n 2, 1) := dk_61 (dk_at dksX0_day_4 4 rfl rfl)
theorem dX0_day_98 : decode cX0_day 98 = .ok (.iload_n 2, 1) := dk_28 (dk_at dksX0_day_4 5 rfl rfl)
theorem dX0_day_99 : decode cX0_day 99 = .ok (.aload_n 0, 1) := dk_42 (dk_at dksX0_day_4 6 rfl rfl)
theorem dX0_day_100 : decode cX0_day 100 = .ok (.getfield 20, 3) := dk_180 0 20 (dk_at dksX0_day_4 7 rfl rfl)
theorem dX0_day_103 : decode cX0_day 103 = .ok (.invokevirtual 77, 3) := dk_182 0 77 (dk_at dksX0_day_4 10 rfl rfl)
theorem dX0_day_106 : decode cX0_day 106 = .ok (.if_icmp .ge 44, 3) := dk_162 0 44 (dk_at dksX0_day_4 13 rfl rfl)
theorem dX0_day_109 : decode cX0_day 109 = .ok (.aload_n 0, 1) := dk_42 (dk_at dksX0_day_4 16 rfl rfl)
theorem dX0_day_110 : decode cX0_day 110 = .ok (.getfield 20, 3) := dk_180 0 20 (dk_at dksX0_day_4 17 rfl rfl)
theorem dX0_day_113 : decode cX0_day 113 = .ok (.iload_n 2, 1) := dk_28 (dk_at dksX0_day_4 20 rfl rfl)
theorem dX0_day_114 : decode cX0_day 114 = .ok (.invokevirtual 81, 3) := dk_182 0 81 (dk_at dksX0_day_4 21 rfl rfl)
theorem dX0_day_117 : decode cX0_day 117 = .ok (.checkcast 85, 3) := dk_192 0 85 (dk_at dksX0_day_5 0 rfl rfl)
theorem dX0_day_120 : decode cX0_day 120 = .ok (.getfield 91, 3) := dk_180 0 91 (dk_at dksX0_day_5 3 rfl rfl)
theorem dX0_day_123 : decode cX0_day 123 = .ok (.ifnull 21, 3) := dk_198 0 21 (dk_at dksX0_day_5 6 rfl rfl)
theorem dX0_day_126 : decode cX0_day 126 = .ok (.aload_n 0, 1) := dk_42 (dk_at dksX0_day_5 9 rfl rfl)
theorem dX0_day_127 : decode cX0_day 127 = .ok (.getfield 20, 3) := dk_180 0 20 (dk_at dksX0_day_5 10 rfl rfl)
theorem dX0_day_130 : decode cX0_day 130 = .ok (.iload_n 2, 1) := dk_28 (dk_at dksX0_day_5 13 rfl rfl)
theorem dX0_day_131 : decode cX0_day 131 = .ok (.invokevirtual 81, 3) := dk_182 0 81 (dk_at dksX0_day_5 14 rfl rfl)
theorem dX0_day_134 : decode cX0_day 134 = .ok (.checkcast 85, 3) := dk_192 0 85 (dk_at dksX0_day_5 17 rfl rfl)
theorem dX0_day_137 : decode cX0_day 137 = .ok (.getfield 91, 3) := dk_180 0 91 (dk_at dksX0_day_5 20 rfl rfl)
theorem dX0_day_140 : decode cX0_day 140 = .ok (.iconst 0, 1) := dk_3 (dk_at dksX0_day_5 23 rfl rfl)
theorem dX0_day_141 : decode cX0_day 141 = .ok (.putfield 140, 3) := dk_181 0 140 (dk_at dksX0_day_6 0 rfl rfl)
theorem dX0_day_144 : decode cX0_day 144 = .ok (.iinc 2 1, 3) := dk_132 2 1 (dk_at dksX0_day_6 3 rfl rfl)
theorem dX0_day_147 : decode cX0_day 147 = .ok (.goto (-49), 3) := dk_167 255 207 (dk_at dksX0_day_6 6 rfl rfl)
theorem dX0_day_150 : decode cX0_day 150 = .ok (.aload_n 0, 1) := dk_42 (dk_at dksX0_day_6 9 rfl rfl)
theorem dX0_day_151 : decode cX0_day 151 = .ok (.dup, 1) := dk_89 (dk_at dksX0_day_6 10 rfl rfl)
theorem dX0_day_152 : decode cX0_day 152 = .ok (.getfield 119, 3) := dk_180 0 119 (dk_at dksX0_day_6 11 rfl rfl)
theorem dX0_day_155 : decode cX0_day 155 = .ok (.iconst 1, 1) := dk_4 (dk_at dksX0_day_6 14 rfl rfl)
theorem dX0_day_156 : decode cX0_day 156 = .ok (.iadd, 1) := dk_96 (dk_at dksX0_day_6 15 rfl rfl)
theorem dX0_day_157 : decode cX0_day 157 = .ok (.putfield 119, 3) := dk_181 0 119 (dk_at dksX0_day_6 16 rfl rfl)
theorem dX0_day_160 : decode cX0_day 160 = .ok (.return_, 1) := dk_177 (dk_at dksX0_day_6 19 rfl rfl)
def dkwX0_beds_4 : List UInt8 := [160, 0, 9, 25, 4, 43, 182, 1, 106, 132, 3, 1, 167, 255, 153, 177]
abbrev dktX0_beds_4 : List UInt8 := dkwX0_beds_4 ++ []
def dkwX0_beds_3 : List UInt8 := [180, 1, 40, 4, 96, 160, 0, 14, 42, 25, 4, 180, 1, 99, 5, 182, 1, 102, 87, 28, 16, 60]
abbrev dktX0_beds_3 : List UInt8 := dkwX0_beds_3 ++ dktX0_beds_4
def dkwX0_beds_2 : List UInt8 := [182, 1, 85, 42, 89, 180, 1, 89, 25, 4, 182, 1, 93, 133, 97, 181, 1, 89, 25, 4, 180, 1, 96, 43]
abbrev dktX0_beds_2 : List UInt8 := dkwX0_beds_2 ++ dktX0_beds_3
def dkwX0_beds_1 : List UInt8 := [180, 0, 91, 58, 4, 25, 4, 199, 0, 6, 167, 0, 68, 25, 4, 43, 182, 1, 82, 25, 4, 43, 28]
abbrev dktX0_beds_1 : List UInt8 := dkwX0_beds_1 ++ dktX0_beds_2
def dkwX0_beds_0 : List UInt8 := [3, 62, 29, 42, 180, 0, 20, 182, 0, 77, 162, 0, 98, 42, 180, 0, 20, 29, 182, 0, 81, 192, 0, 85]
abbrev dktX0_beds_0 : List UInt8 := dkwX0_beds_0 ++ dktX0_beds_1
theorem dksX0_beds_0 : cX0_beds.data.toList.drop 0 = dktX0_beds_0 := by decide +kernel
theorem dksX0_beds_1 : cX0_beds.data.toList.drop 24 = dktX0_beds_1 := dk_seg dksX0_beds_0 24 rfl rfl
theorem dksX0_beds_2 : cX0_beds.data.toList.drop 47 = dktX0_beds_2 := dk_seg dksX0_beds_1 23 rfl rfl
theorem dksX0_beds_3 : cX0_beds.data.toList.drop 71 = dktX0_beds_3 := dk_seg dksX0_beds_2 24 rfl rfl
theorem dksX0_beds_4 : cX0_beds.data.toList.drop 93 = dktX0_beds_4 := dk_seg dksX0_beds_3 22 rfl rfl
theorem dX0_beds_0 : decode cX0_beds 0 = .ok (.iconst 0, 1) := dk_3 (dk_at dksX0_beds_0 0 rfl rfl)
theorem dX0_beds_1 : decode cX0_beds 1 = .ok (.istore_n 3, 1) := dk_62 (dk_at dksX0_beds_0 1 rfl rfl)
theorem dX0_beds_2 : decode cX0_beds 2 = .ok (.iload_n 3, 1) := dk_29 (dk_at dksX0_beds_0 2 rfl rfl)
theorem dX0_beds_3 : decode cX0_beds 3 = .ok (.aload_n 0, 1) := dk_42 (dk_at dksX0_beds_0 3 rfl rfl)
theorem dX0_beds_4 : decode cX0_beds 4 = .ok (.getfield 20, 3) := dk_180 0 20 (dk_at dksX0_beds_0 4 rfl rfl)
theorem dX0_beds_7 : decode cX0_beds 7 = .ok (.invokevirtual 77, 3) := dk_182 0 77 (dk_at dksX0_beds_0 7 rfl rfl)
theorem dX0_beds_10 : decode cX0_beds 10 = .ok (.if_icmp .ge 98, 3) := dk_162 0 98 (dk_at dksX0_beds_0 10 rfl rfl)
theorem dX0_beds_13 : decode cX0_beds 13 = .ok (.aload_n 0, 1) := dk_42 (dk_at dksX0_beds_0 13 rfl rfl)
theorem dX0_beds_14 : decode cX0_beds 14 = .ok (.getfield 20, 3) := dk_180 0 20 (dk_at dksX0_beds_0 14 rfl rfl)
theorem dX0_beds_17 : decode cX0_beds 17 = .ok (.iload_n 3, 1) := dk_29 (dk_at dksX0_beds_0 17 rfl rfl)
theorem dX0_beds_18 : decode cX0_beds 18 = .ok (.invokevirtual 81, 3) := dk_182 0 81 (dk_at dksX0_beds_0 18 rfl rfl)
theorem dX0_beds_21 : decode cX0_beds 21 = .ok (.checkcast 85, 3) := dk_192 0 85 (dk_at dksX0_beds_0 21 rfl rfl)
theorem dX0_beds_24 : decode cX0_beds 24 = .ok (.getfield 91, 3) := dk_180 0 91 (dk_at dksX0_beds_1 0 rfl rfl)
theorem dX0_beds_27 : decode cX0_beds 27 = .ok (.astore 4, 2) := dk_58 4 (dk_at dksX0_beds_1 3 rfl rfl)
theorem dX0_beds_29 : decode cX0_beds 29 = .ok (.aload 4, 2) := dk_25 4 (dk_at dksX0_beds_1 5 rfl rfl)
theorem dX0_beds_31 : decode cX0_beds 31 = .ok (.ifnonnull 6, 3) := dk_199 0 6 (dk_at dksX0_beds_1 7 rfl rfl)
theorem dX0_beds_34 : decode cX0_beds 34 = .ok (.goto 68, 3) := dk_167 0 68 (dk_at dksX0_beds_1 10 rfl rfl)
theorem dX0_beds_37 : decode cX0_beds 37 = .ok (.aload 4, 2) := dk_25 4 (dk_at dksX0_beds_1 13 rfl rfl)
theorem dX0_beds_39 : decode cX0_beds 39 = .ok (.aload_n 1, 1) := dk_43 (dk_at dksX0_beds_1 15 rfl rfl)
theorem dX0_beds_40 : decode cX0_beds 40 = .ok (.invokevirtual 338, 3) := dk_182 1 82 (dk_at dksX0_beds_1 16 rfl rfl)
theorem dX0_beds_43 : decode cX0_beds 43 = .ok (.aload 4, 2) := dk_25 4 (dk_at dksX0_beds_1 19 rfl rfl)
theorem dX0_beds_45 : decode cX0_beds 45 = .ok (.aload_n 1, 1) := dk_43 (dk_at dksX0_beds_1 21 rfl rfl)
theorem dX0_beds_46 : decode cX0_beds 46 = .ok (.iload_n 2, 1) := dk_28 (dk_at dksX0_beds_1 22 rfl rfl)
theorem dX0_beds_47 : decode cX0_beds 47 = .ok (.invokevirtual 341, 3) := dk_182 1 85 (dk_at dksX0_beds_2 0 rfl rfl)
theorem dX0_beds_50 : decode cX0_beds 50 = .ok (.aload_n 0, 1) := dk_42 (dk_at dksX0_beds_2 3 rfl rfl)
theorem dX0_beds_51 : decode cX0_beds 51 = .ok (.dup, 1) := dk_89 (dk_at dksX0_beds_2 4 rfl rfl)
theorem dX0_beds_52 : decode cX0_beds 52 = .ok (.getfield 345, 3) := dk_180 1 89 (dk_at dksX0_beds_2 5 rfl rfl)
theorem dX0_beds_55 : decode cX0_beds 55 = .ok (.aload 4, 2) := dk_25 4 (dk_at dksX0_beds_2 8 rfl rfl)
theorem dX0_beds_57 : decode cX0_beds 57 = .ok (.invokevirtual 349, 3) := dk_182 1 93 (dk_at dksX0_beds_2 10 rfl rfl)
theorem dX0_beds_60 : decode cX0_beds 60 = .ok (.i2l, 1) := dk_133 (dk_at dksX0_beds_2 13 rfl rfl)
theorem dX0_beds_61 : decode cX0_beds 61 = .ok (.ladd, 1) := dk_97 (dk_at dksX0_beds_2 14 rfl rfl)
theorem dX0_beds_62 : decode cX0_beds 62 = .ok (.putfield 345, 3) := dk_181 1 89 (dk_at dksX0_beds_2 15 rfl rfl)
theorem dX0_beds_65 : decode cX0_beds 65 = .ok (.aload 4, 2) := dk_25 4 (dk_at dksX0_beds_2 18 rfl rfl)
theorem dX0_beds_67 : decode cX0_beds 67 = .ok (.getfield 352, 3) := dk_180 1 96 (dk_at dksX0_beds_2 20 rfl rfl)
theorem dX0_beds_70 : decode cX0_beds 70 = .ok (.aload_n 1, 1) := dk_43 (dk_at dksX0_beds_2 23 rfl rfl)
theorem dX0_beds_71 : decode cX0_beds 71 = .ok (.getfield 296, 3) := dk_180 1 40 (dk_at dksX0_beds_3 0 rfl rfl)
theorem dX0_beds_74 : decode cX0_beds 74 = .ok (.iconst 1, 1) := dk_4 (dk_at dksX0_beds_3 3 rfl rfl)
theorem dX0_beds_75 : decode cX0_beds 75 = .ok (.iadd, 1) := dk_96 (dk_at dksX0_beds_3 4 rfl rfl)
theorem dX0_beds_76 : decode cX0_beds 76 = .ok (.if_icmp .ne 14, 3) := dk_160 0 14 (dk_at dksX0_beds_3 5 rfl rfl)
theorem dX0_beds_79 : decode cX0_beds 79 = .ok (.aload_n 0, 1) := dk_42 (dk_at dksX0_beds_3 8 rfl rfl)
theorem dX0_beds_80 : decode cX0_beds 80 = .ok (.aload 4, 2) := dk_25 4 (dk_at dksX0_beds_3 9 rfl rfl)
theorem dX0_beds_82 : decode cX0_beds 82 = .ok (.getfield 355, 3) := dk_180 1 99 (dk_at dksX0_beds_3 11 rfl rfl)
theorem dX0_beds_85 : decode cX0_beds 85 = .ok (.iconst 2, 1) := dk_5 (dk_at dksX0_beds_3 14 rfl rfl)
theorem dX0_beds_86 : decode cX0_beds 86 = .ok (.invokevirtual 358, 3) := dk_182 1 102 (dk_at dksX0_beds_3 15 rfl rfl)
theorem dX0_beds_89 : decode cX0_beds 89 = .ok (.pop, 1) := dk_87 (dk_at dksX0_beds_3 18 rfl rfl)
theorem dX0_beds_90 : decode cX0_beds 90 = .ok (.iload_n 2, 1) := dk_28 (dk_at dksX0_beds_3 19 rfl rfl)
theorem dX0_beds_91 : decode cX0_beds 91 = .ok (.bipush 60, 2) := dk_16 60 (dk_at dksX0_beds_3 20 rfl rfl)
theorem dX0_beds_93 : decode cX0_beds 93 = .ok (.if_icmp .ne 9, 3) := dk_160 0 9 (dk_at dksX0_beds_4 0 rfl rfl)
theorem dX0_beds_96 : decode cX0_beds 96 = .ok (.aload 4, 2) := dk_25 4 (dk_at dksX0_beds_4 3 rfl rfl)
theorem dX0_beds_98 : decode cX0_beds 98 = .ok (.aload_n 1, 1) := dk_43 (dk_at dksX0_beds_4 5 rfl rfl)
theorem dX0_beds_99 : decode cX0_beds 99 = .ok (.invokevirtual 362, 3) := dk_182 1 106 (dk_at dksX0_beds_4 6 rfl rfl)
theorem dX0_beds_102 : decode cX0_beds 102 = .ok (.iinc 3 1, 3) := dk_132 3 1 (dk_at dksX0_beds_4 9 rfl rfl)
theorem dX0_beds_105 : decode cX0_beds 105 = .ok (.goto (-103), 3) := dk_167 255 153 (dk_at dksX0_beds_4 12 rfl rfl)
theorem dX0_beds_108 : decode cX0_beds 108 = .ok (.return_, 1) := dk_177 (dk_at dksX0_beds_4 15 rfl rfl)
def dkwX0_complains_6 : List UInt8 := [180, 0, 74, 182, 0, 77, 4, 100, 172]
abbrev dktX0_complains_6 : List UInt8 := dkwX0_complains_6 ++ []
def dkwX0_complains_5 : List UInt8 := [89, 42, 180, 0, 74, 182, 0, 77, 43, 28, 42, 180, 0, 119, 183, 2, 11, 182, 0, 100, 87, 42]
abbrev dktX0_complains_5 : List UInt8 := dkwX0_complains_5 ++ dktX0_complains_6
def dkwX0_complains_4 : List UInt8 := [167, 255, 163, 42, 180, 0, 74, 182, 0, 77, 16, 60, 160, 0, 5, 2, 172, 42, 180, 0, 74, 187, 1, 252]
abbrev dktX0_complains_4 : List UInt8 := dkwX0_complains_4 ++ dktX0_complains_5
def dkwX0_complains_3 : List UInt8 := [42, 180, 0, 119, 181, 2, 5, 25, 4, 89, 180, 2, 8, 4, 96, 181, 2, 8, 29, 172, 132, 3, 1]
abbrev dktX0_complains_3 : List UInt8 := dkwX0_complains_3 ++ dktX0_complains_4
def dkwX0_complains_2 : List UInt8 := [28, 160, 0, 43, 42, 180, 0, 119, 25, 4, 180, 2, 5, 100, 16, 7, 164, 0, 6, 167, 0, 25, 25, 4]
abbrev dktX0_complains_2 : List UInt8 := dkwX0_complains_2 ++ dktX0_complains_3
def dkwX0_complains_1 : List UInt8 := [58, 4, 25, 4, 180, 1, 254, 153, 0, 61, 25, 4, 180, 2, 1, 43, 166, 0, 52, 25, 4, 180, 2, 2]
abbrev dktX0_complains_1 : List UInt8 := dkwX0_complains_1 ++ dktX0_complains_2
def dkwX0_complains_0 : List UInt8 := [3, 62, 29, 42, 180, 0, 74, 182, 0, 77, 162, 0, 88, 42, 180, 0, 74, 29, 182, 0, 81, 192, 1, 252]
abbrev dktX0_complains_0 : List UInt8 := dkwX0_complains_0 ++ dktX0_complains_1
theorem dksX0_complains_0 : cX0_complains.data.toList.drop 0 = dktX0_complains_0 := by decide +kernel
theorem dksX0_complains_1 : cX0_complains.data.toList.drop 24 = dktX0_complains_1 := dk_seg dksX0_complains_0 24 rfl rfl
theorem dksX0_complains_2 : cX0_complains.data.toList.drop 48 = dktX0_complains_2 := dk_seg dksX0_complains_1 24 rfl rfl
theorem dksX0_complains_3 : cX0_complains.data.toList.drop 72 = dktX0_complains_3 := dk_seg dksX0_complains_2 24 rfl rfl
theorem dksX0_complains_4 : cX0_complains.data.toList.drop 95 = dktX0_complains_4 := dk_seg dksX0_complains_3 23 rfl rfl
theorem dksX0_complains_5 : cX0_complains.data.toList.drop 119 = dktX0_complains_5 := dk_seg dksX0_complains_4 24 rfl rfl
theorem dksX0_complains_6 : cX0_complains.data.toList.drop 141 = dktX0_complains_6 := dk_seg dksX0_complains_5 22 rfl rfl
theorem dX0_complains_0 : decode cX0_complains 0 = .ok (.iconst 0, 1) := dk_3 (dk_at dksX0_complains_0 0 rfl rfl)
theorem dX0_complains_1 : decode cX0_complains 1 = .ok (.istore_n 3, 1) := dk_62 (dk_at dksX0_complains_0 1 rfl rfl)
theorem dX0_complains_2 : decode cX0_complains 2 = .ok (.iload_n 3, 1) := dk_29 (dk_at dksX0_complains_0 2 rfl rfl)
theorem dX0_complains_3 : decode cX0_complains 3 = .ok (.aload_n 0, 1) := dk_42 (dk_at dksX0_complains_0 3 rfl rfl)
theorem dX0_complains_4 : decode cX0_complains 4 = .ok (.getfield 74, 3) := dk_180 0 74 (dk_at dksX0_complains_0 4 rfl rfl)
theorem dX0_complains_7 : decode cX0_complains 7 = .ok (.invokevirtual 77, 3) := dk_182 0 77 (dk_at dksX0_complains_0 7 rfl rfl)
theorem dX0_complains_10 : decode cX0_complains 10 = .ok (.if_icmp .ge 88, 3) := dk_162 0 88 (dk_at dksX0_complains_0 10 rfl rfl)
theorem dX0_complains_13 : decode cX0_complains 13 = .ok (.aload_n 0, 1) := dk_42 (dk_at dksX0_complains_0 13 rfl rfl)
theorem dX0_complains_14 : decode cX0_complains 14 = .ok (.getfield 74, 3) := dk_180 0 74 (dk_at dksX0_complains_0 14 rfl rfl)
theorem dX0_complains_17 : decode cX0_complains 17 = .ok (.iload_n 3, 1) := dk_29 (dk_at dksX0_complains_0 17 rfl rfl)
theorem dX0_complains_18 : decode cX0_complains 18 = .ok (.invokevirtual 81, 3) := dk_182 0 81 (dk_at dksX0_complains_0 18 rfl rfl)
theorem dX0_complains_21 : decode cX0_complains 21 = .ok (.checkcast 508, 3) := dk_192 1 252 (dk_at dksX0_complains_0 21 rfl rfl)
theorem dX0_complains_24 : decode cX0_complains 24 = .ok (.astore 4, 2) := dk_58 4 (dk_at dksX0_complains_1 0 rfl rfl)
theorem dX0_complains_26 : decode cX0_complains 26 = .ok (.aload 4, 2) := dk_25 4 (dk_at dksX0_complains_1 2 rfl rfl)
theorem dX0_complains_28 : decode cX0_complains 28 = .ok (.getfield 510, 3) := dk_180 1 254 (dk_at dksX0_complains_1 4 rfl rfl)
theorem dX0_complains_31 : decode cX0_complains 31 = .ok (.ifCond .eq 61, 3) := dk_153 0 61 (dk_at dksX0_complains_1 7 rfl rfl)
theorem dX0_complains_34 : decode cX0_complains 34 = .ok (.aload 4, 2) := dk_25 4 (dk_at dksX0_complains_1 10 rfl rfl)
theorem dX0_complains_36 : decode cX0_complains 36 = .ok (.getfield 513, 3) := dk_180 2 1 (dk_at dksX0_complains_1 12 rfl rfl)
theorem dX0_complains_39 : decode cX0_complains 39 = .ok (.aload_n 1, 1) := dk_43 (dk_at dksX0_complains_1 15 rfl rfl)
theorem dX0_complains_40 : decode cX0_complains 40 = .ok (.if_acmp .ne 52, 3) := dk_166 0 52 (dk_at dksX0_complains_1 16 rfl rfl)
theorem dX0_complains_43 : decode cX0_complains 43 = .ok (.aload 4, 2) := dk_25 4 (dk_at dksX0_complains_1 19 rfl rfl)
theorem dX0_complains_45 : decode cX0_complains 45 = .ok (.getfield 514, 3) := dk_180 2 2 (dk_at dksX0_complains_1 21 rfl rfl)
theorem dX0_complains_48 : decode cX0_complains 48 = .ok (.iload_n 2, 1) := dk_28 (dk_at dksX0_complains_2 0 rfl rfl)
theorem dX0_complains_49 : decode cX0_complains 49 = .ok (.if_icmp .ne 43, 3) := dk_160 0 43 (dk_at dksX0_complains_2 1 rfl rfl)
theorem dX0_complains_52 : decode cX0_complains 52 = .ok (.aload_n 0, 1) := dk_42 (dk_at dksX0_complains_2 4 rfl rfl)
theorem dX0_complains_53 : decode cX0_complains 53 = .ok (.getfield 119, 3) := dk_180 0 119 (dk_at dksX0_complains_2 5 rfl rfl)
theorem dX0_complains_56 : decode cX0_complains 56 = .ok (.aload 4, 2) := dk_25 4 (dk_at dksX0_complains_2 8 rfl rfl)
theorem dX0_complains_58 : decode cX0_complains 58 = .ok (.getfield 517, 3) := dk_180 2 5 (dk_at dksX0_complains_2 10 rfl rfl)
theorem dX0_complains_61 : decode cX0_complains 61 = .ok (.isub, 1) := dk_100 (dk_at dksX0_complains_2 13 rfl rfl)
theorem dX0_complains_62 : decode cX0_complains 62 = .ok (.bipush 7, 2) := dk_16 7 (dk_at dksX0_complains_2 14 rfl rfl)
theorem dX0_complains_64 : decode cX0_complains 64 = .ok (.if_icmp .le 6, 3) := dk_164 0 6 (dk_at dksX0_complains_2 16 rfl rfl)
theorem dX0_complains_67 : decode cX0_complains 67 = .ok (.goto 25, 3) := dk_167 0 25 (dk_at dksX0_complains_2 19 rfl rfl)
theorem dX0_complains_70 : decode cX0_complains 70 = .ok (.aload 4, 2) := dk_25 4 (dk_at dksX0_complains_2 22 rfl rfl)
theorem dX0_complains_72 : decode cX0_complains 72 = .ok (.aload_n 0, 1) := dk_42 (dk_at dksX0_complains_3 0 rfl rfl)
theorem dX0_complains_73 : decode cX0_complains 73 = .ok (.getfield 119, 3) := dk_180 0 119 (dk_at dksX0_complains_3 1 rfl rfl)
theorem dX0_complains_76 : decode cX0_complains 76 = .ok (.putfield 517, 3) := dk_181 2 5 (dk_at dksX0_complains_3 4 rfl rfl)
theorem dX0_complains_79 : decode cX0_complains 79 = .ok (.aload 4, 2) := dk_25 4 (dk_at dksX0_complains_3 7 rfl rfl)
theorem dX0_complains_81 : decode cX0_complains 81 = .ok (.dup, 1) := dk_89 (dk_at dksX0_complains_3 9 rfl rfl)
theorem dX0_complains_82 : decode cX0_complains 82 = .ok (.getfield 520, 3) := dk_180 2 8 (dk_at dksX0_complains_3 10 rfl rfl)
theorem dX0_complains_85 : decode cX0_complains 85 = .ok (.iconst 1, 1) := dk_4 (dk_at dksX0_complains_3 13 rfl rfl)
theorem dX0_complains_86 : decode cX0_complains 86 = .ok (.iadd, 1) := dk_96 (dk_at dksX0_complains_3 14 rfl rfl)
theorem dX0_complains_87 : decode cX0_complains 87 = .ok (.putfield 520, 3) := dk_181 2 8 (dk_at dksX0_complains_3 15 rfl rfl)
theorem dX0_complains_90 : decode cX0_complains 90 = .ok (.iload_n 3, 1) := dk_29 (dk_at dksX0_complains_3 18 rfl rfl)
theorem dX0_complains_91 : decode cX0_complains 91 = .ok (.ireturn, 1) := dk_172 (dk_at dksX0_complains_3 19 rfl rfl)
theorem dX0_complains_92 : decode cX0_complains 92 = .ok (.iinc 3 1, 3) := dk_132 3 1 (dk_at dksX0_complains_3 20 rfl rfl)
theorem dX0_complains_95 : decode cX0_complains 95 = .ok (.goto (-93), 3) := dk_167 255 163 (dk_at dksX0_complains_4 0 rfl rfl)
theorem dX0_complains_98 : decode cX0_complains 98 = .ok (.aload_n 0, 1) := dk_42 (dk_at dksX0_complains_4 3 rfl rfl)
theorem dX0_complains_99 : decode cX0_complains 99 = .ok (.getfield 74, 3) := dk_180 0 74 (dk_at dksX0_complains_4 4 rfl rfl)
theorem dX0_complains_102 : decode cX0_complains 102 = .ok (.invokevirtual 77, 3) := dk_182 0 77 (dk_at dksX0_complains_4 7 rfl rfl)
theorem dX0_complains_105 : decode cX0_complains 105 = .ok (.bipush 60, 2) := dk_16 60 (dk_at dksX0_complains_4 10 rfl rfl)
theorem dX0_complains_107 : decode cX0_complains 107 = .ok (.if_icmp .ne 5, 3) := dk_160 0 5 (dk_at dksX0_complains_4 12 rfl rfl)
theorem dX0_complains_110 : decode cX0_complains 110 = .ok (.iconst (-1), 1) := dk_2 (dk_at dksX0_complains_4 15 rfl rfl)
theorem dX0_complains_111 : decode cX0_complains 111 = .ok (.ireturn, 1) := dk_172 (dk_at dksX0_complains_4 16 rfl rfl)
theorem dX0_complains_112 : decode cX0_complains 112 = .ok (.aload_n 0, 1) := dk_42 (dk_at dksX0_complains_4 17 rfl rfl)
theorem dX0_complains_113 : decode cX0_complains 113 = .ok (.getfield 74, 3) := dk_180 0 74 (dk_at dksX0_complains_4 18 rfl rfl)
theorem dX0_complains_116 : decode cX0_complains 116 = .ok (.new 508, 3) := dk_187 1 252 (dk_at dksX0_complains_4 21 rfl rfl)
theorem dX0_complains_119 : decode cX0_complains 119 = .ok (.dup, 1) := dk_89 (dk_at dksX0_complains_5 0 rfl rfl)
theorem dX0_complains_120 : decode cX0_complains 120 = .ok (.aload_n 0, 1) := dk_42 (dk_at dksX0_complains_5 1 rfl rfl)
theorem dX0_complains_121 : decode cX0_complains 121 = .ok (.getfield 74, 3) := dk_180 0 74 (dk_at dksX0_complains_5 2 rfl rfl)
theorem dX0_complains_124 : decode cX0_complains 124 = .ok (.invokevirtual 77, 3) := dk_182 0 77 (dk_at dksX0_complains_5 5 rfl rfl)
theorem dX0_complains_127 : decode cX0_complains 127 = .ok (.aload_n 1, 1) := dk_43 (dk_at dksX0_complains_5 8 rfl rfl)
theorem dX0_complains_128 : decode cX0_complains 128 = .ok (.iload_n 2, 1) := dk_28 (dk_at dksX0_complains_5 9 rfl rfl)
theorem dX0_complains_129 : decode cX0_complains 129 = .ok (.aload_n 0, 1) := dk_42 (dk_at dksX0_complains_5 10 rfl rfl)
theorem dX0_complains_130 : decode cX0_complains 130 = .ok (.getfield 119, 3) := dk_180 0 119 (dk_at dksX0_complains_5 11 rfl rfl)
theorem dX0_complains_133 : decode cX0_complains 133 = .ok (.invokespecial 523, 3) := dk_183 2 11 (dk_at dksX0_complains_5 14 rfl rfl)
theorem dX0_complains_136 : decode cX0_complains 136 = .ok (.invokevirtual 100, 3) := dk_182 0 100 (dk_at dksX0_complains_5 17 rfl rfl)
theorem dX0_complains_139 : decode cX0_complains 139 = .ok (.pop, 1) := dk_87 (dk_at dksX0_complains_5 20 rfl rfl)
theorem dX0_complains_140 : decode cX0_complains 140 = .ok (.aload_n 0, 1) := dk_42 (dk_at dksX0_complains_5 21 rfl rfl)
theorem dX0_complains_141 : decode cX0_complains 141 = .ok (.getfield 74, 3) := dk_180 0 74 (dk_at dksX0_complains_6 0 rfl rfl)
theorem dX0_complains_144 : decode cX0_complains 144 = .ok (.invokevirtual 77, 3) := dk_182 0 77 (dk_at dksX0_complains_6 3 rfl rfl)
theorem dX0_complains_147 : decode cX0_complains 147 = .ok (.iconst 1, 1) := dk_4 (dk_at dksX0_complains_6 6 rfl rfl)
theorem dX0_complains_148 : decode cX0_complains 148 = .ok (.isub, 1) := dk_100 (dk_at dksX0_complains_6 7 rfl rfl)
theorem dX0_complains_149 : decode cX0_complains 149 = .ok (.ireturn, 1) := dk_172 (dk_at dksX0_complains_6 8 rfl rfl)
def dkwX0_turns_5 : List UInt8 := [132, 2, 1, 167, 255, 136, 177]
abbrev dktX0_turns_5 : List UInt8 := dkwX0_turns_5 ++ []
def dkwX0_turns_4 : List UInt8 := [46, 4, 96, 79, 167, 0, 19, 42, 180, 0, 53, 45, 182, 1, 73, 92, 46, 43, 180, 1, 37, 96, 79]
abbrev dktX0_turns_4 : List UInt8 := dkwX0_turns_4 ++ dktX0_turns_5
def dkwX0_turns_3 : List UInt8 := [153, 0, 31, 42, 180, 0, 56, 16, 10, 45, 182, 1, 73, 104, 42, 180, 0, 119, 17, 1, 109, 108, 96, 92]
abbrev dktX0_turns_3 : List UInt8 := dkwX0_turns_3 ++ dktX0_turns_4
def dkwX0_turns_2 : List UInt8 := [153, 0, 71, 45, 182, 1, 73, 16, 10, 161, 0, 6, 167, 0, 59, 25, 4, 45, 182, 1, 73, 182, 0, 136]
abbrev dktX0_turns_2 : List UInt8 := dkwX0_turns_2 ++ dktX0_turns_3
def dkwX0_turns_1 : List UInt8 := [78, 42, 45, 182, 1, 76, 182, 0, 132, 58, 4, 25, 4, 198, 0, 82, 45, 42, 180, 0, 119, 182, 1, 79]
abbrev dktX0_turns_1 : List UInt8 := dkwX0_turns_1 ++ dktX0_turns_2
def dkwX0_turns_0 : List UInt8 := [3, 61, 28, 43, 180, 1, 24, 182, 0, 77, 162, 0, 115, 43, 180, 1, 24, 28, 182, 0, 81, 192, 0, 241]
abbrev dktX0_turns_0 : List UInt8 := dkwX0_turns_0 ++ dktX0_turns_1
theorem dksX0_turns_0 : cX0_turns.data.toList.drop 0 = dktX0_turns_0 := by decide +kernel
theorem dksX0_turns_1 : cX0_turns.data.toList.drop 24 = dktX0_turns_1 := dk_seg dksX0_turns_0 24 rfl rfl
theorem dksX0_turns_2 : cX0_turns.data.toList.drop 48 = dktX0_turns_2 := dk_seg dksX0_turns_1 24 rfl rfl
theorem dksX0_turns_3 : cX0_turns.data.toList.drop 72 = dktX0_turns_3 := dk_seg dksX0_turns_2 24 rfl rfl
theorem dksX0_turns_4 : cX0_turns.data.toList.drop 96 = dktX0_turns_4 := dk_seg dksX0_turns_3 24 rfl rfl
theorem dksX0_turns_5 : cX0_turns.data.toList.drop 119 = dktX0_turns_5 := dk_seg dksX0_turns_4 23 rfl rfl
theorem dX0_turns_0 : decode cX0_turns 0 = .ok (.iconst 0, 1) := dk_3 (dk_at dksX0_turns_0 0 rfl rfl)
theorem dX0_turns_1 : decode cX0_turns 1 = .ok (.istore_n 2, 1) := dk_61 (dk_at dksX0_turns_0 1 rfl rfl)
theorem dX0_turns_2 : decode cX0_turns 2 = .ok (.iload_n 2, 1) := dk_28 (dk_at dksX0_turns_0 2 rfl rfl)
theorem dX0_turns_3 : decode cX0_turns 3 = .ok (.aload_n 1, 1) := dk_43 (dk_at dksX0_turns_0 3 rfl rfl)
theorem dX0_turns_4 : decode cX0_turns 4 = .ok (.getfield 280, 3) := dk_180 1 24 (dk_at dksX0_turns_0 4 rfl rfl)
theorem dX0_turns_7 : decode cX0_turns 7 = .ok (.invokevirtual 77, 3) := dk_182 0 77 (dk_at dksX0_turns_0 7 rfl rfl)
theorem dX0_turns_10 : decode cX0_turns 10 = .ok (.if_icmp .ge 115, 3) := dk_162 0 115 (dk_at dksX0_turns_0 10 rfl rfl)
theorem dX0_turns_13 : decode cX0_turns 13 = .ok (.aload_n 1, 1) := dk_43 (dk_at dksX0_turns_0 13 rfl rfl)
theorem dX0_turns_14 : decode cX0_turns 14 = .ok (.getfield 280, 3) := dk_180 1 24 (dk_at dksX0_turns_0 14 rfl rfl)
theorem dX0_turns_17 : decode cX0_turns 17 = .ok (.iload_n 2, 1) := dk_28 (dk_at dksX0_turns_0 17 rfl rfl)
theorem dX0_turns_18 : decode cX0_turns 18 = .ok (.invokevirtual 81, 3) := dk_182 0 81 (dk_at dksX0_turns_0 18 rfl rfl)
theorem dX0_turns_21 : decode cX0_turns 21 = .ok (.checkcast 241, 3) := dk_192 0 241 (dk_at dksX0_turns_0 21 rfl rfl)
theorem dX0_turns_24 : decode cX0_turns 24 = .ok (.astore_n 3, 1) := dk_78 (dk_at dksX0_turns_1 0 rfl rfl)
theorem dX0_turns_25 : decode cX0_turns 25 = .ok (.aload_n 0, 1) := dk_42 (dk_at dksX0_turns_1 1 rfl rfl)
theorem dX0_turns_26 : decode cX0_turns 26 = .ok (.aload_n 3, 1) := dk_45 (dk_at dksX0_turns_1 2 rfl rfl)
theorem dX0_turns_27 : decode cX0_turns 27 = .ok (.invokevirtual 332, 3) := dk_182 1 76 (dk_at dksX0_turns_1 3 rfl rfl)
theorem dX0_turns_30 : decode cX0_turns 30 = .ok (.invokevirtual 132, 3) := dk_182 0 132 (dk_at dksX0_turns_1 6 rfl rfl)
theorem dX0_turns_33 : decode cX0_turns 33 = .ok (.astore 4, 2) := dk_58 4 (dk_at dksX0_turns_1 9 rfl rfl)
theorem dX0_turns_35 : decode cX0_turns 35 = .ok (.aload 4, 2) := dk_25 4 (dk_at dksX0_turns_1 11 rfl rfl)
theorem dX0_turns_37 : decode cX0_turns 37 = .ok (.ifnull 82, 3) := dk_198 0 82 (dk_at dksX0_turns_1 13 rfl rfl)
theorem dX0_turns_40 : decode cX0_turns 40 = .ok (.aload_n 3, 1) := dk_45 (dk_at dksX0_turns_1 16 rfl rfl)
theorem dX0_turns_41 : decode cX0_turns 41 = .ok (.aload_n 0, 1) := dk_42 (dk_at dksX0_turns_1 17 rfl rfl)
theorem dX0_turns_42 : decode cX0_turns 42 = .ok (.getfield 119, 3) := dk_180 0 119 (dk_at dksX0_turns_1 18 rfl rfl)
theorem dX0_turns_45 : decode cX0_turns 45 = .ok (.invokevirtual 335, 3) := dk_182 1 79 (dk_at dksX0_turns_1 21 rfl rfl)
theorem dX0_turns_48 : decode cX0_turns 48 = .ok (.ifCond .eq 71, 3) := dk_153 0 71 (dk_at dksX0_turns_2 0 rfl rfl)
theorem dX0_turns_51 : decode cX0_turns 51 = .ok (.aload_n 3, 1) := dk_45 (dk_at dksX0_turns_2 3 rfl rfl)
theorem dX0_turns_52 : decode cX0_turns 52 = .ok (.invokevirtual 329, 3) := dk_182 1 73 (dk_at dksX0_turns_2 4 rfl rfl)
theorem dX0_turns_55 : decode cX0_turns 55 = .ok (.bipush 10, 2) := dk_16 10 (dk_at dksX0_turns_2 7 rfl rfl)
theorem dX0_turns_57 : decode cX0_turns 57 = .ok (.if_icmp .lt 6, 3) := dk_161 0 6 (dk_at dksX0_turns_2 9 rfl rfl)
theorem dX0_turns_60 : decode cX0_turns 60 = .ok (.goto 59, 3) := dk_167 0 59 (dk_at dksX0_turns_2 12 rfl rfl)
theorem dX0_turns_63 : decode cX0_turns 63 = .ok (.aload 4, 2) := dk_25 4 (dk_at dksX0_turns_2 15 rfl rfl)
theorem dX0_turns_65 : decode cX0_turns 65 = .ok (.aload_n 3, 1) := dk_45 (dk_at dksX0_turns_2 17 rfl rfl)
theorem dX0_turns_66 : decode cX0_turns 66 = .ok (.invokevirtual 329, 3) := dk_182 1 73 (dk_at dksX0_turns_2 18 rfl rfl)
theorem dX0_turns_69 : decode cX0_turns 69 = .ok (.invokevirtual 136, 3) := dk_182 0 136 (dk_at dksX0_turns_2 21 rfl rfl)
theorem dX0_turns_72 : decode cX0_turns 72 = .ok (.ifCond .eq 31, 3) := dk_153 0 31 (dk_at dksX0_turns_3 0 rfl rfl)
theorem dX0_turns_75 : decode cX0_turns 75 = .ok (.aload_n 0, 1) := dk_42 (dk_at dksX0_turns_3 3 rfl rfl)
theorem dX0_turns_76 : decode cX0_turns 76 = .ok (.getfield 56, 3) := dk_180 0 56 (dk_at dksX0_turns_3 4 rfl rfl)
theorem dX0_turns_79 : decode cX0_turns 79 = .ok (.bipush 10, 2) := dk_16 10 (dk_at dksX0_turns_3 7 rfl rfl)
theorem dX0_turns_81 : decode cX0_turns 81 = .ok (.aload_n 3, 1) := dk_45 (dk_at dksX0_turns_3 9 rfl rfl)
theorem dX0_turns_82 : decode cX0_turns 82 = .ok (.invokevirtual 329, 3) := dk_182 1 73 (dk_at dksX0_turns_3 10 rfl rfl)
theorem dX0_turns_85 : decode cX0_turns 85 = .ok (.imul, 1) := dk_104 (dk_at dksX0_turns_3 13 rfl rfl)
theorem dX0_turns_86 : decode cX0_turns 86 = .ok (.aload_n 0, 1) := dk_42 (dk_at dksX0_turns_3 14 rfl rfl)
theorem dX0_turns_87 : decode cX0_turns 87 = .ok (.getfield 119, 3) := dk_180 0 119 (dk_at dksX0_turns_3 15 rfl rfl)
theorem dX0_turns_90 : decode cX0_turns 90 = .ok (.sipush 365, 3) := dk_17 1 109 (dk_at dksX0_turns_3 18 rfl rfl)
theorem dX0_turns_93 : decode cX0_turns 93 = .ok (.idiv, 1) := dk_108 (dk_at dksX0_turns_3 21 rfl rfl)
theorem dX0_turns_94 : decode cX0_turns 94 = .ok (.iadd, 1) := dk_96 (dk_at dksX0_turns_3 22 rfl rfl)
theorem dX0_turns_95 : decode cX0_turns 95 = .ok (.dup2, 1) := dk_92 (dk_at dksX0_turns_3 23 rfl rfl)
theorem dX0_turns_96 : decode cX0_turns 96 = .ok (.iaload, 1) := dk_46 (dk_at dksX0_turns_4 0 rfl rfl)
theorem dX0_turns_97 : decode cX0_turns 97 = .ok (.iconst 1, 1) := dk_4 (dk_at dksX0_turns_4 1 rfl rfl)
theorem dX0_turns_98 : decode cX0_turns 98 = .ok (.iadd, 1) := dk_96 (dk_at dksX0_turns_4 2 rfl rfl)
theorem dX0_turns_99 : decode cX0_turns 99 = .ok (.iastore, 1) := dk_79 (dk_at dksX0_turns_4 3 rfl rfl)
theorem dX0_turns_100 : decode cX0_turns 100 = .ok (.goto 19, 3) := dk_167 0 19 (dk_at dksX0_turns_4 4 rfl rfl)
theorem dX0_turns_103 : decode cX0_turns 103 = .ok (.aload_n 0, 1) := dk_42 (dk_at dksX0_turns_4 7 rfl rfl)
theorem dX0_turns_104 : decode cX0_turns 104 = .ok (.getfield 53, 3) := dk_180 0 53 (dk_at dksX0_turns_4 8 rfl rfl)
theorem dX0_turns_107 : decode cX0_turns 107 = .ok (.aload_n 3, 1) := dk_45 (dk_at dksX0_turns_4 11 rfl rfl)
theorem dX0_turns_108 : decode cX0_turns 108 = .ok (.invokevirtual 329, 3) := dk_182 1 73 (dk_at dksX0_turns_4 12 rfl rfl)
theorem dX0_turns_111 : decode cX0_turns 111 = .ok (.dup2, 1) := dk_92 (dk_at dksX0_turns_4 15 rfl rfl)
theorem dX0_turns_112 : decode cX0_turns 112 = .ok (.iaload, 1) := dk_46 (dk_at dksX0_turns_4 16 rfl rfl)
theorem dX0_turns_113 : decode cX0_turns 113 = .ok (.aload_n 1, 1) := dk_43 (dk_at dksX0_turns_4 17 rfl rfl)
theorem dX0_turns_114 : decode cX0_turns 114 = .ok (.getfield 293, 3) := dk_180 1 37 (dk_at dksX0_turns_4 18 rfl rfl)
theorem dX0_turns_117 : decode cX0_turns 117 = .ok (.iadd, 1) := dk_96 (dk_at dksX0_turns_4 21 rfl rfl)
theorem dX0_turns_118 : decode cX0_turns 118 = .ok (.iastore, 1) := dk_79 (dk_at dksX0_turns_4 22 rfl rfl)
theorem dX0_turns_119 : decode cX0_turns 119 = .ok (.iinc 2 1, 3) := dk_132 2 1 (dk_at dksX0_turns_5 0 rfl rfl)
theorem dX0_turns_122 : decode cX0_turns 122 = .ok (.goto (-120), 3) := dk_167 255 136 (dk_at dksX0_turns_5 3 rfl rfl)
theorem dX0_turns_125 : decode cX0_turns 125 = .ok (.return_, 1) := dk_177 (dk_at dksX0_turns_5 6 rfl rfl)
def dkwX0_neighbour_2 : List UInt8 := [154, 0, 12, 42, 180, 0, 53, 27, 46, 167, 0, 13, 28, 4, 160, 0, 7, 29, 167, 0, 4, 2, 172]
abbrev dktX0_neighbour_2 : List UInt8 := dkwX0_neighbour_2 ++ []
def dkwX0_neighbour_1 : List UInt8 := [29, 42, 180, 0, 56, 16, 10, 27, 104, 21, 4, 96, 46, 96, 62, 132, 4, 1, 167, 255, 231, 28]
abbrev dktX0_neighbour_1 : List UInt8 := dkwX0_neighbour_1 ++ dktX0_neighbour_2
def dkwX0_neighbour_0 : List UInt8 := [27, 3, 16, 9, 184, 0, 3, 154, 0, 5, 2, 172, 3, 62, 3, 54, 4, 21, 4, 16, 10, 162, 0, 24]
abbrev dktX0_neighbour_0 : List UInt8 := dkwX0_neighbour_0 ++ dktX0_neighbour_1
theorem dksX0_neighbour_0 : cX0_neighbour.data.toList.drop 0 = dktX0_neighbour_0 := by decide +kernel
theorem dksX0_neighbour_1 : cX0_neighbour.data.toList.drop 24 = dktX0_neighbour_1 := dk_seg dksX0_neighbour_0 24 rfl rfl
theorem dksX0_neighbour_2 : cX0_neighbour.data.toList.drop 46 = dktX0_neighbour_2 := dk_seg dksX0_neighbour_1 22 rfl rfl
theorem dX0_neighbour_0 : decode cX0_neighbour 0 = .ok (.iload_n 1, 1) := dk_27 (dk_at dksX0_neighbour_0 0 rfl rfl)
theorem dX0_neighbour_1 : decode cX0_neighbour 1 = .ok (.iconst 0, 1) := dk_3 (dk_at dksX0_neighbour_0 1 rfl rfl)
theorem dX0_neighbour_2 : decode cX0_neighbour 2 = .ok (.bipush 9, 2) := dk_16 9 (dk_at dksX0_neighbour_0 2 rfl rfl)
theorem dX0_neighbour_4 : decode cX0_neighbour 4 = .ok (.invokestatic 3, 3) := dk_184 0 3 (dk_at dksX0_neighbour_0 4 rfl rfl)
theorem dX0_neighbour_7 : decode cX0_neighbour 7 = .ok (.ifCond .ne 5, 3) := dk_154 0 5 (dk_at dksX0_neighbour_0 7 rfl rfl)
theorem dX0_neighbour_10 : decode cX0_neighbour 10 = .ok (.iconst (-1), 1) := dk_2 (dk_at dksX0_neighbour_0 10 rfl rfl)
theorem dX0_neighbour_11 : decode cX0_neighbour 11 = .ok (.ireturn, 1) := dk_172 (dk_at dksX0_neighbour_0 11 rfl rfl)
theorem dX0_neighbour_12 : decode cX0_neighbour 12 = .ok (.iconst 0, 1) := dk_3 (dk_at dksX0_neighbour_0 12 rfl rfl)
theorem dX0_neighbour_13 : decode cX0_neighbour 13 = .ok (.istore_n 3, 1) := dk_62 (dk_at dksX0_neighbour_0 13 rfl rfl)
theorem dX0_neighbour_14 : decode cX0_neighbour 14 = .ok (.iconst 0, 1) := dk_3 (dk_at dksX0_neighbour_0 14 rfl rfl)
theorem dX0_neighbour_15 : decode cX0_neighbour 15 = .ok (.istore 4, 2) := dk_54 4 (dk_at dksX0_neighbour_0 15 rfl rfl)
theorem dX0_neighbour_17 : decode cX0_neighbour 17 = .ok (.iload 4, 2) := dk_21 4 (dk_at dksX0_neighbour_0 17 rfl rfl)
theorem dX0_neighbour_19 : decode cX0_neighbour 19 = .ok (.bipush 10, 2) := dk_16 10 (dk_at dksX0_neighbour_0 19 rfl rfl)
theorem dX0_neighbour_21 : decode cX0_neighbour 21 = .ok (.if_icmp .ge 24, 3) := dk_162 0 24 (dk_at dksX0_neighbour_0 21 rfl rfl)
theorem dX0_neighbour_24 : decode cX0_neighbour 24 = .ok (.iload_n 3, 1) := dk_29 (dk_at dksX0_neighbour_1 0 rfl rfl)
theorem dX0_neighbour_25 : decode cX0_neighbour 25 = .ok (.aload_n 0, 1) := dk_42 (dk_at dksX0_neighbour_1 1 rfl rfl)
theorem dX0_neighbour_26 : decode cX0_neighbour 26 = .ok (.getfield 56, 3) := dk_180 0 56 (dk_at dksX0_neighbour_1 2 rfl rfl)
theorem dX0_neighbour_29 : decode cX0_neighbour 29 = .ok (.bipush 10, 2) := dk_16 10 (dk_at dksX0_neighbour_1 5 rfl rfl)
theorem dX0_neighbour_31 : decode cX0_neighbour 31 = .ok (.iload_n 1, 1) := dk_27 (dk_at dksX0_neighbour_1 7 rfl rfl)
theorem dX0_neighbour_32 : decode cX0_neighbour 32 = .ok (.imul, 1) := dk_104 (dk_at dksX0_neighbour_1 8 rfl rfl)
theorem dX0_neighbour_33 : decode cX0_neighbour 33 = .ok (.iload 4, 2) := dk_21 4 (dk_at dksX0_neighbour_1 9 rfl rfl)
theorem dX0_neighbour_35 : decode cX0_neighbour 35 = .ok (.iadd, 1) := dk_96 (dk_at dksX0_neighbour_1 11 rfl rfl)
theorem dX0_neighbour_36 : decode cX0_neighbour 36 = .ok (.iaload, 1) := dk_46 (dk_at dksX0_neighbour_1 12 rfl rfl)
theorem dX0_neighbour_37 : decode cX0_neighbour 37 = .ok (.iadd, 1) := dk_96 (dk_at dksX0_neighbour_1 13 rfl rfl)
theorem dX0_neighbour_38 : decode cX0_neighbour 38 = .ok (.istore_n 3, 1) := dk_62 (dk_at dksX0_neighbour_1 14 rfl rfl)
theorem dX0_neighbour_39 : decode cX0_neighbour 39 = .ok (.iinc 4 1, 3) := dk_132 4 1 (dk_at dksX0_neighbour_1 15 rfl rfl)
theorem dX0_neighbour_42 : decode cX0_neighbour 42 = .ok (.goto (-25), 3) := dk_167 255 231 (dk_at dksX0_neighbour_1 18 rfl rfl)
theorem dX0_neighbour_45 : decode cX0_neighbour 45 = .ok (.iload_n 2, 1) := dk_28 (dk_at dksX0_neighbour_1 21 rfl rfl)
theorem dX0_neighbour_46 : decode cX0_neighbour 46 = .ok (.ifCond .ne 12, 3) := dk_154 0 12 (dk_at dksX0_neighbour_2 0 rfl rfl)
theorem dX0_neighbour_49 : decode cX0_neighbour 49 = .ok (.aload_n 0, 1) := dk_42 (dk_at dksX0_neighbour_2 3 rfl rfl)
theorem dX0_neighbour_50 : decode cX0_neighbour 50 = .ok (.getfield 53, 3) := dk_180 0 53 (dk_at dksX0_neighbour_2 4 rfl rfl)
theorem dX0_neighbour_53 : decode cX0_neighbour 53 = .ok (.iload_n 1, 1) := dk_27 (dk_at dksX0_neighbour_2 7 rfl rfl)
theorem dX0_neighbour_54 : decode cX0_neighbour 54 = .ok (.iaload, 1) := dk_46 (dk_at dksX0_neighbour_2 8 rfl rfl)
theorem dX0_neighbour_55 : decode cX0_neighbour 55 = .ok (.goto 13, 3) := dk_167 0 13 (dk_at dksX0_neighbour_2 9 rfl rfl)
theorem dX0_neighbour_58 : decode cX0_neighbour 58 = .ok (.iload_n 2, 1) := dk_28 (dk_at dksX0_neighbour_2 12 rfl rfl)
theorem dX0_neighbour_59 : decode cX0_neighbour 59 = .ok (.iconst 1, 1) := dk_4 (dk_at dksX0_neighbour_2 13 rfl rfl)
theorem dX0_neighbour_60 : decode cX0_neighbour 60 = .ok (.if_icmp .ne 7, 3) := dk_160 0 7 (dk_at dksX0_neighbour_2 14 rfl rfl)
theorem dX0_neighbour_63 : decode cX0_neighbour 63 = .ok (.iload_n 3, 1) := dk_29 (dk_at dksX0_neighbour_2 17 rfl rfl)
theorem dX0_neighbour_64 : decode cX0_neighbour 64 = .ok (.goto 4, 3) := dk_167 0 4 (dk_at dksX0_neighbour_2 18 rfl rfl)
theorem dX0_neighbour_67 : decode cX0_neighbour 67 = .ok (.iconst (-1), 1) := dk_2 (dk_at dksX0_neighbour_2 21 rfl rfl)
theorem dX0_neighbour_68 : decode cX0_neighbour 68 = .ok (.ireturn, 1) := dk_172 (dk_at dksX0_neighbour_2 22 rfl rfl)
def dkwX0_rain_1 : List UInt8 := [180, 0, 59, 42, 180, 1, 123, 27, 79, 42, 89, 180, 1, 123, 4, 96, 181, 1, 123, 42, 180, 1, 123, 172]
abbrev dktX0_rain_1 : List UInt8 := dkwX0_rain_1 ++ []
def dkwX0_rain_0 : List UInt8 := [27, 3, 16, 50, 184, 0, 3, 153, 0, 12, 42, 180, 1, 123, 16, 30, 160, 0, 5, 2, 172, 42]
abbrev dktX0_rain_0 : List UInt8 := dkwX0_rain_0 ++ dktX0_rain_1
theorem dksX0_rain_0 : cX0_rain.data.toList.drop 0 = dktX0_rain_0 := by decide +kernel
theorem dksX0_rain_1 : cX0_rain.data.toList.drop 22 = dktX0_rain_1 := dk_seg dksX0_rain_0 22 rfl rfl
theorem dX0_rain_0 : decode cX0_rain 0 = .ok (.iload_n 1, 1) := dk_27 (dk_at dksX0_rain_0 0 rfl rfl)
theorem dX0_rain_1 : decode cX0_rain 1 = .ok (.iconst 0, 1) := dk_3 (dk_at dksX0_rain_0 1 rfl rfl)
theorem dX0_rain_2 : decode cX0_rain 2 = .ok (.bipush 50, 2) := dk_16 50 (dk_at dksX0_rain_0 2 rfl rfl)
theorem dX0_rain_4 : decode cX0_rain 4 = .ok (.invokestatic 3, 3) := dk_184 0 3 (dk_at dksX0_rain_0 4 rfl rfl)
theorem dX0_rain_7 : decode cX0_rain 7 = .ok (.ifCond .eq 12, 3) := dk_153 0 12 (dk_at dksX0_rain_0 7 rfl rfl)
theorem dX0_rain_10 : decode cX0_rain 10 = .ok (.aload_n 0, 1) := dk_42 (dk_at dksX0_rain_0 10 rfl rfl)
theorem dX0_rain_11 : decode cX0_rain 11 = .ok (.getfield 379, 3) := dk_180 1 123 (dk_at dksX0_rain_0 11 rfl rfl)
theorem dX0_rain_14 : decode cX0_rain 14 = .ok (.bipush 30, 2) := dk_16 30 (dk_at dksX0_rain_0 14 rfl rfl)
theorem dX0_rain_16 : decode cX0_rain 16 = .ok (.if_icmp .ne 5, 3) := dk_160 0 5 (dk_at dksX0_rain_0 16 rfl rfl)
theorem dX0_rain_19 : decode cX0_rain 19 = .ok (.iconst (-1), 1) := dk_2 (dk_at dksX0_rain_0 19 rfl rfl)
theorem dX0_rain_20 : decode cX0_rain 20 = .ok (.ireturn, 1) := dk_172 (dk_at dksX0_rain_0 20 rfl rfl)
theorem dX0_rain_21 : decode cX0_rain 21 = .ok (.aload_n 0, 1) := dk_42 (dk_at dksX0_rain_0 21 rfl rfl)
theorem dX0_rain_22 : decode cX0_rain 22 = .ok (.getfield 59, 3) := dk_180 0 59 (dk_at dksX0_rain_1 0 rfl rfl)
theorem dX0_rain_25 : decode cX0_rain 25 = .ok (.aload_n 0, 1) := dk_42 (dk_at dksX0_rain_1 3 rfl rfl)
theorem dX0_rain_26 : decode cX0_rain 26 = .ok (.getfield 379, 3) := dk_180 1 123 (dk_at dksX0_rain_1 4 rfl rfl)
theorem dX0_rain_29 : decode cX0_rain 29 = .ok (.iload_n 1, 1) := dk_27 (dk_at dksX0_rain_1 7 rfl rfl)
theorem dX0_rain_30 : decode cX0_rain 30 = .ok (.iastore, 1) := dk_79 (dk_at dksX0_rain_1 8 rfl rfl)
theorem dX0_rain_31 : decode cX0_rain 31 = .ok (.aload_n 0, 1) := dk_42 (dk_at dksX0_rain_1 9 rfl rfl)
theorem dX0_rain_32 : decode cX0_rain 32 = .ok (.dup, 1) := dk_89 (dk_at dksX0_rain_1 10 rfl rfl)
theorem dX0_rain_33 : decode cX0_rain 33 = .ok (.getfield 379, 3) := dk_180 1 123 (dk_at dksX0_rain_1 11 rfl rfl)
theorem dX0_rain_36 : decode cX0_rain 36 = .ok (.iconst 1, 1) := dk_4 (dk_at dksX0_rain_1 14 rfl rfl)
theorem dX0_rain_37 : decode cX0_rain 37 = .ok (.iadd, 1) := dk_96 (dk_at dksX0_rain_1 15 rfl rfl)
theorem dX0_rain_38 : decode cX0_rain 38 = .ok (.putfield 379, 3) := dk_181 1 123 (dk_at dksX0_rain_1 16 rfl rfl)
theorem dX0_rain_41 : decode cX0_rain 41 = .ok (.aload_n 0, 1) := dk_42 (dk_at dksX0_rain_1 19 rfl rfl)
theorem dX0_rain_42 : decode cX0_rain 42 = .ok (.getfield 379, 3) := dk_180 1 123 (dk_at dksX0_rain_1 20 rfl rfl)
theorem dX0_rain_45 : decode cX0_rain 45 = .ok (.ireturn, 1) := dk_172 (dk_at dksX0_rain_1 23 rfl rfl)
def dkwX0_clear_0 : List UInt8 := [42, 180, 1, 123, 60, 42, 3, 181, 1, 123, 27, 172]
abbrev dktX0_clear_0 : List UInt8 := dkwX0_clear_0 ++ []
theorem dksX0_clear_0 : cX0_clear.data.toList.drop 0 = dktX0_clear_0 := by decide +kernel
theorem dX0_clear_0 : decode cX0_clear 0 = .ok (.aload_n 0, 1) := dk_42 (dk_at dksX0_clear_0 0 rfl rfl)
theorem dX0_clear_1 : decode cX0_clear 1 = .ok (.getfield 379, 3) := dk_180 1 123 (dk_at dksX0_clear_0 1 rfl rfl)
theorem dX0_clear_4 : decode cX0_clear 4 = .ok (.istore_n 1, 1) := dk_60 (dk_at dksX0_clear_0 4 rfl rfl)
theorem dX0_clear_5 : decode cX0_clear 5 = .ok (.aload_n 0, 1) := dk_42 (dk_at dksX0_clear_0 5 rfl rfl)
theorem dX0_clear_6 : decode cX0_clear 6 = .ok (.iconst 0, 1) := dk_3 (dk_at dksX0_clear_0 6 rfl rfl)
theorem dX0_clear_7 : decode cX0_clear 7 = .ok (.putfield 379, 3) := dk_181 1 123 (dk_at dksX0_clear_0 7 rfl rfl)
theorem dX0_clear_10 : decode cX0_clear 10 = .ok (.iload_n 1, 1) := dk_27 (dk_at dksX0_clear_0 10 rfl rfl)
theorem dX0_clear_11 : decode cX0_clear 11 = .ok (.ireturn, 1) := dk_172 (dk_at dksX0_clear_0 11 rfl rfl)
def dkwX0_storm_12 : List UInt8 := [183, 1, 179, 182, 0, 100, 87, 42, 180, 0, 71, 182, 0, 77, 4, 100, 172]
abbrev dktX0_storm_12 : List UInt8 := dkwX0_storm_12 ++ []
def dkwX0_storm_11 : List UInt8 := [180, 1, 155, 42, 180, 0, 67, 180, 1, 162, 42, 180, 0, 67, 180, 1, 173, 42, 180, 0, 67, 180, 1, 176]
abbrev dktX0_storm_11 : List UInt8 := dkwX0_storm_11 ++ dktX0_storm_12
def dkwX0_storm_10 : List UInt8 := [180, 1, 168, 97, 181, 1, 165, 42, 180, 0, 71, 187, 1, 171, 89, 42, 180, 0, 119, 42, 180, 0, 67]
abbrev dktX0_storm_10 : List UInt8 := dkwX0_storm_10 ++ dktX0_storm_11
def dkwX0_storm_9 : List UInt8 := [89, 180, 1, 160, 42, 180, 0, 67, 180, 1, 162, 97, 181, 1, 160, 42, 89, 180, 1, 165, 42, 180, 0, 67]
abbrev dktX0_storm_9 : List UInt8 := dkwX0_storm_9 ++ dktX0_storm_10
def dkwX0_storm_8 : List UInt8 := [180, 1, 155, 97, 181, 1, 152, 42, 89, 180, 1, 89, 42, 180, 0, 67, 180, 1, 158, 97, 181, 1, 89, 42]
abbrev dktX0_storm_8 : List UInt8 := dkwX0_storm_8 ++ dktX0_storm_9
def dkwX0_storm_7 : List UInt8 := [180, 1, 149, 27, 46, 181, 1, 112, 132, 1, 1, 167, 255, 219, 42, 89, 180, 1, 152, 42, 180, 0, 67]
abbrev dktX0_storm_7 : List UInt8 := dkwX0_storm_7 ++ dktX0_storm_8
def dkwX0_storm_6 : List UInt8 := [180, 0, 24, 182, 0, 77, 162, 0, 32, 42, 180, 0, 24, 27, 182, 0, 81, 192, 0, 95, 42, 180, 0, 67]
abbrev dktX0_storm_6 : List UInt8 := dkwX0_storm_6 ++ dktX0_storm_7
def dkwX0_storm_5 : List UInt8 := [42, 180, 0, 67, 180, 1, 146, 27, 46, 181, 1, 145, 132, 1, 1, 167, 255, 148, 3, 60, 27, 42]
abbrev dktX0_storm_5 : List UInt8 := dkwX0_storm_5 ++ dktX0_storm_6
def dkwX0_storm_4 : List UInt8 := [167, 0, 36, 42, 89, 180, 1, 89, 44, 180, 0, 91, 180, 1, 145, 133, 97, 181, 1, 89, 44, 180, 0, 91]
abbrev dktX0_storm_4 : List UInt8 := dkwX0_storm_4 ++ dktX0_storm_5
def dkwX0_storm_3 : List UInt8 := [181, 1, 138, 44, 42, 180, 0, 67, 180, 1, 140, 27, 46, 181, 1, 143, 44, 180, 0, 91, 199, 0, 6]
abbrev dktX0_storm_3 : List UInt8 := dkwX0_storm_3 ++ dktX0_storm_4
def dkwX0_storm_2 : List UInt8 := [42, 180, 0, 67, 180, 1, 129, 27, 46, 181, 1, 132, 44, 42, 180, 0, 67, 180, 1, 135, 27, 46]
abbrev dktX0_storm_2 : List UInt8 := dkwX0_storm_2 ++ dktX0_storm_3
def dkwX0_storm_1 : List UInt8 := [27, 42, 180, 0, 20, 182, 0, 77, 162, 0, 103, 42, 180, 0, 20, 27, 182, 0, 81, 192, 0, 85, 77, 44]
abbrev dktX0_storm_1 : List UInt8 := dkwX0_storm_1 ++ dktX0_storm_2
def dkwX0_storm_0 : List UInt8 := [42, 180, 0, 71, 182, 0, 77, 16, 40, 160, 0, 5, 2, 172, 42, 180, 0, 67, 3, 182, 1, 126, 3, 60]
abbrev dktX0_storm_0 : List UInt8 := dkwX0_storm_0 ++ dktX0_storm_1
theorem dksX0_storm_0 : cX0_storm.data.toList.drop 0 = dktX0_storm_0 := by decide +kernel
theorem dksX0_storm_1 : cX0_storm.data.toList.drop 24 = dktX0_storm_1 := dk_seg dksX0_storm_0 24 rfl rfl
theorem dksX0_storm_2 : cX0_storm.data.toList.drop 48 = dktX0_storm_2 := dk_seg dksX0_storm_1 24 rfl rfl
theorem dksX0_storm_3 : cX0_storm.data.toList.drop 70 = dktX0_storm_3 := dk_seg dksX0_storm_2 22 rfl rfl
theorem dksX0_storm_4 : cX0_storm.data.toList.drop 93 = dktX0_storm_4 := dk_seg dksX0_storm_3 23 rfl rfl
theorem dksX0_storm_5 : cX0_storm.data.toList.drop 117 = dktX0_storm_5 := dk_seg dksX0_storm_4 24 rfl rfl
theorem dksX0_storm_6 : cX0_storm.data.toList.drop 139 = dktX0_storm_6 := dk_seg dksX0_storm_5 22 rfl rfl
theorem dksX0_storm_7 : cX0_storm.data.toList.drop 163 = dktX0_storm_7 := dk_seg dksX0_storm_6 24 rfl rfl
theorem dksX0_storm_8 : cX0_storm.data.toList.drop 186 = dktX0_storm_8 := dk_seg dksX0_storm_7 23 rfl rfl
theorem dksX0_storm_9 : cX0_storm.data.toList.drop 210 = dktX0_storm_9 := dk_seg dksX0_storm_8 24 rfl rfl
theorem dksX0_storm_10 : cX0_storm.data.toList.drop 234 = dktX0_storm_10 := dk_seg dksX0_storm_9 24 rfl rfl
theorem dksX0_storm_11 : cX0_storm.data.toList.drop 257 = dktX0_storm_11 := dk_seg dksX0_storm_10 23 rfl rfl
theorem dksX0_storm_12 : cX0_storm.data.toList.drop 281 = dktX0_storm_12 := dk_seg dksX0_storm_11 24 rfl rfl
theorem dX0_storm_0 : decode cX0_storm 0 = .ok (.aload_n 0, 1) := dk_42 (dk_at dksX0_storm_0 0 rfl rfl)
theorem dX0_storm_1 : decode cX0_storm 1 = .ok (.getfield 71, 3) := dk_180 0 71 (dk_at dksX0_storm_0 1 rfl rfl)
theorem dX0_storm_4 : decode cX0_storm 4 = .ok (.invokevirtual 77, 3) := dk_182 0 77 (dk_at dksX0_storm_0 4 rfl rfl)
theorem dX0_storm_7 : decode cX0_storm 7 = .ok (.bipush 40, 2) := dk_16 40 (dk_at dksX0_storm_0 7 rfl rfl)
theorem dX0_storm_9 : decode cX0_storm 9 = .ok (.if_icmp .ne 5, 3) := dk_160 0 5 (dk_at dksX0_storm_0 9 rfl rfl)
theorem dX0_storm_12 : decode cX0_storm 12 = .ok (.iconst (-1), 1) := dk_2 (dk_at dksX0_storm_0 12 rfl rfl)
theorem dX0_storm_13 : decode cX0_storm 13 = .ok (.ireturn, 1) := dk_172 (dk_at dksX0_storm_0 13 rfl rfl)
theorem dX0_storm_14 : decode cX0_storm 14 = .ok (.aload_n 0, 1) := dk_42 (dk_at dksX0_storm_0 14 rfl rfl)
theorem dX0_storm_15 : decode cX0_storm 15 = .ok (.getfield 67, 3) := dk_180 0 67 (dk_at dksX0_storm_0 15 rfl rfl)
theorem dX0_storm_18 : decode cX0_storm 18 = .ok (.iconst 0, 1) := dk_3 (dk_at dksX0_storm_0 18 rfl rfl)
theorem dX0_storm_19 : decode cX0_storm 19 = .ok (.invokevirtual 382, 3) := dk_182 1 126 (dk_at dksX0_storm_0 19 rfl rfl)
theorem dX0_storm_22 : decode cX0_storm 22 = .ok (.iconst 0, 1) := dk_3 (dk_at dksX0_storm_0 22 rfl rfl)
theorem dX0_storm_23 : decode cX0_storm 23 = .ok (.istore_n 1, 1) := dk_60 (dk_at dksX0_storm_0 23 rfl rfl)
theorem dX0_storm_24 : decode cX0_storm 24 = .ok (.iload_n 1, 1) := dk_27 (dk_at dksX0_storm_1 0 rfl rfl)
theorem dX0_storm_25 : decode cX0_storm 25 = .ok (.aload_n 0, 1) := dk_42 (dk_at dksX0_storm_1 1 rfl rfl)
theorem dX0_storm_26 : decode cX0_storm 26 = .ok (.getfield 20, 3) := dk_180 0 20 (dk_at dksX0_storm_1 2 rfl rfl)
theorem dX0_storm_29 : decode cX0_storm 29 = .ok (.invokevirtual 77, 3) := dk_182 0 77 (dk_at dksX0_storm_1 5 rfl rfl)
theorem dX0_storm_32 : decode cX0_storm 32 = .ok (.if_icmp .ge 103, 3) := dk_162 0 103 (dk_at dksX0_storm_1 8 rfl rfl)
theorem dX0_storm_35 : decode cX0_storm 35 = .ok (.aload_n 0, 1) := dk_42 (dk_at dksX0_storm_1 11 rfl rfl)
theorem dX0_storm_36 : decode cX0_storm 36 = .ok (.getfield 20, 3) := dk_180 0 20 (dk_at dksX0_storm_1 12 rfl rfl)
theorem dX0_storm_39 : decode cX0_storm 39 = .ok (.iload_n 1, 1) := dk_27 (dk_at dksX0_storm_1 15 rfl rfl)
theorem dX0_storm_40 : decode cX0_storm 40 = .ok (.invokevirtual 81, 3) := dk_182 0 81 (dk_at dksX0_storm_1 16 rfl rfl)
theorem dX0_storm_43 : decode cX0_storm 43 = .ok (.checkcast 85, 3) := dk_192 0 85 (dk_at dksX0_storm_1 19 rfl rfl)
theorem dX0_storm_46 : decode cX0_storm 46 = .ok (.astore_n 2, 1) := dk_77 (dk_at dksX0_storm_1 22 rfl rfl)
theorem dX0_storm_47 : decode cX0_storm 47 = .ok (.aload_n 2, 1) := dk_44 (dk_at dksX0_storm_1 23 rfl rfl)
theorem dX0_storm_48 : decode cX0_storm 48 = .ok (.aload_n 0, 1) := dk_42 (dk_at dksX0_storm_2 0 rfl rfl)
theorem dX0_storm_49 : decode cX0_storm 49 = .ok (.getfield 67, 3) := dk_180 0 67 (dk_at dksX0_storm_2 1 rfl rfl)
theorem dX0_storm_52 : decode cX0_storm 52 = .ok (.getfield 385, 3) := dk_180 1 129 (dk_at dksX0_storm_2 4 rfl rfl)
theorem dX0_storm_55 : decode cX0_storm 55 = .ok (.iload_n 1, 1) := dk_27 (dk_at dksX0_storm_2 7 rfl rfl)
theorem dX0_storm_56 : decode cX0_storm 56 = .ok (.iaload, 1) := dk_46 (dk_at dksX0_storm_2 8 rfl rfl)
theorem dX0_storm_57 : decode cX0_storm 57 = .ok (.putfield 388, 3) := dk_181 1 132 (dk_at dksX0_storm_2 9 rfl rfl)
theorem dX0_storm_60 : decode cX0_storm 60 = .ok (.aload_n 2, 1) := dk_44 (dk_at dksX0_storm_2 12 rfl rfl)
theorem dX0_storm_61 : decode cX0_storm 61 = .ok (.aload_n 0, 1) := dk_42 (dk_at dksX0_storm_2 13 rfl rfl)
theorem dX0_storm_62 : decode cX0_storm 62 = .ok (.getfield 67, 3) := dk_180 0 67 (dk_at dksX0_storm_2 14 rfl rfl)
theorem dX0_storm_65 : decode cX0_storm 65 = .ok (.getfield 391, 3) := dk_180 1 135 (dk_at dksX0_storm_2 17 rfl rfl)
theorem dX0_storm_68 : decode cX0_storm 68 = .ok (.iload_n 1, 1) := dk_27 (dk_at dksX0_storm_2 20 rfl rfl)
theorem dX0_storm_69 : decode cX0_storm 69 = .ok (.iaload, 1) := dk_46 (dk_at dksX0_storm_2 21 rfl rfl)
theorem dX0_storm_70 : decode cX0_storm 70 = .ok (.putfield 394, 3) := dk_181 1 138 (dk_at dksX0_storm_3 0 rfl rfl)
theorem dX0_storm_73 : decode cX0_storm 73 = .ok (.aload_n 2, 1) := dk_44 (dk_at dksX0_storm_3 3 rfl rfl)
theorem dX0_storm_74 : decode cX0_storm 74 = .ok (.aload_n 0, 1) := dk_42 (dk_at dksX0_storm_3 4 rfl rfl)
theorem dX0_storm_75 : decode cX0_storm 75 = .ok (.getfield 67, 3) := dk_180 0 67 (dk_at dksX0_storm_3 5 rfl rfl)
theorem dX0_storm_78 : decode cX0_storm 78 = .ok (.getfield 396, 3) := dk_180 1 140 (dk_at dksX0_storm_3 8 rfl rfl)
theorem dX0_storm_81 : decode cX0_storm 81 = .ok (.iload_n 1, 1) := dk_27 (dk_at dksX0_storm_3 11 rfl rfl)
theorem dX0_storm_82 : decode cX0_storm 82 = .ok (.iaload, 1) := dk_46 (dk_at dksX0_storm_3 12 rfl rfl)
theorem dX0_storm_83 : decode cX0_storm 83 = .ok (.putfield 399, 3) := dk_181 1 143 (dk_at dksX0_storm_3 13 rfl rfl)
theorem dX0_storm_86 : decode cX0_storm 86 = .ok (.aload_n 2, 1) := dk_44 (dk_at dksX0_storm_3 16 rfl rfl)
theorem dX0_storm_87 : decode cX0_storm 87 = .ok (.getfield 91, 3) := dk_180 0 91 (dk_at dksX0_storm_3 17 rfl rfl)
theorem dX0_storm_90 : decode cX0_storm 90 = .ok (.ifnonnull 6, 3) := dk_199 0 6 (dk_at dksX0_storm_3 20 rfl rfl)
theorem dX0_storm_93 : decode cX0_storm 93 = .ok (.goto 36, 3) := dk_167 0 36 (dk_at dksX0_storm_4 0 rfl rfl)
theorem dX0_storm_96 : decode cX0_storm 96 = .ok (.aload_n 0, 1) := dk_42 (dk_at dksX0_storm_4 3 rfl rfl)
theorem dX0_storm_97 : decode cX0_storm 97 = .ok (.dup, 1) := dk_89 (dk_at dksX0_storm_4 4 rfl rfl)
theorem dX0_storm_98 : decode cX0_storm 98 = .ok (.getfield 345, 3) := dk_180 1 89 (dk_at dksX0_storm_4 5 rfl rfl)
theorem dX0_storm_101 : decode cX0_storm 101 = .ok (.aload_n 2, 1) := dk_44 (dk_at dksX0_storm_4 8 rfl rfl)
theorem dX0_storm_102 : decode cX0_storm 102 = .ok (.getfield 91, 3) := dk_180 0 91 (dk_at dksX0_storm_4 9 rfl rfl)
theorem dX0_storm_105 : decode cX0_storm 105 = .ok (.getfield 401, 3) := dk_180 1 145 (dk_at dksX0_storm_4 12 rfl rfl)
theorem dX0_storm_108 : decode cX0_storm 108 = .ok (.i2l, 1) := dk_133 (dk_at dksX0_storm_4 15 rfl rfl)
theorem dX0_storm_109 : decode cX0_storm 109 = .ok (.ladd, 1) := dk_97 (dk_at dksX0_storm_4 16 rfl rfl)
theorem dX0_storm_110 : decode cX0_storm 110 = .ok (.putfield 345, 3) := dk_181 1 89 (dk_at dksX0_storm_4 17 rfl rfl)
theorem dX0_storm_113 : decode cX0_storm 113 = .ok (.aload_n 2, 1) := dk_44 (dk_at dksX0_storm_4 20 rfl rfl)
theorem dX0_storm_114 : decode cX0_storm 114 = .ok (.getfield 91, 3) := dk_180 0 91 (dk_at dksX0_storm_4 21 rfl rfl)
theorem dX0_storm_117 : decode cX0_storm 117 = .ok (.aload_n 0, 1) := dk_42 (dk_at dksX0_storm_5 0 rfl rfl)
theorem dX0_storm_118 : decode cX0_storm 118 = .ok (.getfield 67, 3) := dk_180 0 67 (dk_at dksX0_storm_5 1 rfl rfl)
theorem dX0_storm_121 : decode cX0_storm 121 = .ok (.getfield 402, 3) := dk_180 1 146 (dk_at dksX0_storm_5 4 rfl rfl)
theorem dX0_storm_124 : decode cX0_storm 124 = .ok (.iload_n 1, 1) := dk_27 (dk_at dksX0_storm_5 7 rfl rfl)
theorem dX0_storm_125 : decode cX0_storm 125 = .ok (.iaload, 1) := dk_46 (dk_at dksX0_storm_5 8 rfl rfl)
theorem dX0_storm_126 : decode cX0_storm 126 = .ok (.putfield 401, 3) := dk_181 1 145 (dk_at dksX0_storm_5 9 rfl rfl)
theorem dX0_storm_129 : decode cX0_storm 129 = .ok (.iinc 1 1, 3) := dk_132 1 1 (dk_at dksX0_storm_5 12 rfl rfl)
theorem dX0_storm_132 : decode cX0_storm 132 = .ok (.goto (-108), 3) := dk_167 255 148 (dk_at dksX0_storm_5 15 rfl rfl)
theorem dX0_storm_135 : decode cX0_storm 135 = .ok (.iconst 0, 1) := dk_3 (dk_at dksX0_storm_5 18 rfl rfl)
theorem dX0_storm_136 : decode cX0_storm 136 = .ok (.istore_n 1, 1) := dk_60 (dk_at dksX0_storm_5 19 rfl rfl)
theorem dX0_storm_137 : decode cX0_storm 137 = .ok (.iload_n 1, 1) := dk_27 (dk_at dksX0_storm_5 20 rfl rfl)
theorem dX0_storm_138 : decode cX0_storm 138 = .ok (.aload_n 0, 1) := dk_42 (dk_at dksX0_storm_5 21 rfl rfl)
theorem dX0_storm_139 : decode cX0_storm 139 = .ok (.getfield 24, 3) := dk_180 0 24 (dk_at dksX0_storm_6 0 rfl rfl)
theorem dX0_storm_142 : decode cX0_storm 142 = .ok (.invokevirtual 77, 3) := dk_182 0 77 (dk_at dksX0_storm_6 3 rfl rfl)
theorem dX0_storm_145 : decode cX0_storm 145 = .ok (.if_icmp .ge 32, 3) := dk_162 0 32 (dk_at dksX0_storm_6 6 rfl rfl)
theorem dX0_storm_148 : decode cX0_storm 148 = .ok (.aload_n 0, 1) := dk_42 (dk_at dksX0_storm_6 9 rfl rfl)
theorem dX0_storm_149 : decode cX0_storm 149 = .ok (.getfield 24, 3) := dk_180 0 24 (dk_at dksX0_storm_6 10 rfl rfl)
theorem dX0_storm_152 : decode cX0_storm 152 = .ok (.iload_n 1, 1) := dk_27 (dk_at dksX0_storm_6 13 rfl rfl)
theorem dX0_storm_153 : decode cX0_storm 153 = .ok (.invokevirtual 81, 3) := dk_182 0 81 (dk_at dksX0_storm_6 14 rfl rfl)
theorem dX0_storm_156 : decode cX0_storm 156 = .ok (.checkcast 95, 3) := dk_192 0 95 (dk_at dksX0_storm_6 17 rfl rfl)
theorem dX0_storm_159 : decode cX0_storm 159 = .ok (.aload_n 0, 1) := dk_42 (dk_at dksX0_storm_6 20 rfl rfl)
theorem dX0_storm_160 : decode cX0_storm 160 = .ok (.getfield 67, 3) := dk_180 0 67 (dk_at dksX0_storm_6 21 rfl rfl)
theorem dX0_storm_163 : decode cX0_storm 163 = .ok (.getfield 405, 3) := dk_180 1 149 (dk_at dksX0_storm_7 0 rfl rfl)
theorem dX0_storm_166 : decode cX0_storm 166 = .ok (.iload_n 1, 1) := dk_27 (dk_at dksX0_storm_7 3 rfl rfl)
theorem dX0_storm_167 : decode cX0_storm 167 = .ok (.iaload, 1) := dk_46 (dk_at dksX0_storm_7 4 rfl rfl)
theorem dX0_storm_168 : decode cX0_storm 168 = .ok (.putfield 368, 3) := dk_181 1 112 (dk_at dksX0_storm_7 5 rfl rfl)
theorem dX0_storm_171 : decode cX0_storm 171 = .ok (.iinc 1 1, 3) := dk_132 1 1 (dk_at dksX0_storm_7 8 rfl rfl)
theorem dX0_storm_174 : decode cX0_storm 174 = .ok (.goto (-37), 3) := dk_167 255 219 (dk_at dksX0_storm_7 11 rfl rfl)
theorem dX0_storm_177 : decode cX0_storm 177 = .ok (.aload_n 0, 1) := dk_42 (dk_at dksX0_storm_7 14 rfl rfl)
theorem dX0_storm_178 : decode cX0_storm 178 = .ok (.dup, 1) := dk_89 (dk_at dksX0_storm_7 15 rfl rfl)
theorem dX0_storm_179 : decode cX0_storm 179 = .ok (.getfield 408, 3) := dk_180 1 152 (dk_at dksX0_storm_7 16 rfl rfl)
theorem dX0_storm_182 : decode cX0_storm 182 = .ok (.aload_n 0, 1) := dk_42 (dk_at dksX0_storm_7 19 rfl rfl)
theorem dX0_storm_183 : decode cX0_storm 183 = .ok (.getfield 67, 3) := dk_180 0 67 (dk_at dksX0_storm_7 20 rfl rfl)
theorem dX0_storm_186 : decode cX0_storm 186 = .ok (.getfield 411, 3) := dk_180 1 155 (dk_at dksX0_storm_8 0 rfl rfl)
theorem dX0_storm_189 : decode cX0_storm 189 = .ok (.ladd, 1) := dk_97 (dk_at dksX0_storm_8 3 rfl rfl)
theorem dX0_storm_190 : decode cX0_storm 190 = .ok (.putfield 408, 3) := dk_181 1 152 (dk_at dksX0_storm_8 4 rfl rfl)
theorem dX0_storm_193 : decode cX0_storm 193 = .ok (.aload_n 0, 1) := dk_42 (dk_at dksX0_storm_8 7 rfl rfl)
theorem dX0_storm_194 : decode cX0_storm 194 = .ok (.dup, 1) := dk_89 (dk_at dksX0_storm_8 8 rfl rfl)
theorem dX0_storm_195 : decode cX0_storm 195 = .ok (.getfield 345, 3) := dk_180 1 89 (dk_at dksX0_storm_8 9 rfl rfl)
theorem dX0_storm_198 : decode cX0_storm 198 = .ok (.aload_n 0, 1) := dk_42 (dk_at dksX0_storm_8 12 rfl rfl)
theorem dX0_storm_199 : decode cX0_storm 199 = .ok (.getfield 67, 3) := dk_180 0 67 (dk_at dksX0_storm_8 13 rfl rfl)
theorem dX0_storm_202 : decode cX0_storm 202 = .ok (.getfield 414, 3) := dk_180 1 158 (dk_at dksX0_storm_8 16 rfl rfl)
theorem dX0_storm_205 : decode cX0_storm 205 = .ok (.ladd, 1) := dk_97 (dk_at dksX0_storm_8 19 rfl rfl)
theorem dX0_storm_206 : decode cX0_storm 206 = .ok (.putfield 345, 3) := dk_181 1 89 (dk_at dksX0_storm_8 20 rfl rfl)
theorem dX0_storm_209 : decode cX0_storm 209 = .ok (.aload_n 0, 1) := dk_42 (dk_at dksX0_storm_8 23 rfl rfl)
theorem dX0_storm_210 : decode cX0_storm 210 = .ok (.dup, 1) := dk_89 (dk_at dksX0_storm_9 0 rfl rfl)
theorem dX0_storm_211 : decode cX0_storm 211 = .ok (.getfield 416, 3) := dk_180 1 160 (dk_at dksX0_storm_9 1 rfl rfl)
theorem dX0_storm_214 : decode cX0_storm 214 = .ok (.aload_n 0, 1) := dk_42 (dk_at dksX0_storm_9 4 rfl rfl)
theorem dX0_storm_215 : decode cX0_storm 215 = .ok (.getfield 67, 3) := dk_180 0 67 (dk_at dksX0_storm_9 5 rfl rfl)
theorem dX0_storm_218 : decode cX0_storm 218 = .ok (.getfield 418, 3) := dk_180 1 162 (dk_at dksX0_storm_9 8 rfl rfl)
theorem dX0_storm_221 : decode cX0_storm 221 = .ok (.ladd, 1) := dk_97 (dk_at dksX0_storm_9 11 rfl rfl)
theorem dX0_storm_222 : decode cX0_storm 222 = .ok (.putfield 416, 3) := dk_181 1 160 (dk_at dksX0_storm_9 12 rfl rfl)
theorem dX0_storm_225 : decode cX0_storm 225 = .ok (.aload_n 0, 1) := dk_42 (dk_at dksX0_storm_9 15 rfl rfl)
theorem dX0_storm_226 : decode cX0_storm 226 = .ok (.dup, 1) := dk_89 (dk_at dksX0_storm_9 16 rfl rfl)
theorem dX0_storm_227 : decode cX0_storm 227 = .ok (.getfield 421, 3) := dk_180 1 165 (dk_at dksX0_storm_9 17 rfl rfl)
theorem dX0_storm_230 : decode cX0_storm 230 = .ok (.aload_n 0, 1) := dk_42 (dk_at dksX0_storm_9 20 rfl rfl)
theorem dX0_storm_231 : decode cX0_storm 231 = .ok (.getfield 67, 3) := dk_180 0 67 (dk_at dksX0_storm_9 21 rfl rfl)
theorem dX0_storm_234 : decode cX0_storm 234 = .ok (.getfield 424, 3) := dk_180 1 168 (dk_at dksX0_storm_10 0 rfl rfl)
theorem dX0_storm_237 : decode cX0_storm 237 = .ok (.ladd, 1) := dk_97 (dk_at dksX0_storm_10 3 rfl rfl)
theorem dX0_storm_238 : decode cX0_storm 238 = .ok (.putfield 421, 3) := dk_181 1 165 (dk_at dksX0_storm_10 4 rfl rfl)
theorem dX0_storm_241 : decode cX0_storm 241 = .ok (.aload_n 0, 1) := dk_42 (dk_at dksX0_storm_10 7 rfl rfl)
theorem dX0_storm_242 : decode cX0_storm 242 = .ok (.getfield 71, 3) := dk_180 0 71 (dk_at dksX0_storm_10 8 rfl rfl)
theorem dX0_storm_245 : decode cX0_storm 245 = .ok (.new 427, 3) := dk_187 1 171 (dk_at dksX0_storm_10 11 rfl rfl)
theorem dX0_storm_248 : decode cX0_storm 248 = .ok (.dup, 1) := dk_89 (dk_at dksX0_storm_10 14 rfl rfl)
theorem dX0_storm_249 : decode cX0_storm 249 = .ok (.aload_n 0, 1) := dk_42 (dk_at dksX0_storm_10 15 rfl rfl)
theorem dX0_storm_250 : decode cX0_storm 250 = .ok (.getfield 119, 3) := dk_180 0 119 (dk_at dksX0_storm_10 16 rfl rfl)
theorem dX0_storm_253 : decode cX0_storm 253 = .ok (.aload_n 0, 1) := dk_42 (dk_at dksX0_storm_10 19 rfl rfl)
theorem dX0_storm_254 : decode cX0_storm 254 = .ok (.getfield 67, 3) := dk_180 0 67 (dk_at dksX0_storm_10 20 rfl rfl)
theorem dX0_storm_257 : decode cX0_storm 257 = .ok (.getfield 411, 3) := dk_180 1 155 (dk_at dksX0_storm_11 0 rfl rfl)
theorem dX0_storm_260 : decode cX0_storm 260 = .ok (.aload_n 0, 1) := dk_42 (dk_at dksX0_storm_11 3 rfl rfl)
theorem dX0_storm_261 : decode cX0_storm 261 = .ok (.getfield 67, 3) := dk_180 0 67 (dk_at dksX0_storm_11 4 rfl rfl)
theorem dX0_storm_264 : decode cX0_storm 264 = .ok (.getfield 418, 3) := dk_180 1 162 (dk_at dksX0_storm_11 7 rfl rfl)
theorem dX0_storm_267 : decode cX0_storm 267 = .ok (.aload_n 0, 1) := dk_42 (dk_at dksX0_storm_11 10 rfl rfl)
theorem dX0_storm_268 : decode cX0_storm 268 = .ok (.getfield 67, 3) := dk_180 0 67 (dk_at dksX0_storm_11 11 rfl rfl)
theorem dX0_storm_271 : decode cX0_storm 271 = .ok (.getfield 429, 3) := dk_180 1 173 (dk_at dksX0_storm_11 14 rfl rfl)
theorem dX0_storm_274 : decode cX0_storm 274 = .ok (.aload_n 0, 1) := dk_42 (dk_at dksX0_storm_11 17 rfl rfl)
theorem dX0_storm_275 : decode cX0_storm 275 = .ok (.getfield 67, 3) := dk_180 0 67 (dk_at dksX0_storm_11 18 rfl rfl)
theorem dX0_storm_278 : decode cX0_storm 278 = .ok (.getfield 432, 3) := dk_180 1 176 (dk_at dksX0_storm_11 21 rfl rfl)
theorem dX0_storm_281 : decode cX0_storm 281 = .ok (.invokespecial 435, 3) := dk_183 1 179 (dk_at dksX0_storm_12 0 rfl rfl)
theorem dX0_storm_284 : decode cX0_storm 284 = .ok (.invokevirtual 100, 3) := dk_182 0 100 (dk_at dksX0_storm_12 3 rfl rfl)
theorem dX0_storm_287 : decode cX0_storm 287 = .ok (.pop, 1) := dk_87 (dk_at dksX0_storm_12 6 rfl rfl)
theorem dX0_storm_288 : decode cX0_storm 288 = .ok (.aload_n 0, 1) := dk_42 (dk_at dksX0_storm_12 7 rfl rfl)
theorem dX0_storm_289 : decode cX0_storm 289 = .ok (.getfield 71, 3) := dk_180 0 71 (dk_at dksX0_storm_12 8 rfl rfl)
theorem dX0_storm_292 : decode cX0_storm 292 = .ok (.invokevirtual 77, 3) := dk_182 0 77 (dk_at dksX0_storm_12 11 rfl rfl)
theorem dX0_storm_295 : decode cX0_storm 295 = .ok (.iconst 1, 1) := dk_4 (dk_at dksX0_storm_12 14 rfl rfl)
theorem dX0_storm_296 : decode cX0_storm 296 = .ok (.isub, 1) := dk_100 (dk_at dksX0_storm_12 15 rfl rfl)
theorem dX0_storm_297 : decode cX0_storm 297 = .ok (.ireturn, 1) := dk_172 (dk_at dksX0_storm_12 16 rfl rfl)
def dkwX0_stormOf_4 : List UInt8 := [182, 1, 193, 133, 173, 20, 1, 182, 173]
abbrev dktX0_stormOf_4 : List UInt8 := dkwX0_stormOf_4 ++ []
def dkwX0_stormOf_3 : List UInt8 := [45, 182, 1, 184, 133, 173, 45, 182, 1, 186, 173, 45, 182, 1, 189, 173, 45, 182, 1, 191, 133, 173, 45]
abbrev dktX0_stormOf_3 : List UInt8 := dkwX0_stormOf_3 ++ dktX0_stormOf_4
def dkwX0_stormOf_2 : List UInt8 := [170, 0, 0, 0, 0, 62, 0, 0, 0, 0, 0, 0, 0, 4, 0, 0, 0, 34, 0, 0, 0, 40, 0, 0, 0, 45, 0, 0, 0, 50, 0, 0, 0, 56]
abbrev dktX0_stormOf_2 : List UInt8 := dkwX0_stormOf_2 ++ dktX0_stormOf_3
def dkwX0_stormOf_1 : List UInt8 := [180, 0, 71, 27, 182, 0, 81, 192, 1, 171, 78, 28]
abbrev dktX0_stormOf_1 : List UInt8 := dkwX0_stormOf_1 ++ dktX0_stormOf_2
def dkwX0_stormOf_0 : List UInt8 := [27, 3, 42, 180, 0, 71, 182, 0, 77, 4, 100, 184, 0, 3, 154, 0, 7, 20, 1, 182, 173, 42]
abbrev dktX0_stormOf_0 : List UInt8 := dkwX0_stormOf_0 ++ dktX0_stormOf_1
theorem dksX0_stormOf_0 : cX0_stormOf.data.toList.drop 0 = dktX0_stormOf_0 := by decide +kernel
theorem dksX0_stormOf_1 : cX0_stormOf.data.toList.drop 22 = dktX0_stormOf_1 := dk_seg dksX0_stormOf_0 22 rfl rfl
theorem dksX0_stormOf_2 : cX0_stormOf.data.toList.drop 34 = dktX0_stormOf_2 := dk_seg dksX0_stormOf_1 12 rfl rfl
theorem dksX0_stormOf_3 : cX0_stormOf.data.toList.drop 68 = dktX0_stormOf_3 := dk_seg dksX0_stormOf_2 34 rfl rfl
theorem dksX0_stormOf_4 : cX0_stormOf.data.toList.drop 91 = dktX0_stormOf_4 := dk_seg dksX0_stormOf_3 23 rfl rfl
theorem dX0_stormOf_0 : decode cX0_stormOf 0 = .ok (.iload_n 1, 1) := dk_27 (dk_at dksX0_stormOf_0 0 rfl rfl)
theorem dX0_stormOf_1 : decode cX0_stormOf 1 = .ok (.iconst 0, 1) := dk_3 (dk_at dksX0_stormOf_0 1 rfl rfl)
theorem dX0_stormOf_2 : decode cX0_stormOf 2 = .ok (.aload_n 0, 1) := dk_42 (dk_at dksX0_stormOf_0 2 rfl rfl)
theorem dX0_stormOf_3 : decode cX0_stormOf 3 = .ok (.getfield 71, 3) := dk_180 0 71 (dk_at dksX0_stormOf_0 3 rfl rfl)
theorem dX0_stormOf_6 : decode cX0_stormOf 6 = .ok (.invokevirtual 77, 3) := dk_182 0 77 (dk_at dksX0_stormOf_0 6 rfl rfl)
theorem dX0_stormOf_9 : decode cX0_stormOf 9 = .ok (.iconst 1, 1) := dk_4 (dk_at dksX0_stormOf_0 9 rfl rfl)
theorem dX0_stormOf_10 : decode cX0_stormOf 10 = .ok (.isub, 1) := dk_100 (dk_at dksX0_stormOf_0 10 rfl rfl)
theorem dX0_stormOf_11 : decode cX0_stormOf 11 = .ok (.invokestatic 3, 3) := dk_184 0 3 (dk_at dksX0_stormOf_0 11 rfl rfl)
theorem dX0_stormOf_14 : decode cX0_stormOf 14 = .ok (.ifCond .ne 7, 3) := dk_154 0 7 (dk_at dksX0_stormOf_0 14 rfl rfl)
theorem dX0_stormOf_17 : decode cX0_stormOf 17 = .ok (.ldc2_w 438, 3) := dk_20 1 182 (dk_at dksX0_stormOf_0 17 rfl rfl)
theorem dX0_stormOf_20 : decode cX0_stormOf 20 = .ok (.lreturn, 1) := dk_173 (dk_at dksX0_stormOf_0 20 rfl rfl)
theorem dX0_stormOf_21 : decode cX0_stormOf 21 = .ok (.aload_n 0, 1) := dk_42 (dk_at dksX0_stormOf_0 21 rfl rfl)
theorem dX0_stormOf_22 : decode cX0_stormOf 22 = .ok (.getfield 71, 3) := dk_180 0 71 (dk_at dksX0_stormOf_1 0 rfl rfl)
theorem dX0_stormOf_25 : decode cX0_stormOf 25 = .ok (.iload_n 1, 1) := dk_27 (dk_at dksX0_stormOf_1 3 rfl rfl)
theorem dX0_stormOf_26 : decode cX0_stormOf 26 = .ok (.invokevirtual 81, 3) := dk_182 0 81 (dk_at dksX0_stormOf_1 4 rfl rfl)
theorem dX0_stormOf_29 : decode cX0_stormOf 29 = .ok (.checkcast 427, 3) := dk_192 1 171 (dk_at dksX0_stormOf_1 7 rfl rfl)
theorem dX0_stormOf_32 : decode cX0_stormOf 32 = .ok (.astore_n 3, 1) := dk_78 (dk_at dksX0_stormOf_1 10 rfl rfl)
theorem dX0_stormOf_33 : decode cX0_stormOf 33 = .ok (.iload_n 2, 1) := dk_28 (dk_at dksX0_stormOf_1 11 rfl rfl)
theorem dX0_stormOf_34 : decode cX0_stormOf 34 = .ok (.tableswitch 62 0 4 #[34, 40, 45, 50, 56], 34) := by decide +kernel
theorem dX0_stormOf_68 : decode cX0_stormOf 68 = .ok (.aload_n 3, 1) := dk_45 (dk_at dksX0_stormOf_3 0 rfl rfl)
theorem dX0_stormOf_69 : decode cX0_stormOf 69 = .ok (.invokevirtual 440, 3) := dk_182 1 184 (dk_at dksX0_stormOf_3 1 rfl rfl)
theorem dX0_stormOf_72 : decode cX0_stormOf 72 = .ok (.i2l, 1) := dk_133 (dk_at dksX0_stormOf_3 4 rfl rfl)
theorem dX0_stormOf_73 : decode cX0_stormOf 73 = .ok (.lreturn, 1) := dk_173 (dk_at dksX0_stormOf_3 5 rfl rfl)
theorem dX0_stormOf_74 : decode cX0_stormOf 74 = .ok (.aload_n 3, 1) := dk_45 (dk_at dksX0_stormOf_3 6 rfl rfl)
theorem dX0_stormOf_75 : decode cX0_stormOf 75 = .ok (.invokevirtual 442, 3) := dk_182 1 186 (dk_at dksX0_stormOf_3 7 rfl rfl)
theorem dX0_stormOf_78 : decode cX0_stormOf 78 = .ok (.lreturn, 1) := dk_173 (dk_at dksX0_stormOf_3 10 rfl rfl)
theorem dX0_stormOf_79 : decode cX0_stormOf 79 = .ok (.aload_n 3, 1) := dk_45 (dk_at dksX0_stormOf_3 11 rfl rfl)
theorem dX0_stormOf_80 : decode cX0_stormOf 80 = .ok (.invokevirtual 445, 3) := dk_182 1 189 (dk_at dksX0_stormOf_3 12 rfl rfl)
theorem dX0_stormOf_83 : decode cX0_stormOf 83 = .ok (.lreturn, 1) := dk_173 (dk_at dksX0_stormOf_3 15 rfl rfl)
theorem dX0_stormOf_84 : decode cX0_stormOf 84 = .ok (.aload_n 3, 1) := dk_45 (dk_at dksX0_stormOf_3 16 rfl rfl)
theorem dX0_stormOf_85 : decode cX0_stormOf 85 = .ok (.invokevirtual 447, 3) := dk_182 1 191 (dk_at dksX0_stormOf_3 17 rfl rfl)
theorem dX0_stormOf_88 : decode cX0_stormOf 88 = .ok (.i2l, 1) := dk_133 (dk_at dksX0_stormOf_3 20 rfl rfl)
theorem dX0_stormOf_89 : decode cX0_stormOf 89 = .ok (.lreturn, 1) := dk_173 (dk_at dksX0_stormOf_3 21 rfl rfl)
theorem dX0_stormOf_90 : decode cX0_stormOf 90 = .ok (.aload_n 3, 1) := dk_45 (dk_at dksX0_stormOf_3 22 rfl rfl)
theorem dX0_stormOf_91 : decode cX0_stormOf 91 = .ok (.invokevirtual 449, 3) := dk_182 1 193 (dk_at dksX0_stormOf_4 0 rfl rfl)
theorem dX0_stormOf_94 : decode cX0_stormOf 94 = .ok (.i2l, 1) := dk_133 (dk_at dksX0_stormOf_4 3 rfl rfl)
theorem dX0_stormOf_95 : decode cX0_stormOf 95 = .ok (.lreturn, 1) := dk_173 (dk_at dksX0_stormOf_4 4 rfl rfl)
theorem dX0_stormOf_96 : decode cX0_stormOf 96 = .ok (.ldc2_w 438, 3) := dk_20 1 182 (dk_at dksX0_stormOf_4 5 rfl rfl)
theorem dX0_stormOf_99 : decode cX0_stormOf 99 = .ok (.lreturn, 1) := dk_173 (dk_at dksX0_stormOf_4 8 rfl rfl)
def dkwX0_tried_2 : List UInt8 := [167, 0, 11, 42, 180, 0, 67, 180, 1, 173, 133, 173]
abbrev dktX0_tried_2 : List UInt8 := dkwX0_tried_2 ++ []
def dkwX0_tried_1 : List UInt8 := [20, 1, 182, 173, 42, 180, 0, 67, 27, 182, 1, 126, 28, 154, 0, 13, 42, 180, 0, 67, 180, 1, 162]
abbrev dktX0_tried_1 : List UInt8 := dkwX0_tried_1 ++ dktX0_tried_2
def dkwX0_tried_0 : List UInt8 := [27, 155, 0, 23, 27, 42, 182, 1, 195, 2, 130, 126, 154, 0, 12, 28, 3, 4, 184, 0, 3, 154, 0, 7]
abbrev dktX0_tried_0 : List UInt8 := dkwX0_tried_0 ++ dktX0_tried_1
theorem dksX0_tried_0 : cX0_tried.data.toList.drop 0 = dktX0_tried_0 := by decide +kernel
theorem dksX0_tried_1 : cX0_tried.data.toList.drop 24 = dktX0_tried_1 := dk_seg dksX0_tried_0 24 rfl rfl
theorem dksX0_tried_2 : cX0_tried.data.toList.drop 47 = dktX0_tried_2 := dk_seg dksX0_tried_1 23 rfl rfl
theorem dX0_tried_0 : decode cX0_tried 0 = .ok (.iload_n 1, 1) := dk_27 (dk_at dksX0_tried_0 0 rfl rfl)
theorem dX0_tried_1 : decode cX0_tried 1 = .ok (.ifCond .lt 23, 3) := dk_155 0 23 (dk_at dksX0_tried_0 1 rfl rfl)
theorem dX0_tried_4 : decode cX0_tried 4 = .ok (.iload_n 1, 1) := dk_27 (dk_at dksX0_tried_0 4 rfl rfl)
theorem dX0_tried_5 : decode cX0_tried 5 = .ok (.aload_n 0, 1) := dk_42 (dk_at dksX0_tried_0 5 rfl rfl)
theorem dX0_tried_6 : decode cX0_tried 6 = .ok (.invokevirtual 451, 3) := dk_182 1 195 (dk_at dksX0_tried_0 6 rfl rfl)
theorem dX0_tried_9 : decode cX0_tried 9 = .ok (.iconst (-1), 1) := dk_2 (dk_at dksX0_tried_0 9 rfl rfl)
theorem dX0_tried_10 : decode cX0_tried 10 = .ok (.ixor, 1) := dk_130 (dk_at dksX0_tried_0 10 rfl rfl)
theorem dX0_tried_11 : decode cX0_tried 11 = .ok (.iand, 1) := dk_126 (dk_at dksX0_tried_0 11 rfl rfl)
theorem dX0_tried_12 : decode cX0_tried 12 = .ok (.ifCond .ne 12, 3) := dk_154 0 12 (dk_at dksX0_tried_0 12 rfl rfl)
theorem dX0_tried_15 : decode cX0_tried 15 = .ok (.iload_n 2, 1) := dk_28 (dk_at dksX0_tried_0 15 rfl rfl)
theorem dX0_tried_16 : decode cX0_tried 16 = .ok (.iconst 0, 1) := dk_3 (dk_at dksX0_tried_0 16 rfl rfl)
theorem dX0_tried_17 : decode cX0_tried 17 = .ok (.iconst 1, 1) := dk_4 (dk_at dksX0_tried_0 17 rfl rfl)
theorem dX0_tried_18 : decode cX0_tried 18 = .ok (.invokestatic 3, 3) := dk_184 0 3 (dk_at dksX0_tried_0 18 rfl rfl)
theorem dX0_tried_21 : decode cX0_tried 21 = .ok (.ifCond .ne 7, 3) := dk_154 0 7 (dk_at dksX0_tried_0 21 rfl rfl)
theorem dX0_tried_24 : decode cX0_tried 24 = .ok (.ldc2_w 438, 3) := dk_20 1 182 (dk_at dksX0_tried_1 0 rfl rfl)
theorem dX0_tried_27 : decode cX0_tried 27 = .ok (.lreturn, 1) := dk_173 (dk_at dksX0_tried_1 3 rfl rfl)
theorem dX0_tried_28 : decode cX0_tried 28 = .ok (.aload_n 0, 1) := dk_42 (dk_at dksX0_tried_1 4 rfl rfl)
theorem dX0_tried_29 : decode cX0_tried 29 = .ok (.getfield 67, 3) := dk_180 0 67 (dk_at dksX0_tried_1 5 rfl rfl)
theorem dX0_tried_32 : decode cX0_tried 32 = .ok (.iload_n 1, 1) := dk_27 (dk_at dksX0_tried_1 8 rfl rfl)
theorem dX0_tried_33 : decode cX0_tried 33 = .ok (.invokevirtual 382, 3) := dk_182 1 126 (dk_at dksX0_tried_1 9 rfl rfl)
theorem dX0_tried_36 : decode cX0_tried 36 = .ok (.iload_n 2, 1) := dk_28 (dk_at dksX0_tried_1 12 rfl rfl)
theorem dX0_tried_37 : decode cX0_tried 37 = .ok (.ifCond .ne 13, 3) := dk_154 0 13 (dk_at dksX0_tried_1 13 rfl rfl)
theorem dX0_tried_40 : decode cX0_tried 40 = .ok (.aload_n 0, 1) := dk_42 (dk_at dksX0_tried_1 16 rfl rfl)
theorem dX0_tried_41 : decode cX0_tried 41 = .ok (.getfield 67, 3) := dk_180 0 67 (dk_at dksX0_tried_1 17 rfl rfl)
theorem dX0_tried_44 : decode cX0_tried 44 = .ok (.getfield 418, 3) := dk_180 1 162 (dk_at dksX0_tried_1 20 rfl rfl)
theorem dX0_tried_47 : decode cX0_tried 47 = .ok (.goto 11, 3) := dk_167 0 11 (dk_at dksX0_tried_2 0 rfl rfl)
theorem dX0_tried_50 : decode cX0_tried 50 = .ok (.aload_n 0, 1) := dk_42 (dk_at dksX0_tried_2 3 rfl rfl)
theorem dX0_tried_51 : decode cX0_tried 51 = .ok (.getfield 67, 3) := dk_180 0 67 (dk_at dksX0_tried_2 4 rfl rfl)
theorem dX0_tried_54 : decode cX0_tried 54 = .ok (.getfield 429, 3) := dk_180 1 173 (dk_at dksX0_tried_2 7 rfl rfl)
theorem dX0_tried_57 : decode cX0_tried 57 = .ok (.i2l, 1) := dk_133 (dk_at dksX0_tried_2 10 rfl rfl)
theorem dX0_tried_58 : decode cX0_tried 58 = .ok (.lreturn, 1) := dk_173 (dk_at dksX0_tried_2 11 rfl rfl)
def dkwX0_free_2 : List UInt8 := [27, 172]
abbrev dktX0_free_2 : List UInt8 := dkwX0_free_2 ++ []
def dkwX0_free_1 : List UInt8 := [192, 0, 85, 180, 0, 91, 199, 0, 9, 4, 28, 120, 167, 0, 4, 3, 128, 60, 132, 2, 1, 167, 255, 215]
abbrev dktX0_free_1 : List UInt8 := dkwX0_free_1 ++ dktX0_free_2
def dkwX0_free_0 : List UInt8 := [3, 60, 3, 61, 28, 42, 180, 0, 20, 182, 0, 77, 162, 0, 36, 27, 42, 180, 0, 20, 28, 182, 0, 81]
abbrev dktX0_free_0 : List UInt8 := dkwX0_free_0 ++ dktX0_free_1
theorem dksX0_free_0 : cX0_free.data.toList.drop 0 = dktX0_free_0 := by decide +kernel
theorem dksX0_free_1 : cX0_free.data.toList.drop 24 = dktX0_free_1 := dk_seg dksX0_free_0 24 rfl rfl
theorem dksX0_free_2 : cX0_free.data.toList.drop 48 = dktX0_free_2 := dk_seg dksX0_free_1 24 rfl rfl
theorem dX0_free_0 : decode cX0_free 0 = .ok (.iconst 0, 1) := dk_3 (dk_at dksX0_free_0 0 rfl rfl)
theorem dX0_free_1 : decode cX0_free 1 = .ok (.istore_n 1, 1) := dk_60 (dk_at dksX0_free_0 1 rfl rfl)
theorem dX0_free_2 : decode cX0_free 2 = .ok (.iconst 0, 1) := dk_3 (dk_at dksX0_free_0 2 rfl rfl)
theorem dX0_free_3 : decode cX0_free 3 = .ok (.istore_n 2, 1) := dk_61 (dk_at dksX0_free_0 3 rfl rfl)
theorem dX0_free_4 : decode cX0_free 4 = .ok (.iload_n 2, 1) := dk_28 (dk_at dksX0_free_0 4 rfl rfl)
theorem dX0_free_5 : decode cX0_free 5 = .ok (.aload_n 0, 1) := dk_42 (dk_at dksX0_free_0 5 rfl rfl)
theorem dX0_free_6 : decode cX0_free 6 = .ok (.getfield 20, 3) := dk_180 0 20 (dk_at dksX0_free_0 6 rfl rfl)
theorem dX0_free_9 : decode cX0_free 9 = .ok (.invokevirtual 77, 3) := dk_182 0 77 (dk_at dksX0_free_0 9 rfl rfl)
theorem dX0_free_12 : decode cX0_free 12 = .ok (.if_icmp .ge 36, 3) := dk_162 0 36 (dk_at dksX0_free_0 12 rfl rfl)
theorem dX0_free_15 : decode cX0_free 15 = .ok (.iload_n 1, 1) := dk_27 (dk_at dksX0_free_0 15 rfl rfl)
theorem dX0_free_16 : decode cX0_free 16 = .ok (.aload_n 0, 1) := dk_42 (dk_at dksX0_free_0 16 rfl rfl)
theorem dX0_free_17 : decode cX0_free 17 = .ok (.getfield 20, 3) := dk_180 0 20 (dk_at dksX0_free_0 17 rfl rfl)
theorem dX0_free_20 : decode cX0_free 20 = .ok (.iload_n 2, 1) := dk_28 (dk_at dksX0_free_0 20 rfl rfl)
theorem dX0_free_21 : decode cX0_free 21 = .ok (.invokevirtual 81, 3) := dk_182 0 81 (dk_at dksX0_free_0 21 rfl rfl)
theorem dX0_free_24 : decode cX0_free 24 = .ok (.checkcast 85, 3) := dk_192 0 85 (dk_at dksX0_free_1 0 rfl rfl)
theorem dX0_free_27 : decode cX0_free 27 = .ok (.getfield 91, 3) := dk_180 0 91 (dk_at dksX0_free_1 3 rfl rfl)
theorem dX0_free_30 : decode cX0_free 30 = .ok (.ifnonnull 9, 3) := dk_199 0 9 (dk_at dksX0_free_1 6 rfl rfl)
theorem dX0_free_33 : decode cX0_free 33 = .ok (.iconst 1, 1) := dk_4 (dk_at dksX0_free_1 9 rfl rfl)
theorem dX0_free_34 : decode cX0_free 34 = .ok (.iload_n 2, 1) := dk_28 (dk_at dksX0_free_1 10 rfl rfl)
theorem dX0_free_35 : decode cX0_free 35 = .ok (.ishl, 1) := dk_120 (dk_at dksX0_free_1 11 rfl rfl)
theorem dX0_free_36 : decode cX0_free 36 = .ok (.goto 4, 3) := dk_167 0 4 (dk_at dksX0_free_1 12 rfl rfl)
theorem dX0_free_39 : decode cX0_free 39 = .ok (.iconst 0, 1) := dk_3 (dk_at dksX0_free_1 15 rfl rfl)
theorem dX0_free_40 : decode cX0_free 40 = .ok (.ior, 1) := dk_128 (dk_at dksX0_free_1 16 rfl rfl)
theorem dX0_free_41 : decode cX0_free 41 = .ok (.istore_n 1, 1) := dk_60 (dk_at dksX0_free_1 17 rfl rfl)
theorem dX0_free_42 : decode cX0_free 42 = .ok (.iinc 2 1, 3) := dk_132 2 1 (dk_at dksX0_free_1 18 rfl rfl)
theorem dX0_free_45 : decode cX0_free 45 = .ok (.goto (-41), 3) := dk_167 255 215 (dk_at dksX0_free_1 21 rfl rfl)
theorem dX0_free_48 : decode cX0_free 48 = .ok (.iload_n 1, 1) := dk_27 (dk_at dksX0_free_2 0 rfl rfl)
theorem dX0_free_49 : decode cX0_free 49 = .ok (.ireturn, 1) := dk_172 (dk_at dksX0_free_2 1 rfl rfl)
def dkwX0_best_14 : List UInt8 := [180, 1, 162, 173, 42, 180, 0, 67, 180, 1, 173, 133, 173]
abbrev dktX0_best_14 : List UInt8 := dkwX0_best_14 ++ []
def dkwX0_best_13 : List UInt8 := [22, 9, 173, 21, 8, 133, 173, 21, 8, 184, 1, 199, 133, 21, 6, 133, 105, 173, 42, 180, 0, 67]
abbrev dktX0_best_13 : List UInt8 := dkwX0_best_13 ++ dktX0_best_14
def dkwX0_best_12 : List UInt8 := [170, 0, 0, 0, 0, 56, 0, 0, 0, 0, 0, 0, 0, 3, 0, 0, 0, 30, 0, 0, 0, 33, 0, 0, 0, 37, 0, 0, 0, 48]
abbrev dktX0_best_12 : List UInt8 := dkwX0_best_12 ++ dktX0_best_13
def dkwX0_best_11 : List UInt8 := [180, 0, 67, 21, 8, 182, 1, 126, 21, 4]
abbrev dktX0_best_11 : List UInt8 := dkwX0_best_11 ++ dktX0_best_12
def dkwX0_best_10 : List UInt8 := [21, 11, 54, 8, 132, 11, 1, 167, 255, 107, 22, 9, 9, 148, 156, 0, 7, 20, 1, 182, 173, 42]
abbrev dktX0_best_10 : List UInt8 := dkwX0_best_10 ++ dktX0_best_11
def dkwX0_best_9 : List UInt8 := [22, 9, 148, 154, 0, 16, 21, 12, 21, 8, 184, 1, 199, 161, 0, 6, 167, 0, 11, 22, 13, 55, 9]
abbrev dktX0_best_9 : List UInt8 := dkwX0_best_9 ++ dktX0_best_10
def dkwX0_best_8 : List UInt8 := [180, 1, 162, 97, 55, 13, 22, 9, 9, 148, 155, 0, 32, 22, 13, 22, 9, 148, 157, 0, 32, 22, 13]
abbrev dktX0_best_8 : List UInt8 := dkwX0_best_8 ++ dktX0_best_9
def dkwX0_best_7 : List UInt8 := [180, 0, 67, 21, 11, 182, 1, 126, 29, 133, 42, 180, 0, 67, 180, 1, 173, 133, 105, 42, 180, 0, 67]
abbrev dktX0_best_7 : List UInt8 := dkwX0_best_7 ++ dktX0_best_8
def dkwX0_best_6 : List UInt8 := [157, 0, 97, 21, 7, 42, 21, 11, 182, 1, 204, 96, 25, 5, 180, 0, 126, 164, 0, 6, 167, 0, 77, 42]
abbrev dktX0_best_6 : List UInt8 := dkwX0_best_6 ++ dktX0_best_7
def dkwX0_best_5 : List UInt8 := [21, 11, 42, 182, 1, 195, 2, 130, 126, 154, 0, 110, 21, 12, 133, 21, 6, 133, 105, 28, 133, 148]
abbrev dktX0_best_5 : List UInt8 := dkwX0_best_5 ++ dktX0_best_6
def dkwX0_best_4 : List UInt8 := [180, 0, 20, 182, 0, 77, 120, 162, 0, 141, 21, 11, 184, 1, 199, 54, 12, 21, 12, 27, 163, 0, 122]
abbrev dktX0_best_4 : List UInt8 := dkwX0_best_4 ++ dktX0_best_5
def dkwX0_best_3 : List UInt8 := [54, 6, 42, 182, 0, 117, 54, 7, 3, 54, 8, 20, 1, 182, 55, 9, 3, 54, 11, 21, 11, 4, 42]
abbrev dktX0_best_3 : List UInt8 := dkwX0_best_3 ++ dktX0_best_4
def dkwX0_best_2 : List UInt8 := [42, 180, 0, 119, 182, 0, 122, 58, 5, 25, 5, 180, 1, 51, 25, 5, 180, 1, 55, 16, 100, 104, 96]
abbrev dktX0_best_2 : List UInt8 := dkwX0_best_2 ++ dktX0_best_3
def dkwX0_best_1 : List UInt8 := [17, 39, 16, 184, 0, 3, 153, 0, 13, 21, 4, 3, 7, 184, 0, 3, 154, 0, 7, 20, 1, 182, 173, 42]
abbrev dktX0_best_1 : List UInt8 := dkwX0_best_1 ++ dktX0_best_2
def dkwX0_best_0 : List UInt8 := [27, 3, 7, 184, 0, 3, 153, 0, 35, 28, 3, 19, 1, 198, 184, 0, 3, 153, 0, 24, 29, 3]
abbrev dktX0_best_0 : List UInt8 := dkwX0_best_0 ++ dktX0_best_1
theorem dksX0_best_0 : cX0_best.data.toList.drop 0 = dktX0_best_0 := by decide +kernel
theorem dksX0_best_1 : cX0_best.data.toList.drop 22 = dktX0_best_1 := dk_seg dksX0_best_0 22 rfl rfl
theorem dksX0_best_2 : cX0_best.data.toList.drop 46 = dktX0_best_2 := dk_seg dksX0_best_1 24 rfl rfl
theorem dksX0_best_3 : cX0_best.data.toList.drop 69 = dktX0_best_3 := dk_seg dksX0_best_2 23 rfl rfl
theorem dksX0_best_4 : cX0_best.data.toList.drop 92 = dktX0_best_4 := dk_seg dksX0_best_3 23 rfl rfl
theorem dksX0_best_5 : cX0_best.data.toList.drop 115 = dktX0_best_5 := dk_seg dksX0_best_4 23 rfl rfl
theorem dksX0_best_6 : cX0_best.data.toList.drop 137 = dktX0_best_6 := dk_seg dksX0_best_5 22 rfl rfl
theorem dksX0_best_7 : cX0_best.data.toList.drop 161 = dktX0_best_7 := dk_seg dksX0_best_6 24 rfl rfl
theorem dksX0_best_8 : cX0_best.data.toList.drop 184 = dktX0_best_8 := dk_seg dksX0_best_7 23 rfl rfl
theorem dksX0_best_9 : cX0_best.data.toList.drop 207 = dktX0_best_9 := dk_seg dksX0_best_8 23 rfl rfl
theorem dksX0_best_10 : cX0_best.data.toList.drop 230 = dktX0_best_10 := dk_seg dksX0_best_9 23 rfl rfl
theorem dksX0_best_11 : cX0_best.data.toList.drop 252 = dktX0_best_11 := dk_seg dksX0_best_10 22 rfl rfl
theorem dksX0_best_12 : cX0_best.data.toList.drop 262 = dktX0_best_12 := dk_seg dksX0_best_11 10 rfl rfl
theorem dksX0_best_13 : cX0_best.data.toList.drop 292 = dktX0_best_13 := dk_seg dksX0_best_12 30 rfl rfl
theorem dksX0_best_14 : cX0_best.data.toList.drop 314 = dktX0_best_14 := dk_seg dksX0_best_13 22 rfl rfl
theorem dX0_best_0 : decode cX0_best 0 = .ok (.iload_n 1, 1) := dk_27 (dk_at dksX0_best_0 0 rfl rfl)
theorem dX0_best_1 : decode cX0_best 1 = .ok (.iconst 0, 1) := dk_3 (dk_at dksX0_best_0 1 rfl rfl)
theorem dX0_best_2 : decode cX0_best 2 = .ok (.iconst 4, 1) := dk_7 (dk_at dksX0_best_0 2 rfl rfl)
theorem dX0_best_3 : decode cX0_best 3 = .ok (.invokestatic 3, 3) := dk_184 0 3 (dk_at dksX0_best_0 3 rfl rfl)
theorem dX0_best_6 : decode cX0_best 6 = .ok (.ifCond .eq 35, 3) := dk_153 0 35 (dk_at dksX0_best_0 6 rfl rfl)
theorem dX0_best_9 : decode cX0_best 9 = .ok (.iload_n 2, 1) := dk_28 (dk_at dksX0_best_0 9 rfl rfl)
theorem dX0_best_10 : decode cX0_best 10 = .ok (.iconst 0, 1) := dk_3 (dk_at dksX0_best_0 10 rfl rfl)
theorem dX0_best_11 : decode cX0_best 11 = .ok (.ldc_w 454, 3) := dk_19 1 198 (dk_at dksX0_best_0 11 rfl rfl)
theorem dX0_best_14 : decode cX0_best 14 = .ok (.invokestatic 3, 3) := dk_184 0 3 (dk_at dksX0_best_0 14 rfl rfl)
theorem dX0_best_17 : decode cX0_best 17 = .ok (.ifCond .eq 24, 3) := dk_153 0 24 (dk_at dksX0_best_0 17 rfl rfl)
theorem dX0_best_20 : decode cX0_best 20 = .ok (.iload_n 3, 1) := dk_29 (dk_at dksX0_best_0 20 rfl rfl)
theorem dX0_best_21 : decode cX0_best 21 = .ok (.iconst 0, 1) := dk_3 (dk_at dksX0_best_0 21 rfl rfl)
theorem dX0_best_22 : decode cX0_best 22 = .ok (.sipush 10000, 3) := dk_17 39 16 (dk_at dksX0_best_1 0 rfl rfl)
theorem dX0_best_25 : decode cX0_best 25 = .ok (.invokestatic 3, 3) := dk_184 0 3 (dk_at dksX0_best_1 3 rfl rfl)
theorem dX0_best_28 : decode cX0_best 28 = .ok (.ifCond .eq 13, 3) := dk_153 0 13 (dk_at dksX0_best_1 6 rfl rfl)
theorem dX0_best_31 : decode cX0_best 31 = .ok (.iload 4, 2) := dk_21 4 (dk_at dksX0_best_1 9 rfl rfl)
theorem dX0_best_33 : decode cX0_best 33 = .ok (.iconst 0, 1) := dk_3 (dk_at dksX0_best_1 11 rfl rfl)
theorem dX0_best_34 : decode cX0_best 34 = .ok (.iconst 4, 1) := dk_7 (dk_at dksX0_best_1 12 rfl rfl)
theorem dX0_best_35 : decode cX0_best 35 = .ok (.invokestatic 3, 3) := dk_184 0 3 (dk_at dksX0_best_1 13 rfl rfl)
theorem dX0_best_38 : decode cX0_best 38 = .ok (.ifCond .ne 7, 3) := dk_154 0 7 (dk_at dksX0_best_1 16 rfl rfl)
theorem dX0_best_41 : decode cX0_best 41 = .ok (.ldc2_w 438, 3) := dk_20 1 182 (dk_at dksX0_best_1 19 rfl rfl)
theorem dX0_best_44 : decode cX0_best 44 = .ok (.lreturn, 1) := dk_173 (dk_at dksX0_best_1 22 rfl rfl)
theorem dX0_best_45 : decode cX0_best 45 = .ok (.aload_n 0, 1) := dk_42 (dk_at dksX0_best_1 23 rfl rfl)
theorem dX0_best_46 : decode cX0_best 46 = .ok (.aload_n 0, 1) := dk_42 (dk_at dksX0_best_2 0 rfl rfl)
theorem dX0_best_47 : decode cX0_best 47 = .ok (.getfield 119, 3) := dk_180 0 119 (dk_at dksX0_best_2 1 rfl rfl)
theorem dX0_best_50 : decode cX0_best 50 = .ok (.invokevirtual 122, 3) := dk_182 0 122 (dk_at dksX0_best_2 4 rfl rfl)
theorem dX0_best_53 : decode cX0_best 53 = .ok (.astore 5, 2) := dk_58 5 (dk_at dksX0_best_2 7 rfl rfl)
theorem dX0_best_55 : decode cX0_best 55 = .ok (.aload 5, 2) := dk_25 5 (dk_at dksX0_best_2 9 rfl rfl)
theorem dX0_best_57 : decode cX0_best 57 = .ok (.getfield 307, 3) := dk_180 1 51 (dk_at dksX0_best_2 11 rfl rfl)
theorem dX0_best_60 : decode cX0_best 60 = .ok (.aload 5, 2) := dk_25 5 (dk_at dksX0_best_2 14 rfl rfl)
theorem dX0_best_62 : decode cX0_best 62 = .ok (.getfield 311, 3) := dk_180 1 55 (dk_at dksX0_best_2 16 rfl rfl)
theorem dX0_best_65 : decode cX0_best 65 = .ok (.bipush 100, 2) := dk_16 100 (dk_at dksX0_best_2 19 rfl rfl)
theorem dX0_best_67 : decode cX0_best 67 = .ok (.imul, 1) := dk_104 (dk_at dksX0_best_2 21 rfl rfl)
theorem dX0_best_68 : decode cX0_best 68 = .ok (.iadd, 1) := dk_96 (dk_at dksX0_best_2 22 rfl rfl)
theorem dX0_best_69 : decode cX0_best 69 = .ok (.istore 6, 2) := dk_54 6 (dk_at dksX0_best_3 0 rfl rfl)
theorem dX0_best_71 : decode cX0_best 71 = .ok (.aload_n 0, 1) := dk_42 (dk_at dksX0_best_3 2 rfl rfl)
theorem dX0_best_72 : decode cX0_best 72 = .ok (.invokevirtual 117, 3) := dk_182 0 117 (dk_at dksX0_best_3 3 rfl rfl)
theorem dX0_best_75 : decode cX0_best 75 = .ok (.istore 7, 2) := dk_54 7 (dk_at dksX0_best_3 6 rfl rfl)
theorem dX0_best_77 : decode cX0_best 77 = .ok (.iconst 0, 1) := dk_3 (dk_at dksX0_best_3 8 rfl rfl)
theorem dX0_best_78 : decode cX0_best 78 = .ok (.istore 8, 2) := dk_54 8 (dk_at dksX0_best_3 9 rfl rfl)
theorem dX0_best_80 : decode cX0_best 80 = .ok (.ldc2_w 438, 3) := dk_20 1 182 (dk_at dksX0_best_3 11 rfl rfl)
theorem dX0_best_83 : decode cX0_best 83 = .ok (.lstore 9, 2) := dk_55 9 (dk_at dksX0_best_3 14 rfl rfl)
theorem dX0_best_85 : decode cX0_best 85 = .ok (.iconst 0, 1) := dk_3 (dk_at dksX0_best_3 16 rfl rfl)
theorem dX0_best_86 : decode cX0_best 86 = .ok (.istore 11, 2) := dk_54 11 (dk_at dksX0_best_3 17 rfl rfl)
theorem dX0_best_88 : decode cX0_best 88 = .ok (.iload 11, 2) := dk_21 11 (dk_at dksX0_best_3 19 rfl rfl)
theorem dX0_best_90 : decode cX0_best 90 = .ok (.iconst 1, 1) := dk_4 (dk_at dksX0_best_3 21 rfl rfl)
theorem dX0_best_91 : decode cX0_best 91 = .ok (.aload_n 0, 1) := dk_42 (dk_at dksX0_best_3 22 rfl rfl)
theorem dX0_best_92 : decode cX0_best 92 = .ok (.getfield 20, 3) := dk_180 0 20 (dk_at dksX0_best_4 0 rfl rfl)
theorem dX0_best_95 : decode cX0_best 95 = .ok (.invokevirtual 77, 3) := dk_182 0 77 (dk_at dksX0_best_4 3 rfl rfl)
theorem dX0_best_98 : decode cX0_best 98 = .ok (.ishl, 1) := dk_120 (dk_at dksX0_best_4 6 rfl rfl)
theorem dX0_best_99 : decode cX0_best 99 = .ok (.if_icmp .ge 141, 3) := dk_162 0 141 (dk_at dksX0_best_4 7 rfl rfl)
theorem dX0_best_102 : decode cX0_best 102 = .ok (.iload 11, 2) := dk_21 11 (dk_at dksX0_best_4 10 rfl rfl)
theorem dX0_best_104 : decode cX0_best 104 = .ok (.invokestatic 455, 3) := dk_184 1 199 (dk_at dksX0_best_4 12 rfl rfl)
theorem dX0_best_107 : decode cX0_best 107 = .ok (.istore 12, 2) := dk_54 12 (dk_at dksX0_best_4 15 rfl rfl)
theorem dX0_best_109 : decode cX0_best 109 = .ok (.iload 12, 2) := dk_21 12 (dk_at dksX0_best_4 17 rfl rfl)
theorem dX0_best_111 : decode cX0_best 111 = .ok (.iload_n 1, 1) := dk_27 (dk_at dksX0_best_4 19 rfl rfl)
theorem dX0_best_112 : decode cX0_best 112 = .ok (.if_icmp .gt 122, 3) := dk_163 0 122 (dk_at dksX0_best_4 20 rfl rfl)
theorem dX0_best_115 : decode cX0_best 115 = .ok (.iload 11, 2) := dk_21 11 (dk_at dksX0_best_5 0 rfl rfl)
theorem dX0_best_117 : decode cX0_best 117 = .ok (.aload_n 0, 1) := dk_42 (dk_at dksX0_best_5 2 rfl rfl)
theorem dX0_best_118 : decode cX0_best 118 = .ok (.invokevirtual 451, 3) := dk_182 1 195 (dk_at dksX0_best_5 3 rfl rfl)
theorem dX0_best_121 : decode cX0_best 121 = .ok (.iconst (-1), 1) := dk_2 (dk_at dksX0_best_5 6 rfl rfl)
theorem dX0_best_122 : decode cX0_best 122 = .ok (.ixor, 1) := dk_130 (dk_at dksX0_best_5 7 rfl rfl)
theorem dX0_best_123 : decode cX0_best 123 = .ok (.iand, 1) := dk_126 (dk_at dksX0_best_5 8 rfl rfl)
theorem dX0_best_124 : decode cX0_best 124 = .ok (.ifCond .ne 110, 3) := dk_154 0 110 (dk_at dksX0_best_5 9 rfl rfl)
theorem dX0_best_127 : decode cX0_best 127 = .ok (.iload 12, 2) := dk_21 12 (dk_at dksX0_best_5 12 rfl rfl)
theorem dX0_best_129 : decode cX0_best 129 = .ok (.i2l, 1) := dk_133 (dk_at dksX0_best_5 14 rfl rfl)
theorem dX0_best_130 : decode cX0_best 130 = .ok (.iload 6, 2) := dk_21 6 (dk_at dksX0_best_5 15 rfl rfl)
theorem dX0_best_132 : decode cX0_best 132 = .ok (.i2l, 1) := dk_133 (dk_at dksX0_best_5 17 rfl rfl)
theorem dX0_best_133 : decode cX0_best 133 = .ok (.lmul, 1) := dk_105 (dk_at dksX0_best_5 18 rfl rfl)
theorem dX0_best_134 : decode cX0_best 134 = .ok (.iload_n 2, 1) := dk_28 (dk_at dksX0_best_5 19 rfl rfl)
theorem dX0_best_135 : decode cX0_best 135 = .ok (.i2l, 1) := dk_133 (dk_at dksX0_best_5 20 rfl rfl)
theorem dX0_best_136 : decode cX0_best 136 = .ok (.lcmp, 1) := dk_148 (dk_at dksX0_best_5 21 rfl rfl)
theorem dX0_best_137 : decode cX0_best 137 = .ok (.ifCond .gt 97, 3) := dk_157 0 97 (dk_at dksX0_best_6 0 rfl rfl)
theorem dX0_best_140 : decode cX0_best 140 = .ok (.iload 7, 2) := dk_21 7 (dk_at dksX0_best_6 3 rfl rfl)
theorem dX0_best_142 : decode cX0_best 142 = .ok (.aload_n 0, 1) := dk_42 (dk_at dksX0_best_6 5 rfl rfl)
theorem dX0_best_143 : decode cX0_best 143 = .ok (.iload 11, 2) := dk_21 11 (dk_at dksX0_best_6 6 rfl rfl)
theorem dX0_best_145 : decode cX0_best 145 = .ok (.invokevirtual 460, 3) := dk_182 1 204 (dk_at dksX0_best_6 8 rfl rfl)
theorem dX0_best_148 : decode cX0_best 148 = .ok (.iadd, 1) := dk_96 (dk_at dksX0_best_6 11 rfl rfl)
theorem dX0_best_149 : decode cX0_best 149 = .ok (.aload 5, 2) := dk_25 5 (dk_at dksX0_best_6 12 rfl rfl)
theorem dX0_best_151 : decode cX0_best 151 = .ok (.getfield 126, 3) := dk_180 0 126 (dk_at dksX0_best_6 14 rfl rfl)
theorem dX0_best_154 : decode cX0_best 154 = .ok (.if_icmp .le 6, 3) := dk_164 0 6 (dk_at dksX0_best_6 17 rfl rfl)
theorem dX0_best_157 : decode cX0_best 157 = .ok (.goto 77, 3) := dk_167 0 77 (dk_at dksX0_best_6 20 rfl rfl)
theorem dX0_best_160 : decode cX0_best 160 = .ok (.aload_n 0, 1) := dk_42 (dk_at dksX0_best_6 23 rfl rfl)
theorem dX0_best_161 : decode cX0_best 161 = .ok (.getfield 67, 3) := dk_180 0 67 (dk_at dksX0_best_7 0 rfl rfl)
theorem dX0_best_164 : decode cX0_best 164 = .ok (.iload 11, 2) := dk_21 11 (dk_at dksX0_best_7 3 rfl rfl)
theorem dX0_best_166 : decode cX0_best 166 = .ok (.invokevirtual 382, 3) := dk_182 1 126 (dk_at dksX0_best_7 5 rfl rfl)
theorem dX0_best_169 : decode cX0_best 169 = .ok (.iload_n 3, 1) := dk_29 (dk_at dksX0_best_7 8 rfl rfl)
theorem dX0_best_170 : decode cX0_best 170 = .ok (.i2l, 1) := dk_133 (dk_at dksX0_best_7 9 rfl rfl)
theorem dX0_best_171 : decode cX0_best 171 = .ok (.aload_n 0, 1) := dk_42 (dk_at dksX0_best_7 10 rfl rfl)
theorem dX0_best_172 : decode cX0_best 172 = .ok (.getfield 67, 3) := dk_180 0 67 (dk_at dksX0_best_7 11 rfl rfl)
theorem dX0_best_175 : decode cX0_best 175 = .ok (.getfield 429, 3) := dk_180 1 173 (dk_at dksX0_best_7 14 rfl rfl)
theorem dX0_best_178 : decode cX0_best 178 = .ok (.i2l, 1) := dk_133 (dk_at dksX0_best_7 17 rfl rfl)
theorem dX0_best_179 : decode cX0_best 179 = .ok (.lmul, 1) := dk_105 (dk_at dksX0_best_7 18 rfl rfl)
theorem dX0_best_180 : decode cX0_best 180 = .ok (.aload_n 0, 1) := dk_42 (dk_at dksX0_best_7 19 rfl rfl)
theorem dX0_best_181 : decode cX0_best 181 = .ok (.getfield 67, 3) := dk_180 0 67 (dk_at dksX0_best_7 20 rfl rfl)
theorem dX0_best_184 : decode cX0_best 184 = .ok (.getfield 418, 3) := dk_180 1 162 (dk_at dksX0_best_8 0 rfl rfl)
theorem dX0_best_187 : decode cX0_best 187 = .ok (.ladd, 1) := dk_97 (dk_at dksX0_best_8 3 rfl rfl)
theorem dX0_best_188 : decode cX0_best 188 = .ok (.lstore 13, 2) := dk_55 13 (dk_at dksX0_best_8 4 rfl rfl)
theorem dX0_best_190 : decode cX0_best 190 = .ok (.lload 9, 2) := dk_22 9 (dk_at dksX0_best_8 6 rfl rfl)
theorem dX0_best_192 : decode cX0_best 192 = .ok (.lconst 0, 1) := dk_9 (dk_at dksX0_best_8 8 rfl rfl)
theorem dX0_best_193 : decode cX0_best 193 = .ok (.lcmp, 1) := dk_148 (dk_at dksX0_best_8 9 rfl rfl)
theorem dX0_best_194 : decode cX0_best 194 = .ok (.ifCond .lt 32, 3) := dk_155 0 32 (dk_at dksX0_best_8 10 rfl rfl)
theorem dX0_best_197 : decode cX0_best 197 = .ok (.lload 13, 2) := dk_22 13 (dk_at dksX0_best_8 13 rfl rfl)
theorem dX0_best_199 : decode cX0_best 199 = .ok (.lload 9, 2) := dk_22 9 (dk_at dksX0_best_8 15 rfl rfl)
theorem dX0_best_201 : decode cX0_best 201 = .ok (.lcmp, 1) := dk_148 (dk_at dksX0_best_8 17 rfl rfl)
theorem dX0_best_202 : decode cX0_best 202 = .ok (.ifCond .gt 32, 3) := dk_157 0 32 (dk_at dksX0_best_8 18 rfl rfl)
theorem dX0_best_205 : decode cX0_best 205 = .ok (.lload 13, 2) := dk_22 13 (dk_at dksX0_best_8 21 rfl rfl)
theorem dX0_best_207 : decode cX0_best 207 = .ok (.lload 9, 2) := dk_22 9 (dk_at dksX0_best_9 0 rfl rfl)
theorem dX0_best_209 : decode cX0_best 209 = .ok (.lcmp, 1) := dk_148 (dk_at dksX0_best_9 2 rfl rfl)
theorem dX0_best_210 : decode cX0_best 210 = .ok (.ifCond .ne 16, 3) := dk_154 0 16 (dk_at dksX0_best_9 3 rfl rfl)
theorem dX0_best_213 : decode cX0_best 213 = .ok (.iload 12, 2) := dk_21 12 (dk_at dksX0_best_9 6 rfl rfl)
theorem dX0_best_215 : decode cX0_best 215 = .ok (.iload 8, 2) := dk_21 8 (dk_at dksX0_best_9 8 rfl rfl)
theorem dX0_best_217 : decode cX0_best 217 = .ok (.invokestatic 455, 3) := dk_184 1 199 (dk_at dksX0_best_9 10 rfl rfl)
theorem dX0_best_220 : decode cX0_best 220 = .ok (.if_icmp .lt 6, 3) := dk_161 0 6 (dk_at dksX0_best_9 13 rfl rfl)
theorem dX0_best_223 : decode cX0_best 223 = .ok (.goto 11, 3) := dk_167 0 11 (dk_at dksX0_best_9 16 rfl rfl)
theorem dX0_best_226 : decode cX0_best 226 = .ok (.lload 13, 2) := dk_22 13 (dk_at dksX0_best_9 19 rfl rfl)
theorem dX0_best_228 : decode cX0_best 228 = .ok (.lstore 9, 2) := dk_55 9 (dk_at dksX0_best_9 21 rfl rfl)
theorem dX0_best_230 : decode cX0_best 230 = .ok (.iload 11, 2) := dk_21 11 (dk_at dksX0_best_10 0 rfl rfl)
theorem dX0_best_232 : decode cX0_best 232 = .ok (.istore 8, 2) := dk_54 8 (dk_at dksX0_best_10 2 rfl rfl)
theorem dX0_best_234 : decode cX0_best 234 = .ok (.iinc 11 1, 3) := dk_132 11 1 (dk_at dksX0_best_10 4 rfl rfl)
theorem dX0_best_237 : decode cX0_best 237 = .ok (.goto (-149), 3) := dk_167 255 107 (dk_at dksX0_best_10 7 rfl rfl)
theorem dX0_best_240 : decode cX0_best 240 = .ok (.lload 9, 2) := dk_22 9 (dk_at dksX0_best_10 10 rfl rfl)
theorem dX0_best_242 : decode cX0_best 242 = .ok (.lconst 0, 1) := dk_9 (dk_at dksX0_best_10 12 rfl rfl)
theorem dX0_best_243 : decode cX0_best 243 = .ok (.lcmp, 1) := dk_148 (dk_at dksX0_best_10 13 rfl rfl)
theorem dX0_best_244 : decode cX0_best 244 = .ok (.ifCond .ge 7, 3) := dk_156 0 7 (dk_at dksX0_best_10 14 rfl rfl)
theorem dX0_best_247 : decode cX0_best 247 = .ok (.ldc2_w 438, 3) := dk_20 1 182 (dk_at dksX0_best_10 17 rfl rfl)
theorem dX0_best_250 : decode cX0_best 250 = .ok (.lreturn, 1) := dk_173 (dk_at dksX0_best_10 20 rfl rfl)
theorem dX0_best_251 : decode cX0_best 251 = .ok (.aload_n 0, 1) := dk_42 (dk_at dksX0_best_10 21 rfl rfl)
theorem dX0_best_252 : decode cX0_best 252 = .ok (.getfield 67, 3) := dk_180 0 67 (dk_at dksX0_best_11 0 rfl rfl)
theorem dX0_best_255 : decode cX0_best 255 = .ok (.iload 8, 2) := dk_21 8 (dk_at dksX0_best_11 3 rfl rfl)
theorem dX0_best_257 : decode cX0_best 257 = .ok (.invokevirtual 382, 3) := dk_182 1 126 (dk_at dksX0_best_11 5 rfl rfl)
theorem dX0_best_260 : decode cX0_best 260 = .ok (.iload 4, 2) := dk_21 4 (dk_at dksX0_best_11 8 rfl rfl)
theorem dX0_best_262 : decode cX0_best 262 = .ok (.tableswitch 56 0 3 #[30, 33, 37, 48], 30) := by decide +kernel
theorem dX0_best_292 : decode cX0_best 292 = .ok (.lload 9, 2) := dk_22 9 (dk_at dksX0_best_13 0 rfl rfl)
theorem dX0_best_294 : decode cX0_best 294 = .ok (.lreturn, 1) := dk_173 (dk_at dksX0_best_13 2 rfl rfl)
theorem dX0_best_295 : decode cX0_best 295 = .ok (.iload 8, 2) := dk_21 8 (dk_at dksX0_best_13 3 rfl rfl)
theorem dX0_best_297 : decode cX0_best 297 = .ok (.i2l, 1) := dk_133 (dk_at dksX0_best_13 5 rfl rfl)
theorem dX0_best_298 : decode cX0_best 298 = .ok (.lreturn, 1) := dk_173 (dk_at dksX0_best_13 6 rfl rfl)
theorem dX0_best_299 : decode cX0_best 299 = .ok (.iload 8, 2) := dk_21 8 (dk_at dksX0_best_13 7 rfl rfl)
theorem dX0_best_301 : decode cX0_best 301 = .ok (.invokestatic 455, 3) := dk_184 1 199 (dk_at dksX0_best_13 9 rfl rfl)
theorem dX0_best_304 : decode cX0_best 304 = .ok (.i2l, 1) := dk_133 (dk_at dksX0_best_13 12 rfl rfl)
theorem dX0_best_305 : decode cX0_best 305 = .ok (.iload 6, 2) := dk_21 6 (dk_at dksX0_best_13 13 rfl rfl)
theorem dX0_best_307 : decode cX0_best 307 = .ok (.i2l, 1) := dk_133 (dk_at dksX0_best_13 15 rfl rfl)
theorem dX0_best_308 : decode cX0_best 308 = .ok (.lmul, 1) := dk_105 (dk_at dksX0_best_13 16 rfl rfl)
theorem dX0_best_309 : decode cX0_best 309 = .ok (.lreturn, 1) := dk_173 (dk_at dksX0_best_13 17 rfl rfl)
theorem dX0_best_310 : decode cX0_best 310 = .ok (.aload_n 0, 1) := dk_42 (dk_at dksX0_best_13 18 rfl rfl)
theorem dX0_best_311 : decode cX0_best 311 = .ok (.getfield 67, 3) := dk_180 0 67 (dk_at dksX0_best_13 19 rfl rfl)
theorem dX0_best_314 : decode cX0_best 314 = .ok (.getfield 418, 3) := dk_180 1 162 (dk_at dksX0_best_14 0 rfl rfl)
theorem dX0_best_317 : decode cX0_best 317 = .ok (.lreturn, 1) := dk_173 (dk_at dksX0_best_14 3 rfl rfl)
theorem dX0_best_318 : decode cX0_best 318 = .ok (.aload_n 0, 1) := dk_42 (dk_at dksX0_best_14 4 rfl rfl)
theorem dX0_best_319 : decode cX0_best 319 = .ok (.getfield 67, 3) := dk_180 0 67 (dk_at dksX0_best_14 5 rfl rfl)
theorem dX0_best_322 : decode cX0_best 322 = .ok (.getfield 429, 3) := dk_180 1 173 (dk_at dksX0_best_14 8 rfl rfl)
theorem dX0_best_325 : decode cX0_best 325 = .ok (.i2l, 1) := dk_133 (dk_at dksX0_best_14 11 rfl rfl)
theorem dX0_best_326 : decode cX0_best 326 = .ok (.lreturn, 1) := dk_173 (dk_at dksX0_best_14 12 rfl rfl)
def dkwX0_parkingOf_2 : List UInt8 := [132, 3, 1, 167, 255, 212, 28, 172]
abbrev dktX0_parkingOf_2 : List UInt8 := dkwX0_parkingOf_2 ++ []
def dkwX0_parkingOf_1 : List UInt8 := [160, 0, 20, 42, 180, 0, 20, 29, 182, 0, 81, 192, 0, 85, 180, 0, 114, 167, 0, 4, 3, 96, 61]
abbrev dktX0_parkingOf_1 : List UInt8 := dkwX0_parkingOf_1 ++ dktX0_parkingOf_2
def dkwX0_parkingOf_0 : List UInt8 := [3, 61, 3, 62, 29, 42, 180, 0, 20, 182, 0, 77, 162, 0, 39, 28, 27, 29, 122, 4, 126, 4]
abbrev dktX0_parkingOf_0 : List UInt8 := dkwX0_parkingOf_0 ++ dktX0_parkingOf_1
theorem dksX0_parkingOf_0 : cX0_parkingOf.data.toList.drop 0 = dktX0_parkingOf_0 := by decide +kernel
theorem dksX0_parkingOf_1 : cX0_parkingOf.data.toList.drop 22 = dktX0_parkingOf_1 := dk_seg dksX0_parkingOf_0 22 rfl rfl
theorem dksX0_parkingOf_2 : cX0_parkingOf.data.toList.drop 45 = dktX0_parkingOf_2 := dk_seg dksX0_parkingOf_1 23 rfl rfl
theorem dX0_parkingOf_0 : decode cX0_parkingOf 0 = .ok (.iconst 0, 1) := dk_3 (dk_at dksX0_parkingOf_0 0 rfl rfl)
theorem dX0_parkingOf_1 : decode cX0_parkingOf 1 = .ok (.istore_n 2, 1) := dk_61 (dk_at dksX0_parkingOf_0 1 rfl rfl)
theorem dX0_parkingOf_2 : decode cX0_parkingOf 2 = .ok (.iconst 0, 1) := dk_3 (dk_at dksX0_parkingOf_0 2 rfl rfl)
theorem dX0_parkingOf_3 : decode cX0_parkingOf 3 = .ok (.istore_n 3, 1) := dk_62 (dk_at dksX0_parkingOf_0 3 rfl rfl)
theorem dX0_parkingOf_4 : decode cX0_parkingOf 4 = .ok (.iload_n 3, 1) := dk_29 (dk_at dksX0_parkingOf_0 4 rfl rfl)
theorem dX0_parkingOf_5 : decode cX0_parkingOf 5 = .ok (.aload_n 0, 1) := dk_42 (dk_at dksX0_parkingOf_0 5 rfl rfl)
theorem dX0_parkingOf_6 : decode cX0_parkingOf 6 = .ok (.getfield 20, 3) := dk_180 0 20 (dk_at dksX0_parkingOf_0 6 rfl rfl)
theorem dX0_parkingOf_9 : decode cX0_parkingOf 9 = .ok (.invokevirtual 77, 3) := dk_182 0 77 (dk_at dksX0_parkingOf_0 9 rfl rfl)
theorem dX0_parkingOf_12 : decode cX0_parkingOf 12 = .ok (.if_icmp .ge 39, 3) := dk_162 0 39 (dk_at dksX0_parkingOf_0 12 rfl rfl)
theorem dX0_parkingOf_15 : decode cX0_parkingOf 15 = .ok (.iload_n 2, 1) := dk_28 (dk_at dksX0_parkingOf_0 15 rfl rfl)
theorem dX0_parkingOf_16 : decode cX0_parkingOf 16 = .ok (.iload_n 1, 1) := dk_27 (dk_at dksX0_parkingOf_0 16 rfl rfl)
theorem dX0_parkingOf_17 : decode cX0_parkingOf 17 = .ok (.iload_n 3, 1) := dk_29 (dk_at dksX0_parkingOf_0 17 rfl rfl)
theorem dX0_parkingOf_18 : decode cX0_parkingOf 18 = .ok (.ishr, 1) := dk_122 (dk_at dksX0_parkingOf_0 18 rfl rfl)
theorem dX0_parkingOf_19 : decode cX0_parkingOf 19 = .ok (.iconst 1, 1) := dk_4 (dk_at dksX0_parkingOf_0 19 rfl rfl)
theorem dX0_parkingOf_20 : decode cX0_parkingOf 20 = .ok (.iand, 1) := dk_126 (dk_at dksX0_parkingOf_0 20 rfl rfl)
theorem dX0_parkingOf_21 : decode cX0_parkingOf 21 = .ok (.iconst 1, 1) := dk_4 (dk_at dksX0_parkingOf_0 21 rfl rfl)
theorem dX0_parkingOf_22 : decode cX0_parkingOf 22 = .ok (.if_icmp .ne 20, 3) := dk_160 0 20 (dk_at dksX0_parkingOf_1 0 rfl rfl)
theorem dX0_parkingOf_25 : decode cX0_parkingOf 25 = .ok (.aload_n 0, 1) := dk_42 (dk_at dksX0_parkingOf_1 3 rfl rfl)
theorem dX0_parkingOf_26 : decode cX0_parkingOf 26 = .ok (.getfield 20, 3) := dk_180 0 20 (dk_at dksX0_parkingOf_1 4 rfl rfl)
theorem dX0_parkingOf_29 : decode cX0_parkingOf 29 = .ok (.iload_n 3, 1) := dk_29 (dk_at dksX0_parkingOf_1 7 rfl rfl)
theorem dX0_parkingOf_30 : decode cX0_parkingOf 30 = .ok (.invokevirtual 81, 3) := dk_182 0 81 (dk_at dksX0_parkingOf_1 8 rfl rfl)
theorem dX0_parkingOf_33 : decode cX0_parkingOf 33 = .ok (.checkcast 85, 3) := dk_192 0 85 (dk_at dksX0_parkingOf_1 11 rfl rfl)
theorem dX0_parkingOf_36 : decode cX0_parkingOf 36 = .ok (.getfield 114, 3) := dk_180 0 114 (dk_at dksX0_parkingOf_1 14 rfl rfl)
theorem dX0_parkingOf_39 : decode cX0_parkingOf 39 = .ok (.goto 4, 3) := dk_167 0 4 (dk_at dksX0_parkingOf_1 17 rfl rfl)
theorem dX0_parkingOf_42 : decode cX0_parkingOf 42 = .ok (.iconst 0, 1) := dk_3 (dk_at dksX0_parkingOf_1 20 rfl rfl)
theorem dX0_parkingOf_43 : decode cX0_parkingOf 43 = .ok (.iadd, 1) := dk_96 (dk_at dksX0_parkingOf_1 21 rfl rfl)
theorem dX0_parkingOf_44 : decode cX0_parkingOf 44 = .ok (.istore_n 2, 1) := dk_61 (dk_at dksX0_parkingOf_1 22 rfl rfl)
theorem dX0_parkingOf_45 : decode cX0_parkingOf 45 = .ok (.iinc 3 1, 3) := dk_132 3 1 (dk_at dksX0_parkingOf_2 0 rfl rfl)
theorem dX0_parkingOf_48 : decode cX0_parkingOf 48 = .ok (.goto (-44), 3) := dk_167 255 212 (dk_at dksX0_parkingOf_2 3 rfl rfl)
theorem dX0_parkingOf_51 : decode cX0_parkingOf 51 = .ok (.iload_n 2, 1) := dk_28 (dk_at dksX0_parkingOf_2 6 rfl rfl)
theorem dX0_parkingOf_52 : decode cX0_parkingOf 52 = .ok (.ireturn, 1) := dk_172 (dk_at dksX0_parkingOf_2 7 rfl rfl)
def dkwX0_helps_3 : List UInt8 := [180, 1, 129, 28, 46, 100, 133, 173]
abbrev dktX0_helps_3 : List UInt8 := dkwX0_helps_3 ++ []
def dkwX0_helps_2 : List UInt8 := [180, 0, 67, 180, 1, 129, 28, 46, 62, 42, 180, 0, 67, 4, 27, 120, 182, 1, 126, 29, 42, 180, 0, 67]
abbrev dktX0_helps_2 : List UInt8 := dkwX0_helps_2 ++ dktX0_helps_3
def dkwX0_helps_1 : List UInt8 := [199, 0, 11, 42, 28, 182, 0, 87, 199, 0, 7, 20, 1, 182, 173, 42, 180, 0, 67, 3, 182, 1, 126, 42]
abbrev dktX0_helps_1 : List UInt8 := dkwX0_helps_1 ++ dktX0_helps_2
def dkwX0_helps_0 : List UInt8 := [42, 27, 182, 0, 87, 198, 0, 28, 42, 180, 0, 20, 27, 182, 0, 81, 192, 0, 85, 180, 0, 91]
abbrev dktX0_helps_0 : List UInt8 := dkwX0_helps_0 ++ dktX0_helps_1
theorem dksX0_helps_0 : cX0_helps.data.toList.drop 0 = dktX0_helps_0 := by decide +kernel
theorem dksX0_helps_1 : cX0_helps.data.toList.drop 22 = dktX0_helps_1 := dk_seg dksX0_helps_0 22 rfl rfl
theorem dksX0_helps_2 : cX0_helps.data.toList.drop 46 = dktX0_helps_2 := dk_seg dksX0_helps_1 24 rfl rfl
theorem dksX0_helps_3 : cX0_helps.data.toList.drop 70 = dktX0_helps_3 := dk_seg dksX0_helps_2 24 rfl rfl
theorem dX0_helps_0 : decode cX0_helps 0 = .ok (.aload_n 0, 1) := dk_42 (dk_at dksX0_helps_0 0 rfl rfl)
theorem dX0_helps_1 : decode cX0_helps 1 = .ok (.iload_n 1, 1) := dk_27 (dk_at dksX0_helps_0 1 rfl rfl)
theorem dX0_helps_2 : decode cX0_helps 2 = .ok (.invokevirtual 87, 3) := dk_182 0 87 (dk_at dksX0_helps_0 2 rfl rfl)
theorem dX0_helps_5 : decode cX0_helps 5 = .ok (.ifnull 28, 3) := dk_198 0 28 (dk_at dksX0_helps_0 5 rfl rfl)
theorem dX0_helps_8 : decode cX0_helps 8 = .ok (.aload_n 0, 1) := dk_42 (dk_at dksX0_helps_0 8 rfl rfl)
theorem dX0_helps_9 : decode cX0_helps 9 = .ok (.getfield 20, 3) := dk_180 0 20 (dk_at dksX0_helps_0 9 rfl rfl)
theorem dX0_helps_12 : decode cX0_helps 12 = .ok (.iload_n 1, 1) := dk_27 (dk_at dksX0_helps_0 12 rfl rfl)
theorem dX0_helps_13 : decode cX0_helps 13 = .ok (.invokevirtual 81, 3) := dk_182 0 81 (dk_at dksX0_helps_0 13 rfl rfl)
theorem dX0_helps_16 : decode cX0_helps 16 = .ok (.checkcast 85, 3) := dk_192 0 85 (dk_at dksX0_helps_0 16 rfl rfl)
theorem dX0_helps_19 : decode cX0_helps 19 = .ok (.getfield 91, 3) := dk_180 0 91 (dk_at dksX0_helps_0 19 rfl rfl)
theorem dX0_helps_22 : decode cX0_helps 22 = .ok (.ifnonnull 11, 3) := dk_199 0 11 (dk_at dksX0_helps_1 0 rfl rfl)
theorem dX0_helps_25 : decode cX0_helps 25 = .ok (.aload_n 0, 1) := dk_42 (dk_at dksX0_helps_1 3 rfl rfl)
theorem dX0_helps_26 : decode cX0_helps 26 = .ok (.iload_n 2, 1) := dk_28 (dk_at dksX0_helps_1 4 rfl rfl)
theorem dX0_helps_27 : decode cX0_helps 27 = .ok (.invokevirtual 87, 3) := dk_182 0 87 (dk_at dksX0_helps_1 5 rfl rfl)
theorem dX0_helps_30 : decode cX0_helps 30 = .ok (.ifnonnull 7, 3) := dk_199 0 7 (dk_at dksX0_helps_1 8 rfl rfl)
theorem dX0_helps_33 : decode cX0_helps 33 = .ok (.ldc2_w 438, 3) := dk_20 1 182 (dk_at dksX0_helps_1 11 rfl rfl)
theorem dX0_helps_36 : decode cX0_helps 36 = .ok (.lreturn, 1) := dk_173 (dk_at dksX0_helps_1 14 rfl rfl)
theorem dX0_helps_37 : decode cX0_helps 37 = .ok (.aload_n 0, 1) := dk_42 (dk_at dksX0_helps_1 15 rfl rfl)
theorem dX0_helps_38 : decode cX0_helps 38 = .ok (.getfield 67, 3) := dk_180 0 67 (dk_at dksX0_helps_1 16 rfl rfl)
theorem dX0_helps_41 : decode cX0_helps 41 = .ok (.iconst 0, 1) := dk_3 (dk_at dksX0_helps_1 19 rfl rfl)
theorem dX0_helps_42 : decode cX0_helps 42 = .ok (.invokevirtual 382, 3) := dk_182 1 126 (dk_at dksX0_helps_1 20 rfl rfl)
theorem dX0_helps_45 : decode cX0_helps 45 = .ok (.aload_n 0, 1) := dk_42 (dk_at dksX0_helps_1 23 rfl rfl)
theorem dX0_helps_46 : decode cX0_helps 46 = .ok (.getfield 67, 3) := dk_180 0 67 (dk_at dksX0_helps_2 0 rfl rfl)
theorem dX0_helps_49 : decode cX0_helps 49 = .ok (.getfield 385, 3) := dk_180 1 129 (dk_at dksX0_helps_2 3 rfl rfl)
theorem dX0_helps_52 : decode cX0_helps 52 = .ok (.iload_n 2, 1) := dk_28 (dk_at dksX0_helps_2 6 rfl rfl)
theorem dX0_helps_53 : decode cX0_helps 53 = .ok (.iaload, 1) := dk_46 (dk_at dksX0_helps_2 7 rfl rfl)
theorem dX0_helps_54 : decode cX0_helps 54 = .ok (.istore_n 3, 1) := dk_62 (dk_at dksX0_helps_2 8 rfl rfl)
theorem dX0_helps_55 : decode cX0_helps 55 = .ok (.aload_n 0, 1) := dk_42 (dk_at dksX0_helps_2 9 rfl rfl)
theorem dX0_helps_56 : decode cX0_helps 56 = .ok (.getfield 67, 3) := dk_180 0 67 (dk_at dksX0_helps_2 10 rfl rfl)
theorem dX0_helps_59 : decode cX0_helps 59 = .ok (.iconst 1, 1) := dk_4 (dk_at dksX0_helps_2 13 rfl rfl)
theorem dX0_helps_60 : decode cX0_helps 60 = .ok (.iload_n 1, 1) := dk_27 (dk_at dksX0_helps_2 14 rfl rfl)
theorem dX0_helps_61 : decode cX0_helps 61 = .ok (.ishl, 1) := dk_120 (dk_at dksX0_helps_2 15 rfl rfl)
theorem dX0_helps_62 : decode cX0_helps 62 = .ok (.invokevirtual 382, 3) := dk_182 1 126 (dk_at dksX0_helps_2 16 rfl rfl)
theorem dX0_helps_65 : decode cX0_helps 65 = .ok (.iload_n 3, 1) := dk_29 (dk_at dksX0_helps_2 19 rfl rfl)
theorem dX0_helps_66 : decode cX0_helps 66 = .ok (.aload_n 0, 1) := dk_42 (dk_at dksX0_helps_2 20 rfl rfl)
theorem dX0_helps_67 : decode cX0_helps 67 = .ok (.getfield 67, 3) := dk_180 0 67 (dk_at dksX0_helps_2 21 rfl rfl)
theorem dX0_helps_70 : decode cX0_helps 70 = .ok (.getfield 385, 3) := dk_180 1 129 (dk_at dksX0_helps_3 0 rfl rfl)
theorem dX0_helps_73 : decode cX0_helps 73 = .ok (.iload_n 2, 1) := dk_28 (dk_at dksX0_helps_3 3 rfl rfl)
theorem dX0_helps_74 : decode cX0_helps 74 = .ok (.iaload, 1) := dk_46 (dk_at dksX0_helps_3 4 rfl rfl)
theorem dX0_helps_75 : decode cX0_helps 75 = .ok (.isub, 1) := dk_100 (dk_at dksX0_helps_3 5 rfl rfl)
theorem dX0_helps_76 : decode cX0_helps 76 = .ok (.i2l, 1) := dk_133 (dk_at dksX0_helps_3 6 rfl rfl)
theorem dX0_helps_77 : decode cX0_helps 77 = .ok (.lreturn, 1) := dk_173 (dk_at dksX0_helps_3 7 rfl rfl)
def dkwX0_compare_7 : List UInt8 := [22, 6, 22, 8, 101, 20, 1, 211, 105, 29, 133, 22, 6, 105, 148, 158, 0, 7, 10, 167, 0, 4, 9, 173]
abbrev dktX0_compare_7 : List UInt8 := dkwX0_compare_7 ++ []
def dkwX0_compare_6 : List UInt8 := [167, 0, 46, 28, 4, 160, 0, 8, 22, 6, 167, 0, 36, 28, 5, 160, 0, 8, 22, 8, 167, 0, 26]
abbrev dktX0_compare_6 : List UInt8 := dkwX0_compare_6 ++ dktX0_compare_7
def dkwX0_compare_5 : List UInt8 := [22, 8, 25, 11, 182, 1, 189, 97, 55, 8, 132, 10, 1, 167, 255, 170, 28, 154, 0, 8, 22, 4]
abbrev dktX0_compare_5 : List UInt8 := dkwX0_compare_5 ++ dktX0_compare_6
def dkwX0_compare_4 : List UInt8 := [25, 12, 199, 0, 6, 167, 0, 29, 22, 4, 10, 97, 55, 4, 22, 6, 25, 12, 182, 1, 189, 97, 55, 6]
abbrev dktX0_compare_4 : List UInt8 := dkwX0_compare_4 ++ dktX0_compare_5
def dkwX0_compare_3 : List UInt8 := [25, 11, 182, 1, 184, 27, 162, 0, 7, 1, 167, 0, 11, 42, 25, 11, 27, 29, 182, 1, 213, 58, 12]
abbrev dktX0_compare_3 : List UInt8 := dkwX0_compare_3 ++ dktX0_compare_4
def dkwX0_compare_2 : List UInt8 := [42, 180, 0, 71, 182, 0, 77, 162, 0, 80, 42, 180, 0, 71, 21, 10, 182, 0, 81, 192, 1, 171, 58, 11]
abbrev dktX0_compare_2 : List UInt8 := dkwX0_compare_2 ++ dktX0_compare_3
def dkwX0_compare_1 : List UInt8 := [180, 0, 119, 182, 0, 122, 180, 1, 57, 62, 9, 55, 4, 9, 55, 6, 9, 55, 8, 3, 54, 10, 21, 10]
abbrev dktX0_compare_1 : List UInt8 := dkwX0_compare_1 ++ dktX0_compare_2
def dkwX0_compare_0 : List UInt8 := [27, 184, 1, 70, 153, 0, 12, 28, 3, 6, 184, 0, 3, 154, 0, 7, 20, 1, 182, 173, 42, 42]
abbrev dktX0_compare_0 : List UInt8 := dkwX0_compare_0 ++ dktX0_compare_1
theorem dksX0_compare_0 : cX0_compare.data.toList.drop 0 = dktX0_compare_0 := by decide +kernel
theorem dksX0_compare_1 : cX0_compare.data.toList.drop 22 = dktX0_compare_1 := dk_seg dksX0_compare_0 22 rfl rfl
theorem dksX0_compare_2 : cX0_compare.data.toList.drop 46 = dktX0_compare_2 := dk_seg dksX0_compare_1 24 rfl rfl
theorem dksX0_compare_3 : cX0_compare.data.toList.drop 70 = dktX0_compare_3 := dk_seg dksX0_compare_2 24 rfl rfl
theorem dksX0_compare_4 : cX0_compare.data.toList.drop 93 = dktX0_compare_4 := dk_seg dksX0_compare_3 23 rfl rfl
theorem dksX0_compare_5 : cX0_compare.data.toList.drop 117 = dktX0_compare_5 := dk_seg dksX0_compare_4 24 rfl rfl
theorem dksX0_compare_6 : cX0_compare.data.toList.drop 139 = dktX0_compare_6 := dk_seg dksX0_compare_5 22 rfl rfl
theorem dksX0_compare_7 : cX0_compare.data.toList.drop 162 = dktX0_compare_7 := dk_seg dksX0_compare_6 23 rfl rfl
theorem dX0_compare_0 : decode cX0_compare 0 = .ok (.iload_n 1, 1) := dk_27 (dk_at dksX0_compare_0 0 rfl rfl)
theorem dX0_compare_1 : decode cX0_compare 1 = .ok (.invokestatic 326, 3) := dk_184 1 70 (dk_at dksX0_compare_0 1 rfl rfl)
theorem dX0_compare_4 : decode cX0_compare 4 = .ok (.ifCond .eq 12, 3) := dk_153 0 12 (dk_at dksX0_compare_0 4 rfl rfl)
theorem dX0_compare_7 : decode cX0_compare 7 = .ok (.iload_n 2, 1) := dk_28 (dk_at dksX0_compare_0 7 rfl rfl)
theorem dX0_compare_8 : decode cX0_compare 8 = .ok (.iconst 0, 1) := dk_3 (dk_at dksX0_compare_0 8 rfl rfl)
theorem dX0_compare_9 : decode cX0_compare 9 = .ok (.iconst 3, 1) := dk_6 (dk_at dksX0_compare_0 9 rfl rfl)
theorem dX0_compare_10 : decode cX0_compare 10 = .ok (.invokestatic 3, 3) := dk_184 0 3 (dk_at dksX0_compare_0 10 rfl rfl)
theorem dX0_compare_13 : decode cX0_compare 13 = .ok (.ifCond .ne 7, 3) := dk_154 0 7 (dk_at dksX0_compare_0 13 rfl rfl)
theorem dX0_compare_16 : decode cX0_compare 16 = .ok (.ldc2_w 438, 3) := dk_20 1 182 (dk_at dksX0_compare_0 16 rfl rfl)
theorem dX0_compare_19 : decode cX0_compare 19 = .ok (.lreturn, 1) := dk_173 (dk_at dksX0_compare_0 19 rfl rfl)
theorem dX0_compare_20 : decode cX0_compare 20 = .ok (.aload_n 0, 1) := dk_42 (dk_at dksX0_compare_0 20 rfl rfl)
theorem dX0_compare_21 : decode cX0_compare 21 = .ok (.aload_n 0, 1) := dk_42 (dk_at dksX0_compare_0 21 rfl rfl)
theorem dX0_compare_22 : decode cX0_compare 22 = .ok (.getfield 119, 3) := dk_180 0 119 (dk_at dksX0_compare_1 0 rfl rfl)
theorem dX0_compare_25 : decode cX0_compare 25 = .ok (.invokevirtual 122, 3) := dk_182 0 122 (dk_at dksX0_compare_1 3 rfl rfl)
theorem dX0_compare_28 : decode cX0_compare 28 = .ok (.getfield 313, 3) := dk_180 1 57 (dk_at dksX0_compare_1 6 rfl rfl)
theorem dX0_compare_31 : decode cX0_compare 31 = .ok (.istore_n 3, 1) := dk_62 (dk_at dksX0_compare_1 9 rfl rfl)
theorem dX0_compare_32 : decode cX0_compare 32 = .ok (.lconst 0, 1) := dk_9 (dk_at dksX0_compare_1 10 rfl rfl)
theorem dX0_compare_33 : decode cX0_compare 33 = .ok (.lstore 4, 2) := dk_55 4 (dk_at dksX0_compare_1 11 rfl rfl)
theorem dX0_compare_35 : decode cX0_compare 35 = .ok (.lconst 0, 1) := dk_9 (dk_at dksX0_compare_1 13 rfl rfl)
theorem dX0_compare_36 : decode cX0_compare 36 = .ok (.lstore 6, 2) := dk_55 6 (dk_at dksX0_compare_1 14 rfl rfl)
theorem dX0_compare_38 : decode cX0_compare 38 = .ok (.lconst 0, 1) := dk_9 (dk_at dksX0_compare_1 16 rfl rfl)
theorem dX0_compare_39 : decode cX0_compare 39 = .ok (.lstore 8, 2) := dk_55 8 (dk_at dksX0_compare_1 17 rfl rfl)
theorem dX0_compare_41 : decode cX0_compare 41 = .ok (.iconst 0, 1) := dk_3 (dk_at dksX0_compare_1 19 rfl rfl)
theorem dX0_compare_42 : decode cX0_compare 42 = .ok (.istore 10, 2) := dk_54 10 (dk_at dksX0_compare_1 20 rfl rfl)
theorem dX0_compare_44 : decode cX0_compare 44 = .ok (.iload 10, 2) := dk_21 10 (dk_at dksX0_compare_1 22 rfl rfl)
theorem dX0_compare_46 : decode cX0_compare 46 = .ok (.aload_n 0, 1) := dk_42 (dk_at dksX0_compare_2 0 rfl rfl)
theorem dX0_compare_47 : decode cX0_compare 47 = .ok (.getfield 71, 3) := dk_180 0 71 (dk_at dksX0_compare_2 1 rfl rfl)
theorem dX0_compare_50 : decode cX0_compare 50 = .ok (.invokevirtual 77, 3) := dk_182 0 77 (dk_at dksX0_compare_2 4 rfl rfl)
theorem dX0_compare_53 : decode cX0_compare 53 = .ok (.if_icmp .ge 80, 3) := dk_162 0 80 (dk_at dksX0_compare_2 7 rfl rfl)
theorem dX0_compare_56 : decode cX0_compare 56 = .ok (.aload_n 0, 1) := dk_42 (dk_at dksX0_compare_2 10 rfl rfl)
theorem dX0_compare_57 : decode cX0_compare 57 = .ok (.getfield 71, 3) := dk_180 0 71 (dk_at dksX0_compare_2 11 rfl rfl)
theorem dX0_compare_60 : decode cX0_compare 60 = .ok (.iload 10, 2) := dk_21 10 (dk_at dksX0_compare_2 14 rfl rfl)
theorem dX0_compare_62 : decode cX0_compare 62 = .ok (.invokevirtual 81, 3) := dk_182 0 81 (dk_at dksX0_compare_2 16 rfl rfl)
theorem dX0_compare_65 : decode cX0_compare 65 = .ok (.checkcast 427, 3) := dk_192 1 171 (dk_at dksX0_compare_2 19 rfl rfl)
theorem dX0_compare_68 : decode cX0_compare 68 = .ok (.astore 11, 2) := dk_58 11 (dk_at dksX0_compare_2 22 rfl rfl)
theorem dX0_compare_70 : decode cX0_compare 70 = .ok (.aload 11, 2) := dk_25 11 (dk_at dksX0_compare_3 0 rfl rfl)
theorem dX0_compare_72 : decode cX0_compare 72 = .ok (.invokevirtual 440, 3) := dk_182 1 184 (dk_at dksX0_compare_3 2 rfl rfl)
theorem dX0_compare_75 : decode cX0_compare 75 = .ok (.iload_n 1, 1) := dk_27 (dk_at dksX0_compare_3 5 rfl rfl)
theorem dX0_compare_76 : decode cX0_compare 76 = .ok (.if_icmp .ge 7, 3) := dk_162 0 7 (dk_at dksX0_compare_3 6 rfl rfl)
theorem dX0_compare_79 : decode cX0_compare 79 = .ok (.aconst_null, 1) := dk_1 (dk_at dksX0_compare_3 9 rfl rfl)
theorem dX0_compare_80 : decode cX0_compare 80 = .ok (.goto 11, 3) := dk_167 0 11 (dk_at dksX0_compare_3 10 rfl rfl)
theorem dX0_compare_83 : decode cX0_compare 83 = .ok (.aload_n 0, 1) := dk_42 (dk_at dksX0_compare_3 13 rfl rfl)
theorem dX0_compare_84 : decode cX0_compare 84 = .ok (.aload 11, 2) := dk_25 11 (dk_at dksX0_compare_3 14 rfl rfl)
theorem dX0_compare_86 : decode cX0_compare 86 = .ok (.iload_n 1, 1) := dk_27 (dk_at dksX0_compare_3 16 rfl rfl)
theorem dX0_compare_87 : decode cX0_compare 87 = .ok (.iload_n 3, 1) := dk_29 (dk_at dksX0_compare_3 17 rfl rfl)
theorem dX0_compare_88 : decode cX0_compare 88 = .ok (.invokevirtual 469, 3) := dk_182 1 213 (dk_at dksX0_compare_3 18 rfl rfl)
theorem dX0_compare_91 : decode cX0_compare 91 = .ok (.astore 12, 2) := dk_58 12 (dk_at dksX0_compare_3 21 rfl rfl)
theorem dX0_compare_93 : decode cX0_compare 93 = .ok (.aload 12, 2) := dk_25 12 (dk_at dksX0_compare_4 0 rfl rfl)
theorem dX0_compare_95 : decode cX0_compare 95 = .ok (.ifnonnull 6, 3) := dk_199 0 6 (dk_at dksX0_compare_4 2 rfl rfl)
theorem dX0_compare_98 : decode cX0_compare 98 = .ok (.goto 29, 3) := dk_167 0 29 (dk_at dksX0_compare_4 5 rfl rfl)
theorem dX0_compare_101 : decode cX0_compare 101 = .ok (.lload 4, 2) := dk_22 4 (dk_at dksX0_compare_4 8 rfl rfl)
theorem dX0_compare_103 : decode cX0_compare 103 = .ok (.lconst 1, 1) := dk_10 (dk_at dksX0_compare_4 10 rfl rfl)
theorem dX0_compare_104 : decode cX0_compare 104 = .ok (.ladd, 1) := dk_97 (dk_at dksX0_compare_4 11 rfl rfl)
theorem dX0_compare_105 : decode cX0_compare 105 = .ok (.lstore 4, 2) := dk_55 4 (dk_at dksX0_compare_4 12 rfl rfl)
theorem dX0_compare_107 : decode cX0_compare 107 = .ok (.lload 6, 2) := dk_22 6 (dk_at dksX0_compare_4 14 rfl rfl)
theorem dX0_compare_109 : decode cX0_compare 109 = .ok (.aload 12, 2) := dk_25 12 (dk_at dksX0_compare_4 16 rfl rfl)
theorem dX0_compare_111 : decode cX0_compare 111 = .ok (.invokevirtual 445, 3) := dk_182 1 189 (dk_at dksX0_compare_4 18 rfl rfl)
theorem dX0_compare_114 : decode cX0_compare 114 = .ok (.ladd, 1) := dk_97 (dk_at dksX0_compare_4 21 rfl rfl)
theorem dX0_compare_115 : decode cX0_compare 115 = .ok (.lstore 6, 2) := dk_55 6 (dk_at dksX0_compare_4 22 rfl rfl)
theorem dX0_compare_117 : decode cX0_compare 117 = .ok (.lload 8, 2) := dk_22 8 (dk_at dksX0_compare_5 0 rfl rfl)
theorem dX0_compare_119 : decode cX0_compare 119 = .ok (.aload 11, 2) := dk_25 11 (dk_at dksX0_compare_5 2 rfl rfl)
theorem dX0_compare_121 : decode cX0_compare 121 = .ok (.invokevirtual 445, 3) := dk_182 1 189 (dk_at dksX0_compare_5 4 rfl rfl)
theorem dX0_compare_124 : decode cX0_compare 124 = .ok (.ladd, 1) := dk_97 (dk_at dksX0_compare_5 7 rfl rfl)
theorem dX0_compare_125 : decode cX0_compare 125 = .ok (.lstore 8, 2) := dk_55 8 (dk_at dksX0_compare_5 8 rfl rfl)
theorem dX0_compare_127 : decode cX0_compare 127 = .ok (.iinc 10 1, 3) := dk_132 10 1 (dk_at dksX0_compare_5 10 rfl rfl)
theorem dX0_compare_130 : decode cX0_compare 130 = .ok (.goto (-86), 3) := dk_167 255 170 (dk_at dksX0_compare_5 13 rfl rfl)
theorem dX0_compare_133 : decode cX0_compare 133 = .ok (.iload_n 2, 1) := dk_28 (dk_at dksX0_compare_5 16 rfl rfl)
theorem dX0_compare_134 : decode cX0_compare 134 = .ok (.ifCond .ne 8, 3) := dk_154 0 8 (dk_at dksX0_compare_5 17 rfl rfl)
theorem dX0_compare_137 : decode cX0_compare 137 = .ok (.lload 4, 2) := dk_22 4 (dk_at dksX0_compare_5 20 rfl rfl)
theorem dX0_compare_139 : decode cX0_compare 139 = .ok (.goto 46, 3) := dk_167 0 46 (dk_at dksX0_compare_6 0 rfl rfl)
theorem dX0_compare_142 : decode cX0_compare 142 = .ok (.iload_n 2, 1) := dk_28 (dk_at dksX0_compare_6 3 rfl rfl)
theorem dX0_compare_143 : decode cX0_compare 143 = .ok (.iconst 1, 1) := dk_4 (dk_at dksX0_compare_6 4 rfl rfl)
theorem dX0_compare_144 : decode cX0_compare 144 = .ok (.if_icmp .ne 8, 3) := dk_160 0 8 (dk_at dksX0_compare_6 5 rfl rfl)
theorem dX0_compare_147 : decode cX0_compare 147 = .ok (.lload 6, 2) := dk_22 6 (dk_at dksX0_compare_6 8 rfl rfl)
theorem dX0_compare_149 : decode cX0_compare 149 = .ok (.goto 36, 3) := dk_167 0 36 (dk_at dksX0_compare_6 10 rfl rfl)
theorem dX0_compare_152 : decode cX0_compare 152 = .ok (.iload_n 2, 1) := dk_28 (dk_at dksX0_compare_6 13 rfl rfl)
theorem dX0_compare_153 : decode cX0_compare 153 = .ok (.iconst 2, 1) := dk_5 (dk_at dksX0_compare_6 14 rfl rfl)
theorem dX0_compare_154 : decode cX0_compare 154 = .ok (.if_icmp .ne 8, 3) := dk_160 0 8 (dk_at dksX0_compare_6 15 rfl rfl)
theorem dX0_compare_157 : decode cX0_compare 157 = .ok (.lload 8, 2) := dk_22 8 (dk_at dksX0_compare_6 18 rfl rfl)
theorem dX0_compare_159 : decode cX0_compare 159 = .ok (.goto 26, 3) := dk_167 0 26 (dk_at dksX0_compare_6 20 rfl rfl)
theorem dX0_compare_162 : decode cX0_compare 162 = .ok (.lload 6, 2) := dk_22 6 (dk_at dksX0_compare_7 0 rfl rfl)
theorem dX0_compare_164 : decode cX0_compare 164 = .ok (.lload 8, 2) := dk_22 8 (dk_at dksX0_compare_7 2 rfl rfl)
theorem dX0_compare_166 : decode cX0_compare 166 = .ok (.lsub, 1) := dk_101 (dk_at dksX0_compare_7 4 rfl rfl)
theorem dX0_compare_167 : decode cX0_compare 167 = .ok (.ldc2_w 467, 3) := dk_20 1 211 (dk_at dksX0_compare_7 5 rfl rfl)
theorem dX0_compare_170 : decode cX0_compare 170 = .ok (.lmul, 1) := dk_105 (dk_at dksX0_compare_7 8 rfl rfl)
theorem dX0_compare_171 : decode cX0_compare 171 = .ok (.iload_n 3, 1) := dk_29 (dk_at dksX0_compare_7 9 rfl rfl)
theorem dX0_compare_172 : decode cX0_compare 172 = .ok (.i2l, 1) := dk_133 (dk_at dksX0_compare_7 10 rfl rfl)
theorem dX0_compare_173 : decode cX0_compare 173 = .ok (.lload 6, 2) := dk_22 6 (dk_at dksX0_compare_7 11 rfl rfl)
theorem dX0_compare_175 : decode cX0_compare 175 = .ok (.lmul, 1) := dk_105 (dk_at dksX0_compare_7 13 rfl rfl)
theorem dX0_compare_176 : decode cX0_compare 176 = .ok (.lcmp, 1) := dk_148 (dk_at dksX0_compare_7 14 rfl rfl)
theorem dX0_compare_177 : decode cX0_compare 177 = .ok (.ifCond .le 7, 3) := dk_158 0 7 (dk_at dksX0_compare_7 15 rfl rfl)
theorem dX0_compare_180 : decode cX0_compare 180 = .ok (.lconst 1, 1) := dk_10 (dk_at dksX0_compare_7 18 rfl rfl)
theorem dX0_compare_181 : decode cX0_compare 181 = .ok (.goto 4, 3) := dk_167 0 4 (dk_at dksX0_compare_7 19 rfl rfl)
theorem dX0_compare_184 : decode cX0_compare 184 = .ok (.lconst 0, 1) := dk_9 (dk_at dksX0_compare_7 22 rfl rfl)
theorem dX0_compare_185 : decode cX0_compare 185 = .ok (.lreturn, 1) := dk_173 (dk_at dksX0_compare_7 23 rfl rfl)
def dkwX0_like_4 : List UInt8 := [184, 1, 207, 148, 157, 0, 7, 25, 6, 58, 4, 132, 5, 1, 167, 255, 155, 25, 4, 176]
abbrev dktX0_like_4 : List UInt8 := dkwX0_like_4 ++ []
def dkwX0_like_3 : List UInt8 := [158, 0, 6, 167, 0, 31, 25, 4, 198, 0, 22, 22, 7, 25, 4, 182, 1, 186, 43, 182, 1, 186, 101]
abbrev dktX0_like_3 : List UInt8 := dkwX0_like_3 ++ dktX0_like_4
def dkwX0_like_2 : List UInt8 := [25, 6, 182, 1, 184, 28, 162, 0, 51, 22, 7, 20, 1, 211, 105, 29, 133, 43, 182, 1, 186, 105, 148]
abbrev dktX0_like_2 : List UInt8 := dkwX0_like_2 ++ dktX0_like_3
def dkwX0_like_1 : List UInt8 := [182, 0, 81, 192, 1, 171, 58, 6, 25, 6, 182, 1, 186, 43, 182, 1, 186, 101, 184, 1, 207, 55, 7]
abbrev dktX0_like_1 : List UInt8 := dkwX0_like_1 ++ dktX0_like_2
def dkwX0_like_0 : List UInt8 := [1, 58, 4, 3, 54, 5, 21, 5, 42, 180, 0, 71, 182, 0, 77, 162, 0, 95, 42, 180, 0, 71, 21, 5]
abbrev dktX0_like_0 : List UInt8 := dkwX0_like_0 ++ dktX0_like_1
theorem dksX0_like_0 : cX0_like.data.toList.drop 0 = dktX0_like_0 := by decide +kernel
theorem dksX0_like_1 : cX0_like.data.toList.drop 24 = dktX0_like_1 := dk_seg dksX0_like_0 24 rfl rfl
theorem dksX0_like_2 : cX0_like.data.toList.drop 47 = dktX0_like_2 := dk_seg dksX0_like_1 23 rfl rfl
theorem dksX0_like_3 : cX0_like.data.toList.drop 70 = dktX0_like_3 := dk_seg dksX0_like_2 23 rfl rfl
theorem dksX0_like_4 : cX0_like.data.toList.drop 93 = dktX0_like_4 := dk_seg dksX0_like_3 23 rfl rfl
theorem dX0_like_0 : decode cX0_like 0 = .ok (.aconst_null, 1) := dk_1 (dk_at dksX0_like_0 0 rfl rfl)
theorem dX0_like_1 : decode cX0_like 1 = .ok (.astore 4, 2) := dk_58 4 (dk_at dksX0_like_0 1 rfl rfl)
theorem dX0_like_3 : decode cX0_like 3 = .ok (.iconst 0, 1) := dk_3 (dk_at dksX0_like_0 3 rfl rfl)
theorem dX0_like_4 : decode cX0_like 4 = .ok (.istore 5, 2) := dk_54 5 (dk_at dksX0_like_0 4 rfl rfl)
theorem dX0_like_6 : decode cX0_like 6 = .ok (.iload 5, 2) := dk_21 5 (dk_at dksX0_like_0 6 rfl rfl)
theorem dX0_like_8 : decode cX0_like 8 = .ok (.aload_n 0, 1) := dk_42 (dk_at dksX0_like_0 8 rfl rfl)
theorem dX0_like_9 : decode cX0_like 9 = .ok (.getfield 71, 3) := dk_180 0 71 (dk_at dksX0_like_0 9 rfl rfl)
theorem dX0_like_12 : decode cX0_like 12 = .ok (.invokevirtual 77, 3) := dk_182 0 77 (dk_at dksX0_like_0 12 rfl rfl)
theorem dX0_like_15 : decode cX0_like 15 = .ok (.if_icmp .ge 95, 3) := dk_162 0 95 (dk_at dksX0_like_0 15 rfl rfl)
theorem dX0_like_18 : decode cX0_like 18 = .ok (.aload_n 0, 1) := dk_42 (dk_at dksX0_like_0 18 rfl rfl)
theorem dX0_like_19 : decode cX0_like 19 = .ok (.getfield 71, 3) := dk_180 0 71 (dk_at dksX0_like_0 19 rfl rfl)
theorem dX0_like_22 : decode cX0_like 22 = .ok (.iload 5, 2) := dk_21 5 (dk_at dksX0_like_0 22 rfl rfl)
theorem dX0_like_24 : decode cX0_like 24 = .ok (.invokevirtual 81, 3) := dk_182 0 81 (dk_at dksX0_like_1 0 rfl rfl)
theorem dX0_like_27 : decode cX0_like 27 = .ok (.checkcast 427, 3) := dk_192 1 171 (dk_at dksX0_like_1 3 rfl rfl)
theorem dX0_like_30 : decode cX0_like 30 = .ok (.astore 6, 2) := dk_58 6 (dk_at dksX0_like_1 6 rfl rfl)
theorem dX0_like_32 : decode cX0_like 32 = .ok (.aload 6, 2) := dk_25 6 (dk_at dksX0_like_1 8 rfl rfl)
theorem dX0_like_34 : decode cX0_like 34 = .ok (.invokevirtual 442, 3) := dk_182 1 186 (dk_at dksX0_like_1 10 rfl rfl)
theorem dX0_like_37 : decode cX0_like 37 = .ok (.aload_n 1, 1) := dk_43 (dk_at dksX0_like_1 13 rfl rfl)
theorem dX0_like_38 : decode cX0_like 38 = .ok (.invokevirtual 442, 3) := dk_182 1 186 (dk_at dksX0_like_1 14 rfl rfl)
theorem dX0_like_41 : decode cX0_like 41 = .ok (.lsub, 1) := dk_101 (dk_at dksX0_like_1 17 rfl rfl)
theorem dX0_like_42 : decode cX0_like 42 = .ok (.invokestatic 463, 3) := dk_184 1 207 (dk_at dksX0_like_1 18 rfl rfl)
theorem dX0_like_45 : decode cX0_like 45 = .ok (.lstore 7, 2) := dk_55 7 (dk_at dksX0_like_1 21 rfl rfl)
theorem dX0_like_47 : decode cX0_like 47 = .ok (.aload 6, 2) := dk_25 6 (dk_at dksX0_like_2 0 rfl rfl)
theorem dX0_like_49 : decode cX0_like 49 = .ok (.invokevirtual 440, 3) := dk_182 1 184 (dk_at dksX0_like_2 2 rfl rfl)
theorem dX0_like_52 : decode cX0_like 52 = .ok (.iload_n 2, 1) := dk_28 (dk_at dksX0_like_2 5 rfl rfl)
theorem dX0_like_53 : decode cX0_like 53 = .ok (.if_icmp .ge 51, 3) := dk_162 0 51 (dk_at dksX0_like_2 6 rfl rfl)
theorem dX0_like_56 : decode cX0_like 56 = .ok (.lload 7, 2) := dk_22 7 (dk_at dksX0_like_2 9 rfl rfl)
theorem dX0_like_58 : decode cX0_like 58 = .ok (.ldc2_w 467, 3) := dk_20 1 211 (dk_at dksX0_like_2 11 rfl rfl)
theorem dX0_like_61 : decode cX0_like 61 = .ok (.lmul, 1) := dk_105 (dk_at dksX0_like_2 14 rfl rfl)
theorem dX0_like_62 : decode cX0_like 62 = .ok (.iload_n 3, 1) := dk_29 (dk_at dksX0_like_2 15 rfl rfl)
theorem dX0_like_63 : decode cX0_like 63 = .ok (.i2l, 1) := dk_133 (dk_at dksX0_like_2 16 rfl rfl)
theorem dX0_like_64 : decode cX0_like 64 = .ok (.aload_n 1, 1) := dk_43 (dk_at dksX0_like_2 17 rfl rfl)
theorem dX0_like_65 : decode cX0_like 65 = .ok (.invokevirtual 442, 3) := dk_182 1 186 (dk_at dksX0_like_2 18 rfl rfl)
theorem dX0_like_68 : decode cX0_like 68 = .ok (.lmul, 1) := dk_105 (dk_at dksX0_like_2 21 rfl rfl)
theorem dX0_like_69 : decode cX0_like 69 = .ok (.lcmp, 1) := dk_148 (dk_at dksX0_like_2 22 rfl rfl)
theorem dX0_like_70 : decode cX0_like 70 = .ok (.ifCond .le 6, 3) := dk_158 0 6 (dk_at dksX0_like_3 0 rfl rfl)
theorem dX0_like_73 : decode cX0_like 73 = .ok (.goto 31, 3) := dk_167 0 31 (dk_at dksX0_like_3 3 rfl rfl)
theorem dX0_like_76 : decode cX0_like 76 = .ok (.aload 4, 2) := dk_25 4 (dk_at dksX0_like_3 6 rfl rfl)
theorem dX0_like_78 : decode cX0_like 78 = .ok (.ifnull 22, 3) := dk_198 0 22 (dk_at dksX0_like_3 8 rfl rfl)
theorem dX0_like_81 : decode cX0_like 81 = .ok (.lload 7, 2) := dk_22 7 (dk_at dksX0_like_3 11 rfl rfl)
theorem dX0_like_83 : decode cX0_like 83 = .ok (.aload 4, 2) := dk_25 4 (dk_at dksX0_like_3 13 rfl rfl)
theorem dX0_like_85 : decode cX0_like 85 = .ok (.invokevirtual 442, 3) := dk_182 1 186 (dk_at dksX0_like_3 15 rfl rfl)
theorem dX0_like_88 : decode cX0_like 88 = .ok (.aload_n 1, 1) := dk_43 (dk_at dksX0_like_3 18 rfl rfl)
theorem dX0_like_89 : decode cX0_like 89 = .ok (.invokevirtual 442, 3) := dk_182 1 186 (dk_at dksX0_like_3 19 rfl rfl)
theorem dX0_like_92 : decode cX0_like 92 = .ok (.lsub, 1) := dk_101 (dk_at dksX0_like_3 22 rfl rfl)
theorem dX0_like_93 : decode cX0_like 93 = .ok (.invokestatic 463, 3) := dk_184 1 207 (dk_at dksX0_like_4 0 rfl rfl)
theorem dX0_like_96 : decode cX0_like 96 = .ok (.lcmp, 1) := dk_148 (dk_at dksX0_like_4 3 rfl rfl)
theorem dX0_like_97 : decode cX0_like 97 = .ok (.ifCond .gt 7, 3) := dk_157 0 7 (dk_at dksX0_like_4 4 rfl rfl)
theorem dX0_like_100 : decode cX0_like 100 = .ok (.aload 6, 2) := dk_25 6 (dk_at dksX0_like_4 7 rfl rfl)
theorem dX0_like_102 : decode cX0_like 102 = .ok (.astore 4, 2) := dk_58 4 (dk_at dksX0_like_4 9 rfl rfl)
theorem dX0_like_104 : decode cX0_like 104 = .ok (.iinc 5 1, 3) := dk_132 5 1 (dk_at dksX0_like_4 11 rfl rfl)
theorem dX0_like_107 : decode cX0_like 107 = .ok (.goto (-101), 3) := dk_167 255 155 (dk_at dksX0_like_4 14 rfl rfl)
theorem dX0_like_110 : decode cX0_like 110 = .ok (.aload 4, 2) := dk_25 4 (dk_at dksX0_like_4 17 rfl rfl)
theorem dX0_like_112 : decode cX0_like 112 = .ok (.areturn, 1) := dk_176 (dk_at dksX0_like_4 19 rfl rfl)
def dkwX0_crew_9 : List UInt8 := [21, 5, 172]
abbrev dktX0_crew_9 : List UInt8 := dkwX0_crew_9 ++ []
def dkwX0_crew_8 : List UInt8 := [132, 7, 1, 167, 255, 119, 28, 154, 0, 8, 21, 4, 167, 0, 14, 28, 4, 160, 0, 7, 29, 167, 0, 5]
abbrev dktX0_crew_8 : List UInt8 := dkwX0_crew_8 ++ dktX0_crew_9
def dkwX0_crew_7 : List UInt8 := [167, 255, 203, 21, 9, 21, 4, 163, 0, 6, 167, 0, 14, 21, 9, 54, 4, 21, 7, 62, 21, 8, 54, 5]
abbrev dktX0_crew_7 : List UInt8 := dkwX0_crew_7 ++ dktX0_crew_8
def dkwX0_crew_6 : List UInt8 := [182, 0, 81, 192, 0, 85, 180, 0, 91, 182, 1, 220, 167, 0, 4, 3, 96, 54, 9, 132, 10, 1]
abbrev dktX0_crew_6 : List UInt8 := dkwX0_crew_6 ++ dktX0_crew_7
def dkwX0_crew_5 : List UInt8 := [162, 0, 47, 21, 9, 21, 7, 21, 10, 122, 4, 126, 4, 160, 0, 24, 42, 180, 0, 20, 21, 10]
abbrev dktX0_crew_5 : List UInt8 := dkwX0_crew_5 ++ dktX0_crew_6
def dkwX0_crew_4 : List UInt8 := [21, 8, 27, 164, 0, 6, 167, 0, 86, 3, 54, 9, 3, 54, 10, 21, 10, 42, 180, 0, 20, 182, 0, 77]
abbrev dktX0_crew_4 : List UInt8 := dkwX0_crew_4 ++ dktX0_crew_5
def dkwX0_crew_3 : List UInt8 := [184, 1, 217, 100, 5, 21, 7, 184, 1, 199, 104, 96, 54, 8, 21, 7, 21, 6, 2, 130, 126, 154, 0, 95]
abbrev dktX0_crew_3 : List UInt8 := dkwX0_crew_3 ++ dktX0_crew_4
def dkwX0_crew_2 : List UInt8 := [54, 6, 4, 54, 7, 21, 7, 4, 42, 180, 0, 20, 182, 0, 77, 120, 162, 0, 129, 16, 31, 21, 7]
abbrev dktX0_crew_2 : List UInt8 := dkwX0_crew_2 ++ dktX0_crew_3
def dkwX0_crew_1 : List UInt8 := [54, 4, 3, 54, 5, 42, 182, 1, 195, 2, 130, 4, 42, 180, 0, 20, 182, 0, 77, 120, 4, 100, 126]
abbrev dktX0_crew_1 : List UInt8 := dkwX0_crew_1 ++ dktX0_crew_2
def dkwX0_crew_0 : List UInt8 := [27, 3, 16, 60, 184, 0, 3, 153, 0, 12, 28, 3, 5, 184, 0, 3, 154, 0, 5, 2, 172, 3, 62, 3]
abbrev dktX0_crew_0 : List UInt8 := dkwX0_crew_0 ++ dktX0_crew_1
theorem dksX0_crew_0 : cX0_crew.data.toList.drop 0 = dktX0_crew_0 := by decide +kernel
theorem dksX0_crew_1 : cX0_crew.data.toList.drop 24 = dktX0_crew_1 := dk_seg dksX0_crew_0 24 rfl rfl
theorem dksX0_crew_2 : cX0_crew.data.toList.drop 47 = dktX0_crew_2 := dk_seg dksX0_crew_1 23 rfl rfl
theorem dksX0_crew_3 : cX0_crew.data.toList.drop 70 = dktX0_crew_3 := dk_seg dksX0_crew_2 23 rfl rfl
theorem dksX0_crew_4 : cX0_crew.data.toList.drop 94 = dktX0_crew_4 := dk_seg dksX0_crew_3 24 rfl rfl
theorem dksX0_crew_5 : cX0_crew.data.toList.drop 118 = dktX0_crew_5 := dk_seg dksX0_crew_4 24 rfl rfl
theorem dksX0_crew_6 : cX0_crew.data.toList.drop 140 = dktX0_crew_6 := dk_seg dksX0_crew_5 22 rfl rfl
theorem dksX0_crew_7 : cX0_crew.data.toList.drop 162 = dktX0_crew_7 := dk_seg dksX0_crew_6 22 rfl rfl
theorem dksX0_crew_8 : cX0_crew.data.toList.drop 186 = dktX0_crew_8 := dk_seg dksX0_crew_7 24 rfl rfl
theorem dksX0_crew_9 : cX0_crew.data.toList.drop 210 = dktX0_crew_9 := dk_seg dksX0_crew_8 24 rfl rfl
theorem dX0_crew_0 : decode cX0_crew 0 = .ok (.iload_n 1, 1) := dk_27 (dk_at dksX0_crew_0 0 rfl rfl)
theorem dX0_crew_1 : decode cX0_crew 1 = .ok (.iconst 0, 1) := dk_3 (dk_at dksX0_crew_0 1 rfl rfl)
theorem dX0_crew_2 : decode cX0_crew 2 = .ok (.bipush 60, 2) := dk_16 60 (dk_at dksX0_crew_0 2 rfl rfl)
theorem dX0_crew_4 : decode cX0_crew 4 = .ok (.invokestatic 3, 3) := dk_184 0 3 (dk_at dksX0_crew_0 4 rfl rfl)
theorem dX0_crew_7 : decode cX0_crew 7 = .ok (.ifCond .eq 12, 3) := dk_153 0 12 (dk_at dksX0_crew_0 7 rfl rfl)
theorem dX0_crew_10 : decode cX0_crew 10 = .ok (.iload_n 2, 1) := dk_28 (dk_at dksX0_crew_0 10 rfl rfl)
theorem dX0_crew_11 : decode cX0_crew 11 = .ok (.iconst 0, 1) := dk_3 (dk_at dksX0_crew_0 11 rfl rfl)
theorem dX0_crew_12 : decode cX0_crew 12 = .ok (.iconst 2, 1) := dk_5 (dk_at dksX0_crew_0 12 rfl rfl)
theorem dX0_crew_13 : decode cX0_crew 13 = .ok (.invokestatic 3, 3) := dk_184 0 3 (dk_at dksX0_crew_0 13 rfl rfl)
theorem dX0_crew_16 : decode cX0_crew 16 = .ok (.ifCond .ne 5, 3) := dk_154 0 5 (dk_at dksX0_crew_0 16 rfl rfl)
theorem dX0_crew_19 : decode cX0_crew 19 = .ok (.iconst (-1), 1) := dk_2 (dk_at dksX0_crew_0 19 rfl rfl)
theorem dX0_crew_20 : decode cX0_crew 20 = .ok (.ireturn, 1) := dk_172 (dk_at dksX0_crew_0 20 rfl rfl)
theorem dX0_crew_21 : decode cX0_crew 21 = .ok (.iconst 0, 1) := dk_3 (dk_at dksX0_crew_0 21 rfl rfl)
theorem dX0_crew_22 : decode cX0_crew 22 = .ok (.istore_n 3, 1) := dk_62 (dk_at dksX0_crew_0 22 rfl rfl)
theorem dX0_crew_23 : decode cX0_crew 23 = .ok (.iconst 0, 1) := dk_3 (dk_at dksX0_crew_0 23 rfl rfl)
theorem dX0_crew_24 : decode cX0_crew 24 = .ok (.istore 4, 2) := dk_54 4 (dk_at dksX0_crew_1 0 rfl rfl)
theorem dX0_crew_26 : decode cX0_crew 26 = .ok (.iconst 0, 1) := dk_3 (dk_at dksX0_crew_1 2 rfl rfl)
theorem dX0_crew_27 : decode cX0_crew 27 = .ok (.istore 5, 2) := dk_54 5 (dk_at dksX0_crew_1 3 rfl rfl)
theorem dX0_crew_29 : decode cX0_crew 29 = .ok (.aload_n 0, 1) := dk_42 (dk_at dksX0_crew_1 5 rfl rfl)
theorem dX0_crew_30 : decode cX0_crew 30 = .ok (.invokevirtual 451, 3) := dk_182 1 195 (dk_at dksX0_crew_1 6 rfl rfl)
theorem dX0_crew_33 : decode cX0_crew 33 = .ok (.iconst (-1), 1) := dk_2 (dk_at dksX0_crew_1 9 rfl rfl)
theorem dX0_crew_34 : decode cX0_crew 34 = .ok (.ixor, 1) := dk_130 (dk_at dksX0_crew_1 10 rfl rfl)
theorem dX0_crew_35 : decode cX0_crew 35 = .ok (.iconst 1, 1) := dk_4 (dk_at dksX0_crew_1 11 rfl rfl)
theorem dX0_crew_36 : decode cX0_crew 36 = .ok (.aload_n 0, 1) := dk_42 (dk_at dksX0_crew_1 12 rfl rfl)
theorem dX0_crew_37 : decode cX0_crew 37 = .ok (.getfield 20, 3) := dk_180 0 20 (dk_at dksX0_crew_1 13 rfl rfl)
theorem dX0_crew_40 : decode cX0_crew 40 = .ok (.invokevirtual 77, 3) := dk_182 0 77 (dk_at dksX0_crew_1 16 rfl rfl)
theorem dX0_crew_43 : decode cX0_crew 43 = .ok (.ishl, 1) := dk_120 (dk_at dksX0_crew_1 19 rfl rfl)
theorem dX0_crew_44 : decode cX0_crew 44 = .ok (.iconst 1, 1) := dk_4 (dk_at dksX0_crew_1 20 rfl rfl)
theorem dX0_crew_45 : decode cX0_crew 45 = .ok (.isub, 1) := dk_100 (dk_at dksX0_crew_1 21 rfl rfl)
theorem dX0_crew_46 : decode cX0_crew 46 = .ok (.iand, 1) := dk_126 (dk_at dksX0_crew_1 22 rfl rfl)
theorem dX0_crew_47 : decode cX0_crew 47 = .ok (.istore 6, 2) := dk_54 6 (dk_at dksX0_crew_2 0 rfl rfl)
theorem dX0_crew_49 : decode cX0_crew 49 = .ok (.iconst 1, 1) := dk_4 (dk_at dksX0_crew_2 2 rfl rfl)
theorem dX0_crew_50 : decode cX0_crew 50 = .ok (.istore 7, 2) := dk_54 7 (dk_at dksX0_crew_2 3 rfl rfl)
theorem dX0_crew_52 : decode cX0_crew 52 = .ok (.iload 7, 2) := dk_21 7 (dk_at dksX0_crew_2 5 rfl rfl)
theorem dX0_crew_54 : decode cX0_crew 54 = .ok (.iconst 1, 1) := dk_4 (dk_at dksX0_crew_2 7 rfl rfl)
theorem dX0_crew_55 : decode cX0_crew 55 = .ok (.aload_n 0, 1) := dk_42 (dk_at dksX0_crew_2 8 rfl rfl)
theorem dX0_crew_56 : decode cX0_crew 56 = .ok (.getfield 20, 3) := dk_180 0 20 (dk_at dksX0_crew_2 9 rfl rfl)
theorem dX0_crew_59 : decode cX0_crew 59 = .ok (.invokevirtual 77, 3) := dk_182 0 77 (dk_at dksX0_crew_2 12 rfl rfl)
theorem dX0_crew_62 : decode cX0_crew 62 = .ok (.ishl, 1) := dk_120 (dk_at dksX0_crew_2 15 rfl rfl)
theorem dX0_crew_63 : decode cX0_crew 63 = .ok (.if_icmp .ge 129, 3) := dk_162 0 129 (dk_at dksX0_crew_2 16 rfl rfl)
theorem dX0_crew_66 : decode cX0_crew 66 = .ok (.bipush 31, 2) := dk_16 31 (dk_at dksX0_crew_2 19 rfl rfl)
theorem dX0_crew_68 : decode cX0_crew 68 = .ok (.iload 7, 2) := dk_21 7 (dk_at dksX0_crew_2 21 rfl rfl)
theorem dX0_crew_70 : decode cX0_crew 70 = .ok (.invokestatic 473, 3) := dk_184 1 217 (dk_at dksX0_crew_3 0 rfl rfl)
theorem dX0_crew_73 : decode cX0_crew 73 = .ok (.isub, 1) := dk_100 (dk_at dksX0_crew_3 3 rfl rfl)
theorem dX0_crew_74 : decode cX0_crew 74 = .ok (.iconst 2, 1) := dk_5 (dk_at dksX0_crew_3 4 rfl rfl)
theorem dX0_crew_75 : decode cX0_crew 75 = .ok (.iload 7, 2) := dk_21 7 (dk_at dksX0_crew_3 5 rfl rfl)
theorem dX0_crew_77 : decode cX0_crew 77 = .ok (.invokestatic 455, 3) := dk_184 1 199 (dk_at dksX0_crew_3 7 rfl rfl)
theorem dX0_crew_80 : decode cX0_crew 80 = .ok (.imul, 1) := dk_104 (dk_at dksX0_crew_3 10 rfl rfl)
theorem dX0_crew_81 : decode cX0_crew 81 = .ok (.iadd, 1) := dk_96 (dk_at dksX0_crew_3 11 rfl rfl)
theorem dX0_crew_82 : decode cX0_crew 82 = .ok (.istore 8, 2) := dk_54 8 (dk_at dksX0_crew_3 12 rfl rfl)
theorem dX0_crew_84 : decode cX0_crew 84 = .ok (.iload 7, 2) := dk_21 7 (dk_at dksX0_crew_3 14 rfl rfl)
theorem dX0_crew_86 : decode cX0_crew 86 = .ok (.iload 6, 2) := dk_21 6 (dk_at dksX0_crew_3 16 rfl rfl)
theorem dX0_crew_88 : decode cX0_crew 88 = .ok (.iconst (-1), 1) := dk_2 (dk_at dksX0_crew_3 18 rfl rfl)
theorem dX0_crew_89 : decode cX0_crew 89 = .ok (.ixor, 1) := dk_130 (dk_at dksX0_crew_3 19 rfl rfl)
theorem dX0_crew_90 : decode cX0_crew 90 = .ok (.iand, 1) := dk_126 (dk_at dksX0_crew_3 20 rfl rfl)
theorem dX0_crew_91 : decode cX0_crew 91 = .ok (.ifCond .ne 95, 3) := dk_154 0 95 (dk_at dksX0_crew_3 21 rfl rfl)
theorem dX0_crew_94 : decode cX0_crew 94 = .ok (.iload 8, 2) := dk_21 8 (dk_at dksX0_crew_4 0 rfl rfl)
theorem dX0_crew_96 : decode cX0_crew 96 = .ok (.iload_n 1, 1) := dk_27 (dk_at dksX0_crew_4 2 rfl rfl)
theorem dX0_crew_97 : decode cX0_crew 97 = .ok (.if_icmp .le 6, 3) := dk_164 0 6 (dk_at dksX0_crew_4 3 rfl rfl)
theorem dX0_crew_100 : decode cX0_crew 100 = .ok (.goto 86, 3) := dk_167 0 86 (dk_at dksX0_crew_4 6 rfl rfl)
theorem dX0_crew_103 : decode cX0_crew 103 = .ok (.iconst 0, 1) := dk_3 (dk_at dksX0_crew_4 9 rfl rfl)
theorem dX0_crew_104 : decode cX0_crew 104 = .ok (.istore 9, 2) := dk_54 9 (dk_at dksX0_crew_4 10 rfl rfl)
theorem dX0_crew_106 : decode cX0_crew 106 = .ok (.iconst 0, 1) := dk_3 (dk_at dksX0_crew_4 12 rfl rfl)
theorem dX0_crew_107 : decode cX0_crew 107 = .ok (.istore 10, 2) := dk_54 10 (dk_at dksX0_crew_4 13 rfl rfl)
theorem dX0_crew_109 : decode cX0_crew 109 = .ok (.iload 10, 2) := dk_21 10 (dk_at dksX0_crew_4 15 rfl rfl)
theorem dX0_crew_111 : decode cX0_crew 111 = .ok (.aload_n 0, 1) := dk_42 (dk_at dksX0_crew_4 17 rfl rfl)
theorem dX0_crew_112 : decode cX0_crew 112 = .ok (.getfield 20, 3) := dk_180 0 20 (dk_at dksX0_crew_4 18 rfl rfl)
theorem dX0_crew_115 : decode cX0_crew 115 = .ok (.invokevirtual 77, 3) := dk_182 0 77 (dk_at dksX0_crew_4 21 rfl rfl)
theorem dX0_crew_118 : decode cX0_crew 118 = .ok (.if_icmp .ge 47, 3) := dk_162 0 47 (dk_at dksX0_crew_5 0 rfl rfl)
theorem dX0_crew_121 : decode cX0_crew 121 = .ok (.iload 9, 2) := dk_21 9 (dk_at dksX0_crew_5 3 rfl rfl)
theorem dX0_crew_123 : decode cX0_crew 123 = .ok (.iload 7, 2) := dk_21 7 (dk_at dksX0_crew_5 5 rfl rfl)
theorem dX0_crew_125 : decode cX0_crew 125 = .ok (.iload 10, 2) := dk_21 10 (dk_at dksX0_crew_5 7 rfl rfl)
theorem dX0_crew_127 : decode cX0_crew 127 = .ok (.ishr, 1) := dk_122 (dk_at dksX0_crew_5 9 rfl rfl)
theorem dX0_crew_128 : decode cX0_crew 128 = .ok (.iconst 1, 1) := dk_4 (dk_at dksX0_crew_5 10 rfl rfl)
theorem dX0_crew_129 : decode cX0_crew 129 = .ok (.iand, 1) := dk_126 (dk_at dksX0_crew_5 11 rfl rfl)
theorem dX0_crew_130 : decode cX0_crew 130 = .ok (.iconst 1, 1) := dk_4 (dk_at dksX0_crew_5 12 rfl rfl)
theorem dX0_crew_131 : decode cX0_crew 131 = .ok (.if_icmp .ne 24, 3) := dk_160 0 24 (dk_at dksX0_crew_5 13 rfl rfl)
theorem dX0_crew_134 : decode cX0_crew 134 = .ok (.aload_n 0, 1) := dk_42 (dk_at dksX0_crew_5 16 rfl rfl)
theorem dX0_crew_135 : decode cX0_crew 135 = .ok (.getfield 20, 3) := dk_180 0 20 (dk_at dksX0_crew_5 17 rfl rfl)
theorem dX0_crew_138 : decode cX0_crew 138 = .ok (.iload 10, 2) := dk_21 10 (dk_at dksX0_crew_5 20 rfl rfl)
theorem dX0_crew_140 : decode cX0_crew 140 = .ok (.invokevirtual 81, 3) := dk_182 0 81 (dk_at dksX0_crew_6 0 rfl rfl)
theorem dX0_crew_143 : decode cX0_crew 143 = .ok (.checkcast 85, 3) := dk_192 0 85 (dk_at dksX0_crew_6 3 rfl rfl)
theorem dX0_crew_146 : decode cX0_crew 146 = .ok (.getfield 91, 3) := dk_180 0 91 (dk_at dksX0_crew_6 6 rfl rfl)
theorem dX0_crew_149 : decode cX0_crew 149 = .ok (.invokevirtual 476, 3) := dk_182 1 220 (dk_at dksX0_crew_6 9 rfl rfl)
theorem dX0_crew_152 : decode cX0_crew 152 = .ok (.goto 4, 3) := dk_167 0 4 (dk_at dksX0_crew_6 12 rfl rfl)
theorem dX0_crew_155 : decode cX0_crew 155 = .ok (.iconst 0, 1) := dk_3 (dk_at dksX0_crew_6 15 rfl rfl)
theorem dX0_crew_156 : decode cX0_crew 156 = .ok (.iadd, 1) := dk_96 (dk_at dksX0_crew_6 16 rfl rfl)
theorem dX0_crew_157 : decode cX0_crew 157 = .ok (.istore 9, 2) := dk_54 9 (dk_at dksX0_crew_6 17 rfl rfl)
theorem dX0_crew_159 : decode cX0_crew 159 = .ok (.iinc 10 1, 3) := dk_132 10 1 (dk_at dksX0_crew_6 19 rfl rfl)
theorem dX0_crew_162 : decode cX0_crew 162 = .ok (.goto (-53), 3) := dk_167 255 203 (dk_at dksX0_crew_7 0 rfl rfl)
theorem dX0_crew_165 : decode cX0_crew 165 = .ok (.iload 9, 2) := dk_21 9 (dk_at dksX0_crew_7 3 rfl rfl)
theorem dX0_crew_167 : decode cX0_crew 167 = .ok (.iload 4, 2) := dk_21 4 (dk_at dksX0_crew_7 5 rfl rfl)
theorem dX0_crew_169 : decode cX0_crew 169 = .ok (.if_icmp .gt 6, 3) := dk_163 0 6 (dk_at dksX0_crew_7 7 rfl rfl)
theorem dX0_crew_172 : decode cX0_crew 172 = .ok (.goto 14, 3) := dk_167 0 14 (dk_at dksX0_crew_7 10 rfl rfl)
theorem dX0_crew_175 : decode cX0_crew 175 = .ok (.iload 9, 2) := dk_21 9 (dk_at dksX0_crew_7 13 rfl rfl)
theorem dX0_crew_177 : decode cX0_crew 177 = .ok (.istore 4, 2) := dk_54 4 (dk_at dksX0_crew_7 15 rfl rfl)
theorem dX0_crew_179 : decode cX0_crew 179 = .ok (.iload 7, 2) := dk_21 7 (dk_at dksX0_crew_7 17 rfl rfl)
theorem dX0_crew_181 : decode cX0_crew 181 = .ok (.istore_n 3, 1) := dk_62 (dk_at dksX0_crew_7 19 rfl rfl)
theorem dX0_crew_182 : decode cX0_crew 182 = .ok (.iload 8, 2) := dk_21 8 (dk_at dksX0_crew_7 20 rfl rfl)
theorem dX0_crew_184 : decode cX0_crew 184 = .ok (.istore 5, 2) := dk_54 5 (dk_at dksX0_crew_7 22 rfl rfl)
theorem dX0_crew_186 : decode cX0_crew 186 = .ok (.iinc 7 1, 3) := dk_132 7 1 (dk_at dksX0_crew_8 0 rfl rfl)
theorem dX0_crew_189 : decode cX0_crew 189 = .ok (.goto (-137), 3) := dk_167 255 119 (dk_at dksX0_crew_8 3 rfl rfl)
theorem dX0_crew_192 : decode cX0_crew 192 = .ok (.iload_n 2, 1) := dk_28 (dk_at dksX0_crew_8 6 rfl rfl)
theorem dX0_crew_193 : decode cX0_crew 193 = .ok (.ifCond .ne 8, 3) := dk_154 0 8 (dk_at dksX0_crew_8 7 rfl rfl)
theorem dX0_crew_196 : decode cX0_crew 196 = .ok (.iload 4, 2) := dk_21 4 (dk_at dksX0_crew_8 10 rfl rfl)
theorem dX0_crew_198 : decode cX0_crew 198 = .ok (.goto 14, 3) := dk_167 0 14 (dk_at dksX0_crew_8 12 rfl rfl)
theorem dX0_crew_201 : decode cX0_crew 201 = .ok (.iload_n 2, 1) := dk_28 (dk_at dksX0_crew_8 15 rfl rfl)
theorem dX0_crew_202 : decode cX0_crew 202 = .ok (.iconst 1, 1) := dk_4 (dk_at dksX0_crew_8 16 rfl rfl)
theorem dX0_crew_203 : decode cX0_crew 203 = .ok (.if_icmp .ne 7, 3) := dk_160 0 7 (dk_at dksX0_crew_8 17 rfl rfl)
theorem dX0_crew_206 : decode cX0_crew 206 = .ok (.iload_n 3, 1) := dk_29 (dk_at dksX0_crew_8 20 rfl rfl)
theorem dX0_crew_207 : decode cX0_crew 207 = .ok (.goto 5, 3) := dk_167 0 5 (dk_at dksX0_crew_8 21 rfl rfl)
theorem dX0_crew_210 : decode cX0_crew 210 = .ok (.iload 5, 2) := dk_21 5 (dk_at dksX0_crew_9 0 rfl rfl)
theorem dX0_crew_212 : decode cX0_crew 212 = .ok (.ireturn, 1) := dk_172 (dk_at dksX0_crew_9 2 rfl rfl)
def dkwX0_prove_1 : List UInt8 := [4, 42, 180, 0, 119, 17, 1, 109, 108, 120, 128, 181, 1, 230, 4, 172]
abbrev dktX0_prove_1 : List UInt8 := dkwX0_prove_1 ++ []
def dkwX0_prove_0 : List UInt8 := [42, 27, 182, 1, 223, 77, 44, 198, 0, 10, 44, 180, 1, 227, 154, 0, 5, 3, 172, 44, 89, 180, 1, 230]
abbrev dktX0_prove_0 : List UInt8 := dkwX0_prove_0 ++ dktX0_prove_1
theorem dksX0_prove_0 : cX0_prove.data.toList.drop 0 = dktX0_prove_0 := by decide +kernel
theorem dksX0_prove_1 : cX0_prove.data.toList.drop 24 = dktX0_prove_1 := dk_seg dksX0_prove_0 24 rfl rfl
theorem dX0_prove_0 : decode cX0_prove 0 = .ok (.aload_n 0, 1) := dk_42 (dk_at dksX0_prove_0 0 rfl rfl)
theorem dX0_prove_1 : decode cX0_prove 1 = .ok (.iload_n 1, 1) := dk_27 (dk_at dksX0_prove_0 1 rfl rfl)
theorem dX0_prove_2 : decode cX0_prove 2 = .ok (.invokevirtual 479, 3) := dk_182 1 223 (dk_at dksX0_prove_0 2 rfl rfl)
theorem dX0_prove_5 : decode cX0_prove 5 = .ok (.astore_n 2, 1) := dk_77 (dk_at dksX0_prove_0 5 rfl rfl)
theorem dX0_prove_6 : decode cX0_prove 6 = .ok (.aload_n 2, 1) := dk_44 (dk_at dksX0_prove_0 6 rfl rfl)
theorem dX0_prove_7 : decode cX0_prove 7 = .ok (.ifnull 10, 3) := dk_198 0 10 (dk_at dksX0_prove_0 7 rfl rfl)
theorem dX0_prove_10 : decode cX0_prove 10 = .ok (.aload_n 2, 1) := dk_44 (dk_at dksX0_prove_0 10 rfl rfl)
theorem dX0_prove_11 : decode cX0_prove 11 = .ok (.getfield 483, 3) := dk_180 1 227 (dk_at dksX0_prove_0 11 rfl rfl)
theorem dX0_prove_14 : decode cX0_prove 14 = .ok (.ifCond .ne 5, 3) := dk_154 0 5 (dk_at dksX0_prove_0 14 rfl rfl)
theorem dX0_prove_17 : decode cX0_prove 17 = .ok (.iconst 0, 1) := dk_3 (dk_at dksX0_prove_0 17 rfl rfl)
theorem dX0_prove_18 : decode cX0_prove 18 = .ok (.ireturn, 1) := dk_172 (dk_at dksX0_prove_0 18 rfl rfl)
theorem dX0_prove_19 : decode cX0_prove 19 = .ok (.aload_n 2, 1) := dk_44 (dk_at dksX0_prove_0 19 rfl rfl)
theorem dX0_prove_20 : decode cX0_prove 20 = .ok (.dup, 1) := dk_89 (dk_at dksX0_prove_0 20 rfl rfl)
theorem dX0_prove_21 : decode cX0_prove 21 = .ok (.getfield 486, 3) := dk_180 1 230 (dk_at dksX0_prove_0 21 rfl rfl)
theorem dX0_prove_24 : decode cX0_prove 24 = .ok (.iconst 1, 1) := dk_4 (dk_at dksX0_prove_1 0 rfl rfl)
theorem dX0_prove_25 : decode cX0_prove 25 = .ok (.aload_n 0, 1) := dk_42 (dk_at dksX0_prove_1 1 rfl rfl)
theorem dX0_prove_26 : decode cX0_prove 26 = .ok (.getfield 119, 3) := dk_180 0 119 (dk_at dksX0_prove_1 2 rfl rfl)
theorem dX0_prove_29 : decode cX0_prove 29 = .ok (.sipush 365, 3) := dk_17 1 109 (dk_at dksX0_prove_1 5 rfl rfl)
theorem dX0_prove_32 : decode cX0_prove 32 = .ok (.idiv, 1) := dk_108 (dk_at dksX0_prove_1 8 rfl rfl)
theorem dX0_prove_33 : decode cX0_prove 33 = .ok (.ishl, 1) := dk_120 (dk_at dksX0_prove_1 9 rfl rfl)
theorem dX0_prove_34 : decode cX0_prove 34 = .ok (.ior, 1) := dk_128 (dk_at dksX0_prove_1 10 rfl rfl)
theorem dX0_prove_35 : decode cX0_prove 35 = .ok (.putfield 486, 3) := dk_181 1 230 (dk_at dksX0_prove_1 11 rfl rfl)
theorem dX0_prove_38 : decode cX0_prove 38 = .ok (.iconst 1, 1) := dk_4 (dk_at dksX0_prove_1 14 rfl rfl)
theorem dX0_prove_39 : decode cX0_prove 39 = .ok (.ireturn, 1) := dk_172 (dk_at dksX0_prove_1 15 rfl rfl)
def dkwX0_roofAt_1 : List UInt8 := [182, 0, 81, 192, 0, 95, 167, 0, 4, 1, 176]
abbrev dktX0_roofAt_1 : List UInt8 := dkwX0_roofAt_1 ++ []
def dkwX0_roofAt_0 : List UInt8 := [27, 3, 42, 180, 0, 24, 182, 0, 77, 4, 100, 184, 0, 3, 153, 0, 17, 42, 180, 0, 24, 27]
abbrev dktX0_roofAt_0 : List UInt8 := dkwX0_roofAt_0 ++ dktX0_roofAt_1
theorem dksX0_roofAt_0 : cX0_roofAt.data.toList.drop 0 = dktX0_roofAt_0 := by decide +kernel
theorem dksX0_roofAt_1 : cX0_roofAt.data.toList.drop 22 = dktX0_roofAt_1 := dk_seg dksX0_roofAt_0 22 rfl rfl
theorem dX0_roofAt_0 : decode cX0_roofAt 0 = .ok (.iload_n 1, 1) := dk_27 (dk_at dksX0_roofAt_0 0 rfl rfl)
theorem dX0_roofAt_1 : decode cX0_roofAt 1 = .ok (.iconst 0, 1) := dk_3 (dk_at dksX0_roofAt_0 1 rfl rfl)
theorem dX0_roofAt_2 : decode cX0_roofAt 2 = .ok (.aload_n 0, 1) := dk_42 (dk_at dksX0_roofAt_0 2 rfl rfl)
theorem dX0_roofAt_3 : decode cX0_roofAt 3 = .ok (.getfield 24, 3) := dk_180 0 24 (dk_at dksX0_roofAt_0 3 rfl rfl)
theorem dX0_roofAt_6 : decode cX0_roofAt 6 = .ok (.invokevirtual 77, 3) := dk_182 0 77 (dk_at dksX0_roofAt_0 6 rfl rfl)
theorem dX0_roofAt_9 : decode cX0_roofAt 9 = .ok (.iconst 1, 1) := dk_4 (dk_at dksX0_roofAt_0 9 rfl rfl)
theorem dX0_roofAt_10 : decode cX0_roofAt 10 = .ok (.isub, 1) := dk_100 (dk_at dksX0_roofAt_0 10 rfl rfl)
theorem dX0_roofAt_11 : decode cX0_roofAt 11 = .ok (.invokestatic 3, 3) := dk_184 0 3 (dk_at dksX0_roofAt_0 11 rfl rfl)
theorem dX0_roofAt_14 : decode cX0_roofAt 14 = .ok (.ifCond .eq 17, 3) := dk_153 0 17 (dk_at dksX0_roofAt_0 14 rfl rfl)
theorem dX0_roofAt_17 : decode cX0_roofAt 17 = .ok (.aload_n 0, 1) := dk_42 (dk_at dksX0_roofAt_0 17 rfl rfl)
theorem dX0_roofAt_18 : decode cX0_roofAt 18 = .ok (.getfield 24, 3) := dk_180 0 24 (dk_at dksX0_roofAt_0 18 rfl rfl)
theorem dX0_roofAt_21 : decode cX0_roofAt 21 = .ok (.iload_n 1, 1) := dk_27 (dk_at dksX0_roofAt_0 21 rfl rfl)
theorem dX0_roofAt_22 : decode cX0_roofAt 22 = .ok (.invokevirtual 81, 3) := dk_182 0 81 (dk_at dksX0_roofAt_1 0 rfl rfl)
theorem dX0_roofAt_25 : decode cX0_roofAt 25 = .ok (.checkcast 95, 3) := dk_192 0 95 (dk_at dksX0_roofAt_1 3 rfl rfl)
theorem dX0_roofAt_28 : decode cX0_roofAt 28 = .ok (.goto 4, 3) := dk_167 0 4 (dk_at dksX0_roofAt_1 6 rfl rfl)
theorem dX0_roofAt_31 : decode cX0_roofAt 31 = .ok (.aconst_null, 1) := dk_1 (dk_at dksX0_roofAt_1 9 rfl rfl)
theorem dX0_roofAt_32 : decode cX0_roofAt 32 = .ok (.areturn, 1) := dk_176 (dk_at dksX0_roofAt_1 10 rfl rfl)
def dkwX0_fee_7 : List UInt8 := [55, 4, 9, 22, 4, 184, 1, 239, 136, 172]
abbrev dktX0_fee_7 : List UInt8 := dkwX0_fee_7 ++ []
def dkwX0_fee_6 : List UInt8 := [162, 0, 26, 22, 4, 45, 180, 1, 49, 133, 42, 180, 0, 56, 16, 10, 27, 104, 28, 96, 46, 133, 105, 101]
abbrev dktX0_fee_6 : List UInt8 := dkwX0_fee_6 ++ dktX0_fee_7
def dkwX0_fee_5 : List UInt8 := [180, 1, 227, 133, 105, 167, 0, 4, 9, 101, 97, 55, 4, 132, 6, 1, 167, 255, 168, 27, 16, 10]
abbrev dktX0_fee_5 : List UInt8 := dkwX0_fee_5 ++ dktX0_fee_6
def dkwX0_fee_4 : List UInt8 := [133, 105, 25, 7, 180, 1, 230, 28, 122, 4, 126, 4, 160, 0, 18, 45, 180, 1, 46, 133, 25, 7]
abbrev dktX0_fee_4 : List UInt8 := dkwX0_fee_4 ++ dktX0_fee_5
def dkwX0_fee_3 : List UInt8 := [25, 7, 180, 1, 233, 27, 159, 0, 6, 167, 0, 50, 22, 4, 45, 180, 1, 42, 133, 25, 7, 180, 1, 236]
abbrev dktX0_fee_3 : List UInt8 := dkwX0_fee_3 ++ dktX0_fee_4
def dkwX0_fee_2 : List UInt8 := [180, 0, 24, 182, 0, 77, 162, 0, 82, 42, 180, 0, 24, 21, 6, 182, 0, 81, 192, 0, 95, 58, 7]
abbrev dktX0_fee_2 : List UInt8 := dkwX0_fee_2 ++ dktX0_fee_3
def dkwX0_fee_1 : List UInt8 := [17, 1, 109, 28, 104, 17, 1, 109, 96, 4, 100, 182, 0, 122, 78, 9, 55, 4, 3, 54, 6, 21, 6, 42]
abbrev dktX0_fee_1 : List UInt8 := dkwX0_fee_1 ++ dktX0_fee_2
def dkwX0_fee_0 : List UInt8 := [27, 3, 16, 19, 184, 0, 3, 153, 0, 13, 28, 3, 16, 9, 184, 0, 3, 154, 0, 5, 2, 172, 42]
abbrev dktX0_fee_0 : List UInt8 := dkwX0_fee_0 ++ dktX0_fee_1
theorem dksX0_fee_0 : cX0_fee.data.toList.drop 0 = dktX0_fee_0 := by decide +kernel
theorem dksX0_fee_1 : cX0_fee.data.toList.drop 23 = dktX0_fee_1 := dk_seg dksX0_fee_0 23 rfl rfl
theorem dksX0_fee_2 : cX0_fee.data.toList.drop 47 = dktX0_fee_2 := dk_seg dksX0_fee_1 24 rfl rfl
theorem dksX0_fee_3 : cX0_fee.data.toList.drop 70 = dktX0_fee_3 := dk_seg dksX0_fee_2 23 rfl rfl
theorem dksX0_fee_4 : cX0_fee.data.toList.drop 94 = dktX0_fee_4 := dk_seg dksX0_fee_3 24 rfl rfl
theorem dksX0_fee_5 : cX0_fee.data.toList.drop 116 = dktX0_fee_5 := dk_seg dksX0_fee_4 22 rfl rfl
theorem dksX0_fee_6 : cX0_fee.data.toList.drop 138 = dktX0_fee_6 := dk_seg dksX0_fee_5 22 rfl rfl
theorem dksX0_fee_7 : cX0_fee.data.toList.drop 162 = dktX0_fee_7 := dk_seg dksX0_fee_6 24 rfl rfl
theorem dX0_fee_0 : decode cX0_fee 0 = .ok (.iload_n 1, 1) := dk_27 (dk_at dksX0_fee_0 0 rfl rfl)
theorem dX0_fee_1 : decode cX0_fee 1 = .ok (.iconst 0, 1) := dk_3 (dk_at dksX0_fee_0 1 rfl rfl)
theorem dX0_fee_2 : decode cX0_fee 2 = .ok (.bipush 19, 2) := dk_16 19 (dk_at dksX0_fee_0 2 rfl rfl)
theorem dX0_fee_4 : decode cX0_fee 4 = .ok (.invokestatic 3, 3) := dk_184 0 3 (dk_at dksX0_fee_0 4 rfl rfl)
theorem dX0_fee_7 : decode cX0_fee 7 = .ok (.ifCond .eq 13, 3) := dk_153 0 13 (dk_at dksX0_fee_0 7 rfl rfl)
theorem dX0_fee_10 : decode cX0_fee 10 = .ok (.iload_n 2, 1) := dk_28 (dk_at dksX0_fee_0 10 rfl rfl)
theorem dX0_fee_11 : decode cX0_fee 11 = .ok (.iconst 0, 1) := dk_3 (dk_at dksX0_fee_0 11 rfl rfl)
theorem dX0_fee_12 : decode cX0_fee 12 = .ok (.bipush 9, 2) := dk_16 9 (dk_at dksX0_fee_0 12 rfl rfl)
theorem dX0_fee_14 : decode cX0_fee 14 = .ok (.invokestatic 3, 3) := dk_184 0 3 (dk_at dksX0_fee_0 14 rfl rfl)
theorem dX0_fee_17 : decode cX0_fee 17 = .ok (.ifCond .ne 5, 3) := dk_154 0 5 (dk_at dksX0_fee_0 17 rfl rfl)
theorem dX0_fee_20 : decode cX0_fee 20 = .ok (.iconst (-1), 1) := dk_2 (dk_at dksX0_fee_0 20 rfl rfl)
theorem dX0_fee_21 : decode cX0_fee 21 = .ok (.ireturn, 1) := dk_172 (dk_at dksX0_fee_0 21 rfl rfl)
theorem dX0_fee_22 : decode cX0_fee 22 = .ok (.aload_n 0, 1) := dk_42 (dk_at dksX0_fee_0 22 rfl rfl)
theorem dX0_fee_23 : decode cX0_fee 23 = .ok (.sipush 365, 3) := dk_17 1 109 (dk_at dksX0_fee_1 0 rfl rfl)
theorem dX0_fee_26 : decode cX0_fee 26 = .ok (.iload_n 2, 1) := dk_28 (dk_at dksX0_fee_1 3 rfl rfl)
theorem dX0_fee_27 : decode cX0_fee 27 = .ok (.imul, 1) := dk_104 (dk_at dksX0_fee_1 4 rfl rfl)
theorem dX0_fee_28 : decode cX0_fee 28 = .ok (.sipush 365, 3) := dk_17 1 109 (dk_at dksX0_fee_1 5 rfl rfl)
theorem dX0_fee_31 : decode cX0_fee 31 = .ok (.iadd, 1) := dk_96 (dk_at dksX0_fee_1 8 rfl rfl)
theorem dX0_fee_32 : decode cX0_fee 32 = .ok (.iconst 1, 1) := dk_4 (dk_at dksX0_fee_1 9 rfl rfl)
theorem dX0_fee_33 : decode cX0_fee 33 = .ok (.isub, 1) := dk_100 (dk_at dksX0_fee_1 10 rfl rfl)
theorem dX0_fee_34 : decode cX0_fee 34 = .ok (.invokevirtual 122, 3) := dk_182 0 122 (dk_at dksX0_fee_1 11 rfl rfl)
theorem dX0_fee_37 : decode cX0_fee 37 = .ok (.astore_n 3, 1) := dk_78 (dk_at dksX0_fee_1 14 rfl rfl)
theorem dX0_fee_38 : decode cX0_fee 38 = .ok (.lconst 0, 1) := dk_9 (dk_at dksX0_fee_1 15 rfl rfl)
theorem dX0_fee_39 : decode cX0_fee 39 = .ok (.lstore 4, 2) := dk_55 4 (dk_at dksX0_fee_1 16 rfl rfl)
theorem dX0_fee_41 : decode cX0_fee 41 = .ok (.iconst 0, 1) := dk_3 (dk_at dksX0_fee_1 18 rfl rfl)
theorem dX0_fee_42 : decode cX0_fee 42 = .ok (.istore 6, 2) := dk_54 6 (dk_at dksX0_fee_1 19 rfl rfl)
theorem dX0_fee_44 : decode cX0_fee 44 = .ok (.iload 6, 2) := dk_21 6 (dk_at dksX0_fee_1 21 rfl rfl)
theorem dX0_fee_46 : decode cX0_fee 46 = .ok (.aload_n 0, 1) := dk_42 (dk_at dksX0_fee_1 23 rfl rfl)
theorem dX0_fee_47 : decode cX0_fee 47 = .ok (.getfield 24, 3) := dk_180 0 24 (dk_at dksX0_fee_2 0 rfl rfl)
theorem dX0_fee_50 : decode cX0_fee 50 = .ok (.invokevirtual 77, 3) := dk_182 0 77 (dk_at dksX0_fee_2 3 rfl rfl)
theorem dX0_fee_53 : decode cX0_fee 53 = .ok (.if_icmp .ge 82, 3) := dk_162 0 82 (dk_at dksX0_fee_2 6 rfl rfl)
theorem dX0_fee_56 : decode cX0_fee 56 = .ok (.aload_n 0, 1) := dk_42 (dk_at dksX0_fee_2 9 rfl rfl)
theorem dX0_fee_57 : decode cX0_fee 57 = .ok (.getfield 24, 3) := dk_180 0 24 (dk_at dksX0_fee_2 10 rfl rfl)
theorem dX0_fee_60 : decode cX0_fee 60 = .ok (.iload 6, 2) := dk_21 6 (dk_at dksX0_fee_2 13 rfl rfl)
theorem dX0_fee_62 : decode cX0_fee 62 = .ok (.invokevirtual 81, 3) := dk_182 0 81 (dk_at dksX0_fee_2 15 rfl rfl)
theorem dX0_fee_65 : decode cX0_fee 65 = .ok (.checkcast 95, 3) := dk_192 0 95 (dk_at dksX0_fee_2 18 rfl rfl)
theorem dX0_fee_68 : decode cX0_fee 68 = .ok (.astore 7, 2) := dk_58 7 (dk_at dksX0_fee_2 21 rfl rfl)
theorem dX0_fee_70 : decode cX0_fee 70 = .ok (.aload 7, 2) := dk_25 7 (dk_at dksX0_fee_3 0 rfl rfl)
theorem dX0_fee_72 : decode cX0_fee 72 = .ok (.getfield 489, 3) := dk_180 1 233 (dk_at dksX0_fee_3 2 rfl rfl)
theorem dX0_fee_75 : decode cX0_fee 75 = .ok (.iload_n 1, 1) := dk_27 (dk_at dksX0_fee_3 5 rfl rfl)
theorem dX0_fee_76 : decode cX0_fee 76 = .ok (.if_icmp .eq 6, 3) := dk_159 0 6 (dk_at dksX0_fee_3 6 rfl rfl)
theorem dX0_fee_79 : decode cX0_fee 79 = .ok (.goto 50, 3) := dk_167 0 50 (dk_at dksX0_fee_3 9 rfl rfl)
theorem dX0_fee_82 : decode cX0_fee 82 = .ok (.lload 4, 2) := dk_22 4 (dk_at dksX0_fee_3 12 rfl rfl)
theorem dX0_fee_84 : decode cX0_fee 84 = .ok (.aload_n 3, 1) := dk_45 (dk_at dksX0_fee_3 14 rfl rfl)
theorem dX0_fee_85 : decode cX0_fee 85 = .ok (.getfield 298, 3) := dk_180 1 42 (dk_at dksX0_fee_3 15 rfl rfl)
theorem dX0_fee_88 : decode cX0_fee 88 = .ok (.i2l, 1) := dk_133 (dk_at dksX0_fee_3 18 rfl rfl)
theorem dX0_fee_89 : decode cX0_fee 89 = .ok (.aload 7, 2) := dk_25 7 (dk_at dksX0_fee_3 19 rfl rfl)
theorem dX0_fee_91 : decode cX0_fee 91 = .ok (.getfield 492, 3) := dk_180 1 236 (dk_at dksX0_fee_3 21 rfl rfl)
theorem dX0_fee_94 : decode cX0_fee 94 = .ok (.i2l, 1) := dk_133 (dk_at dksX0_fee_4 0 rfl rfl)
theorem dX0_fee_95 : decode cX0_fee 95 = .ok (.lmul, 1) := dk_105 (dk_at dksX0_fee_4 1 rfl rfl)
theorem dX0_fee_96 : decode cX0_fee 96 = .ok (.aload 7, 2) := dk_25 7 (dk_at dksX0_fee_4 2 rfl rfl)
theorem dX0_fee_98 : decode cX0_fee 98 = .ok (.getfield 486, 3) := dk_180 1 230 (dk_at dksX0_fee_4 4 rfl rfl)
theorem dX0_fee_101 : decode cX0_fee 101 = .ok (.iload_n 2, 1) := dk_28 (dk_at dksX0_fee_4 7 rfl rfl)
theorem dX0_fee_102 : decode cX0_fee 102 = .ok (.ishr, 1) := dk_122 (dk_at dksX0_fee_4 8 rfl rfl)
theorem dX0_fee_103 : decode cX0_fee 103 = .ok (.iconst 1, 1) := dk_4 (dk_at dksX0_fee_4 9 rfl rfl)
theorem dX0_fee_104 : decode cX0_fee 104 = .ok (.iand, 1) := dk_126 (dk_at dksX0_fee_4 10 rfl rfl)
theorem dX0_fee_105 : decode cX0_fee 105 = .ok (.iconst 1, 1) := dk_4 (dk_at dksX0_fee_4 11 rfl rfl)
theorem dX0_fee_106 : decode cX0_fee 106 = .ok (.if_icmp .ne 18, 3) := dk_160 0 18 (dk_at dksX0_fee_4 12 rfl rfl)
theorem dX0_fee_109 : decode cX0_fee 109 = .ok (.aload_n 3, 1) := dk_45 (dk_at dksX0_fee_4 15 rfl rfl)
theorem dX0_fee_110 : decode cX0_fee 110 = .ok (.getfield 302, 3) := dk_180 1 46 (dk_at dksX0_fee_4 16 rfl rfl)
theorem dX0_fee_113 : decode cX0_fee 113 = .ok (.i2l, 1) := dk_133 (dk_at dksX0_fee_4 19 rfl rfl)
theorem dX0_fee_114 : decode cX0_fee 114 = .ok (.aload 7, 2) := dk_25 7 (dk_at dksX0_fee_4 20 rfl rfl)
theorem dX0_fee_116 : decode cX0_fee 116 = .ok (.getfield 483, 3) := dk_180 1 227 (dk_at dksX0_fee_5 0 rfl rfl)
theorem dX0_fee_119 : decode cX0_fee 119 = .ok (.i2l, 1) := dk_133 (dk_at dksX0_fee_5 3 rfl rfl)
theorem dX0_fee_120 : decode cX0_fee 120 = .ok (.lmul, 1) := dk_105 (dk_at dksX0_fee_5 4 rfl rfl)
theorem dX0_fee_121 : decode cX0_fee 121 = .ok (.goto 4, 3) := dk_167 0 4 (dk_at dksX0_fee_5 5 rfl rfl)
theorem dX0_fee_124 : decode cX0_fee 124 = .ok (.lconst 0, 1) := dk_9 (dk_at dksX0_fee_5 8 rfl rfl)
theorem dX0_fee_125 : decode cX0_fee 125 = .ok (.lsub, 1) := dk_101 (dk_at dksX0_fee_5 9 rfl rfl)
theorem dX0_fee_126 : decode cX0_fee 126 = .ok (.ladd, 1) := dk_97 (dk_at dksX0_fee_5 10 rfl rfl)
theorem dX0_fee_127 : decode cX0_fee 127 = .ok (.lstore 4, 2) := dk_55 4 (dk_at dksX0_fee_5 11 rfl rfl)
theorem dX0_fee_129 : decode cX0_fee 129 = .ok (.iinc 6 1, 3) := dk_132 6 1 (dk_at dksX0_fee_5 13 rfl rfl)
theorem dX0_fee_132 : decode cX0_fee 132 = .ok (.goto (-88), 3) := dk_167 255 168 (dk_at dksX0_fee_5 16 rfl rfl)
theorem dX0_fee_135 : decode cX0_fee 135 = .ok (.iload_n 1, 1) := dk_27 (dk_at dksX0_fee_5 19 rfl rfl)
theorem dX0_fee_136 : decode cX0_fee 136 = .ok (.bipush 10, 2) := dk_16 10 (dk_at dksX0_fee_5 20 rfl rfl)
theorem dX0_fee_138 : decode cX0_fee 138 = .ok (.if_icmp .ge 26, 3) := dk_162 0 26 (dk_at dksX0_fee_6 0 rfl rfl)
theorem dX0_fee_141 : decode cX0_fee 141 = .ok (.lload 4, 2) := dk_22 4 (dk_at dksX0_fee_6 3 rfl rfl)
theorem dX0_fee_143 : decode cX0_fee 143 = .ok (.aload_n 3, 1) := dk_45 (dk_at dksX0_fee_6 5 rfl rfl)
theorem dX0_fee_144 : decode cX0_fee 144 = .ok (.getfield 305, 3) := dk_180 1 49 (dk_at dksX0_fee_6 6 rfl rfl)
theorem dX0_fee_147 : decode cX0_fee 147 = .ok (.i2l, 1) := dk_133 (dk_at dksX0_fee_6 9 rfl rfl)
theorem dX0_fee_148 : decode cX0_fee 148 = .ok (.aload_n 0, 1) := dk_42 (dk_at dksX0_fee_6 10 rfl rfl)
theorem dX0_fee_149 : decode cX0_fee 149 = .ok (.getfield 56, 3) := dk_180 0 56 (dk_at dksX0_fee_6 11 rfl rfl)
theorem dX0_fee_152 : decode cX0_fee 152 = .ok (.bipush 10, 2) := dk_16 10 (dk_at dksX0_fee_6 14 rfl rfl)
theorem dX0_fee_154 : decode cX0_fee 154 = .ok (.iload_n 1, 1) := dk_27 (dk_at dksX0_fee_6 16 rfl rfl)
theorem dX0_fee_155 : decode cX0_fee 155 = .ok (.imul, 1) := dk_104 (dk_at dksX0_fee_6 17 rfl rfl)
theorem dX0_fee_156 : decode cX0_fee 156 = .ok (.iload_n 2, 1) := dk_28 (dk_at dksX0_fee_6 18 rfl rfl)
theorem dX0_fee_157 : decode cX0_fee 157 = .ok (.iadd, 1) := dk_96 (dk_at dksX0_fee_6 19 rfl rfl)
theorem dX0_fee_158 : decode cX0_fee 158 = .ok (.iaload, 1) := dk_46 (dk_at dksX0_fee_6 20 rfl rfl)
theorem dX0_fee_159 : decode cX0_fee 159 = .ok (.i2l, 1) := dk_133 (dk_at dksX0_fee_6 21 rfl rfl)
theorem dX0_fee_160 : decode cX0_fee 160 = .ok (.lmul, 1) := dk_105 (dk_at dksX0_fee_6 22 rfl rfl)
theorem dX0_fee_161 : decode cX0_fee 161 = .ok (.lsub, 1) := dk_101 (dk_at dksX0_fee_6 23 rfl rfl)
theorem dX0_fee_162 : decode cX0_fee 162 = .ok (.lstore 4, 2) := dk_55 4 (dk_at dksX0_fee_7 0 rfl rfl)
theorem dX0_fee_164 : decode cX0_fee 164 = .ok (.lconst 0, 1) := dk_9 (dk_at dksX0_fee_7 2 rfl rfl)
theorem dX0_fee_165 : decode cX0_fee 165 = .ok (.lload 4, 2) := dk_22 4 (dk_at dksX0_fee_7 3 rfl rfl)
theorem dX0_fee_167 : decode cX0_fee 167 = .ok (.invokestatic 495, 3) := dk_184 1 239 (dk_at dksX0_fee_7 5 rfl rfl)
theorem dX0_fee_170 : decode cX0_fee 170 = .ok (.l2i, 1) := dk_136 (dk_at dksX0_fee_7 8 rfl rfl)
theorem dX0_fee_171 : decode cX0_fee 171 = .ok (.ireturn, 1) := dk_172 (dk_at dksX0_fee_7 9 rfl rfl)
def dkwX0_roofOf_3 : List UInt8 := [180, 1, 112, 172, 16, 31, 45, 180, 1, 230, 184, 1, 217, 100, 172, 2, 172]
abbrev dktX0_roofOf_3 : List UInt8 := dkwX0_roofOf_3 ++ []
def dkwX0_roofOf_2 : List UInt8 := [45, 180, 1, 242, 180, 1, 243, 172, 45, 180, 1, 233, 172, 45, 180, 1, 236, 172, 45, 180, 1, 227, 172, 45]
abbrev dktX0_roofOf_2 : List UInt8 := dkwX0_roofOf_2 ++ dktX0_roofOf_3
def dkwX0_roofOf_1 : List UInt8 := [170, 0, 0, 0, 0, 0, 78, 0, 0, 0, 0, 0, 0, 0, 5, 0, 0, 0, 39, 0, 0, 0, 47, 0, 0, 0, 52, 0, 0, 0, 57, 0, 0, 0, 62, 0, 0, 0, 67]
abbrev dktX0_roofOf_1 : List UInt8 := dkwX0_roofOf_1 ++ dktX0_roofOf_2
def dkwX0_roofOf_0 : List UInt8 := [42, 27, 182, 1, 223, 78, 45, 199, 0, 5, 2, 172, 28]
abbrev dktX0_roofOf_0 : List UInt8 := dkwX0_roofOf_0 ++ dktX0_roofOf_1
theorem dksX0_roofOf_0 : cX0_roofOf.data.toList.drop 0 = dktX0_roofOf_0 := by decide +kernel
theorem dksX0_roofOf_1 : cX0_roofOf.data.toList.drop 13 = dktX0_roofOf_1 := dk_seg dksX0_roofOf_0 13 rfl rfl
theorem dksX0_roofOf_2 : cX0_roofOf.data.toList.drop 52 = dktX0_roofOf_2 := dk_seg dksX0_roofOf_1 39 rfl rfl
theorem dksX0_roofOf_3 : cX0_roofOf.data.toList.drop 76 = dktX0_roofOf_3 := dk_seg dksX0_roofOf_2 24 rfl rfl
theorem dX0_roofOf_0 : decode cX0_roofOf 0 = .ok (.aload_n 0, 1) := dk_42 (dk_at dksX0_roofOf_0 0 rfl rfl)
theorem dX0_roofOf_1 : decode cX0_roofOf 1 = .ok (.iload_n 1, 1) := dk_27 (dk_at dksX0_roofOf_0 1 rfl rfl)
theorem dX0_roofOf_2 : decode cX0_roofOf 2 = .ok (.invokevirtual 479, 3) := dk_182 1 223 (dk_at dksX0_roofOf_0 2 rfl rfl)
theorem dX0_roofOf_5 : decode cX0_roofOf 5 = .ok (.astore_n 3, 1) := dk_78 (dk_at dksX0_roofOf_0 5 rfl rfl)
theorem dX0_roofOf_6 : decode cX0_roofOf 6 = .ok (.aload_n 3, 1) := dk_45 (dk_at dksX0_roofOf_0 6 rfl rfl)
theorem dX0_roofOf_7 : decode cX0_roofOf 7 = .ok (.ifnonnull 5, 3) := dk_199 0 5 (dk_at dksX0_roofOf_0 7 rfl rfl)
theorem dX0_roofOf_10 : decode cX0_roofOf 10 = .ok (.iconst (-1), 1) := dk_2 (dk_at dksX0_roofOf_0 10 rfl rfl)
theorem dX0_roofOf_11 : decode cX0_roofOf 11 = .ok (.ireturn, 1) := dk_172 (dk_at dksX0_roofOf_0 11 rfl rfl)
theorem dX0_roofOf_12 : decode cX0_roofOf 12 = .ok (.iload_n 2, 1) := dk_28 (dk_at dksX0_roofOf_0 12 rfl rfl)
theorem dX0_roofOf_13 : decode cX0_roofOf 13 = .ok (.tableswitch 78 0 5 #[39, 47, 52, 57, 62, 67], 39) := by decide +kernel
theorem dX0_roofOf_52 : decode cX0_roofOf 52 = .ok (.aload_n 3, 1) := dk_45 (dk_at dksX0_roofOf_2 0 rfl rfl)
theorem dX0_roofOf_53 : decode cX0_roofOf 53 = .ok (.getfield 498, 3) := dk_180 1 242 (dk_at dksX0_roofOf_2 1 rfl rfl)
theorem dX0_roofOf_56 : decode cX0_roofOf 56 = .ok (.getfield 499, 3) := dk_180 1 243 (dk_at dksX0_roofOf_2 4 rfl rfl)
theorem dX0_roofOf_59 : decode cX0_roofOf 59 = .ok (.ireturn, 1) := dk_172 (dk_at dksX0_roofOf_2 7 rfl rfl)
theorem dX0_roofOf_60 : decode cX0_roofOf 60 = .ok (.aload_n 3, 1) := dk_45 (dk_at dksX0_roofOf_2 8 rfl rfl)
theorem dX0_roofOf_61 : decode cX0_roofOf 61 = .ok (.getfield 489, 3) := dk_180 1 233 (dk_at dksX0_roofOf_2 9 rfl rfl)
theorem dX0_roofOf_64 : decode cX0_roofOf 64 = .ok (.ireturn, 1) := dk_172 (dk_at dksX0_roofOf_2 12 rfl rfl)
theorem dX0_roofOf_65 : decode cX0_roofOf 65 = .ok (.aload_n 3, 1) := dk_45 (dk_at dksX0_roofOf_2 13 rfl rfl)
theorem dX0_roofOf_66 : decode cX0_roofOf 66 = .ok (.getfield 492, 3) := dk_180 1 236 (dk_at dksX0_roofOf_2 14 rfl rfl)
theorem dX0_roofOf_69 : decode cX0_roofOf 69 = .ok (.ireturn, 1) := dk_172 (dk_at dksX0_roofOf_2 17 rfl rfl)
theorem dX0_roofOf_70 : decode cX0_roofOf 70 = .ok (.aload_n 3, 1) := dk_45 (dk_at dksX0_roofOf_2 18 rfl rfl)
theorem dX0_roofOf_71 : decode cX0_roofOf 71 = .ok (.getfield 483, 3) := dk_180 1 227 (dk_at dksX0_roofOf_2 19 rfl rfl)
theorem dX0_roofOf_74 : decode cX0_roofOf 74 = .ok (.ireturn, 1) := dk_172 (dk_at dksX0_roofOf_2 22 rfl rfl)
theorem dX0_roofOf_75 : decode cX0_roofOf 75 = .ok (.aload_n 3, 1) := dk_45 (dk_at dksX0_roofOf_2 23 rfl rfl)
theorem dX0_roofOf_76 : decode cX0_roofOf 76 = .ok (.getfield 368, 3) := dk_180 1 112 (dk_at dksX0_roofOf_3 0 rfl rfl)
theorem dX0_roofOf_79 : decode cX0_roofOf 79 = .ok (.ireturn, 1) := dk_172 (dk_at dksX0_roofOf_3 3 rfl rfl)
theorem dX0_roofOf_80 : decode cX0_roofOf 80 = .ok (.bipush 31, 2) := dk_16 31 (dk_at dksX0_roofOf_3 4 rfl rfl)
theorem dX0_roofOf_82 : decode cX0_roofOf 82 = .ok (.aload_n 3, 1) := dk_45 (dk_at dksX0_roofOf_3 6 rfl rfl)
theorem dX0_roofOf_83 : decode cX0_roofOf 83 = .ok (.getfield 486, 3) := dk_180 1 230 (dk_at dksX0_roofOf_3 7 rfl rfl)
theorem dX0_roofOf_86 : decode cX0_roofOf 86 = .ok (.invokestatic 473, 3) := dk_184 1 217 (dk_at dksX0_roofOf_3 10 rfl rfl)
theorem dX0_roofOf_89 : decode cX0_roofOf 89 = .ok (.isub, 1) := dk_100 (dk_at dksX0_roofOf_3 13 rfl rfl)
theorem dX0_roofOf_90 : decode cX0_roofOf 90 = .ok (.ireturn, 1) := dk_172 (dk_at dksX0_roofOf_3 14 rfl rfl)
theorem dX0_roofOf_91 : decode cX0_roofOf 91 = .ok (.iconst (-1), 1) := dk_2 (dk_at dksX0_roofOf_3 15 rfl rfl)
theorem dX0_roofOf_92 : decode cX0_roofOf 92 = .ok (.ireturn, 1) := dk_172 (dk_at dksX0_roofOf_3 16 rfl rfl)
def dkwX0_look_2_1 : List UInt8 := [181, 1, 244, 42, 89, 180, 1, 246, 4, 96, 181, 1, 246, 42, 180, 1, 246, 172]
abbrev dktX0_look_2_1 : List UInt8 := dkwX0_look_2_1 ++ []
def dkwX0_look_2_0 : List UInt8 := [42, 27, 182, 0, 132, 78, 45, 198, 0, 12, 28, 3, 6, 184, 0, 3, 154, 0, 5, 2, 172, 45, 28]
abbrev dktX0_look_2_0 : List UInt8 := dkwX0_look_2_0 ++ dktX0_look_2_1
theorem dksX0_look_2_0 : cX0_look_2.data.toList.drop 0 = dktX0_look_2_0 := by decide +kernel
theorem dksX0_look_2_1 : cX0_look_2.data.toList.drop 23 = dktX0_look_2_1 := dk_seg dksX0_look_2_0 23 rfl rfl
theorem dX0_look_2_0 : decode cX0_look_2 0 = .ok (.aload_n 0, 1) := dk_42 (dk_at dksX0_look_2_0 0 rfl rfl)
theorem dX0_look_2_1 : decode cX0_look_2 1 = .ok (.iload_n 1, 1) := dk_27 (dk_at dksX0_look_2_0 1 rfl rfl)
theorem dX0_look_2_2 : decode cX0_look_2 2 = .ok (.invokevirtual 132, 3) := dk_182 0 132 (dk_at dksX0_look_2_0 2 rfl rfl)
theorem dX0_look_2_5 : decode cX0_look_2 5 = .ok (.astore_n 3, 1) := dk_78 (dk_at dksX0_look_2_0 5 rfl rfl)
theorem dX0_look_2_6 : decode cX0_look_2 6 = .ok (.aload_n 3, 1) := dk_45 (dk_at dksX0_look_2_0 6 rfl rfl)
theorem dX0_look_2_7 : decode cX0_look_2 7 = .ok (.ifnull 12, 3) := dk_198 0 12 (dk_at dksX0_look_2_0 7 rfl rfl)
theorem dX0_look_2_10 : decode cX0_look_2 10 = .ok (.iload_n 2, 1) := dk_28 (dk_at dksX0_look_2_0 10 rfl rfl)
theorem dX0_look_2_11 : decode cX0_look_2 11 = .ok (.iconst 0, 1) := dk_3 (dk_at dksX0_look_2_0 11 rfl rfl)
theorem dX0_look_2_12 : decode cX0_look_2 12 = .ok (.iconst 3, 1) := dk_6 (dk_at dksX0_look_2_0 12 rfl rfl)
theorem dX0_look_2_13 : decode cX0_look_2 13 = .ok (.invokestatic 3, 3) := dk_184 0 3 (dk_at dksX0_look_2_0 13 rfl rfl)
theorem dX0_look_2_16 : decode cX0_look_2 16 = .ok (.ifCond .ne 5, 3) := dk_154 0 5 (dk_at dksX0_look_2_0 16 rfl rfl)
theorem dX0_look_2_19 : decode cX0_look_2 19 = .ok (.iconst (-1), 1) := dk_2 (dk_at dksX0_look_2_0 19 rfl rfl)
theorem dX0_look_2_20 : decode cX0_look_2 20 = .ok (.ireturn, 1) := dk_172 (dk_at dksX0_look_2_0 20 rfl rfl)
theorem dX0_look_2_21 : decode cX0_look_2 21 = .ok (.aload_n 3, 1) := dk_45 (dk_at dksX0_look_2_0 21 rfl rfl)
theorem dX0_look_2_22 : decode cX0_look_2 22 = .ok (.iload_n 2, 1) := dk_28 (dk_at dksX0_look_2_0 22 rfl rfl)
theorem dX0_look_2_23 : decode cX0_look_2 23 = .ok (.putfield 500, 3) := dk_181 1 244 (dk_at dksX0_look_2_1 0 rfl rfl)
theorem dX0_look_2_26 : decode cX0_look_2 26 = .ok (.aload_n 0, 1) := dk_42 (dk_at dksX0_look_2_1 3 rfl rfl)
theorem dX0_look_2_27 : decode cX0_look_2 27 = .ok (.dup, 1) := dk_89 (dk_at dksX0_look_2_1 4 rfl rfl)
theorem dX0_look_2_28 : decode cX0_look_2 28 = .ok (.getfield 502, 3) := dk_180 1 246 (dk_at dksX0_look_2_1 5 rfl rfl)
theorem dX0_look_2_31 : decode cX0_look_2 31 = .ok (.iconst 1, 1) := dk_4 (dk_at dksX0_look_2_1 8 rfl rfl)
theorem dX0_look_2_32 : decode cX0_look_2 32 = .ok (.iadd, 1) := dk_96 (dk_at dksX0_look_2_1 9 rfl rfl)
theorem dX0_look_2_33 : decode cX0_look_2 33 = .ok (.putfield 502, 3) := dk_181 1 246 (dk_at dksX0_look_2_1 10 rfl rfl)
theorem dX0_look_2_36 : decode cX0_look_2 36 = .ok (.aload_n 0, 1) := dk_42 (dk_at dksX0_look_2_1 13 rfl rfl)
theorem dX0_look_2_37 : decode cX0_look_2 37 = .ok (.getfield 502, 3) := dk_180 1 246 (dk_at dksX0_look_2_1 14 rfl rfl)
theorem dX0_look_2_40 : decode cX0_look_2 40 = .ok (.ireturn, 1) := dk_172 (dk_at dksX0_look_2_1 17 rfl rfl)
def dkwX0_worst_7 : List UInt8 := [27, 5, 160, 0, 8, 21, 4, 167, 0, 4, 2, 172]
abbrev dktX0_worst_7 : List UInt8 := dkwX0_worst_7 ++ []
def dkwX0_worst_6 : List UInt8 := [156, 0, 7, 2, 167, 0, 31, 27, 154, 0, 7, 28, 167, 0, 23, 27, 4, 160, 0, 7, 29, 167, 0, 14]
abbrev dktX0_worst_6 : List UInt8 := dkwX0_worst_6 ++ dktX0_worst_7
def dkwX0_worst_5 : List UInt8 := [104, 163, 0, 6, 167, 0, 13, 21, 5, 61, 21, 6, 62, 21, 7, 54, 4, 132, 5, 1, 167, 255, 128, 28]
abbrev dktX0_worst_5 : List UInt8 := dkwX0_worst_5 ++ dktX0_worst_6
def dkwX0_worst_4 : List UInt8 := [132, 8, 1, 167, 255, 185, 21, 7, 5, 161, 0, 32, 28, 155, 0, 18, 21, 6, 21, 4, 104, 29, 21, 7]
abbrev dktX0_worst_4 : List UInt8 := dkwX0_worst_4 ++ dktX0_worst_5
def dkwX0_worst_3 : List UInt8 := [25, 9, 180, 1, 244, 156, 0, 6, 167, 0, 16, 21, 6, 25, 9, 180, 1, 244, 96, 54, 6, 132, 7, 1]
abbrev dktX0_worst_3 : List UInt8 := dkwX0_worst_3 ++ dktX0_worst_4
def dkwX0_worst_2 : List UInt8 := [192, 0, 85, 180, 0, 91, 58, 9, 25, 9, 198, 0, 37, 25, 9, 180, 1, 249, 21, 5, 160, 0, 27]
abbrev dktX0_worst_2 : List UInt8 := dkwX0_worst_2 ++ dktX0_worst_3
def dkwX0_worst_1 : List UInt8 := [54, 8, 21, 8, 42, 180, 0, 20, 182, 0, 77, 162, 0, 65, 42, 180, 0, 20, 21, 8, 182, 0, 81]
abbrev dktX0_worst_1 : List UInt8 := dkwX0_worst_1 ++ dktX0_worst_2
def dkwX0_worst_0 : List UInt8 := [2, 61, 3, 62, 4, 54, 4, 3, 54, 5, 21, 5, 16, 10, 162, 0, 127, 3, 54, 6, 3, 54, 7, 3]
abbrev dktX0_worst_0 : List UInt8 := dkwX0_worst_0 ++ dktX0_worst_1
theorem dksX0_worst_0 : cX0_worst.data.toList.drop 0 = dktX0_worst_0 := by decide +kernel
theorem dksX0_worst_1 : cX0_worst.data.toList.drop 24 = dktX0_worst_1 := dk_seg dksX0_worst_0 24 rfl rfl
theorem dksX0_worst_2 : cX0_worst.data.toList.drop 47 = dktX0_worst_2 := dk_seg dksX0_worst_1 23 rfl rfl
theorem dksX0_worst_3 : cX0_worst.data.toList.drop 70 = dktX0_worst_3 := dk_seg dksX0_worst_2 23 rfl rfl
theorem dksX0_worst_4 : cX0_worst.data.toList.drop 94 = dktX0_worst_4 := dk_seg dksX0_worst_3 24 rfl rfl
theorem dksX0_worst_5 : cX0_worst.data.toList.drop 118 = dktX0_worst_5 := dk_seg dksX0_worst_4 24 rfl rfl
theorem dksX0_worst_6 : cX0_worst.data.toList.drop 142 = dktX0_worst_6 := dk_seg dksX0_worst_5 24 rfl rfl
theorem dksX0_worst_7 : cX0_worst.data.toList.drop 166 = dktX0_worst_7 := dk_seg dksX0_worst_6 24 rfl rfl
theorem dX0_worst_0 : decode cX0_worst 0 = .ok (.iconst (-1), 1) := dk_2 (dk_at dksX0_worst_0 0 rfl rfl)
theorem dX0_worst_1 : decode cX0_worst 1 = .ok (.istore_n 2, 1) := dk_61 (dk_at dksX0_worst_0 1 rfl rfl)
theorem dX0_worst_2 : decode cX0_worst 2 = .ok (.iconst 0, 1) := dk_3 (dk_at dksX0_worst_0 2 rfl rfl)
theorem dX0_worst_3 : decode cX0_worst 3 = .ok (.istore_n 3, 1) := dk_62 (dk_at dksX0_worst_0 3 rfl rfl)
theorem dX0_worst_4 : decode cX0_worst 4 = .ok (.iconst 1, 1) := dk_4 (dk_at dksX0_worst_0 4 rfl rfl)
theorem dX0_worst_5 : decode cX0_worst 5 = .ok (.istore 4, 2) := dk_54 4 (dk_at dksX0_worst_0 5 rfl rfl)
theorem dX0_worst_7 : decode cX0_worst 7 = .ok (.iconst 0, 1) := dk_3 (dk_at dksX0_worst_0 7 rfl rfl)
theorem dX0_worst_8 : decode cX0_worst 8 = .ok (.istore 5, 2) := dk_54 5 (dk_at dksX0_worst_0 8 rfl rfl)
theorem dX0_worst_10 : decode cX0_worst 10 = .ok (.iload 5, 2) := dk_21 5 (dk_at dksX0_worst_0 10 rfl rfl)
theorem dX0_worst_12 : decode cX0_worst 12 = .ok (.bipush 10, 2) := dk_16 10 (dk_at dksX0_worst_0 12 rfl rfl)
theorem dX0_worst_14 : decode cX0_worst 14 = .ok (.if_icmp .ge 127, 3) := dk_162 0 127 (dk_at dksX0_worst_0 14 rfl rfl)
theorem dX0_worst_17 : decode cX0_worst 17 = .ok (.iconst 0, 1) := dk_3 (dk_at dksX0_worst_0 17 rfl rfl)
theorem dX0_worst_18 : decode cX0_worst 18 = .ok (.istore 6, 2) := dk_54 6 (dk_at dksX0_worst_0 18 rfl rfl)
theorem dX0_worst_20 : decode cX0_worst 20 = .ok (.iconst 0, 1) := dk_3 (dk_at dksX0_worst_0 20 rfl rfl)
theorem dX0_worst_21 : decode cX0_worst 21 = .ok (.istore 7, 2) := dk_54 7 (dk_at dksX0_worst_0 21 rfl rfl)
theorem dX0_worst_23 : decode cX0_worst 23 = .ok (.iconst 0, 1) := dk_3 (dk_at dksX0_worst_0 23 rfl rfl)
theorem dX0_worst_24 : decode cX0_worst 24 = .ok (.istore 8, 2) := dk_54 8 (dk_at dksX0_worst_1 0 rfl rfl)
theorem dX0_worst_26 : decode cX0_worst 26 = .ok (.iload 8, 2) := dk_21 8 (dk_at dksX0_worst_1 2 rfl rfl)
theorem dX0_worst_28 : decode cX0_worst 28 = .ok (.aload_n 0, 1) := dk_42 (dk_at dksX0_worst_1 4 rfl rfl)
theorem dX0_worst_29 : decode cX0_worst 29 = .ok (.getfield 20, 3) := dk_180 0 20 (dk_at dksX0_worst_1 5 rfl rfl)
theorem dX0_worst_32 : decode cX0_worst 32 = .ok (.invokevirtual 77, 3) := dk_182 0 77 (dk_at dksX0_worst_1 8 rfl rfl)
theorem dX0_worst_35 : decode cX0_worst 35 = .ok (.if_icmp .ge 65, 3) := dk_162 0 65 (dk_at dksX0_worst_1 11 rfl rfl)
theorem dX0_worst_38 : decode cX0_worst 38 = .ok (.aload_n 0, 1) := dk_42 (dk_at dksX0_worst_1 14 rfl rfl)
theorem dX0_worst_39 : decode cX0_worst 39 = .ok (.getfield 20, 3) := dk_180 0 20 (dk_at dksX0_worst_1 15 rfl rfl)
theorem dX0_worst_42 : decode cX0_worst 42 = .ok (.iload 8, 2) := dk_21 8 (dk_at dksX0_worst_1 18 rfl rfl)
theorem dX0_worst_44 : decode cX0_worst 44 = .ok (.invokevirtual 81, 3) := dk_182 0 81 (dk_at dksX0_worst_1 20 rfl rfl)
theorem dX0_worst_47 : decode cX0_worst 47 = .ok (.checkcast 85, 3) := dk_192 0 85 (dk_at dksX0_worst_2 0 rfl rfl)
theorem dX0_worst_50 : decode cX0_worst 50 = .ok (.getfield 91, 3) := dk_180 0 91 (dk_at dksX0_worst_2 3 rfl rfl)
theorem dX0_worst_53 : decode cX0_worst 53 = .ok (.astore 9, 2) := dk_58 9 (dk_at dksX0_worst_2 6 rfl rfl)
theorem dX0_worst_55 : decode cX0_worst 55 = .ok (.aload 9, 2) := dk_25 9 (dk_at dksX0_worst_2 8 rfl rfl)
theorem dX0_worst_57 : decode cX0_worst 57 = .ok (.ifnull 37, 3) := dk_198 0 37 (dk_at dksX0_worst_2 10 rfl rfl)
theorem dX0_worst_60 : decode cX0_worst 60 = .ok (.aload 9, 2) := dk_25 9 (dk_at dksX0_worst_2 13 rfl rfl)
theorem dX0_worst_62 : decode cX0_worst 62 = .ok (.getfield 505, 3) := dk_180 1 249 (dk_at dksX0_worst_2 15 rfl rfl)
theorem dX0_worst_65 : decode cX0_worst 65 = .ok (.iload 5, 2) := dk_21 5 (dk_at dksX0_worst_2 18 rfl rfl)
theorem dX0_worst_67 : decode cX0_worst 67 = .ok (.if_icmp .ne 27, 3) := dk_160 0 27 (dk_at dksX0_worst_2 20 rfl rfl)
theorem dX0_worst_70 : decode cX0_worst 70 = .ok (.aload 9, 2) := dk_25 9 (dk_at dksX0_worst_3 0 rfl rfl)
theorem dX0_worst_72 : decode cX0_worst 72 = .ok (.getfield 500, 3) := dk_180 1 244 (dk_at dksX0_worst_3 2 rfl rfl)
theorem dX0_worst_75 : decode cX0_worst 75 = .ok (.ifCond .ge 6, 3) := dk_156 0 6 (dk_at dksX0_worst_3 5 rfl rfl)
theorem dX0_worst_78 : decode cX0_worst 78 = .ok (.goto 16, 3) := dk_167 0 16 (dk_at dksX0_worst_3 8 rfl rfl)
theorem dX0_worst_81 : decode cX0_worst 81 = .ok (.iload 6, 2) := dk_21 6 (dk_at dksX0_worst_3 11 rfl rfl)
theorem dX0_worst_83 : decode cX0_worst 83 = .ok (.aload 9, 2) := dk_25 9 (dk_at dksX0_worst_3 13 rfl rfl)
theorem dX0_worst_85 : decode cX0_worst 85 = .ok (.getfield 500, 3) := dk_180 1 244 (dk_at dksX0_worst_3 15 rfl rfl)
theorem dX0_worst_88 : decode cX0_worst 88 = .ok (.iadd, 1) := dk_96 (dk_at dksX0_worst_3 18 rfl rfl)
theorem dX0_worst_89 : decode cX0_worst 89 = .ok (.istore 6, 2) := dk_54 6 (dk_at dksX0_worst_3 19 rfl rfl)
theorem dX0_worst_91 : decode cX0_worst 91 = .ok (.iinc 7 1, 3) := dk_132 7 1 (dk_at dksX0_worst_3 21 rfl rfl)
theorem dX0_worst_94 : decode cX0_worst 94 = .ok (.iinc 8 1, 3) := dk_132 8 1 (dk_at dksX0_worst_4 0 rfl rfl)
theorem dX0_worst_97 : decode cX0_worst 97 = .ok (.goto (-71), 3) := dk_167 255 185 (dk_at dksX0_worst_4 3 rfl rfl)
theorem dX0_worst_100 : decode cX0_worst 100 = .ok (.iload 7, 2) := dk_21 7 (dk_at dksX0_worst_4 6 rfl rfl)
theorem dX0_worst_102 : decode cX0_worst 102 = .ok (.iconst 2, 1) := dk_5 (dk_at dksX0_worst_4 8 rfl rfl)
theorem dX0_worst_103 : decode cX0_worst 103 = .ok (.if_icmp .lt 32, 3) := dk_161 0 32 (dk_at dksX0_worst_4 9 rfl rfl)
theorem dX0_worst_106 : decode cX0_worst 106 = .ok (.iload_n 2, 1) := dk_28 (dk_at dksX0_worst_4 12 rfl rfl)
theorem dX0_worst_107 : decode cX0_worst 107 = .ok (.ifCond .lt 18, 3) := dk_155 0 18 (dk_at dksX0_worst_4 13 rfl rfl)
theorem dX0_worst_110 : decode cX0_worst 110 = .ok (.iload 6, 2) := dk_21 6 (dk_at dksX0_worst_4 16 rfl rfl)
theorem dX0_worst_112 : decode cX0_worst 112 = .ok (.iload 4, 2) := dk_21 4 (dk_at dksX0_worst_4 18 rfl rfl)
theorem dX0_worst_114 : decode cX0_worst 114 = .ok (.imul, 1) := dk_104 (dk_at dksX0_worst_4 20 rfl rfl)
theorem dX0_worst_115 : decode cX0_worst 115 = .ok (.iload_n 3, 1) := dk_29 (dk_at dksX0_worst_4 21 rfl rfl)
theorem dX0_worst_116 : decode cX0_worst 116 = .ok (.iload 7, 2) := dk_21 7 (dk_at dksX0_worst_4 22 rfl rfl)
theorem dX0_worst_118 : decode cX0_worst 118 = .ok (.imul, 1) := dk_104 (dk_at dksX0_worst_5 0 rfl rfl)
theorem dX0_worst_119 : decode cX0_worst 119 = .ok (.if_icmp .gt 6, 3) := dk_163 0 6 (dk_at dksX0_worst_5 1 rfl rfl)
theorem dX0_worst_122 : decode cX0_worst 122 = .ok (.goto 13, 3) := dk_167 0 13 (dk_at dksX0_worst_5 4 rfl rfl)
theorem dX0_worst_125 : decode cX0_worst 125 = .ok (.iload 5, 2) := dk_21 5 (dk_at dksX0_worst_5 7 rfl rfl)
theorem dX0_worst_127 : decode cX0_worst 127 = .ok (.istore_n 2, 1) := dk_61 (dk_at dksX0_worst_5 9 rfl rfl)
theorem dX0_worst_128 : decode cX0_worst 128 = .ok (.iload 6, 2) := dk_21 6 (dk_at dksX0_worst_5 10 rfl rfl)
theorem dX0_worst_130 : decode cX0_worst 130 = .ok (.istore_n 3, 1) := dk_62 (dk_at dksX0_worst_5 12 rfl rfl)
theorem dX0_worst_131 : decode cX0_worst 131 = .ok (.iload 7, 2) := dk_21 7 (dk_at dksX0_worst_5 13 rfl rfl)
theorem dX0_worst_133 : decode cX0_worst 133 = .ok (.istore 4, 2) := dk_54 4 (dk_at dksX0_worst_5 15 rfl rfl)
theorem dX0_worst_135 : decode cX0_worst 135 = .ok (.iinc 5 1, 3) := dk_132 5 1 (dk_at dksX0_worst_5 17 rfl rfl)
theorem dX0_worst_138 : decode cX0_worst 138 = .ok (.goto (-128), 3) := dk_167 255 128 (dk_at dksX0_worst_5 20 rfl rfl)
theorem dX0_worst_141 : decode cX0_worst 141 = .ok (.iload_n 2, 1) := dk_28 (dk_at dksX0_worst_5 23 rfl rfl)
theorem dX0_worst_142 : decode cX0_worst 142 = .ok (.ifCond .ge 7, 3) := dk_156 0 7 (dk_at dksX0_worst_6 0 rfl rfl)
theorem dX0_worst_145 : decode cX0_worst 145 = .ok (.iconst (-1), 1) := dk_2 (dk_at dksX0_worst_6 3 rfl rfl)
theorem dX0_worst_146 : decode cX0_worst 146 = .ok (.goto 31, 3) := dk_167 0 31 (dk_at dksX0_worst_6 4 rfl rfl)
theorem dX0_worst_149 : decode cX0_worst 149 = .ok (.iload_n 1, 1) := dk_27 (dk_at dksX0_worst_6 7 rfl rfl)
theorem dX0_worst_150 : decode cX0_worst 150 = .ok (.ifCond .ne 7, 3) := dk_154 0 7 (dk_at dksX0_worst_6 8 rfl rfl)
theorem dX0_worst_153 : decode cX0_worst 153 = .ok (.iload_n 2, 1) := dk_28 (dk_at dksX0_worst_6 11 rfl rfl)
theorem dX0_worst_154 : decode cX0_worst 154 = .ok (.goto 23, 3) := dk_167 0 23 (dk_at dksX0_worst_6 12 rfl rfl)
theorem dX0_worst_157 : decode cX0_worst 157 = .ok (.iload_n 1, 1) := dk_27 (dk_at dksX0_worst_6 15 rfl rfl)
theorem dX0_worst_158 : decode cX0_worst 158 = .ok (.iconst 1, 1) := dk_4 (dk_at dksX0_worst_6 16 rfl rfl)
theorem dX0_worst_159 : decode cX0_worst 159 = .ok (.if_icmp .ne 7, 3) := dk_160 0 7 (dk_at dksX0_worst_6 17 rfl rfl)
theorem dX0_worst_162 : decode cX0_worst 162 = .ok (.iload_n 3, 1) := dk_29 (dk_at dksX0_worst_6 20 rfl rfl)
theorem dX0_worst_163 : decode cX0_worst 163 = .ok (.goto 14, 3) := dk_167 0 14 (dk_at dksX0_worst_6 21 rfl rfl)
theorem dX0_worst_166 : decode cX0_worst 166 = .ok (.iload_n 1, 1) := dk_27 (dk_at dksX0_worst_7 0 rfl rfl)
theorem dX0_worst_167 : decode cX0_worst 167 = .ok (.iconst 2, 1) := dk_5 (dk_at dksX0_worst_7 1 rfl rfl)
theorem dX0_worst_168 : decode cX0_worst 168 = .ok (.if_icmp .ne 8, 3) := dk_160 0 8 (dk_at dksX0_worst_7 2 rfl rfl)
theorem dX0_worst_171 : decode cX0_worst 171 = .ok (.iload 4, 2) := dk_21 4 (dk_at dksX0_worst_7 5 rfl rfl)
theorem dX0_worst_173 : decode cX0_worst 173 = .ok (.goto 4, 3) := dk_167 0 4 (dk_at dksX0_worst_7 7 rfl rfl)
theorem dX0_worst_176 : decode cX0_worst 176 = .ok (.iconst (-1), 1) := dk_2 (dk_at dksX0_worst_7 10 rfl rfl)
theorem dX0_worst_177 : decode cX0_worst 177 = .ok (.ireturn, 1) := dk_172 (dk_at dksX0_worst_7 11 rfl rfl)
def dkwX0_complain_1 : List UInt8 := [180, 0, 20, 27, 182, 0, 81, 192, 0, 85, 28, 182, 1, 102, 172]
abbrev dktX0_complain_1 : List UInt8 := dkwX0_complain_1 ++ []
def dkwX0_complain_0 : List UInt8 := [42, 27, 182, 0, 87, 198, 0, 12, 28, 3, 6, 184, 0, 3, 154, 0, 7, 2, 167, 0, 19, 42, 42]
abbrev dktX0_complain_0 : List UInt8 := dkwX0_complain_0 ++ dktX0_complain_1
theorem dksX0_complain_0 : cX0_complain.data.toList.drop 0 = dktX0_complain_0 := by decide +kernel
theorem dksX0_complain_1 : cX0_complain.data.toList.drop 23 = dktX0_complain_1 := dk_seg dksX0_complain_0 23 rfl rfl
theorem dX0_complain_0 : decode cX0_complain 0 = .ok (.aload_n 0, 1) := dk_42 (dk_at dksX0_complain_0 0 rfl rfl)
theorem dX0_complain_1 : decode cX0_complain 1 = .ok (.iload_n 1, 1) := dk_27 (dk_at dksX0_complain_0 1 rfl rfl)
theorem dX0_complain_2 : decode cX0_complain 2 = .ok (.invokevirtual 87, 3) := dk_182 0 87 (dk_at dksX0_complain_0 2 rfl rfl)
theorem dX0_complain_5 : decode cX0_complain 5 = .ok (.ifnull 12, 3) := dk_198 0 12 (dk_at dksX0_complain_0 5 rfl rfl)
theorem dX0_complain_8 : decode cX0_complain 8 = .ok (.iload_n 2, 1) := dk_28 (dk_at dksX0_complain_0 8 rfl rfl)
theorem dX0_complain_9 : decode cX0_complain 9 = .ok (.iconst 0, 1) := dk_3 (dk_at dksX0_complain_0 9 rfl rfl)
theorem dX0_complain_10 : decode cX0_complain 10 = .ok (.iconst 3, 1) := dk_6 (dk_at dksX0_complain_0 10 rfl rfl)
theorem dX0_complain_11 : decode cX0_complain 11 = .ok (.invokestatic 3, 3) := dk_184 0 3 (dk_at dksX0_complain_0 11 rfl rfl)
theorem dX0_complain_14 : decode cX0_complain 14 = .ok (.ifCond .ne 7, 3) := dk_154 0 7 (dk_at dksX0_complain_0 14 rfl rfl)
theorem dX0_complain_17 : decode cX0_complain 17 = .ok (.iconst (-1), 1) := dk_2 (dk_at dksX0_complain_0 17 rfl rfl)
theorem dX0_complain_18 : decode cX0_complain 18 = .ok (.goto 19, 3) := dk_167 0 19 (dk_at dksX0_complain_0 18 rfl rfl)
theorem dX0_complain_21 : decode cX0_complain 21 = .ok (.aload_n 0, 1) := dk_42 (dk_at dksX0_complain_0 21 rfl rfl)
theorem dX0_complain_22 : decode cX0_complain 22 = .ok (.aload_n 0, 1) := dk_42 (dk_at dksX0_complain_0 22 rfl rfl)
theorem dX0_complain_23 : decode cX0_complain 23 = .ok (.getfield 20, 3) := dk_180 0 20 (dk_at dksX0_complain_1 0 rfl rfl)
theorem dX0_complain_26 : decode cX0_complain 26 = .ok (.iload_n 1, 1) := dk_27 (dk_at dksX0_complain_1 3 rfl rfl)
theorem dX0_complain_27 : decode cX0_complain 27 = .ok (.invokevirtual 81, 3) := dk_182 0 81 (dk_at dksX0_complain_1 4 rfl rfl)
theorem dX0_complain_30 : decode cX0_complain 30 = .ok (.checkcast 85, 3) := dk_192 0 85 (dk_at dksX0_complain_1 7 rfl rfl)
theorem dX0_complain_33 : decode cX0_complain 33 = .ok (.iload_n 2, 1) := dk_28 (dk_at dksX0_complain_1 10 rfl rfl)
theorem dX0_complain_34 : decode cX0_complain 34 = .ok (.invokevirtual 358, 3) := dk_182 1 102 (dk_at dksX0_complain_1 11 rfl rfl)
theorem dX0_complain_37 : decode cX0_complain 37 = .ok (.ireturn, 1) := dk_172 (dk_at dksX0_complain_1 14 rfl rfl)
def dkwX0_close_2 : List UInt8 := [192, 1, 252, 3, 181, 1, 254, 4, 172]
abbrev dktX0_close_2 : List UInt8 := dkwX0_close_2 ++ []
def dkwX0_close_1 : List UInt8 := [182, 0, 81, 192, 1, 252, 180, 1, 254, 154, 0, 5, 3, 172, 42, 180, 0, 74, 27, 182, 0, 81]
abbrev dktX0_close_1 : List UInt8 := dkwX0_close_1 ++ dktX0_close_2
def dkwX0_close_0 : List UInt8 := [27, 3, 42, 180, 0, 74, 182, 0, 77, 4, 100, 184, 0, 3, 153, 0, 20, 42, 180, 0, 74, 27]
abbrev dktX0_close_0 : List UInt8 := dkwX0_close_0 ++ dktX0_close_1
theorem dksX0_close_0 : cX0_close.data.toList.drop 0 = dktX0_close_0 := by decide +kernel
theorem dksX0_close_1 : cX0_close.data.toList.drop 22 = dktX0_close_1 := dk_seg dksX0_close_0 22 rfl rfl
theorem dksX0_close_2 : cX0_close.data.toList.drop 44 = dktX0_close_2 := dk_seg dksX0_close_1 22 rfl rfl
theorem dX0_close_0 : decode cX0_close 0 = .ok (.iload_n 1, 1) := dk_27 (dk_at dksX0_close_0 0 rfl rfl)
theorem dX0_close_1 : decode cX0_close 1 = .ok (.iconst 0, 1) := dk_3 (dk_at dksX0_close_0 1 rfl rfl)
theorem dX0_close_2 : decode cX0_close 2 = .ok (.aload_n 0, 1) := dk_42 (dk_at dksX0_close_0 2 rfl rfl)
theorem dX0_close_3 : decode cX0_close 3 = .ok (.getfield 74, 3) := dk_180 0 74 (dk_at dksX0_close_0 3 rfl rfl)
theorem dX0_close_6 : decode cX0_close 6 = .ok (.invokevirtual 77, 3) := dk_182 0 77 (dk_at dksX0_close_0 6 rfl rfl)
theorem dX0_close_9 : decode cX0_close 9 = .ok (.iconst 1, 1) := dk_4 (dk_at dksX0_close_0 9 rfl rfl)
theorem dX0_close_10 : decode cX0_close 10 = .ok (.isub, 1) := dk_100 (dk_at dksX0_close_0 10 rfl rfl)
theorem dX0_close_11 : decode cX0_close 11 = .ok (.invokestatic 3, 3) := dk_184 0 3 (dk_at dksX0_close_0 11 rfl rfl)
theorem dX0_close_14 : decode cX0_close 14 = .ok (.ifCond .eq 20, 3) := dk_153 0 20 (dk_at dksX0_close_0 14 rfl rfl)
theorem dX0_close_17 : decode cX0_close 17 = .ok (.aload_n 0, 1) := dk_42 (dk_at dksX0_close_0 17 rfl rfl)
theorem dX0_close_18 : decode cX0_close 18 = .ok (.getfield 74, 3) := dk_180 0 74 (dk_at dksX0_close_0 18 rfl rfl)
theorem dX0_close_21 : decode cX0_close 21 = .ok (.iload_n 1, 1) := dk_27 (dk_at dksX0_close_0 21 rfl rfl)
theorem dX0_close_22 : decode cX0_close 22 = .ok (.invokevirtual 81, 3) := dk_182 0 81 (dk_at dksX0_close_1 0 rfl rfl)
theorem dX0_close_25 : decode cX0_close 25 = .ok (.checkcast 508, 3) := dk_192 1 252 (dk_at dksX0_close_1 3 rfl rfl)
theorem dX0_close_28 : decode cX0_close 28 = .ok (.getfield 510, 3) := dk_180 1 254 (dk_at dksX0_close_1 6 rfl rfl)
theorem dX0_close_31 : decode cX0_close 31 = .ok (.ifCond .ne 5, 3) := dk_154 0 5 (dk_at dksX0_close_1 9 rfl rfl)
theorem dX0_close_34 : decode cX0_close 34 = .ok (.iconst 0, 1) := dk_3 (dk_at dksX0_close_1 12 rfl rfl)
theorem dX0_close_35 : decode cX0_close 35 = .ok (.ireturn, 1) := dk_172 (dk_at dksX0_close_1 13 rfl rfl)
theorem dX0_close_36 : decode cX0_close 36 = .ok (.aload_n 0, 1) := dk_42 (dk_at dksX0_close_1 14 rfl rfl)
theorem dX0_close_37 : decode cX0_close 37 = .ok (.getfield 74, 3) := dk_180 0 74 (dk_at dksX0_close_1 15 rfl rfl)
theorem dX0_close_40 : decode cX0_close 40 = .ok (.iload_n 1, 1) := dk_27 (dk_at dksX0_close_1 18 rfl rfl)
theorem dX0_close_41 : decode cX0_close 41 = .ok (.invokevirtual 81, 3) := dk_182 0 81 (dk_at dksX0_close_1 19 rfl rfl)
theorem dX0_close_44 : decode cX0_close 44 = .ok (.checkcast 508, 3) := dk_192 1 252 (dk_at dksX0_close_2 0 rfl rfl)
theorem dX0_close_47 : decode cX0_close 47 = .ok (.iconst 0, 1) := dk_3 (dk_at dksX0_close_2 3 rfl rfl)
theorem dX0_close_48 : decode cX0_close 48 = .ok (.putfield 510, 3) := dk_181 1 254 (dk_at dksX0_close_2 4 rfl rfl)
theorem dX0_close_51 : decode cX0_close 51 = .ok (.iconst 1, 1) := dk_4 (dk_at dksX0_close_2 7 rfl rfl)
theorem dX0_close_52 : decode cX0_close 52 = .ok (.ireturn, 1) := dk_172 (dk_at dksX0_close_2 8 rfl rfl)
def dkwX0_complaint_4 : List UInt8 := [180, 2, 8, 172, 45, 180, 1, 254, 153, 0, 7, 4, 167, 0, 4, 3, 172, 2, 172]
abbrev dktX0_complaint_4 : List UInt8 := dkwX0_complaint_4 ++ []
def dkwX0_complaint_3 : List UInt8 := [45, 180, 2, 1, 180, 1, 243, 172, 45, 180, 2, 2, 172, 45, 180, 2, 14, 172, 45, 180, 2, 5, 172, 45]
abbrev dktX0_complaint_3 : List UInt8 := dkwX0_complaint_3 ++ dktX0_complaint_4
def dkwX0_complaint_2 : List UInt8 := [170, 0, 0, 0, 0, 0, 0, 81, 0, 0, 0, 0, 0, 0, 0, 5, 0, 0, 0, 40, 0, 0, 0, 48, 0, 0, 0, 53, 0, 0, 0, 58, 0, 0, 0, 63, 0, 0, 0, 68]
abbrev dktX0_complaint_2 : List UInt8 := dkwX0_complaint_2 ++ dktX0_complaint_3
def dkwX0_complaint_1 : List UInt8 := [182, 0, 81, 192, 1, 252, 78, 28]
abbrev dktX0_complaint_1 : List UInt8 := dkwX0_complaint_1 ++ dktX0_complaint_2
def dkwX0_complaint_0 : List UInt8 := [27, 3, 42, 180, 0, 74, 182, 0, 77, 4, 100, 184, 0, 3, 154, 0, 5, 2, 172, 42, 180, 0, 74, 27]
abbrev dktX0_complaint_0 : List UInt8 := dkwX0_complaint_0 ++ dktX0_complaint_1
theorem dksX0_complaint_0 : cX0_complaint.data.toList.drop 0 = dktX0_complaint_0 := by decide +kernel
theorem dksX0_complaint_1 : cX0_complaint.data.toList.drop 24 = dktX0_complaint_1 := dk_seg dksX0_complaint_0 24 rfl rfl
theorem dksX0_complaint_2 : cX0_complaint.data.toList.drop 32 = dktX0_complaint_2 := dk_seg dksX0_complaint_1 8 rfl rfl
theorem dksX0_complaint_3 : cX0_complaint.data.toList.drop 72 = dktX0_complaint_3 := dk_seg dksX0_complaint_2 40 rfl rfl
theorem dksX0_complaint_4 : cX0_complaint.data.toList.drop 96 = dktX0_complaint_4 := dk_seg dksX0_complaint_3 24 rfl rfl
theorem dX0_complaint_0 : decode cX0_complaint 0 = .ok (.iload_n 1, 1) := dk_27 (dk_at dksX0_complaint_0 0 rfl rfl)
theorem dX0_complaint_1 : decode cX0_complaint 1 = .ok (.iconst 0, 1) := dk_3 (dk_at dksX0_complaint_0 1 rfl rfl)
theorem dX0_complaint_2 : decode cX0_complaint 2 = .ok (.aload_n 0, 1) := dk_42 (dk_at dksX0_complaint_0 2 rfl rfl)
theorem dX0_complaint_3 : decode cX0_complaint 3 = .ok (.getfield 74, 3) := dk_180 0 74 (dk_at dksX0_complaint_0 3 rfl rfl)
theorem dX0_complaint_6 : decode cX0_complaint 6 = .ok (.invokevirtual 77, 3) := dk_182 0 77 (dk_at dksX0_complaint_0 6 rfl rfl)
theorem dX0_complaint_9 : decode cX0_complaint 9 = .ok (.iconst 1, 1) := dk_4 (dk_at dksX0_complaint_0 9 rfl rfl)
theorem dX0_complaint_10 : decode cX0_complaint 10 = .ok (.isub, 1) := dk_100 (dk_at dksX0_complaint_0 10 rfl rfl)
theorem dX0_complaint_11 : decode cX0_complaint 11 = .ok (.invokestatic 3, 3) := dk_184 0 3 (dk_at dksX0_complaint_0 11 rfl rfl)
theorem dX0_complaint_14 : decode cX0_complaint 14 = .ok (.ifCond .ne 5, 3) := dk_154 0 5 (dk_at dksX0_complaint_0 14 rfl rfl)
theorem dX0_complaint_17 : decode cX0_complaint 17 = .ok (.iconst (-1), 1) := dk_2 (dk_at dksX0_complaint_0 17 rfl rfl)
theorem dX0_complaint_18 : decode cX0_complaint 18 = .ok (.ireturn, 1) := dk_172 (dk_at dksX0_complaint_0 18 rfl rfl)
theorem dX0_complaint_19 : decode cX0_complaint 19 = .ok (.aload_n 0, 1) := dk_42 (dk_at dksX0_complaint_0 19 rfl rfl)
theorem dX0_complaint_20 : decode cX0_complaint 20 = .ok (.getfield 74, 3) := dk_180 0 74 (dk_at dksX0_complaint_0 20 rfl rfl)
theorem dX0_complaint_23 : decode cX0_complaint 23 = .ok (.iload_n 1, 1) := dk_27 (dk_at dksX0_complaint_0 23 rfl rfl)
theorem dX0_complaint_24 : decode cX0_complaint 24 = .ok (.invokevirtual 81, 3) := dk_182 0 81 (dk_at dksX0_complaint_1 0 rfl rfl)
theorem dX0_complaint_27 : decode cX0_complaint 27 = .ok (.checkcast 508, 3) := dk_192 1 252 (dk_at dksX0_complaint_1 3 rfl rfl)
theorem dX0_complaint_30 : decode cX0_complaint 30 = .ok (.astore_n 3, 1) := dk_78 (dk_at dksX0_complaint_1 6 rfl rfl)
theorem dX0_complaint_31 : decode cX0_complaint 31 = .ok (.iload_n 2, 1) := dk_28 (dk_at dksX0_complaint_1 7 rfl rfl)
theorem dX0_complaint_32 : decode cX0_complaint 32 = .ok (.tableswitch 81 0 5 #[40, 48, 53, 58, 63, 68], 40) := by decide +kernel
theorem dX0_complaint_72 : decode cX0_complaint 72 = .ok (.aload_n 3, 1) := dk_45 (dk_at dksX0_complaint_3 0 rfl rfl)
theorem dX0_complaint_73 : decode cX0_complaint 73 = .ok (.getfield 513, 3) := dk_180 2 1 (dk_at dksX0_complaint_3 1 rfl rfl)
theorem dX0_complaint_76 : decode cX0_complaint 76 = .ok (.getfield 499, 3) := dk_180 1 243 (dk_at dksX0_complaint_3 4 rfl rfl)
theorem dX0_complaint_79 : decode cX0_complaint 79 = .ok (.ireturn, 1) := dk_172 (dk_at dksX0_complaint_3 7 rfl rfl)
theorem dX0_complaint_80 : decode cX0_complaint 80 = .ok (.aload_n 3, 1) := dk_45 (dk_at dksX0_complaint_3 8 rfl rfl)
theorem dX0_complaint_81 : decode cX0_complaint 81 = .ok (.getfield 514, 3) := dk_180 2 2 (dk_at dksX0_complaint_3 9 rfl rfl)
theorem dX0_complaint_84 : decode cX0_complaint 84 = .ok (.ireturn, 1) := dk_172 (dk_at dksX0_complaint_3 12 rfl rfl)
theorem dX0_complaint_85 : decode cX0_complaint 85 = .ok (.aload_n 3, 1) := dk_45 (dk_at dksX0_complaint_3 13 rfl rfl)
theorem dX0_complaint_86 : decode cX0_complaint 86 = .ok (.getfield 526, 3) := dk_180 2 14 (dk_at dksX0_complaint_3 14 rfl rfl)
theorem dX0_complaint_89 : decode cX0_complaint 89 = .ok (.ireturn, 1) := dk_172 (dk_at dksX0_complaint_3 17 rfl rfl)
theorem dX0_complaint_90 : decode cX0_complaint 90 = .ok (.aload_n 3, 1) := dk_45 (dk_at dksX0_complaint_3 18 rfl rfl)
theorem dX0_complaint_91 : decode cX0_complaint 91 = .ok (.getfield 517, 3) := dk_180 2 5 (dk_at dksX0_complaint_3 19 rfl rfl)
theorem dX0_complaint_94 : decode cX0_complaint 94 = .ok (.ireturn, 1) := dk_172 (dk_at dksX0_complaint_3 22 rfl rfl)
theorem dX0_complaint_95 : decode cX0_complaint 95 = .ok (.aload_n 3, 1) := dk_45 (dk_at dksX0_complaint_3 23 rfl rfl)
theorem dX0_complaint_96 : decode cX0_complaint 96 = .ok (.getfield 520, 3) := dk_180 2 8 (dk_at dksX0_complaint_4 0 rfl rfl)
theorem dX0_complaint_99 : decode cX0_complaint 99 = .ok (.ireturn, 1) := dk_172 (dk_at dksX0_complaint_4 3 rfl rfl)
theorem dX0_complaint_100 : decode cX0_complaint 100 = .ok (.aload_n 3, 1) := dk_45 (dk_at dksX0_complaint_4 4 rfl rfl)
theorem dX0_complaint_101 : decode cX0_complaint 101 = .ok (.getfield 510, 3) := dk_180 1 254 (dk_at dksX0_complaint_4 5 rfl rfl)
theorem dX0_complaint_104 : decode cX0_complaint 104 = .ok (.ifCond .eq 7, 3) := dk_153 0 7 (dk_at dksX0_complaint_4 8 rfl rfl)
theorem dX0_complaint_107 : decode cX0_complaint 107 = .ok (.iconst 1, 1) := dk_4 (dk_at dksX0_complaint_4 11 rfl rfl)
theorem dX0_complaint_108 : decode cX0_complaint 108 = .ok (.goto 4, 3) := dk_167 0 4 (dk_at dksX0_complaint_4 12 rfl rfl)
theorem dX0_complaint_111 : decode cX0_complaint 111 = .ok (.iconst 0, 1) := dk_3 (dk_at dksX0_complaint_4 15 rfl rfl)
theorem dX0_complaint_112 : decode cX0_complaint 112 = .ok (.ireturn, 1) := dk_172 (dk_at dksX0_complaint_4 16 rfl rfl)
theorem dX0_complaint_113 : decode cX0_complaint 113 = .ok (.iconst (-1), 1) := dk_2 (dk_at dksX0_complaint_4 17 rfl rfl)
theorem dX0_complaint_114 : decode cX0_complaint 114 = .ok (.ireturn, 1) := dk_172 (dk_at dksX0_complaint_4 18 rfl rfl)
def dkwX0_told_4 : List UInt8 := [45, 180, 1, 143, 172, 2, 172]
abbrev dktX0_told_4 : List UInt8 := dkwX0_told_4 ++ []
def dkwX0_told_3 : List UInt8 := [172, 45, 180, 0, 91, 199, 0, 7, 3, 167, 0, 4, 4, 172, 45, 180, 1, 132, 172, 45, 180, 1, 138, 172]
abbrev dktX0_told_3 : List UInt8 := dkwX0_told_3 ++ dktX0_told_4
def dkwX0_told_2 : List UInt8 := [45, 180, 2, 17, 172, 45, 180, 2, 18, 172, 45, 180, 0, 114, 172, 45, 180, 2, 21, 172, 45, 180, 0, 104]
abbrev dktX0_told_2 : List UInt8 := dkwX0_told_2 ++ dktX0_told_3
def dkwX0_told_1 : List UInt8 := [170, 0, 0, 0, 0, 0, 104, 0, 0, 0, 0, 0, 0, 0, 8, 0, 0, 0, 51, 0, 0, 0, 56, 0, 0, 0, 61, 0, 0, 0, 66, 0, 0, 0, 71, 0, 0, 0, 76, 0, 0, 0, 89, 0, 0, 0, 94, 0, 0, 0, 99]
abbrev dktX0_told_1 : List UInt8 := dkwX0_told_1 ++ dktX0_told_2
def dkwX0_told_0 : List UInt8 := [42, 27, 182, 0, 87, 78, 45, 199, 0, 5, 2, 172, 28]
abbrev dktX0_told_0 : List UInt8 := dkwX0_told_0 ++ dktX0_told_1
theorem dksX0_told_0 : cX0_told.data.toList.drop 0 = dktX0_told_0 := by decide +kernel
theorem dksX0_told_1 : cX0_told.data.toList.drop 13 = dktX0_told_1 := dk_seg dksX0_told_0 13 rfl rfl
theorem dksX0_told_2 : cX0_told.data.toList.drop 64 = dktX0_told_2 := dk_seg dksX0_told_1 51 rfl rfl
theorem dksX0_told_3 : cX0_told.data.toList.drop 88 = dktX0_told_3 := dk_seg dksX0_told_2 24 rfl rfl
theorem dksX0_told_4 : cX0_told.data.toList.drop 112 = dktX0_told_4 := dk_seg dksX0_told_3 24 rfl rfl
theorem dX0_told_0 : decode cX0_told 0 = .ok (.aload_n 0, 1) := dk_42 (dk_at dksX0_told_0 0 rfl rfl)
theorem dX0_told_1 : decode cX0_told 1 = .ok (.iload_n 1, 1) := dk_27 (dk_at dksX0_told_0 1 rfl rfl)
theorem dX0_told_2 : decode cX0_told 2 = .ok (.invokevirtual 87, 3) := dk_182 0 87 (dk_at dksX0_told_0 2 rfl rfl)
theorem dX0_told_5 : decode cX0_told 5 = .ok (.astore_n 3, 1) := dk_78 (dk_at dksX0_told_0 5 rfl rfl)
theorem dX0_told_6 : decode cX0_told 6 = .ok (.aload_n 3, 1) := dk_45 (dk_at dksX0_told_0 6 rfl rfl)
theorem dX0_told_7 : decode cX0_told 7 = .ok (.ifnonnull 5, 3) := dk_199 0 5 (dk_at dksX0_told_0 7 rfl rfl)
theorem dX0_told_10 : decode cX0_told 10 = .ok (.iconst (-1), 1) := dk_2 (dk_at dksX0_told_0 10 rfl rfl)
theorem dX0_told_11 : decode cX0_told 11 = .ok (.ireturn, 1) := dk_172 (dk_at dksX0_told_0 11 rfl rfl)
theorem dX0_told_12 : decode cX0_told 12 = .ok (.iload_n 2, 1) := dk_28 (dk_at dksX0_told_0 12 rfl rfl)
theorem dX0_told_13 : decode cX0_told 13 = .ok (.tableswitch 104 0 8 #[51, 56, 61, 66, 71, 76, 89, 94, 99], 51) := by decide +kernel
theorem dX0_told_64 : decode cX0_told 64 = .ok (.aload_n 3, 1) := dk_45 (dk_at dksX0_told_2 0 rfl rfl)
theorem dX0_told_65 : decode cX0_told 65 = .ok (.getfield 529, 3) := dk_180 2 17 (dk_at dksX0_told_2 1 rfl rfl)
theorem dX0_told_68 : decode cX0_told 68 = .ok (.ireturn, 1) := dk_172 (dk_at dksX0_told_2 4 rfl rfl)
theorem dX0_told_69 : decode cX0_told 69 = .ok (.aload_n 3, 1) := dk_45 (dk_at dksX0_told_2 5 rfl rfl)
theorem dX0_told_70 : decode cX0_told 70 = .ok (.getfield 530, 3) := dk_180 2 18 (dk_at dksX0_told_2 6 rfl rfl)
theorem dX0_told_73 : decode cX0_told 73 = .ok (.ireturn, 1) := dk_172 (dk_at dksX0_told_2 9 rfl rfl)
theorem dX0_told_74 : decode cX0_told 74 = .ok (.aload_n 3, 1) := dk_45 (dk_at dksX0_told_2 10 rfl rfl)
theorem dX0_told_75 : decode cX0_told 75 = .ok (.getfield 114, 3) := dk_180 0 114 (dk_at dksX0_told_2 11 rfl rfl)
theorem dX0_told_78 : decode cX0_told 78 = .ok (.ireturn, 1) := dk_172 (dk_at dksX0_told_2 14 rfl rfl)
theorem dX0_told_79 : decode cX0_told 79 = .ok (.aload_n 3, 1) := dk_45 (dk_at dksX0_told_2 15 rfl rfl)
theorem dX0_told_80 : decode cX0_told 80 = .ok (.getfield 533, 3) := dk_180 2 21 (dk_at dksX0_told_2 16 rfl rfl)
theorem dX0_told_83 : decode cX0_told 83 = .ok (.ireturn, 1) := dk_172 (dk_at dksX0_told_2 19 rfl rfl)
theorem dX0_told_84 : decode cX0_told 84 = .ok (.aload_n 3, 1) := dk_45 (dk_at dksX0_told_2 20 rfl rfl)
theorem dX0_told_85 : decode cX0_told 85 = .ok (.getfield 104, 3) := dk_180 0 104 (dk_at dksX0_told_2 21 rfl rfl)
theorem dX0_told_88 : decode cX0_told 88 = .ok (.ireturn, 1) := dk_172 (dk_at dksX0_told_3 0 rfl rfl)
theorem dX0_told_89 : decode cX0_told 89 = .ok (.aload_n 3, 1) := dk_45 (dk_at dksX0_told_3 1 rfl rfl)
theorem dX0_told_90 : decode cX0_told 90 = .ok (.getfield 91, 3) := dk_180 0 91 (dk_at dksX0_told_3 2 rfl rfl)
theorem dX0_told_93 : decode cX0_told 93 = .ok (.ifnonnull 7, 3) := dk_199 0 7 (dk_at dksX0_told_3 5 rfl rfl)
theorem dX0_told_96 : decode cX0_told 96 = .ok (.iconst 0, 1) := dk_3 (dk_at dksX0_told_3 8 rfl rfl)
theorem dX0_told_97 : decode cX0_told 97 = .ok (.goto 4, 3) := dk_167 0 4 (dk_at dksX0_told_3 9 rfl rfl)
theorem dX0_told_100 : decode cX0_told 100 = .ok (.iconst 1, 1) := dk_4 (dk_at dksX0_told_3 12 rfl rfl)
theorem dX0_told_101 : decode cX0_told 101 = .ok (.ireturn, 1) := dk_172 (dk_at dksX0_told_3 13 rfl rfl)
theorem dX0_told_102 : decode cX0_told 102 = .ok (.aload_n 3, 1) := dk_45 (dk_at dksX0_told_3 14 rfl rfl)
theorem dX0_told_103 : decode cX0_told 103 = .ok (.getfield 388, 3) := dk_180 1 132 (dk_at dksX0_told_3 15 rfl rfl)
theorem dX0_told_106 : decode cX0_told 106 = .ok (.ireturn, 1) := dk_172 (dk_at dksX0_told_3 18 rfl rfl)
theorem dX0_told_107 : decode cX0_told 107 = .ok (.aload_n 3, 1) := dk_45 (dk_at dksX0_told_3 19 rfl rfl)
theorem dX0_told_108 : decode cX0_told 108 = .ok (.getfield 394, 3) := dk_180 1 138 (dk_at dksX0_told_3 20 rfl rfl)
theorem dX0_told_111 : decode cX0_told 111 = .ok (.ireturn, 1) := dk_172 (dk_at dksX0_told_3 23 rfl rfl)
theorem dX0_told_112 : decode cX0_told 112 = .ok (.aload_n 3, 1) := dk_45 (dk_at dksX0_told_4 0 rfl rfl)
theorem dX0_told_113 : decode cX0_told 113 = .ok (.getfield 399, 3) := dk_180 1 143 (dk_at dksX0_told_4 1 rfl rfl)
theorem dX0_told_116 : decode cX0_told 116 = .ok (.ireturn, 1) := dk_172 (dk_at dksX0_told_4 4 rfl rfl)
theorem dX0_told_117 : decode cX0_told 117 = .ok (.iconst (-1), 1) := dk_2 (dk_at dksX0_told_4 5 rfl rfl)
theorem dX0_told_118 : decode cX0_told 118 = .ok (.ireturn, 1) := dk_172 (dk_at dksX0_told_4 6 rfl rfl)
def dkwX0_bedOf_8 : List UInt8 := [182, 0, 122, 180, 0, 250, 45, 180, 1, 244, 46, 104, 16, 100, 108, 172, 2, 172]
abbrev dktX0_bedOf_8 : List UInt8 := dkwX0_bedOf_8 ++ []
def dkwX0_bedOf_7 : List UInt8 := [180, 1, 244, 156, 0, 7, 2, 167, 0, 32, 42, 180, 0, 13, 45, 180, 1, 249, 46, 42, 42, 180, 0, 119]
abbrev dktX0_bedOf_7 : List UInt8 := dkwX0_bedOf_7 ++ dktX0_bedOf_8
def dkwX0_bedOf_6 : List UInt8 := [46, 42, 42, 180, 0, 119, 182, 0, 122, 180, 0, 247, 45, 180, 1, 244, 46, 104, 16, 100, 108, 172, 45]
abbrev dktX0_bedOf_6 : List UInt8 := dkwX0_bedOf_6 ++ dktX0_bedOf_7
def dkwX0_bedOf_5 : List UInt8 := [45, 180, 1, 244, 172, 45, 180, 1, 244, 156, 0, 7, 2, 167, 0, 32, 42, 180, 0, 13, 45, 180, 1, 249]
abbrev dktX0_bedOf_5 : List UInt8 := dkwX0_bedOf_5 ++ dktX0_bedOf_6
def dkwX0_bedOf_4 : List UInt8 := [153, 0, 7, 4, 167, 0, 4, 3, 172, 45, 180, 1, 145, 172, 45, 180, 1, 96, 172, 45, 182, 2, 31, 172]
abbrev dktX0_bedOf_4 : List UInt8 := dkwX0_bedOf_4 ++ dktX0_bedOf_5
def dkwX0_bedOf_3 : List UInt8 := [180, 2, 28, 172, 45, 180, 0, 143, 172, 45, 180, 0, 152, 172, 45, 180, 0, 159, 172, 45, 180, 0, 155]
abbrev dktX0_bedOf_3 : List UInt8 := dkwX0_bedOf_3 ++ dktX0_bedOf_4
def dkwX0_bedOf_2 : List UInt8 := [45, 180, 1, 249, 172, 45, 180, 2, 24, 172, 45, 180, 2, 25, 153, 0, 7, 4, 167, 0, 4, 3, 172, 45]
abbrev dktX0_bedOf_2 : List UInt8 := dkwX0_bedOf_2 ++ dktX0_bedOf_3
def dkwX0_bedOf_1 : List UInt8 := [170, 0, 0, 0, 0, 0, 229, 0, 0, 0, 0, 0, 0, 0, 13, 0, 0, 0, 71, 0, 0, 0, 76, 0, 0, 0, 81, 0, 0, 0, 94, 0, 0, 0, 99, 0, 0, 0, 104, 0, 0, 0, 109, 0, 0, 0, 114, 0, 0, 0, 127, 0, 0, 0, 132, 0, 0, 0, 137, 0, 0, 0, 142, 0, 0, 0, 147, 0, 0, 0, 188]
abbrev dktX0_bedOf_1 : List UInt8 := dkwX0_bedOf_1 ++ dktX0_bedOf_2
def dkwX0_bedOf_0 : List UInt8 := [42, 27, 182, 0, 132, 78, 45, 199, 0, 5, 2, 172, 28]
abbrev dktX0_bedOf_0 : List UInt8 := dkwX0_bedOf_0 ++ dktX0_bedOf_1
theorem dksX0_bedOf_0 : cX0_bedOf.data.toList.drop 0 = dktX0_bedOf_0 := by decide +kernel
theorem dksX0_bedOf_1 : cX0_bedOf.data.toList.drop 13 = dktX0_bedOf_1 := dk_seg dksX0_bedOf_0 13 rfl rfl
theorem dksX0_bedOf_2 : cX0_bedOf.data.toList.drop 84 = dktX0_bedOf_2 := dk_seg dksX0_bedOf_1 71 rfl rfl
theorem dksX0_bedOf_3 : cX0_bedOf.data.toList.drop 108 = dktX0_bedOf_3 := dk_seg dksX0_bedOf_2 24 rfl rfl
theorem dksX0_bedOf_4 : cX0_bedOf.data.toList.drop 131 = dktX0_bedOf_4 := dk_seg dksX0_bedOf_3 23 rfl rfl
theorem dksX0_bedOf_5 : cX0_bedOf.data.toList.drop 155 = dktX0_bedOf_5 := dk_seg dksX0_bedOf_4 24 rfl rfl
theorem dksX0_bedOf_6 : cX0_bedOf.data.toList.drop 179 = dktX0_bedOf_6 := dk_seg dksX0_bedOf_5 24 rfl rfl
theorem dksX0_bedOf_7 : cX0_bedOf.data.toList.drop 202 = dktX0_bedOf_7 := dk_seg dksX0_bedOf_6 23 rfl rfl
theorem dksX0_bedOf_8 : cX0_bedOf.data.toList.drop 226 = dktX0_bedOf_8 := dk_seg dksX0_bedOf_7 24 rfl rfl
theorem dX0_bedOf_0 : decode cX0_bedOf 0 = .ok (.aload_n 0, 1) := dk_42 (dk_at dksX0_bedOf_0 0 rfl rfl)
theorem dX0_bedOf_1 : decode cX0_bedOf 1 = .ok (.iload_n 1, 1) := dk_27 (dk_at dksX0_bedOf_0 1 rfl rfl)
theorem dX0_bedOf_2 : decode cX0_bedOf 2 = .ok (.invokevirtual 132, 3) := dk_182 0 132 (dk_at dksX0_bedOf_0 2 rfl rfl)
theorem dX0_bedOf_5 : decode cX0_bedOf 5 = .ok (.astore_n 3, 1) := dk_78 (dk_at dksX0_bedOf_0 5 rfl rfl)
theorem dX0_bedOf_6 : decode cX0_bedOf 6 = .ok (.aload_n 3, 1) := dk_45 (dk_at dksX0_bedOf_0 6 rfl rfl)
theorem dX0_bedOf_7 : decode cX0_bedOf 7 = .ok (.ifnonnull 5, 3) := dk_199 0 5 (dk_at dksX0_bedOf_0 7 rfl rfl)
theorem dX0_bedOf_10 : decode cX0_bedOf 10 = .ok (.iconst (-1), 1) := dk_2 (dk_at dksX0_bedOf_0 10 rfl rfl)
theorem dX0_bedOf_11 : decode cX0_bedOf 11 = .ok (.ireturn, 1) := dk_172 (dk_at dksX0_bedOf_0 11 rfl rfl)
theorem dX0_bedOf_12 : decode cX0_bedOf 12 = .ok (.iload_n 2, 1) := dk_28 (dk_at dksX0_bedOf_0 12 rfl rfl)
theorem dX0_bedOf_13 : decode cX0_bedOf 13 = .ok (.tableswitch 229 0 13 #[71, 76, 81, 94, 99, 104, 109, 114, 127, 132, 137, 142, 147, 188], 71) := by decide +kernel
theorem dX0_bedOf_84 : decode cX0_bedOf 84 = .ok (.aload_n 3, 1) := dk_45 (dk_at dksX0_bedOf_2 0 rfl rfl)
theorem dX0_bedOf_85 : decode cX0_bedOf 85 = .ok (.getfield 505, 3) := dk_180 1 249 (dk_at dksX0_bedOf_2 1 rfl rfl)
theorem dX0_bedOf_88 : decode cX0_bedOf 88 = .ok (.ireturn, 1) := dk_172 (dk_at dksX0_bedOf_2 4 rfl rfl)
theorem dX0_bedOf_89 : decode cX0_bedOf 89 = .ok (.aload_n 3, 1) := dk_45 (dk_at dksX0_bedOf_2 5 rfl rfl)
theorem dX0_bedOf_90 : decode cX0_bedOf 90 = .ok (.getfield 536, 3) := dk_180 2 24 (dk_at dksX0_bedOf_2 6 rfl rfl)
theorem dX0_bedOf_93 : decode cX0_bedOf 93 = .ok (.ireturn, 1) := dk_172 (dk_at dksX0_bedOf_2 9 rfl rfl)
theorem dX0_bedOf_94 : decode cX0_bedOf 94 = .ok (.aload_n 3, 1) := dk_45 (dk_at dksX0_bedOf_2 10 rfl rfl)
theorem dX0_bedOf_95 : decode cX0_bedOf 95 = .ok (.getfield 537, 3) := dk_180 2 25 (dk_at dksX0_bedOf_2 11 rfl rfl)
theorem dX0_bedOf_98 : decode cX0_bedOf 98 = .ok (.ifCond .eq 7, 3) := dk_153 0 7 (dk_at dksX0_bedOf_2 14 rfl rfl)
theorem dX0_bedOf_101 : decode cX0_bedOf 101 = .ok (.iconst 1, 1) := dk_4 (dk_at dksX0_bedOf_2 17 rfl rfl)
theorem dX0_bedOf_102 : decode cX0_bedOf 102 = .ok (.goto 4, 3) := dk_167 0 4 (dk_at dksX0_bedOf_2 18 rfl rfl)
theorem dX0_bedOf_105 : decode cX0_bedOf 105 = .ok (.iconst 0, 1) := dk_3 (dk_at dksX0_bedOf_2 21 rfl rfl)
theorem dX0_bedOf_106 : decode cX0_bedOf 106 = .ok (.ireturn, 1) := dk_172 (dk_at dksX0_bedOf_2 22 rfl rfl)
theorem dX0_bedOf_107 : decode cX0_bedOf 107 = .ok (.aload_n 3, 1) := dk_45 (dk_at dksX0_bedOf_2 23 rfl rfl)
theorem dX0_bedOf_108 : decode cX0_bedOf 108 = .ok (.getfield 540, 3) := dk_180 2 28 (dk_at dksX0_bedOf_3 0 rfl rfl)
theorem dX0_bedOf_111 : decode cX0_bedOf 111 = .ok (.ireturn, 1) := dk_172 (dk_at dksX0_bedOf_3 3 rfl rfl)
theorem dX0_bedOf_112 : decode cX0_bedOf 112 = .ok (.aload_n 3, 1) := dk_45 (dk_at dksX0_bedOf_3 4 rfl rfl)
theorem dX0_bedOf_113 : decode cX0_bedOf 113 = .ok (.getfield 143, 3) := dk_180 0 143 (dk_at dksX0_bedOf_3 5 rfl rfl)
theorem dX0_bedOf_116 : decode cX0_bedOf 116 = .ok (.ireturn, 1) := dk_172 (dk_at dksX0_bedOf_3 8 rfl rfl)
theorem dX0_bedOf_117 : decode cX0_bedOf 117 = .ok (.aload_n 3, 1) := dk_45 (dk_at dksX0_bedOf_3 9 rfl rfl)
theorem dX0_bedOf_118 : decode cX0_bedOf 118 = .ok (.getfield 152, 3) := dk_180 0 152 (dk_at dksX0_bedOf_3 10 rfl rfl)
theorem dX0_bedOf_121 : decode cX0_bedOf 121 = .ok (.ireturn, 1) := dk_172 (dk_at dksX0_bedOf_3 13 rfl rfl)
theorem dX0_bedOf_122 : decode cX0_bedOf 122 = .ok (.aload_n 3, 1) := dk_45 (dk_at dksX0_bedOf_3 14 rfl rfl)
theorem dX0_bedOf_123 : decode cX0_bedOf 123 = .ok (.getfield 159, 3) := dk_180 0 159 (dk_at dksX0_bedOf_3 15 rfl rfl)
theorem dX0_bedOf_126 : decode cX0_bedOf 126 = .ok (.ireturn, 1) := dk_172 (dk_at dksX0_bedOf_3 18 rfl rfl)
theorem dX0_bedOf_127 : decode cX0_bedOf 127 = .ok (.aload_n 3, 1) := dk_45 (dk_at dksX0_bedOf_3 19 rfl rfl)
theorem dX0_bedOf_128 : decode cX0_bedOf 128 = .ok (.getfield 155, 3) := dk_180 0 155 (dk_at dksX0_bedOf_3 20 rfl rfl)
theorem dX0_bedOf_131 : decode cX0_bedOf 131 = .ok (.ifCond .eq 7, 3) := dk_153 0 7 (dk_at dksX0_bedOf_4 0 rfl rfl)
theorem dX0_bedOf_134 : decode cX0_bedOf 134 = .ok (.iconst 1, 1) := dk_4 (dk_at dksX0_bedOf_4 3 rfl rfl)
theorem dX0_bedOf_135 : decode cX0_bedOf 135 = .ok (.goto 4, 3) := dk_167 0 4 (dk_at dksX0_bedOf_4 4 rfl rfl)
theorem dX0_bedOf_138 : decode cX0_bedOf 138 = .ok (.iconst 0, 1) := dk_3 (dk_at dksX0_bedOf_4 7 rfl rfl)
theorem dX0_bedOf_139 : decode cX0_bedOf 139 = .ok (.ireturn, 1) := dk_172 (dk_at dksX0_bedOf_4 8 rfl rfl)
theorem dX0_bedOf_140 : decode cX0_bedOf 140 = .ok (.aload_n 3, 1) := dk_45 (dk_at dksX0_bedOf_4 9 rfl rfl)
theorem dX0_bedOf_141 : decode cX0_bedOf 141 = .ok (.getfield 401, 3) := dk_180 1 145 (dk_at dksX0_bedOf_4 10 rfl rfl)
theorem dX0_bedOf_144 : decode cX0_bedOf 144 = .ok (.ireturn, 1) := dk_172 (dk_at dksX0_bedOf_4 13 rfl rfl)
theorem dX0_bedOf_145 : decode cX0_bedOf 145 = .ok (.aload_n 3, 1) := dk_45 (dk_at dksX0_bedOf_4 14 rfl rfl)
theorem dX0_bedOf_146 : decode cX0_bedOf 146 = .ok (.getfield 352, 3) := dk_180 1 96 (dk_at dksX0_bedOf_4 15 rfl rfl)
theorem dX0_bedOf_149 : decode cX0_bedOf 149 = .ok (.ireturn, 1) := dk_172 (dk_at dksX0_bedOf_4 18 rfl rfl)
theorem dX0_bedOf_150 : decode cX0_bedOf 150 = .ok (.aload_n 3, 1) := dk_45 (dk_at dksX0_bedOf_4 19 rfl rfl)
theorem dX0_bedOf_151 : decode cX0_bedOf 151 = .ok (.invokevirtual 543, 3) := dk_182 2 31 (dk_at dksX0_bedOf_4 20 rfl rfl)
theorem dX0_bedOf_154 : decode cX0_bedOf 154 = .ok (.ireturn, 1) := dk_172 (dk_at dksX0_bedOf_4 23 rfl rfl)
theorem dX0_bedOf_155 : decode cX0_bedOf 155 = .ok (.aload_n 3, 1) := dk_45 (dk_at dksX0_bedOf_5 0 rfl rfl)
theorem dX0_bedOf_156 : decode cX0_bedOf 156 = .ok (.getfield 500, 3) := dk_180 1 244 (dk_at dksX0_bedOf_5 1 rfl rfl)
theorem dX0_bedOf_159 : decode cX0_bedOf 159 = .ok (.ireturn, 1) := dk_172 (dk_at dksX0_bedOf_5 4 rfl rfl)
theorem dX0_bedOf_160 : decode cX0_bedOf 160 = .ok (.aload_n 3, 1) := dk_45 (dk_at dksX0_bedOf_5 5 rfl rfl)
theorem dX0_bedOf_161 : decode cX0_bedOf 161 = .ok (.getfield 500, 3) := dk_180 1 244 (dk_at dksX0_bedOf_5 6 rfl rfl)
theorem dX0_bedOf_164 : decode cX0_bedOf 164 = .ok (.ifCond .ge 7, 3) := dk_156 0 7 (dk_at dksX0_bedOf_5 9 rfl rfl)
theorem dX0_bedOf_167 : decode cX0_bedOf 167 = .ok (.iconst (-1), 1) := dk_2 (dk_at dksX0_bedOf_5 12 rfl rfl)
theorem dX0_bedOf_168 : decode cX0_bedOf 168 = .ok (.goto 32, 3) := dk_167 0 32 (dk_at dksX0_bedOf_5 13 rfl rfl)
theorem dX0_bedOf_171 : decode cX0_bedOf 171 = .ok (.aload_n 0, 1) := dk_42 (dk_at dksX0_bedOf_5 16 rfl rfl)
theorem dX0_bedOf_172 : decode cX0_bedOf 172 = .ok (.getfield 13, 3) := dk_180 0 13 (dk_at dksX0_bedOf_5 17 rfl rfl)
theorem dX0_bedOf_175 : decode cX0_bedOf 175 = .ok (.aload_n 3, 1) := dk_45 (dk_at dksX0_bedOf_5 20 rfl rfl)
theorem dX0_bedOf_176 : decode cX0_bedOf 176 = .ok (.getfield 505, 3) := dk_180 1 249 (dk_at dksX0_bedOf_5 21 rfl rfl)
theorem dX0_bedOf_179 : decode cX0_bedOf 179 = .ok (.iaload, 1) := dk_46 (dk_at dksX0_bedOf_6 0 rfl rfl)
theorem dX0_bedOf_180 : decode cX0_bedOf 180 = .ok (.aload_n 0, 1) := dk_42 (dk_at dksX0_bedOf_6 1 rfl rfl)
theorem dX0_bedOf_181 : decode cX0_bedOf 181 = .ok (.aload_n 0, 1) := dk_42 (dk_at dksX0_bedOf_6 2 rfl rfl)
theorem dX0_bedOf_182 : decode cX0_bedOf 182 = .ok (.getfield 119, 3) := dk_180 0 119 (dk_at dksX0_bedOf_6 3 rfl rfl)
theorem dX0_bedOf_185 : decode cX0_bedOf 185 = .ok (.invokevirtual 122, 3) := dk_182 0 122 (dk_at dksX0_bedOf_6 6 rfl rfl)
theorem dX0_bedOf_188 : decode cX0_bedOf 188 = .ok (.getfield 247, 3) := dk_180 0 247 (dk_at dksX0_bedOf_6 9 rfl rfl)
theorem dX0_bedOf_191 : decode cX0_bedOf 191 = .ok (.aload_n 3, 1) := dk_45 (dk_at dksX0_bedOf_6 12 rfl rfl)
theorem dX0_bedOf_192 : decode cX0_bedOf 192 = .ok (.getfield 500, 3) := dk_180 1 244 (dk_at dksX0_bedOf_6 13 rfl rfl)
theorem dX0_bedOf_195 : decode cX0_bedOf 195 = .ok (.iaload, 1) := dk_46 (dk_at dksX0_bedOf_6 16 rfl rfl)
theorem dX0_bedOf_196 : decode cX0_bedOf 196 = .ok (.imul, 1) := dk_104 (dk_at dksX0_bedOf_6 17 rfl rfl)
theorem dX0_bedOf_197 : decode cX0_bedOf 197 = .ok (.bipush 100, 2) := dk_16 100 (dk_at dksX0_bedOf_6 18 rfl rfl)
theorem dX0_bedOf_199 : decode cX0_bedOf 199 = .ok (.idiv, 1) := dk_108 (dk_at dksX0_bedOf_6 20 rfl rfl)
theorem dX0_bedOf_200 : decode cX0_bedOf 200 = .ok (.ireturn, 1) := dk_172 (dk_at dksX0_bedOf_6 21 rfl rfl)
theorem dX0_bedOf_201 : decode cX0_bedOf 201 = .ok (.aload_n 3, 1) := dk_45 (dk_at dksX0_bedOf_6 22 rfl rfl)
theorem dX0_bedOf_202 : decode cX0_bedOf 202 = .ok (.getfield 500, 3) := dk_180 1 244 (dk_at dksX0_bedOf_7 0 rfl rfl)
theorem dX0_bedOf_205 : decode cX0_bedOf 205 = .ok (.ifCond .ge 7, 3) := dk_156 0 7 (dk_at dksX0_bedOf_7 3 rfl rfl)
theorem dX0_bedOf_208 : decode cX0_bedOf 208 = .ok (.iconst (-1), 1) := dk_2 (dk_at dksX0_bedOf_7 6 rfl rfl)
theorem dX0_bedOf_209 : decode cX0_bedOf 209 = .ok (.goto 32, 3) := dk_167 0 32 (dk_at dksX0_bedOf_7 7 rfl rfl)
theorem dX0_bedOf_212 : decode cX0_bedOf 212 = .ok (.aload_n 0, 1) := dk_42 (dk_at dksX0_bedOf_7 10 rfl rfl)
theorem dX0_bedOf_213 : decode cX0_bedOf 213 = .ok (.getfield 13, 3) := dk_180 0 13 (dk_at dksX0_bedOf_7 11 rfl rfl)
theorem dX0_bedOf_216 : decode cX0_bedOf 216 = .ok (.aload_n 3, 1) := dk_45 (dk_at dksX0_bedOf_7 14 rfl rfl)
theorem dX0_bedOf_217 : decode cX0_bedOf 217 = .ok (.getfield 505, 3) := dk_180 1 249 (dk_at dksX0_bedOf_7 15 rfl rfl)
theorem dX0_bedOf_220 : decode cX0_bedOf 220 = .ok (.iaload, 1) := dk_46 (dk_at dksX0_bedOf_7 18 rfl rfl)
theorem dX0_bedOf_221 : decode cX0_bedOf 221 = .ok (.aload_n 0, 1) := dk_42 (dk_at dksX0_bedOf_7 19 rfl rfl)
theorem dX0_bedOf_222 : decode cX0_bedOf 222 = .ok (.aload_n 0, 1) := dk_42 (dk_at dksX0_bedOf_7 20 rfl rfl)
theorem dX0_bedOf_223 : decode cX0_bedOf 223 = .ok (.getfield 119, 3) := dk_180 0 119 (dk_at dksX0_bedOf_7 21 rfl rfl)
theorem dX0_bedOf_226 : decode cX0_bedOf 226 = .ok (.invokevirtual 122, 3) := dk_182 0 122 (dk_at dksX0_bedOf_8 0 rfl rfl)
theorem dX0_bedOf_229 : decode cX0_bedOf 229 = .ok (.getfield 250, 3) := dk_180 0 250 (dk_at dksX0_bedOf_8 3 rfl rfl)
theorem dX0_bedOf_232 : decode cX0_bedOf 232 = .ok (.aload_n 3, 1) := dk_45 (dk_at dksX0_bedOf_8 6 rfl rfl)
theorem dX0_bedOf_233 : decode cX0_bedOf 233 = .ok (.getfield 500, 3) := dk_180 1 244 (dk_at dksX0_bedOf_8 7 rfl rfl)
theorem dX0_bedOf_236 : decode cX0_bedOf 236 = .ok (.iaload, 1) := dk_46 (dk_at dksX0_bedOf_8 10 rfl rfl)
theorem dX0_bedOf_237 : decode cX0_bedOf 237 = .ok (.imul, 1) := dk_104 (dk_at dksX0_bedOf_8 11 rfl rfl)
theorem dX0_bedOf_238 : decode cX0_bedOf 238 = .ok (.bipush 100, 2) := dk_16 100 (dk_at dksX0_bedOf_8 12 rfl rfl)
theorem dX0_bedOf_240 : decode cX0_bedOf 240 = .ok (.idiv, 1) := dk_108 (dk_at dksX0_bedOf_8 14 rfl rfl)
theorem dX0_bedOf_241 : decode cX0_bedOf 241 = .ok (.ireturn, 1) := dk_172 (dk_at dksX0_bedOf_8 15 rfl rfl)
theorem dX0_bedOf_242 : decode cX0_bedOf 242 = .ok (.iconst (-1), 1) := dk_2 (dk_at dksX0_bedOf_8 16 rfl rfl)
theorem dX0_bedOf_243 : decode cX0_bedOf 243 = .ok (.ireturn, 1) := dk_172 (dk_at dksX0_bedOf_8 17 rfl rfl)
def dkwX0_sum_7 : List UInt8 := [180, 1, 115, 173, 22, 4, 173, 20, 1, 182, 173]
abbrev dktX0_sum_7 : List UInt8 := dkwX0_sum_7 ++ []
def dkwX0_sum_6 : List UInt8 := [42, 180, 1, 152, 173, 42, 180, 1, 89, 173, 42, 180, 1, 160, 173, 42, 180, 1, 165, 173, 32, 173, 42]
abbrev dktX0_sum_6 : List UInt8 := dkwX0_sum_6 ++ dktX0_sum_7
def dkwX0_sum_5 : List UInt8 := [170, 0, 0, 0, 0, 0, 73, 0, 0, 0, 0, 0, 0, 0, 6, 0, 0, 0, 43, 0, 0, 0, 48, 0, 0, 0, 53, 0, 0, 0, 58, 0, 0, 0, 63, 0, 0, 0, 65, 0, 0, 0, 70]
abbrev dktX0_sum_5 : List UInt8 := dkwX0_sum_5 ++ dktX0_sum_6
def dkwX0_sum_4 : List UInt8 := [21, 6, 182, 0, 81, 192, 0, 95, 180, 1, 112, 133, 97, 55, 4, 132, 6, 1, 167, 255, 220, 27]
abbrev dktX0_sum_4 : List UInt8 := dkwX0_sum_4 ++ dktX0_sum_5
def dkwX0_sum_3 : List UInt8 := [167, 255, 197, 3, 54, 6, 21, 6, 42, 180, 0, 24, 182, 0, 77, 162, 0, 30, 22, 4, 42, 180, 0, 24]
abbrev dktX0_sum_3 : List UInt8 := dkwX0_sum_3 ++ dktX0_sum_4
def dkwX0_sum_2 : List UInt8 := [180, 0, 20, 21, 6, 182, 0, 81, 192, 0, 85, 180, 0, 91, 180, 1, 145, 133, 97, 65, 132, 6, 1]
abbrev dktX0_sum_2 : List UInt8 := dkwX0_sum_2 ++ dktX0_sum_3
def dkwX0_sum_1 : List UInt8 := [180, 0, 20, 21, 6, 182, 0, 81, 192, 0, 85, 180, 0, 91, 199, 0, 7, 9, 167, 0, 22, 42]
abbrev dktX0_sum_1 : List UInt8 := dkwX0_sum_1 ++ dktX0_sum_2
def dkwX0_sum_0 : List UInt8 := [9, 65, 9, 55, 4, 3, 54, 6, 21, 6, 42, 180, 0, 20, 182, 0, 77, 162, 0, 53, 32, 42]
abbrev dktX0_sum_0 : List UInt8 := dkwX0_sum_0 ++ dktX0_sum_1
theorem dksX0_sum_0 : cX0_sum.data.toList.drop 0 = dktX0_sum_0 := by decide +kernel
theorem dksX0_sum_1 : cX0_sum.data.toList.drop 22 = dktX0_sum_1 := dk_seg dksX0_sum_0 22 rfl rfl
theorem dksX0_sum_2 : cX0_sum.data.toList.drop 44 = dktX0_sum_2 := dk_seg dksX0_sum_1 22 rfl rfl
theorem dksX0_sum_3 : cX0_sum.data.toList.drop 67 = dktX0_sum_3 := dk_seg dksX0_sum_2 23 rfl rfl
theorem dksX0_sum_4 : cX0_sum.data.toList.drop 91 = dktX0_sum_4 := dk_seg dksX0_sum_3 24 rfl rfl
theorem dksX0_sum_5 : cX0_sum.data.toList.drop 113 = dktX0_sum_5 := dk_seg dksX0_sum_4 22 rfl rfl
theorem dksX0_sum_6 : cX0_sum.data.toList.drop 156 = dktX0_sum_6 := dk_seg dksX0_sum_5 43 rfl rfl
theorem dksX0_sum_7 : cX0_sum.data.toList.drop 179 = dktX0_sum_7 := dk_seg dksX0_sum_6 23 rfl rfl
theorem dX0_sum_0 : decode cX0_sum 0 = .ok (.lconst 0, 1) := dk_9 (dk_at dksX0_sum_0 0 rfl rfl)
theorem dX0_sum_1 : decode cX0_sum 1 = .ok (.lstore_n 2, 1) := dk_65 (dk_at dksX0_sum_0 1 rfl rfl)
theorem dX0_sum_2 : decode cX0_sum 2 = .ok (.lconst 0, 1) := dk_9 (dk_at dksX0_sum_0 2 rfl rfl)
theorem dX0_sum_3 : decode cX0_sum 3 = .ok (.lstore 4, 2) := dk_55 4 (dk_at dksX0_sum_0 3 rfl rfl)
theorem dX0_sum_5 : decode cX0_sum 5 = .ok (.iconst 0, 1) := dk_3 (dk_at dksX0_sum_0 5 rfl rfl)
theorem dX0_sum_6 : decode cX0_sum 6 = .ok (.istore 6, 2) := dk_54 6 (dk_at dksX0_sum_0 6 rfl rfl)
theorem dX0_sum_8 : decode cX0_sum 8 = .ok (.iload 6, 2) := dk_21 6 (dk_at dksX0_sum_0 8 rfl rfl)
theorem dX0_sum_10 : decode cX0_sum 10 = .ok (.aload_n 0, 1) := dk_42 (dk_at dksX0_sum_0 10 rfl rfl)
theorem dX0_sum_11 : decode cX0_sum 11 = .ok (.getfield 20, 3) := dk_180 0 20 (dk_at dksX0_sum_0 11 rfl rfl)
theorem dX0_sum_14 : decode cX0_sum 14 = .ok (.invokevirtual 77, 3) := dk_182 0 77 (dk_at dksX0_sum_0 14 rfl rfl)
theorem dX0_sum_17 : decode cX0_sum 17 = .ok (.if_icmp .ge 53, 3) := dk_162 0 53 (dk_at dksX0_sum_0 17 rfl rfl)
theorem dX0_sum_20 : decode cX0_sum 20 = .ok (.lload_n 2, 1) := dk_32 (dk_at dksX0_sum_0 20 rfl rfl)
theorem dX0_sum_21 : decode cX0_sum 21 = .ok (.aload_n 0, 1) := dk_42 (dk_at dksX0_sum_0 21 rfl rfl)
theorem dX0_sum_22 : decode cX0_sum 22 = .ok (.getfield 20, 3) := dk_180 0 20 (dk_at dksX0_sum_1 0 rfl rfl)
theorem dX0_sum_25 : decode cX0_sum 25 = .ok (.iload 6, 2) := dk_21 6 (dk_at dksX0_sum_1 3 rfl rfl)
theorem dX0_sum_27 : decode cX0_sum 27 = .ok (.invokevirtual 81, 3) := dk_182 0 81 (dk_at dksX0_sum_1 5 rfl rfl)
theorem dX0_sum_30 : decode cX0_sum 30 = .ok (.checkcast 85, 3) := dk_192 0 85 (dk_at dksX0_sum_1 8 rfl rfl)
theorem dX0_sum_33 : decode cX0_sum 33 = .ok (.getfield 91, 3) := dk_180 0 91 (dk_at dksX0_sum_1 11 rfl rfl)
theorem dX0_sum_36 : decode cX0_sum 36 = .ok (.ifnonnull 7, 3) := dk_199 0 7 (dk_at dksX0_sum_1 14 rfl rfl)
theorem dX0_sum_39 : decode cX0_sum 39 = .ok (.lconst 0, 1) := dk_9 (dk_at dksX0_sum_1 17 rfl rfl)
theorem dX0_sum_40 : decode cX0_sum 40 = .ok (.goto 22, 3) := dk_167 0 22 (dk_at dksX0_sum_1 18 rfl rfl)
theorem dX0_sum_43 : decode cX0_sum 43 = .ok (.aload_n 0, 1) := dk_42 (dk_at dksX0_sum_1 21 rfl rfl)
theorem dX0_sum_44 : decode cX0_sum 44 = .ok (.getfield 20, 3) := dk_180 0 20 (dk_at dksX0_sum_2 0 rfl rfl)
theorem dX0_sum_47 : decode cX0_sum 47 = .ok (.iload 6, 2) := dk_21 6 (dk_at dksX0_sum_2 3 rfl rfl)
theorem dX0_sum_49 : decode cX0_sum 49 = .ok (.invokevirtual 81, 3) := dk_182 0 81 (dk_at dksX0_sum_2 5 rfl rfl)
theorem dX0_sum_52 : decode cX0_sum 52 = .ok (.checkcast 85, 3) := dk_192 0 85 (dk_at dksX0_sum_2 8 rfl rfl)
theorem dX0_sum_55 : decode cX0_sum 55 = .ok (.getfield 91, 3) := dk_180 0 91 (dk_at dksX0_sum_2 11 rfl rfl)
theorem dX0_sum_58 : decode cX0_sum 58 = .ok (.getfield 401, 3) := dk_180 1 145 (dk_at dksX0_sum_2 14 rfl rfl)
theorem dX0_sum_61 : decode cX0_sum 61 = .ok (.i2l, 1) := dk_133 (dk_at dksX0_sum_2 17 rfl rfl)
theorem dX0_sum_62 : decode cX0_sum 62 = .ok (.ladd, 1) := dk_97 (dk_at dksX0_sum_2 18 rfl rfl)
theorem dX0_sum_63 : decode cX0_sum 63 = .ok (.lstore_n 2, 1) := dk_65 (dk_at dksX0_sum_2 19 rfl rfl)
theorem dX0_sum_64 : decode cX0_sum 64 = .ok (.iinc 6 1, 3) := dk_132 6 1 (dk_at dksX0_sum_2 20 rfl rfl)
theorem dX0_sum_67 : decode cX0_sum 67 = .ok (.goto (-59), 3) := dk_167 255 197 (dk_at dksX0_sum_3 0 rfl rfl)
theorem dX0_sum_70 : decode cX0_sum 70 = .ok (.iconst 0, 1) := dk_3 (dk_at dksX0_sum_3 3 rfl rfl)
theorem dX0_sum_71 : decode cX0_sum 71 = .ok (.istore 6, 2) := dk_54 6 (dk_at dksX0_sum_3 4 rfl rfl)
theorem dX0_sum_73 : decode cX0_sum 73 = .ok (.iload 6, 2) := dk_21 6 (dk_at dksX0_sum_3 6 rfl rfl)
theorem dX0_sum_75 : decode cX0_sum 75 = .ok (.aload_n 0, 1) := dk_42 (dk_at dksX0_sum_3 8 rfl rfl)
theorem dX0_sum_76 : decode cX0_sum 76 = .ok (.getfield 24, 3) := dk_180 0 24 (dk_at dksX0_sum_3 9 rfl rfl)
theorem dX0_sum_79 : decode cX0_sum 79 = .ok (.invokevirtual 77, 3) := dk_182 0 77 (dk_at dksX0_sum_3 12 rfl rfl)
theorem dX0_sum_82 : decode cX0_sum 82 = .ok (.if_icmp .ge 30, 3) := dk_162 0 30 (dk_at dksX0_sum_3 15 rfl rfl)
theorem dX0_sum_85 : decode cX0_sum 85 = .ok (.lload 4, 2) := dk_22 4 (dk_at dksX0_sum_3 18 rfl rfl)
theorem dX0_sum_87 : decode cX0_sum 87 = .ok (.aload_n 0, 1) := dk_42 (dk_at dksX0_sum_3 20 rfl rfl)
theorem dX0_sum_88 : decode cX0_sum 88 = .ok (.getfield 24, 3) := dk_180 0 24 (dk_at dksX0_sum_3 21 rfl rfl)
theorem dX0_sum_91 : decode cX0_sum 91 = .ok (.iload 6, 2) := dk_21 6 (dk_at dksX0_sum_4 0 rfl rfl)
theorem dX0_sum_93 : decode cX0_sum 93 = .ok (.invokevirtual 81, 3) := dk_182 0 81 (dk_at dksX0_sum_4 2 rfl rfl)
theorem dX0_sum_96 : decode cX0_sum 96 = .ok (.checkcast 95, 3) := dk_192 0 95 (dk_at dksX0_sum_4 5 rfl rfl)
theorem dX0_sum_99 : decode cX0_sum 99 = .ok (.getfield 368, 3) := dk_180 1 112 (dk_at dksX0_sum_4 8 rfl rfl)
theorem dX0_sum_102 : decode cX0_sum 102 = .ok (.i2l, 1) := dk_133 (dk_at dksX0_sum_4 11 rfl rfl)
theorem dX0_sum_103 : decode cX0_sum 103 = .ok (.ladd, 1) := dk_97 (dk_at dksX0_sum_4 12 rfl rfl)
theorem dX0_sum_104 : decode cX0_sum 104 = .ok (.lstore 4, 2) := dk_55 4 (dk_at dksX0_sum_4 13 rfl rfl)
theorem dX0_sum_106 : decode cX0_sum 106 = .ok (.iinc 6 1, 3) := dk_132 6 1 (dk_at dksX0_sum_4 15 rfl rfl)
theorem dX0_sum_109 : decode cX0_sum 109 = .ok (.goto (-36), 3) := dk_167 255 220 (dk_at dksX0_sum_4 18 rfl rfl)
theorem dX0_sum_112 : decode cX0_sum 112 = .ok (.iload_n 1, 1) := dk_27 (dk_at dksX0_sum_4 21 rfl rfl)
theorem dX0_sum_113 : decode cX0_sum 113 = .ok (.tableswitch 73 0 6 #[43, 48, 53, 58, 63, 65, 70], 43) := by decide +kernel
theorem dX0_sum_156 : decode cX0_sum 156 = .ok (.aload_n 0, 1) := dk_42 (dk_at dksX0_sum_6 0 rfl rfl)
theorem dX0_sum_157 : decode cX0_sum 157 = .ok (.getfield 408, 3) := dk_180 1 152 (dk_at dksX0_sum_6 1 rfl rfl)
theorem dX0_sum_160 : decode cX0_sum 160 = .ok (.lreturn, 1) := dk_173 (dk_at dksX0_sum_6 4 rfl rfl)
theorem dX0_sum_161 : decode cX0_sum 161 = .ok (.aload_n 0, 1) := dk_42 (dk_at dksX0_sum_6 5 rfl rfl)
theorem dX0_sum_162 : decode cX0_sum 162 = .ok (.getfield 345, 3) := dk_180 1 89 (dk_at dksX0_sum_6 6 rfl rfl)
theorem dX0_sum_165 : decode cX0_sum 165 = .ok (.lreturn, 1) := dk_173 (dk_at dksX0_sum_6 9 rfl rfl)
theorem dX0_sum_166 : decode cX0_sum 166 = .ok (.aload_n 0, 1) := dk_42 (dk_at dksX0_sum_6 10 rfl rfl)
theorem dX0_sum_167 : decode cX0_sum 167 = .ok (.getfield 416, 3) := dk_180 1 160 (dk_at dksX0_sum_6 11 rfl rfl)
theorem dX0_sum_170 : decode cX0_sum 170 = .ok (.lreturn, 1) := dk_173 (dk_at dksX0_sum_6 14 rfl rfl)
theorem dX0_sum_171 : decode cX0_sum 171 = .ok (.aload_n 0, 1) := dk_42 (dk_at dksX0_sum_6 15 rfl rfl)
theorem dX0_sum_172 : decode cX0_sum 172 = .ok (.getfield 421, 3) := dk_180 1 165 (dk_at dksX0_sum_6 16 rfl rfl)
theorem dX0_sum_175 : decode cX0_sum 175 = .ok (.lreturn, 1) := dk_173 (dk_at dksX0_sum_6 19 rfl rfl)
theorem dX0_sum_176 : decode cX0_sum 176 = .ok (.lload_n 2, 1) := dk_32 (dk_at dksX0_sum_6 20 rfl rfl)
theorem dX0_sum_177 : decode cX0_sum 177 = .ok (.lreturn, 1) := dk_173 (dk_at dksX0_sum_6 21 rfl rfl)
theorem dX0_sum_178 : decode cX0_sum 178 = .ok (.aload_n 0, 1) := dk_42 (dk_at dksX0_sum_6 22 rfl rfl)
theorem dX0_sum_179 : decode cX0_sum 179 = .ok (.getfield 371, 3) := dk_180 1 115 (dk_at dksX0_sum_7 0 rfl rfl)
theorem dX0_sum_182 : decode cX0_sum 182 = .ok (.lreturn, 1) := dk_173 (dk_at dksX0_sum_7 3 rfl rfl)
theorem dX0_sum_183 : decode cX0_sum 183 = .ok (.lload 4, 2) := dk_22 4 (dk_at dksX0_sum_7 4 rfl rfl)
theorem dX0_sum_185 : decode cX0_sum 185 = .ok (.lreturn, 1) := dk_173 (dk_at dksX0_sum_7 6 rfl rfl)
theorem dX0_sum_186 : decode cX0_sum 186 = .ok (.ldc2_w 438, 3) := dk_20 1 182 (dk_at dksX0_sum_7 7 rfl rfl)
theorem dX0_sum_189 : decode cX0_sum 189 = .ok (.lreturn, 1) := dk_173 (dk_at dksX0_sum_7 10 rfl rfl)
def dkwX0_count_5 : List UInt8 := [172, 42, 4, 182, 2, 34, 172, 42, 180, 0, 172, 172, 2, 172]
abbrev dktX0_count_5 : List UInt8 := dkwX0_count_5 ++ []
def dkwX0_count_4 : List UInt8 := [180, 0, 27, 182, 0, 77, 172, 42, 180, 1, 246, 172, 42, 180, 0, 74, 182, 0, 77, 172, 42, 182, 2, 38]
abbrev dktX0_count_4 : List UInt8 := dkwX0_count_4 ++ dktX0_count_5
def dkwX0_count_3 : List UInt8 := [182, 2, 34, 172, 42, 182, 0, 117, 172, 42, 180, 1, 123, 172, 42, 180, 0, 71, 182, 0, 77, 172, 42]
abbrev dktX0_count_3 : List UInt8 := dkwX0_count_3 ++ dktX0_count_4
def dkwX0_count_2 : List UInt8 := [42, 180, 0, 119, 172, 42, 180, 0, 20, 182, 0, 77, 172, 42, 180, 0, 24, 182, 0, 77, 172, 42, 3]
abbrev dktX0_count_2 : List UInt8 := dkwX0_count_2 ++ dktX0_count_3
def dkwX0_count_1 : List UInt8 := [170, 0, 0, 0, 0, 0, 149, 0, 0, 0, 0, 0, 0, 0, 12, 0, 0, 0, 67, 0, 0, 0, 72, 0, 0, 0, 80, 0, 0, 0, 88, 0, 0, 0, 94, 0, 0, 0, 99, 0, 0, 0, 104, 0, 0, 0, 112, 0, 0, 0, 120, 0, 0, 0, 125, 0, 0, 0, 133, 0, 0, 0, 138, 0, 0, 0, 144]
abbrev dktX0_count_1 : List UInt8 := dkwX0_count_1 ++ dktX0_count_2
def dkwX0_count_0 : List UInt8 := [27]
abbrev dktX0_count_0 : List UInt8 := dkwX0_count_0 ++ dktX0_count_1
theorem dksX0_count_0 : cX0_count.data.toList.drop 0 = dktX0_count_0 := by decide +kernel
theorem dksX0_count_1 : cX0_count.data.toList.drop 1 = dktX0_count_1 := dk_seg dksX0_count_0 1 rfl rfl
theorem dksX0_count_2 : cX0_count.data.toList.drop 68 = dktX0_count_2 := dk_seg dksX0_count_1 67 rfl rfl
theorem dksX0_count_3 : cX0_count.data.toList.drop 91 = dktX0_count_3 := dk_seg dksX0_count_2 23 rfl rfl
theorem dksX0_count_4 : cX0_count.data.toList.drop 114 = dktX0_count_4 := dk_seg dksX0_count_3 23 rfl rfl
theorem dksX0_count_5 : cX0_count.data.toList.drop 138 = dktX0_count_5 := dk_seg dksX0_count_4 24 rfl rfl
theorem dX0_count_0 : decode cX0_count 0 = .ok (.iload_n 1, 1) := dk_27 (dk_at dksX0_count_0 0 rfl rfl)
theorem dX0_count_1 : decode cX0_count 1 = .ok (.tableswitch 149 0 12 #[67, 72, 80, 88, 94, 99, 104, 112, 120, 125, 133, 138, 144], 67) := by decide +kernel
theorem dX0_count_68 : decode cX0_count 68 = .ok (.aload_n 0, 1) := dk_42 (dk_at dksX0_count_2 0 rfl rfl)
theorem dX0_count_69 : decode cX0_count 69 = .ok (.getfield 119, 3) := dk_180 0 119 (dk_at dksX0_count_2 1 rfl rfl)
theorem dX0_count_72 : decode cX0_count 72 = .ok (.ireturn, 1) := dk_172 (dk_at dksX0_count_2 4 rfl rfl)
theorem dX0_count_73 : decode cX0_count 73 = .ok (.aload_n 0, 1) := dk_42 (dk_at dksX0_count_2 5 rfl rfl)
theorem dX0_count_74 : decode cX0_count 74 = .ok (.getfield 20, 3) := dk_180 0 20 (dk_at dksX0_count_2 6 rfl rfl)
theorem dX0_count_77 : decode cX0_count 77 = .ok (.invokevirtual 77, 3) := dk_182 0 77 (dk_at dksX0_count_2 9 rfl rfl)
theorem dX0_count_80 : decode cX0_count 80 = .ok (.ireturn, 1) := dk_172 (dk_at dksX0_count_2 12 rfl rfl)
theorem dX0_count_81 : decode cX0_count 81 = .ok (.aload_n 0, 1) := dk_42 (dk_at dksX0_count_2 13 rfl rfl)
theorem dX0_count_82 : decode cX0_count 82 = .ok (.getfield 24, 3) := dk_180 0 24 (dk_at dksX0_count_2 14 rfl rfl)
theorem dX0_count_85 : decode cX0_count 85 = .ok (.invokevirtual 77, 3) := dk_182 0 77 (dk_at dksX0_count_2 17 rfl rfl)
theorem dX0_count_88 : decode cX0_count 88 = .ok (.ireturn, 1) := dk_172 (dk_at dksX0_count_2 20 rfl rfl)
theorem dX0_count_89 : decode cX0_count 89 = .ok (.aload_n 0, 1) := dk_42 (dk_at dksX0_count_2 21 rfl rfl)
theorem dX0_count_90 : decode cX0_count 90 = .ok (.iconst 0, 1) := dk_3 (dk_at dksX0_count_2 22 rfl rfl)
theorem dX0_count_91 : decode cX0_count 91 = .ok (.invokevirtual 546, 3) := dk_182 2 34 (dk_at dksX0_count_3 0 rfl rfl)
theorem dX0_count_94 : decode cX0_count 94 = .ok (.ireturn, 1) := dk_172 (dk_at dksX0_count_3 3 rfl rfl)
theorem dX0_count_95 : decode cX0_count 95 = .ok (.aload_n 0, 1) := dk_42 (dk_at dksX0_count_3 4 rfl rfl)
theorem dX0_count_96 : decode cX0_count 96 = .ok (.invokevirtual 117, 3) := dk_182 0 117 (dk_at dksX0_count_3 5 rfl rfl)
theorem dX0_count_99 : decode cX0_count 99 = .ok (.ireturn, 1) := dk_172 (dk_at dksX0_count_3 8 rfl rfl)
theorem dX0_count_100 : decode cX0_count 100 = .ok (.aload_n 0, 1) := dk_42 (dk_at dksX0_count_3 9 rfl rfl)
theorem dX0_count_101 : decode cX0_count 101 = .ok (.getfield 379, 3) := dk_180 1 123 (dk_at dksX0_count_3 10 rfl rfl)
theorem dX0_count_104 : decode cX0_count 104 = .ok (.ireturn, 1) := dk_172 (dk_at dksX0_count_3 13 rfl rfl)
theorem dX0_count_105 : decode cX0_count 105 = .ok (.aload_n 0, 1) := dk_42 (dk_at dksX0_count_3 14 rfl rfl)
theorem dX0_count_106 : decode cX0_count 106 = .ok (.getfield 71, 3) := dk_180 0 71 (dk_at dksX0_count_3 15 rfl rfl)
theorem dX0_count_109 : decode cX0_count 109 = .ok (.invokevirtual 77, 3) := dk_182 0 77 (dk_at dksX0_count_3 18 rfl rfl)
theorem dX0_count_112 : decode cX0_count 112 = .ok (.ireturn, 1) := dk_172 (dk_at dksX0_count_3 21 rfl rfl)
theorem dX0_count_113 : decode cX0_count 113 = .ok (.aload_n 0, 1) := dk_42 (dk_at dksX0_count_3 22 rfl rfl)
theorem dX0_count_114 : decode cX0_count 114 = .ok (.getfield 27, 3) := dk_180 0 27 (dk_at dksX0_count_4 0 rfl rfl)
theorem dX0_count_117 : decode cX0_count 117 = .ok (.invokevirtual 77, 3) := dk_182 0 77 (dk_at dksX0_count_4 3 rfl rfl)
theorem dX0_count_120 : decode cX0_count 120 = .ok (.ireturn, 1) := dk_172 (dk_at dksX0_count_4 6 rfl rfl)
theorem dX0_count_121 : decode cX0_count 121 = .ok (.aload_n 0, 1) := dk_42 (dk_at dksX0_count_4 7 rfl rfl)
theorem dX0_count_122 : decode cX0_count 122 = .ok (.getfield 502, 3) := dk_180 1 246 (dk_at dksX0_count_4 8 rfl rfl)
theorem dX0_count_125 : decode cX0_count 125 = .ok (.ireturn, 1) := dk_172 (dk_at dksX0_count_4 11 rfl rfl)
theorem dX0_count_126 : decode cX0_count 126 = .ok (.aload_n 0, 1) := dk_42 (dk_at dksX0_count_4 12 rfl rfl)
theorem dX0_count_127 : decode cX0_count 127 = .ok (.getfield 74, 3) := dk_180 0 74 (dk_at dksX0_count_4 13 rfl rfl)
theorem dX0_count_130 : decode cX0_count 130 = .ok (.invokevirtual 77, 3) := dk_182 0 77 (dk_at dksX0_count_4 16 rfl rfl)
theorem dX0_count_133 : decode cX0_count 133 = .ok (.ireturn, 1) := dk_172 (dk_at dksX0_count_4 19 rfl rfl)
theorem dX0_count_134 : decode cX0_count 134 = .ok (.aload_n 0, 1) := dk_42 (dk_at dksX0_count_4 20 rfl rfl)
theorem dX0_count_135 : decode cX0_count 135 = .ok (.invokevirtual 550, 3) := dk_182 2 38 (dk_at dksX0_count_4 21 rfl rfl)
theorem dX0_count_138 : decode cX0_count 138 = .ok (.ireturn, 1) := dk_172 (dk_at dksX0_count_5 0 rfl rfl)
theorem dX0_count_139 : decode cX0_count 139 = .ok (.aload_n 0, 1) := dk_42 (dk_at dksX0_count_5 1 rfl rfl)
theorem dX0_count_140 : decode cX0_count 140 = .ok (.iconst 1, 1) := dk_4 (dk_at dksX0_count_5 2 rfl rfl)
theorem dX0_count_141 : decode cX0_count 141 = .ok (.invokevirtual 546, 3) := dk_182 2 34 (dk_at dksX0_count_5 3 rfl rfl)
theorem dX0_count_144 : decode cX0_count 144 = .ok (.ireturn, 1) := dk_172 (dk_at dksX0_count_5 6 rfl rfl)
theorem dX0_count_145 : decode cX0_count 145 = .ok (.aload_n 0, 1) := dk_42 (dk_at dksX0_count_5 7 rfl rfl)
theorem dX0_count_146 : decode cX0_count 146 = .ok (.getfield 172, 3) := dk_180 0 172 (dk_at dksX0_count_5 8 rfl rfl)
theorem dX0_count_149 : decode cX0_count 149 = .ok (.ireturn, 1) := dk_172 (dk_at dksX0_count_5 11 rfl rfl)
theorem dX0_count_150 : decode cX0_count 150 = .ok (.iconst (-1), 1) := dk_2 (dk_at dksX0_count_5 12 rfl rfl)
theorem dX0_count_151 : decode cX0_count 151 = .ok (.ireturn, 1) := dk_172 (dk_at dksX0_count_5 13 rfl rfl)
def dkwX0_bedsThat_2 : List UInt8 := [180, 0, 91, 180, 0, 155, 154, 0, 7, 4, 167, 0, 4, 3, 96, 61, 132, 3, 1, 167, 255, 193, 28, 172]
abbrev dktX0_bedsThat_2 : List UInt8 := dkwX0_bedsThat_2 ++ []
def dkwX0_bedsThat_1 : List UInt8 := [192, 0, 85, 180, 0, 91, 198, 0, 31, 27, 153, 0, 23, 42, 180, 0, 20, 29, 182, 0, 81, 192, 0, 85]
abbrev dktX0_bedsThat_1 : List UInt8 := dkwX0_bedsThat_1 ++ dktX0_bedsThat_2
def dkwX0_bedsThat_0 : List UInt8 := [3, 61, 3, 62, 29, 42, 180, 0, 20, 182, 0, 77, 162, 0, 58, 28, 42, 180, 0, 20, 29, 182, 0, 81]
abbrev dktX0_bedsThat_0 : List UInt8 := dkwX0_bedsThat_0 ++ dktX0_bedsThat_1
theorem dksX0_bedsThat_0 : cX0_bedsThat.data.toList.drop 0 = dktX0_bedsThat_0 := by decide +kernel
theorem dksX0_bedsThat_1 : cX0_bedsThat.data.toList.drop 24 = dktX0_bedsThat_1 := dk_seg dksX0_bedsThat_0 24 rfl rfl
theorem dksX0_bedsThat_2 : cX0_bedsThat.data.toList.drop 48 = dktX0_bedsThat_2 := dk_seg dksX0_bedsThat_1 24 rfl rfl
theorem dX0_bedsThat_0 : decode cX0_bedsThat 0 = .ok (.iconst 0, 1) := dk_3 (dk_at dksX0_bedsThat_0 0 rfl rfl)
theorem dX0_bedsThat_1 : decode cX0_bedsThat 1 = .ok (.istore_n 2, 1) := dk_61 (dk_at dksX0_bedsThat_0 1 rfl rfl)
theorem dX0_bedsThat_2 : decode cX0_bedsThat 2 = .ok (.iconst 0, 1) := dk_3 (dk_at dksX0_bedsThat_0 2 rfl rfl)
theorem dX0_bedsThat_3 : decode cX0_bedsThat 3 = .ok (.istore_n 3, 1) := dk_62 (dk_at dksX0_bedsThat_0 3 rfl rfl)
theorem dX0_bedsThat_4 : decode cX0_bedsThat 4 = .ok (.iload_n 3, 1) := dk_29 (dk_at dksX0_bedsThat_0 4 rfl rfl)
theorem dX0_bedsThat_5 : decode cX0_bedsThat 5 = .ok (.aload_n 0, 1) := dk_42 (dk_at dksX0_bedsThat_0 5 rfl rfl)
theorem dX0_bedsThat_6 : decode cX0_bedsThat 6 = .ok (.getfield 20, 3) := dk_180 0 20 (dk_at dksX0_bedsThat_0 6 rfl rfl)
theorem dX0_bedsThat_9 : decode cX0_bedsThat 9 = .ok (.invokevirtual 77, 3) := dk_182 0 77 (dk_at dksX0_bedsThat_0 9 rfl rfl)
theorem dX0_bedsThat_12 : decode cX0_bedsThat 12 = .ok (.if_icmp .ge 58, 3) := dk_162 0 58 (dk_at dksX0_bedsThat_0 12 rfl rfl)
theorem dX0_bedsThat_15 : decode cX0_bedsThat 15 = .ok (.iload_n 2, 1) := dk_28 (dk_at dksX0_bedsThat_0 15 rfl rfl)
theorem dX0_bedsThat_16 : decode cX0_bedsThat 16 = .ok (.aload_n 0, 1) := dk_42 (dk_at dksX0_bedsThat_0 16 rfl rfl)
theorem dX0_bedsThat_17 : decode cX0_bedsThat 17 = .ok (.getfield 20, 3) := dk_180 0 20 (dk_at dksX0_bedsThat_0 17 rfl rfl)
theorem dX0_bedsThat_20 : decode cX0_bedsThat 20 = .ok (.iload_n 3, 1) := dk_29 (dk_at dksX0_bedsThat_0 20 rfl rfl)
theorem dX0_bedsThat_21 : decode cX0_bedsThat 21 = .ok (.invokevirtual 81, 3) := dk_182 0 81 (dk_at dksX0_bedsThat_0 21 rfl rfl)
theorem dX0_bedsThat_24 : decode cX0_bedsThat 24 = .ok (.checkcast 85, 3) := dk_192 0 85 (dk_at dksX0_bedsThat_1 0 rfl rfl)
theorem dX0_bedsThat_27 : decode cX0_bedsThat 27 = .ok (.getfield 91, 3) := dk_180 0 91 (dk_at dksX0_bedsThat_1 3 rfl rfl)
theorem dX0_bedsThat_30 : decode cX0_bedsThat 30 = .ok (.ifnull 31, 3) := dk_198 0 31 (dk_at dksX0_bedsThat_1 6 rfl rfl)
theorem dX0_bedsThat_33 : decode cX0_bedsThat 33 = .ok (.iload_n 1, 1) := dk_27 (dk_at dksX0_bedsThat_1 9 rfl rfl)
theorem dX0_bedsThat_34 : decode cX0_bedsThat 34 = .ok (.ifCond .eq 23, 3) := dk_153 0 23 (dk_at dksX0_bedsThat_1 10 rfl rfl)
theorem dX0_bedsThat_37 : decode cX0_bedsThat 37 = .ok (.aload_n 0, 1) := dk_42 (dk_at dksX0_bedsThat_1 13 rfl rfl)
theorem dX0_bedsThat_38 : decode cX0_bedsThat 38 = .ok (.getfield 20, 3) := dk_180 0 20 (dk_at dksX0_bedsThat_1 14 rfl rfl)
theorem dX0_bedsThat_41 : decode cX0_bedsThat 41 = .ok (.iload_n 3, 1) := dk_29 (dk_at dksX0_bedsThat_1 17 rfl rfl)
theorem dX0_bedsThat_42 : decode cX0_bedsThat 42 = .ok (.invokevirtual 81, 3) := dk_182 0 81 (dk_at dksX0_bedsThat_1 18 rfl rfl)
theorem dX0_bedsThat_45 : decode cX0_bedsThat 45 = .ok (.checkcast 85, 3) := dk_192 0 85 (dk_at dksX0_bedsThat_1 21 rfl rfl)
theorem dX0_bedsThat_48 : decode cX0_bedsThat 48 = .ok (.getfield 91, 3) := dk_180 0 91 (dk_at dksX0_bedsThat_2 0 rfl rfl)
theorem dX0_bedsThat_51 : decode cX0_bedsThat 51 = .ok (.getfield 155, 3) := dk_180 0 155 (dk_at dksX0_bedsThat_2 3 rfl rfl)
theorem dX0_bedsThat_54 : decode cX0_bedsThat 54 = .ok (.ifCond .ne 7, 3) := dk_154 0 7 (dk_at dksX0_bedsThat_2 6 rfl rfl)
theorem dX0_bedsThat_57 : decode cX0_bedsThat 57 = .ok (.iconst 1, 1) := dk_4 (dk_at dksX0_bedsThat_2 9 rfl rfl)
theorem dX0_bedsThat_58 : decode cX0_bedsThat 58 = .ok (.goto 4, 3) := dk_167 0 4 (dk_at dksX0_bedsThat_2 10 rfl rfl)
theorem dX0_bedsThat_61 : decode cX0_bedsThat 61 = .ok (.iconst 0, 1) := dk_3 (dk_at dksX0_bedsThat_2 13 rfl rfl)
theorem dX0_bedsThat_62 : decode cX0_bedsThat 62 = .ok (.iadd, 1) := dk_96 (dk_at dksX0_bedsThat_2 14 rfl rfl)
theorem dX0_bedsThat_63 : decode cX0_bedsThat 63 = .ok (.istore_n 2, 1) := dk_61 (dk_at dksX0_bedsThat_2 15 rfl rfl)
theorem dX0_bedsThat_64 : decode cX0_bedsThat 64 = .ok (.iinc 3 1, 3) := dk_132 3 1 (dk_at dksX0_bedsThat_2 16 rfl rfl)
theorem dX0_bedsThat_67 : decode cX0_bedsThat 67 = .ok (.goto (-63), 3) := dk_167 255 193 (dk_at dksX0_bedsThat_2 19 rfl rfl)
theorem dX0_bedsThat_70 : decode cX0_bedsThat 70 = .ok (.iload_n 2, 1) := dk_28 (dk_at dksX0_bedsThat_2 22 rfl rfl)
theorem dX0_bedsThat_71 : decode cX0_bedsThat 71 = .ok (.ireturn, 1) := dk_172 (dk_at dksX0_bedsThat_2 23 rfl rfl)
def dkwX0_open_1 : List UInt8 := [192, 1, 252, 180, 1, 254, 153, 0, 7, 4, 167, 0, 4, 3, 96, 60, 132, 2, 1, 167, 255, 217, 27, 172]
abbrev dktX0_open_1 : List UInt8 := dkwX0_open_1 ++ []
def dkwX0_open_0 : List UInt8 := [3, 60, 3, 61, 28, 42, 180, 0, 74, 182, 0, 77, 162, 0, 34, 27, 42, 180, 0, 74, 28, 182, 0, 81]
abbrev dktX0_open_0 : List UInt8 := dkwX0_open_0 ++ dktX0_open_1
theorem dksX0_open_0 : cX0_open.data.toList.drop 0 = dktX0_open_0 := by decide +kernel
theorem dksX0_open_1 : cX0_open.data.toList.drop 24 = dktX0_open_1 := dk_seg dksX0_open_0 24 rfl rfl
theorem dX0_open_0 : decode cX0_open 0 = .ok (.iconst 0, 1) := dk_3 (dk_at dksX0_open_0 0 rfl rfl)
theorem dX0_open_1 : decode cX0_open 1 = .ok (.istore_n 1, 1) := dk_60 (dk_at dksX0_open_0 1 rfl rfl)
theorem dX0_open_2 : decode cX0_open 2 = .ok (.iconst 0, 1) := dk_3 (dk_at dksX0_open_0 2 rfl rfl)
theorem dX0_open_3 : decode cX0_open 3 = .ok (.istore_n 2, 1) := dk_61 (dk_at dksX0_open_0 3 rfl rfl)
theorem dX0_open_4 : decode cX0_open 4 = .ok (.iload_n 2, 1) := dk_28 (dk_at dksX0_open_0 4 rfl rfl)
theorem dX0_open_5 : decode cX0_open 5 = .ok (.aload_n 0, 1) := dk_42 (dk_at dksX0_open_0 5 rfl rfl)
theorem dX0_open_6 : decode cX0_open 6 = .ok (.getfield 74, 3) := dk_180 0 74 (dk_at dksX0_open_0 6 rfl rfl)
theorem dX0_open_9 : decode cX0_open 9 = .ok (.invokevirtual 77, 3) := dk_182 0 77 (dk_at dksX0_open_0 9 rfl rfl)
theorem dX0_open_12 : decode cX0_open 12 = .ok (.if_icmp .ge 34, 3) := dk_162 0 34 (dk_at dksX0_open_0 12 rfl rfl)
theorem dX0_open_15 : decode cX0_open 15 = .ok (.iload_n 1, 1) := dk_27 (dk_at dksX0_open_0 15 rfl rfl)
theorem dX0_open_16 : decode cX0_open 16 = .ok (.aload_n 0, 1) := dk_42 (dk_at dksX0_open_0 16 rfl rfl)
theorem dX0_open_17 : decode cX0_open 17 = .ok (.getfield 74, 3) := dk_180 0 74 (dk_at dksX0_open_0 17 rfl rfl)
theorem dX0_open_20 : decode cX0_open 20 = .ok (.iload_n 2, 1) := dk_28 (dk_at dksX0_open_0 20 rfl rfl)
theorem dX0_open_21 : decode cX0_open 21 = .ok (.invokevirtual 81, 3) := dk_182 0 81 (dk_at dksX0_open_0 21 rfl rfl)
theorem dX0_open_24 : decode cX0_open 24 = .ok (.checkcast 508, 3) := dk_192 1 252 (dk_at dksX0_open_1 0 rfl rfl)
theorem dX0_open_27 : decode cX0_open 27 = .ok (.getfield 510, 3) := dk_180 1 254 (dk_at dksX0_open_1 3 rfl rfl)
theorem dX0_open_30 : decode cX0_open 30 = .ok (.ifCond .eq 7, 3) := dk_153 0 7 (dk_at dksX0_open_1 6 rfl rfl)
theorem dX0_open_33 : decode cX0_open 33 = .ok (.iconst 1, 1) := dk_4 (dk_at dksX0_open_1 9 rfl rfl)
theorem dX0_open_34 : decode cX0_open 34 = .ok (.goto 4, 3) := dk_167 0 4 (dk_at dksX0_open_1 10 rfl rfl)
theorem dX0_open_37 : decode cX0_open 37 = .ok (.iconst 0, 1) := dk_3 (dk_at dksX0_open_1 13 rfl rfl)
theorem dX0_open_38 : decode cX0_open 38 = .ok (.iadd, 1) := dk_96 (dk_at dksX0_open_1 14 rfl rfl)
theorem dX0_open_39 : decode cX0_open 39 = .ok (.istore_n 1, 1) := dk_60 (dk_at dksX0_open_1 15 rfl rfl)
theorem dX0_open_40 : decode cX0_open 40 = .ok (.iinc 2 1, 3) := dk_132 2 1 (dk_at dksX0_open_1 16 rfl rfl)
theorem dX0_open_43 : decode cX0_open 43 = .ok (.goto (-39), 3) := dk_167 255 217 (dk_at dksX0_open_1 19 rfl rfl)
theorem dX0_open_46 : decode cX0_open 46 = .ok (.iload_n 1, 1) := dk_27 (dk_at dksX0_open_1 22 rfl rfl)
theorem dX0_open_47 : decode cX0_open 47 = .ok (.ireturn, 1) := dk_172 (dk_at dksX0_open_1 23 rfl rfl)
