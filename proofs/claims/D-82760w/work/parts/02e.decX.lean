/-! decode rows -/
set_option maxRecDepth 100000
def dkwX1_init_6 : List UInt8 := [27, 181, 0, 63, 177]
abbrev dktX1_init_6 : List UInt8 := dkwX1_init_6 ++ []
def dkwX1_init_5 : List UInt8 := [89, 3, 16, 100, 79, 89, 4, 16, 80, 79, 89, 5, 16, 50, 79, 89, 6, 16, 20, 79, 181, 0, 60, 42]
abbrev dktX1_init_5 : List UInt8 := dkwX1_init_5 ++ dktX1_init_6
def dkwX1_init_4 : List UInt8 := [16, 80, 79, 89, 4, 16, 50, 79, 89, 5, 16, 20, 79, 89, 6, 3, 79, 181, 0, 56, 42, 7, 188, 10]
abbrev dktX1_init_4 : List UInt8 := dkwX1_init_4 ++ dktX1_init_5
def dkwX1_init_3 : List UInt8 := [42, 16, 50, 181, 0, 47, 42, 4, 181, 0, 50, 42, 16, 10, 181, 0, 53, 42, 7, 188, 10, 89, 3]
abbrev dktX1_init_3 : List UInt8 := dkwX1_init_3 ++ dktX1_init_4
def dkwX1_init_2 : List UInt8 := [181, 0, 32, 42, 6, 181, 0, 35, 42, 8, 181, 0, 38, 42, 5, 181, 0, 41, 42, 16, 10, 181, 0, 44]
abbrev dktX1_init_2 : List UInt8 := dkwX1_init_2 ++ dktX1_init_3
def dkwX1_init_1 : List UInt8 := [181, 0, 20, 42, 17, 1, 64, 181, 0, 23, 42, 6, 181, 0, 26, 42, 16, 20, 181, 0, 29, 42, 16, 30]
abbrev dktX1_init_1 : List UInt8 := dkwX1_init_1 ++ dktX1_init_2
def dkwX1_init_0 : List UInt8 := [42, 183, 0, 1, 42, 187, 0, 7, 89, 183, 0, 9, 181, 0, 10, 42, 5, 181, 0, 16, 42, 17, 0, 250]
abbrev dktX1_init_0 : List UInt8 := dkwX1_init_0 ++ dktX1_init_1
theorem dksX1_init_0 : cX1_init.data.toList.drop 0 = dktX1_init_0 := by decide +kernel
theorem dksX1_init_1 : cX1_init.data.toList.drop 24 = dktX1_init_1 := dk_seg dksX1_init_0 24 rfl rfl
theorem dksX1_init_2 : cX1_init.data.toList.drop 48 = dktX1_init_2 := dk_seg dksX1_init_1 24 rfl rfl
theorem dksX1_init_3 : cX1_init.data.toList.drop 72 = dktX1_init_3 := dk_seg dksX1_init_2 24 rfl rfl
theorem dksX1_init_4 : cX1_init.data.toList.drop 95 = dktX1_init_4 := dk_seg dksX1_init_3 23 rfl rfl
theorem dksX1_init_5 : cX1_init.data.toList.drop 119 = dktX1_init_5 := dk_seg dksX1_init_4 24 rfl rfl
theorem dksX1_init_6 : cX1_init.data.toList.drop 143 = dktX1_init_6 := dk_seg dksX1_init_5 24 rfl rfl
theorem dX1_init_0 : decode cX1_init 0 = .ok (.aload_n 0, 1) := dk_42 (dk_at dksX1_init_0 0 rfl rfl)
theorem dX1_init_1 : decode cX1_init 1 = .ok (.invokespecial 1, 3) := dk_183 0 1 (dk_at dksX1_init_0 1 rfl rfl)
theorem dX1_init_4 : decode cX1_init 4 = .ok (.aload_n 0, 1) := dk_42 (dk_at dksX1_init_0 4 rfl rfl)
theorem dX1_init_5 : decode cX1_init 5 = .ok (.new 7, 3) := dk_187 0 7 (dk_at dksX1_init_0 5 rfl rfl)
theorem dX1_init_8 : decode cX1_init 8 = .ok (.dup, 1) := dk_89 (dk_at dksX1_init_0 8 rfl rfl)
theorem dX1_init_9 : decode cX1_init 9 = .ok (.invokespecial 9, 3) := dk_183 0 9 (dk_at dksX1_init_0 9 rfl rfl)
theorem dX1_init_12 : decode cX1_init 12 = .ok (.putfield 10, 3) := dk_181 0 10 (dk_at dksX1_init_0 12 rfl rfl)
theorem dX1_init_15 : decode cX1_init 15 = .ok (.aload_n 0, 1) := dk_42 (dk_at dksX1_init_0 15 rfl rfl)
theorem dX1_init_16 : decode cX1_init 16 = .ok (.iconst 2, 1) := dk_5 (dk_at dksX1_init_0 16 rfl rfl)
theorem dX1_init_17 : decode cX1_init 17 = .ok (.putfield 16, 3) := dk_181 0 16 (dk_at dksX1_init_0 17 rfl rfl)
theorem dX1_init_20 : decode cX1_init 20 = .ok (.aload_n 0, 1) := dk_42 (dk_at dksX1_init_0 20 rfl rfl)
theorem dX1_init_21 : decode cX1_init 21 = .ok (.sipush 250, 3) := dk_17 0 250 (dk_at dksX1_init_0 21 rfl rfl)
theorem dX1_init_24 : decode cX1_init 24 = .ok (.putfield 20, 3) := dk_181 0 20 (dk_at dksX1_init_1 0 rfl rfl)
theorem dX1_init_27 : decode cX1_init 27 = .ok (.aload_n 0, 1) := dk_42 (dk_at dksX1_init_1 3 rfl rfl)
theorem dX1_init_28 : decode cX1_init 28 = .ok (.sipush 320, 3) := dk_17 1 64 (dk_at dksX1_init_1 4 rfl rfl)
theorem dX1_init_31 : decode cX1_init 31 = .ok (.putfield 23, 3) := dk_181 0 23 (dk_at dksX1_init_1 7 rfl rfl)
theorem dX1_init_34 : decode cX1_init 34 = .ok (.aload_n 0, 1) := dk_42 (dk_at dksX1_init_1 10 rfl rfl)
theorem dX1_init_35 : decode cX1_init 35 = .ok (.iconst 3, 1) := dk_6 (dk_at dksX1_init_1 11 rfl rfl)
theorem dX1_init_36 : decode cX1_init 36 = .ok (.putfield 26, 3) := dk_181 0 26 (dk_at dksX1_init_1 12 rfl rfl)
theorem dX1_init_39 : decode cX1_init 39 = .ok (.aload_n 0, 1) := dk_42 (dk_at dksX1_init_1 15 rfl rfl)
theorem dX1_init_40 : decode cX1_init 40 = .ok (.bipush 20, 2) := dk_16 20 (dk_at dksX1_init_1 16 rfl rfl)
theorem dX1_init_42 : decode cX1_init 42 = .ok (.putfield 29, 3) := dk_181 0 29 (dk_at dksX1_init_1 18 rfl rfl)
theorem dX1_init_45 : decode cX1_init 45 = .ok (.aload_n 0, 1) := dk_42 (dk_at dksX1_init_1 21 rfl rfl)
theorem dX1_init_46 : decode cX1_init 46 = .ok (.bipush 30, 2) := dk_16 30 (dk_at dksX1_init_1 22 rfl rfl)
theorem dX1_init_48 : decode cX1_init 48 = .ok (.putfield 32, 3) := dk_181 0 32 (dk_at dksX1_init_2 0 rfl rfl)
theorem dX1_init_51 : decode cX1_init 51 = .ok (.aload_n 0, 1) := dk_42 (dk_at dksX1_init_2 3 rfl rfl)
theorem dX1_init_52 : decode cX1_init 52 = .ok (.iconst 3, 1) := dk_6 (dk_at dksX1_init_2 4 rfl rfl)
theorem dX1_init_53 : decode cX1_init 53 = .ok (.putfield 35, 3) := dk_181 0 35 (dk_at dksX1_init_2 5 rfl rfl)
theorem dX1_init_56 : decode cX1_init 56 = .ok (.aload_n 0, 1) := dk_42 (dk_at dksX1_init_2 8 rfl rfl)
theorem dX1_init_57 : decode cX1_init 57 = .ok (.iconst 5, 1) := dk_8 (dk_at dksX1_init_2 9 rfl rfl)
theorem dX1_init_58 : decode cX1_init 58 = .ok (.putfield 38, 3) := dk_181 0 38 (dk_at dksX1_init_2 10 rfl rfl)
theorem dX1_init_61 : decode cX1_init 61 = .ok (.aload_n 0, 1) := dk_42 (dk_at dksX1_init_2 13 rfl rfl)
theorem dX1_init_62 : decode cX1_init 62 = .ok (.iconst 2, 1) := dk_5 (dk_at dksX1_init_2 14 rfl rfl)
theorem dX1_init_63 : decode cX1_init 63 = .ok (.putfield 41, 3) := dk_181 0 41 (dk_at dksX1_init_2 15 rfl rfl)
theorem dX1_init_66 : decode cX1_init 66 = .ok (.aload_n 0, 1) := dk_42 (dk_at dksX1_init_2 18 rfl rfl)
theorem dX1_init_67 : decode cX1_init 67 = .ok (.bipush 10, 2) := dk_16 10 (dk_at dksX1_init_2 19 rfl rfl)
theorem dX1_init_69 : decode cX1_init 69 = .ok (.putfield 44, 3) := dk_181 0 44 (dk_at dksX1_init_2 21 rfl rfl)
theorem dX1_init_72 : decode cX1_init 72 = .ok (.aload_n 0, 1) := dk_42 (dk_at dksX1_init_3 0 rfl rfl)
theorem dX1_init_73 : decode cX1_init 73 = .ok (.bipush 50, 2) := dk_16 50 (dk_at dksX1_init_3 1 rfl rfl)
theorem dX1_init_75 : decode cX1_init 75 = .ok (.putfield 47, 3) := dk_181 0 47 (dk_at dksX1_init_3 3 rfl rfl)
theorem dX1_init_78 : decode cX1_init 78 = .ok (.aload_n 0, 1) := dk_42 (dk_at dksX1_init_3 6 rfl rfl)
theorem dX1_init_79 : decode cX1_init 79 = .ok (.iconst 1, 1) := dk_4 (dk_at dksX1_init_3 7 rfl rfl)
theorem dX1_init_80 : decode cX1_init 80 = .ok (.putfield 50, 3) := dk_181 0 50 (dk_at dksX1_init_3 8 rfl rfl)
theorem dX1_init_83 : decode cX1_init 83 = .ok (.aload_n 0, 1) := dk_42 (dk_at dksX1_init_3 11 rfl rfl)
theorem dX1_init_84 : decode cX1_init 84 = .ok (.bipush 10, 2) := dk_16 10 (dk_at dksX1_init_3 12 rfl rfl)
theorem dX1_init_86 : decode cX1_init 86 = .ok (.putfield 53, 3) := dk_181 0 53 (dk_at dksX1_init_3 14 rfl rfl)
theorem dX1_init_89 : decode cX1_init 89 = .ok (.aload_n 0, 1) := dk_42 (dk_at dksX1_init_3 17 rfl rfl)
theorem dX1_init_90 : decode cX1_init 90 = .ok (.iconst 4, 1) := dk_7 (dk_at dksX1_init_3 18 rfl rfl)
theorem dX1_init_91 : decode cX1_init 91 = .ok (.newarray .int, 2) := dk_188_10 (dk_at dksX1_init_3 19 rfl rfl)
theorem dX1_init_93 : decode cX1_init 93 = .ok (.dup, 1) := dk_89 (dk_at dksX1_init_3 21 rfl rfl)
theorem dX1_init_94 : decode cX1_init 94 = .ok (.iconst 0, 1) := dk_3 (dk_at dksX1_init_3 22 rfl rfl)
theorem dX1_init_95 : decode cX1_init 95 = .ok (.bipush 80, 2) := dk_16 80 (dk_at dksX1_init_4 0 rfl rfl)
theorem dX1_init_97 : decode cX1_init 97 = .ok (.iastore, 1) := dk_79 (dk_at dksX1_init_4 2 rfl rfl)
theorem dX1_init_98 : decode cX1_init 98 = .ok (.dup, 1) := dk_89 (dk_at dksX1_init_4 3 rfl rfl)
theorem dX1_init_99 : decode cX1_init 99 = .ok (.iconst 1, 1) := dk_4 (dk_at dksX1_init_4 4 rfl rfl)
theorem dX1_init_100 : decode cX1_init 100 = .ok (.bipush 50, 2) := dk_16 50 (dk_at dksX1_init_4 5 rfl rfl)
theorem dX1_init_102 : decode cX1_init 102 = .ok (.iastore, 1) := dk_79 (dk_at dksX1_init_4 7 rfl rfl)
theorem dX1_init_103 : decode cX1_init 103 = .ok (.dup, 1) := dk_89 (dk_at dksX1_init_4 8 rfl rfl)
theorem dX1_init_104 : decode cX1_init 104 = .ok (.iconst 2, 1) := dk_5 (dk_at dksX1_init_4 9 rfl rfl)
theorem dX1_init_105 : decode cX1_init 105 = .ok (.bipush 20, 2) := dk_16 20 (dk_at dksX1_init_4 10 rfl rfl)
theorem dX1_init_107 : decode cX1_init 107 = .ok (.iastore, 1) := dk_79 (dk_at dksX1_init_4 12 rfl rfl)
theorem dX1_init_108 : decode cX1_init 108 = .ok (.dup, 1) := dk_89 (dk_at dksX1_init_4 13 rfl rfl)
theorem dX1_init_109 : decode cX1_init 109 = .ok (.iconst 3, 1) := dk_6 (dk_at dksX1_init_4 14 rfl rfl)
theorem dX1_init_110 : decode cX1_init 110 = .ok (.iconst 0, 1) := dk_3 (dk_at dksX1_init_4 15 rfl rfl)
theorem dX1_init_111 : decode cX1_init 111 = .ok (.iastore, 1) := dk_79 (dk_at dksX1_init_4 16 rfl rfl)
theorem dX1_init_112 : decode cX1_init 112 = .ok (.putfield 56, 3) := dk_181 0 56 (dk_at dksX1_init_4 17 rfl rfl)
theorem dX1_init_115 : decode cX1_init 115 = .ok (.aload_n 0, 1) := dk_42 (dk_at dksX1_init_4 20 rfl rfl)
theorem dX1_init_116 : decode cX1_init 116 = .ok (.iconst 4, 1) := dk_7 (dk_at dksX1_init_4 21 rfl rfl)
theorem dX1_init_117 : decode cX1_init 117 = .ok (.newarray .int, 2) := dk_188_10 (dk_at dksX1_init_4 22 rfl rfl)
theorem dX1_init_119 : decode cX1_init 119 = .ok (.dup, 1) := dk_89 (dk_at dksX1_init_5 0 rfl rfl)
theorem dX1_init_120 : decode cX1_init 120 = .ok (.iconst 0, 1) := dk_3 (dk_at dksX1_init_5 1 rfl rfl)
theorem dX1_init_121 : decode cX1_init 121 = .ok (.bipush 100, 2) := dk_16 100 (dk_at dksX1_init_5 2 rfl rfl)
theorem dX1_init_123 : decode cX1_init 123 = .ok (.iastore, 1) := dk_79 (dk_at dksX1_init_5 4 rfl rfl)
theorem dX1_init_124 : decode cX1_init 124 = .ok (.dup, 1) := dk_89 (dk_at dksX1_init_5 5 rfl rfl)
theorem dX1_init_125 : decode cX1_init 125 = .ok (.iconst 1, 1) := dk_4 (dk_at dksX1_init_5 6 rfl rfl)
theorem dX1_init_126 : decode cX1_init 126 = .ok (.bipush 80, 2) := dk_16 80 (dk_at dksX1_init_5 7 rfl rfl)
theorem dX1_init_128 : decode cX1_init 128 = .ok (.iastore, 1) := dk_79 (dk_at dksX1_init_5 9 rfl rfl)
theorem dX1_init_129 : decode cX1_init 129 = .ok (.dup, 1) := dk_89 (dk_at dksX1_init_5 10 rfl rfl)
theorem dX1_init_130 : decode cX1_init 130 = .ok (.iconst 2, 1) := dk_5 (dk_at dksX1_init_5 11 rfl rfl)
theorem dX1_init_131 : decode cX1_init 131 = .ok (.bipush 50, 2) := dk_16 50 (dk_at dksX1_init_5 12 rfl rfl)
theorem dX1_init_133 : decode cX1_init 133 = .ok (.iastore, 1) := dk_79 (dk_at dksX1_init_5 14 rfl rfl)
theorem dX1_init_134 : decode cX1_init 134 = .ok (.dup, 1) := dk_89 (dk_at dksX1_init_5 15 rfl rfl)
theorem dX1_init_135 : decode cX1_init 135 = .ok (.iconst 3, 1) := dk_6 (dk_at dksX1_init_5 16 rfl rfl)
theorem dX1_init_136 : decode cX1_init 136 = .ok (.bipush 20, 2) := dk_16 20 (dk_at dksX1_init_5 17 rfl rfl)
theorem dX1_init_138 : decode cX1_init 138 = .ok (.iastore, 1) := dk_79 (dk_at dksX1_init_5 19 rfl rfl)
theorem dX1_init_139 : decode cX1_init 139 = .ok (.putfield 60, 3) := dk_181 0 60 (dk_at dksX1_init_5 20 rfl rfl)
theorem dX1_init_142 : decode cX1_init 142 = .ok (.aload_n 0, 1) := dk_42 (dk_at dksX1_init_5 23 rfl rfl)
theorem dX1_init_143 : decode cX1_init 143 = .ok (.iload_n 1, 1) := dk_27 (dk_at dksX1_init_6 0 rfl rfl)
theorem dX1_init_144 : decode cX1_init 144 = .ok (.putfield 63, 3) := dk_181 0 63 (dk_at dksX1_init_6 1 rfl rfl)
theorem dX1_init_147 : decode cX1_init 147 = .ok (.return_, 1) := dk_177 (dk_at dksX1_init_6 4 rfl rfl)
def dkwX1_isFall_2 : List UInt8 := [163, 0, 7, 4, 167, 0, 4, 3, 172]
abbrev dktX1_isFall_2 : List UInt8 := dkwX1_isFall_2 ++ []
def dkwX1_isFall_1 : List UInt8 := [163, 0, 7, 4, 167, 0, 28, 3, 167, 0, 24, 27, 42, 180, 0, 20, 162, 0, 11, 27, 42, 180, 0, 23]
abbrev dktX1_isFall_1 : List UInt8 := dkwX1_isFall_1 ++ dktX1_isFall_2
def dkwX1_isFall_0 : List UInt8 := [42, 180, 0, 20, 42, 180, 0, 23, 163, 0, 27, 27, 42, 180, 0, 20, 161, 0, 15, 27, 42, 180, 0, 23]
abbrev dktX1_isFall_0 : List UInt8 := dkwX1_isFall_0 ++ dktX1_isFall_1
theorem dksX1_isFall_0 : cX1_isFall.data.toList.drop 0 = dktX1_isFall_0 := by decide +kernel
theorem dksX1_isFall_1 : cX1_isFall.data.toList.drop 24 = dktX1_isFall_1 := dk_seg dksX1_isFall_0 24 rfl rfl
theorem dksX1_isFall_2 : cX1_isFall.data.toList.drop 48 = dktX1_isFall_2 := dk_seg dksX1_isFall_1 24 rfl rfl
theorem dX1_isFall_0 : decode cX1_isFall 0 = .ok (.aload_n 0, 1) := dk_42 (dk_at dksX1_isFall_0 0 rfl rfl)
theorem dX1_isFall_1 : decode cX1_isFall 1 = .ok (.getfield 20, 3) := dk_180 0 20 (dk_at dksX1_isFall_0 1 rfl rfl)
theorem dX1_isFall_4 : decode cX1_isFall 4 = .ok (.aload_n 0, 1) := dk_42 (dk_at dksX1_isFall_0 4 rfl rfl)
theorem dX1_isFall_5 : decode cX1_isFall 5 = .ok (.getfield 23, 3) := dk_180 0 23 (dk_at dksX1_isFall_0 5 rfl rfl)
theorem dX1_isFall_8 : decode cX1_isFall 8 = .ok (.if_icmp .gt 27, 3) := dk_163 0 27 (dk_at dksX1_isFall_0 8 rfl rfl)
theorem dX1_isFall_11 : decode cX1_isFall 11 = .ok (.iload_n 1, 1) := dk_27 (dk_at dksX1_isFall_0 11 rfl rfl)
theorem dX1_isFall_12 : decode cX1_isFall 12 = .ok (.aload_n 0, 1) := dk_42 (dk_at dksX1_isFall_0 12 rfl rfl)
theorem dX1_isFall_13 : decode cX1_isFall 13 = .ok (.getfield 20, 3) := dk_180 0 20 (dk_at dksX1_isFall_0 13 rfl rfl)
theorem dX1_isFall_16 : decode cX1_isFall 16 = .ok (.if_icmp .lt 15, 3) := dk_161 0 15 (dk_at dksX1_isFall_0 16 rfl rfl)
theorem dX1_isFall_19 : decode cX1_isFall 19 = .ok (.iload_n 1, 1) := dk_27 (dk_at dksX1_isFall_0 19 rfl rfl)
theorem dX1_isFall_20 : decode cX1_isFall 20 = .ok (.aload_n 0, 1) := dk_42 (dk_at dksX1_isFall_0 20 rfl rfl)
theorem dX1_isFall_21 : decode cX1_isFall 21 = .ok (.getfield 23, 3) := dk_180 0 23 (dk_at dksX1_isFall_0 21 rfl rfl)
theorem dX1_isFall_24 : decode cX1_isFall 24 = .ok (.if_icmp .gt 7, 3) := dk_163 0 7 (dk_at dksX1_isFall_1 0 rfl rfl)
theorem dX1_isFall_27 : decode cX1_isFall 27 = .ok (.iconst 1, 1) := dk_4 (dk_at dksX1_isFall_1 3 rfl rfl)
theorem dX1_isFall_28 : decode cX1_isFall 28 = .ok (.goto 28, 3) := dk_167 0 28 (dk_at dksX1_isFall_1 4 rfl rfl)
theorem dX1_isFall_31 : decode cX1_isFall 31 = .ok (.iconst 0, 1) := dk_3 (dk_at dksX1_isFall_1 7 rfl rfl)
theorem dX1_isFall_32 : decode cX1_isFall 32 = .ok (.goto 24, 3) := dk_167 0 24 (dk_at dksX1_isFall_1 8 rfl rfl)
theorem dX1_isFall_35 : decode cX1_isFall 35 = .ok (.iload_n 1, 1) := dk_27 (dk_at dksX1_isFall_1 11 rfl rfl)
theorem dX1_isFall_36 : decode cX1_isFall 36 = .ok (.aload_n 0, 1) := dk_42 (dk_at dksX1_isFall_1 12 rfl rfl)
theorem dX1_isFall_37 : decode cX1_isFall 37 = .ok (.getfield 20, 3) := dk_180 0 20 (dk_at dksX1_isFall_1 13 rfl rfl)
theorem dX1_isFall_40 : decode cX1_isFall 40 = .ok (.if_icmp .ge 11, 3) := dk_162 0 11 (dk_at dksX1_isFall_1 16 rfl rfl)
theorem dX1_isFall_43 : decode cX1_isFall 43 = .ok (.iload_n 1, 1) := dk_27 (dk_at dksX1_isFall_1 19 rfl rfl)
theorem dX1_isFall_44 : decode cX1_isFall 44 = .ok (.aload_n 0, 1) := dk_42 (dk_at dksX1_isFall_1 20 rfl rfl)
theorem dX1_isFall_45 : decode cX1_isFall 45 = .ok (.getfield 23, 3) := dk_180 0 23 (dk_at dksX1_isFall_1 21 rfl rfl)
theorem dX1_isFall_48 : decode cX1_isFall 48 = .ok (.if_icmp .gt 7, 3) := dk_163 0 7 (dk_at dksX1_isFall_2 0 rfl rfl)
theorem dX1_isFall_51 : decode cX1_isFall 51 = .ok (.iconst 1, 1) := dk_4 (dk_at dksX1_isFall_2 3 rfl rfl)
theorem dX1_isFall_52 : decode cX1_isFall 52 = .ok (.goto 4, 3) := dk_167 0 4 (dk_at dksX1_isFall_2 4 rfl rfl)
theorem dX1_isFall_55 : decode cX1_isFall 55 = .ok (.iconst 0, 1) := dk_3 (dk_at dksX1_isFall_2 7 rfl rfl)
theorem dX1_isFall_56 : decode cX1_isFall 56 = .ok (.ireturn, 1) := dk_172 (dk_at dksX1_isFall_2 8 rfl rfl)
def dkwX2_init_2 : List UInt8 := [181, 0, 28, 42, 16, 13, 188, 10, 181, 0, 31, 42, 16, 13, 188, 10, 181, 0, 34, 177]
abbrev dktX2_init_2 : List UInt8 := dkwX2_init_2 ++ []
def dkwX2_init_1 : List UInt8 := [181, 0, 19, 42, 16, 12, 188, 10, 181, 0, 22, 42, 16, 12, 188, 10, 181, 0, 25, 42, 16, 12, 188, 10]
abbrev dktX2_init_1 : List UInt8 := dkwX2_init_1 ++ dktX2_init_2
def dkwX2_init_0 : List UInt8 := [42, 43, 181, 0, 3, 42, 183, 0, 9, 42, 16, 12, 188, 10, 181, 0, 15, 42, 16, 30, 188, 10]
abbrev dktX2_init_0 : List UInt8 := dkwX2_init_0 ++ dktX2_init_1
theorem dksX2_init_0 : cX2_init.data.toList.drop 0 = dktX2_init_0 := by decide +kernel
theorem dksX2_init_1 : cX2_init.data.toList.drop 22 = dktX2_init_1 := dk_seg dksX2_init_0 22 rfl rfl
theorem dksX2_init_2 : cX2_init.data.toList.drop 46 = dktX2_init_2 := dk_seg dksX2_init_1 24 rfl rfl
theorem dX2_init_0 : decode cX2_init 0 = .ok (.aload_n 0, 1) := dk_42 (dk_at dksX2_init_0 0 rfl rfl)
theorem dX2_init_1 : decode cX2_init 1 = .ok (.aload_n 1, 1) := dk_43 (dk_at dksX2_init_0 1 rfl rfl)
theorem dX2_init_2 : decode cX2_init 2 = .ok (.putfield 3, 3) := dk_181 0 3 (dk_at dksX2_init_0 2 rfl rfl)
theorem dX2_init_5 : decode cX2_init 5 = .ok (.aload_n 0, 1) := dk_42 (dk_at dksX2_init_0 5 rfl rfl)
theorem dX2_init_6 : decode cX2_init 6 = .ok (.invokespecial 9, 3) := dk_183 0 9 (dk_at dksX2_init_0 6 rfl rfl)
theorem dX2_init_9 : decode cX2_init 9 = .ok (.aload_n 0, 1) := dk_42 (dk_at dksX2_init_0 9 rfl rfl)
theorem dX2_init_10 : decode cX2_init 10 = .ok (.bipush 12, 2) := dk_16 12 (dk_at dksX2_init_0 10 rfl rfl)
theorem dX2_init_12 : decode cX2_init 12 = .ok (.newarray .int, 2) := dk_188_10 (dk_at dksX2_init_0 12 rfl rfl)
theorem dX2_init_14 : decode cX2_init 14 = .ok (.putfield 15, 3) := dk_181 0 15 (dk_at dksX2_init_0 14 rfl rfl)
theorem dX2_init_17 : decode cX2_init 17 = .ok (.aload_n 0, 1) := dk_42 (dk_at dksX2_init_0 17 rfl rfl)
theorem dX2_init_18 : decode cX2_init 18 = .ok (.bipush 30, 2) := dk_16 30 (dk_at dksX2_init_0 18 rfl rfl)
theorem dX2_init_20 : decode cX2_init 20 = .ok (.newarray .int, 2) := dk_188_10 (dk_at dksX2_init_0 20 rfl rfl)
theorem dX2_init_22 : decode cX2_init 22 = .ok (.putfield 19, 3) := dk_181 0 19 (dk_at dksX2_init_1 0 rfl rfl)
theorem dX2_init_25 : decode cX2_init 25 = .ok (.aload_n 0, 1) := dk_42 (dk_at dksX2_init_1 3 rfl rfl)
theorem dX2_init_26 : decode cX2_init 26 = .ok (.bipush 12, 2) := dk_16 12 (dk_at dksX2_init_1 4 rfl rfl)
theorem dX2_init_28 : decode cX2_init 28 = .ok (.newarray .int, 2) := dk_188_10 (dk_at dksX2_init_1 6 rfl rfl)
theorem dX2_init_30 : decode cX2_init 30 = .ok (.putfield 22, 3) := dk_181 0 22 (dk_at dksX2_init_1 8 rfl rfl)
theorem dX2_init_33 : decode cX2_init 33 = .ok (.aload_n 0, 1) := dk_42 (dk_at dksX2_init_1 11 rfl rfl)
theorem dX2_init_34 : decode cX2_init 34 = .ok (.bipush 12, 2) := dk_16 12 (dk_at dksX2_init_1 12 rfl rfl)
theorem dX2_init_36 : decode cX2_init 36 = .ok (.newarray .int, 2) := dk_188_10 (dk_at dksX2_init_1 14 rfl rfl)
theorem dX2_init_38 : decode cX2_init 38 = .ok (.putfield 25, 3) := dk_181 0 25 (dk_at dksX2_init_1 16 rfl rfl)
theorem dX2_init_41 : decode cX2_init 41 = .ok (.aload_n 0, 1) := dk_42 (dk_at dksX2_init_1 19 rfl rfl)
theorem dX2_init_42 : decode cX2_init 42 = .ok (.bipush 12, 2) := dk_16 12 (dk_at dksX2_init_1 20 rfl rfl)
theorem dX2_init_44 : decode cX2_init 44 = .ok (.newarray .int, 2) := dk_188_10 (dk_at dksX2_init_1 22 rfl rfl)
theorem dX2_init_46 : decode cX2_init 46 = .ok (.putfield 28, 3) := dk_181 0 28 (dk_at dksX2_init_2 0 rfl rfl)
theorem dX2_init_49 : decode cX2_init 49 = .ok (.aload_n 0, 1) := dk_42 (dk_at dksX2_init_2 3 rfl rfl)
theorem dX2_init_50 : decode cX2_init 50 = .ok (.bipush 13, 2) := dk_16 13 (dk_at dksX2_init_2 4 rfl rfl)
theorem dX2_init_52 : decode cX2_init 52 = .ok (.newarray .int, 2) := dk_188_10 (dk_at dksX2_init_2 6 rfl rfl)
theorem dX2_init_54 : decode cX2_init 54 = .ok (.putfield 31, 3) := dk_181 0 31 (dk_at dksX2_init_2 8 rfl rfl)
theorem dX2_init_57 : decode cX2_init 57 = .ok (.aload_n 0, 1) := dk_42 (dk_at dksX2_init_2 11 rfl rfl)
theorem dX2_init_58 : decode cX2_init 58 = .ok (.bipush 13, 2) := dk_16 13 (dk_at dksX2_init_2 12 rfl rfl)
theorem dX2_init_60 : decode cX2_init 60 = .ok (.newarray .int, 2) := dk_188_10 (dk_at dksX2_init_2 14 rfl rfl)
theorem dX2_init_62 : decode cX2_init 62 = .ok (.putfield 34, 3) := dk_181 0 34 (dk_at dksX2_init_2 16 rfl rfl)
theorem dX2_init_65 : decode cX2_init 65 = .ok (.return_, 1) := dk_177 (dk_at dksX2_init_2 19 rfl rfl)
def dkwX2_runs_7 : List UInt8 := [167, 255, 229, 177]
abbrev dktX2_runs_7 : List UInt8 := dkwX2_runs_7 ++ []
def dkwX2_runs_6 : List UInt8 := [180, 0, 82, 162, 0, 22, 42, 42, 180, 0, 3, 180, 0, 85, 28, 46, 182, 0, 88, 132, 2, 1]
abbrev dktX2_runs_6 : List UInt8 := dkwX2_runs_6 ++ dktX2_runs_7
def dkwX2_runs_5 : List UInt8 := [182, 0, 73, 192, 0, 77, 180, 0, 79, 79, 132, 2, 1, 167, 255, 216, 3, 61, 28, 42, 180, 0, 3]
abbrev dktX2_runs_5 : List UInt8 := dkwX2_runs_5 ++ dktX2_runs_6
def dkwX2_runs_4 : List UInt8 := [180, 0, 70, 182, 0, 64, 162, 0, 32, 42, 180, 0, 19, 28, 42, 180, 0, 3, 180, 0, 70, 28]
abbrev dktX2_runs_4 : List UInt8 := dkwX2_runs_4 ++ dktX2_runs_5
def dkwX2_runs_3 : List UInt8 := [28, 3, 79, 42, 180, 0, 28, 28, 3, 79, 132, 2, 1, 167, 255, 211, 3, 61, 28, 42, 180, 0, 3]
abbrev dktX2_runs_3 : List UInt8 := dkwX2_runs_3 ++ dktX2_runs_4
def dkwX2_runs_2 : List UInt8 := [182, 0, 64, 162, 0, 37, 42, 180, 0, 15, 28, 3, 79, 42, 180, 0, 22, 28, 3, 79, 42, 180, 0, 25]
abbrev dktX2_runs_2 : List UInt8 := dkwX2_runs_2 ++ dktX2_runs_3
def dkwX2_runs_1 : List UInt8 := [181, 0, 51, 42, 3, 181, 0, 54, 42, 3, 181, 0, 57, 3, 61, 28, 42, 180, 0, 3, 180, 0, 60]
abbrev dktX2_runs_1 : List UInt8 := dkwX2_runs_1 ++ dktX2_runs_2
def dkwX2_runs_0 : List UInt8 := [42, 27, 181, 0, 37, 42, 9, 181, 0, 41, 42, 9, 181, 0, 45, 42, 9, 181, 0, 48, 42, 9]
abbrev dktX2_runs_0 : List UInt8 := dkwX2_runs_0 ++ dktX2_runs_1
theorem dksX2_runs_0 : cX2_runs.data.toList.drop 0 = dktX2_runs_0 := by decide +kernel
theorem dksX2_runs_1 : cX2_runs.data.toList.drop 22 = dktX2_runs_1 := dk_seg dksX2_runs_0 22 rfl rfl
theorem dksX2_runs_2 : cX2_runs.data.toList.drop 45 = dktX2_runs_2 := dk_seg dksX2_runs_1 23 rfl rfl
theorem dksX2_runs_3 : cX2_runs.data.toList.drop 69 = dktX2_runs_3 := dk_seg dksX2_runs_2 24 rfl rfl
theorem dksX2_runs_4 : cX2_runs.data.toList.drop 92 = dktX2_runs_4 := dk_seg dksX2_runs_3 23 rfl rfl
theorem dksX2_runs_5 : cX2_runs.data.toList.drop 114 = dktX2_runs_5 := dk_seg dksX2_runs_4 22 rfl rfl
theorem dksX2_runs_6 : cX2_runs.data.toList.drop 137 = dktX2_runs_6 := dk_seg dksX2_runs_5 23 rfl rfl
theorem dksX2_runs_7 : cX2_runs.data.toList.drop 159 = dktX2_runs_7 := dk_seg dksX2_runs_6 22 rfl rfl
theorem dX2_runs_0 : decode cX2_runs 0 = .ok (.aload_n 0, 1) := dk_42 (dk_at dksX2_runs_0 0 rfl rfl)
theorem dX2_runs_1 : decode cX2_runs 1 = .ok (.iload_n 1, 1) := dk_27 (dk_at dksX2_runs_0 1 rfl rfl)
theorem dX2_runs_2 : decode cX2_runs 2 = .ok (.putfield 37, 3) := dk_181 0 37 (dk_at dksX2_runs_0 2 rfl rfl)
theorem dX2_runs_5 : decode cX2_runs 5 = .ok (.aload_n 0, 1) := dk_42 (dk_at dksX2_runs_0 5 rfl rfl)
theorem dX2_runs_6 : decode cX2_runs 6 = .ok (.lconst 0, 1) := dk_9 (dk_at dksX2_runs_0 6 rfl rfl)
theorem dX2_runs_7 : decode cX2_runs 7 = .ok (.putfield 41, 3) := dk_181 0 41 (dk_at dksX2_runs_0 7 rfl rfl)
theorem dX2_runs_10 : decode cX2_runs 10 = .ok (.aload_n 0, 1) := dk_42 (dk_at dksX2_runs_0 10 rfl rfl)
theorem dX2_runs_11 : decode cX2_runs 11 = .ok (.lconst 0, 1) := dk_9 (dk_at dksX2_runs_0 11 rfl rfl)
theorem dX2_runs_12 : decode cX2_runs 12 = .ok (.putfield 45, 3) := dk_181 0 45 (dk_at dksX2_runs_0 12 rfl rfl)
theorem dX2_runs_15 : decode cX2_runs 15 = .ok (.aload_n 0, 1) := dk_42 (dk_at dksX2_runs_0 15 rfl rfl)
theorem dX2_runs_16 : decode cX2_runs 16 = .ok (.lconst 0, 1) := dk_9 (dk_at dksX2_runs_0 16 rfl rfl)
theorem dX2_runs_17 : decode cX2_runs 17 = .ok (.putfield 48, 3) := dk_181 0 48 (dk_at dksX2_runs_0 17 rfl rfl)
theorem dX2_runs_20 : decode cX2_runs 20 = .ok (.aload_n 0, 1) := dk_42 (dk_at dksX2_runs_0 20 rfl rfl)
theorem dX2_runs_21 : decode cX2_runs 21 = .ok (.lconst 0, 1) := dk_9 (dk_at dksX2_runs_0 21 rfl rfl)
theorem dX2_runs_22 : decode cX2_runs 22 = .ok (.putfield 51, 3) := dk_181 0 51 (dk_at dksX2_runs_1 0 rfl rfl)
theorem dX2_runs_25 : decode cX2_runs 25 = .ok (.aload_n 0, 1) := dk_42 (dk_at dksX2_runs_1 3 rfl rfl)
theorem dX2_runs_26 : decode cX2_runs 26 = .ok (.iconst 0, 1) := dk_3 (dk_at dksX2_runs_1 4 rfl rfl)
theorem dX2_runs_27 : decode cX2_runs 27 = .ok (.putfield 54, 3) := dk_181 0 54 (dk_at dksX2_runs_1 5 rfl rfl)
theorem dX2_runs_30 : decode cX2_runs 30 = .ok (.aload_n 0, 1) := dk_42 (dk_at dksX2_runs_1 8 rfl rfl)
theorem dX2_runs_31 : decode cX2_runs 31 = .ok (.iconst 0, 1) := dk_3 (dk_at dksX2_runs_1 9 rfl rfl)
theorem dX2_runs_32 : decode cX2_runs 32 = .ok (.putfield 57, 3) := dk_181 0 57 (dk_at dksX2_runs_1 10 rfl rfl)
theorem dX2_runs_35 : decode cX2_runs 35 = .ok (.iconst 0, 1) := dk_3 (dk_at dksX2_runs_1 13 rfl rfl)
theorem dX2_runs_36 : decode cX2_runs 36 = .ok (.istore_n 2, 1) := dk_61 (dk_at dksX2_runs_1 14 rfl rfl)
theorem dX2_runs_37 : decode cX2_runs 37 = .ok (.iload_n 2, 1) := dk_28 (dk_at dksX2_runs_1 15 rfl rfl)
theorem dX2_runs_38 : decode cX2_runs 38 = .ok (.aload_n 0, 1) := dk_42 (dk_at dksX2_runs_1 16 rfl rfl)
theorem dX2_runs_39 : decode cX2_runs 39 = .ok (.getfield 3, 3) := dk_180 0 3 (dk_at dksX2_runs_1 17 rfl rfl)
theorem dX2_runs_42 : decode cX2_runs 42 = .ok (.getfield 60, 3) := dk_180 0 60 (dk_at dksX2_runs_1 20 rfl rfl)
theorem dX2_runs_45 : decode cX2_runs 45 = .ok (.invokevirtual 64, 3) := dk_182 0 64 (dk_at dksX2_runs_2 0 rfl rfl)
theorem dX2_runs_48 : decode cX2_runs 48 = .ok (.if_icmp .ge 37, 3) := dk_162 0 37 (dk_at dksX2_runs_2 3 rfl rfl)
theorem dX2_runs_51 : decode cX2_runs 51 = .ok (.aload_n 0, 1) := dk_42 (dk_at dksX2_runs_2 6 rfl rfl)
theorem dX2_runs_52 : decode cX2_runs 52 = .ok (.getfield 15, 3) := dk_180 0 15 (dk_at dksX2_runs_2 7 rfl rfl)
theorem dX2_runs_55 : decode cX2_runs 55 = .ok (.iload_n 2, 1) := dk_28 (dk_at dksX2_runs_2 10 rfl rfl)
theorem dX2_runs_56 : decode cX2_runs 56 = .ok (.iconst 0, 1) := dk_3 (dk_at dksX2_runs_2 11 rfl rfl)
theorem dX2_runs_57 : decode cX2_runs 57 = .ok (.iastore, 1) := dk_79 (dk_at dksX2_runs_2 12 rfl rfl)
theorem dX2_runs_58 : decode cX2_runs 58 = .ok (.aload_n 0, 1) := dk_42 (dk_at dksX2_runs_2 13 rfl rfl)
theorem dX2_runs_59 : decode cX2_runs 59 = .ok (.getfield 22, 3) := dk_180 0 22 (dk_at dksX2_runs_2 14 rfl rfl)
theorem dX2_runs_62 : decode cX2_runs 62 = .ok (.iload_n 2, 1) := dk_28 (dk_at dksX2_runs_2 17 rfl rfl)
theorem dX2_runs_63 : decode cX2_runs 63 = .ok (.iconst 0, 1) := dk_3 (dk_at dksX2_runs_2 18 rfl rfl)
theorem dX2_runs_64 : decode cX2_runs 64 = .ok (.iastore, 1) := dk_79 (dk_at dksX2_runs_2 19 rfl rfl)
theorem dX2_runs_65 : decode cX2_runs 65 = .ok (.aload_n 0, 1) := dk_42 (dk_at dksX2_runs_2 20 rfl rfl)
theorem dX2_runs_66 : decode cX2_runs 66 = .ok (.getfield 25, 3) := dk_180 0 25 (dk_at dksX2_runs_2 21 rfl rfl)
theorem dX2_runs_69 : decode cX2_runs 69 = .ok (.iload_n 2, 1) := dk_28 (dk_at dksX2_runs_3 0 rfl rfl)
theorem dX2_runs_70 : decode cX2_runs 70 = .ok (.iconst 0, 1) := dk_3 (dk_at dksX2_runs_3 1 rfl rfl)
theorem dX2_runs_71 : decode cX2_runs 71 = .ok (.iastore, 1) := dk_79 (dk_at dksX2_runs_3 2 rfl rfl)
theorem dX2_runs_72 : decode cX2_runs 72 = .ok (.aload_n 0, 1) := dk_42 (dk_at dksX2_runs_3 3 rfl rfl)
theorem dX2_runs_73 : decode cX2_runs 73 = .ok (.getfield 28, 3) := dk_180 0 28 (dk_at dksX2_runs_3 4 rfl rfl)
theorem dX2_runs_76 : decode cX2_runs 76 = .ok (.iload_n 2, 1) := dk_28 (dk_at dksX2_runs_3 7 rfl rfl)
theorem dX2_runs_77 : decode cX2_runs 77 = .ok (.iconst 0, 1) := dk_3 (dk_at dksX2_runs_3 8 rfl rfl)
theorem dX2_runs_78 : decode cX2_runs 78 = .ok (.iastore, 1) := dk_79 (dk_at dksX2_runs_3 9 rfl rfl)
theorem dX2_runs_79 : decode cX2_runs 79 = .ok (.iinc 2 1, 3) := dk_132 2 1 (dk_at dksX2_runs_3 10 rfl rfl)
theorem dX2_runs_82 : decode cX2_runs 82 = .ok (.goto (-45), 3) := dk_167 255 211 (dk_at dksX2_runs_3 13 rfl rfl)
theorem dX2_runs_85 : decode cX2_runs 85 = .ok (.iconst 0, 1) := dk_3 (dk_at dksX2_runs_3 16 rfl rfl)
theorem dX2_runs_86 : decode cX2_runs 86 = .ok (.istore_n 2, 1) := dk_61 (dk_at dksX2_runs_3 17 rfl rfl)
theorem dX2_runs_87 : decode cX2_runs 87 = .ok (.iload_n 2, 1) := dk_28 (dk_at dksX2_runs_3 18 rfl rfl)
theorem dX2_runs_88 : decode cX2_runs 88 = .ok (.aload_n 0, 1) := dk_42 (dk_at dksX2_runs_3 19 rfl rfl)
theorem dX2_runs_89 : decode cX2_runs 89 = .ok (.getfield 3, 3) := dk_180 0 3 (dk_at dksX2_runs_3 20 rfl rfl)
theorem dX2_runs_92 : decode cX2_runs 92 = .ok (.getfield 70, 3) := dk_180 0 70 (dk_at dksX2_runs_4 0 rfl rfl)
theorem dX2_runs_95 : decode cX2_runs 95 = .ok (.invokevirtual 64, 3) := dk_182 0 64 (dk_at dksX2_runs_4 3 rfl rfl)
theorem dX2_runs_98 : decode cX2_runs 98 = .ok (.if_icmp .ge 32, 3) := dk_162 0 32 (dk_at dksX2_runs_4 6 rfl rfl)
theorem dX2_runs_101 : decode cX2_runs 101 = .ok (.aload_n 0, 1) := dk_42 (dk_at dksX2_runs_4 9 rfl rfl)
theorem dX2_runs_102 : decode cX2_runs 102 = .ok (.getfield 19, 3) := dk_180 0 19 (dk_at dksX2_runs_4 10 rfl rfl)
theorem dX2_runs_105 : decode cX2_runs 105 = .ok (.iload_n 2, 1) := dk_28 (dk_at dksX2_runs_4 13 rfl rfl)
theorem dX2_runs_106 : decode cX2_runs 106 = .ok (.aload_n 0, 1) := dk_42 (dk_at dksX2_runs_4 14 rfl rfl)
theorem dX2_runs_107 : decode cX2_runs 107 = .ok (.getfield 3, 3) := dk_180 0 3 (dk_at dksX2_runs_4 15 rfl rfl)
theorem dX2_runs_110 : decode cX2_runs 110 = .ok (.getfield 70, 3) := dk_180 0 70 (dk_at dksX2_runs_4 18 rfl rfl)
theorem dX2_runs_113 : decode cX2_runs 113 = .ok (.iload_n 2, 1) := dk_28 (dk_at dksX2_runs_4 21 rfl rfl)
theorem dX2_runs_114 : decode cX2_runs 114 = .ok (.invokevirtual 73, 3) := dk_182 0 73 (dk_at dksX2_runs_5 0 rfl rfl)
theorem dX2_runs_117 : decode cX2_runs 117 = .ok (.checkcast 77, 3) := dk_192 0 77 (dk_at dksX2_runs_5 3 rfl rfl)
theorem dX2_runs_120 : decode cX2_runs 120 = .ok (.getfield 79, 3) := dk_180 0 79 (dk_at dksX2_runs_5 6 rfl rfl)
theorem dX2_runs_123 : decode cX2_runs 123 = .ok (.iastore, 1) := dk_79 (dk_at dksX2_runs_5 9 rfl rfl)
theorem dX2_runs_124 : decode cX2_runs 124 = .ok (.iinc 2 1, 3) := dk_132 2 1 (dk_at dksX2_runs_5 10 rfl rfl)
theorem dX2_runs_127 : decode cX2_runs 127 = .ok (.goto (-40), 3) := dk_167 255 216 (dk_at dksX2_runs_5 13 rfl rfl)
theorem dX2_runs_130 : decode cX2_runs 130 = .ok (.iconst 0, 1) := dk_3 (dk_at dksX2_runs_5 16 rfl rfl)
theorem dX2_runs_131 : decode cX2_runs 131 = .ok (.istore_n 2, 1) := dk_61 (dk_at dksX2_runs_5 17 rfl rfl)
theorem dX2_runs_132 : decode cX2_runs 132 = .ok (.iload_n 2, 1) := dk_28 (dk_at dksX2_runs_5 18 rfl rfl)
theorem dX2_runs_133 : decode cX2_runs 133 = .ok (.aload_n 0, 1) := dk_42 (dk_at dksX2_runs_5 19 rfl rfl)
theorem dX2_runs_134 : decode cX2_runs 134 = .ok (.getfield 3, 3) := dk_180 0 3 (dk_at dksX2_runs_5 20 rfl rfl)
theorem dX2_runs_137 : decode cX2_runs 137 = .ok (.getfield 82, 3) := dk_180 0 82 (dk_at dksX2_runs_6 0 rfl rfl)
theorem dX2_runs_140 : decode cX2_runs 140 = .ok (.if_icmp .ge 22, 3) := dk_162 0 22 (dk_at dksX2_runs_6 3 rfl rfl)
theorem dX2_runs_143 : decode cX2_runs 143 = .ok (.aload_n 0, 1) := dk_42 (dk_at dksX2_runs_6 6 rfl rfl)
theorem dX2_runs_144 : decode cX2_runs 144 = .ok (.aload_n 0, 1) := dk_42 (dk_at dksX2_runs_6 7 rfl rfl)
theorem dX2_runs_145 : decode cX2_runs 145 = .ok (.getfield 3, 3) := dk_180 0 3 (dk_at dksX2_runs_6 8 rfl rfl)
theorem dX2_runs_148 : decode cX2_runs 148 = .ok (.getfield 85, 3) := dk_180 0 85 (dk_at dksX2_runs_6 11 rfl rfl)
theorem dX2_runs_151 : decode cX2_runs 151 = .ok (.iload_n 2, 1) := dk_28 (dk_at dksX2_runs_6 14 rfl rfl)
theorem dX2_runs_152 : decode cX2_runs 152 = .ok (.iaload, 1) := dk_46 (dk_at dksX2_runs_6 15 rfl rfl)
theorem dX2_runs_153 : decode cX2_runs 153 = .ok (.invokevirtual 88, 3) := dk_182 0 88 (dk_at dksX2_runs_6 16 rfl rfl)
theorem dX2_runs_156 : decode cX2_runs 156 = .ok (.iinc 2 1, 3) := dk_132 2 1 (dk_at dksX2_runs_6 19 rfl rfl)
theorem dX2_runs_159 : decode cX2_runs 159 = .ok (.goto (-27), 3) := dk_167 255 229 (dk_at dksX2_runs_7 0 rfl rfl)
theorem dX2_runs_162 : decode cX2_runs 162 = .ok (.return_, 1) := dk_177 (dk_at dksX2_runs_7 3 rfl rfl)
def dkwX2_minute_13 : List UInt8 := [181, 0, 51, 42, 42, 180, 0, 57, 42, 180, 0, 31, 28, 46, 184, 0, 107, 181, 0, 57, 177]
abbrev dktX2_minute_13 : List UInt8 := dkwX2_minute_13 ++ []
def dkwX2_minute_12 : List UInt8 := [96, 181, 0, 54, 132, 3, 1, 167, 255, 8, 42, 89, 180, 0, 51, 42, 180, 0, 31, 28, 46, 133, 97]
abbrev dktX2_minute_12 : List UInt8 := dkwX2_minute_12 ++ dktX2_minute_13
def dkwX2_minute_11 : List UInt8 := [25, 4, 180, 0, 116, 164, 0, 23, 42, 180, 0, 25, 29, 92, 46, 4, 96, 79, 42, 89, 180, 0, 54, 4]
abbrev dktX2_minute_11 : List UInt8 := dkwX2_minute_11 ++ dktX2_minute_12
def dkwX2_minute_10 : List UInt8 := [180, 0, 28, 29, 46, 21, 6, 21, 7, 100, 184, 0, 107, 79, 25, 4, 180, 0, 116, 158, 0, 33, 21, 7]
abbrev dktX2_minute_10 : List UInt8 := dkwX2_minute_10 ++ dktX2_minute_11
def dkwX2_minute_9 : List UInt8 := [96, 79, 42, 89, 180, 0, 48, 21, 7, 21, 9, 100, 133, 97, 181, 0, 48, 42, 180, 0, 28, 29, 42]
abbrev dktX2_minute_9 : List UInt8 := dkwX2_minute_9 ++ dktX2_minute_10
def dkwX2_minute_8 : List UInt8 := [42, 180, 0, 34, 21, 8, 92, 46, 21, 9, 96, 79, 42, 180, 0, 22, 29, 92, 46, 21, 7, 21, 9, 100]
abbrev dktX2_minute_8 : List UInt8 := dkwX2_minute_8 ++ dktX2_minute_9
def dkwX2_minute_7 : List UInt8 := [167, 0, 7, 21, 7, 5, 108, 54, 9, 42, 180, 0, 31, 21, 8, 92, 46, 21, 6, 21, 7, 100, 96, 79]
abbrev dktX2_minute_7 : List UInt8 := dkwX2_minute_7 ++ dktX2_minute_8
def dkwX2_minute_6 : List UInt8 := [180, 0, 113, 156, 0, 7, 28, 167, 0, 8, 25, 4, 180, 0, 113, 54, 8, 21, 8, 28, 160, 0, 7, 3]
abbrev dktX2_minute_6 : List UInt8 := dkwX2_minute_6 ++ dktX2_minute_7
def dkwX2_minute_5 : List UInt8 := [182, 0, 101, 100, 54, 6, 3, 21, 6, 25, 4, 180, 0, 104, 100, 184, 0, 107, 54, 7, 25, 4]
abbrev dktX2_minute_5 : List UInt8 := dkwX2_minute_5 ++ dktX2_minute_6
def dkwX2_minute_4 : List UInt8 := [180, 0, 94, 104, 133, 97, 181, 0, 41, 42, 180, 0, 31, 29, 46, 21, 5, 96, 42, 25, 4, 21, 5]
abbrev dktX2_minute_4 : List UInt8 := dkwX2_minute_4 ++ dktX2_minute_5
def dkwX2_minute_3 : List UInt8 := [180, 0, 94, 104, 96, 42, 25, 4, 27, 182, 0, 97, 96, 54, 5, 42, 89, 180, 0, 41, 27, 25, 4]
abbrev dktX2_minute_3 : List UInt8 := dkwX2_minute_3 ++ dktX2_minute_4
def dkwX2_minute_2 : List UInt8 := [180, 0, 3, 180, 0, 60, 29, 182, 0, 73, 192, 0, 92, 58, 4, 42, 180, 0, 34, 29, 46, 27, 25, 4]
abbrev dktX2_minute_2 : List UInt8 := dkwX2_minute_2 ++ dktX2_minute_3
def dkwX2_minute_1 : List UInt8 := [79, 42, 180, 0, 34, 29, 3, 79, 132, 3, 1, 167, 255, 234, 3, 62, 29, 28, 162, 0, 249, 42]
abbrev dktX2_minute_1 : List UInt8 := dkwX2_minute_1 ++ dktX2_minute_2
def dkwX2_minute_0 : List UInt8 := [42, 180, 0, 3, 180, 0, 60, 182, 0, 64, 61, 3, 62, 29, 28, 163, 0, 23, 42, 180, 0, 31, 29, 3]
abbrev dktX2_minute_0 : List UInt8 := dkwX2_minute_0 ++ dktX2_minute_1
theorem dksX2_minute_0 : cX2_minute.data.toList.drop 0 = dktX2_minute_0 := by decide +kernel
theorem dksX2_minute_1 : cX2_minute.data.toList.drop 24 = dktX2_minute_1 := dk_seg dksX2_minute_0 24 rfl rfl
theorem dksX2_minute_2 : cX2_minute.data.toList.drop 46 = dktX2_minute_2 := dk_seg dksX2_minute_1 22 rfl rfl
theorem dksX2_minute_3 : cX2_minute.data.toList.drop 70 = dktX2_minute_3 := dk_seg dksX2_minute_2 24 rfl rfl
theorem dksX2_minute_4 : cX2_minute.data.toList.drop 93 = dktX2_minute_4 := dk_seg dksX2_minute_3 23 rfl rfl
theorem dksX2_minute_5 : cX2_minute.data.toList.drop 116 = dktX2_minute_5 := dk_seg dksX2_minute_4 23 rfl rfl
theorem dksX2_minute_6 : cX2_minute.data.toList.drop 138 = dktX2_minute_6 := dk_seg dksX2_minute_5 22 rfl rfl
theorem dksX2_minute_7 : cX2_minute.data.toList.drop 162 = dktX2_minute_7 := dk_seg dksX2_minute_6 24 rfl rfl
theorem dksX2_minute_8 : cX2_minute.data.toList.drop 186 = dktX2_minute_8 := dk_seg dksX2_minute_7 24 rfl rfl
theorem dksX2_minute_9 : cX2_minute.data.toList.drop 210 = dktX2_minute_9 := dk_seg dksX2_minute_8 24 rfl rfl
theorem dksX2_minute_10 : cX2_minute.data.toList.drop 233 = dktX2_minute_10 := dk_seg dksX2_minute_9 23 rfl rfl
theorem dksX2_minute_11 : cX2_minute.data.toList.drop 257 = dktX2_minute_11 := dk_seg dksX2_minute_10 24 rfl rfl
theorem dksX2_minute_12 : cX2_minute.data.toList.drop 281 = dktX2_minute_12 := dk_seg dksX2_minute_11 24 rfl rfl
theorem dksX2_minute_13 : cX2_minute.data.toList.drop 304 = dktX2_minute_13 := dk_seg dksX2_minute_12 23 rfl rfl
theorem dX2_minute_0 : decode cX2_minute 0 = .ok (.aload_n 0, 1) := dk_42 (dk_at dksX2_minute_0 0 rfl rfl)
theorem dX2_minute_1 : decode cX2_minute 1 = .ok (.getfield 3, 3) := dk_180 0 3 (dk_at dksX2_minute_0 1 rfl rfl)
theorem dX2_minute_4 : decode cX2_minute 4 = .ok (.getfield 60, 3) := dk_180 0 60 (dk_at dksX2_minute_0 4 rfl rfl)
theorem dX2_minute_7 : decode cX2_minute 7 = .ok (.invokevirtual 64, 3) := dk_182 0 64 (dk_at dksX2_minute_0 7 rfl rfl)
theorem dX2_minute_10 : decode cX2_minute 10 = .ok (.istore_n 2, 1) := dk_61 (dk_at dksX2_minute_0 10 rfl rfl)
theorem dX2_minute_11 : decode cX2_minute 11 = .ok (.iconst 0, 1) := dk_3 (dk_at dksX2_minute_0 11 rfl rfl)
theorem dX2_minute_12 : decode cX2_minute 12 = .ok (.istore_n 3, 1) := dk_62 (dk_at dksX2_minute_0 12 rfl rfl)
theorem dX2_minute_13 : decode cX2_minute 13 = .ok (.iload_n 3, 1) := dk_29 (dk_at dksX2_minute_0 13 rfl rfl)
theorem dX2_minute_14 : decode cX2_minute 14 = .ok (.iload_n 2, 1) := dk_28 (dk_at dksX2_minute_0 14 rfl rfl)
theorem dX2_minute_15 : decode cX2_minute 15 = .ok (.if_icmp .gt 23, 3) := dk_163 0 23 (dk_at dksX2_minute_0 15 rfl rfl)
theorem dX2_minute_18 : decode cX2_minute 18 = .ok (.aload_n 0, 1) := dk_42 (dk_at dksX2_minute_0 18 rfl rfl)
theorem dX2_minute_19 : decode cX2_minute 19 = .ok (.getfield 31, 3) := dk_180 0 31 (dk_at dksX2_minute_0 19 rfl rfl)
theorem dX2_minute_22 : decode cX2_minute 22 = .ok (.iload_n 3, 1) := dk_29 (dk_at dksX2_minute_0 22 rfl rfl)
theorem dX2_minute_23 : decode cX2_minute 23 = .ok (.iconst 0, 1) := dk_3 (dk_at dksX2_minute_0 23 rfl rfl)
theorem dX2_minute_24 : decode cX2_minute 24 = .ok (.iastore, 1) := dk_79 (dk_at dksX2_minute_1 0 rfl rfl)
theorem dX2_minute_25 : decode cX2_minute 25 = .ok (.aload_n 0, 1) := dk_42 (dk_at dksX2_minute_1 1 rfl rfl)
theorem dX2_minute_26 : decode cX2_minute 26 = .ok (.getfield 34, 3) := dk_180 0 34 (dk_at dksX2_minute_1 2 rfl rfl)
theorem dX2_minute_29 : decode cX2_minute 29 = .ok (.iload_n 3, 1) := dk_29 (dk_at dksX2_minute_1 5 rfl rfl)
theorem dX2_minute_30 : decode cX2_minute 30 = .ok (.iconst 0, 1) := dk_3 (dk_at dksX2_minute_1 6 rfl rfl)
theorem dX2_minute_31 : decode cX2_minute 31 = .ok (.iastore, 1) := dk_79 (dk_at dksX2_minute_1 7 rfl rfl)
theorem dX2_minute_32 : decode cX2_minute 32 = .ok (.iinc 3 1, 3) := dk_132 3 1 (dk_at dksX2_minute_1 8 rfl rfl)
theorem dX2_minute_35 : decode cX2_minute 35 = .ok (.goto (-22), 3) := dk_167 255 234 (dk_at dksX2_minute_1 11 rfl rfl)
theorem dX2_minute_38 : decode cX2_minute 38 = .ok (.iconst 0, 1) := dk_3 (dk_at dksX2_minute_1 14 rfl rfl)
theorem dX2_minute_39 : decode cX2_minute 39 = .ok (.istore_n 3, 1) := dk_62 (dk_at dksX2_minute_1 15 rfl rfl)
theorem dX2_minute_40 : decode cX2_minute 40 = .ok (.iload_n 3, 1) := dk_29 (dk_at dksX2_minute_1 16 rfl rfl)
theorem dX2_minute_41 : decode cX2_minute 41 = .ok (.iload_n 2, 1) := dk_28 (dk_at dksX2_minute_1 17 rfl rfl)
theorem dX2_minute_42 : decode cX2_minute 42 = .ok (.if_icmp .ge 249, 3) := dk_162 0 249 (dk_at dksX2_minute_1 18 rfl rfl)
theorem dX2_minute_45 : decode cX2_minute 45 = .ok (.aload_n 0, 1) := dk_42 (dk_at dksX2_minute_1 21 rfl rfl)
theorem dX2_minute_46 : decode cX2_minute 46 = .ok (.getfield 3, 3) := dk_180 0 3 (dk_at dksX2_minute_2 0 rfl rfl)
theorem dX2_minute_49 : decode cX2_minute 49 = .ok (.getfield 60, 3) := dk_180 0 60 (dk_at dksX2_minute_2 3 rfl rfl)
theorem dX2_minute_52 : decode cX2_minute 52 = .ok (.iload_n 3, 1) := dk_29 (dk_at dksX2_minute_2 6 rfl rfl)
theorem dX2_minute_53 : decode cX2_minute 53 = .ok (.invokevirtual 73, 3) := dk_182 0 73 (dk_at dksX2_minute_2 7 rfl rfl)
theorem dX2_minute_56 : decode cX2_minute 56 = .ok (.checkcast 92, 3) := dk_192 0 92 (dk_at dksX2_minute_2 10 rfl rfl)
theorem dX2_minute_59 : decode cX2_minute 59 = .ok (.astore 4, 2) := dk_58 4 (dk_at dksX2_minute_2 13 rfl rfl)
theorem dX2_minute_61 : decode cX2_minute 61 = .ok (.aload_n 0, 1) := dk_42 (dk_at dksX2_minute_2 15 rfl rfl)
theorem dX2_minute_62 : decode cX2_minute 62 = .ok (.getfield 34, 3) := dk_180 0 34 (dk_at dksX2_minute_2 16 rfl rfl)
theorem dX2_minute_65 : decode cX2_minute 65 = .ok (.iload_n 3, 1) := dk_29 (dk_at dksX2_minute_2 19 rfl rfl)
theorem dX2_minute_66 : decode cX2_minute 66 = .ok (.iaload, 1) := dk_46 (dk_at dksX2_minute_2 20 rfl rfl)
theorem dX2_minute_67 : decode cX2_minute 67 = .ok (.iload_n 1, 1) := dk_27 (dk_at dksX2_minute_2 21 rfl rfl)
theorem dX2_minute_68 : decode cX2_minute 68 = .ok (.aload 4, 2) := dk_25 4 (dk_at dksX2_minute_2 22 rfl rfl)
theorem dX2_minute_70 : decode cX2_minute 70 = .ok (.getfield 94, 3) := dk_180 0 94 (dk_at dksX2_minute_3 0 rfl rfl)
theorem dX2_minute_73 : decode cX2_minute 73 = .ok (.imul, 1) := dk_104 (dk_at dksX2_minute_3 3 rfl rfl)
theorem dX2_minute_74 : decode cX2_minute 74 = .ok (.iadd, 1) := dk_96 (dk_at dksX2_minute_3 4 rfl rfl)
theorem dX2_minute_75 : decode cX2_minute 75 = .ok (.aload_n 0, 1) := dk_42 (dk_at dksX2_minute_3 5 rfl rfl)
theorem dX2_minute_76 : decode cX2_minute 76 = .ok (.aload 4, 2) := dk_25 4 (dk_at dksX2_minute_3 6 rfl rfl)
theorem dX2_minute_78 : decode cX2_minute 78 = .ok (.iload_n 1, 1) := dk_27 (dk_at dksX2_minute_3 8 rfl rfl)
theorem dX2_minute_79 : decode cX2_minute 79 = .ok (.invokevirtual 97, 3) := dk_182 0 97 (dk_at dksX2_minute_3 9 rfl rfl)
theorem dX2_minute_82 : decode cX2_minute 82 = .ok (.iadd, 1) := dk_96 (dk_at dksX2_minute_3 12 rfl rfl)
theorem dX2_minute_83 : decode cX2_minute 83 = .ok (.istore 5, 2) := dk_54 5 (dk_at dksX2_minute_3 13 rfl rfl)
theorem dX2_minute_85 : decode cX2_minute 85 = .ok (.aload_n 0, 1) := dk_42 (dk_at dksX2_minute_3 15 rfl rfl)
theorem dX2_minute_86 : decode cX2_minute 86 = .ok (.dup, 1) := dk_89 (dk_at dksX2_minute_3 16 rfl rfl)
theorem dX2_minute_87 : decode cX2_minute 87 = .ok (.getfield 41, 3) := dk_180 0 41 (dk_at dksX2_minute_3 17 rfl rfl)
theorem dX2_minute_90 : decode cX2_minute 90 = .ok (.iload_n 1, 1) := dk_27 (dk_at dksX2_minute_3 20 rfl rfl)
theorem dX2_minute_91 : decode cX2_minute 91 = .ok (.aload 4, 2) := dk_25 4 (dk_at dksX2_minute_3 21 rfl rfl)
theorem dX2_minute_93 : decode cX2_minute 93 = .ok (.getfield 94, 3) := dk_180 0 94 (dk_at dksX2_minute_4 0 rfl rfl)
theorem dX2_minute_96 : decode cX2_minute 96 = .ok (.imul, 1) := dk_104 (dk_at dksX2_minute_4 3 rfl rfl)
theorem dX2_minute_97 : decode cX2_minute 97 = .ok (.i2l, 1) := dk_133 (dk_at dksX2_minute_4 4 rfl rfl)
theorem dX2_minute_98 : decode cX2_minute 98 = .ok (.ladd, 1) := dk_97 (dk_at dksX2_minute_4 5 rfl rfl)
theorem dX2_minute_99 : decode cX2_minute 99 = .ok (.putfield 41, 3) := dk_181 0 41 (dk_at dksX2_minute_4 6 rfl rfl)
theorem dX2_minute_102 : decode cX2_minute 102 = .ok (.aload_n 0, 1) := dk_42 (dk_at dksX2_minute_4 9 rfl rfl)
theorem dX2_minute_103 : decode cX2_minute 103 = .ok (.getfield 31, 3) := dk_180 0 31 (dk_at dksX2_minute_4 10 rfl rfl)
theorem dX2_minute_106 : decode cX2_minute 106 = .ok (.iload_n 3, 1) := dk_29 (dk_at dksX2_minute_4 13 rfl rfl)
theorem dX2_minute_107 : decode cX2_minute 107 = .ok (.iaload, 1) := dk_46 (dk_at dksX2_minute_4 14 rfl rfl)
theorem dX2_minute_108 : decode cX2_minute 108 = .ok (.iload 5, 2) := dk_21 5 (dk_at dksX2_minute_4 15 rfl rfl)
theorem dX2_minute_110 : decode cX2_minute 110 = .ok (.iadd, 1) := dk_96 (dk_at dksX2_minute_4 17 rfl rfl)
theorem dX2_minute_111 : decode cX2_minute 111 = .ok (.aload_n 0, 1) := dk_42 (dk_at dksX2_minute_4 18 rfl rfl)
theorem dX2_minute_112 : decode cX2_minute 112 = .ok (.aload 4, 2) := dk_25 4 (dk_at dksX2_minute_4 19 rfl rfl)
theorem dX2_minute_114 : decode cX2_minute 114 = .ok (.iload 5, 2) := dk_21 5 (dk_at dksX2_minute_4 21 rfl rfl)
theorem dX2_minute_116 : decode cX2_minute 116 = .ok (.invokevirtual 101, 3) := dk_182 0 101 (dk_at dksX2_minute_5 0 rfl rfl)
theorem dX2_minute_119 : decode cX2_minute 119 = .ok (.isub, 1) := dk_100 (dk_at dksX2_minute_5 3 rfl rfl)
theorem dX2_minute_120 : decode cX2_minute 120 = .ok (.istore 6, 2) := dk_54 6 (dk_at dksX2_minute_5 4 rfl rfl)
theorem dX2_minute_122 : decode cX2_minute 122 = .ok (.iconst 0, 1) := dk_3 (dk_at dksX2_minute_5 6 rfl rfl)
theorem dX2_minute_123 : decode cX2_minute 123 = .ok (.iload 6, 2) := dk_21 6 (dk_at dksX2_minute_5 7 rfl rfl)
theorem dX2_minute_125 : decode cX2_minute 125 = .ok (.aload 4, 2) := dk_25 4 (dk_at dksX2_minute_5 9 rfl rfl)
theorem dX2_minute_127 : decode cX2_minute 127 = .ok (.getfield 104, 3) := dk_180 0 104 (dk_at dksX2_minute_5 11 rfl rfl)
theorem dX2_minute_130 : decode cX2_minute 130 = .ok (.isub, 1) := dk_100 (dk_at dksX2_minute_5 14 rfl rfl)
theorem dX2_minute_131 : decode cX2_minute 131 = .ok (.invokestatic 107, 3) := dk_184 0 107 (dk_at dksX2_minute_5 15 rfl rfl)
theorem dX2_minute_134 : decode cX2_minute 134 = .ok (.istore 7, 2) := dk_54 7 (dk_at dksX2_minute_5 18 rfl rfl)
theorem dX2_minute_136 : decode cX2_minute 136 = .ok (.aload 4, 2) := dk_25 4 (dk_at dksX2_minute_5 20 rfl rfl)
theorem dX2_minute_138 : decode cX2_minute 138 = .ok (.getfield 113, 3) := dk_180 0 113 (dk_at dksX2_minute_6 0 rfl rfl)
theorem dX2_minute_141 : decode cX2_minute 141 = .ok (.ifCond .ge 7, 3) := dk_156 0 7 (dk_at dksX2_minute_6 3 rfl rfl)
theorem dX2_minute_144 : decode cX2_minute 144 = .ok (.iload_n 2, 1) := dk_28 (dk_at dksX2_minute_6 6 rfl rfl)
theorem dX2_minute_145 : decode cX2_minute 145 = .ok (.goto 8, 3) := dk_167 0 8 (dk_at dksX2_minute_6 7 rfl rfl)
theorem dX2_minute_148 : decode cX2_minute 148 = .ok (.aload 4, 2) := dk_25 4 (dk_at dksX2_minute_6 10 rfl rfl)
theorem dX2_minute_150 : decode cX2_minute 150 = .ok (.getfield 113, 3) := dk_180 0 113 (dk_at dksX2_minute_6 12 rfl rfl)
theorem dX2_minute_153 : decode cX2_minute 153 = .ok (.istore 8, 2) := dk_54 8 (dk_at dksX2_minute_6 15 rfl rfl)
theorem dX2_minute_155 : decode cX2_minute 155 = .ok (.iload 8, 2) := dk_21 8 (dk_at dksX2_minute_6 17 rfl rfl)
theorem dX2_minute_157 : decode cX2_minute 157 = .ok (.iload_n 2, 1) := dk_28 (dk_at dksX2_minute_6 19 rfl rfl)
theorem dX2_minute_158 : decode cX2_minute 158 = .ok (.if_icmp .ne 7, 3) := dk_160 0 7 (dk_at dksX2_minute_6 20 rfl rfl)
theorem dX2_minute_161 : decode cX2_minute 161 = .ok (.iconst 0, 1) := dk_3 (dk_at dksX2_minute_6 23 rfl rfl)
theorem dX2_minute_162 : decode cX2_minute 162 = .ok (.goto 7, 3) := dk_167 0 7 (dk_at dksX2_minute_7 0 rfl rfl)
theorem dX2_minute_165 : decode cX2_minute 165 = .ok (.iload 7, 2) := dk_21 7 (dk_at dksX2_minute_7 3 rfl rfl)
theorem dX2_minute_167 : decode cX2_minute 167 = .ok (.iconst 2, 1) := dk_5 (dk_at dksX2_minute_7 5 rfl rfl)
theorem dX2_minute_168 : decode cX2_minute 168 = .ok (.idiv, 1) := dk_108 (dk_at dksX2_minute_7 6 rfl rfl)
theorem dX2_minute_169 : decode cX2_minute 169 = .ok (.istore 9, 2) := dk_54 9 (dk_at dksX2_minute_7 7 rfl rfl)
theorem dX2_minute_171 : decode cX2_minute 171 = .ok (.aload_n 0, 1) := dk_42 (dk_at dksX2_minute_7 9 rfl rfl)
theorem dX2_minute_172 : decode cX2_minute 172 = .ok (.getfield 31, 3) := dk_180 0 31 (dk_at dksX2_minute_7 10 rfl rfl)
theorem dX2_minute_175 : decode cX2_minute 175 = .ok (.iload 8, 2) := dk_21 8 (dk_at dksX2_minute_7 13 rfl rfl)
theorem dX2_minute_177 : decode cX2_minute 177 = .ok (.dup2, 1) := dk_92 (dk_at dksX2_minute_7 15 rfl rfl)
theorem dX2_minute_178 : decode cX2_minute 178 = .ok (.iaload, 1) := dk_46 (dk_at dksX2_minute_7 16 rfl rfl)
theorem dX2_minute_179 : decode cX2_minute 179 = .ok (.iload 6, 2) := dk_21 6 (dk_at dksX2_minute_7 17 rfl rfl)
theorem dX2_minute_181 : decode cX2_minute 181 = .ok (.iload 7, 2) := dk_21 7 (dk_at dksX2_minute_7 19 rfl rfl)
theorem dX2_minute_183 : decode cX2_minute 183 = .ok (.isub, 1) := dk_100 (dk_at dksX2_minute_7 21 rfl rfl)
theorem dX2_minute_184 : decode cX2_minute 184 = .ok (.iadd, 1) := dk_96 (dk_at dksX2_minute_7 22 rfl rfl)
theorem dX2_minute_185 : decode cX2_minute 185 = .ok (.iastore, 1) := dk_79 (dk_at dksX2_minute_7 23 rfl rfl)
theorem dX2_minute_186 : decode cX2_minute 186 = .ok (.aload_n 0, 1) := dk_42 (dk_at dksX2_minute_8 0 rfl rfl)
theorem dX2_minute_187 : decode cX2_minute 187 = .ok (.getfield 34, 3) := dk_180 0 34 (dk_at dksX2_minute_8 1 rfl rfl)
theorem dX2_minute_190 : decode cX2_minute 190 = .ok (.iload 8, 2) := dk_21 8 (dk_at dksX2_minute_8 4 rfl rfl)
theorem dX2_minute_192 : decode cX2_minute 192 = .ok (.dup2, 1) := dk_92 (dk_at dksX2_minute_8 6 rfl rfl)
theorem dX2_minute_193 : decode cX2_minute 193 = .ok (.iaload, 1) := dk_46 (dk_at dksX2_minute_8 7 rfl rfl)
theorem dX2_minute_194 : decode cX2_minute 194 = .ok (.iload 9, 2) := dk_21 9 (dk_at dksX2_minute_8 8 rfl rfl)
theorem dX2_minute_196 : decode cX2_minute 196 = .ok (.iadd, 1) := dk_96 (dk_at dksX2_minute_8 10 rfl rfl)
theorem dX2_minute_197 : decode cX2_minute 197 = .ok (.iastore, 1) := dk_79 (dk_at dksX2_minute_8 11 rfl rfl)
theorem dX2_minute_198 : decode cX2_minute 198 = .ok (.aload_n 0, 1) := dk_42 (dk_at dksX2_minute_8 12 rfl rfl)
theorem dX2_minute_199 : decode cX2_minute 199 = .ok (.getfield 22, 3) := dk_180 0 22 (dk_at dksX2_minute_8 13 rfl rfl)
theorem dX2_minute_202 : decode cX2_minute 202 = .ok (.iload_n 3, 1) := dk_29 (dk_at dksX2_minute_8 16 rfl rfl)
theorem dX2_minute_203 : decode cX2_minute 203 = .ok (.dup2, 1) := dk_92 (dk_at dksX2_minute_8 17 rfl rfl)
theorem dX2_minute_204 : decode cX2_minute 204 = .ok (.iaload, 1) := dk_46 (dk_at dksX2_minute_8 18 rfl rfl)
theorem dX2_minute_205 : decode cX2_minute 205 = .ok (.iload 7, 2) := dk_21 7 (dk_at dksX2_minute_8 19 rfl rfl)
theorem dX2_minute_207 : decode cX2_minute 207 = .ok (.iload 9, 2) := dk_21 9 (dk_at dksX2_minute_8 21 rfl rfl)
theorem dX2_minute_209 : decode cX2_minute 209 = .ok (.isub, 1) := dk_100 (dk_at dksX2_minute_8 23 rfl rfl)
theorem dX2_minute_210 : decode cX2_minute 210 = .ok (.iadd, 1) := dk_96 (dk_at dksX2_minute_9 0 rfl rfl)
theorem dX2_minute_211 : decode cX2_minute 211 = .ok (.iastore, 1) := dk_79 (dk_at dksX2_minute_9 1 rfl rfl)
theorem dX2_minute_212 : decode cX2_minute 212 = .ok (.aload_n 0, 1) := dk_42 (dk_at dksX2_minute_9 2 rfl rfl)
theorem dX2_minute_213 : decode cX2_minute 213 = .ok (.dup, 1) := dk_89 (dk_at dksX2_minute_9 3 rfl rfl)
theorem dX2_minute_214 : decode cX2_minute 214 = .ok (.getfield 48, 3) := dk_180 0 48 (dk_at dksX2_minute_9 4 rfl rfl)
theorem dX2_minute_217 : decode cX2_minute 217 = .ok (.iload 7, 2) := dk_21 7 (dk_at dksX2_minute_9 7 rfl rfl)
theorem dX2_minute_219 : decode cX2_minute 219 = .ok (.iload 9, 2) := dk_21 9 (dk_at dksX2_minute_9 9 rfl rfl)
theorem dX2_minute_221 : decode cX2_minute 221 = .ok (.isub, 1) := dk_100 (dk_at dksX2_minute_9 11 rfl rfl)
theorem dX2_minute_222 : decode cX2_minute 222 = .ok (.i2l, 1) := dk_133 (dk_at dksX2_minute_9 12 rfl rfl)
theorem dX2_minute_223 : decode cX2_minute 223 = .ok (.ladd, 1) := dk_97 (dk_at dksX2_minute_9 13 rfl rfl)
theorem dX2_minute_224 : decode cX2_minute 224 = .ok (.putfield 48, 3) := dk_181 0 48 (dk_at dksX2_minute_9 14 rfl rfl)
theorem dX2_minute_227 : decode cX2_minute 227 = .ok (.aload_n 0, 1) := dk_42 (dk_at dksX2_minute_9 17 rfl rfl)
theorem dX2_minute_228 : decode cX2_minute 228 = .ok (.getfield 28, 3) := dk_180 0 28 (dk_at dksX2_minute_9 18 rfl rfl)
theorem dX2_minute_231 : decode cX2_minute 231 = .ok (.iload_n 3, 1) := dk_29 (dk_at dksX2_minute_9 21 rfl rfl)
theorem dX2_minute_232 : decode cX2_minute 232 = .ok (.aload_n 0, 1) := dk_42 (dk_at dksX2_minute_9 22 rfl rfl)
theorem dX2_minute_233 : decode cX2_minute 233 = .ok (.getfield 28, 3) := dk_180 0 28 (dk_at dksX2_minute_10 0 rfl rfl)
theorem dX2_minute_236 : decode cX2_minute 236 = .ok (.iload_n 3, 1) := dk_29 (dk_at dksX2_minute_10 3 rfl rfl)
theorem dX2_minute_237 : decode cX2_minute 237 = .ok (.iaload, 1) := dk_46 (dk_at dksX2_minute_10 4 rfl rfl)
theorem dX2_minute_238 : decode cX2_minute 238 = .ok (.iload 6, 2) := dk_21 6 (dk_at dksX2_minute_10 5 rfl rfl)
theorem dX2_minute_240 : decode cX2_minute 240 = .ok (.iload 7, 2) := dk_21 7 (dk_at dksX2_minute_10 7 rfl rfl)
theorem dX2_minute_242 : decode cX2_minute 242 = .ok (.isub, 1) := dk_100 (dk_at dksX2_minute_10 9 rfl rfl)
theorem dX2_minute_243 : decode cX2_minute 243 = .ok (.invokestatic 107, 3) := dk_184 0 107 (dk_at dksX2_minute_10 10 rfl rfl)
theorem dX2_minute_246 : decode cX2_minute 246 = .ok (.iastore, 1) := dk_79 (dk_at dksX2_minute_10 13 rfl rfl)
theorem dX2_minute_247 : decode cX2_minute 247 = .ok (.aload 4, 2) := dk_25 4 (dk_at dksX2_minute_10 14 rfl rfl)
theorem dX2_minute_249 : decode cX2_minute 249 = .ok (.getfield 116, 3) := dk_180 0 116 (dk_at dksX2_minute_10 16 rfl rfl)
theorem dX2_minute_252 : decode cX2_minute 252 = .ok (.ifCond .le 33, 3) := dk_158 0 33 (dk_at dksX2_minute_10 19 rfl rfl)
theorem dX2_minute_255 : decode cX2_minute 255 = .ok (.iload 7, 2) := dk_21 7 (dk_at dksX2_minute_10 22 rfl rfl)
theorem dX2_minute_257 : decode cX2_minute 257 = .ok (.aload 4, 2) := dk_25 4 (dk_at dksX2_minute_11 0 rfl rfl)
theorem dX2_minute_259 : decode cX2_minute 259 = .ok (.getfield 116, 3) := dk_180 0 116 (dk_at dksX2_minute_11 2 rfl rfl)
theorem dX2_minute_262 : decode cX2_minute 262 = .ok (.if_icmp .le 23, 3) := dk_164 0 23 (dk_at dksX2_minute_11 5 rfl rfl)
theorem dX2_minute_265 : decode cX2_minute 265 = .ok (.aload_n 0, 1) := dk_42 (dk_at dksX2_minute_11 8 rfl rfl)
theorem dX2_minute_266 : decode cX2_minute 266 = .ok (.getfield 25, 3) := dk_180 0 25 (dk_at dksX2_minute_11 9 rfl rfl)
theorem dX2_minute_269 : decode cX2_minute 269 = .ok (.iload_n 3, 1) := dk_29 (dk_at dksX2_minute_11 12 rfl rfl)
theorem dX2_minute_270 : decode cX2_minute 270 = .ok (.dup2, 1) := dk_92 (dk_at dksX2_minute_11 13 rfl rfl)
theorem dX2_minute_271 : decode cX2_minute 271 = .ok (.iaload, 1) := dk_46 (dk_at dksX2_minute_11 14 rfl rfl)
theorem dX2_minute_272 : decode cX2_minute 272 = .ok (.iconst 1, 1) := dk_4 (dk_at dksX2_minute_11 15 rfl rfl)
theorem dX2_minute_273 : decode cX2_minute 273 = .ok (.iadd, 1) := dk_96 (dk_at dksX2_minute_11 16 rfl rfl)
theorem dX2_minute_274 : decode cX2_minute 274 = .ok (.iastore, 1) := dk_79 (dk_at dksX2_minute_11 17 rfl rfl)
theorem dX2_minute_275 : decode cX2_minute 275 = .ok (.aload_n 0, 1) := dk_42 (dk_at dksX2_minute_11 18 rfl rfl)
theorem dX2_minute_276 : decode cX2_minute 276 = .ok (.dup, 1) := dk_89 (dk_at dksX2_minute_11 19 rfl rfl)
theorem dX2_minute_277 : decode cX2_minute 277 = .ok (.getfield 54, 3) := dk_180 0 54 (dk_at dksX2_minute_11 20 rfl rfl)
theorem dX2_minute_280 : decode cX2_minute 280 = .ok (.iconst 1, 1) := dk_4 (dk_at dksX2_minute_11 23 rfl rfl)
theorem dX2_minute_281 : decode cX2_minute 281 = .ok (.iadd, 1) := dk_96 (dk_at dksX2_minute_12 0 rfl rfl)
theorem dX2_minute_282 : decode cX2_minute 282 = .ok (.putfield 54, 3) := dk_181 0 54 (dk_at dksX2_minute_12 1 rfl rfl)
theorem dX2_minute_285 : decode cX2_minute 285 = .ok (.iinc 3 1, 3) := dk_132 3 1 (dk_at dksX2_minute_12 4 rfl rfl)
theorem dX2_minute_288 : decode cX2_minute 288 = .ok (.goto (-248), 3) := dk_167 255 8 (dk_at dksX2_minute_12 7 rfl rfl)
theorem dX2_minute_291 : decode cX2_minute 291 = .ok (.aload_n 0, 1) := dk_42 (dk_at dksX2_minute_12 10 rfl rfl)
theorem dX2_minute_292 : decode cX2_minute 292 = .ok (.dup, 1) := dk_89 (dk_at dksX2_minute_12 11 rfl rfl)
theorem dX2_minute_293 : decode cX2_minute 293 = .ok (.getfield 51, 3) := dk_180 0 51 (dk_at dksX2_minute_12 12 rfl rfl)
theorem dX2_minute_296 : decode cX2_minute 296 = .ok (.aload_n 0, 1) := dk_42 (dk_at dksX2_minute_12 15 rfl rfl)
theorem dX2_minute_297 : decode cX2_minute 297 = .ok (.getfield 31, 3) := dk_180 0 31 (dk_at dksX2_minute_12 16 rfl rfl)
theorem dX2_minute_300 : decode cX2_minute 300 = .ok (.iload_n 2, 1) := dk_28 (dk_at dksX2_minute_12 19 rfl rfl)
theorem dX2_minute_301 : decode cX2_minute 301 = .ok (.iaload, 1) := dk_46 (dk_at dksX2_minute_12 20 rfl rfl)
theorem dX2_minute_302 : decode cX2_minute 302 = .ok (.i2l, 1) := dk_133 (dk_at dksX2_minute_12 21 rfl rfl)
theorem dX2_minute_303 : decode cX2_minute 303 = .ok (.ladd, 1) := dk_97 (dk_at dksX2_minute_12 22 rfl rfl)
theorem dX2_minute_304 : decode cX2_minute 304 = .ok (.putfield 51, 3) := dk_181 0 51 (dk_at dksX2_minute_13 0 rfl rfl)
theorem dX2_minute_307 : decode cX2_minute 307 = .ok (.aload_n 0, 1) := dk_42 (dk_at dksX2_minute_13 3 rfl rfl)
theorem dX2_minute_308 : decode cX2_minute 308 = .ok (.aload_n 0, 1) := dk_42 (dk_at dksX2_minute_13 4 rfl rfl)
theorem dX2_minute_309 : decode cX2_minute 309 = .ok (.getfield 57, 3) := dk_180 0 57 (dk_at dksX2_minute_13 5 rfl rfl)
theorem dX2_minute_312 : decode cX2_minute 312 = .ok (.aload_n 0, 1) := dk_42 (dk_at dksX2_minute_13 8 rfl rfl)
theorem dX2_minute_313 : decode cX2_minute 313 = .ok (.getfield 31, 3) := dk_180 0 31 (dk_at dksX2_minute_13 9 rfl rfl)
theorem dX2_minute_316 : decode cX2_minute 316 = .ok (.iload_n 2, 1) := dk_28 (dk_at dksX2_minute_13 12 rfl rfl)
theorem dX2_minute_317 : decode cX2_minute 317 = .ok (.iaload, 1) := dk_46 (dk_at dksX2_minute_13 13 rfl rfl)
theorem dX2_minute_318 : decode cX2_minute 318 = .ok (.invokestatic 107, 3) := dk_184 0 107 (dk_at dksX2_minute_13 14 rfl rfl)
theorem dX2_minute_321 : decode cX2_minute 321 = .ok (.putfield 57, 3) := dk_181 0 57 (dk_at dksX2_minute_13 17 rfl rfl)
theorem dX2_minute_324 : decode cX2_minute 324 = .ok (.return_, 1) := dk_177 (dk_at dksX2_minute_13 20 rfl rfl)
def dkwX2_roofsOf_4 : List UInt8 := [100, 96, 62, 132, 4, 1, 167, 255, 160, 29, 172]
abbrev dktX2_roofsOf_4 : List UInt8 := dkwX2_roofsOf_4 ++ []
def dkwX2_roofsOf_3 : List UInt8 := [97, 181, 0, 41, 42, 180, 0, 19, 25, 5, 180, 0, 124, 92, 46, 21, 7, 96, 79, 29, 21, 6, 21, 7]
abbrev dktX2_roofsOf_3 : List UInt8 := dkwX2_roofsOf_3 ++ dktX2_roofsOf_4
def dkwX2_roofsOf_2 : List UInt8 := [42, 180, 0, 19, 25, 5, 180, 0, 124, 46, 100, 184, 0, 127, 54, 7, 42, 89, 180, 0, 41, 21, 6, 133]
abbrev dktX2_roofsOf_2 : List UInt8 := dkwX2_roofsOf_2 ++ dktX2_roofsOf_3
def dkwX2_roofsOf_1 : List UInt8 := [182, 0, 73, 192, 0, 77, 58, 5, 28, 25, 5, 180, 0, 120, 104, 54, 6, 21, 6, 25, 5, 180, 0, 121]
abbrev dktX2_roofsOf_1 : List UInt8 := dkwX2_roofsOf_1 ++ dktX2_roofsOf_2
def dkwX2_roofsOf_0 : List UInt8 := [3, 62, 3, 54, 4, 21, 4, 43, 180, 0, 119, 182, 0, 64, 162, 0, 90, 43, 180, 0, 119, 21, 4]
abbrev dktX2_roofsOf_0 : List UInt8 := dkwX2_roofsOf_0 ++ dktX2_roofsOf_1
theorem dksX2_roofsOf_0 : cX2_roofsOf.data.toList.drop 0 = dktX2_roofsOf_0 := by decide +kernel
theorem dksX2_roofsOf_1 : cX2_roofsOf.data.toList.drop 23 = dktX2_roofsOf_1 := dk_seg dksX2_roofsOf_0 23 rfl rfl
theorem dksX2_roofsOf_2 : cX2_roofsOf.data.toList.drop 47 = dktX2_roofsOf_2 := dk_seg dksX2_roofsOf_1 24 rfl rfl
theorem dksX2_roofsOf_3 : cX2_roofsOf.data.toList.drop 71 = dktX2_roofsOf_3 := dk_seg dksX2_roofsOf_2 24 rfl rfl
theorem dksX2_roofsOf_4 : cX2_roofsOf.data.toList.drop 95 = dktX2_roofsOf_4 := dk_seg dksX2_roofsOf_3 24 rfl rfl
theorem dX2_roofsOf_0 : decode cX2_roofsOf 0 = .ok (.iconst 0, 1) := dk_3 (dk_at dksX2_roofsOf_0 0 rfl rfl)
theorem dX2_roofsOf_1 : decode cX2_roofsOf 1 = .ok (.istore_n 3, 1) := dk_62 (dk_at dksX2_roofsOf_0 1 rfl rfl)
theorem dX2_roofsOf_2 : decode cX2_roofsOf 2 = .ok (.iconst 0, 1) := dk_3 (dk_at dksX2_roofsOf_0 2 rfl rfl)
theorem dX2_roofsOf_3 : decode cX2_roofsOf 3 = .ok (.istore 4, 2) := dk_54 4 (dk_at dksX2_roofsOf_0 3 rfl rfl)
theorem dX2_roofsOf_5 : decode cX2_roofsOf 5 = .ok (.iload 4, 2) := dk_21 4 (dk_at dksX2_roofsOf_0 5 rfl rfl)
theorem dX2_roofsOf_7 : decode cX2_roofsOf 7 = .ok (.aload_n 1, 1) := dk_43 (dk_at dksX2_roofsOf_0 7 rfl rfl)
theorem dX2_roofsOf_8 : decode cX2_roofsOf 8 = .ok (.getfield 119, 3) := dk_180 0 119 (dk_at dksX2_roofsOf_0 8 rfl rfl)
theorem dX2_roofsOf_11 : decode cX2_roofsOf 11 = .ok (.invokevirtual 64, 3) := dk_182 0 64 (dk_at dksX2_roofsOf_0 11 rfl rfl)
theorem dX2_roofsOf_14 : decode cX2_roofsOf 14 = .ok (.if_icmp .ge 90, 3) := dk_162 0 90 (dk_at dksX2_roofsOf_0 14 rfl rfl)
theorem dX2_roofsOf_17 : decode cX2_roofsOf 17 = .ok (.aload_n 1, 1) := dk_43 (dk_at dksX2_roofsOf_0 17 rfl rfl)
theorem dX2_roofsOf_18 : decode cX2_roofsOf 18 = .ok (.getfield 119, 3) := dk_180 0 119 (dk_at dksX2_roofsOf_0 18 rfl rfl)
theorem dX2_roofsOf_21 : decode cX2_roofsOf 21 = .ok (.iload 4, 2) := dk_21 4 (dk_at dksX2_roofsOf_0 21 rfl rfl)
theorem dX2_roofsOf_23 : decode cX2_roofsOf 23 = .ok (.invokevirtual 73, 3) := dk_182 0 73 (dk_at dksX2_roofsOf_1 0 rfl rfl)
theorem dX2_roofsOf_26 : decode cX2_roofsOf 26 = .ok (.checkcast 77, 3) := dk_192 0 77 (dk_at dksX2_roofsOf_1 3 rfl rfl)
theorem dX2_roofsOf_29 : decode cX2_roofsOf 29 = .ok (.astore 5, 2) := dk_58 5 (dk_at dksX2_roofsOf_1 6 rfl rfl)
theorem dX2_roofsOf_31 : decode cX2_roofsOf 31 = .ok (.iload_n 2, 1) := dk_28 (dk_at dksX2_roofsOf_1 8 rfl rfl)
theorem dX2_roofsOf_32 : decode cX2_roofsOf 32 = .ok (.aload 5, 2) := dk_25 5 (dk_at dksX2_roofsOf_1 9 rfl rfl)
theorem dX2_roofsOf_34 : decode cX2_roofsOf 34 = .ok (.getfield 120, 3) := dk_180 0 120 (dk_at dksX2_roofsOf_1 11 rfl rfl)
theorem dX2_roofsOf_37 : decode cX2_roofsOf 37 = .ok (.imul, 1) := dk_104 (dk_at dksX2_roofsOf_1 14 rfl rfl)
theorem dX2_roofsOf_38 : decode cX2_roofsOf 38 = .ok (.istore 6, 2) := dk_54 6 (dk_at dksX2_roofsOf_1 15 rfl rfl)
theorem dX2_roofsOf_40 : decode cX2_roofsOf 40 = .ok (.iload 6, 2) := dk_21 6 (dk_at dksX2_roofsOf_1 17 rfl rfl)
theorem dX2_roofsOf_42 : decode cX2_roofsOf 42 = .ok (.aload 5, 2) := dk_25 5 (dk_at dksX2_roofsOf_1 19 rfl rfl)
theorem dX2_roofsOf_44 : decode cX2_roofsOf 44 = .ok (.getfield 121, 3) := dk_180 0 121 (dk_at dksX2_roofsOf_1 21 rfl rfl)
theorem dX2_roofsOf_47 : decode cX2_roofsOf 47 = .ok (.aload_n 0, 1) := dk_42 (dk_at dksX2_roofsOf_2 0 rfl rfl)
theorem dX2_roofsOf_48 : decode cX2_roofsOf 48 = .ok (.getfield 19, 3) := dk_180 0 19 (dk_at dksX2_roofsOf_2 1 rfl rfl)
theorem dX2_roofsOf_51 : decode cX2_roofsOf 51 = .ok (.aload 5, 2) := dk_25 5 (dk_at dksX2_roofsOf_2 4 rfl rfl)
theorem dX2_roofsOf_53 : decode cX2_roofsOf 53 = .ok (.getfield 124, 3) := dk_180 0 124 (dk_at dksX2_roofsOf_2 6 rfl rfl)
theorem dX2_roofsOf_56 : decode cX2_roofsOf 56 = .ok (.iaload, 1) := dk_46 (dk_at dksX2_roofsOf_2 9 rfl rfl)
theorem dX2_roofsOf_57 : decode cX2_roofsOf 57 = .ok (.isub, 1) := dk_100 (dk_at dksX2_roofsOf_2 10 rfl rfl)
theorem dX2_roofsOf_58 : decode cX2_roofsOf 58 = .ok (.invokestatic 127, 3) := dk_184 0 127 (dk_at dksX2_roofsOf_2 11 rfl rfl)
theorem dX2_roofsOf_61 : decode cX2_roofsOf 61 = .ok (.istore 7, 2) := dk_54 7 (dk_at dksX2_roofsOf_2 14 rfl rfl)
theorem dX2_roofsOf_63 : decode cX2_roofsOf 63 = .ok (.aload_n 0, 1) := dk_42 (dk_at dksX2_roofsOf_2 16 rfl rfl)
theorem dX2_roofsOf_64 : decode cX2_roofsOf 64 = .ok (.dup, 1) := dk_89 (dk_at dksX2_roofsOf_2 17 rfl rfl)
theorem dX2_roofsOf_65 : decode cX2_roofsOf 65 = .ok (.getfield 41, 3) := dk_180 0 41 (dk_at dksX2_roofsOf_2 18 rfl rfl)
theorem dX2_roofsOf_68 : decode cX2_roofsOf 68 = .ok (.iload 6, 2) := dk_21 6 (dk_at dksX2_roofsOf_2 21 rfl rfl)
theorem dX2_roofsOf_70 : decode cX2_roofsOf 70 = .ok (.i2l, 1) := dk_133 (dk_at dksX2_roofsOf_2 23 rfl rfl)
theorem dX2_roofsOf_71 : decode cX2_roofsOf 71 = .ok (.ladd, 1) := dk_97 (dk_at dksX2_roofsOf_3 0 rfl rfl)
theorem dX2_roofsOf_72 : decode cX2_roofsOf 72 = .ok (.putfield 41, 3) := dk_181 0 41 (dk_at dksX2_roofsOf_3 1 rfl rfl)
theorem dX2_roofsOf_75 : decode cX2_roofsOf 75 = .ok (.aload_n 0, 1) := dk_42 (dk_at dksX2_roofsOf_3 4 rfl rfl)
theorem dX2_roofsOf_76 : decode cX2_roofsOf 76 = .ok (.getfield 19, 3) := dk_180 0 19 (dk_at dksX2_roofsOf_3 5 rfl rfl)
theorem dX2_roofsOf_79 : decode cX2_roofsOf 79 = .ok (.aload 5, 2) := dk_25 5 (dk_at dksX2_roofsOf_3 8 rfl rfl)
theorem dX2_roofsOf_81 : decode cX2_roofsOf 81 = .ok (.getfield 124, 3) := dk_180 0 124 (dk_at dksX2_roofsOf_3 10 rfl rfl)
theorem dX2_roofsOf_84 : decode cX2_roofsOf 84 = .ok (.dup2, 1) := dk_92 (dk_at dksX2_roofsOf_3 13 rfl rfl)
theorem dX2_roofsOf_85 : decode cX2_roofsOf 85 = .ok (.iaload, 1) := dk_46 (dk_at dksX2_roofsOf_3 14 rfl rfl)
theorem dX2_roofsOf_86 : decode cX2_roofsOf 86 = .ok (.iload 7, 2) := dk_21 7 (dk_at dksX2_roofsOf_3 15 rfl rfl)
theorem dX2_roofsOf_88 : decode cX2_roofsOf 88 = .ok (.iadd, 1) := dk_96 (dk_at dksX2_roofsOf_3 17 rfl rfl)
theorem dX2_roofsOf_89 : decode cX2_roofsOf 89 = .ok (.iastore, 1) := dk_79 (dk_at dksX2_roofsOf_3 18 rfl rfl)
theorem dX2_roofsOf_90 : decode cX2_roofsOf 90 = .ok (.iload_n 3, 1) := dk_29 (dk_at dksX2_roofsOf_3 19 rfl rfl)
theorem dX2_roofsOf_91 : decode cX2_roofsOf 91 = .ok (.iload 6, 2) := dk_21 6 (dk_at dksX2_roofsOf_3 20 rfl rfl)
theorem dX2_roofsOf_93 : decode cX2_roofsOf 93 = .ok (.iload 7, 2) := dk_21 7 (dk_at dksX2_roofsOf_3 22 rfl rfl)
theorem dX2_roofsOf_95 : decode cX2_roofsOf 95 = .ok (.isub, 1) := dk_100 (dk_at dksX2_roofsOf_4 0 rfl rfl)
theorem dX2_roofsOf_96 : decode cX2_roofsOf 96 = .ok (.iadd, 1) := dk_96 (dk_at dksX2_roofsOf_4 1 rfl rfl)
theorem dX2_roofsOf_97 : decode cX2_roofsOf 97 = .ok (.istore_n 3, 1) := dk_62 (dk_at dksX2_roofsOf_4 2 rfl rfl)
theorem dX2_roofsOf_98 : decode cX2_roofsOf 98 = .ok (.iinc 4 1, 3) := dk_132 4 1 (dk_at dksX2_roofsOf_4 3 rfl rfl)
theorem dX2_roofsOf_101 : decode cX2_roofsOf 101 = .ok (.goto (-96), 3) := dk_167 255 160 (dk_at dksX2_roofsOf_4 6 rfl rfl)
theorem dX2_roofsOf_104 : decode cX2_roofsOf 104 = .ok (.iload_n 3, 1) := dk_29 (dk_at dksX2_roofsOf_4 9 rfl rfl)
theorem dX2_roofsOf_105 : decode cX2_roofsOf 105 = .ok (.ireturn, 1) := dk_172 (dk_at dksX2_roofsOf_4 10 rfl rfl)
def dkwX2_takes_7 : List UInt8 := [21, 6, 133, 97, 181, 0, 45, 21, 5, 172]
abbrev dktX2_takes_7 : List UInt8 := dkwX2_takes_7 ++ []
def dkwX2_takes_6 : List UInt8 := [184, 0, 127, 54, 6, 42, 180, 0, 15, 43, 180, 0, 130, 92, 46, 21, 6, 100, 79, 42, 89, 180, 0, 45]
abbrev dktX2_takes_6 : List UInt8 := dkwX2_takes_6 ++ dktX2_takes_7
def dkwX2_takes_5 : List UInt8 := [153, 0, 15, 42, 180, 0, 3, 180, 0, 143, 3, 46, 167, 0, 10, 43, 180, 0, 131, 182, 0, 145]
abbrev dktX2_takes_5 : List UInt8 := dkwX2_takes_5 ++ dktX2_takes_6
def dkwX2_takes_4 : List UInt8 := [180, 0, 15, 43, 180, 0, 130, 92, 46, 21, 5, 96, 79, 42, 180, 0, 15, 43, 180, 0, 130, 46, 29]
abbrev dktX2_takes_4 : List UInt8 := dkwX2_takes_4 ++ dktX2_takes_5
def dkwX2_takes_3 : List UInt8 := [43, 180, 0, 131, 180, 0, 140, 42, 180, 0, 15, 43, 180, 0, 130, 46, 100, 184, 0, 127, 54, 5, 42]
abbrev dktX2_takes_3 : List UInt8 := dkwX2_takes_3 ++ dktX2_takes_4
def dkwX2_takes_2 : List UInt8 := [180, 0, 131, 180, 0, 135, 100, 104, 16, 10, 108, 54, 4, 21, 4, 29, 153, 0, 8, 16, 100, 167, 0, 10]
abbrev dktX2_takes_2 : List UInt8 := dkwX2_takes_2 ++ dktX2_takes_3
def dkwX2_takes_1 : List UInt8 := [180, 0, 131, 199, 0, 9, 29, 154, 0, 5, 3, 172, 29, 153, 0, 7, 28, 167, 0, 18, 28, 16, 10, 43]
abbrev dktX2_takes_1 : List UInt8 := dkwX2_takes_1 ++ dktX2_takes_2
def dkwX2_takes_0 : List UInt8 := [42, 180, 0, 37, 43, 180, 0, 130, 122, 4, 126, 4, 160, 0, 7, 4, 167, 0, 4, 3, 62, 43]
abbrev dktX2_takes_0 : List UInt8 := dkwX2_takes_0 ++ dktX2_takes_1
theorem dksX2_takes_0 : cX2_takes.data.toList.drop 0 = dktX2_takes_0 := by decide +kernel
theorem dksX2_takes_1 : cX2_takes.data.toList.drop 22 = dktX2_takes_1 := dk_seg dksX2_takes_0 22 rfl rfl
theorem dksX2_takes_2 : cX2_takes.data.toList.drop 46 = dktX2_takes_2 := dk_seg dksX2_takes_1 24 rfl rfl
theorem dksX2_takes_3 : cX2_takes.data.toList.drop 70 = dktX2_takes_3 := dk_seg dksX2_takes_2 24 rfl rfl
theorem dksX2_takes_4 : cX2_takes.data.toList.drop 93 = dktX2_takes_4 := dk_seg dksX2_takes_3 23 rfl rfl
theorem dksX2_takes_5 : cX2_takes.data.toList.drop 116 = dktX2_takes_5 := dk_seg dksX2_takes_4 23 rfl rfl
theorem dksX2_takes_6 : cX2_takes.data.toList.drop 138 = dktX2_takes_6 := dk_seg dksX2_takes_5 22 rfl rfl
theorem dksX2_takes_7 : cX2_takes.data.toList.drop 162 = dktX2_takes_7 := dk_seg dksX2_takes_6 24 rfl rfl
theorem dX2_takes_0 : decode cX2_takes 0 = .ok (.aload_n 0, 1) := dk_42 (dk_at dksX2_takes_0 0 rfl rfl)
theorem dX2_takes_1 : decode cX2_takes 1 = .ok (.getfield 37, 3) := dk_180 0 37 (dk_at dksX2_takes_0 1 rfl rfl)
theorem dX2_takes_4 : decode cX2_takes 4 = .ok (.aload_n 1, 1) := dk_43 (dk_at dksX2_takes_0 4 rfl rfl)
theorem dX2_takes_5 : decode cX2_takes 5 = .ok (.getfield 130, 3) := dk_180 0 130 (dk_at dksX2_takes_0 5 rfl rfl)
theorem dX2_takes_8 : decode cX2_takes 8 = .ok (.ishr, 1) := dk_122 (dk_at dksX2_takes_0 8 rfl rfl)
theorem dX2_takes_9 : decode cX2_takes 9 = .ok (.iconst 1, 1) := dk_4 (dk_at dksX2_takes_0 9 rfl rfl)
theorem dX2_takes_10 : decode cX2_takes 10 = .ok (.iand, 1) := dk_126 (dk_at dksX2_takes_0 10 rfl rfl)
theorem dX2_takes_11 : decode cX2_takes 11 = .ok (.iconst 1, 1) := dk_4 (dk_at dksX2_takes_0 11 rfl rfl)
theorem dX2_takes_12 : decode cX2_takes 12 = .ok (.if_icmp .ne 7, 3) := dk_160 0 7 (dk_at dksX2_takes_0 12 rfl rfl)
theorem dX2_takes_15 : decode cX2_takes 15 = .ok (.iconst 1, 1) := dk_4 (dk_at dksX2_takes_0 15 rfl rfl)
theorem dX2_takes_16 : decode cX2_takes 16 = .ok (.goto 4, 3) := dk_167 0 4 (dk_at dksX2_takes_0 16 rfl rfl)
theorem dX2_takes_19 : decode cX2_takes 19 = .ok (.iconst 0, 1) := dk_3 (dk_at dksX2_takes_0 19 rfl rfl)
theorem dX2_takes_20 : decode cX2_takes 20 = .ok (.istore_n 3, 1) := dk_62 (dk_at dksX2_takes_0 20 rfl rfl)
theorem dX2_takes_21 : decode cX2_takes 21 = .ok (.aload_n 1, 1) := dk_43 (dk_at dksX2_takes_0 21 rfl rfl)
theorem dX2_takes_22 : decode cX2_takes 22 = .ok (.getfield 131, 3) := dk_180 0 131 (dk_at dksX2_takes_1 0 rfl rfl)
theorem dX2_takes_25 : decode cX2_takes 25 = .ok (.ifnonnull 9, 3) := dk_199 0 9 (dk_at dksX2_takes_1 3 rfl rfl)
theorem dX2_takes_28 : decode cX2_takes 28 = .ok (.iload_n 3, 1) := dk_29 (dk_at dksX2_takes_1 6 rfl rfl)
theorem dX2_takes_29 : decode cX2_takes 29 = .ok (.ifCond .ne 5, 3) := dk_154 0 5 (dk_at dksX2_takes_1 7 rfl rfl)
theorem dX2_takes_32 : decode cX2_takes 32 = .ok (.iconst 0, 1) := dk_3 (dk_at dksX2_takes_1 10 rfl rfl)
theorem dX2_takes_33 : decode cX2_takes 33 = .ok (.ireturn, 1) := dk_172 (dk_at dksX2_takes_1 11 rfl rfl)
theorem dX2_takes_34 : decode cX2_takes 34 = .ok (.iload_n 3, 1) := dk_29 (dk_at dksX2_takes_1 12 rfl rfl)
theorem dX2_takes_35 : decode cX2_takes 35 = .ok (.ifCond .eq 7, 3) := dk_153 0 7 (dk_at dksX2_takes_1 13 rfl rfl)
theorem dX2_takes_38 : decode cX2_takes 38 = .ok (.iload_n 2, 1) := dk_28 (dk_at dksX2_takes_1 16 rfl rfl)
theorem dX2_takes_39 : decode cX2_takes 39 = .ok (.goto 18, 3) := dk_167 0 18 (dk_at dksX2_takes_1 17 rfl rfl)
theorem dX2_takes_42 : decode cX2_takes 42 = .ok (.iload_n 2, 1) := dk_28 (dk_at dksX2_takes_1 20 rfl rfl)
theorem dX2_takes_43 : decode cX2_takes 43 = .ok (.bipush 10, 2) := dk_16 10 (dk_at dksX2_takes_1 21 rfl rfl)
theorem dX2_takes_45 : decode cX2_takes 45 = .ok (.aload_n 1, 1) := dk_43 (dk_at dksX2_takes_1 23 rfl rfl)
theorem dX2_takes_46 : decode cX2_takes 46 = .ok (.getfield 131, 3) := dk_180 0 131 (dk_at dksX2_takes_2 0 rfl rfl)
theorem dX2_takes_49 : decode cX2_takes 49 = .ok (.getfield 135, 3) := dk_180 0 135 (dk_at dksX2_takes_2 3 rfl rfl)
theorem dX2_takes_52 : decode cX2_takes 52 = .ok (.isub, 1) := dk_100 (dk_at dksX2_takes_2 6 rfl rfl)
theorem dX2_takes_53 : decode cX2_takes 53 = .ok (.imul, 1) := dk_104 (dk_at dksX2_takes_2 7 rfl rfl)
theorem dX2_takes_54 : decode cX2_takes 54 = .ok (.bipush 10, 2) := dk_16 10 (dk_at dksX2_takes_2 8 rfl rfl)
theorem dX2_takes_56 : decode cX2_takes 56 = .ok (.idiv, 1) := dk_108 (dk_at dksX2_takes_2 10 rfl rfl)
theorem dX2_takes_57 : decode cX2_takes 57 = .ok (.istore 4, 2) := dk_54 4 (dk_at dksX2_takes_2 11 rfl rfl)
theorem dX2_takes_59 : decode cX2_takes 59 = .ok (.iload 4, 2) := dk_21 4 (dk_at dksX2_takes_2 13 rfl rfl)
theorem dX2_takes_61 : decode cX2_takes 61 = .ok (.iload_n 3, 1) := dk_29 (dk_at dksX2_takes_2 15 rfl rfl)
theorem dX2_takes_62 : decode cX2_takes 62 = .ok (.ifCond .eq 8, 3) := dk_153 0 8 (dk_at dksX2_takes_2 16 rfl rfl)
theorem dX2_takes_65 : decode cX2_takes 65 = .ok (.bipush 100, 2) := dk_16 100 (dk_at dksX2_takes_2 19 rfl rfl)
theorem dX2_takes_67 : decode cX2_takes 67 = .ok (.goto 10, 3) := dk_167 0 10 (dk_at dksX2_takes_2 21 rfl rfl)
theorem dX2_takes_70 : decode cX2_takes 70 = .ok (.aload_n 1, 1) := dk_43 (dk_at dksX2_takes_3 0 rfl rfl)
theorem dX2_takes_71 : decode cX2_takes 71 = .ok (.getfield 131, 3) := dk_180 0 131 (dk_at dksX2_takes_3 1 rfl rfl)
theorem dX2_takes_74 : decode cX2_takes 74 = .ok (.getfield 140, 3) := dk_180 0 140 (dk_at dksX2_takes_3 4 rfl rfl)
theorem dX2_takes_77 : decode cX2_takes 77 = .ok (.aload_n 0, 1) := dk_42 (dk_at dksX2_takes_3 7 rfl rfl)
theorem dX2_takes_78 : decode cX2_takes 78 = .ok (.getfield 15, 3) := dk_180 0 15 (dk_at dksX2_takes_3 8 rfl rfl)
theorem dX2_takes_81 : decode cX2_takes 81 = .ok (.aload_n 1, 1) := dk_43 (dk_at dksX2_takes_3 11 rfl rfl)
theorem dX2_takes_82 : decode cX2_takes 82 = .ok (.getfield 130, 3) := dk_180 0 130 (dk_at dksX2_takes_3 12 rfl rfl)
theorem dX2_takes_85 : decode cX2_takes 85 = .ok (.iaload, 1) := dk_46 (dk_at dksX2_takes_3 15 rfl rfl)
theorem dX2_takes_86 : decode cX2_takes 86 = .ok (.isub, 1) := dk_100 (dk_at dksX2_takes_3 16 rfl rfl)
theorem dX2_takes_87 : decode cX2_takes 87 = .ok (.invokestatic 127, 3) := dk_184 0 127 (dk_at dksX2_takes_3 17 rfl rfl)
theorem dX2_takes_90 : decode cX2_takes 90 = .ok (.istore 5, 2) := dk_54 5 (dk_at dksX2_takes_3 20 rfl rfl)
theorem dX2_takes_92 : decode cX2_takes 92 = .ok (.aload_n 0, 1) := dk_42 (dk_at dksX2_takes_3 22 rfl rfl)
theorem dX2_takes_93 : decode cX2_takes 93 = .ok (.getfield 15, 3) := dk_180 0 15 (dk_at dksX2_takes_4 0 rfl rfl)
theorem dX2_takes_96 : decode cX2_takes 96 = .ok (.aload_n 1, 1) := dk_43 (dk_at dksX2_takes_4 3 rfl rfl)
theorem dX2_takes_97 : decode cX2_takes 97 = .ok (.getfield 130, 3) := dk_180 0 130 (dk_at dksX2_takes_4 4 rfl rfl)
theorem dX2_takes_100 : decode cX2_takes 100 = .ok (.dup2, 1) := dk_92 (dk_at dksX2_takes_4 7 rfl rfl)
theorem dX2_takes_101 : decode cX2_takes 101 = .ok (.iaload, 1) := dk_46 (dk_at dksX2_takes_4 8 rfl rfl)
theorem dX2_takes_102 : decode cX2_takes 102 = .ok (.iload 5, 2) := dk_21 5 (dk_at dksX2_takes_4 9 rfl rfl)
theorem dX2_takes_104 : decode cX2_takes 104 = .ok (.iadd, 1) := dk_96 (dk_at dksX2_takes_4 11 rfl rfl)
theorem dX2_takes_105 : decode cX2_takes 105 = .ok (.iastore, 1) := dk_79 (dk_at dksX2_takes_4 12 rfl rfl)
theorem dX2_takes_106 : decode cX2_takes 106 = .ok (.aload_n 0, 1) := dk_42 (dk_at dksX2_takes_4 13 rfl rfl)
theorem dX2_takes_107 : decode cX2_takes 107 = .ok (.getfield 15, 3) := dk_180 0 15 (dk_at dksX2_takes_4 14 rfl rfl)
theorem dX2_takes_110 : decode cX2_takes 110 = .ok (.aload_n 1, 1) := dk_43 (dk_at dksX2_takes_4 17 rfl rfl)
theorem dX2_takes_111 : decode cX2_takes 111 = .ok (.getfield 130, 3) := dk_180 0 130 (dk_at dksX2_takes_4 18 rfl rfl)
theorem dX2_takes_114 : decode cX2_takes 114 = .ok (.iaload, 1) := dk_46 (dk_at dksX2_takes_4 21 rfl rfl)
theorem dX2_takes_115 : decode cX2_takes 115 = .ok (.iload_n 3, 1) := dk_29 (dk_at dksX2_takes_4 22 rfl rfl)
theorem dX2_takes_116 : decode cX2_takes 116 = .ok (.ifCond .eq 15, 3) := dk_153 0 15 (dk_at dksX2_takes_5 0 rfl rfl)
theorem dX2_takes_119 : decode cX2_takes 119 = .ok (.aload_n 0, 1) := dk_42 (dk_at dksX2_takes_5 3 rfl rfl)
theorem dX2_takes_120 : decode cX2_takes 120 = .ok (.getfield 3, 3) := dk_180 0 3 (dk_at dksX2_takes_5 4 rfl rfl)
theorem dX2_takes_123 : decode cX2_takes 123 = .ok (.getfield 143, 3) := dk_180 0 143 (dk_at dksX2_takes_5 7 rfl rfl)
theorem dX2_takes_126 : decode cX2_takes 126 = .ok (.iconst 0, 1) := dk_3 (dk_at dksX2_takes_5 10 rfl rfl)
theorem dX2_takes_127 : decode cX2_takes 127 = .ok (.iaload, 1) := dk_46 (dk_at dksX2_takes_5 11 rfl rfl)
theorem dX2_takes_128 : decode cX2_takes 128 = .ok (.goto 10, 3) := dk_167 0 10 (dk_at dksX2_takes_5 12 rfl rfl)
theorem dX2_takes_131 : decode cX2_takes 131 = .ok (.aload_n 1, 1) := dk_43 (dk_at dksX2_takes_5 15 rfl rfl)
theorem dX2_takes_132 : decode cX2_takes 132 = .ok (.getfield 131, 3) := dk_180 0 131 (dk_at dksX2_takes_5 16 rfl rfl)
theorem dX2_takes_135 : decode cX2_takes 135 = .ok (.invokevirtual 145, 3) := dk_182 0 145 (dk_at dksX2_takes_5 19 rfl rfl)
theorem dX2_takes_138 : decode cX2_takes 138 = .ok (.invokestatic 127, 3) := dk_184 0 127 (dk_at dksX2_takes_6 0 rfl rfl)
theorem dX2_takes_141 : decode cX2_takes 141 = .ok (.istore 6, 2) := dk_54 6 (dk_at dksX2_takes_6 3 rfl rfl)
theorem dX2_takes_143 : decode cX2_takes 143 = .ok (.aload_n 0, 1) := dk_42 (dk_at dksX2_takes_6 5 rfl rfl)
theorem dX2_takes_144 : decode cX2_takes 144 = .ok (.getfield 15, 3) := dk_180 0 15 (dk_at dksX2_takes_6 6 rfl rfl)
theorem dX2_takes_147 : decode cX2_takes 147 = .ok (.aload_n 1, 1) := dk_43 (dk_at dksX2_takes_6 9 rfl rfl)
theorem dX2_takes_148 : decode cX2_takes 148 = .ok (.getfield 130, 3) := dk_180 0 130 (dk_at dksX2_takes_6 10 rfl rfl)
theorem dX2_takes_151 : decode cX2_takes 151 = .ok (.dup2, 1) := dk_92 (dk_at dksX2_takes_6 13 rfl rfl)
theorem dX2_takes_152 : decode cX2_takes 152 = .ok (.iaload, 1) := dk_46 (dk_at dksX2_takes_6 14 rfl rfl)
theorem dX2_takes_153 : decode cX2_takes 153 = .ok (.iload 6, 2) := dk_21 6 (dk_at dksX2_takes_6 15 rfl rfl)
theorem dX2_takes_155 : decode cX2_takes 155 = .ok (.isub, 1) := dk_100 (dk_at dksX2_takes_6 17 rfl rfl)
theorem dX2_takes_156 : decode cX2_takes 156 = .ok (.iastore, 1) := dk_79 (dk_at dksX2_takes_6 18 rfl rfl)
theorem dX2_takes_157 : decode cX2_takes 157 = .ok (.aload_n 0, 1) := dk_42 (dk_at dksX2_takes_6 19 rfl rfl)
theorem dX2_takes_158 : decode cX2_takes 158 = .ok (.dup, 1) := dk_89 (dk_at dksX2_takes_6 20 rfl rfl)
theorem dX2_takes_159 : decode cX2_takes 159 = .ok (.getfield 45, 3) := dk_180 0 45 (dk_at dksX2_takes_6 21 rfl rfl)
theorem dX2_takes_162 : decode cX2_takes 162 = .ok (.iload 6, 2) := dk_21 6 (dk_at dksX2_takes_7 0 rfl rfl)
theorem dX2_takes_164 : decode cX2_takes 164 = .ok (.i2l, 1) := dk_133 (dk_at dksX2_takes_7 2 rfl rfl)
theorem dX2_takes_165 : decode cX2_takes 165 = .ok (.ladd, 1) := dk_97 (dk_at dksX2_takes_7 3 rfl rfl)
theorem dX2_takes_166 : decode cX2_takes 166 = .ok (.putfield 45, 3) := dk_181 0 45 (dk_at dksX2_takes_7 4 rfl rfl)
theorem dX2_takes_169 : decode cX2_takes 169 = .ok (.iload 5, 2) := dk_21 5 (dk_at dksX2_takes_7 7 rfl rfl)
theorem dX2_takes_171 : decode cX2_takes 171 = .ok (.ireturn, 1) := dk_172 (dk_at dksX2_takes_7 9 rfl rfl)
def dkwX4_init_2 : List UInt8 := [181, 0, 34, 177]
abbrev dktX4_init_2 : List UInt8 := dkwX4_init_2 ++ []
def dkwX4_init_1 : List UInt8 := [181, 0, 22, 42, 28, 181, 0, 25, 42, 29, 181, 0, 28, 42, 21, 4, 181, 0, 31, 42, 21, 5]
abbrev dktX4_init_1 : List UInt8 := dkwX4_init_1 ++ dktX4_init_2
def dkwX4_init_0 : List UInt8 := [42, 183, 0, 3, 42, 2, 181, 0, 9, 42, 187, 0, 15, 89, 183, 0, 17, 181, 0, 18, 42, 27]
abbrev dktX4_init_0 : List UInt8 := dkwX4_init_0 ++ dktX4_init_1
theorem dksX4_init_0 : cX4_init.data.toList.drop 0 = dktX4_init_0 := by decide +kernel
theorem dksX4_init_1 : cX4_init.data.toList.drop 22 = dktX4_init_1 := dk_seg dksX4_init_0 22 rfl rfl
theorem dksX4_init_2 : cX4_init.data.toList.drop 44 = dktX4_init_2 := dk_seg dksX4_init_1 22 rfl rfl
theorem dX4_init_0 : decode cX4_init 0 = .ok (.aload_n 0, 1) := dk_42 (dk_at dksX4_init_0 0 rfl rfl)
theorem dX4_init_1 : decode cX4_init 1 = .ok (.invokespecial 3, 3) := dk_183 0 3 (dk_at dksX4_init_0 1 rfl rfl)
theorem dX4_init_4 : decode cX4_init 4 = .ok (.aload_n 0, 1) := dk_42 (dk_at dksX4_init_0 4 rfl rfl)
theorem dX4_init_5 : decode cX4_init 5 = .ok (.iconst (-1), 1) := dk_2 (dk_at dksX4_init_0 5 rfl rfl)
theorem dX4_init_6 : decode cX4_init 6 = .ok (.putfield 9, 3) := dk_181 0 9 (dk_at dksX4_init_0 6 rfl rfl)
theorem dX4_init_9 : decode cX4_init 9 = .ok (.aload_n 0, 1) := dk_42 (dk_at dksX4_init_0 9 rfl rfl)
theorem dX4_init_10 : decode cX4_init 10 = .ok (.new 15, 3) := dk_187 0 15 (dk_at dksX4_init_0 10 rfl rfl)
theorem dX4_init_13 : decode cX4_init 13 = .ok (.dup, 1) := dk_89 (dk_at dksX4_init_0 13 rfl rfl)
theorem dX4_init_14 : decode cX4_init 14 = .ok (.invokespecial 17, 3) := dk_183 0 17 (dk_at dksX4_init_0 14 rfl rfl)
theorem dX4_init_17 : decode cX4_init 17 = .ok (.putfield 18, 3) := dk_181 0 18 (dk_at dksX4_init_0 17 rfl rfl)
theorem dX4_init_20 : decode cX4_init 20 = .ok (.aload_n 0, 1) := dk_42 (dk_at dksX4_init_0 20 rfl rfl)
theorem dX4_init_21 : decode cX4_init 21 = .ok (.iload_n 1, 1) := dk_27 (dk_at dksX4_init_0 21 rfl rfl)
theorem dX4_init_22 : decode cX4_init 22 = .ok (.putfield 22, 3) := dk_181 0 22 (dk_at dksX4_init_1 0 rfl rfl)
theorem dX4_init_25 : decode cX4_init 25 = .ok (.aload_n 0, 1) := dk_42 (dk_at dksX4_init_1 3 rfl rfl)
theorem dX4_init_26 : decode cX4_init 26 = .ok (.iload_n 2, 1) := dk_28 (dk_at dksX4_init_1 4 rfl rfl)
theorem dX4_init_27 : decode cX4_init 27 = .ok (.putfield 25, 3) := dk_181 0 25 (dk_at dksX4_init_1 5 rfl rfl)
theorem dX4_init_30 : decode cX4_init 30 = .ok (.aload_n 0, 1) := dk_42 (dk_at dksX4_init_1 8 rfl rfl)
theorem dX4_init_31 : decode cX4_init 31 = .ok (.iload_n 3, 1) := dk_29 (dk_at dksX4_init_1 9 rfl rfl)
theorem dX4_init_32 : decode cX4_init 32 = .ok (.putfield 28, 3) := dk_181 0 28 (dk_at dksX4_init_1 10 rfl rfl)
theorem dX4_init_35 : decode cX4_init 35 = .ok (.aload_n 0, 1) := dk_42 (dk_at dksX4_init_1 13 rfl rfl)
theorem dX4_init_36 : decode cX4_init 36 = .ok (.iload 4, 2) := dk_21 4 (dk_at dksX4_init_1 14 rfl rfl)
theorem dX4_init_38 : decode cX4_init 38 = .ok (.putfield 31, 3) := dk_181 0 31 (dk_at dksX4_init_1 16 rfl rfl)
theorem dX4_init_41 : decode cX4_init 41 = .ok (.aload_n 0, 1) := dk_42 (dk_at dksX4_init_1 19 rfl rfl)
theorem dX4_init_42 : decode cX4_init 42 = .ok (.iload 5, 2) := dk_21 5 (dk_at dksX4_init_1 20 rfl rfl)
theorem dX4_init_44 : decode cX4_init 44 = .ok (.putfield 34, 3) := dk_181 0 34 (dk_at dksX4_init_2 0 rfl rfl)
theorem dX4_init_47 : decode cX4_init 47 = .ok (.return_, 1) := dk_177 (dk_at dksX4_init_2 3 rfl rfl)
def dkwX5_init_1 : List UInt8 := [181, 0, 20, 42, 21, 5, 181, 0, 23, 177]
abbrev dktX5_init_1 : List UInt8 := dkwX5_init_1 ++ []
def dkwX5_init_0 : List UInt8 := [42, 183, 0, 1, 42, 27, 181, 0, 7, 42, 44, 181, 0, 13, 42, 29, 181, 0, 17, 42, 21, 4]
abbrev dktX5_init_0 : List UInt8 := dkwX5_init_0 ++ dktX5_init_1
theorem dksX5_init_0 : cX5_init.data.toList.drop 0 = dktX5_init_0 := by decide +kernel
theorem dksX5_init_1 : cX5_init.data.toList.drop 22 = dktX5_init_1 := dk_seg dksX5_init_0 22 rfl rfl
theorem dX5_init_0 : decode cX5_init 0 = .ok (.aload_n 0, 1) := dk_42 (dk_at dksX5_init_0 0 rfl rfl)
theorem dX5_init_1 : decode cX5_init 1 = .ok (.invokespecial 1, 3) := dk_183 0 1 (dk_at dksX5_init_0 1 rfl rfl)
theorem dX5_init_4 : decode cX5_init 4 = .ok (.aload_n 0, 1) := dk_42 (dk_at dksX5_init_0 4 rfl rfl)
theorem dX5_init_5 : decode cX5_init 5 = .ok (.iload_n 1, 1) := dk_27 (dk_at dksX5_init_0 5 rfl rfl)
theorem dX5_init_6 : decode cX5_init 6 = .ok (.putfield 7, 3) := dk_181 0 7 (dk_at dksX5_init_0 6 rfl rfl)
theorem dX5_init_9 : decode cX5_init 9 = .ok (.aload_n 0, 1) := dk_42 (dk_at dksX5_init_0 9 rfl rfl)
theorem dX5_init_10 : decode cX5_init 10 = .ok (.aload_n 2, 1) := dk_44 (dk_at dksX5_init_0 10 rfl rfl)
theorem dX5_init_11 : decode cX5_init 11 = .ok (.putfield 13, 3) := dk_181 0 13 (dk_at dksX5_init_0 11 rfl rfl)
theorem dX5_init_14 : decode cX5_init 14 = .ok (.aload_n 0, 1) := dk_42 (dk_at dksX5_init_0 14 rfl rfl)
theorem dX5_init_15 : decode cX5_init 15 = .ok (.iload_n 3, 1) := dk_29 (dk_at dksX5_init_0 15 rfl rfl)
theorem dX5_init_16 : decode cX5_init 16 = .ok (.putfield 17, 3) := dk_181 0 17 (dk_at dksX5_init_0 16 rfl rfl)
theorem dX5_init_19 : decode cX5_init 19 = .ok (.aload_n 0, 1) := dk_42 (dk_at dksX5_init_0 19 rfl rfl)
theorem dX5_init_20 : decode cX5_init 20 = .ok (.iload 4, 2) := dk_21 4 (dk_at dksX5_init_0 20 rfl rfl)
theorem dX5_init_22 : decode cX5_init 22 = .ok (.putfield 20, 3) := dk_181 0 20 (dk_at dksX5_init_1 0 rfl rfl)
theorem dX5_init_25 : decode cX5_init 25 = .ok (.aload_n 0, 1) := dk_42 (dk_at dksX5_init_1 3 rfl rfl)
theorem dX5_init_26 : decode cX5_init 26 = .ok (.iload 5, 2) := dk_21 5 (dk_at dksX5_init_1 4 rfl rfl)
theorem dX5_init_28 : decode cX5_init 28 = .ok (.putfield 23, 3) := dk_181 0 23 (dk_at dksX5_init_1 6 rfl rfl)
theorem dX5_init_31 : decode cX5_init 31 = .ok (.return_, 1) := dk_177 (dk_at dksX5_init_1 9 rfl rfl)
def dkwX6_init_2 : List UInt8 := [181, 0, 39, 177]
abbrev dktX6_init_2 : List UInt8 := dkwX6_init_2 ++ []
def dkwX6_init_1 : List UInt8 := [42, 29, 181, 0, 27, 42, 21, 4, 181, 0, 30, 42, 21, 5, 181, 0, 33, 42, 43, 180, 0, 36]
abbrev dktX6_init_1 : List UInt8 := dkwX6_init_1 ++ dktX6_init_2
def dkwX6_init_0 : List UInt8 := [42, 43, 181, 0, 3, 42, 183, 0, 9, 42, 2, 181, 0, 15, 42, 4, 181, 0, 19, 42, 44, 181, 0, 23]
abbrev dktX6_init_0 : List UInt8 := dkwX6_init_0 ++ dktX6_init_1
theorem dksX6_init_0 : cX6_init.data.toList.drop 0 = dktX6_init_0 := by decide +kernel
theorem dksX6_init_1 : cX6_init.data.toList.drop 24 = dktX6_init_1 := dk_seg dksX6_init_0 24 rfl rfl
theorem dksX6_init_2 : cX6_init.data.toList.drop 46 = dktX6_init_2 := dk_seg dksX6_init_1 22 rfl rfl
theorem dX6_init_0 : decode cX6_init 0 = .ok (.aload_n 0, 1) := dk_42 (dk_at dksX6_init_0 0 rfl rfl)
theorem dX6_init_1 : decode cX6_init 1 = .ok (.aload_n 1, 1) := dk_43 (dk_at dksX6_init_0 1 rfl rfl)
theorem dX6_init_2 : decode cX6_init 2 = .ok (.putfield 3, 3) := dk_181 0 3 (dk_at dksX6_init_0 2 rfl rfl)
theorem dX6_init_5 : decode cX6_init 5 = .ok (.aload_n 0, 1) := dk_42 (dk_at dksX6_init_0 5 rfl rfl)
theorem dX6_init_6 : decode cX6_init 6 = .ok (.invokespecial 9, 3) := dk_183 0 9 (dk_at dksX6_init_0 6 rfl rfl)
theorem dX6_init_9 : decode cX6_init 9 = .ok (.aload_n 0, 1) := dk_42 (dk_at dksX6_init_0 9 rfl rfl)
theorem dX6_init_10 : decode cX6_init 10 = .ok (.iconst (-1), 1) := dk_2 (dk_at dksX6_init_0 10 rfl rfl)
theorem dX6_init_11 : decode cX6_init 11 = .ok (.putfield 15, 3) := dk_181 0 15 (dk_at dksX6_init_0 11 rfl rfl)
theorem dX6_init_14 : decode cX6_init 14 = .ok (.aload_n 0, 1) := dk_42 (dk_at dksX6_init_0 14 rfl rfl)
theorem dX6_init_15 : decode cX6_init 15 = .ok (.iconst 1, 1) := dk_4 (dk_at dksX6_init_0 15 rfl rfl)
theorem dX6_init_16 : decode cX6_init 16 = .ok (.putfield 19, 3) := dk_181 0 19 (dk_at dksX6_init_0 16 rfl rfl)
theorem dX6_init_19 : decode cX6_init 19 = .ok (.aload_n 0, 1) := dk_42 (dk_at dksX6_init_0 19 rfl rfl)
theorem dX6_init_20 : decode cX6_init 20 = .ok (.aload_n 2, 1) := dk_44 (dk_at dksX6_init_0 20 rfl rfl)
theorem dX6_init_21 : decode cX6_init 21 = .ok (.putfield 23, 3) := dk_181 0 23 (dk_at dksX6_init_0 21 rfl rfl)
theorem dX6_init_24 : decode cX6_init 24 = .ok (.aload_n 0, 1) := dk_42 (dk_at dksX6_init_1 0 rfl rfl)
theorem dX6_init_25 : decode cX6_init 25 = .ok (.iload_n 3, 1) := dk_29 (dk_at dksX6_init_1 1 rfl rfl)
theorem dX6_init_26 : decode cX6_init 26 = .ok (.putfield 27, 3) := dk_181 0 27 (dk_at dksX6_init_1 2 rfl rfl)
theorem dX6_init_29 : decode cX6_init 29 = .ok (.aload_n 0, 1) := dk_42 (dk_at dksX6_init_1 5 rfl rfl)
theorem dX6_init_30 : decode cX6_init 30 = .ok (.iload 4, 2) := dk_21 4 (dk_at dksX6_init_1 6 rfl rfl)
theorem dX6_init_32 : decode cX6_init 32 = .ok (.putfield 30, 3) := dk_181 0 30 (dk_at dksX6_init_1 8 rfl rfl)
theorem dX6_init_35 : decode cX6_init 35 = .ok (.aload_n 0, 1) := dk_42 (dk_at dksX6_init_1 11 rfl rfl)
theorem dX6_init_36 : decode cX6_init 36 = .ok (.iload 5, 2) := dk_21 5 (dk_at dksX6_init_1 12 rfl rfl)
theorem dX6_init_38 : decode cX6_init 38 = .ok (.putfield 33, 3) := dk_181 0 33 (dk_at dksX6_init_1 14 rfl rfl)
theorem dX6_init_41 : decode cX6_init 41 = .ok (.aload_n 0, 1) := dk_42 (dk_at dksX6_init_1 17 rfl rfl)
theorem dX6_init_42 : decode cX6_init 42 = .ok (.aload_n 1, 1) := dk_43 (dk_at dksX6_init_1 18 rfl rfl)
theorem dX6_init_43 : decode cX6_init 43 = .ok (.getfield 36, 3) := dk_180 0 36 (dk_at dksX6_init_1 19 rfl rfl)
theorem dX6_init_46 : decode cX6_init 46 = .ok (.putfield 39, 3) := dk_181 0 39 (dk_at dksX6_init_2 0 rfl rfl)
theorem dX6_init_49 : decode cX6_init 49 = .ok (.return_, 1) := dk_177 (dk_at dksX6_init_2 3 rfl rfl)
def dkwX6_isCaredBy_0 : List UInt8 := [42, 180, 0, 63, 27, 122, 4, 126, 4, 160, 0, 7, 4, 167, 0, 4, 3, 172]
abbrev dktX6_isCaredBy_0 : List UInt8 := dkwX6_isCaredBy_0 ++ []
theorem dksX6_isCaredBy_0 : cX6_isCaredBy.data.toList.drop 0 = dktX6_isCaredBy_0 := by decide +kernel
theorem dX6_isCaredBy_0 : decode cX6_isCaredBy 0 = .ok (.aload_n 0, 1) := dk_42 (dk_at dksX6_isCaredBy_0 0 rfl rfl)
theorem dX6_isCaredBy_1 : decode cX6_isCaredBy 1 = .ok (.getfield 63, 3) := dk_180 0 63 (dk_at dksX6_isCaredBy_0 1 rfl rfl)
theorem dX6_isCaredBy_4 : decode cX6_isCaredBy 4 = .ok (.iload_n 1, 1) := dk_27 (dk_at dksX6_isCaredBy_0 4 rfl rfl)
theorem dX6_isCaredBy_5 : decode cX6_isCaredBy 5 = .ok (.ishr, 1) := dk_122 (dk_at dksX6_isCaredBy_0 5 rfl rfl)
theorem dX6_isCaredBy_6 : decode cX6_isCaredBy 6 = .ok (.iconst 1, 1) := dk_4 (dk_at dksX6_isCaredBy_0 6 rfl rfl)
theorem dX6_isCaredBy_7 : decode cX6_isCaredBy 7 = .ok (.iand, 1) := dk_126 (dk_at dksX6_isCaredBy_0 7 rfl rfl)
theorem dX6_isCaredBy_8 : decode cX6_isCaredBy 8 = .ok (.iconst 1, 1) := dk_4 (dk_at dksX6_isCaredBy_0 8 rfl rfl)
theorem dX6_isCaredBy_9 : decode cX6_isCaredBy 9 = .ok (.if_icmp .ne 7, 3) := dk_160 0 7 (dk_at dksX6_isCaredBy_0 9 rfl rfl)
theorem dX6_isCaredBy_12 : decode cX6_isCaredBy 12 = .ok (.iconst 1, 1) := dk_4 (dk_at dksX6_isCaredBy_0 12 rfl rfl)
theorem dX6_isCaredBy_13 : decode cX6_isCaredBy 13 = .ok (.goto 4, 3) := dk_167 0 4 (dk_at dksX6_isCaredBy_0 13 rfl rfl)
theorem dX6_isCaredBy_16 : decode cX6_isCaredBy 16 = .ok (.iconst 0, 1) := dk_3 (dk_at dksX6_isCaredBy_0 16 rfl rfl)
theorem dX6_isCaredBy_17 : decode cX6_isCaredBy 17 = .ok (.ireturn, 1) := dk_172 (dk_at dksX6_isCaredBy_0 17 rfl rfl)
def dkwX6_clogs_2 : List UInt8 := [181, 0, 46, 177]
abbrev dktX6_clogs_2 : List UInt8 := dkwX6_clogs_2 ++ []
def dkwX6_clogs_1 : List UInt8 := [42, 180, 0, 46, 42, 180, 0, 19, 153, 0, 7, 28, 167, 0, 6, 5, 28, 104, 96, 184, 0, 69]
abbrev dktX6_clogs_1 : List UInt8 := dkwX6_clogs_1 ++ dktX6_clogs_2
def dkwX6_clogs_0 : List UInt8 := [42, 180, 0, 33, 153, 0, 12, 43, 180, 0, 66, 5, 108, 167, 0, 7, 43, 180, 0, 66, 61, 42, 16, 100]
abbrev dktX6_clogs_0 : List UInt8 := dkwX6_clogs_0 ++ dktX6_clogs_1
theorem dksX6_clogs_0 : cX6_clogs.data.toList.drop 0 = dktX6_clogs_0 := by decide +kernel
theorem dksX6_clogs_1 : cX6_clogs.data.toList.drop 24 = dktX6_clogs_1 := dk_seg dksX6_clogs_0 24 rfl rfl
theorem dksX6_clogs_2 : cX6_clogs.data.toList.drop 46 = dktX6_clogs_2 := dk_seg dksX6_clogs_1 22 rfl rfl
theorem dX6_clogs_0 : decode cX6_clogs 0 = .ok (.aload_n 0, 1) := dk_42 (dk_at dksX6_clogs_0 0 rfl rfl)
theorem dX6_clogs_1 : decode cX6_clogs 1 = .ok (.getfield 33, 3) := dk_180 0 33 (dk_at dksX6_clogs_0 1 rfl rfl)
theorem dX6_clogs_4 : decode cX6_clogs 4 = .ok (.ifCond .eq 12, 3) := dk_153 0 12 (dk_at dksX6_clogs_0 4 rfl rfl)
theorem dX6_clogs_7 : decode cX6_clogs 7 = .ok (.aload_n 1, 1) := dk_43 (dk_at dksX6_clogs_0 7 rfl rfl)
theorem dX6_clogs_8 : decode cX6_clogs 8 = .ok (.getfield 66, 3) := dk_180 0 66 (dk_at dksX6_clogs_0 8 rfl rfl)
theorem dX6_clogs_11 : decode cX6_clogs 11 = .ok (.iconst 2, 1) := dk_5 (dk_at dksX6_clogs_0 11 rfl rfl)
theorem dX6_clogs_12 : decode cX6_clogs 12 = .ok (.idiv, 1) := dk_108 (dk_at dksX6_clogs_0 12 rfl rfl)
theorem dX6_clogs_13 : decode cX6_clogs 13 = .ok (.goto 7, 3) := dk_167 0 7 (dk_at dksX6_clogs_0 13 rfl rfl)
theorem dX6_clogs_16 : decode cX6_clogs 16 = .ok (.aload_n 1, 1) := dk_43 (dk_at dksX6_clogs_0 16 rfl rfl)
theorem dX6_clogs_17 : decode cX6_clogs 17 = .ok (.getfield 66, 3) := dk_180 0 66 (dk_at dksX6_clogs_0 17 rfl rfl)
theorem dX6_clogs_20 : decode cX6_clogs 20 = .ok (.istore_n 2, 1) := dk_61 (dk_at dksX6_clogs_0 20 rfl rfl)
theorem dX6_clogs_21 : decode cX6_clogs 21 = .ok (.aload_n 0, 1) := dk_42 (dk_at dksX6_clogs_0 21 rfl rfl)
theorem dX6_clogs_22 : decode cX6_clogs 22 = .ok (.bipush 100, 2) := dk_16 100 (dk_at dksX6_clogs_0 22 rfl rfl)
theorem dX6_clogs_24 : decode cX6_clogs 24 = .ok (.aload_n 0, 1) := dk_42 (dk_at dksX6_clogs_1 0 rfl rfl)
theorem dX6_clogs_25 : decode cX6_clogs 25 = .ok (.getfield 46, 3) := dk_180 0 46 (dk_at dksX6_clogs_1 1 rfl rfl)
theorem dX6_clogs_28 : decode cX6_clogs 28 = .ok (.aload_n 0, 1) := dk_42 (dk_at dksX6_clogs_1 4 rfl rfl)
theorem dX6_clogs_29 : decode cX6_clogs 29 = .ok (.getfield 19, 3) := dk_180 0 19 (dk_at dksX6_clogs_1 5 rfl rfl)
theorem dX6_clogs_32 : decode cX6_clogs 32 = .ok (.ifCond .eq 7, 3) := dk_153 0 7 (dk_at dksX6_clogs_1 8 rfl rfl)
theorem dX6_clogs_35 : decode cX6_clogs 35 = .ok (.iload_n 2, 1) := dk_28 (dk_at dksX6_clogs_1 11 rfl rfl)
theorem dX6_clogs_36 : decode cX6_clogs 36 = .ok (.goto 6, 3) := dk_167 0 6 (dk_at dksX6_clogs_1 12 rfl rfl)
theorem dX6_clogs_39 : decode cX6_clogs 39 = .ok (.iconst 2, 1) := dk_5 (dk_at dksX6_clogs_1 15 rfl rfl)
theorem dX6_clogs_40 : decode cX6_clogs 40 = .ok (.iload_n 2, 1) := dk_28 (dk_at dksX6_clogs_1 16 rfl rfl)
theorem dX6_clogs_41 : decode cX6_clogs 41 = .ok (.imul, 1) := dk_104 (dk_at dksX6_clogs_1 17 rfl rfl)
theorem dX6_clogs_42 : decode cX6_clogs 42 = .ok (.iadd, 1) := dk_96 (dk_at dksX6_clogs_1 18 rfl rfl)
theorem dX6_clogs_43 : decode cX6_clogs 43 = .ok (.invokestatic 69, 3) := dk_184 0 69 (dk_at dksX6_clogs_1 19 rfl rfl)
theorem dX6_clogs_46 : decode cX6_clogs 46 = .ok (.putfield 46, 3) := dk_181 0 46 (dk_at dksX6_clogs_2 0 rfl rfl)
theorem dX6_clogs_49 : decode cX6_clogs 49 = .ok (.return_, 1) := dk_177 (dk_at dksX6_clogs_2 3 rfl rfl)
def dkwX6_fall_1 : List UInt8 := [167, 0, 4, 4, 96, 184, 0, 69, 181, 0, 76, 177]
abbrev dktX6_fall_1 : List UInt8 := dkwX6_fall_1 ++ []
def dkwX6_fall_0 : List UInt8 := [43, 28, 182, 0, 72, 153, 0, 29, 42, 16, 10, 42, 180, 0, 76, 42, 180, 0, 33, 153, 0, 7, 5]
abbrev dktX6_fall_0 : List UInt8 := dkwX6_fall_0 ++ dktX6_fall_1
theorem dksX6_fall_0 : cX6_fall.data.toList.drop 0 = dktX6_fall_0 := by decide +kernel
theorem dksX6_fall_1 : cX6_fall.data.toList.drop 23 = dktX6_fall_1 := dk_seg dksX6_fall_0 23 rfl rfl
theorem dX6_fall_0 : decode cX6_fall 0 = .ok (.aload_n 1, 1) := dk_43 (dk_at dksX6_fall_0 0 rfl rfl)
theorem dX6_fall_1 : decode cX6_fall 1 = .ok (.iload_n 2, 1) := dk_28 (dk_at dksX6_fall_0 1 rfl rfl)
theorem dX6_fall_2 : decode cX6_fall 2 = .ok (.invokevirtual 72, 3) := dk_182 0 72 (dk_at dksX6_fall_0 2 rfl rfl)
theorem dX6_fall_5 : decode cX6_fall 5 = .ok (.ifCond .eq 29, 3) := dk_153 0 29 (dk_at dksX6_fall_0 5 rfl rfl)
theorem dX6_fall_8 : decode cX6_fall 8 = .ok (.aload_n 0, 1) := dk_42 (dk_at dksX6_fall_0 8 rfl rfl)
theorem dX6_fall_9 : decode cX6_fall 9 = .ok (.bipush 10, 2) := dk_16 10 (dk_at dksX6_fall_0 9 rfl rfl)
theorem dX6_fall_11 : decode cX6_fall 11 = .ok (.aload_n 0, 1) := dk_42 (dk_at dksX6_fall_0 11 rfl rfl)
theorem dX6_fall_12 : decode cX6_fall 12 = .ok (.getfield 76, 3) := dk_180 0 76 (dk_at dksX6_fall_0 12 rfl rfl)
theorem dX6_fall_15 : decode cX6_fall 15 = .ok (.aload_n 0, 1) := dk_42 (dk_at dksX6_fall_0 15 rfl rfl)
theorem dX6_fall_16 : decode cX6_fall 16 = .ok (.getfield 33, 3) := dk_180 0 33 (dk_at dksX6_fall_0 16 rfl rfl)
theorem dX6_fall_19 : decode cX6_fall 19 = .ok (.ifCond .eq 7, 3) := dk_153 0 7 (dk_at dksX6_fall_0 19 rfl rfl)
theorem dX6_fall_22 : decode cX6_fall 22 = .ok (.iconst 2, 1) := dk_5 (dk_at dksX6_fall_0 22 rfl rfl)
theorem dX6_fall_23 : decode cX6_fall 23 = .ok (.goto 4, 3) := dk_167 0 4 (dk_at dksX6_fall_1 0 rfl rfl)
theorem dX6_fall_26 : decode cX6_fall 26 = .ok (.iconst 1, 1) := dk_4 (dk_at dksX6_fall_1 3 rfl rfl)
theorem dX6_fall_27 : decode cX6_fall 27 = .ok (.iadd, 1) := dk_96 (dk_at dksX6_fall_1 4 rfl rfl)
theorem dX6_fall_28 : decode cX6_fall 28 = .ok (.invokestatic 69, 3) := dk_184 0 69 (dk_at dksX6_fall_1 5 rfl rfl)
theorem dX6_fall_31 : decode cX6_fall 31 = .ok (.putfield 76, 3) := dk_181 0 76 (dk_at dksX6_fall_1 8 rfl rfl)
theorem dX6_fall_34 : decode cX6_fall 34 = .ok (.return_, 1) := dk_177 (dk_at dksX6_fall_1 11 rfl rfl)
def dkwX6_dries_2 : List UInt8 := [27, 172]
abbrev dktX6_dries_2 : List UInt8 := dkwX6_dries_2 ++ []
def dkwX6_dries_1 : List UInt8 := [181, 0, 79, 42, 42, 180, 0, 79, 158, 0, 12, 42, 180, 0, 82, 4, 96, 167, 0, 4, 3, 181, 0, 82]
abbrev dktX6_dries_1 : List UInt8 := dkwX6_dries_1 ++ dktX6_dries_2
def dkwX6_dries_0 : List UInt8 := [42, 180, 0, 79, 16, 20, 42, 182, 0, 59, 104, 184, 0, 69, 60, 42, 89, 180, 0, 79, 27, 100]
abbrev dktX6_dries_0 : List UInt8 := dkwX6_dries_0 ++ dktX6_dries_1
theorem dksX6_dries_0 : cX6_dries.data.toList.drop 0 = dktX6_dries_0 := by decide +kernel
theorem dksX6_dries_1 : cX6_dries.data.toList.drop 22 = dktX6_dries_1 := dk_seg dksX6_dries_0 22 rfl rfl
theorem dksX6_dries_2 : cX6_dries.data.toList.drop 46 = dktX6_dries_2 := dk_seg dksX6_dries_1 24 rfl rfl
theorem dX6_dries_0 : decode cX6_dries 0 = .ok (.aload_n 0, 1) := dk_42 (dk_at dksX6_dries_0 0 rfl rfl)
theorem dX6_dries_1 : decode cX6_dries 1 = .ok (.getfield 79, 3) := dk_180 0 79 (dk_at dksX6_dries_0 1 rfl rfl)
theorem dX6_dries_4 : decode cX6_dries 4 = .ok (.bipush 20, 2) := dk_16 20 (dk_at dksX6_dries_0 4 rfl rfl)
theorem dX6_dries_6 : decode cX6_dries 6 = .ok (.aload_n 0, 1) := dk_42 (dk_at dksX6_dries_0 6 rfl rfl)
theorem dX6_dries_7 : decode cX6_dries 7 = .ok (.invokevirtual 59, 3) := dk_182 0 59 (dk_at dksX6_dries_0 7 rfl rfl)
theorem dX6_dries_10 : decode cX6_dries 10 = .ok (.imul, 1) := dk_104 (dk_at dksX6_dries_0 10 rfl rfl)
theorem dX6_dries_11 : decode cX6_dries 11 = .ok (.invokestatic 69, 3) := dk_184 0 69 (dk_at dksX6_dries_0 11 rfl rfl)
theorem dX6_dries_14 : decode cX6_dries 14 = .ok (.istore_n 1, 1) := dk_60 (dk_at dksX6_dries_0 14 rfl rfl)
theorem dX6_dries_15 : decode cX6_dries 15 = .ok (.aload_n 0, 1) := dk_42 (dk_at dksX6_dries_0 15 rfl rfl)
theorem dX6_dries_16 : decode cX6_dries 16 = .ok (.dup, 1) := dk_89 (dk_at dksX6_dries_0 16 rfl rfl)
theorem dX6_dries_17 : decode cX6_dries 17 = .ok (.getfield 79, 3) := dk_180 0 79 (dk_at dksX6_dries_0 17 rfl rfl)
theorem dX6_dries_20 : decode cX6_dries 20 = .ok (.iload_n 1, 1) := dk_27 (dk_at dksX6_dries_0 20 rfl rfl)
theorem dX6_dries_21 : decode cX6_dries 21 = .ok (.isub, 1) := dk_100 (dk_at dksX6_dries_0 21 rfl rfl)
theorem dX6_dries_22 : decode cX6_dries 22 = .ok (.putfield 79, 3) := dk_181 0 79 (dk_at dksX6_dries_1 0 rfl rfl)
theorem dX6_dries_25 : decode cX6_dries 25 = .ok (.aload_n 0, 1) := dk_42 (dk_at dksX6_dries_1 3 rfl rfl)
theorem dX6_dries_26 : decode cX6_dries 26 = .ok (.aload_n 0, 1) := dk_42 (dk_at dksX6_dries_1 4 rfl rfl)
theorem dX6_dries_27 : decode cX6_dries 27 = .ok (.getfield 79, 3) := dk_180 0 79 (dk_at dksX6_dries_1 5 rfl rfl)
theorem dX6_dries_30 : decode cX6_dries 30 = .ok (.ifCond .le 12, 3) := dk_158 0 12 (dk_at dksX6_dries_1 8 rfl rfl)
theorem dX6_dries_33 : decode cX6_dries 33 = .ok (.aload_n 0, 1) := dk_42 (dk_at dksX6_dries_1 11 rfl rfl)
theorem dX6_dries_34 : decode cX6_dries 34 = .ok (.getfield 82, 3) := dk_180 0 82 (dk_at dksX6_dries_1 12 rfl rfl)
theorem dX6_dries_37 : decode cX6_dries 37 = .ok (.iconst 1, 1) := dk_4 (dk_at dksX6_dries_1 15 rfl rfl)
theorem dX6_dries_38 : decode cX6_dries 38 = .ok (.iadd, 1) := dk_96 (dk_at dksX6_dries_1 16 rfl rfl)
theorem dX6_dries_39 : decode cX6_dries 39 = .ok (.goto 4, 3) := dk_167 0 4 (dk_at dksX6_dries_1 17 rfl rfl)
theorem dX6_dries_42 : decode cX6_dries 42 = .ok (.iconst 0, 1) := dk_3 (dk_at dksX6_dries_1 20 rfl rfl)
theorem dX6_dries_43 : decode cX6_dries 43 = .ok (.putfield 82, 3) := dk_181 0 82 (dk_at dksX6_dries_1 21 rfl rfl)
theorem dX6_dries_46 : decode cX6_dries 46 = .ok (.iload_n 1, 1) := dk_27 (dk_at dksX6_dries_2 0 rfl rfl)
theorem dX6_dries_47 : decode cX6_dries 47 = .ok (.ireturn, 1) := dk_172 (dk_at dksX6_dries_2 1 rfl rfl)
def dkwX6_drink_0 : List UInt8 := [42, 42, 180, 0, 46, 182, 0, 49, 172]
abbrev dktX6_drink_0 : List UInt8 := dkwX6_drink_0 ++ []
theorem dksX6_drink_0 : cX6_drink.data.toList.drop 0 = dktX6_drink_0 := by decide +kernel
theorem dX6_drink_0 : decode cX6_drink 0 = .ok (.aload_n 0, 1) := dk_42 (dk_at dksX6_drink_0 0 rfl rfl)
theorem dX6_drink_1 : decode cX6_drink 1 = .ok (.aload_n 0, 1) := dk_42 (dk_at dksX6_drink_0 1 rfl rfl)
theorem dX6_drink_2 : decode cX6_drink 2 = .ok (.getfield 46, 3) := dk_180 0 46 (dk_at dksX6_drink_0 2 rfl rfl)
theorem dX6_drink_5 : decode cX6_drink 5 = .ok (.invokevirtual 49, 3) := dk_182 0 49 (dk_at dksX6_drink_0 5 rfl rfl)
theorem dX6_drink_8 : decode cX6_drink 8 = .ok (.ireturn, 1) := dk_172 (dk_at dksX6_drink_0 8 rfl rfl)
def dkwX6_drinkBy_0 : List UInt8 := [42, 180, 0, 3, 180, 0, 42, 42, 180, 0, 27, 46, 16, 100, 27, 100, 104, 16, 100, 108, 172]
abbrev dktX6_drinkBy_0 : List UInt8 := dkwX6_drinkBy_0 ++ []
theorem dksX6_drinkBy_0 : cX6_drinkBy.data.toList.drop 0 = dktX6_drinkBy_0 := by decide +kernel
theorem dX6_drinkBy_0 : decode cX6_drinkBy 0 = .ok (.aload_n 0, 1) := dk_42 (dk_at dksX6_drinkBy_0 0 rfl rfl)
theorem dX6_drinkBy_1 : decode cX6_drinkBy 1 = .ok (.getfield 3, 3) := dk_180 0 3 (dk_at dksX6_drinkBy_0 1 rfl rfl)
theorem dX6_drinkBy_4 : decode cX6_drinkBy 4 = .ok (.getfield 42, 3) := dk_180 0 42 (dk_at dksX6_drinkBy_0 4 rfl rfl)
theorem dX6_drinkBy_7 : decode cX6_drinkBy 7 = .ok (.aload_n 0, 1) := dk_42 (dk_at dksX6_drinkBy_0 7 rfl rfl)
theorem dX6_drinkBy_8 : decode cX6_drinkBy 8 = .ok (.getfield 27, 3) := dk_180 0 27 (dk_at dksX6_drinkBy_0 8 rfl rfl)
theorem dX6_drinkBy_11 : decode cX6_drinkBy 11 = .ok (.iaload, 1) := dk_46 (dk_at dksX6_drinkBy_0 11 rfl rfl)
theorem dX6_drinkBy_12 : decode cX6_drinkBy 12 = .ok (.bipush 100, 2) := dk_16 100 (dk_at dksX6_drinkBy_0 12 rfl rfl)
theorem dX6_drinkBy_14 : decode cX6_drinkBy 14 = .ok (.iload_n 1, 1) := dk_27 (dk_at dksX6_drinkBy_0 14 rfl rfl)
theorem dX6_drinkBy_15 : decode cX6_drinkBy 15 = .ok (.isub, 1) := dk_100 (dk_at dksX6_drinkBy_0 15 rfl rfl)
theorem dX6_drinkBy_16 : decode cX6_drinkBy 16 = .ok (.imul, 1) := dk_104 (dk_at dksX6_drinkBy_0 16 rfl rfl)
theorem dX6_drinkBy_17 : decode cX6_drinkBy 17 = .ok (.bipush 100, 2) := dk_16 100 (dk_at dksX6_drinkBy_0 17 rfl rfl)
theorem dX6_drinkBy_19 : decode cX6_drinkBy 19 = .ok (.idiv, 1) := dk_108 (dk_at dksX6_drinkBy_0 19 rfl rfl)
theorem dX6_drinkBy_20 : decode cX6_drinkBy 20 = .ok (.ireturn, 1) := dk_172 (dk_at dksX6_drinkBy_0 20 rfl rfl)
def dkwX6_spring_0 : List UInt8 := [42, 180, 0, 85, 43, 180, 0, 88, 164, 0, 8, 42, 3, 181, 0, 19, 42, 3, 181, 0, 85, 177]
abbrev dktX6_spring_0 : List UInt8 := dkwX6_spring_0 ++ []
theorem dksX6_spring_0 : cX6_spring.data.toList.drop 0 = dktX6_spring_0 := by decide +kernel
theorem dX6_spring_0 : decode cX6_spring 0 = .ok (.aload_n 0, 1) := dk_42 (dk_at dksX6_spring_0 0 rfl rfl)
theorem dX6_spring_1 : decode cX6_spring 1 = .ok (.getfield 85, 3) := dk_180 0 85 (dk_at dksX6_spring_0 1 rfl rfl)
theorem dX6_spring_4 : decode cX6_spring 4 = .ok (.aload_n 1, 1) := dk_43 (dk_at dksX6_spring_0 4 rfl rfl)
theorem dX6_spring_5 : decode cX6_spring 5 = .ok (.getfield 88, 3) := dk_180 0 88 (dk_at dksX6_spring_0 5 rfl rfl)
theorem dX6_spring_8 : decode cX6_spring 8 = .ok (.if_icmp .le 8, 3) := dk_164 0 8 (dk_at dksX6_spring_0 8 rfl rfl)
theorem dX6_spring_11 : decode cX6_spring 11 = .ok (.aload_n 0, 1) := dk_42 (dk_at dksX6_spring_0 11 rfl rfl)
theorem dX6_spring_12 : decode cX6_spring 12 = .ok (.iconst 0, 1) := dk_3 (dk_at dksX6_spring_0 12 rfl rfl)
theorem dX6_spring_13 : decode cX6_spring 13 = .ok (.putfield 19, 3) := dk_181 0 19 (dk_at dksX6_spring_0 13 rfl rfl)
theorem dX6_spring_16 : decode cX6_spring 16 = .ok (.aload_n 0, 1) := dk_42 (dk_at dksX6_spring_0 16 rfl rfl)
theorem dX6_spring_17 : decode cX6_spring 17 = .ok (.iconst 0, 1) := dk_3 (dk_at dksX6_spring_0 17 rfl rfl)
theorem dX6_spring_18 : decode cX6_spring 18 = .ok (.putfield 85, 3) := dk_181 0 85 (dk_at dksX6_spring_0 18 rfl rfl)
theorem dX6_spring_21 : decode cX6_spring 21 = .ok (.return_, 1) := dk_177 (dk_at dksX6_spring_0 21 rfl rfl)
def dkwX6_more_0 : List UInt8 := [42, 3, 42, 180, 0, 46, 16, 30, 100, 184, 0, 53, 182, 0, 49, 42, 182, 0, 59, 100, 172]
abbrev dktX6_more_0 : List UInt8 := dkwX6_more_0 ++ []
theorem dksX6_more_0 : cX6_more.data.toList.drop 0 = dktX6_more_0 := by decide +kernel
theorem dX6_more_0 : decode cX6_more 0 = .ok (.aload_n 0, 1) := dk_42 (dk_at dksX6_more_0 0 rfl rfl)
theorem dX6_more_1 : decode cX6_more 1 = .ok (.iconst 0, 1) := dk_3 (dk_at dksX6_more_0 1 rfl rfl)
theorem dX6_more_2 : decode cX6_more 2 = .ok (.aload_n 0, 1) := dk_42 (dk_at dksX6_more_0 2 rfl rfl)
theorem dX6_more_3 : decode cX6_more 3 = .ok (.getfield 46, 3) := dk_180 0 46 (dk_at dksX6_more_0 3 rfl rfl)
theorem dX6_more_6 : decode cX6_more 6 = .ok (.bipush 30, 2) := dk_16 30 (dk_at dksX6_more_0 6 rfl rfl)
theorem dX6_more_8 : decode cX6_more 8 = .ok (.isub, 1) := dk_100 (dk_at dksX6_more_0 8 rfl rfl)
theorem dX6_more_9 : decode cX6_more 9 = .ok (.invokestatic 53, 3) := dk_184 0 53 (dk_at dksX6_more_0 9 rfl rfl)
theorem dX6_more_12 : decode cX6_more 12 = .ok (.invokevirtual 49, 3) := dk_182 0 49 (dk_at dksX6_more_0 12 rfl rfl)
theorem dX6_more_15 : decode cX6_more 15 = .ok (.aload_n 0, 1) := dk_42 (dk_at dksX6_more_0 15 rfl rfl)
theorem dX6_more_16 : decode cX6_more 16 = .ok (.invokevirtual 59, 3) := dk_182 0 59 (dk_at dksX6_more_0 16 rfl rfl)
theorem dX6_more_19 : decode cX6_more 19 = .ok (.isub, 1) := dk_100 (dk_at dksX6_more_0 19 rfl rfl)
theorem dX6_more_20 : decode cX6_more 20 = .ok (.ireturn, 1) := dk_172 (dk_at dksX6_more_0 20 rfl rfl)
def dkwX7_init_1 : List UInt8 := [42, 29, 181, 0, 24, 42, 21, 4, 181, 0, 27, 42, 21, 4, 181, 0, 30, 177]
abbrev dktX7_init_1 : List UInt8 := dkwX7_init_1 ++ []
def dkwX7_init_0 : List UInt8 := [42, 183, 0, 1, 42, 4, 181, 0, 7, 42, 4, 181, 0, 13, 42, 27, 181, 0, 17, 42, 44, 181, 0, 20]
abbrev dktX7_init_0 : List UInt8 := dkwX7_init_0 ++ dktX7_init_1
theorem dksX7_init_0 : cX7_init.data.toList.drop 0 = dktX7_init_0 := by decide +kernel
theorem dksX7_init_1 : cX7_init.data.toList.drop 24 = dktX7_init_1 := dk_seg dksX7_init_0 24 rfl rfl
theorem dX7_init_0 : decode cX7_init 0 = .ok (.aload_n 0, 1) := dk_42 (dk_at dksX7_init_0 0 rfl rfl)
theorem dX7_init_1 : decode cX7_init 1 = .ok (.invokespecial 1, 3) := dk_183 0 1 (dk_at dksX7_init_0 1 rfl rfl)
theorem dX7_init_4 : decode cX7_init 4 = .ok (.aload_n 0, 1) := dk_42 (dk_at dksX7_init_0 4 rfl rfl)
theorem dX7_init_5 : decode cX7_init 5 = .ok (.iconst 1, 1) := dk_4 (dk_at dksX7_init_0 5 rfl rfl)
theorem dX7_init_6 : decode cX7_init 6 = .ok (.putfield 7, 3) := dk_181 0 7 (dk_at dksX7_init_0 6 rfl rfl)
theorem dX7_init_9 : decode cX7_init 9 = .ok (.aload_n 0, 1) := dk_42 (dk_at dksX7_init_0 9 rfl rfl)
theorem dX7_init_10 : decode cX7_init 10 = .ok (.iconst 1, 1) := dk_4 (dk_at dksX7_init_0 10 rfl rfl)
theorem dX7_init_11 : decode cX7_init 11 = .ok (.putfield 13, 3) := dk_181 0 13 (dk_at dksX7_init_0 11 rfl rfl)
theorem dX7_init_14 : decode cX7_init 14 = .ok (.aload_n 0, 1) := dk_42 (dk_at dksX7_init_0 14 rfl rfl)
theorem dX7_init_15 : decode cX7_init 15 = .ok (.iload_n 1, 1) := dk_27 (dk_at dksX7_init_0 15 rfl rfl)
theorem dX7_init_16 : decode cX7_init 16 = .ok (.putfield 17, 3) := dk_181 0 17 (dk_at dksX7_init_0 16 rfl rfl)
theorem dX7_init_19 : decode cX7_init 19 = .ok (.aload_n 0, 1) := dk_42 (dk_at dksX7_init_0 19 rfl rfl)
theorem dX7_init_20 : decode cX7_init 20 = .ok (.aload_n 2, 1) := dk_44 (dk_at dksX7_init_0 20 rfl rfl)
theorem dX7_init_21 : decode cX7_init 21 = .ok (.putfield 20, 3) := dk_181 0 20 (dk_at dksX7_init_0 21 rfl rfl)
theorem dX7_init_24 : decode cX7_init 24 = .ok (.aload_n 0, 1) := dk_42 (dk_at dksX7_init_1 0 rfl rfl)
theorem dX7_init_25 : decode cX7_init 25 = .ok (.iload_n 3, 1) := dk_29 (dk_at dksX7_init_1 1 rfl rfl)
theorem dX7_init_26 : decode cX7_init 26 = .ok (.putfield 24, 3) := dk_181 0 24 (dk_at dksX7_init_1 2 rfl rfl)
theorem dX7_init_29 : decode cX7_init 29 = .ok (.aload_n 0, 1) := dk_42 (dk_at dksX7_init_1 5 rfl rfl)
theorem dX7_init_30 : decode cX7_init 30 = .ok (.iload 4, 2) := dk_21 4 (dk_at dksX7_init_1 6 rfl rfl)
theorem dX7_init_32 : decode cX7_init 32 = .ok (.putfield 27, 3) := dk_181 0 27 (dk_at dksX7_init_1 8 rfl rfl)
theorem dX7_init_35 : decode cX7_init 35 = .ok (.aload_n 0, 1) := dk_42 (dk_at dksX7_init_1 11 rfl rfl)
theorem dX7_init_36 : decode cX7_init 36 = .ok (.iload 4, 2) := dk_21 4 (dk_at dksX7_init_1 12 rfl rfl)
theorem dX7_init_38 : decode cX7_init 38 = .ok (.putfield 30, 3) := dk_181 0 30 (dk_at dksX7_init_1 14 rfl rfl)
theorem dX7_init_41 : decode cX7_init 41 = .ok (.return_, 1) := dk_177 (dk_at dksX7_init_1 17 rfl rfl)
def dkwX8_init_1 : List UInt8 := [181, 0, 20, 42, 21, 7, 181, 0, 23, 177]
abbrev dktX8_init_1 : List UInt8 := dkwX8_init_1 ++ []
def dkwX8_init_0 : List UInt8 := [42, 183, 0, 1, 42, 27, 181, 0, 7, 42, 32, 181, 0, 13, 42, 22, 4, 181, 0, 17, 42, 21, 6]
abbrev dktX8_init_0 : List UInt8 := dkwX8_init_0 ++ dktX8_init_1
theorem dksX8_init_0 : cX8_init.data.toList.drop 0 = dktX8_init_0 := by decide +kernel
theorem dksX8_init_1 : cX8_init.data.toList.drop 23 = dktX8_init_1 := dk_seg dksX8_init_0 23 rfl rfl
theorem dX8_init_0 : decode cX8_init 0 = .ok (.aload_n 0, 1) := dk_42 (dk_at dksX8_init_0 0 rfl rfl)
theorem dX8_init_1 : decode cX8_init 1 = .ok (.invokespecial 1, 3) := dk_183 0 1 (dk_at dksX8_init_0 1 rfl rfl)
theorem dX8_init_4 : decode cX8_init 4 = .ok (.aload_n 0, 1) := dk_42 (dk_at dksX8_init_0 4 rfl rfl)
theorem dX8_init_5 : decode cX8_init 5 = .ok (.iload_n 1, 1) := dk_27 (dk_at dksX8_init_0 5 rfl rfl)
theorem dX8_init_6 : decode cX8_init 6 = .ok (.putfield 7, 3) := dk_181 0 7 (dk_at dksX8_init_0 6 rfl rfl)
theorem dX8_init_9 : decode cX8_init 9 = .ok (.aload_n 0, 1) := dk_42 (dk_at dksX8_init_0 9 rfl rfl)
theorem dX8_init_10 : decode cX8_init 10 = .ok (.lload_n 2, 1) := dk_32 (dk_at dksX8_init_0 10 rfl rfl)
theorem dX8_init_11 : decode cX8_init 11 = .ok (.putfield 13, 3) := dk_181 0 13 (dk_at dksX8_init_0 11 rfl rfl)
theorem dX8_init_14 : decode cX8_init 14 = .ok (.aload_n 0, 1) := dk_42 (dk_at dksX8_init_0 14 rfl rfl)
theorem dX8_init_15 : decode cX8_init 15 = .ok (.lload 4, 2) := dk_22 4 (dk_at dksX8_init_0 15 rfl rfl)
theorem dX8_init_17 : decode cX8_init 17 = .ok (.putfield 17, 3) := dk_181 0 17 (dk_at dksX8_init_0 17 rfl rfl)
theorem dX8_init_20 : decode cX8_init 20 = .ok (.aload_n 0, 1) := dk_42 (dk_at dksX8_init_0 20 rfl rfl)
theorem dX8_init_21 : decode cX8_init 21 = .ok (.iload 6, 2) := dk_21 6 (dk_at dksX8_init_0 21 rfl rfl)
theorem dX8_init_23 : decode cX8_init 23 = .ok (.putfield 20, 3) := dk_181 0 20 (dk_at dksX8_init_1 0 rfl rfl)
theorem dX8_init_26 : decode cX8_init 26 = .ok (.aload_n 0, 1) := dk_42 (dk_at dksX8_init_1 3 rfl rfl)
theorem dX8_init_27 : decode cX8_init 27 = .ok (.iload 7, 2) := dk_21 7 (dk_at dksX8_init_1 4 rfl rfl)
theorem dX8_init_29 : decode cX8_init 29 = .ok (.putfield 23, 3) := dk_181 0 23 (dk_at dksX8_init_1 6 rfl rfl)
theorem dX8_init_32 : decode cX8_init 32 = .ok (.return_, 1) := dk_177 (dk_at dksX8_init_1 9 rfl rfl)
theorem dX8_day_0 : decode cX8_day 0 = .ok (.aload_n 0, 1) := by decide +kernel
theorem dX8_day_1 : decode cX8_day 1 = .ok (.getfield 7, 3) := by decide +kernel
theorem dX8_day_4 : decode cX8_day 4 = .ok (.ireturn, 1) := by decide +kernel
theorem dX8_rained_0 : decode cX8_rained 0 = .ok (.aload_n 0, 1) := by decide +kernel
theorem dX8_rained_1 : decode cX8_rained 1 = .ok (.getfield 13, 3) := by decide +kernel
theorem dX8_rained_4 : decode cX8_rained 4 = .ok (.lreturn, 1) := by decide +kernel
theorem dX8_spilt_0 : decode cX8_spilt 0 = .ok (.aload_n 0, 1) := by decide +kernel
theorem dX8_spilt_1 : decode cX8_spilt 1 = .ok (.getfield 17, 3) := by decide +kernel
theorem dX8_spilt_4 : decode cX8_spilt 4 = .ok (.lreturn, 1) := by decide +kernel
theorem dX8_wet_0 : decode cX8_wet 0 = .ok (.aload_n 0, 1) := by decide +kernel
theorem dX8_wet_1 : decode cX8_wet 1 = .ok (.getfield 20, 3) := by decide +kernel
theorem dX8_wet_4 : decode cX8_wet 4 = .ok (.ireturn, 1) := by decide +kernel
theorem dX8_most_0 : decode cX8_most 0 = .ok (.aload_n 0, 1) := by decide +kernel
theorem dX8_most_1 : decode cX8_most 1 = .ok (.getfield 23, 3) := by decide +kernel
theorem dX8_most_4 : decode cX8_most 4 = .ok (.ireturn, 1) := by decide +kernel
def dkwX9_init_0 : List UInt8 := [42, 1, 1, 3, 3, 183, 0, 1, 42, 27, 181, 0, 7, 177]
abbrev dktX9_init_0 : List UInt8 := dkwX9_init_0 ++ []
theorem dksX9_init_0 : cX9_init.data.toList.drop 0 = dktX9_init_0 := by decide +kernel
theorem dX9_init_0 : decode cX9_init 0 = .ok (.aload_n 0, 1) := dk_42 (dk_at dksX9_init_0 0 rfl rfl)
theorem dX9_init_1 : decode cX9_init 1 = .ok (.aconst_null, 1) := dk_1 (dk_at dksX9_init_0 1 rfl rfl)
theorem dX9_init_2 : decode cX9_init 2 = .ok (.aconst_null, 1) := dk_1 (dk_at dksX9_init_0 2 rfl rfl)
theorem dX9_init_3 : decode cX9_init 3 = .ok (.iconst 0, 1) := dk_3 (dk_at dksX9_init_0 3 rfl rfl)
theorem dX9_init_4 : decode cX9_init 4 = .ok (.iconst 0, 1) := dk_3 (dk_at dksX9_init_0 4 rfl rfl)
theorem dX9_init_5 : decode cX9_init 5 = .ok (.invokespecial 1, 3) := dk_183 0 1 (dk_at dksX9_init_0 5 rfl rfl)
theorem dX9_init_8 : decode cX9_init 8 = .ok (.aload_n 0, 1) := dk_42 (dk_at dksX9_init_0 8 rfl rfl)
theorem dX9_init_9 : decode cX9_init 9 = .ok (.iload_n 1, 1) := dk_27 (dk_at dksX9_init_0 9 rfl rfl)
theorem dX9_init_10 : decode cX9_init 10 = .ok (.putfield 7, 3) := dk_181 0 7 (dk_at dksX9_init_0 10 rfl rfl)
theorem dX9_init_13 : decode cX9_init 13 = .ok (.return_, 1) := dk_177 (dk_at dksX9_init_0 13 rfl rfl)
def dkwX10_init_1 : List UInt8 := [181, 0, 19, 177]
abbrev dktX10_init_1 : List UInt8 := dkwX10_init_1 ++ []
def dkwX10_init_0 : List UInt8 := [42, 183, 0, 1, 42, 27, 181, 0, 7, 42, 28, 181, 0, 13, 42, 29, 181, 0, 16, 42, 21, 4]
abbrev dktX10_init_0 : List UInt8 := dkwX10_init_0 ++ dktX10_init_1
theorem dksX10_init_0 : cX10_init.data.toList.drop 0 = dktX10_init_0 := by decide +kernel
theorem dksX10_init_1 : cX10_init.data.toList.drop 22 = dktX10_init_1 := dk_seg dksX10_init_0 22 rfl rfl
theorem dX10_init_0 : decode cX10_init 0 = .ok (.aload_n 0, 1) := dk_42 (dk_at dksX10_init_0 0 rfl rfl)
theorem dX10_init_1 : decode cX10_init 1 = .ok (.invokespecial 1, 3) := dk_183 0 1 (dk_at dksX10_init_0 1 rfl rfl)
theorem dX10_init_4 : decode cX10_init 4 = .ok (.aload_n 0, 1) := dk_42 (dk_at dksX10_init_0 4 rfl rfl)
theorem dX10_init_5 : decode cX10_init 5 = .ok (.iload_n 1, 1) := dk_27 (dk_at dksX10_init_0 5 rfl rfl)
theorem dX10_init_6 : decode cX10_init 6 = .ok (.putfield 7, 3) := dk_181 0 7 (dk_at dksX10_init_0 6 rfl rfl)
theorem dX10_init_9 : decode cX10_init 9 = .ok (.aload_n 0, 1) := dk_42 (dk_at dksX10_init_0 9 rfl rfl)
theorem dX10_init_10 : decode cX10_init 10 = .ok (.iload_n 2, 1) := dk_28 (dk_at dksX10_init_0 10 rfl rfl)
theorem dX10_init_11 : decode cX10_init 11 = .ok (.putfield 13, 3) := dk_181 0 13 (dk_at dksX10_init_0 11 rfl rfl)
theorem dX10_init_14 : decode cX10_init 14 = .ok (.aload_n 0, 1) := dk_42 (dk_at dksX10_init_0 14 rfl rfl)
theorem dX10_init_15 : decode cX10_init 15 = .ok (.iload_n 3, 1) := dk_29 (dk_at dksX10_init_0 15 rfl rfl)
theorem dX10_init_16 : decode cX10_init 16 = .ok (.putfield 16, 3) := dk_181 0 16 (dk_at dksX10_init_0 16 rfl rfl)
theorem dX10_init_19 : decode cX10_init 19 = .ok (.aload_n 0, 1) := dk_42 (dk_at dksX10_init_0 19 rfl rfl)
theorem dX10_init_20 : decode cX10_init 20 = .ok (.iload 4, 2) := dk_21 4 (dk_at dksX10_init_0 20 rfl rfl)
theorem dX10_init_22 : decode cX10_init 22 = .ok (.putfield 19, 3) := dk_181 0 19 (dk_at dksX10_init_1 0 rfl rfl)
theorem dX10_init_25 : decode cX10_init 25 = .ok (.return_, 1) := dk_177 (dk_at dksX10_init_1 3 rfl rfl)
theorem dX10_neighbour_0 : decode cX10_neighbour 0 = .ok (.aload_n 0, 1) := by decide +kernel
theorem dX10_neighbour_1 : decode cX10_neighbour 1 = .ok (.getfield 7, 3) := by decide +kernel
theorem dX10_neighbour_4 : decode cX10_neighbour 4 = .ok (.ireturn, 1) := by decide +kernel
theorem dX10_corner_0 : decode cX10_corner 0 = .ok (.aload_n 0, 1) := by decide +kernel
theorem dX10_corner_1 : decode cX10_corner 1 = .ok (.getfield 13, 3) := by decide +kernel
theorem dX10_corner_4 : decode cX10_corner 4 = .ok (.ireturn, 1) := by decide +kernel
def dkwX10_isOn_1 : List UInt8 := [167, 0, 4, 3, 172]
abbrev dktX10_isOn_1 : List UInt8 := dkwX10_isOn_1 ++ []
def dkwX10_isOn_0 : List UInt8 := [27, 42, 180, 0, 19, 161, 0, 21, 27, 42, 180, 0, 19, 100, 42, 180, 0, 16, 112, 154, 0, 7, 4]
abbrev dktX10_isOn_0 : List UInt8 := dkwX10_isOn_0 ++ dktX10_isOn_1
theorem dksX10_isOn_0 : cX10_isOn.data.toList.drop 0 = dktX10_isOn_0 := by decide +kernel
theorem dksX10_isOn_1 : cX10_isOn.data.toList.drop 23 = dktX10_isOn_1 := dk_seg dksX10_isOn_0 23 rfl rfl
theorem dX10_isOn_0 : decode cX10_isOn 0 = .ok (.iload_n 1, 1) := dk_27 (dk_at dksX10_isOn_0 0 rfl rfl)
theorem dX10_isOn_1 : decode cX10_isOn 1 = .ok (.aload_n 0, 1) := dk_42 (dk_at dksX10_isOn_0 1 rfl rfl)
theorem dX10_isOn_2 : decode cX10_isOn 2 = .ok (.getfield 19, 3) := dk_180 0 19 (dk_at dksX10_isOn_0 2 rfl rfl)
theorem dX10_isOn_5 : decode cX10_isOn 5 = .ok (.if_icmp .lt 21, 3) := dk_161 0 21 (dk_at dksX10_isOn_0 5 rfl rfl)
theorem dX10_isOn_8 : decode cX10_isOn 8 = .ok (.iload_n 1, 1) := dk_27 (dk_at dksX10_isOn_0 8 rfl rfl)
theorem dX10_isOn_9 : decode cX10_isOn 9 = .ok (.aload_n 0, 1) := dk_42 (dk_at dksX10_isOn_0 9 rfl rfl)
theorem dX10_isOn_10 : decode cX10_isOn 10 = .ok (.getfield 19, 3) := dk_180 0 19 (dk_at dksX10_isOn_0 10 rfl rfl)
theorem dX10_isOn_13 : decode cX10_isOn 13 = .ok (.isub, 1) := dk_100 (dk_at dksX10_isOn_0 13 rfl rfl)
theorem dX10_isOn_14 : decode cX10_isOn 14 = .ok (.aload_n 0, 1) := dk_42 (dk_at dksX10_isOn_0 14 rfl rfl)
theorem dX10_isOn_15 : decode cX10_isOn 15 = .ok (.getfield 16, 3) := dk_180 0 16 (dk_at dksX10_isOn_0 15 rfl rfl)
theorem dX10_isOn_18 : decode cX10_isOn 18 = .ok (.irem, 1) := dk_112 (dk_at dksX10_isOn_0 18 rfl rfl)
theorem dX10_isOn_19 : decode cX10_isOn 19 = .ok (.ifCond .ne 7, 3) := dk_154 0 7 (dk_at dksX10_isOn_0 19 rfl rfl)
theorem dX10_isOn_22 : decode cX10_isOn 22 = .ok (.iconst 1, 1) := dk_4 (dk_at dksX10_isOn_0 22 rfl rfl)
theorem dX10_isOn_23 : decode cX10_isOn 23 = .ok (.goto 4, 3) := dk_167 0 4 (dk_at dksX10_isOn_1 0 rfl rfl)
theorem dX10_isOn_26 : decode cX10_isOn 26 = .ok (.iconst 0, 1) := dk_3 (dk_at dksX10_isOn_1 3 rfl rfl)
theorem dX10_isOn_27 : decode cX10_isOn 27 = .ok (.ireturn, 1) := dk_172 (dk_at dksX10_isOn_1 4 rfl rfl)
