/-! decode rows -/
set_option maxRecDepth 100000
theorem dJ0_init_0 : decode cJ0_init 0 = .ok (.aload_n 0, 1) := by decide +kernel
theorem dJ0_init_1 : decode cJ0_init 1 = .ok (.invokespecial 1, 3) := by decide +kernel
theorem dJ0_init_4 : decode cJ0_init 4 = .ok (.return_, 1) := by decide +kernel
def dkwJ1_init_0 : List UInt8 := [42, 183, 0, 1, 42, 3, 181, 0, 7, 177]
abbrev dktJ1_init_0 : List UInt8 := dkwJ1_init_0 ++ []
theorem dksJ1_init_0 : cJ1_init.data.toList.drop 0 = dktJ1_init_0 := by decide +kernel
theorem dJ1_init_0 : decode cJ1_init 0 = .ok (.aload_n 0, 1) := dk_42 (dk_at dksJ1_init_0 0 rfl rfl)
theorem dJ1_init_1 : decode cJ1_init 1 = .ok (.invokespecial 1, 3) := dk_183 0 1 (dk_at dksJ1_init_0 1 rfl rfl)
theorem dJ1_init_4 : decode cJ1_init 4 = .ok (.aload_n 0, 1) := dk_42 (dk_at dksJ1_init_0 4 rfl rfl)
theorem dJ1_init_5 : decode cJ1_init 5 = .ok (.iconst 0, 1) := dk_3 (dk_at dksJ1_init_0 5 rfl rfl)
theorem dJ1_init_6 : decode cJ1_init 6 = .ok (.putfield 7, 3) := dk_181 0 7 (dk_at dksJ1_init_0 6 rfl rfl)
theorem dJ1_init_9 : decode cJ1_init 9 = .ok (.return_, 1) := dk_177 (dk_at dksJ1_init_0 9 rfl rfl)
def dkwJ10_init_1 : List UInt8 := [167, 0, 16, 42, 27, 184, 0, 26, 181, 0, 15, 42, 4, 181, 0, 22, 177]
abbrev dktJ10_init_1 : List UInt8 := dkwJ10_init_1 ++ []
def dkwJ10_init_0 : List UInt8 := [42, 183, 0, 3, 178, 0, 18, 153, 0, 18, 42, 27, 188, 8, 181, 0, 15, 42, 3, 181, 0, 22]
abbrev dktJ10_init_0 : List UInt8 := dkwJ10_init_0 ++ dktJ10_init_1
theorem dksJ10_init_0 : cJ10_init.data.toList.drop 0 = dktJ10_init_0 := by decide +kernel
theorem dksJ10_init_1 : cJ10_init.data.toList.drop 22 = dktJ10_init_1 := dk_seg dksJ10_init_0 22 rfl rfl
theorem dJ10_init_0 : decode cJ10_init 0 = .ok (.aload_n 0, 1) := dk_42 (dk_at dksJ10_init_0 0 rfl rfl)
theorem dJ10_init_1 : decode cJ10_init 1 = .ok (.invokespecial 3, 3) := dk_183 0 3 (dk_at dksJ10_init_0 1 rfl rfl)
theorem dJ10_init_4 : decode cJ10_init 4 = .ok (.getstatic 18, 3) := dk_178 0 18 (dk_at dksJ10_init_0 4 rfl rfl)
theorem dJ10_init_7 : decode cJ10_init 7 = .ok (.ifCond .eq 18, 3) := dk_153 0 18 (dk_at dksJ10_init_0 7 rfl rfl)
theorem dJ10_init_10 : decode cJ10_init 10 = .ok (.aload_n 0, 1) := dk_42 (dk_at dksJ10_init_0 10 rfl rfl)
theorem dJ10_init_11 : decode cJ10_init 11 = .ok (.iload_n 1, 1) := dk_27 (dk_at dksJ10_init_0 11 rfl rfl)
theorem dJ10_init_12 : decode cJ10_init 12 = .ok (.newarray .byte, 2) := dk_188_8 (dk_at dksJ10_init_0 12 rfl rfl)
theorem dJ10_init_14 : decode cJ10_init 14 = .ok (.putfield 15, 3) := dk_181 0 15 (dk_at dksJ10_init_0 14 rfl rfl)
theorem dJ10_init_17 : decode cJ10_init 17 = .ok (.aload_n 0, 1) := dk_42 (dk_at dksJ10_init_0 17 rfl rfl)
theorem dJ10_init_18 : decode cJ10_init 18 = .ok (.iconst 0, 1) := dk_3 (dk_at dksJ10_init_0 18 rfl rfl)
theorem dJ10_init_19 : decode cJ10_init 19 = .ok (.putfield 22, 3) := dk_181 0 22 (dk_at dksJ10_init_0 19 rfl rfl)
theorem dJ10_init_22 : decode cJ10_init 22 = .ok (.goto 16, 3) := dk_167 0 16 (dk_at dksJ10_init_1 0 rfl rfl)
theorem dJ10_init_25 : decode cJ10_init 25 = .ok (.aload_n 0, 1) := dk_42 (dk_at dksJ10_init_1 3 rfl rfl)
theorem dJ10_init_26 : decode cJ10_init 26 = .ok (.iload_n 1, 1) := dk_27 (dk_at dksJ10_init_1 4 rfl rfl)
theorem dJ10_init_27 : decode cJ10_init 27 = .ok (.invokestatic 26, 3) := dk_184 0 26 (dk_at dksJ10_init_1 5 rfl rfl)
theorem dJ10_init_30 : decode cJ10_init 30 = .ok (.putfield 15, 3) := dk_181 0 15 (dk_at dksJ10_init_1 8 rfl rfl)
theorem dJ10_init_33 : decode cJ10_init 33 = .ok (.aload_n 0, 1) := dk_42 (dk_at dksJ10_init_1 11 rfl rfl)
theorem dJ10_init_34 : decode cJ10_init 34 = .ok (.iconst 1, 1) := dk_4 (dk_at dksJ10_init_1 12 rfl rfl)
theorem dJ10_init_35 : decode cJ10_init 35 = .ok (.putfield 22, 3) := dk_181 0 22 (dk_at dksJ10_init_1 13 rfl rfl)
theorem dJ10_init_38 : decode cJ10_init 38 = .ok (.return_, 1) := dk_177 (dk_at dksJ10_init_1 16 rfl rfl)
def dkwJ10_append_3 : List UInt8 := [181, 0, 79, 27, 184, 0, 197, 42, 176]
abbrev dktJ10_append_3 : List UInt8 := dkwJ10_append_3 ++ []
def dkwJ10_append_2 : List UInt8 := [182, 0, 83, 153, 0, 7, 42, 182, 0, 195, 42, 180, 0, 15, 42, 89, 180, 0, 79, 90, 4, 96]
abbrev dktJ10_append_2 : List UInt8 := dkwJ10_append_2 ++ dktJ10_append_3
def dkwJ10_append_1 : List UInt8 := [42, 180, 0, 15, 42, 89, 180, 0, 79, 90, 4, 96, 181, 0, 79, 27, 145, 84, 167, 0, 33, 42]
abbrev dktJ10_append_1 : List UInt8 := dkwJ10_append_1 ++ dktJ10_append_2
def dkwJ10_append_0 : List UInt8 := [42, 42, 180, 0, 79, 4, 96, 182, 0, 100, 42, 182, 0, 83, 153, 0, 31, 27, 184, 0, 191, 153, 0, 24]
abbrev dktJ10_append_0 : List UInt8 := dkwJ10_append_0 ++ dktJ10_append_1
theorem dksJ10_append_0 : cJ10_append.data.toList.drop 0 = dktJ10_append_0 := by decide +kernel
theorem dksJ10_append_1 : cJ10_append.data.toList.drop 24 = dktJ10_append_1 := dk_seg dksJ10_append_0 24 rfl rfl
theorem dksJ10_append_2 : cJ10_append.data.toList.drop 46 = dktJ10_append_2 := dk_seg dksJ10_append_1 22 rfl rfl
theorem dksJ10_append_3 : cJ10_append.data.toList.drop 68 = dktJ10_append_3 := dk_seg dksJ10_append_2 22 rfl rfl
theorem dJ10_append_0 : decode cJ10_append 0 = .ok (.aload_n 0, 1) := dk_42 (dk_at dksJ10_append_0 0 rfl rfl)
theorem dJ10_append_1 : decode cJ10_append 1 = .ok (.aload_n 0, 1) := dk_42 (dk_at dksJ10_append_0 1 rfl rfl)
theorem dJ10_append_2 : decode cJ10_append 2 = .ok (.getfield 79, 3) := dk_180 0 79 (dk_at dksJ10_append_0 2 rfl rfl)
theorem dJ10_append_5 : decode cJ10_append 5 = .ok (.iconst 1, 1) := dk_4 (dk_at dksJ10_append_0 5 rfl rfl)
theorem dJ10_append_6 : decode cJ10_append 6 = .ok (.iadd, 1) := dk_96 (dk_at dksJ10_append_0 6 rfl rfl)
theorem dJ10_append_7 : decode cJ10_append 7 = .ok (.invokevirtual 100, 3) := dk_182 0 100 (dk_at dksJ10_append_0 7 rfl rfl)
theorem dJ10_append_10 : decode cJ10_append 10 = .ok (.aload_n 0, 1) := dk_42 (dk_at dksJ10_append_0 10 rfl rfl)
theorem dJ10_append_11 : decode cJ10_append 11 = .ok (.invokevirtual 83, 3) := dk_182 0 83 (dk_at dksJ10_append_0 11 rfl rfl)
theorem dJ10_append_14 : decode cJ10_append 14 = .ok (.ifCond .eq 31, 3) := dk_153 0 31 (dk_at dksJ10_append_0 14 rfl rfl)
theorem dJ10_append_17 : decode cJ10_append 17 = .ok (.iload_n 1, 1) := dk_27 (dk_at dksJ10_append_0 17 rfl rfl)
theorem dJ10_append_18 : decode cJ10_append 18 = .ok (.invokestatic 191, 3) := dk_184 0 191 (dk_at dksJ10_append_0 18 rfl rfl)
theorem dJ10_append_21 : decode cJ10_append 21 = .ok (.ifCond .eq 24, 3) := dk_153 0 24 (dk_at dksJ10_append_0 21 rfl rfl)
theorem dJ10_append_24 : decode cJ10_append 24 = .ok (.aload_n 0, 1) := dk_42 (dk_at dksJ10_append_1 0 rfl rfl)
theorem dJ10_append_25 : decode cJ10_append 25 = .ok (.getfield 15, 3) := dk_180 0 15 (dk_at dksJ10_append_1 1 rfl rfl)
theorem dJ10_append_28 : decode cJ10_append 28 = .ok (.aload_n 0, 1) := dk_42 (dk_at dksJ10_append_1 4 rfl rfl)
theorem dJ10_append_29 : decode cJ10_append 29 = .ok (.dup, 1) := dk_89 (dk_at dksJ10_append_1 5 rfl rfl)
theorem dJ10_append_30 : decode cJ10_append 30 = .ok (.getfield 79, 3) := dk_180 0 79 (dk_at dksJ10_append_1 6 rfl rfl)
theorem dJ10_append_33 : decode cJ10_append 33 = .ok (.dup_x1, 1) := dk_90 (dk_at dksJ10_append_1 9 rfl rfl)
theorem dJ10_append_34 : decode cJ10_append 34 = .ok (.iconst 1, 1) := dk_4 (dk_at dksJ10_append_1 10 rfl rfl)
theorem dJ10_append_35 : decode cJ10_append 35 = .ok (.iadd, 1) := dk_96 (dk_at dksJ10_append_1 11 rfl rfl)
theorem dJ10_append_36 : decode cJ10_append 36 = .ok (.putfield 79, 3) := dk_181 0 79 (dk_at dksJ10_append_1 12 rfl rfl)
theorem dJ10_append_39 : decode cJ10_append 39 = .ok (.iload_n 1, 1) := dk_27 (dk_at dksJ10_append_1 15 rfl rfl)
theorem dJ10_append_40 : decode cJ10_append 40 = .ok (.i2b, 1) := dk_145 (dk_at dksJ10_append_1 16 rfl rfl)
theorem dJ10_append_41 : decode cJ10_append 41 = .ok (.bastore, 1) := dk_84 (dk_at dksJ10_append_1 17 rfl rfl)
theorem dJ10_append_42 : decode cJ10_append 42 = .ok (.goto 33, 3) := dk_167 0 33 (dk_at dksJ10_append_1 18 rfl rfl)
theorem dJ10_append_45 : decode cJ10_append 45 = .ok (.aload_n 0, 1) := dk_42 (dk_at dksJ10_append_1 21 rfl rfl)
theorem dJ10_append_46 : decode cJ10_append 46 = .ok (.invokevirtual 83, 3) := dk_182 0 83 (dk_at dksJ10_append_2 0 rfl rfl)
theorem dJ10_append_49 : decode cJ10_append 49 = .ok (.ifCond .eq 7, 3) := dk_153 0 7 (dk_at dksJ10_append_2 3 rfl rfl)
theorem dJ10_append_52 : decode cJ10_append 52 = .ok (.aload_n 0, 1) := dk_42 (dk_at dksJ10_append_2 6 rfl rfl)
theorem dJ10_append_53 : decode cJ10_append 53 = .ok (.invokevirtual 195, 3) := dk_182 0 195 (dk_at dksJ10_append_2 7 rfl rfl)
theorem dJ10_append_56 : decode cJ10_append 56 = .ok (.aload_n 0, 1) := dk_42 (dk_at dksJ10_append_2 10 rfl rfl)
theorem dJ10_append_57 : decode cJ10_append 57 = .ok (.getfield 15, 3) := dk_180 0 15 (dk_at dksJ10_append_2 11 rfl rfl)
theorem dJ10_append_60 : decode cJ10_append 60 = .ok (.aload_n 0, 1) := dk_42 (dk_at dksJ10_append_2 14 rfl rfl)
theorem dJ10_append_61 : decode cJ10_append 61 = .ok (.dup, 1) := dk_89 (dk_at dksJ10_append_2 15 rfl rfl)
theorem dJ10_append_62 : decode cJ10_append 62 = .ok (.getfield 79, 3) := dk_180 0 79 (dk_at dksJ10_append_2 16 rfl rfl)
theorem dJ10_append_65 : decode cJ10_append 65 = .ok (.dup_x1, 1) := dk_90 (dk_at dksJ10_append_2 19 rfl rfl)
theorem dJ10_append_66 : decode cJ10_append 66 = .ok (.iconst 1, 1) := dk_4 (dk_at dksJ10_append_2 20 rfl rfl)
theorem dJ10_append_67 : decode cJ10_append 67 = .ok (.iadd, 1) := dk_96 (dk_at dksJ10_append_2 21 rfl rfl)
theorem dJ10_append_68 : decode cJ10_append 68 = .ok (.putfield 79, 3) := dk_181 0 79 (dk_at dksJ10_append_3 0 rfl rfl)
theorem dJ10_append_71 : decode cJ10_append 71 = .ok (.iload_n 1, 1) := dk_27 (dk_at dksJ10_append_3 3 rfl rfl)
theorem dJ10_append_72 : decode cJ10_append 72 = .ok (.invokestatic 197, 3) := dk_184 0 197 (dk_at dksJ10_append_3 4 rfl rfl)
theorem dJ10_append_75 : decode cJ10_append 75 = .ok (.aload_n 0, 1) := dk_42 (dk_at dksJ10_append_3 7 rfl rfl)
theorem dJ10_append_76 : decode cJ10_append 76 = .ok (.areturn, 1) := dk_176 (dk_at dksJ10_append_3 8 rfl rfl)
def dkwJ10_ensureCapacityInternal_1 : List UInt8 := [182, 0, 104, 42, 180, 0, 22, 120, 184, 0, 108, 181, 0, 15, 177]
abbrev dktJ10_ensureCapacityInternal_1 : List UInt8 := dkwJ10_ensureCapacityInternal_1 ++ []
def dkwJ10_ensureCapacityInternal_0 : List UInt8 := [42, 180, 0, 15, 190, 42, 180, 0, 22, 122, 61, 27, 28, 100, 158, 0, 24, 42, 42, 180, 0, 15, 42, 27]
abbrev dktJ10_ensureCapacityInternal_0 : List UInt8 := dkwJ10_ensureCapacityInternal_0 ++ dktJ10_ensureCapacityInternal_1
theorem dksJ10_ensureCapacityInternal_0 : cJ10_ensureCapacityInternal.data.toList.drop 0 = dktJ10_ensureCapacityInternal_0 := by decide +kernel
theorem dksJ10_ensureCapacityInternal_1 : cJ10_ensureCapacityInternal.data.toList.drop 24 = dktJ10_ensureCapacityInternal_1 := dk_seg dksJ10_ensureCapacityInternal_0 24 rfl rfl
theorem dJ10_ensureCapacityInternal_0 : decode cJ10_ensureCapacityInternal 0 = .ok (.aload_n 0, 1) := dk_42 (dk_at dksJ10_ensureCapacityInternal_0 0 rfl rfl)
theorem dJ10_ensureCapacityInternal_1 : decode cJ10_ensureCapacityInternal 1 = .ok (.getfield 15, 3) := dk_180 0 15 (dk_at dksJ10_ensureCapacityInternal_0 1 rfl rfl)
theorem dJ10_ensureCapacityInternal_4 : decode cJ10_ensureCapacityInternal 4 = .ok (.arraylength, 1) := dk_190 (dk_at dksJ10_ensureCapacityInternal_0 4 rfl rfl)
theorem dJ10_ensureCapacityInternal_5 : decode cJ10_ensureCapacityInternal 5 = .ok (.aload_n 0, 1) := dk_42 (dk_at dksJ10_ensureCapacityInternal_0 5 rfl rfl)
theorem dJ10_ensureCapacityInternal_6 : decode cJ10_ensureCapacityInternal 6 = .ok (.getfield 22, 3) := dk_180 0 22 (dk_at dksJ10_ensureCapacityInternal_0 6 rfl rfl)
theorem dJ10_ensureCapacityInternal_9 : decode cJ10_ensureCapacityInternal 9 = .ok (.ishr, 1) := dk_122 (dk_at dksJ10_ensureCapacityInternal_0 9 rfl rfl)
theorem dJ10_ensureCapacityInternal_10 : decode cJ10_ensureCapacityInternal 10 = .ok (.istore_n 2, 1) := dk_61 (dk_at dksJ10_ensureCapacityInternal_0 10 rfl rfl)
theorem dJ10_ensureCapacityInternal_11 : decode cJ10_ensureCapacityInternal 11 = .ok (.iload_n 1, 1) := dk_27 (dk_at dksJ10_ensureCapacityInternal_0 11 rfl rfl)
theorem dJ10_ensureCapacityInternal_12 : decode cJ10_ensureCapacityInternal 12 = .ok (.iload_n 2, 1) := dk_28 (dk_at dksJ10_ensureCapacityInternal_0 12 rfl rfl)
theorem dJ10_ensureCapacityInternal_13 : decode cJ10_ensureCapacityInternal 13 = .ok (.isub, 1) := dk_100 (dk_at dksJ10_ensureCapacityInternal_0 13 rfl rfl)
theorem dJ10_ensureCapacityInternal_14 : decode cJ10_ensureCapacityInternal 14 = .ok (.ifCond .le 24, 3) := dk_158 0 24 (dk_at dksJ10_ensureCapacityInternal_0 14 rfl rfl)
theorem dJ10_ensureCapacityInternal_17 : decode cJ10_ensureCapacityInternal 17 = .ok (.aload_n 0, 1) := dk_42 (dk_at dksJ10_ensureCapacityInternal_0 17 rfl rfl)
theorem dJ10_ensureCapacityInternal_18 : decode cJ10_ensureCapacityInternal 18 = .ok (.aload_n 0, 1) := dk_42 (dk_at dksJ10_ensureCapacityInternal_0 18 rfl rfl)
theorem dJ10_ensureCapacityInternal_19 : decode cJ10_ensureCapacityInternal 19 = .ok (.getfield 15, 3) := dk_180 0 15 (dk_at dksJ10_ensureCapacityInternal_0 19 rfl rfl)
theorem dJ10_ensureCapacityInternal_22 : decode cJ10_ensureCapacityInternal 22 = .ok (.aload_n 0, 1) := dk_42 (dk_at dksJ10_ensureCapacityInternal_0 22 rfl rfl)
theorem dJ10_ensureCapacityInternal_23 : decode cJ10_ensureCapacityInternal 23 = .ok (.iload_n 1, 1) := dk_27 (dk_at dksJ10_ensureCapacityInternal_0 23 rfl rfl)
theorem dJ10_ensureCapacityInternal_24 : decode cJ10_ensureCapacityInternal 24 = .ok (.invokevirtual 104, 3) := dk_182 0 104 (dk_at dksJ10_ensureCapacityInternal_1 0 rfl rfl)
theorem dJ10_ensureCapacityInternal_27 : decode cJ10_ensureCapacityInternal 27 = .ok (.aload_n 0, 1) := dk_42 (dk_at dksJ10_ensureCapacityInternal_1 3 rfl rfl)
theorem dJ10_ensureCapacityInternal_28 : decode cJ10_ensureCapacityInternal 28 = .ok (.getfield 22, 3) := dk_180 0 22 (dk_at dksJ10_ensureCapacityInternal_1 4 rfl rfl)
theorem dJ10_ensureCapacityInternal_31 : decode cJ10_ensureCapacityInternal 31 = .ok (.ishl, 1) := dk_120 (dk_at dksJ10_ensureCapacityInternal_1 7 rfl rfl)
theorem dJ10_ensureCapacityInternal_32 : decode cJ10_ensureCapacityInternal 32 = .ok (.invokestatic 108, 3) := dk_184 0 108 (dk_at dksJ10_ensureCapacityInternal_1 8 rfl rfl)
theorem dJ10_ensureCapacityInternal_35 : decode cJ10_ensureCapacityInternal 35 = .ok (.putfield 15, 3) := dk_181 0 15 (dk_at dksJ10_ensureCapacityInternal_1 11 rfl rfl)
theorem dJ10_ensureCapacityInternal_38 : decode cJ10_ensureCapacityInternal 38 = .ok (.return_, 1) := dk_177 (dk_at dksJ10_ensureCapacityInternal_1 14 rfl rfl)
def dkwJ10_newCapacity_2 : List UInt8 := [183, 0, 124, 191, 21, 5, 42, 180, 0, 22, 122, 172]
abbrev dktJ10_newCapacity_2 : List UInt8 := dkwJ10_newCapacity_2 ++ []
def dkwJ10_newCapacity_1 : List UInt8 := [180, 0, 22, 120, 96, 184, 0, 114, 54, 5, 21, 5, 18, 39, 160, 0, 13, 187, 0, 120, 89, 18, 122]
abbrev dktJ10_newCapacity_1 : List UInt8 := dkwJ10_newCapacity_1 ++ dktJ10_newCapacity_2
def dkwJ10_newCapacity_0 : List UInt8 := [42, 180, 0, 15, 190, 61, 27, 42, 180, 0, 22, 120, 62, 29, 28, 100, 54, 4, 28, 21, 4, 28, 5, 42]
abbrev dktJ10_newCapacity_0 : List UInt8 := dkwJ10_newCapacity_0 ++ dktJ10_newCapacity_1
theorem dksJ10_newCapacity_0 : cJ10_newCapacity.data.toList.drop 0 = dktJ10_newCapacity_0 := by decide +kernel
theorem dksJ10_newCapacity_1 : cJ10_newCapacity.data.toList.drop 24 = dktJ10_newCapacity_1 := dk_seg dksJ10_newCapacity_0 24 rfl rfl
theorem dksJ10_newCapacity_2 : cJ10_newCapacity.data.toList.drop 47 = dktJ10_newCapacity_2 := dk_seg dksJ10_newCapacity_1 23 rfl rfl
theorem dJ10_newCapacity_0 : decode cJ10_newCapacity 0 = .ok (.aload_n 0, 1) := dk_42 (dk_at dksJ10_newCapacity_0 0 rfl rfl)
theorem dJ10_newCapacity_1 : decode cJ10_newCapacity 1 = .ok (.getfield 15, 3) := dk_180 0 15 (dk_at dksJ10_newCapacity_0 1 rfl rfl)
theorem dJ10_newCapacity_4 : decode cJ10_newCapacity 4 = .ok (.arraylength, 1) := dk_190 (dk_at dksJ10_newCapacity_0 4 rfl rfl)
theorem dJ10_newCapacity_5 : decode cJ10_newCapacity 5 = .ok (.istore_n 2, 1) := dk_61 (dk_at dksJ10_newCapacity_0 5 rfl rfl)
theorem dJ10_newCapacity_6 : decode cJ10_newCapacity 6 = .ok (.iload_n 1, 1) := dk_27 (dk_at dksJ10_newCapacity_0 6 rfl rfl)
theorem dJ10_newCapacity_7 : decode cJ10_newCapacity 7 = .ok (.aload_n 0, 1) := dk_42 (dk_at dksJ10_newCapacity_0 7 rfl rfl)
theorem dJ10_newCapacity_8 : decode cJ10_newCapacity 8 = .ok (.getfield 22, 3) := dk_180 0 22 (dk_at dksJ10_newCapacity_0 8 rfl rfl)
theorem dJ10_newCapacity_11 : decode cJ10_newCapacity 11 = .ok (.ishl, 1) := dk_120 (dk_at dksJ10_newCapacity_0 11 rfl rfl)
theorem dJ10_newCapacity_12 : decode cJ10_newCapacity 12 = .ok (.istore_n 3, 1) := dk_62 (dk_at dksJ10_newCapacity_0 12 rfl rfl)
theorem dJ10_newCapacity_13 : decode cJ10_newCapacity 13 = .ok (.iload_n 3, 1) := dk_29 (dk_at dksJ10_newCapacity_0 13 rfl rfl)
theorem dJ10_newCapacity_14 : decode cJ10_newCapacity 14 = .ok (.iload_n 2, 1) := dk_28 (dk_at dksJ10_newCapacity_0 14 rfl rfl)
theorem dJ10_newCapacity_15 : decode cJ10_newCapacity 15 = .ok (.isub, 1) := dk_100 (dk_at dksJ10_newCapacity_0 15 rfl rfl)
theorem dJ10_newCapacity_16 : decode cJ10_newCapacity 16 = .ok (.istore 4, 2) := dk_54 4 (dk_at dksJ10_newCapacity_0 16 rfl rfl)
theorem dJ10_newCapacity_18 : decode cJ10_newCapacity 18 = .ok (.iload_n 2, 1) := dk_28 (dk_at dksJ10_newCapacity_0 18 rfl rfl)
theorem dJ10_newCapacity_19 : decode cJ10_newCapacity 19 = .ok (.iload 4, 2) := dk_21 4 (dk_at dksJ10_newCapacity_0 19 rfl rfl)
theorem dJ10_newCapacity_21 : decode cJ10_newCapacity 21 = .ok (.iload_n 2, 1) := dk_28 (dk_at dksJ10_newCapacity_0 21 rfl rfl)
theorem dJ10_newCapacity_22 : decode cJ10_newCapacity 22 = .ok (.iconst 2, 1) := dk_5 (dk_at dksJ10_newCapacity_0 22 rfl rfl)
theorem dJ10_newCapacity_23 : decode cJ10_newCapacity 23 = .ok (.aload_n 0, 1) := dk_42 (dk_at dksJ10_newCapacity_0 23 rfl rfl)
theorem dJ10_newCapacity_24 : decode cJ10_newCapacity 24 = .ok (.getfield 22, 3) := dk_180 0 22 (dk_at dksJ10_newCapacity_1 0 rfl rfl)
theorem dJ10_newCapacity_27 : decode cJ10_newCapacity 27 = .ok (.ishl, 1) := dk_120 (dk_at dksJ10_newCapacity_1 3 rfl rfl)
theorem dJ10_newCapacity_28 : decode cJ10_newCapacity 28 = .ok (.iadd, 1) := dk_96 (dk_at dksJ10_newCapacity_1 4 rfl rfl)
theorem dJ10_newCapacity_29 : decode cJ10_newCapacity 29 = .ok (.invokestatic 114, 3) := dk_184 0 114 (dk_at dksJ10_newCapacity_1 5 rfl rfl)
theorem dJ10_newCapacity_32 : decode cJ10_newCapacity 32 = .ok (.istore 5, 2) := dk_54 5 (dk_at dksJ10_newCapacity_1 8 rfl rfl)
theorem dJ10_newCapacity_34 : decode cJ10_newCapacity 34 = .ok (.iload 5, 2) := dk_21 5 (dk_at dksJ10_newCapacity_1 10 rfl rfl)
theorem dJ10_newCapacity_36 : decode cJ10_newCapacity 36 = .ok (.ldc 39, 2) := dk_18 39 (dk_at dksJ10_newCapacity_1 12 rfl rfl)
theorem dJ10_newCapacity_38 : decode cJ10_newCapacity 38 = .ok (.if_icmp .ne 13, 3) := dk_160 0 13 (dk_at dksJ10_newCapacity_1 14 rfl rfl)
theorem dJ10_newCapacity_41 : decode cJ10_newCapacity 41 = .ok (.new 120, 3) := dk_187 0 120 (dk_at dksJ10_newCapacity_1 17 rfl rfl)
theorem dJ10_newCapacity_44 : decode cJ10_newCapacity 44 = .ok (.dup, 1) := dk_89 (dk_at dksJ10_newCapacity_1 20 rfl rfl)
theorem dJ10_newCapacity_45 : decode cJ10_newCapacity 45 = .ok (.ldc 122, 2) := dk_18 122 (dk_at dksJ10_newCapacity_1 21 rfl rfl)
theorem dJ10_newCapacity_47 : decode cJ10_newCapacity 47 = .ok (.invokespecial 124, 3) := dk_183 0 124 (dk_at dksJ10_newCapacity_2 0 rfl rfl)
theorem dJ10_newCapacity_50 : decode cJ10_newCapacity 50 = .ok (.athrow, 1) := dk_191 (dk_at dksJ10_newCapacity_2 3 rfl rfl)
theorem dJ10_newCapacity_51 : decode cJ10_newCapacity 51 = .ok (.iload 5, 2) := dk_21 5 (dk_at dksJ10_newCapacity_2 4 rfl rfl)
theorem dJ10_newCapacity_53 : decode cJ10_newCapacity 53 = .ok (.aload_n 0, 1) := dk_42 (dk_at dksJ10_newCapacity_2 6 rfl rfl)
theorem dJ10_newCapacity_54 : decode cJ10_newCapacity 54 = .ok (.getfield 22, 3) := dk_180 0 22 (dk_at dksJ10_newCapacity_2 7 rfl rfl)
theorem dJ10_newCapacity_57 : decode cJ10_newCapacity 57 = .ok (.ishr, 1) := dk_122 (dk_at dksJ10_newCapacity_2 10 rfl rfl)
theorem dJ10_newCapacity_58 : decode cJ10_newCapacity 58 = .ok (.ireturn, 1) := dk_172 (dk_at dksJ10_newCapacity_2 11 rfl rfl)
def dkwJ10_isLatin1_0 : List UInt8 := [178, 0, 18, 153, 0, 14, 42, 180, 0, 22, 154, 0, 7, 4, 167, 0, 4, 3, 172]
abbrev dktJ10_isLatin1_0 : List UInt8 := dkwJ10_isLatin1_0 ++ []
theorem dksJ10_isLatin1_0 : cJ10_isLatin1.data.toList.drop 0 = dktJ10_isLatin1_0 := by decide +kernel
theorem dJ10_isLatin1_0 : decode cJ10_isLatin1 0 = .ok (.getstatic 18, 3) := dk_178 0 18 (dk_at dksJ10_isLatin1_0 0 rfl rfl)
theorem dJ10_isLatin1_3 : decode cJ10_isLatin1 3 = .ok (.ifCond .eq 14, 3) := dk_153 0 14 (dk_at dksJ10_isLatin1_0 3 rfl rfl)
theorem dJ10_isLatin1_6 : decode cJ10_isLatin1 6 = .ok (.aload_n 0, 1) := dk_42 (dk_at dksJ10_isLatin1_0 6 rfl rfl)
theorem dJ10_isLatin1_7 : decode cJ10_isLatin1 7 = .ok (.getfield 22, 3) := dk_180 0 22 (dk_at dksJ10_isLatin1_0 7 rfl rfl)
theorem dJ10_isLatin1_10 : decode cJ10_isLatin1 10 = .ok (.ifCond .ne 7, 3) := dk_154 0 7 (dk_at dksJ10_isLatin1_0 10 rfl rfl)
theorem dJ10_isLatin1_13 : decode cJ10_isLatin1 13 = .ok (.iconst 1, 1) := dk_4 (dk_at dksJ10_isLatin1_0 13 rfl rfl)
theorem dJ10_isLatin1_14 : decode cJ10_isLatin1 14 = .ok (.goto 4, 3) := dk_167 0 4 (dk_at dksJ10_isLatin1_0 14 rfl rfl)
theorem dJ10_isLatin1_17 : decode cJ10_isLatin1 17 = .ok (.iconst 0, 1) := dk_3 (dk_at dksJ10_isLatin1_0 17 rfl rfl)
theorem dJ10_isLatin1_18 : decode cJ10_isLatin1 18 = .ok (.ireturn, 1) := dk_172 (dk_at dksJ10_isLatin1_0 18 rfl rfl)
def dkwJ10_inflate_1 : List UInt8 := [42, 180, 0, 79, 184, 0, 125, 42, 43, 181, 0, 15, 42, 4, 181, 0, 22, 177]
abbrev dktJ10_inflate_1 : List UInt8 := dkwJ10_inflate_1 ++ []
def dkwJ10_inflate_0 : List UInt8 := [42, 182, 0, 83, 154, 0, 4, 177, 42, 180, 0, 15, 190, 184, 0, 26, 76, 42, 180, 0, 15, 3, 43, 3]
abbrev dktJ10_inflate_0 : List UInt8 := dkwJ10_inflate_0 ++ dktJ10_inflate_1
theorem dksJ10_inflate_0 : cJ10_inflate.data.toList.drop 0 = dktJ10_inflate_0 := by decide +kernel
theorem dksJ10_inflate_1 : cJ10_inflate.data.toList.drop 24 = dktJ10_inflate_1 := dk_seg dksJ10_inflate_0 24 rfl rfl
theorem dJ10_inflate_0 : decode cJ10_inflate 0 = .ok (.aload_n 0, 1) := dk_42 (dk_at dksJ10_inflate_0 0 rfl rfl)
theorem dJ10_inflate_1 : decode cJ10_inflate 1 = .ok (.invokevirtual 83, 3) := dk_182 0 83 (dk_at dksJ10_inflate_0 1 rfl rfl)
theorem dJ10_inflate_4 : decode cJ10_inflate 4 = .ok (.ifCond .ne 4, 3) := dk_154 0 4 (dk_at dksJ10_inflate_0 4 rfl rfl)
theorem dJ10_inflate_7 : decode cJ10_inflate 7 = .ok (.return_, 1) := dk_177 (dk_at dksJ10_inflate_0 7 rfl rfl)
theorem dJ10_inflate_8 : decode cJ10_inflate 8 = .ok (.aload_n 0, 1) := dk_42 (dk_at dksJ10_inflate_0 8 rfl rfl)
theorem dJ10_inflate_9 : decode cJ10_inflate 9 = .ok (.getfield 15, 3) := dk_180 0 15 (dk_at dksJ10_inflate_0 9 rfl rfl)
theorem dJ10_inflate_12 : decode cJ10_inflate 12 = .ok (.arraylength, 1) := dk_190 (dk_at dksJ10_inflate_0 12 rfl rfl)
theorem dJ10_inflate_13 : decode cJ10_inflate 13 = .ok (.invokestatic 26, 3) := dk_184 0 26 (dk_at dksJ10_inflate_0 13 rfl rfl)
theorem dJ10_inflate_16 : decode cJ10_inflate 16 = .ok (.astore_n 1, 1) := dk_76 (dk_at dksJ10_inflate_0 16 rfl rfl)
theorem dJ10_inflate_17 : decode cJ10_inflate 17 = .ok (.aload_n 0, 1) := dk_42 (dk_at dksJ10_inflate_0 17 rfl rfl)
theorem dJ10_inflate_18 : decode cJ10_inflate 18 = .ok (.getfield 15, 3) := dk_180 0 15 (dk_at dksJ10_inflate_0 18 rfl rfl)
theorem dJ10_inflate_21 : decode cJ10_inflate 21 = .ok (.iconst 0, 1) := dk_3 (dk_at dksJ10_inflate_0 21 rfl rfl)
theorem dJ10_inflate_22 : decode cJ10_inflate 22 = .ok (.aload_n 1, 1) := dk_43 (dk_at dksJ10_inflate_0 22 rfl rfl)
theorem dJ10_inflate_23 : decode cJ10_inflate 23 = .ok (.iconst 0, 1) := dk_3 (dk_at dksJ10_inflate_0 23 rfl rfl)
theorem dJ10_inflate_24 : decode cJ10_inflate 24 = .ok (.aload_n 0, 1) := dk_42 (dk_at dksJ10_inflate_1 0 rfl rfl)
theorem dJ10_inflate_25 : decode cJ10_inflate 25 = .ok (.getfield 79, 3) := dk_180 0 79 (dk_at dksJ10_inflate_1 1 rfl rfl)
theorem dJ10_inflate_28 : decode cJ10_inflate 28 = .ok (.invokestatic 125, 3) := dk_184 0 125 (dk_at dksJ10_inflate_1 4 rfl rfl)
theorem dJ10_inflate_31 : decode cJ10_inflate 31 = .ok (.aload_n 0, 1) := dk_42 (dk_at dksJ10_inflate_1 7 rfl rfl)
theorem dJ10_inflate_32 : decode cJ10_inflate 32 = .ok (.aload_n 1, 1) := dk_43 (dk_at dksJ10_inflate_1 8 rfl rfl)
theorem dJ10_inflate_33 : decode cJ10_inflate 33 = .ok (.putfield 15, 3) := dk_181 0 15 (dk_at dksJ10_inflate_1 9 rfl rfl)
theorem dJ10_inflate_36 : decode cJ10_inflate 36 = .ok (.aload_n 0, 1) := dk_42 (dk_at dksJ10_inflate_1 12 rfl rfl)
theorem dJ10_inflate_37 : decode cJ10_inflate 37 = .ok (.iconst 1, 1) := dk_4 (dk_at dksJ10_inflate_1 13 rfl rfl)
theorem dJ10_inflate_38 : decode cJ10_inflate 38 = .ok (.putfield 22, 3) := dk_181 0 22 (dk_at dksJ10_inflate_1 14 rfl rfl)
theorem dJ10_inflate_41 : decode cJ10_inflate 41 = .ok (.return_, 1) := dk_177 (dk_at dksJ10_inflate_1 17 rfl rfl)
theorem dJ10_getValue_0 : decode cJ10_getValue 0 = .ok (.aload_n 0, 1) := by decide +kernel
theorem dJ10_getValue_1 : decode cJ10_getValue 1 = .ok (.getfield 15, 3) := by decide +kernel
theorem dJ10_getValue_4 : decode cJ10_getValue 4 = .ok (.areturn, 1) := by decide +kernel
theorem dJ10_length_0 : decode cJ10_length 0 = .ok (.aload_n 0, 1) := by decide +kernel
theorem dJ10_length_1 : decode cJ10_length 1 = .ok (.getfield 79, 3) := by decide +kernel
theorem dJ10_length_4 : decode cJ10_length 4 = .ok (.ireturn, 1) := by decide +kernel
def dkwJ11_init_0 : List UInt8 := [42, 16, 16, 183, 0, 1, 177]
abbrev dktJ11_init_0 : List UInt8 := dkwJ11_init_0 ++ []
theorem dksJ11_init_0 : cJ11_init.data.toList.drop 0 = dktJ11_init_0 := by decide +kernel
theorem dJ11_init_0 : decode cJ11_init 0 = .ok (.aload_n 0, 1) := dk_42 (dk_at dksJ11_init_0 0 rfl rfl)
theorem dJ11_init_1 : decode cJ11_init 1 = .ok (.bipush 16, 2) := dk_16 16 (dk_at dksJ11_init_0 1 rfl rfl)
theorem dJ11_init_3 : decode cJ11_init 3 = .ok (.invokespecial 1, 3) := dk_183 0 1 (dk_at dksJ11_init_0 3 rfl rfl)
theorem dJ11_init_6 : decode cJ11_init 6 = .ok (.return_, 1) := dk_177 (dk_at dksJ11_init_0 6 rfl rfl)
def dkwJ11_append_0 : List UInt8 := [42, 27, 183, 0, 50, 87, 42, 176]
abbrev dktJ11_append_0 : List UInt8 := dkwJ11_append_0 ++ []
theorem dksJ11_append_0 : cJ11_append.data.toList.drop 0 = dktJ11_append_0 := by decide +kernel
theorem dJ11_append_0 : decode cJ11_append 0 = .ok (.aload_n 0, 1) := dk_42 (dk_at dksJ11_append_0 0 rfl rfl)
theorem dJ11_append_1 : decode cJ11_append 1 = .ok (.iload_n 1, 1) := dk_27 (dk_at dksJ11_append_0 1 rfl rfl)
theorem dJ11_append_2 : decode cJ11_append 2 = .ok (.invokespecial 50, 3) := dk_183 0 50 (dk_at dksJ11_append_0 2 rfl rfl)
theorem dJ11_append_5 : decode cJ11_append 5 = .ok (.pop, 1) := dk_87 (dk_at dksJ11_append_0 5 rfl rfl)
theorem dJ11_append_6 : decode cJ11_append 6 = .ok (.aload_n 0, 1) := dk_42 (dk_at dksJ11_append_0 6 rfl rfl)
theorem dJ11_append_7 : decode cJ11_append 7 = .ok (.areturn, 1) := dk_176 (dk_at dksJ11_append_0 7 rfl rfl)
def dkwJ11_toString_0 : List UInt8 := [187, 0, 18, 89, 42, 183, 0, 137, 176]
abbrev dktJ11_toString_0 : List UInt8 := dkwJ11_toString_0 ++ []
theorem dksJ11_toString_0 : cJ11_toString.data.toList.drop 0 = dktJ11_toString_0 := by decide +kernel
theorem dJ11_toString_0 : decode cJ11_toString 0 = .ok (.new 18, 3) := dk_187 0 18 (dk_at dksJ11_toString_0 0 rfl rfl)
theorem dJ11_toString_3 : decode cJ11_toString 3 = .ok (.dup, 1) := dk_89 (dk_at dksJ11_toString_0 3 rfl rfl)
theorem dJ11_toString_4 : decode cJ11_toString 4 = .ok (.aload_n 0, 1) := dk_42 (dk_at dksJ11_toString_0 4 rfl rfl)
theorem dJ11_toString_5 : decode cJ11_toString 5 = .ok (.invokespecial 137, 3) := dk_183 0 137 (dk_at dksJ11_toString_0 5 rfl rfl)
theorem dJ11_toString_8 : decode cJ11_toString 8 = .ok (.areturn, 1) := dk_176 (dk_at dksJ11_toString_0 8 rfl rfl)
theorem dJ11_length_0 : decode cJ11_length 0 = .ok (.aload_n 0, 1) := by decide +kernel
theorem dJ11_length_1 : decode cJ11_length 1 = .ok (.invokespecial 343, 3) := by decide +kernel
theorem dJ11_length_4 : decode cJ11_length 4 = .ok (.ireturn, 1) := by decide +kernel
def dkwJ12_checkBoundsOffCount_0 : List UInt8 := [26, 27, 28, 178, 4, 29, 184, 4, 41, 172]
abbrev dktJ12_checkBoundsOffCount_0 : List UInt8 := dkwJ12_checkBoundsOffCount_0 ++ []
theorem dksJ12_checkBoundsOffCount_0 : cJ12_checkBoundsOffCount.data.toList.drop 0 = dktJ12_checkBoundsOffCount_0 := by decide +kernel
theorem dJ12_checkBoundsOffCount_0 : decode cJ12_checkBoundsOffCount 0 = .ok (.iload_n 0, 1) := dk_26 (dk_at dksJ12_checkBoundsOffCount_0 0 rfl rfl)
theorem dJ12_checkBoundsOffCount_1 : decode cJ12_checkBoundsOffCount 1 = .ok (.iload_n 1, 1) := dk_27 (dk_at dksJ12_checkBoundsOffCount_0 1 rfl rfl)
theorem dJ12_checkBoundsOffCount_2 : decode cJ12_checkBoundsOffCount 2 = .ok (.iload_n 2, 1) := dk_28 (dk_at dksJ12_checkBoundsOffCount_0 2 rfl rfl)
theorem dJ12_checkBoundsOffCount_3 : decode cJ12_checkBoundsOffCount 3 = .ok (.getstatic 1053, 3) := dk_178 4 29 (dk_at dksJ12_checkBoundsOffCount_0 3 rfl rfl)
theorem dJ12_checkBoundsOffCount_6 : decode cJ12_checkBoundsOffCount 6 = .ok (.invokestatic 1065, 3) := dk_184 4 41 (dk_at dksJ12_checkBoundsOffCount_0 6 rfl rfl)
theorem dJ12_checkBoundsOffCount_9 : decode cJ12_checkBoundsOffCount 9 = .ok (.ireturn, 1) := dk_172 (dk_at dksJ12_checkBoundsOffCount_0 9 rfl rfl)
def dkwJ12_checkIndex_0 : List UInt8 := [26, 27, 178, 4, 29, 184, 4, 35, 87, 177]
abbrev dktJ12_checkIndex_0 : List UInt8 := dkwJ12_checkIndex_0 ++ []
theorem dksJ12_checkIndex_0 : cJ12_checkIndex.data.toList.drop 0 = dktJ12_checkIndex_0 := by decide +kernel
theorem dJ12_checkIndex_0 : decode cJ12_checkIndex 0 = .ok (.iload_n 0, 1) := dk_26 (dk_at dksJ12_checkIndex_0 0 rfl rfl)
theorem dJ12_checkIndex_1 : decode cJ12_checkIndex 1 = .ok (.iload_n 1, 1) := dk_27 (dk_at dksJ12_checkIndex_0 1 rfl rfl)
theorem dJ12_checkIndex_2 : decode cJ12_checkIndex 2 = .ok (.getstatic 1053, 3) := dk_178 4 29 (dk_at dksJ12_checkIndex_0 2 rfl rfl)
theorem dJ12_checkIndex_5 : decode cJ12_checkIndex 5 = .ok (.invokestatic 1059, 3) := dk_184 4 35 (dk_at dksJ12_checkIndex_0 5 rfl rfl)
theorem dJ12_checkIndex_8 : decode cJ12_checkIndex 8 = .ok (.pop, 1) := dk_87 (dk_at dksJ12_checkIndex_0 8 rfl rfl)
theorem dJ12_checkIndex_9 : decode cJ12_checkIndex 9 = .ok (.return_, 1) := dk_177 (dk_at dksJ12_checkIndex_0 9 rfl rfl)
def dkwJ12_init_0 : List UInt8 := [42, 43, 1, 183, 1, 233, 177]
abbrev dktJ12_init_0 : List UInt8 := dkwJ12_init_0 ++ []
theorem dksJ12_init_0 : cJ12_init.data.toList.drop 0 = dktJ12_init_0 := by decide +kernel
theorem dJ12_init_0 : decode cJ12_init 0 = .ok (.aload_n 0, 1) := dk_42 (dk_at dksJ12_init_0 0 rfl rfl)
theorem dJ12_init_1 : decode cJ12_init 1 = .ok (.aload_n 1, 1) := dk_43 (dk_at dksJ12_init_0 1 rfl rfl)
theorem dJ12_init_2 : decode cJ12_init 2 = .ok (.aconst_null, 1) := dk_1 (dk_at dksJ12_init_0 2 rfl rfl)
theorem dJ12_init_3 : decode cJ12_init 3 = .ok (.invokespecial 489, 3) := dk_183 1 233 (dk_at dksJ12_init_0 3 rfl rfl)
theorem dJ12_init_6 : decode cJ12_init 6 = .ok (.return_, 1) := dk_177 (dk_at dksJ12_init_0 6 rfl rfl)
def dkwJ12_init_2_4 : List UInt8 := [181, 0, 9, 177]
abbrev dktJ12_init_2_4 : List UInt8 := dkwJ12_init_2_4 ++ []
def dkwJ12_init_2_3 : List UInt8 := [184, 0, 47, 181, 0, 15, 177, 42, 4, 181, 0, 15, 42, 45, 3, 21, 4, 4, 120, 184, 0, 54]
abbrev dktJ12_init_2_3 : List UInt8 := dkwJ12_init_2_3 ++ dktJ12_init_2_4
def dkwJ12_init_2_2 : List UInt8 := [180, 4, 24, 153, 0, 28, 42, 45, 3, 21, 4, 184, 4, 27, 181, 0, 9, 42, 42, 180, 0, 9, 21, 4]
abbrev dktJ12_init_2_2 : List UInt8 := dkwJ12_init_2_2 ++ dktJ12_init_2_3
def dkwJ12_init_2_1 : List UInt8 := [181, 0, 15, 42, 45, 3, 21, 4, 184, 0, 54, 181, 0, 9, 167, 0, 59, 178, 0, 38, 153, 0, 35, 43]
abbrev dktJ12_init_2_1 : List UInt8 := dkwJ12_init_2_1 ++ dktJ12_init_2_2
def dkwJ12_init_2_0 : List UInt8 := [42, 183, 0, 1, 43, 182, 2, 40, 78, 43, 182, 2, 37, 54, 4, 43, 182, 4, 23, 153, 0, 22, 42, 3]
abbrev dktJ12_init_2_0 : List UInt8 := dkwJ12_init_2_0 ++ dktJ12_init_2_1
theorem dksJ12_init_2_0 : cJ12_init_2.data.toList.drop 0 = dktJ12_init_2_0 := by decide +kernel
theorem dksJ12_init_2_1 : cJ12_init_2.data.toList.drop 24 = dktJ12_init_2_1 := dk_seg dksJ12_init_2_0 24 rfl rfl
theorem dksJ12_init_2_2 : cJ12_init_2.data.toList.drop 48 = dktJ12_init_2_2 := dk_seg dksJ12_init_2_1 24 rfl rfl
theorem dksJ12_init_2_3 : cJ12_init_2.data.toList.drop 72 = dktJ12_init_2_3 := dk_seg dksJ12_init_2_2 24 rfl rfl
theorem dksJ12_init_2_4 : cJ12_init_2.data.toList.drop 94 = dktJ12_init_2_4 := dk_seg dksJ12_init_2_3 22 rfl rfl
theorem dJ12_init_2_0 : decode cJ12_init_2 0 = .ok (.aload_n 0, 1) := dk_42 (dk_at dksJ12_init_2_0 0 rfl rfl)
theorem dJ12_init_2_1 : decode cJ12_init_2 1 = .ok (.invokespecial 1, 3) := dk_183 0 1 (dk_at dksJ12_init_2_0 1 rfl rfl)
theorem dJ12_init_2_4 : decode cJ12_init_2 4 = .ok (.aload_n 1, 1) := dk_43 (dk_at dksJ12_init_2_0 4 rfl rfl)
theorem dJ12_init_2_5 : decode cJ12_init_2 5 = .ok (.invokevirtual 552, 3) := dk_182 2 40 (dk_at dksJ12_init_2_0 5 rfl rfl)
theorem dJ12_init_2_8 : decode cJ12_init_2 8 = .ok (.astore_n 3, 1) := dk_78 (dk_at dksJ12_init_2_0 8 rfl rfl)
theorem dJ12_init_2_9 : decode cJ12_init_2 9 = .ok (.aload_n 1, 1) := dk_43 (dk_at dksJ12_init_2_0 9 rfl rfl)
theorem dJ12_init_2_10 : decode cJ12_init_2 10 = .ok (.invokevirtual 549, 3) := dk_182 2 37 (dk_at dksJ12_init_2_0 10 rfl rfl)
theorem dJ12_init_2_13 : decode cJ12_init_2 13 = .ok (.istore 4, 2) := dk_54 4 (dk_at dksJ12_init_2_0 13 rfl rfl)
theorem dJ12_init_2_15 : decode cJ12_init_2 15 = .ok (.aload_n 1, 1) := dk_43 (dk_at dksJ12_init_2_0 15 rfl rfl)
theorem dJ12_init_2_16 : decode cJ12_init_2 16 = .ok (.invokevirtual 1047, 3) := dk_182 4 23 (dk_at dksJ12_init_2_0 16 rfl rfl)
theorem dJ12_init_2_19 : decode cJ12_init_2 19 = .ok (.ifCond .eq 22, 3) := dk_153 0 22 (dk_at dksJ12_init_2_0 19 rfl rfl)
theorem dJ12_init_2_22 : decode cJ12_init_2 22 = .ok (.aload_n 0, 1) := dk_42 (dk_at dksJ12_init_2_0 22 rfl rfl)
theorem dJ12_init_2_23 : decode cJ12_init_2 23 = .ok (.iconst 0, 1) := dk_3 (dk_at dksJ12_init_2_0 23 rfl rfl)
theorem dJ12_init_2_24 : decode cJ12_init_2 24 = .ok (.putfield 15, 3) := dk_181 0 15 (dk_at dksJ12_init_2_1 0 rfl rfl)
theorem dJ12_init_2_27 : decode cJ12_init_2 27 = .ok (.aload_n 0, 1) := dk_42 (dk_at dksJ12_init_2_1 3 rfl rfl)
theorem dJ12_init_2_28 : decode cJ12_init_2 28 = .ok (.aload_n 3, 1) := dk_45 (dk_at dksJ12_init_2_1 4 rfl rfl)
theorem dJ12_init_2_29 : decode cJ12_init_2 29 = .ok (.iconst 0, 1) := dk_3 (dk_at dksJ12_init_2_1 5 rfl rfl)
theorem dJ12_init_2_30 : decode cJ12_init_2 30 = .ok (.iload 4, 2) := dk_21 4 (dk_at dksJ12_init_2_1 6 rfl rfl)
theorem dJ12_init_2_32 : decode cJ12_init_2 32 = .ok (.invokestatic 54, 3) := dk_184 0 54 (dk_at dksJ12_init_2_1 8 rfl rfl)
theorem dJ12_init_2_35 : decode cJ12_init_2 35 = .ok (.putfield 9, 3) := dk_181 0 9 (dk_at dksJ12_init_2_1 11 rfl rfl)
theorem dJ12_init_2_38 : decode cJ12_init_2 38 = .ok (.goto 59, 3) := dk_167 0 59 (dk_at dksJ12_init_2_1 14 rfl rfl)
theorem dJ12_init_2_41 : decode cJ12_init_2 41 = .ok (.getstatic 38, 3) := dk_178 0 38 (dk_at dksJ12_init_2_1 17 rfl rfl)
theorem dJ12_init_2_44 : decode cJ12_init_2 44 = .ok (.ifCond .eq 35, 3) := dk_153 0 35 (dk_at dksJ12_init_2_1 20 rfl rfl)
theorem dJ12_init_2_47 : decode cJ12_init_2 47 = .ok (.aload_n 1, 1) := dk_43 (dk_at dksJ12_init_2_1 23 rfl rfl)
theorem dJ12_init_2_48 : decode cJ12_init_2 48 = .ok (.getfield 1048, 3) := dk_180 4 24 (dk_at dksJ12_init_2_2 0 rfl rfl)
theorem dJ12_init_2_51 : decode cJ12_init_2 51 = .ok (.ifCond .eq 28, 3) := dk_153 0 28 (dk_at dksJ12_init_2_2 3 rfl rfl)
theorem dJ12_init_2_54 : decode cJ12_init_2 54 = .ok (.aload_n 0, 1) := dk_42 (dk_at dksJ12_init_2_2 6 rfl rfl)
theorem dJ12_init_2_55 : decode cJ12_init_2 55 = .ok (.aload_n 3, 1) := dk_45 (dk_at dksJ12_init_2_2 7 rfl rfl)
theorem dJ12_init_2_56 : decode cJ12_init_2 56 = .ok (.iconst 0, 1) := dk_3 (dk_at dksJ12_init_2_2 8 rfl rfl)
theorem dJ12_init_2_57 : decode cJ12_init_2 57 = .ok (.iload 4, 2) := dk_21 4 (dk_at dksJ12_init_2_2 9 rfl rfl)
theorem dJ12_init_2_59 : decode cJ12_init_2 59 = .ok (.invokestatic 1051, 3) := dk_184 4 27 (dk_at dksJ12_init_2_2 11 rfl rfl)
theorem dJ12_init_2_62 : decode cJ12_init_2 62 = .ok (.putfield 9, 3) := dk_181 0 9 (dk_at dksJ12_init_2_2 14 rfl rfl)
theorem dJ12_init_2_65 : decode cJ12_init_2 65 = .ok (.aload_n 0, 1) := dk_42 (dk_at dksJ12_init_2_2 17 rfl rfl)
theorem dJ12_init_2_66 : decode cJ12_init_2 66 = .ok (.aload_n 0, 1) := dk_42 (dk_at dksJ12_init_2_2 18 rfl rfl)
theorem dJ12_init_2_67 : decode cJ12_init_2 67 = .ok (.getfield 9, 3) := dk_180 0 9 (dk_at dksJ12_init_2_2 19 rfl rfl)
theorem dJ12_init_2_70 : decode cJ12_init_2 70 = .ok (.iload 4, 2) := dk_21 4 (dk_at dksJ12_init_2_2 22 rfl rfl)
theorem dJ12_init_2_72 : decode cJ12_init_2 72 = .ok (.invokestatic 47, 3) := dk_184 0 47 (dk_at dksJ12_init_2_3 0 rfl rfl)
theorem dJ12_init_2_75 : decode cJ12_init_2 75 = .ok (.putfield 15, 3) := dk_181 0 15 (dk_at dksJ12_init_2_3 3 rfl rfl)
theorem dJ12_init_2_78 : decode cJ12_init_2 78 = .ok (.return_, 1) := dk_177 (dk_at dksJ12_init_2_3 6 rfl rfl)
theorem dJ12_init_2_79 : decode cJ12_init_2 79 = .ok (.aload_n 0, 1) := dk_42 (dk_at dksJ12_init_2_3 7 rfl rfl)
theorem dJ12_init_2_80 : decode cJ12_init_2 80 = .ok (.iconst 1, 1) := dk_4 (dk_at dksJ12_init_2_3 8 rfl rfl)
theorem dJ12_init_2_81 : decode cJ12_init_2 81 = .ok (.putfield 15, 3) := dk_181 0 15 (dk_at dksJ12_init_2_3 9 rfl rfl)
theorem dJ12_init_2_84 : decode cJ12_init_2 84 = .ok (.aload_n 0, 1) := dk_42 (dk_at dksJ12_init_2_3 12 rfl rfl)
theorem dJ12_init_2_85 : decode cJ12_init_2 85 = .ok (.aload_n 3, 1) := dk_45 (dk_at dksJ12_init_2_3 13 rfl rfl)
theorem dJ12_init_2_86 : decode cJ12_init_2 86 = .ok (.iconst 0, 1) := dk_3 (dk_at dksJ12_init_2_3 14 rfl rfl)
theorem dJ12_init_2_87 : decode cJ12_init_2 87 = .ok (.iload 4, 2) := dk_21 4 (dk_at dksJ12_init_2_3 15 rfl rfl)
theorem dJ12_init_2_89 : decode cJ12_init_2 89 = .ok (.iconst 1, 1) := dk_4 (dk_at dksJ12_init_2_3 17 rfl rfl)
theorem dJ12_init_2_90 : decode cJ12_init_2 90 = .ok (.ishl, 1) := dk_120 (dk_at dksJ12_init_2_3 18 rfl rfl)
theorem dJ12_init_2_91 : decode cJ12_init_2 91 = .ok (.invokestatic 54, 3) := dk_184 0 54 (dk_at dksJ12_init_2_3 19 rfl rfl)
theorem dJ12_init_2_94 : decode cJ12_init_2 94 = .ok (.putfield 9, 3) := dk_181 0 9 (dk_at dksJ12_init_2_4 0 rfl rfl)
theorem dJ12_init_2_97 : decode cJ12_init_2 97 = .ok (.return_, 1) := dk_177 (dk_at dksJ12_init_2_4 3 rfl rfl)
def dkwJ12_hashCode_2 : List UInt8 := [181, 0, 23, 167, 0, 8, 42, 27, 181, 0, 19, 27, 172]
abbrev dktJ12_hashCode_2 : List UInt8 := dkwJ12_hashCode_2 ++ []
def dkwJ12_hashCode_1 : List UInt8 := [180, 0, 9, 184, 2, 116, 167, 0, 10, 42, 180, 0, 9, 184, 2, 120, 60, 27, 154, 0, 11, 42, 4]
abbrev dktJ12_hashCode_1 : List UInt8 := dkwJ12_hashCode_1 ++ dktJ12_hashCode_2
def dkwJ12_hashCode_0 : List UInt8 := [42, 180, 0, 19, 60, 27, 154, 0, 52, 42, 180, 0, 23, 154, 0, 45, 42, 182, 1, 236, 153, 0, 13, 42]
abbrev dktJ12_hashCode_0 : List UInt8 := dkwJ12_hashCode_0 ++ dktJ12_hashCode_1
theorem dksJ12_hashCode_0 : cJ12_hashCode.data.toList.drop 0 = dktJ12_hashCode_0 := by decide +kernel
theorem dksJ12_hashCode_1 : cJ12_hashCode.data.toList.drop 24 = dktJ12_hashCode_1 := dk_seg dksJ12_hashCode_0 24 rfl rfl
theorem dksJ12_hashCode_2 : cJ12_hashCode.data.toList.drop 47 = dktJ12_hashCode_2 := dk_seg dksJ12_hashCode_1 23 rfl rfl
theorem dJ12_hashCode_0 : decode cJ12_hashCode 0 = .ok (.aload_n 0, 1) := dk_42 (dk_at dksJ12_hashCode_0 0 rfl rfl)
theorem dJ12_hashCode_1 : decode cJ12_hashCode 1 = .ok (.getfield 19, 3) := dk_180 0 19 (dk_at dksJ12_hashCode_0 1 rfl rfl)
theorem dJ12_hashCode_4 : decode cJ12_hashCode 4 = .ok (.istore_n 1, 1) := dk_60 (dk_at dksJ12_hashCode_0 4 rfl rfl)
theorem dJ12_hashCode_5 : decode cJ12_hashCode 5 = .ok (.iload_n 1, 1) := dk_27 (dk_at dksJ12_hashCode_0 5 rfl rfl)
theorem dJ12_hashCode_6 : decode cJ12_hashCode 6 = .ok (.ifCond .ne 52, 3) := dk_154 0 52 (dk_at dksJ12_hashCode_0 6 rfl rfl)
theorem dJ12_hashCode_9 : decode cJ12_hashCode 9 = .ok (.aload_n 0, 1) := dk_42 (dk_at dksJ12_hashCode_0 9 rfl rfl)
theorem dJ12_hashCode_10 : decode cJ12_hashCode 10 = .ok (.getfield 23, 3) := dk_180 0 23 (dk_at dksJ12_hashCode_0 10 rfl rfl)
theorem dJ12_hashCode_13 : decode cJ12_hashCode 13 = .ok (.ifCond .ne 45, 3) := dk_154 0 45 (dk_at dksJ12_hashCode_0 13 rfl rfl)
theorem dJ12_hashCode_16 : decode cJ12_hashCode 16 = .ok (.aload_n 0, 1) := dk_42 (dk_at dksJ12_hashCode_0 16 rfl rfl)
theorem dJ12_hashCode_17 : decode cJ12_hashCode 17 = .ok (.invokevirtual 492, 3) := dk_182 1 236 (dk_at dksJ12_hashCode_0 17 rfl rfl)
theorem dJ12_hashCode_20 : decode cJ12_hashCode 20 = .ok (.ifCond .eq 13, 3) := dk_153 0 13 (dk_at dksJ12_hashCode_0 20 rfl rfl)
theorem dJ12_hashCode_23 : decode cJ12_hashCode 23 = .ok (.aload_n 0, 1) := dk_42 (dk_at dksJ12_hashCode_0 23 rfl rfl)
theorem dJ12_hashCode_24 : decode cJ12_hashCode 24 = .ok (.getfield 9, 3) := dk_180 0 9 (dk_at dksJ12_hashCode_1 0 rfl rfl)
theorem dJ12_hashCode_27 : decode cJ12_hashCode 27 = .ok (.invokestatic 628, 3) := dk_184 2 116 (dk_at dksJ12_hashCode_1 3 rfl rfl)
theorem dJ12_hashCode_30 : decode cJ12_hashCode 30 = .ok (.goto 10, 3) := dk_167 0 10 (dk_at dksJ12_hashCode_1 6 rfl rfl)
theorem dJ12_hashCode_33 : decode cJ12_hashCode 33 = .ok (.aload_n 0, 1) := dk_42 (dk_at dksJ12_hashCode_1 9 rfl rfl)
theorem dJ12_hashCode_34 : decode cJ12_hashCode 34 = .ok (.getfield 9, 3) := dk_180 0 9 (dk_at dksJ12_hashCode_1 10 rfl rfl)
theorem dJ12_hashCode_37 : decode cJ12_hashCode 37 = .ok (.invokestatic 632, 3) := dk_184 2 120 (dk_at dksJ12_hashCode_1 13 rfl rfl)
theorem dJ12_hashCode_40 : decode cJ12_hashCode 40 = .ok (.istore_n 1, 1) := dk_60 (dk_at dksJ12_hashCode_1 16 rfl rfl)
theorem dJ12_hashCode_41 : decode cJ12_hashCode 41 = .ok (.iload_n 1, 1) := dk_27 (dk_at dksJ12_hashCode_1 17 rfl rfl)
theorem dJ12_hashCode_42 : decode cJ12_hashCode 42 = .ok (.ifCond .ne 11, 3) := dk_154 0 11 (dk_at dksJ12_hashCode_1 18 rfl rfl)
theorem dJ12_hashCode_45 : decode cJ12_hashCode 45 = .ok (.aload_n 0, 1) := dk_42 (dk_at dksJ12_hashCode_1 21 rfl rfl)
theorem dJ12_hashCode_46 : decode cJ12_hashCode 46 = .ok (.iconst 1, 1) := dk_4 (dk_at dksJ12_hashCode_1 22 rfl rfl)
theorem dJ12_hashCode_47 : decode cJ12_hashCode 47 = .ok (.putfield 23, 3) := dk_181 0 23 (dk_at dksJ12_hashCode_2 0 rfl rfl)
theorem dJ12_hashCode_50 : decode cJ12_hashCode 50 = .ok (.goto 8, 3) := dk_167 0 8 (dk_at dksJ12_hashCode_2 3 rfl rfl)
theorem dJ12_hashCode_53 : decode cJ12_hashCode 53 = .ok (.aload_n 0, 1) := dk_42 (dk_at dksJ12_hashCode_2 6 rfl rfl)
theorem dJ12_hashCode_54 : decode cJ12_hashCode 54 = .ok (.iload_n 1, 1) := dk_27 (dk_at dksJ12_hashCode_2 7 rfl rfl)
theorem dJ12_hashCode_55 : decode cJ12_hashCode 55 = .ok (.putfield 19, 3) := dk_181 0 19 (dk_at dksJ12_hashCode_2 8 rfl rfl)
theorem dJ12_hashCode_58 : decode cJ12_hashCode 58 = .ok (.iload_n 1, 1) := dk_27 (dk_at dksJ12_hashCode_2 11 rfl rfl)
theorem dJ12_hashCode_59 : decode cJ12_hashCode 59 = .ok (.ireturn, 1) := dk_172 (dk_at dksJ12_hashCode_2 12 rfl rfl)
def dkwJ12_isLatin1_0 : List UInt8 := [178, 0, 38, 153, 0, 14, 42, 180, 0, 15, 154, 0, 7, 4, 167, 0, 4, 3, 172]
abbrev dktJ12_isLatin1_0 : List UInt8 := dkwJ12_isLatin1_0 ++ []
theorem dksJ12_isLatin1_0 : cJ12_isLatin1.data.toList.drop 0 = dktJ12_isLatin1_0 := by decide +kernel
theorem dJ12_isLatin1_0 : decode cJ12_isLatin1 0 = .ok (.getstatic 38, 3) := dk_178 0 38 (dk_at dksJ12_isLatin1_0 0 rfl rfl)
theorem dJ12_isLatin1_3 : decode cJ12_isLatin1 3 = .ok (.ifCond .eq 14, 3) := dk_153 0 14 (dk_at dksJ12_isLatin1_0 3 rfl rfl)
theorem dJ12_isLatin1_6 : decode cJ12_isLatin1 6 = .ok (.aload_n 0, 1) := dk_42 (dk_at dksJ12_isLatin1_0 6 rfl rfl)
theorem dJ12_isLatin1_7 : decode cJ12_isLatin1 7 = .ok (.getfield 15, 3) := dk_180 0 15 (dk_at dksJ12_isLatin1_0 7 rfl rfl)
theorem dJ12_isLatin1_10 : decode cJ12_isLatin1 10 = .ok (.ifCond .ne 7, 3) := dk_154 0 7 (dk_at dksJ12_isLatin1_0 10 rfl rfl)
theorem dJ12_isLatin1_13 : decode cJ12_isLatin1 13 = .ok (.iconst 1, 1) := dk_4 (dk_at dksJ12_isLatin1_0 13 rfl rfl)
theorem dJ12_isLatin1_14 : decode cJ12_isLatin1 14 = .ok (.goto 4, 3) := dk_167 0 4 (dk_at dksJ12_isLatin1_0 14 rfl rfl)
theorem dJ12_isLatin1_17 : decode cJ12_isLatin1 17 = .ok (.iconst 0, 1) := dk_3 (dk_at dksJ12_isLatin1_0 17 rfl rfl)
theorem dJ12_isLatin1_18 : decode cJ12_isLatin1 18 = .ok (.ireturn, 1) := dk_172 (dk_at dksJ12_isLatin1_0 18 rfl rfl)
def dkwJ12_equals_2 : List UInt8 := [184, 2, 29, 153, 0, 7, 4, 167, 0, 4, 3, 172]
abbrev dktJ12_equals_2 : List UInt8 := dkwJ12_equals_2 ++ []
def dkwJ12_equals_1 : List UInt8 := [153, 0, 14, 42, 180, 0, 15, 44, 180, 0, 15, 160, 0, 21, 42, 180, 0, 9, 44, 180, 0, 9]
abbrev dktJ12_equals_1 : List UInt8 := dkwJ12_equals_1 ++ dktJ12_equals_2
def dkwJ12_equals_0 : List UInt8 := [42, 43, 166, 0, 5, 4, 172, 43, 193, 0, 10, 153, 0, 43, 43, 192, 0, 10, 77, 178, 0, 38]
abbrev dktJ12_equals_0 : List UInt8 := dkwJ12_equals_0 ++ dktJ12_equals_1
theorem dksJ12_equals_0 : cJ12_equals.data.toList.drop 0 = dktJ12_equals_0 := by decide +kernel
theorem dksJ12_equals_1 : cJ12_equals.data.toList.drop 22 = dktJ12_equals_1 := dk_seg dksJ12_equals_0 22 rfl rfl
theorem dksJ12_equals_2 : cJ12_equals.data.toList.drop 44 = dktJ12_equals_2 := dk_seg dksJ12_equals_1 22 rfl rfl
theorem dJ12_equals_0 : decode cJ12_equals 0 = .ok (.aload_n 0, 1) := dk_42 (dk_at dksJ12_equals_0 0 rfl rfl)
theorem dJ12_equals_1 : decode cJ12_equals 1 = .ok (.aload_n 1, 1) := dk_43 (dk_at dksJ12_equals_0 1 rfl rfl)
theorem dJ12_equals_2 : decode cJ12_equals 2 = .ok (.if_acmp .ne 5, 3) := dk_166 0 5 (dk_at dksJ12_equals_0 2 rfl rfl)
theorem dJ12_equals_5 : decode cJ12_equals 5 = .ok (.iconst 1, 1) := dk_4 (dk_at dksJ12_equals_0 5 rfl rfl)
theorem dJ12_equals_6 : decode cJ12_equals 6 = .ok (.ireturn, 1) := dk_172 (dk_at dksJ12_equals_0 6 rfl rfl)
theorem dJ12_equals_7 : decode cJ12_equals 7 = .ok (.aload_n 1, 1) := dk_43 (dk_at dksJ12_equals_0 7 rfl rfl)
theorem dJ12_equals_8 : decode cJ12_equals 8 = .ok (.instanceof 10, 3) := dk_193 0 10 (dk_at dksJ12_equals_0 8 rfl rfl)
theorem dJ12_equals_11 : decode cJ12_equals 11 = .ok (.ifCond .eq 43, 3) := dk_153 0 43 (dk_at dksJ12_equals_0 11 rfl rfl)
theorem dJ12_equals_14 : decode cJ12_equals 14 = .ok (.aload_n 1, 1) := dk_43 (dk_at dksJ12_equals_0 14 rfl rfl)
theorem dJ12_equals_15 : decode cJ12_equals 15 = .ok (.checkcast 10, 3) := dk_192 0 10 (dk_at dksJ12_equals_0 15 rfl rfl)
theorem dJ12_equals_18 : decode cJ12_equals 18 = .ok (.astore_n 2, 1) := dk_77 (dk_at dksJ12_equals_0 18 rfl rfl)
theorem dJ12_equals_19 : decode cJ12_equals 19 = .ok (.getstatic 38, 3) := dk_178 0 38 (dk_at dksJ12_equals_0 19 rfl rfl)
theorem dJ12_equals_22 : decode cJ12_equals 22 = .ok (.ifCond .eq 14, 3) := dk_153 0 14 (dk_at dksJ12_equals_1 0 rfl rfl)
theorem dJ12_equals_25 : decode cJ12_equals 25 = .ok (.aload_n 0, 1) := dk_42 (dk_at dksJ12_equals_1 3 rfl rfl)
theorem dJ12_equals_26 : decode cJ12_equals 26 = .ok (.getfield 15, 3) := dk_180 0 15 (dk_at dksJ12_equals_1 4 rfl rfl)
theorem dJ12_equals_29 : decode cJ12_equals 29 = .ok (.aload_n 2, 1) := dk_44 (dk_at dksJ12_equals_1 7 rfl rfl)
theorem dJ12_equals_30 : decode cJ12_equals 30 = .ok (.getfield 15, 3) := dk_180 0 15 (dk_at dksJ12_equals_1 8 rfl rfl)
theorem dJ12_equals_33 : decode cJ12_equals 33 = .ok (.if_icmp .ne 21, 3) := dk_160 0 21 (dk_at dksJ12_equals_1 11 rfl rfl)
theorem dJ12_equals_36 : decode cJ12_equals 36 = .ok (.aload_n 0, 1) := dk_42 (dk_at dksJ12_equals_1 14 rfl rfl)
theorem dJ12_equals_37 : decode cJ12_equals 37 = .ok (.getfield 9, 3) := dk_180 0 9 (dk_at dksJ12_equals_1 15 rfl rfl)
theorem dJ12_equals_40 : decode cJ12_equals 40 = .ok (.aload_n 2, 1) := dk_44 (dk_at dksJ12_equals_1 18 rfl rfl)
theorem dJ12_equals_41 : decode cJ12_equals 41 = .ok (.getfield 9, 3) := dk_180 0 9 (dk_at dksJ12_equals_1 19 rfl rfl)
theorem dJ12_equals_44 : decode cJ12_equals 44 = .ok (.invokestatic 541, 3) := dk_184 2 29 (dk_at dksJ12_equals_2 0 rfl rfl)
theorem dJ12_equals_47 : decode cJ12_equals 47 = .ok (.ifCond .eq 7, 3) := dk_153 0 7 (dk_at dksJ12_equals_2 3 rfl rfl)
theorem dJ12_equals_50 : decode cJ12_equals 50 = .ok (.iconst 1, 1) := dk_4 (dk_at dksJ12_equals_2 6 rfl rfl)
theorem dJ12_equals_51 : decode cJ12_equals 51 = .ok (.goto 4, 3) := dk_167 0 4 (dk_at dksJ12_equals_2 7 rfl rfl)
theorem dJ12_equals_54 : decode cJ12_equals 54 = .ok (.iconst 0, 1) := dk_3 (dk_at dksJ12_equals_2 10 rfl rfl)
theorem dJ12_equals_55 : decode cJ12_equals 55 = .ok (.ireturn, 1) := dk_172 (dk_at dksJ12_equals_2 11 rfl rfl)
def dkwJ14_canEncode_0 : List UInt8 := [26, 17, 0, 255, 163, 0, 7, 4, 167, 0, 4, 3, 172]
abbrev dktJ14_canEncode_0 : List UInt8 := dkwJ14_canEncode_0 ++ []
theorem dksJ14_canEncode_0 : cJ14_canEncode.data.toList.drop 0 = dktJ14_canEncode_0 := by decide +kernel
theorem dJ14_canEncode_0 : decode cJ14_canEncode 0 = .ok (.iload_n 0, 1) := dk_26 (dk_at dksJ14_canEncode_0 0 rfl rfl)
theorem dJ14_canEncode_1 : decode cJ14_canEncode 1 = .ok (.sipush 255, 3) := dk_17 0 255 (dk_at dksJ14_canEncode_0 1 rfl rfl)
theorem dJ14_canEncode_4 : decode cJ14_canEncode 4 = .ok (.if_icmp .gt 7, 3) := dk_163 0 7 (dk_at dksJ14_canEncode_0 4 rfl rfl)
theorem dJ14_canEncode_7 : decode cJ14_canEncode 7 = .ok (.iconst 1, 1) := dk_4 (dk_at dksJ14_canEncode_0 7 rfl rfl)
theorem dJ14_canEncode_8 : decode cJ14_canEncode 8 = .ok (.goto 4, 3) := dk_167 0 4 (dk_at dksJ14_canEncode_0 8 rfl rfl)
theorem dJ14_canEncode_11 : decode cJ14_canEncode 11 = .ok (.iconst 0, 1) := dk_3 (dk_at dksJ14_canEncode_0 11 rfl rfl)
theorem dJ14_canEncode_12 : decode cJ14_canEncode 12 = .ok (.ireturn, 1) := dk_172 (dk_at dksJ14_canEncode_0 12 rfl rfl)
def dkwJ14_inflate_0 : List UInt8 := [42, 27, 44, 29, 21, 4, 184, 0, 240, 177]
abbrev dktJ14_inflate_0 : List UInt8 := dkwJ14_inflate_0 ++ []
theorem dksJ14_inflate_0 : cJ14_inflate.data.toList.drop 0 = dktJ14_inflate_0 := by decide +kernel
theorem dJ14_inflate_0 : decode cJ14_inflate 0 = .ok (.aload_n 0, 1) := dk_42 (dk_at dksJ14_inflate_0 0 rfl rfl)
theorem dJ14_inflate_1 : decode cJ14_inflate 1 = .ok (.iload_n 1, 1) := dk_27 (dk_at dksJ14_inflate_0 1 rfl rfl)
theorem dJ14_inflate_2 : decode cJ14_inflate 2 = .ok (.aload_n 2, 1) := dk_44 (dk_at dksJ14_inflate_0 2 rfl rfl)
theorem dJ14_inflate_3 : decode cJ14_inflate 3 = .ok (.iload_n 3, 1) := dk_29 (dk_at dksJ14_inflate_0 3 rfl rfl)
theorem dJ14_inflate_4 : decode cJ14_inflate 4 = .ok (.iload 4, 2) := dk_21 4 (dk_at dksJ14_inflate_0 4 rfl rfl)
theorem dJ14_inflate_6 : decode cJ14_inflate 6 = .ok (.invokestatic 240, 3) := dk_184 0 240 (dk_at dksJ14_inflate_0 6 rfl rfl)
theorem dJ14_inflate_9 : decode cJ14_inflate 9 = .ok (.return_, 1) := dk_177 (dk_at dksJ14_inflate_0 9 rfl rfl)
def dkwJ14_hashCode_2 : List UInt8 := [3, 167, 0, 22, 42, 3, 51, 17, 0, 255, 126, 167, 0, 12, 42, 3, 42, 190, 3, 7, 184, 0, 84, 172]
abbrev dktJ14_hashCode_2 : List UInt8 := dkwJ14_hashCode_2 ++ []
def dkwJ14_hashCode_1 : List UInt8 := [171, 0, 0, 0, 0, 40, 0, 0, 0, 2, 0, 0, 0, 0, 0, 0, 0, 26, 0, 0, 0, 1, 0, 0, 0, 30]
abbrev dktJ14_hashCode_1 : List UInt8 := dkwJ14_hashCode_1 ++ dktJ14_hashCode_2
def dkwJ14_hashCode_0 : List UInt8 := [42, 190]
abbrev dktJ14_hashCode_0 : List UInt8 := dkwJ14_hashCode_0 ++ dktJ14_hashCode_1
theorem dksJ14_hashCode_0 : cJ14_hashCode.data.toList.drop 0 = dktJ14_hashCode_0 := by decide +kernel
theorem dksJ14_hashCode_1 : cJ14_hashCode.data.toList.drop 2 = dktJ14_hashCode_1 := dk_seg dksJ14_hashCode_0 2 rfl rfl
theorem dksJ14_hashCode_2 : cJ14_hashCode.data.toList.drop 28 = dktJ14_hashCode_2 := dk_seg dksJ14_hashCode_1 26 rfl rfl
theorem dJ14_hashCode_0 : decode cJ14_hashCode 0 = .ok (.aload_n 0, 1) := dk_42 (dk_at dksJ14_hashCode_0 0 rfl rfl)
theorem dJ14_hashCode_1 : decode cJ14_hashCode 1 = .ok (.arraylength, 1) := dk_190 (dk_at dksJ14_hashCode_0 1 rfl rfl)
theorem dJ14_hashCode_2 : decode cJ14_hashCode 2 = .ok (.lookupswitch 40 #[(0, 26), (1, 30)], 26) := by decide +kernel
theorem dJ14_hashCode_28 : decode cJ14_hashCode 28 = .ok (.iconst 0, 1) := dk_3 (dk_at dksJ14_hashCode_2 0 rfl rfl)
theorem dJ14_hashCode_29 : decode cJ14_hashCode 29 = .ok (.goto 22, 3) := dk_167 0 22 (dk_at dksJ14_hashCode_2 1 rfl rfl)
theorem dJ14_hashCode_32 : decode cJ14_hashCode 32 = .ok (.aload_n 0, 1) := dk_42 (dk_at dksJ14_hashCode_2 4 rfl rfl)
theorem dJ14_hashCode_33 : decode cJ14_hashCode 33 = .ok (.iconst 0, 1) := dk_3 (dk_at dksJ14_hashCode_2 5 rfl rfl)
theorem dJ14_hashCode_34 : decode cJ14_hashCode 34 = .ok (.baload, 1) := dk_51 (dk_at dksJ14_hashCode_2 6 rfl rfl)
theorem dJ14_hashCode_35 : decode cJ14_hashCode 35 = .ok (.sipush 255, 3) := dk_17 0 255 (dk_at dksJ14_hashCode_2 7 rfl rfl)
theorem dJ14_hashCode_38 : decode cJ14_hashCode 38 = .ok (.iand, 1) := dk_126 (dk_at dksJ14_hashCode_2 10 rfl rfl)
theorem dJ14_hashCode_39 : decode cJ14_hashCode 39 = .ok (.goto 12, 3) := dk_167 0 12 (dk_at dksJ14_hashCode_2 11 rfl rfl)
theorem dJ14_hashCode_42 : decode cJ14_hashCode 42 = .ok (.aload_n 0, 1) := dk_42 (dk_at dksJ14_hashCode_2 14 rfl rfl)
theorem dJ14_hashCode_43 : decode cJ14_hashCode 43 = .ok (.iconst 0, 1) := dk_3 (dk_at dksJ14_hashCode_2 15 rfl rfl)
theorem dJ14_hashCode_44 : decode cJ14_hashCode 44 = .ok (.aload_n 0, 1) := dk_42 (dk_at dksJ14_hashCode_2 16 rfl rfl)
theorem dJ14_hashCode_45 : decode cJ14_hashCode 45 = .ok (.arraylength, 1) := dk_190 (dk_at dksJ14_hashCode_2 17 rfl rfl)
theorem dJ14_hashCode_46 : decode cJ14_hashCode 46 = .ok (.iconst 0, 1) := dk_3 (dk_at dksJ14_hashCode_2 18 rfl rfl)
theorem dJ14_hashCode_47 : decode cJ14_hashCode 47 = .ok (.iconst 4, 1) := dk_7 (dk_at dksJ14_hashCode_2 19 rfl rfl)
theorem dJ14_hashCode_48 : decode cJ14_hashCode 48 = .ok (.invokestatic 84, 3) := dk_184 0 84 (dk_at dksJ14_hashCode_2 20 rfl rfl)
theorem dJ14_hashCode_51 : decode cJ14_hashCode 51 = .ok (.ireturn, 1) := dk_172 (dk_at dksJ14_hashCode_2 23 rfl rfl)
def dkwJ14_equals_1 : List UInt8 := [3, 172, 132, 2, 1, 167, 255, 236, 4, 172, 3, 172]
abbrev dktJ14_equals_1 : List UInt8 := dkwJ14_equals_1 ++ []
def dkwJ14_equals_0 : List UInt8 := [42, 190, 43, 190, 160, 0, 30, 3, 61, 28, 42, 190, 162, 0, 20, 42, 28, 51, 43, 28, 51, 159, 0, 5]
abbrev dktJ14_equals_0 : List UInt8 := dkwJ14_equals_0 ++ dktJ14_equals_1
theorem dksJ14_equals_0 : cJ14_equals.data.toList.drop 0 = dktJ14_equals_0 := by decide +kernel
theorem dksJ14_equals_1 : cJ14_equals.data.toList.drop 24 = dktJ14_equals_1 := dk_seg dksJ14_equals_0 24 rfl rfl
theorem dJ14_equals_0 : decode cJ14_equals 0 = .ok (.aload_n 0, 1) := dk_42 (dk_at dksJ14_equals_0 0 rfl rfl)
theorem dJ14_equals_1 : decode cJ14_equals 1 = .ok (.arraylength, 1) := dk_190 (dk_at dksJ14_equals_0 1 rfl rfl)
theorem dJ14_equals_2 : decode cJ14_equals 2 = .ok (.aload_n 1, 1) := dk_43 (dk_at dksJ14_equals_0 2 rfl rfl)
theorem dJ14_equals_3 : decode cJ14_equals 3 = .ok (.arraylength, 1) := dk_190 (dk_at dksJ14_equals_0 3 rfl rfl)
theorem dJ14_equals_4 : decode cJ14_equals 4 = .ok (.if_icmp .ne 30, 3) := dk_160 0 30 (dk_at dksJ14_equals_0 4 rfl rfl)
theorem dJ14_equals_7 : decode cJ14_equals 7 = .ok (.iconst 0, 1) := dk_3 (dk_at dksJ14_equals_0 7 rfl rfl)
theorem dJ14_equals_8 : decode cJ14_equals 8 = .ok (.istore_n 2, 1) := dk_61 (dk_at dksJ14_equals_0 8 rfl rfl)
theorem dJ14_equals_9 : decode cJ14_equals 9 = .ok (.iload_n 2, 1) := dk_28 (dk_at dksJ14_equals_0 9 rfl rfl)
theorem dJ14_equals_10 : decode cJ14_equals 10 = .ok (.aload_n 0, 1) := dk_42 (dk_at dksJ14_equals_0 10 rfl rfl)
theorem dJ14_equals_11 : decode cJ14_equals 11 = .ok (.arraylength, 1) := dk_190 (dk_at dksJ14_equals_0 11 rfl rfl)
theorem dJ14_equals_12 : decode cJ14_equals 12 = .ok (.if_icmp .ge 20, 3) := dk_162 0 20 (dk_at dksJ14_equals_0 12 rfl rfl)
theorem dJ14_equals_15 : decode cJ14_equals 15 = .ok (.aload_n 0, 1) := dk_42 (dk_at dksJ14_equals_0 15 rfl rfl)
theorem dJ14_equals_16 : decode cJ14_equals 16 = .ok (.iload_n 2, 1) := dk_28 (dk_at dksJ14_equals_0 16 rfl rfl)
theorem dJ14_equals_17 : decode cJ14_equals 17 = .ok (.baload, 1) := dk_51 (dk_at dksJ14_equals_0 17 rfl rfl)
theorem dJ14_equals_18 : decode cJ14_equals 18 = .ok (.aload_n 1, 1) := dk_43 (dk_at dksJ14_equals_0 18 rfl rfl)
theorem dJ14_equals_19 : decode cJ14_equals 19 = .ok (.iload_n 2, 1) := dk_28 (dk_at dksJ14_equals_0 19 rfl rfl)
theorem dJ14_equals_20 : decode cJ14_equals 20 = .ok (.baload, 1) := dk_51 (dk_at dksJ14_equals_0 20 rfl rfl)
theorem dJ14_equals_21 : decode cJ14_equals 21 = .ok (.if_icmp .eq 5, 3) := dk_159 0 5 (dk_at dksJ14_equals_0 21 rfl rfl)
theorem dJ14_equals_24 : decode cJ14_equals 24 = .ok (.iconst 0, 1) := dk_3 (dk_at dksJ14_equals_1 0 rfl rfl)
theorem dJ14_equals_25 : decode cJ14_equals 25 = .ok (.ireturn, 1) := dk_172 (dk_at dksJ14_equals_1 1 rfl rfl)
theorem dJ14_equals_26 : decode cJ14_equals 26 = .ok (.iinc 2 1, 3) := dk_132 2 1 (dk_at dksJ14_equals_1 2 rfl rfl)
theorem dJ14_equals_29 : decode cJ14_equals 29 = .ok (.goto (-20), 3) := dk_167 255 236 (dk_at dksJ14_equals_1 5 rfl rfl)
theorem dJ14_equals_32 : decode cJ14_equals 32 = .ok (.iconst 1, 1) := dk_4 (dk_at dksJ14_equals_1 8 rfl rfl)
theorem dJ14_equals_33 : decode cJ14_equals 33 = .ok (.ireturn, 1) := dk_172 (dk_at dksJ14_equals_1 9 rfl rfl)
theorem dJ14_equals_34 : decode cJ14_equals 34 = .ok (.iconst 0, 1) := dk_3 (dk_at dksJ14_equals_1 10 rfl rfl)
theorem dJ14_equals_35 : decode cJ14_equals 35 = .ok (.ireturn, 1) := dk_172 (dk_at dksJ14_equals_1 11 rfl rfl)
def dkwJ15_init_1 : List UInt8 := [182, 0, 27, 87, 177]
abbrev dktJ15_init_1 : List UInt8 := dkwJ15_init_1 ++ []
def dkwJ15_init_0 : List UInt8 := [42, 183, 0, 1, 42, 42, 181, 0, 7, 42, 178, 0, 13, 181, 0, 17, 42, 178, 0, 20, 181, 0, 24, 42]
abbrev dktJ15_init_0 : List UInt8 := dkwJ15_init_0 ++ dktJ15_init_1
theorem dksJ15_init_0 : cJ15_init.data.toList.drop 0 = dktJ15_init_0 := by decide +kernel
theorem dksJ15_init_1 : cJ15_init.data.toList.drop 24 = dktJ15_init_1 := dk_seg dksJ15_init_0 24 rfl rfl
theorem dJ15_init_0 : decode cJ15_init 0 = .ok (.aload_n 0, 1) := dk_42 (dk_at dksJ15_init_0 0 rfl rfl)
theorem dJ15_init_1 : decode cJ15_init 1 = .ok (.invokespecial 1, 3) := dk_183 0 1 (dk_at dksJ15_init_0 1 rfl rfl)
theorem dJ15_init_4 : decode cJ15_init 4 = .ok (.aload_n 0, 1) := dk_42 (dk_at dksJ15_init_0 4 rfl rfl)
theorem dJ15_init_5 : decode cJ15_init 5 = .ok (.aload_n 0, 1) := dk_42 (dk_at dksJ15_init_0 5 rfl rfl)
theorem dJ15_init_6 : decode cJ15_init 6 = .ok (.putfield 7, 3) := dk_181 0 7 (dk_at dksJ15_init_0 6 rfl rfl)
theorem dJ15_init_9 : decode cJ15_init 9 = .ok (.aload_n 0, 1) := dk_42 (dk_at dksJ15_init_0 9 rfl rfl)
theorem dJ15_init_10 : decode cJ15_init 10 = .ok (.getstatic 13, 3) := dk_178 0 13 (dk_at dksJ15_init_0 10 rfl rfl)
theorem dJ15_init_13 : decode cJ15_init 13 = .ok (.putfield 17, 3) := dk_181 0 17 (dk_at dksJ15_init_0 13 rfl rfl)
theorem dJ15_init_16 : decode cJ15_init 16 = .ok (.aload_n 0, 1) := dk_42 (dk_at dksJ15_init_0 16 rfl rfl)
theorem dJ15_init_17 : decode cJ15_init 17 = .ok (.getstatic 20, 3) := dk_178 0 20 (dk_at dksJ15_init_0 17 rfl rfl)
theorem dJ15_init_20 : decode cJ15_init 20 = .ok (.putfield 24, 3) := dk_181 0 24 (dk_at dksJ15_init_0 20 rfl rfl)
theorem dJ15_init_23 : decode cJ15_init 23 = .ok (.aload_n 0, 1) := dk_42 (dk_at dksJ15_init_0 23 rfl rfl)
theorem dJ15_init_24 : decode cJ15_init 24 = .ok (.invokevirtual 27, 3) := dk_182 0 27 (dk_at dksJ15_init_1 0 rfl rfl)
theorem dJ15_init_27 : decode cJ15_init 27 = .ok (.pop, 1) := dk_87 (dk_at dksJ15_init_1 3 rfl rfl)
theorem dJ15_init_28 : decode cJ15_init 28 = .ok (.return_, 1) := dk_177 (dk_at dksJ15_init_1 4 rfl rfl)
def dkwJ15_init_2_2 : List UInt8 := [44, 181, 0, 7, 29, 154, 0, 8, 42, 1, 181, 0, 24, 177]
abbrev dktJ15_init_2_2 : List UInt8 := dkwJ15_init_2_2 ++ []
def dkwJ15_init_2_1 : List UInt8 := [21, 4, 153, 0, 11, 42, 182, 0, 27, 87, 167, 0, 8, 42, 1, 181, 0, 17, 42, 43, 181, 0, 31, 42]
abbrev dktJ15_init_2_1 : List UInt8 := dkwJ15_init_2_1 ++ dktJ15_init_2_2
def dkwJ15_init_2_0 : List UInt8 := [42, 183, 0, 1, 42, 42, 181, 0, 7, 42, 178, 0, 13, 181, 0, 17, 42, 178, 0, 20, 181, 0, 24]
abbrev dktJ15_init_2_0 : List UInt8 := dkwJ15_init_2_0 ++ dktJ15_init_2_1
theorem dksJ15_init_2_0 : cJ15_init_2.data.toList.drop 0 = dktJ15_init_2_0 := by decide +kernel
theorem dksJ15_init_2_1 : cJ15_init_2.data.toList.drop 23 = dktJ15_init_2_1 := dk_seg dksJ15_init_2_0 23 rfl rfl
theorem dksJ15_init_2_2 : cJ15_init_2.data.toList.drop 47 = dktJ15_init_2_2 := dk_seg dksJ15_init_2_1 24 rfl rfl
theorem dJ15_init_2_0 : decode cJ15_init_2 0 = .ok (.aload_n 0, 1) := dk_42 (dk_at dksJ15_init_2_0 0 rfl rfl)
theorem dJ15_init_2_1 : decode cJ15_init_2 1 = .ok (.invokespecial 1, 3) := dk_183 0 1 (dk_at dksJ15_init_2_0 1 rfl rfl)
theorem dJ15_init_2_4 : decode cJ15_init_2 4 = .ok (.aload_n 0, 1) := dk_42 (dk_at dksJ15_init_2_0 4 rfl rfl)
theorem dJ15_init_2_5 : decode cJ15_init_2 5 = .ok (.aload_n 0, 1) := dk_42 (dk_at dksJ15_init_2_0 5 rfl rfl)
theorem dJ15_init_2_6 : decode cJ15_init_2 6 = .ok (.putfield 7, 3) := dk_181 0 7 (dk_at dksJ15_init_2_0 6 rfl rfl)
theorem dJ15_init_2_9 : decode cJ15_init_2 9 = .ok (.aload_n 0, 1) := dk_42 (dk_at dksJ15_init_2_0 9 rfl rfl)
theorem dJ15_init_2_10 : decode cJ15_init_2 10 = .ok (.getstatic 13, 3) := dk_178 0 13 (dk_at dksJ15_init_2_0 10 rfl rfl)
theorem dJ15_init_2_13 : decode cJ15_init_2 13 = .ok (.putfield 17, 3) := dk_181 0 17 (dk_at dksJ15_init_2_0 13 rfl rfl)
theorem dJ15_init_2_16 : decode cJ15_init_2 16 = .ok (.aload_n 0, 1) := dk_42 (dk_at dksJ15_init_2_0 16 rfl rfl)
theorem dJ15_init_2_17 : decode cJ15_init_2 17 = .ok (.getstatic 20, 3) := dk_178 0 20 (dk_at dksJ15_init_2_0 17 rfl rfl)
theorem dJ15_init_2_20 : decode cJ15_init_2 20 = .ok (.putfield 24, 3) := dk_181 0 24 (dk_at dksJ15_init_2_0 20 rfl rfl)
theorem dJ15_init_2_23 : decode cJ15_init_2 23 = .ok (.iload 4, 2) := dk_21 4 (dk_at dksJ15_init_2_1 0 rfl rfl)
theorem dJ15_init_2_25 : decode cJ15_init_2 25 = .ok (.ifCond .eq 11, 3) := dk_153 0 11 (dk_at dksJ15_init_2_1 2 rfl rfl)
theorem dJ15_init_2_28 : decode cJ15_init_2 28 = .ok (.aload_n 0, 1) := dk_42 (dk_at dksJ15_init_2_1 5 rfl rfl)
theorem dJ15_init_2_29 : decode cJ15_init_2 29 = .ok (.invokevirtual 27, 3) := dk_182 0 27 (dk_at dksJ15_init_2_1 6 rfl rfl)
theorem dJ15_init_2_32 : decode cJ15_init_2 32 = .ok (.pop, 1) := dk_87 (dk_at dksJ15_init_2_1 9 rfl rfl)
theorem dJ15_init_2_33 : decode cJ15_init_2 33 = .ok (.goto 8, 3) := dk_167 0 8 (dk_at dksJ15_init_2_1 10 rfl rfl)
theorem dJ15_init_2_36 : decode cJ15_init_2 36 = .ok (.aload_n 0, 1) := dk_42 (dk_at dksJ15_init_2_1 13 rfl rfl)
theorem dJ15_init_2_37 : decode cJ15_init_2 37 = .ok (.aconst_null, 1) := dk_1 (dk_at dksJ15_init_2_1 14 rfl rfl)
theorem dJ15_init_2_38 : decode cJ15_init_2 38 = .ok (.putfield 17, 3) := dk_181 0 17 (dk_at dksJ15_init_2_1 15 rfl rfl)
theorem dJ15_init_2_41 : decode cJ15_init_2 41 = .ok (.aload_n 0, 1) := dk_42 (dk_at dksJ15_init_2_1 18 rfl rfl)
theorem dJ15_init_2_42 : decode cJ15_init_2 42 = .ok (.aload_n 1, 1) := dk_43 (dk_at dksJ15_init_2_1 19 rfl rfl)
theorem dJ15_init_2_43 : decode cJ15_init_2 43 = .ok (.putfield 31, 3) := dk_181 0 31 (dk_at dksJ15_init_2_1 20 rfl rfl)
theorem dJ15_init_2_46 : decode cJ15_init_2 46 = .ok (.aload_n 0, 1) := dk_42 (dk_at dksJ15_init_2_1 23 rfl rfl)
theorem dJ15_init_2_47 : decode cJ15_init_2 47 = .ok (.aload_n 2, 1) := dk_44 (dk_at dksJ15_init_2_2 0 rfl rfl)
theorem dJ15_init_2_48 : decode cJ15_init_2 48 = .ok (.putfield 7, 3) := dk_181 0 7 (dk_at dksJ15_init_2_2 1 rfl rfl)
theorem dJ15_init_2_51 : decode cJ15_init_2 51 = .ok (.iload_n 3, 1) := dk_29 (dk_at dksJ15_init_2_2 4 rfl rfl)
theorem dJ15_init_2_52 : decode cJ15_init_2 52 = .ok (.ifCond .ne 8, 3) := dk_154 0 8 (dk_at dksJ15_init_2_2 5 rfl rfl)
theorem dJ15_init_2_55 : decode cJ15_init_2 55 = .ok (.aload_n 0, 1) := dk_42 (dk_at dksJ15_init_2_2 8 rfl rfl)
theorem dJ15_init_2_56 : decode cJ15_init_2 56 = .ok (.aconst_null, 1) := dk_1 (dk_at dksJ15_init_2_2 9 rfl rfl)
theorem dJ15_init_2_57 : decode cJ15_init_2 57 = .ok (.putfield 24, 3) := dk_181 0 24 (dk_at dksJ15_init_2_2 10 rfl rfl)
theorem dJ15_init_2_60 : decode cJ15_init_2 60 = .ok (.return_, 1) := dk_177 (dk_at dksJ15_init_2_2 13 rfl rfl)
def dkwJ16_init_0 : List UInt8 := [42, 43, 44, 29, 21, 4, 183, 0, 16, 177]
abbrev dktJ16_init_0 : List UInt8 := dkwJ16_init_0 ++ []
theorem dksJ16_init_0 : cJ16_init.data.toList.drop 0 = dktJ16_init_0 := by decide +kernel
theorem dJ16_init_0 : decode cJ16_init 0 = .ok (.aload_n 0, 1) := dk_42 (dk_at dksJ16_init_0 0 rfl rfl)
theorem dJ16_init_1 : decode cJ16_init 1 = .ok (.aload_n 1, 1) := dk_43 (dk_at dksJ16_init_0 1 rfl rfl)
theorem dJ16_init_2 : decode cJ16_init 2 = .ok (.aload_n 2, 1) := dk_44 (dk_at dksJ16_init_0 2 rfl rfl)
theorem dJ16_init_3 : decode cJ16_init 3 = .ok (.iload_n 3, 1) := dk_29 (dk_at dksJ16_init_0 3 rfl rfl)
theorem dJ16_init_4 : decode cJ16_init 4 = .ok (.iload 4, 2) := dk_21 4 (dk_at dksJ16_init_0 4 rfl rfl)
theorem dJ16_init_6 : decode cJ16_init 6 = .ok (.invokespecial 16, 3) := dk_183 0 16 (dk_at dksJ16_init_0 6 rfl rfl)
theorem dJ16_init_9 : decode cJ16_init 9 = .ok (.return_, 1) := dk_177 (dk_at dksJ16_init_0 9 rfl rfl)
def dkwJ17_init_0 : List UInt8 := [42, 43, 44, 29, 21, 4, 183, 0, 16, 177]
abbrev dktJ17_init_0 : List UInt8 := dkwJ17_init_0 ++ []
theorem dksJ17_init_0 : cJ17_init.data.toList.drop 0 = dktJ17_init_0 := by decide +kernel
theorem dJ17_init_0 : decode cJ17_init 0 = .ok (.aload_n 0, 1) := dk_42 (dk_at dksJ17_init_0 0 rfl rfl)
theorem dJ17_init_1 : decode cJ17_init 1 = .ok (.aload_n 1, 1) := dk_43 (dk_at dksJ17_init_0 1 rfl rfl)
theorem dJ17_init_2 : decode cJ17_init 2 = .ok (.aload_n 2, 1) := dk_44 (dk_at dksJ17_init_0 2 rfl rfl)
theorem dJ17_init_3 : decode cJ17_init 3 = .ok (.iload_n 3, 1) := dk_29 (dk_at dksJ17_init_0 3 rfl rfl)
theorem dJ17_init_4 : decode cJ17_init 4 = .ok (.iload 4, 2) := dk_21 4 (dk_at dksJ17_init_0 4 rfl rfl)
theorem dJ17_init_6 : decode cJ17_init 6 = .ok (.invokespecial 16, 3) := dk_183 0 16 (dk_at dksJ17_init_0 6 rfl rfl)
theorem dJ17_init_9 : decode cJ17_init 9 = .ok (.return_, 1) := dk_177 (dk_at dksJ17_init_0 9 rfl rfl)
theorem dJ18_init_0 : decode cJ18_init 0 = .ok (.return_, 1) := by decide +kernel
def dkwJ19_getUTF16Char_0 : List UInt8 := [43, 28, 184, 0, 185, 172]
abbrev dktJ19_getUTF16Char_0 : List UInt8 := dkwJ19_getUTF16Char_0 ++ []
theorem dksJ19_getUTF16Char_0 : cJ19_getUTF16Char.data.toList.drop 0 = dktJ19_getUTF16Char_0 := by decide +kernel
theorem dJ19_getUTF16Char_0 : decode cJ19_getUTF16Char 0 = .ok (.aload_n 1, 1) := dk_43 (dk_at dksJ19_getUTF16Char_0 0 rfl rfl)
theorem dJ19_getUTF16Char_1 : decode cJ19_getUTF16Char 1 = .ok (.iload_n 2, 1) := dk_28 (dk_at dksJ19_getUTF16Char_0 1 rfl rfl)
theorem dJ19_getUTF16Char_2 : decode cJ19_getUTF16Char 2 = .ok (.invokestatic 185, 3) := dk_184 0 185 (dk_at dksJ19_getUTF16Char_0 2 rfl rfl)
theorem dJ19_getUTF16Char_5 : decode cJ19_getUTF16Char 5 = .ok (.ireturn, 1) := dk_172 (dk_at dksJ19_getUTF16Char_0 5 rfl rfl)
def dkwJ2_init_0 : List UInt8 := [42, 183, 0, 1, 42, 178, 0, 39, 181, 0, 9, 177]
abbrev dktJ2_init_0 : List UInt8 := dkwJ2_init_0 ++ []
theorem dksJ2_init_0 : cJ2_init.data.toList.drop 0 = dktJ2_init_0 := by decide +kernel
theorem dJ2_init_0 : decode cJ2_init 0 = .ok (.aload_n 0, 1) := dk_42 (dk_at dksJ2_init_0 0 rfl rfl)
theorem dJ2_init_1 : decode cJ2_init 1 = .ok (.invokespecial 1, 3) := dk_183 0 1 (dk_at dksJ2_init_0 1 rfl rfl)
theorem dJ2_init_4 : decode cJ2_init 4 = .ok (.aload_n 0, 1) := dk_42 (dk_at dksJ2_init_0 4 rfl rfl)
theorem dJ2_init_5 : decode cJ2_init 5 = .ok (.getstatic 39, 3) := dk_178 0 39 (dk_at dksJ2_init_0 5 rfl rfl)
theorem dJ2_init_8 : decode cJ2_init 8 = .ok (.putfield 9, 3) := dk_181 0 9 (dk_at dksJ2_init_0 8 rfl rfl)
theorem dJ2_init_11 : decode cJ2_init 11 = .ok (.return_, 1) := dk_177 (dk_at dksJ2_init_0 11 rfl rfl)
theorem dJ2_size_0 : decode cJ2_size 0 = .ok (.aload_n 0, 1) := by decide +kernel
theorem dJ2_size_1 : decode cJ2_size 1 = .ok (.getfield 48, 3) := by decide +kernel
theorem dJ2_size_4 : decode cJ2_size 4 = .ok (.ireturn, 1) := by decide +kernel
def dkwJ2_add_1 : List UInt8 := [172]
abbrev dktJ2_add_1 : List UInt8 := dkwJ2_add_1 ++ []
def dkwJ2_add_0 : List UInt8 := [42, 89, 180, 0, 63, 4, 96, 181, 0, 63, 42, 43, 42, 180, 0, 9, 42, 180, 0, 48, 182, 0, 131, 4]
abbrev dktJ2_add_0 : List UInt8 := dkwJ2_add_0 ++ dktJ2_add_1
theorem dksJ2_add_0 : cJ2_add.data.toList.drop 0 = dktJ2_add_0 := by decide +kernel
theorem dksJ2_add_1 : cJ2_add.data.toList.drop 24 = dktJ2_add_1 := dk_seg dksJ2_add_0 24 rfl rfl
theorem dJ2_add_0 : decode cJ2_add 0 = .ok (.aload_n 0, 1) := dk_42 (dk_at dksJ2_add_0 0 rfl rfl)
theorem dJ2_add_1 : decode cJ2_add 1 = .ok (.dup, 1) := dk_89 (dk_at dksJ2_add_0 1 rfl rfl)
theorem dJ2_add_2 : decode cJ2_add 2 = .ok (.getfield 63, 3) := dk_180 0 63 (dk_at dksJ2_add_0 2 rfl rfl)
theorem dJ2_add_5 : decode cJ2_add 5 = .ok (.iconst 1, 1) := dk_4 (dk_at dksJ2_add_0 5 rfl rfl)
theorem dJ2_add_6 : decode cJ2_add 6 = .ok (.iadd, 1) := dk_96 (dk_at dksJ2_add_0 6 rfl rfl)
theorem dJ2_add_7 : decode cJ2_add 7 = .ok (.putfield 63, 3) := dk_181 0 63 (dk_at dksJ2_add_0 7 rfl rfl)
theorem dJ2_add_10 : decode cJ2_add 10 = .ok (.aload_n 0, 1) := dk_42 (dk_at dksJ2_add_0 10 rfl rfl)
theorem dJ2_add_11 : decode cJ2_add 11 = .ok (.aload_n 1, 1) := dk_43 (dk_at dksJ2_add_0 11 rfl rfl)
theorem dJ2_add_12 : decode cJ2_add 12 = .ok (.aload_n 0, 1) := dk_42 (dk_at dksJ2_add_0 12 rfl rfl)
theorem dJ2_add_13 : decode cJ2_add 13 = .ok (.getfield 9, 3) := dk_180 0 9 (dk_at dksJ2_add_0 13 rfl rfl)
theorem dJ2_add_16 : decode cJ2_add 16 = .ok (.aload_n 0, 1) := dk_42 (dk_at dksJ2_add_0 16 rfl rfl)
theorem dJ2_add_17 : decode cJ2_add 17 = .ok (.getfield 48, 3) := dk_180 0 48 (dk_at dksJ2_add_0 17 rfl rfl)
theorem dJ2_add_20 : decode cJ2_add 20 = .ok (.invokevirtual 131, 3) := dk_182 0 131 (dk_at dksJ2_add_0 20 rfl rfl)
theorem dJ2_add_23 : decode cJ2_add 23 = .ok (.iconst 1, 1) := dk_4 (dk_at dksJ2_add_0 23 rfl rfl)
theorem dJ2_add_24 : decode cJ2_add 24 = .ok (.ireturn, 1) := dk_172 (dk_at dksJ2_add_1 0 rfl rfl)
def dkwJ2_add_2_0 : List UInt8 := [29, 44, 190, 160, 0, 8, 42, 182, 0, 129, 77, 44, 29, 43, 83, 42, 29, 4, 96, 181, 0, 48, 177]
abbrev dktJ2_add_2_0 : List UInt8 := dkwJ2_add_2_0 ++ []
theorem dksJ2_add_2_0 : cJ2_add_2.data.toList.drop 0 = dktJ2_add_2_0 := by decide +kernel
theorem dJ2_add_2_0 : decode cJ2_add_2 0 = .ok (.iload_n 3, 1) := dk_29 (dk_at dksJ2_add_2_0 0 rfl rfl)
theorem dJ2_add_2_1 : decode cJ2_add_2 1 = .ok (.aload_n 2, 1) := dk_44 (dk_at dksJ2_add_2_0 1 rfl rfl)
theorem dJ2_add_2_2 : decode cJ2_add_2 2 = .ok (.arraylength, 1) := dk_190 (dk_at dksJ2_add_2_0 2 rfl rfl)
theorem dJ2_add_2_3 : decode cJ2_add_2 3 = .ok (.if_icmp .ne 8, 3) := dk_160 0 8 (dk_at dksJ2_add_2_0 3 rfl rfl)
theorem dJ2_add_2_6 : decode cJ2_add_2 6 = .ok (.aload_n 0, 1) := dk_42 (dk_at dksJ2_add_2_0 6 rfl rfl)
theorem dJ2_add_2_7 : decode cJ2_add_2 7 = .ok (.invokevirtual 129, 3) := dk_182 0 129 (dk_at dksJ2_add_2_0 7 rfl rfl)
theorem dJ2_add_2_10 : decode cJ2_add_2 10 = .ok (.astore_n 2, 1) := dk_77 (dk_at dksJ2_add_2_0 10 rfl rfl)
theorem dJ2_add_2_11 : decode cJ2_add_2 11 = .ok (.aload_n 2, 1) := dk_44 (dk_at dksJ2_add_2_0 11 rfl rfl)
theorem dJ2_add_2_12 : decode cJ2_add_2 12 = .ok (.iload_n 3, 1) := dk_29 (dk_at dksJ2_add_2_0 12 rfl rfl)
theorem dJ2_add_2_13 : decode cJ2_add_2 13 = .ok (.aload_n 1, 1) := dk_43 (dk_at dksJ2_add_2_0 13 rfl rfl)
theorem dJ2_add_2_14 : decode cJ2_add_2 14 = .ok (.aastore, 1) := dk_83 (dk_at dksJ2_add_2_0 14 rfl rfl)
theorem dJ2_add_2_15 : decode cJ2_add_2 15 = .ok (.aload_n 0, 1) := dk_42 (dk_at dksJ2_add_2_0 15 rfl rfl)
theorem dJ2_add_2_16 : decode cJ2_add_2 16 = .ok (.iload_n 3, 1) := dk_29 (dk_at dksJ2_add_2_0 16 rfl rfl)
theorem dJ2_add_2_17 : decode cJ2_add_2 17 = .ok (.iconst 1, 1) := dk_4 (dk_at dksJ2_add_2_0 17 rfl rfl)
theorem dJ2_add_2_18 : decode cJ2_add_2 18 = .ok (.iadd, 1) := dk_96 (dk_at dksJ2_add_2_0 18 rfl rfl)
theorem dJ2_add_2_19 : decode cJ2_add_2 19 = .ok (.putfield 48, 3) := dk_181 0 48 (dk_at dksJ2_add_2_0 19 rfl rfl)
theorem dJ2_add_2_22 : decode cJ2_add_2 22 = .ok (.return_, 1) := dk_177 (dk_at dksJ2_add_2_0 22 rfl rfl)
def dkwJ2_grow_0 : List UInt8 := [42, 42, 180, 0, 48, 4, 96, 182, 0, 69, 176]
abbrev dktJ2_grow_0 : List UInt8 := dkwJ2_grow_0 ++ []
theorem dksJ2_grow_0 : cJ2_grow.data.toList.drop 0 = dktJ2_grow_0 := by decide +kernel
theorem dJ2_grow_0 : decode cJ2_grow 0 = .ok (.aload_n 0, 1) := dk_42 (dk_at dksJ2_grow_0 0 rfl rfl)
theorem dJ2_grow_1 : decode cJ2_grow 1 = .ok (.aload_n 0, 1) := dk_42 (dk_at dksJ2_grow_0 1 rfl rfl)
theorem dJ2_grow_2 : decode cJ2_grow 2 = .ok (.getfield 48, 3) := dk_180 0 48 (dk_at dksJ2_grow_0 2 rfl rfl)
theorem dJ2_grow_5 : decode cJ2_grow 5 = .ok (.iconst 1, 1) := dk_4 (dk_at dksJ2_grow_0 5 rfl rfl)
theorem dJ2_grow_6 : decode cJ2_grow 6 = .ok (.iadd, 1) := dk_96 (dk_at dksJ2_grow_0 6 rfl rfl)
theorem dJ2_grow_7 : decode cJ2_grow 7 = .ok (.invokevirtual 69, 3) := dk_182 0 69 (dk_at dksJ2_grow_0 7 rfl rfl)
theorem dJ2_grow_10 : decode cJ2_grow 10 = .ok (.areturn, 1) := dk_176 (dk_at dksJ2_grow_0 10 rfl rfl)
def dkwJ2_grow_2_2 : List UInt8 := [27, 184, 0, 79, 189, 0, 7, 90, 181, 0, 9, 176]
abbrev dktJ2_grow_2_2 : List UInt8 := dkwJ2_grow_2_2 ++ []
def dkwJ2_grow_2_1 : List UInt8 := [28, 4, 122, 184, 0, 73, 62, 42, 42, 180, 0, 9, 29, 184, 0, 66, 90, 181, 0, 9, 176, 42, 16, 10]
abbrev dktJ2_grow_2_1 : List UInt8 := dkwJ2_grow_2_1 ++ dktJ2_grow_2_2
def dkwJ2_grow_2_0 : List UInt8 := [42, 180, 0, 9, 190, 61, 28, 157, 0, 13, 42, 180, 0, 9, 178, 0, 39, 165, 0, 28, 28, 27, 28, 100]
abbrev dktJ2_grow_2_0 : List UInt8 := dkwJ2_grow_2_0 ++ dktJ2_grow_2_1
theorem dksJ2_grow_2_0 : cJ2_grow_2.data.toList.drop 0 = dktJ2_grow_2_0 := by decide +kernel
theorem dksJ2_grow_2_1 : cJ2_grow_2.data.toList.drop 24 = dktJ2_grow_2_1 := dk_seg dksJ2_grow_2_0 24 rfl rfl
theorem dksJ2_grow_2_2 : cJ2_grow_2.data.toList.drop 48 = dktJ2_grow_2_2 := dk_seg dksJ2_grow_2_1 24 rfl rfl
theorem dJ2_grow_2_0 : decode cJ2_grow_2 0 = .ok (.aload_n 0, 1) := dk_42 (dk_at dksJ2_grow_2_0 0 rfl rfl)
theorem dJ2_grow_2_1 : decode cJ2_grow_2 1 = .ok (.getfield 9, 3) := dk_180 0 9 (dk_at dksJ2_grow_2_0 1 rfl rfl)
theorem dJ2_grow_2_4 : decode cJ2_grow_2 4 = .ok (.arraylength, 1) := dk_190 (dk_at dksJ2_grow_2_0 4 rfl rfl)
theorem dJ2_grow_2_5 : decode cJ2_grow_2 5 = .ok (.istore_n 2, 1) := dk_61 (dk_at dksJ2_grow_2_0 5 rfl rfl)
theorem dJ2_grow_2_6 : decode cJ2_grow_2 6 = .ok (.iload_n 2, 1) := dk_28 (dk_at dksJ2_grow_2_0 6 rfl rfl)
theorem dJ2_grow_2_7 : decode cJ2_grow_2 7 = .ok (.ifCond .gt 13, 3) := dk_157 0 13 (dk_at dksJ2_grow_2_0 7 rfl rfl)
theorem dJ2_grow_2_10 : decode cJ2_grow_2 10 = .ok (.aload_n 0, 1) := dk_42 (dk_at dksJ2_grow_2_0 10 rfl rfl)
theorem dJ2_grow_2_11 : decode cJ2_grow_2 11 = .ok (.getfield 9, 3) := dk_180 0 9 (dk_at dksJ2_grow_2_0 11 rfl rfl)
theorem dJ2_grow_2_14 : decode cJ2_grow_2 14 = .ok (.getstatic 39, 3) := dk_178 0 39 (dk_at dksJ2_grow_2_0 14 rfl rfl)
theorem dJ2_grow_2_17 : decode cJ2_grow_2 17 = .ok (.if_acmp .eq 28, 3) := dk_165 0 28 (dk_at dksJ2_grow_2_0 17 rfl rfl)
theorem dJ2_grow_2_20 : decode cJ2_grow_2 20 = .ok (.iload_n 2, 1) := dk_28 (dk_at dksJ2_grow_2_0 20 rfl rfl)
theorem dJ2_grow_2_21 : decode cJ2_grow_2 21 = .ok (.iload_n 1, 1) := dk_27 (dk_at dksJ2_grow_2_0 21 rfl rfl)
theorem dJ2_grow_2_22 : decode cJ2_grow_2 22 = .ok (.iload_n 2, 1) := dk_28 (dk_at dksJ2_grow_2_0 22 rfl rfl)
theorem dJ2_grow_2_23 : decode cJ2_grow_2 23 = .ok (.isub, 1) := dk_100 (dk_at dksJ2_grow_2_0 23 rfl rfl)
theorem dJ2_grow_2_24 : decode cJ2_grow_2 24 = .ok (.iload_n 2, 1) := dk_28 (dk_at dksJ2_grow_2_1 0 rfl rfl)
theorem dJ2_grow_2_25 : decode cJ2_grow_2 25 = .ok (.iconst 1, 1) := dk_4 (dk_at dksJ2_grow_2_1 1 rfl rfl)
theorem dJ2_grow_2_26 : decode cJ2_grow_2 26 = .ok (.ishr, 1) := dk_122 (dk_at dksJ2_grow_2_1 2 rfl rfl)
theorem dJ2_grow_2_27 : decode cJ2_grow_2 27 = .ok (.invokestatic 73, 3) := dk_184 0 73 (dk_at dksJ2_grow_2_1 3 rfl rfl)
theorem dJ2_grow_2_30 : decode cJ2_grow_2 30 = .ok (.istore_n 3, 1) := dk_62 (dk_at dksJ2_grow_2_1 6 rfl rfl)
theorem dJ2_grow_2_31 : decode cJ2_grow_2 31 = .ok (.aload_n 0, 1) := dk_42 (dk_at dksJ2_grow_2_1 7 rfl rfl)
theorem dJ2_grow_2_32 : decode cJ2_grow_2 32 = .ok (.aload_n 0, 1) := dk_42 (dk_at dksJ2_grow_2_1 8 rfl rfl)
theorem dJ2_grow_2_33 : decode cJ2_grow_2 33 = .ok (.getfield 9, 3) := dk_180 0 9 (dk_at dksJ2_grow_2_1 9 rfl rfl)
theorem dJ2_grow_2_36 : decode cJ2_grow_2 36 = .ok (.iload_n 3, 1) := dk_29 (dk_at dksJ2_grow_2_1 12 rfl rfl)
theorem dJ2_grow_2_37 : decode cJ2_grow_2 37 = .ok (.invokestatic 66, 3) := dk_184 0 66 (dk_at dksJ2_grow_2_1 13 rfl rfl)
theorem dJ2_grow_2_40 : decode cJ2_grow_2 40 = .ok (.dup_x1, 1) := dk_90 (dk_at dksJ2_grow_2_1 16 rfl rfl)
theorem dJ2_grow_2_41 : decode cJ2_grow_2 41 = .ok (.putfield 9, 3) := dk_181 0 9 (dk_at dksJ2_grow_2_1 17 rfl rfl)
theorem dJ2_grow_2_44 : decode cJ2_grow_2 44 = .ok (.areturn, 1) := dk_176 (dk_at dksJ2_grow_2_1 20 rfl rfl)
theorem dJ2_grow_2_45 : decode cJ2_grow_2 45 = .ok (.aload_n 0, 1) := dk_42 (dk_at dksJ2_grow_2_1 21 rfl rfl)
theorem dJ2_grow_2_46 : decode cJ2_grow_2 46 = .ok (.bipush 10, 2) := dk_16 10 (dk_at dksJ2_grow_2_1 22 rfl rfl)
theorem dJ2_grow_2_48 : decode cJ2_grow_2 48 = .ok (.iload_n 1, 1) := dk_27 (dk_at dksJ2_grow_2_2 0 rfl rfl)
theorem dJ2_grow_2_49 : decode cJ2_grow_2 49 = .ok (.invokestatic 79, 3) := dk_184 0 79 (dk_at dksJ2_grow_2_2 1 rfl rfl)
theorem dJ2_grow_2_52 : decode cJ2_grow_2 52 = .ok (.anewarray 7, 3) := dk_189 0 7 (dk_at dksJ2_grow_2_2 4 rfl rfl)
theorem dJ2_grow_2_55 : decode cJ2_grow_2 55 = .ok (.dup_x1, 1) := dk_90 (dk_at dksJ2_grow_2_2 7 rfl rfl)
theorem dJ2_grow_2_56 : decode cJ2_grow_2 56 = .ok (.putfield 9, 3) := dk_181 0 9 (dk_at dksJ2_grow_2_2 8 rfl rfl)
theorem dJ2_grow_2_59 : decode cJ2_grow_2 59 = .ok (.areturn, 1) := dk_176 (dk_at dksJ2_grow_2_2 11 rfl rfl)
def dkwJ2_get_0 : List UInt8 := [27, 42, 180, 0, 48, 184, 0, 118, 87, 42, 27, 182, 0, 123, 176]
abbrev dktJ2_get_0 : List UInt8 := dkwJ2_get_0 ++ []
theorem dksJ2_get_0 : cJ2_get.data.toList.drop 0 = dktJ2_get_0 := by decide +kernel
theorem dJ2_get_0 : decode cJ2_get 0 = .ok (.iload_n 1, 1) := dk_27 (dk_at dksJ2_get_0 0 rfl rfl)
theorem dJ2_get_1 : decode cJ2_get 1 = .ok (.aload_n 0, 1) := dk_42 (dk_at dksJ2_get_0 1 rfl rfl)
theorem dJ2_get_2 : decode cJ2_get 2 = .ok (.getfield 48, 3) := dk_180 0 48 (dk_at dksJ2_get_0 2 rfl rfl)
theorem dJ2_get_5 : decode cJ2_get 5 = .ok (.invokestatic 118, 3) := dk_184 0 118 (dk_at dksJ2_get_0 5 rfl rfl)
theorem dJ2_get_8 : decode cJ2_get 8 = .ok (.pop, 1) := dk_87 (dk_at dksJ2_get_0 8 rfl rfl)
theorem dJ2_get_9 : decode cJ2_get 9 = .ok (.aload_n 0, 1) := dk_42 (dk_at dksJ2_get_0 9 rfl rfl)
theorem dJ2_get_10 : decode cJ2_get 10 = .ok (.iload_n 1, 1) := dk_27 (dk_at dksJ2_get_0 10 rfl rfl)
theorem dJ2_get_11 : decode cJ2_get 11 = .ok (.invokevirtual 123, 3) := dk_182 0 123 (dk_at dksJ2_get_0 11 rfl rfl)
theorem dJ2_get_14 : decode cJ2_get 14 = .ok (.areturn, 1) := dk_176 (dk_at dksJ2_get_0 14 rfl rfl)
def dkwJ2_elementData_0 : List UInt8 := [42, 180, 0, 9, 27, 50, 176]
abbrev dktJ2_elementData_0 : List UInt8 := dkwJ2_elementData_0 ++ []
theorem dksJ2_elementData_0 : cJ2_elementData.data.toList.drop 0 = dktJ2_elementData_0 := by decide +kernel
theorem dJ2_elementData_0 : decode cJ2_elementData 0 = .ok (.aload_n 0, 1) := dk_42 (dk_at dksJ2_elementData_0 0 rfl rfl)
theorem dJ2_elementData_1 : decode cJ2_elementData 1 = .ok (.getfield 9, 3) := dk_180 0 9 (dk_at dksJ2_elementData_0 1 rfl rfl)
theorem dJ2_elementData_4 : decode cJ2_elementData 4 = .ok (.iload_n 1, 1) := dk_27 (dk_at dksJ2_elementData_0 4 rfl rfl)
theorem dJ2_elementData_5 : decode cJ2_elementData 5 = .ok (.aaload, 1) := dk_50 (dk_at dksJ2_elementData_0 5 rfl rfl)
theorem dJ2_elementData_6 : decode cJ2_elementData 6 = .ok (.areturn, 1) := dk_176 (dk_at dksJ2_elementData_0 6 rfl rfl)
def dkwJ3_newLength_1 : List UInt8 := [184, 0, 201, 172]
abbrev dktJ3_newLength_1 : List UInt8 := dkwJ3_newLength_1 ++ []
def dkwJ3_newLength_0 : List UInt8 := [26, 27, 28, 184, 0, 194, 96, 62, 3, 29, 162, 0, 11, 29, 18, 200, 163, 0, 5, 29, 172, 26, 27]
abbrev dktJ3_newLength_0 : List UInt8 := dkwJ3_newLength_0 ++ dktJ3_newLength_1
theorem dksJ3_newLength_0 : cJ3_newLength.data.toList.drop 0 = dktJ3_newLength_0 := by decide +kernel
theorem dksJ3_newLength_1 : cJ3_newLength.data.toList.drop 23 = dktJ3_newLength_1 := dk_seg dksJ3_newLength_0 23 rfl rfl
theorem dJ3_newLength_0 : decode cJ3_newLength 0 = .ok (.iload_n 0, 1) := dk_26 (dk_at dksJ3_newLength_0 0 rfl rfl)
theorem dJ3_newLength_1 : decode cJ3_newLength 1 = .ok (.iload_n 1, 1) := dk_27 (dk_at dksJ3_newLength_0 1 rfl rfl)
theorem dJ3_newLength_2 : decode cJ3_newLength 2 = .ok (.iload_n 2, 1) := dk_28 (dk_at dksJ3_newLength_0 2 rfl rfl)
theorem dJ3_newLength_3 : decode cJ3_newLength 3 = .ok (.invokestatic 194, 3) := dk_184 0 194 (dk_at dksJ3_newLength_0 3 rfl rfl)
theorem dJ3_newLength_6 : decode cJ3_newLength 6 = .ok (.iadd, 1) := dk_96 (dk_at dksJ3_newLength_0 6 rfl rfl)
theorem dJ3_newLength_7 : decode cJ3_newLength 7 = .ok (.istore_n 3, 1) := dk_62 (dk_at dksJ3_newLength_0 7 rfl rfl)
theorem dJ3_newLength_8 : decode cJ3_newLength 8 = .ok (.iconst 0, 1) := dk_3 (dk_at dksJ3_newLength_0 8 rfl rfl)
theorem dJ3_newLength_9 : decode cJ3_newLength 9 = .ok (.iload_n 3, 1) := dk_29 (dk_at dksJ3_newLength_0 9 rfl rfl)
theorem dJ3_newLength_10 : decode cJ3_newLength 10 = .ok (.if_icmp .ge 11, 3) := dk_162 0 11 (dk_at dksJ3_newLength_0 10 rfl rfl)
theorem dJ3_newLength_13 : decode cJ3_newLength 13 = .ok (.iload_n 3, 1) := dk_29 (dk_at dksJ3_newLength_0 13 rfl rfl)
theorem dJ3_newLength_14 : decode cJ3_newLength 14 = .ok (.ldc 200, 2) := dk_18 200 (dk_at dksJ3_newLength_0 14 rfl rfl)
theorem dJ3_newLength_16 : decode cJ3_newLength 16 = .ok (.if_icmp .gt 5, 3) := dk_163 0 5 (dk_at dksJ3_newLength_0 16 rfl rfl)
theorem dJ3_newLength_19 : decode cJ3_newLength 19 = .ok (.iload_n 3, 1) := dk_29 (dk_at dksJ3_newLength_0 19 rfl rfl)
theorem dJ3_newLength_20 : decode cJ3_newLength 20 = .ok (.ireturn, 1) := dk_172 (dk_at dksJ3_newLength_0 20 rfl rfl)
theorem dJ3_newLength_21 : decode cJ3_newLength 21 = .ok (.iload_n 0, 1) := dk_26 (dk_at dksJ3_newLength_0 21 rfl rfl)
theorem dJ3_newLength_22 : decode cJ3_newLength 22 = .ok (.iload_n 1, 1) := dk_27 (dk_at dksJ3_newLength_0 22 rfl rfl)
theorem dJ3_newLength_23 : decode cJ3_newLength 23 = .ok (.invokestatic 201, 3) := dk_184 0 201 (dk_at dksJ3_newLength_1 0 rfl rfl)
theorem dJ3_newLength_26 : decode cJ3_newLength 26 = .ok (.ireturn, 1) := dk_172 (dk_at dksJ3_newLength_1 3 rfl rfl)
def dkwJ3_hugeLength_2 : List UInt8 := [191, 28, 18, 200, 163, 0, 6, 18, 200, 172, 28, 172]
abbrev dktJ3_hugeLength_2 : List UInt8 := dkwJ3_hugeLength_2 ++ []
def dkwJ3_hugeLength_1 : List UInt8 := [26, 182, 0, 98, 18, 208, 182, 0, 94, 27, 182, 0, 98, 18, 210, 182, 0, 94, 182, 0, 101, 183, 0, 212]
abbrev dktJ3_hugeLength_1 : List UInt8 := dkwJ3_hugeLength_1 ++ dktJ3_hugeLength_2
def dkwJ3_hugeLength_0 : List UInt8 := [26, 27, 96, 61, 28, 156, 0, 44, 187, 0, 204, 89, 187, 0, 89, 89, 183, 0, 91, 18, 206, 182, 0, 94]
abbrev dktJ3_hugeLength_0 : List UInt8 := dkwJ3_hugeLength_0 ++ dktJ3_hugeLength_1
theorem dksJ3_hugeLength_0 : cJ3_hugeLength.data.toList.drop 0 = dktJ3_hugeLength_0 := by decide +kernel
theorem dksJ3_hugeLength_1 : cJ3_hugeLength.data.toList.drop 24 = dktJ3_hugeLength_1 := dk_seg dksJ3_hugeLength_0 24 rfl rfl
theorem dksJ3_hugeLength_2 : cJ3_hugeLength.data.toList.drop 48 = dktJ3_hugeLength_2 := dk_seg dksJ3_hugeLength_1 24 rfl rfl
theorem dJ3_hugeLength_0 : decode cJ3_hugeLength 0 = .ok (.iload_n 0, 1) := dk_26 (dk_at dksJ3_hugeLength_0 0 rfl rfl)
theorem dJ3_hugeLength_1 : decode cJ3_hugeLength 1 = .ok (.iload_n 1, 1) := dk_27 (dk_at dksJ3_hugeLength_0 1 rfl rfl)
theorem dJ3_hugeLength_2 : decode cJ3_hugeLength 2 = .ok (.iadd, 1) := dk_96 (dk_at dksJ3_hugeLength_0 2 rfl rfl)
theorem dJ3_hugeLength_3 : decode cJ3_hugeLength 3 = .ok (.istore_n 2, 1) := dk_61 (dk_at dksJ3_hugeLength_0 3 rfl rfl)
theorem dJ3_hugeLength_4 : decode cJ3_hugeLength 4 = .ok (.iload_n 2, 1) := dk_28 (dk_at dksJ3_hugeLength_0 4 rfl rfl)
theorem dJ3_hugeLength_5 : decode cJ3_hugeLength 5 = .ok (.ifCond .ge 44, 3) := dk_156 0 44 (dk_at dksJ3_hugeLength_0 5 rfl rfl)
theorem dJ3_hugeLength_8 : decode cJ3_hugeLength 8 = .ok (.new 204, 3) := dk_187 0 204 (dk_at dksJ3_hugeLength_0 8 rfl rfl)
theorem dJ3_hugeLength_11 : decode cJ3_hugeLength 11 = .ok (.dup, 1) := dk_89 (dk_at dksJ3_hugeLength_0 11 rfl rfl)
theorem dJ3_hugeLength_12 : decode cJ3_hugeLength 12 = .ok (.new 89, 3) := dk_187 0 89 (dk_at dksJ3_hugeLength_0 12 rfl rfl)
theorem dJ3_hugeLength_15 : decode cJ3_hugeLength 15 = .ok (.dup, 1) := dk_89 (dk_at dksJ3_hugeLength_0 15 rfl rfl)
theorem dJ3_hugeLength_16 : decode cJ3_hugeLength 16 = .ok (.invokespecial 91, 3) := dk_183 0 91 (dk_at dksJ3_hugeLength_0 16 rfl rfl)
theorem dJ3_hugeLength_19 : decode cJ3_hugeLength 19 = .ok (.ldc 206, 2) := dk_18 206 (dk_at dksJ3_hugeLength_0 19 rfl rfl)
theorem dJ3_hugeLength_21 : decode cJ3_hugeLength 21 = .ok (.invokevirtual 94, 3) := dk_182 0 94 (dk_at dksJ3_hugeLength_0 21 rfl rfl)
theorem dJ3_hugeLength_24 : decode cJ3_hugeLength 24 = .ok (.iload_n 0, 1) := dk_26 (dk_at dksJ3_hugeLength_1 0 rfl rfl)
theorem dJ3_hugeLength_25 : decode cJ3_hugeLength 25 = .ok (.invokevirtual 98, 3) := dk_182 0 98 (dk_at dksJ3_hugeLength_1 1 rfl rfl)
theorem dJ3_hugeLength_28 : decode cJ3_hugeLength 28 = .ok (.ldc 208, 2) := dk_18 208 (dk_at dksJ3_hugeLength_1 4 rfl rfl)
theorem dJ3_hugeLength_30 : decode cJ3_hugeLength 30 = .ok (.invokevirtual 94, 3) := dk_182 0 94 (dk_at dksJ3_hugeLength_1 6 rfl rfl)
theorem dJ3_hugeLength_33 : decode cJ3_hugeLength 33 = .ok (.iload_n 1, 1) := dk_27 (dk_at dksJ3_hugeLength_1 9 rfl rfl)
theorem dJ3_hugeLength_34 : decode cJ3_hugeLength 34 = .ok (.invokevirtual 98, 3) := dk_182 0 98 (dk_at dksJ3_hugeLength_1 10 rfl rfl)
theorem dJ3_hugeLength_37 : decode cJ3_hugeLength 37 = .ok (.ldc 210, 2) := dk_18 210 (dk_at dksJ3_hugeLength_1 13 rfl rfl)
theorem dJ3_hugeLength_39 : decode cJ3_hugeLength 39 = .ok (.invokevirtual 94, 3) := dk_182 0 94 (dk_at dksJ3_hugeLength_1 15 rfl rfl)
theorem dJ3_hugeLength_42 : decode cJ3_hugeLength 42 = .ok (.invokevirtual 101, 3) := dk_182 0 101 (dk_at dksJ3_hugeLength_1 18 rfl rfl)
theorem dJ3_hugeLength_45 : decode cJ3_hugeLength 45 = .ok (.invokespecial 212, 3) := dk_183 0 212 (dk_at dksJ3_hugeLength_1 21 rfl rfl)
theorem dJ3_hugeLength_48 : decode cJ3_hugeLength 48 = .ok (.athrow, 1) := dk_191 (dk_at dksJ3_hugeLength_2 0 rfl rfl)
theorem dJ3_hugeLength_49 : decode cJ3_hugeLength 49 = .ok (.iload_n 2, 1) := dk_28 (dk_at dksJ3_hugeLength_2 1 rfl rfl)
theorem dJ3_hugeLength_50 : decode cJ3_hugeLength 50 = .ok (.ldc 200, 2) := dk_18 200 (dk_at dksJ3_hugeLength_2 2 rfl rfl)
theorem dJ3_hugeLength_52 : decode cJ3_hugeLength 52 = .ok (.if_icmp .gt 6, 3) := dk_163 0 6 (dk_at dksJ3_hugeLength_2 4 rfl rfl)
theorem dJ3_hugeLength_55 : decode cJ3_hugeLength 55 = .ok (.ldc 200, 2) := dk_18 200 (dk_at dksJ3_hugeLength_2 7 rfl rfl)
theorem dJ3_hugeLength_57 : decode cJ3_hugeLength 57 = .ok (.ireturn, 1) := dk_172 (dk_at dksJ3_hugeLength_2 9 rfl rfl)
theorem dJ3_hugeLength_58 : decode cJ3_hugeLength 58 = .ok (.iload_n 2, 1) := dk_28 (dk_at dksJ3_hugeLength_2 10 rfl rfl)
theorem dJ3_hugeLength_59 : decode cJ3_hugeLength 59 = .ok (.ireturn, 1) := dk_172 (dk_at dksJ3_hugeLength_2 11 rfl rfl)
def dkwJ3_vectorizedHashCode_6 : List UInt8 := [183, 0, 91, 18, 92, 182, 0, 94, 21, 4, 182, 0, 98, 182, 0, 101, 183, 0, 105, 191, 172]
abbrev dktJ3_vectorizedHashCode_6 : List UInt8 := dkwJ3_vectorizedHashCode_6 ++ []
def dkwJ3_vectorizedHashCode_5 : List UInt8 := [167, 0, 44, 29, 42, 192, 0, 82, 27, 28, 184, 0, 84, 167, 0, 31, 187, 0, 87, 89, 187, 0, 89, 89]
abbrev dktJ3_vectorizedHashCode_5 : List UInt8 := dkwJ3_vectorizedHashCode_5 ++ dktJ3_vectorizedHashCode_6
def dkwJ3_vectorizedHashCode_4 : List UInt8 := [29, 42, 192, 0, 60, 27, 28, 184, 0, 75, 167, 0, 57, 29, 42, 192, 0, 77, 27, 28, 184, 0, 79]
abbrev dktJ3_vectorizedHashCode_4 : List UInt8 := dkwJ3_vectorizedHashCode_4 ++ dktJ3_vectorizedHashCode_5
def dkwJ3_vectorizedHashCode_3 : List UInt8 := [192, 0, 60, 27, 28, 184, 0, 66, 167, 0, 83, 29, 42, 192, 0, 69, 27, 28, 184, 0, 71, 167, 0, 70]
abbrev dktJ3_vectorizedHashCode_3 : List UInt8 := dkwJ3_vectorizedHashCode_3 ++ dktJ3_vectorizedHashCode_4
def dkwJ3_vectorizedHashCode_2 : List UInt8 := [29, 42, 192, 0, 60, 27, 28, 184, 0, 62, 167, 0, 103, 42, 193, 0, 60, 153, 0, 16, 29, 42]
abbrev dktJ3_vectorizedHashCode_2 : List UInt8 := dkwJ3_vectorizedHashCode_2 ++ dktJ3_vectorizedHashCode_3
def dkwJ3_vectorizedHashCode_1 : List UInt8 := [170, 0, 0, 0, 0, 127, 0, 0, 0, 4, 0, 0, 0, 10, 0, 0, 0, 42, 0, 0, 0, 55, 0, 0, 0, 127, 0, 0, 0, 127, 0, 0, 0, 88, 0, 0, 0, 101, 0, 0, 0, 114]
abbrev dktJ3_vectorizedHashCode_1 : List UInt8 := dkwJ3_vectorizedHashCode_1 ++ dktJ3_vectorizedHashCode_2
def dkwJ3_vectorizedHashCode_0 : List UInt8 := [21, 4]
abbrev dktJ3_vectorizedHashCode_0 : List UInt8 := dkwJ3_vectorizedHashCode_0 ++ dktJ3_vectorizedHashCode_1
theorem dksJ3_vectorizedHashCode_0 : cJ3_vectorizedHashCode.data.toList.drop 0 = dktJ3_vectorizedHashCode_0 := by decide +kernel
theorem dksJ3_vectorizedHashCode_1 : cJ3_vectorizedHashCode.data.toList.drop 2 = dktJ3_vectorizedHashCode_1 := dk_seg dksJ3_vectorizedHashCode_0 2 rfl rfl
theorem dksJ3_vectorizedHashCode_2 : cJ3_vectorizedHashCode.data.toList.drop 44 = dktJ3_vectorizedHashCode_2 := dk_seg dksJ3_vectorizedHashCode_1 42 rfl rfl
theorem dksJ3_vectorizedHashCode_3 : cJ3_vectorizedHashCode.data.toList.drop 66 = dktJ3_vectorizedHashCode_3 := dk_seg dksJ3_vectorizedHashCode_2 22 rfl rfl
theorem dksJ3_vectorizedHashCode_4 : cJ3_vectorizedHashCode.data.toList.drop 90 = dktJ3_vectorizedHashCode_4 := dk_seg dksJ3_vectorizedHashCode_3 24 rfl rfl
theorem dksJ3_vectorizedHashCode_5 : cJ3_vectorizedHashCode.data.toList.drop 113 = dktJ3_vectorizedHashCode_5 := dk_seg dksJ3_vectorizedHashCode_4 23 rfl rfl
theorem dksJ3_vectorizedHashCode_6 : cJ3_vectorizedHashCode.data.toList.drop 137 = dktJ3_vectorizedHashCode_6 := dk_seg dksJ3_vectorizedHashCode_5 24 rfl rfl
theorem dJ3_vectorizedHashCode_0 : decode cJ3_vectorizedHashCode 0 = .ok (.iload 4, 2) := dk_21 4 (dk_at dksJ3_vectorizedHashCode_0 0 rfl rfl)
theorem dJ3_vectorizedHashCode_2 : decode cJ3_vectorizedHashCode 2 = .ok (.tableswitch 127 4 10 #[42, 55, 127, 127, 88, 101, 114], 42) := by decide +kernel
theorem dJ3_vectorizedHashCode_44 : decode cJ3_vectorizedHashCode 44 = .ok (.iload_n 3, 1) := dk_29 (dk_at dksJ3_vectorizedHashCode_2 0 rfl rfl)
theorem dJ3_vectorizedHashCode_45 : decode cJ3_vectorizedHashCode 45 = .ok (.aload_n 0, 1) := dk_42 (dk_at dksJ3_vectorizedHashCode_2 1 rfl rfl)
theorem dJ3_vectorizedHashCode_46 : decode cJ3_vectorizedHashCode 46 = .ok (.checkcast 60, 3) := dk_192 0 60 (dk_at dksJ3_vectorizedHashCode_2 2 rfl rfl)
theorem dJ3_vectorizedHashCode_49 : decode cJ3_vectorizedHashCode 49 = .ok (.iload_n 1, 1) := dk_27 (dk_at dksJ3_vectorizedHashCode_2 5 rfl rfl)
theorem dJ3_vectorizedHashCode_50 : decode cJ3_vectorizedHashCode 50 = .ok (.iload_n 2, 1) := dk_28 (dk_at dksJ3_vectorizedHashCode_2 6 rfl rfl)
theorem dJ3_vectorizedHashCode_51 : decode cJ3_vectorizedHashCode 51 = .ok (.invokestatic 62, 3) := dk_184 0 62 (dk_at dksJ3_vectorizedHashCode_2 7 rfl rfl)
theorem dJ3_vectorizedHashCode_54 : decode cJ3_vectorizedHashCode 54 = .ok (.goto 103, 3) := dk_167 0 103 (dk_at dksJ3_vectorizedHashCode_2 10 rfl rfl)
theorem dJ3_vectorizedHashCode_57 : decode cJ3_vectorizedHashCode 57 = .ok (.aload_n 0, 1) := dk_42 (dk_at dksJ3_vectorizedHashCode_2 13 rfl rfl)
theorem dJ3_vectorizedHashCode_58 : decode cJ3_vectorizedHashCode 58 = .ok (.instanceof 60, 3) := dk_193 0 60 (dk_at dksJ3_vectorizedHashCode_2 14 rfl rfl)
theorem dJ3_vectorizedHashCode_61 : decode cJ3_vectorizedHashCode 61 = .ok (.ifCond .eq 16, 3) := dk_153 0 16 (dk_at dksJ3_vectorizedHashCode_2 17 rfl rfl)
theorem dJ3_vectorizedHashCode_64 : decode cJ3_vectorizedHashCode 64 = .ok (.iload_n 3, 1) := dk_29 (dk_at dksJ3_vectorizedHashCode_2 20 rfl rfl)
theorem dJ3_vectorizedHashCode_65 : decode cJ3_vectorizedHashCode 65 = .ok (.aload_n 0, 1) := dk_42 (dk_at dksJ3_vectorizedHashCode_2 21 rfl rfl)
theorem dJ3_vectorizedHashCode_66 : decode cJ3_vectorizedHashCode 66 = .ok (.checkcast 60, 3) := dk_192 0 60 (dk_at dksJ3_vectorizedHashCode_3 0 rfl rfl)
theorem dJ3_vectorizedHashCode_69 : decode cJ3_vectorizedHashCode 69 = .ok (.iload_n 1, 1) := dk_27 (dk_at dksJ3_vectorizedHashCode_3 3 rfl rfl)
theorem dJ3_vectorizedHashCode_70 : decode cJ3_vectorizedHashCode 70 = .ok (.iload_n 2, 1) := dk_28 (dk_at dksJ3_vectorizedHashCode_3 4 rfl rfl)
theorem dJ3_vectorizedHashCode_71 : decode cJ3_vectorizedHashCode 71 = .ok (.invokestatic 66, 3) := dk_184 0 66 (dk_at dksJ3_vectorizedHashCode_3 5 rfl rfl)
theorem dJ3_vectorizedHashCode_74 : decode cJ3_vectorizedHashCode 74 = .ok (.goto 83, 3) := dk_167 0 83 (dk_at dksJ3_vectorizedHashCode_3 8 rfl rfl)
theorem dJ3_vectorizedHashCode_77 : decode cJ3_vectorizedHashCode 77 = .ok (.iload_n 3, 1) := dk_29 (dk_at dksJ3_vectorizedHashCode_3 11 rfl rfl)
theorem dJ3_vectorizedHashCode_78 : decode cJ3_vectorizedHashCode 78 = .ok (.aload_n 0, 1) := dk_42 (dk_at dksJ3_vectorizedHashCode_3 12 rfl rfl)
theorem dJ3_vectorizedHashCode_79 : decode cJ3_vectorizedHashCode 79 = .ok (.checkcast 69, 3) := dk_192 0 69 (dk_at dksJ3_vectorizedHashCode_3 13 rfl rfl)
theorem dJ3_vectorizedHashCode_82 : decode cJ3_vectorizedHashCode 82 = .ok (.iload_n 1, 1) := dk_27 (dk_at dksJ3_vectorizedHashCode_3 16 rfl rfl)
theorem dJ3_vectorizedHashCode_83 : decode cJ3_vectorizedHashCode 83 = .ok (.iload_n 2, 1) := dk_28 (dk_at dksJ3_vectorizedHashCode_3 17 rfl rfl)
theorem dJ3_vectorizedHashCode_84 : decode cJ3_vectorizedHashCode 84 = .ok (.invokestatic 71, 3) := dk_184 0 71 (dk_at dksJ3_vectorizedHashCode_3 18 rfl rfl)
theorem dJ3_vectorizedHashCode_87 : decode cJ3_vectorizedHashCode 87 = .ok (.goto 70, 3) := dk_167 0 70 (dk_at dksJ3_vectorizedHashCode_3 21 rfl rfl)
theorem dJ3_vectorizedHashCode_90 : decode cJ3_vectorizedHashCode 90 = .ok (.iload_n 3, 1) := dk_29 (dk_at dksJ3_vectorizedHashCode_4 0 rfl rfl)
theorem dJ3_vectorizedHashCode_91 : decode cJ3_vectorizedHashCode 91 = .ok (.aload_n 0, 1) := dk_42 (dk_at dksJ3_vectorizedHashCode_4 1 rfl rfl)
theorem dJ3_vectorizedHashCode_92 : decode cJ3_vectorizedHashCode 92 = .ok (.checkcast 60, 3) := dk_192 0 60 (dk_at dksJ3_vectorizedHashCode_4 2 rfl rfl)
theorem dJ3_vectorizedHashCode_95 : decode cJ3_vectorizedHashCode 95 = .ok (.iload_n 1, 1) := dk_27 (dk_at dksJ3_vectorizedHashCode_4 5 rfl rfl)
theorem dJ3_vectorizedHashCode_96 : decode cJ3_vectorizedHashCode 96 = .ok (.iload_n 2, 1) := dk_28 (dk_at dksJ3_vectorizedHashCode_4 6 rfl rfl)
theorem dJ3_vectorizedHashCode_97 : decode cJ3_vectorizedHashCode 97 = .ok (.invokestatic 75, 3) := dk_184 0 75 (dk_at dksJ3_vectorizedHashCode_4 7 rfl rfl)
theorem dJ3_vectorizedHashCode_100 : decode cJ3_vectorizedHashCode 100 = .ok (.goto 57, 3) := dk_167 0 57 (dk_at dksJ3_vectorizedHashCode_4 10 rfl rfl)
theorem dJ3_vectorizedHashCode_103 : decode cJ3_vectorizedHashCode 103 = .ok (.iload_n 3, 1) := dk_29 (dk_at dksJ3_vectorizedHashCode_4 13 rfl rfl)
theorem dJ3_vectorizedHashCode_104 : decode cJ3_vectorizedHashCode 104 = .ok (.aload_n 0, 1) := dk_42 (dk_at dksJ3_vectorizedHashCode_4 14 rfl rfl)
theorem dJ3_vectorizedHashCode_105 : decode cJ3_vectorizedHashCode 105 = .ok (.checkcast 77, 3) := dk_192 0 77 (dk_at dksJ3_vectorizedHashCode_4 15 rfl rfl)
theorem dJ3_vectorizedHashCode_108 : decode cJ3_vectorizedHashCode 108 = .ok (.iload_n 1, 1) := dk_27 (dk_at dksJ3_vectorizedHashCode_4 18 rfl rfl)
theorem dJ3_vectorizedHashCode_109 : decode cJ3_vectorizedHashCode 109 = .ok (.iload_n 2, 1) := dk_28 (dk_at dksJ3_vectorizedHashCode_4 19 rfl rfl)
theorem dJ3_vectorizedHashCode_110 : decode cJ3_vectorizedHashCode 110 = .ok (.invokestatic 79, 3) := dk_184 0 79 (dk_at dksJ3_vectorizedHashCode_4 20 rfl rfl)
theorem dJ3_vectorizedHashCode_113 : decode cJ3_vectorizedHashCode 113 = .ok (.goto 44, 3) := dk_167 0 44 (dk_at dksJ3_vectorizedHashCode_5 0 rfl rfl)
theorem dJ3_vectorizedHashCode_116 : decode cJ3_vectorizedHashCode 116 = .ok (.iload_n 3, 1) := dk_29 (dk_at dksJ3_vectorizedHashCode_5 3 rfl rfl)
theorem dJ3_vectorizedHashCode_117 : decode cJ3_vectorizedHashCode 117 = .ok (.aload_n 0, 1) := dk_42 (dk_at dksJ3_vectorizedHashCode_5 4 rfl rfl)
theorem dJ3_vectorizedHashCode_118 : decode cJ3_vectorizedHashCode 118 = .ok (.checkcast 82, 3) := dk_192 0 82 (dk_at dksJ3_vectorizedHashCode_5 5 rfl rfl)
theorem dJ3_vectorizedHashCode_121 : decode cJ3_vectorizedHashCode 121 = .ok (.iload_n 1, 1) := dk_27 (dk_at dksJ3_vectorizedHashCode_5 8 rfl rfl)
theorem dJ3_vectorizedHashCode_122 : decode cJ3_vectorizedHashCode 122 = .ok (.iload_n 2, 1) := dk_28 (dk_at dksJ3_vectorizedHashCode_5 9 rfl rfl)
theorem dJ3_vectorizedHashCode_123 : decode cJ3_vectorizedHashCode 123 = .ok (.invokestatic 84, 3) := dk_184 0 84 (dk_at dksJ3_vectorizedHashCode_5 10 rfl rfl)
theorem dJ3_vectorizedHashCode_126 : decode cJ3_vectorizedHashCode 126 = .ok (.goto 31, 3) := dk_167 0 31 (dk_at dksJ3_vectorizedHashCode_5 13 rfl rfl)
theorem dJ3_vectorizedHashCode_129 : decode cJ3_vectorizedHashCode 129 = .ok (.new 87, 3) := dk_187 0 87 (dk_at dksJ3_vectorizedHashCode_5 16 rfl rfl)
theorem dJ3_vectorizedHashCode_132 : decode cJ3_vectorizedHashCode 132 = .ok (.dup, 1) := dk_89 (dk_at dksJ3_vectorizedHashCode_5 19 rfl rfl)
theorem dJ3_vectorizedHashCode_133 : decode cJ3_vectorizedHashCode 133 = .ok (.new 89, 3) := dk_187 0 89 (dk_at dksJ3_vectorizedHashCode_5 20 rfl rfl)
theorem dJ3_vectorizedHashCode_136 : decode cJ3_vectorizedHashCode 136 = .ok (.dup, 1) := dk_89 (dk_at dksJ3_vectorizedHashCode_5 23 rfl rfl)
theorem dJ3_vectorizedHashCode_137 : decode cJ3_vectorizedHashCode 137 = .ok (.invokespecial 91, 3) := dk_183 0 91 (dk_at dksJ3_vectorizedHashCode_6 0 rfl rfl)
theorem dJ3_vectorizedHashCode_140 : decode cJ3_vectorizedHashCode 140 = .ok (.ldc 92, 2) := dk_18 92 (dk_at dksJ3_vectorizedHashCode_6 3 rfl rfl)
theorem dJ3_vectorizedHashCode_142 : decode cJ3_vectorizedHashCode 142 = .ok (.invokevirtual 94, 3) := dk_182 0 94 (dk_at dksJ3_vectorizedHashCode_6 5 rfl rfl)
theorem dJ3_vectorizedHashCode_145 : decode cJ3_vectorizedHashCode 145 = .ok (.iload 4, 2) := dk_21 4 (dk_at dksJ3_vectorizedHashCode_6 8 rfl rfl)
theorem dJ3_vectorizedHashCode_147 : decode cJ3_vectorizedHashCode 147 = .ok (.invokevirtual 98, 3) := dk_182 0 98 (dk_at dksJ3_vectorizedHashCode_6 10 rfl rfl)
theorem dJ3_vectorizedHashCode_150 : decode cJ3_vectorizedHashCode 150 = .ok (.invokevirtual 101, 3) := dk_182 0 101 (dk_at dksJ3_vectorizedHashCode_6 13 rfl rfl)
theorem dJ3_vectorizedHashCode_153 : decode cJ3_vectorizedHashCode 153 = .ok (.invokespecial 105, 3) := dk_183 0 105 (dk_at dksJ3_vectorizedHashCode_6 16 rfl rfl)
theorem dJ3_vectorizedHashCode_156 : decode cJ3_vectorizedHashCode 156 = .ok (.athrow, 1) := dk_191 (dk_at dksJ3_vectorizedHashCode_6 19 rfl rfl)
theorem dJ3_vectorizedHashCode_157 : decode cJ3_vectorizedHashCode 157 = .ok (.ireturn, 1) := dk_172 (dk_at dksJ3_vectorizedHashCode_6 20 rfl rfl)
def dkwJ3_signedHashCode_1 : List UInt8 := [17, 0, 255, 126, 96, 59, 132, 5, 1, 167, 255, 232, 26, 172]
abbrev dktJ3_signedHashCode_1 : List UInt8 := dkwJ3_signedHashCode_1 ++ []
def dkwJ3_signedHashCode_0 : List UInt8 := [28, 29, 96, 54, 4, 28, 54, 5, 21, 5, 21, 4, 162, 0, 23, 16, 31, 26, 104, 43, 21, 5, 51]
abbrev dktJ3_signedHashCode_0 : List UInt8 := dkwJ3_signedHashCode_0 ++ dktJ3_signedHashCode_1
theorem dksJ3_signedHashCode_0 : cJ3_signedHashCode.data.toList.drop 0 = dktJ3_signedHashCode_0 := by decide +kernel
theorem dksJ3_signedHashCode_1 : cJ3_signedHashCode.data.toList.drop 23 = dktJ3_signedHashCode_1 := dk_seg dksJ3_signedHashCode_0 23 rfl rfl
theorem dJ3_signedHashCode_0 : decode cJ3_signedHashCode 0 = .ok (.iload_n 2, 1) := dk_28 (dk_at dksJ3_signedHashCode_0 0 rfl rfl)
theorem dJ3_signedHashCode_1 : decode cJ3_signedHashCode 1 = .ok (.iload_n 3, 1) := dk_29 (dk_at dksJ3_signedHashCode_0 1 rfl rfl)
theorem dJ3_signedHashCode_2 : decode cJ3_signedHashCode 2 = .ok (.iadd, 1) := dk_96 (dk_at dksJ3_signedHashCode_0 2 rfl rfl)
theorem dJ3_signedHashCode_3 : decode cJ3_signedHashCode 3 = .ok (.istore 4, 2) := dk_54 4 (dk_at dksJ3_signedHashCode_0 3 rfl rfl)
theorem dJ3_signedHashCode_5 : decode cJ3_signedHashCode 5 = .ok (.iload_n 2, 1) := dk_28 (dk_at dksJ3_signedHashCode_0 5 rfl rfl)
theorem dJ3_signedHashCode_6 : decode cJ3_signedHashCode 6 = .ok (.istore 5, 2) := dk_54 5 (dk_at dksJ3_signedHashCode_0 6 rfl rfl)
theorem dJ3_signedHashCode_8 : decode cJ3_signedHashCode 8 = .ok (.iload 5, 2) := dk_21 5 (dk_at dksJ3_signedHashCode_0 8 rfl rfl)
theorem dJ3_signedHashCode_10 : decode cJ3_signedHashCode 10 = .ok (.iload 4, 2) := dk_21 4 (dk_at dksJ3_signedHashCode_0 10 rfl rfl)
theorem dJ3_signedHashCode_12 : decode cJ3_signedHashCode 12 = .ok (.if_icmp .ge 23, 3) := dk_162 0 23 (dk_at dksJ3_signedHashCode_0 12 rfl rfl)
theorem dJ3_signedHashCode_15 : decode cJ3_signedHashCode 15 = .ok (.bipush 31, 2) := dk_16 31 (dk_at dksJ3_signedHashCode_0 15 rfl rfl)
theorem dJ3_signedHashCode_17 : decode cJ3_signedHashCode 17 = .ok (.iload_n 0, 1) := dk_26 (dk_at dksJ3_signedHashCode_0 17 rfl rfl)
theorem dJ3_signedHashCode_18 : decode cJ3_signedHashCode 18 = .ok (.imul, 1) := dk_104 (dk_at dksJ3_signedHashCode_0 18 rfl rfl)
theorem dJ3_signedHashCode_19 : decode cJ3_signedHashCode 19 = .ok (.aload_n 1, 1) := dk_43 (dk_at dksJ3_signedHashCode_0 19 rfl rfl)
theorem dJ3_signedHashCode_20 : decode cJ3_signedHashCode 20 = .ok (.iload 5, 2) := dk_21 5 (dk_at dksJ3_signedHashCode_0 20 rfl rfl)
theorem dJ3_signedHashCode_22 : decode cJ3_signedHashCode 22 = .ok (.baload, 1) := dk_51 (dk_at dksJ3_signedHashCode_0 22 rfl rfl)
theorem dJ3_signedHashCode_23 : decode cJ3_signedHashCode 23 = .ok (.sipush 255, 3) := dk_17 0 255 (dk_at dksJ3_signedHashCode_1 0 rfl rfl)
theorem dJ3_signedHashCode_26 : decode cJ3_signedHashCode 26 = .ok (.iand, 1) := dk_126 (dk_at dksJ3_signedHashCode_1 3 rfl rfl)
theorem dJ3_signedHashCode_27 : decode cJ3_signedHashCode 27 = .ok (.iadd, 1) := dk_96 (dk_at dksJ3_signedHashCode_1 4 rfl rfl)
theorem dJ3_signedHashCode_28 : decode cJ3_signedHashCode 28 = .ok (.istore_n 0, 1) := dk_59 (dk_at dksJ3_signedHashCode_1 5 rfl rfl)
theorem dJ3_signedHashCode_29 : decode cJ3_signedHashCode 29 = .ok (.iinc 5 1, 3) := dk_132 5 1 (dk_at dksJ3_signedHashCode_1 6 rfl rfl)
theorem dJ3_signedHashCode_32 : decode cJ3_signedHashCode 32 = .ok (.goto (-24), 3) := dk_167 255 232 (dk_at dksJ3_signedHashCode_1 9 rfl rfl)
theorem dJ3_signedHashCode_35 : decode cJ3_signedHashCode 35 = .ok (.iload_n 0, 1) := dk_26 (dk_at dksJ3_signedHashCode_1 12 rfl rfl)
theorem dJ3_signedHashCode_36 : decode cJ3_signedHashCode 36 = .ok (.ireturn, 1) := dk_172 (dk_at dksJ3_signedHashCode_1 13 rfl rfl)
def dkwJ3_utf16hashCode_1 : List UInt8 := [21, 5, 185, 0, 110, 3, 0, 96, 59, 132, 5, 1, 167, 255, 229, 26, 172]
abbrev dktJ3_utf16hashCode_1 : List UInt8 := dkwJ3_utf16hashCode_1 ++ []
def dkwJ3_utf16hashCode_0 : List UInt8 := [28, 29, 96, 54, 4, 28, 54, 5, 21, 5, 21, 4, 162, 0, 26, 16, 31, 26, 104, 178, 0, 106, 43]
abbrev dktJ3_utf16hashCode_0 : List UInt8 := dkwJ3_utf16hashCode_0 ++ dktJ3_utf16hashCode_1
theorem dksJ3_utf16hashCode_0 : cJ3_utf16hashCode.data.toList.drop 0 = dktJ3_utf16hashCode_0 := by decide +kernel
theorem dksJ3_utf16hashCode_1 : cJ3_utf16hashCode.data.toList.drop 23 = dktJ3_utf16hashCode_1 := dk_seg dksJ3_utf16hashCode_0 23 rfl rfl
theorem dJ3_utf16hashCode_0 : decode cJ3_utf16hashCode 0 = .ok (.iload_n 2, 1) := dk_28 (dk_at dksJ3_utf16hashCode_0 0 rfl rfl)
theorem dJ3_utf16hashCode_1 : decode cJ3_utf16hashCode 1 = .ok (.iload_n 3, 1) := dk_29 (dk_at dksJ3_utf16hashCode_0 1 rfl rfl)
theorem dJ3_utf16hashCode_2 : decode cJ3_utf16hashCode 2 = .ok (.iadd, 1) := dk_96 (dk_at dksJ3_utf16hashCode_0 2 rfl rfl)
theorem dJ3_utf16hashCode_3 : decode cJ3_utf16hashCode 3 = .ok (.istore 4, 2) := dk_54 4 (dk_at dksJ3_utf16hashCode_0 3 rfl rfl)
theorem dJ3_utf16hashCode_5 : decode cJ3_utf16hashCode 5 = .ok (.iload_n 2, 1) := dk_28 (dk_at dksJ3_utf16hashCode_0 5 rfl rfl)
theorem dJ3_utf16hashCode_6 : decode cJ3_utf16hashCode 6 = .ok (.istore 5, 2) := dk_54 5 (dk_at dksJ3_utf16hashCode_0 6 rfl rfl)
theorem dJ3_utf16hashCode_8 : decode cJ3_utf16hashCode 8 = .ok (.iload 5, 2) := dk_21 5 (dk_at dksJ3_utf16hashCode_0 8 rfl rfl)
theorem dJ3_utf16hashCode_10 : decode cJ3_utf16hashCode 10 = .ok (.iload 4, 2) := dk_21 4 (dk_at dksJ3_utf16hashCode_0 10 rfl rfl)
theorem dJ3_utf16hashCode_12 : decode cJ3_utf16hashCode 12 = .ok (.if_icmp .ge 26, 3) := dk_162 0 26 (dk_at dksJ3_utf16hashCode_0 12 rfl rfl)
theorem dJ3_utf16hashCode_15 : decode cJ3_utf16hashCode 15 = .ok (.bipush 31, 2) := dk_16 31 (dk_at dksJ3_utf16hashCode_0 15 rfl rfl)
theorem dJ3_utf16hashCode_17 : decode cJ3_utf16hashCode 17 = .ok (.iload_n 0, 1) := dk_26 (dk_at dksJ3_utf16hashCode_0 17 rfl rfl)
theorem dJ3_utf16hashCode_18 : decode cJ3_utf16hashCode 18 = .ok (.imul, 1) := dk_104 (dk_at dksJ3_utf16hashCode_0 18 rfl rfl)
theorem dJ3_utf16hashCode_19 : decode cJ3_utf16hashCode 19 = .ok (.getstatic 106, 3) := dk_178 0 106 (dk_at dksJ3_utf16hashCode_0 19 rfl rfl)
theorem dJ3_utf16hashCode_22 : decode cJ3_utf16hashCode 22 = .ok (.aload_n 1, 1) := dk_43 (dk_at dksJ3_utf16hashCode_0 22 rfl rfl)
theorem dJ3_utf16hashCode_23 : decode cJ3_utf16hashCode 23 = .ok (.iload 5, 2) := dk_21 5 (dk_at dksJ3_utf16hashCode_1 0 rfl rfl)
theorem dJ3_utf16hashCode_25 : decode cJ3_utf16hashCode 25 = .ok (.invokeinterface 110 3, 5) := by decide +kernel
theorem dJ3_utf16hashCode_30 : decode cJ3_utf16hashCode 30 = .ok (.iadd, 1) := dk_96 (dk_at dksJ3_utf16hashCode_1 7 rfl rfl)
theorem dJ3_utf16hashCode_31 : decode cJ3_utf16hashCode 31 = .ok (.istore_n 0, 1) := dk_59 (dk_at dksJ3_utf16hashCode_1 8 rfl rfl)
theorem dJ3_utf16hashCode_32 : decode cJ3_utf16hashCode 32 = .ok (.iinc 5 1, 3) := dk_132 5 1 (dk_at dksJ3_utf16hashCode_1 9 rfl rfl)
theorem dJ3_utf16hashCode_35 : decode cJ3_utf16hashCode 35 = .ok (.goto (-27), 3) := dk_167 255 229 (dk_at dksJ3_utf16hashCode_1 12 rfl rfl)
theorem dJ3_utf16hashCode_38 : decode cJ3_utf16hashCode 38 = .ok (.iload_n 0, 1) := dk_26 (dk_at dksJ3_utf16hashCode_1 15 rfl rfl)
theorem dJ3_utf16hashCode_39 : decode cJ3_utf16hashCode 39 = .ok (.ireturn, 1) := dk_172 (dk_at dksJ3_utf16hashCode_1 16 rfl rfl)
def dkwJ3_hashCode_1 : List UInt8 := [59, 132, 5, 1, 167, 255, 236, 26, 172]
abbrev dktJ3_hashCode_1 : List UInt8 := dkwJ3_hashCode_1 ++ []
def dkwJ3_hashCode_0 : List UInt8 := [28, 29, 96, 54, 4, 28, 54, 5, 21, 5, 21, 4, 162, 0, 19, 16, 31, 26, 104, 43, 21, 5, 52, 96]
abbrev dktJ3_hashCode_0 : List UInt8 := dkwJ3_hashCode_0 ++ dktJ3_hashCode_1
theorem dksJ3_hashCode_0 : cJ3_hashCode.data.toList.drop 0 = dktJ3_hashCode_0 := by decide +kernel
theorem dksJ3_hashCode_1 : cJ3_hashCode.data.toList.drop 24 = dktJ3_hashCode_1 := dk_seg dksJ3_hashCode_0 24 rfl rfl
theorem dJ3_hashCode_0 : decode cJ3_hashCode 0 = .ok (.iload_n 2, 1) := dk_28 (dk_at dksJ3_hashCode_0 0 rfl rfl)
theorem dJ3_hashCode_1 : decode cJ3_hashCode 1 = .ok (.iload_n 3, 1) := dk_29 (dk_at dksJ3_hashCode_0 1 rfl rfl)
theorem dJ3_hashCode_2 : decode cJ3_hashCode 2 = .ok (.iadd, 1) := dk_96 (dk_at dksJ3_hashCode_0 2 rfl rfl)
theorem dJ3_hashCode_3 : decode cJ3_hashCode 3 = .ok (.istore 4, 2) := dk_54 4 (dk_at dksJ3_hashCode_0 3 rfl rfl)
theorem dJ3_hashCode_5 : decode cJ3_hashCode 5 = .ok (.iload_n 2, 1) := dk_28 (dk_at dksJ3_hashCode_0 5 rfl rfl)
theorem dJ3_hashCode_6 : decode cJ3_hashCode 6 = .ok (.istore 5, 2) := dk_54 5 (dk_at dksJ3_hashCode_0 6 rfl rfl)
theorem dJ3_hashCode_8 : decode cJ3_hashCode 8 = .ok (.iload 5, 2) := dk_21 5 (dk_at dksJ3_hashCode_0 8 rfl rfl)
theorem dJ3_hashCode_10 : decode cJ3_hashCode 10 = .ok (.iload 4, 2) := dk_21 4 (dk_at dksJ3_hashCode_0 10 rfl rfl)
theorem dJ3_hashCode_12 : decode cJ3_hashCode 12 = .ok (.if_icmp .ge 19, 3) := dk_162 0 19 (dk_at dksJ3_hashCode_0 12 rfl rfl)
theorem dJ3_hashCode_15 : decode cJ3_hashCode 15 = .ok (.bipush 31, 2) := dk_16 31 (dk_at dksJ3_hashCode_0 15 rfl rfl)
theorem dJ3_hashCode_17 : decode cJ3_hashCode 17 = .ok (.iload_n 0, 1) := dk_26 (dk_at dksJ3_hashCode_0 17 rfl rfl)
theorem dJ3_hashCode_18 : decode cJ3_hashCode 18 = .ok (.imul, 1) := dk_104 (dk_at dksJ3_hashCode_0 18 rfl rfl)
theorem dJ3_hashCode_19 : decode cJ3_hashCode 19 = .ok (.aload_n 1, 1) := dk_43 (dk_at dksJ3_hashCode_0 19 rfl rfl)
theorem dJ3_hashCode_20 : decode cJ3_hashCode 20 = .ok (.iload 5, 2) := dk_21 5 (dk_at dksJ3_hashCode_0 20 rfl rfl)
theorem dJ3_hashCode_22 : decode cJ3_hashCode 22 = .ok (.caload, 1) := dk_52 (dk_at dksJ3_hashCode_0 22 rfl rfl)
theorem dJ3_hashCode_23 : decode cJ3_hashCode 23 = .ok (.iadd, 1) := dk_96 (dk_at dksJ3_hashCode_0 23 rfl rfl)
theorem dJ3_hashCode_24 : decode cJ3_hashCode 24 = .ok (.istore_n 0, 1) := dk_59 (dk_at dksJ3_hashCode_1 0 rfl rfl)
theorem dJ3_hashCode_25 : decode cJ3_hashCode 25 = .ok (.iinc 5 1, 3) := dk_132 5 1 (dk_at dksJ3_hashCode_1 1 rfl rfl)
theorem dJ3_hashCode_28 : decode cJ3_hashCode 28 = .ok (.goto (-20), 3) := dk_167 255 236 (dk_at dksJ3_hashCode_1 4 rfl rfl)
theorem dJ3_hashCode_31 : decode cJ3_hashCode 31 = .ok (.iload_n 0, 1) := dk_26 (dk_at dksJ3_hashCode_1 7 rfl rfl)
theorem dJ3_hashCode_32 : decode cJ3_hashCode 32 = .ok (.ireturn, 1) := dk_172 (dk_at dksJ3_hashCode_1 8 rfl rfl)
def dkwJ3_hashCode_2_1 : List UInt8 := [59, 132, 5, 1, 167, 255, 236, 26, 172]
abbrev dktJ3_hashCode_2_1 : List UInt8 := dkwJ3_hashCode_2_1 ++ []
def dkwJ3_hashCode_2_0 : List UInt8 := [28, 29, 96, 54, 4, 28, 54, 5, 21, 5, 21, 4, 162, 0, 19, 16, 31, 26, 104, 43, 21, 5, 51, 96]
abbrev dktJ3_hashCode_2_0 : List UInt8 := dkwJ3_hashCode_2_0 ++ dktJ3_hashCode_2_1
theorem dksJ3_hashCode_2_0 : cJ3_hashCode_2.data.toList.drop 0 = dktJ3_hashCode_2_0 := by decide +kernel
theorem dksJ3_hashCode_2_1 : cJ3_hashCode_2.data.toList.drop 24 = dktJ3_hashCode_2_1 := dk_seg dksJ3_hashCode_2_0 24 rfl rfl
theorem dJ3_hashCode_2_0 : decode cJ3_hashCode_2 0 = .ok (.iload_n 2, 1) := dk_28 (dk_at dksJ3_hashCode_2_0 0 rfl rfl)
theorem dJ3_hashCode_2_1 : decode cJ3_hashCode_2 1 = .ok (.iload_n 3, 1) := dk_29 (dk_at dksJ3_hashCode_2_0 1 rfl rfl)
theorem dJ3_hashCode_2_2 : decode cJ3_hashCode_2 2 = .ok (.iadd, 1) := dk_96 (dk_at dksJ3_hashCode_2_0 2 rfl rfl)
theorem dJ3_hashCode_2_3 : decode cJ3_hashCode_2 3 = .ok (.istore 4, 2) := dk_54 4 (dk_at dksJ3_hashCode_2_0 3 rfl rfl)
theorem dJ3_hashCode_2_5 : decode cJ3_hashCode_2 5 = .ok (.iload_n 2, 1) := dk_28 (dk_at dksJ3_hashCode_2_0 5 rfl rfl)
theorem dJ3_hashCode_2_6 : decode cJ3_hashCode_2 6 = .ok (.istore 5, 2) := dk_54 5 (dk_at dksJ3_hashCode_2_0 6 rfl rfl)
theorem dJ3_hashCode_2_8 : decode cJ3_hashCode_2 8 = .ok (.iload 5, 2) := dk_21 5 (dk_at dksJ3_hashCode_2_0 8 rfl rfl)
theorem dJ3_hashCode_2_10 : decode cJ3_hashCode_2 10 = .ok (.iload 4, 2) := dk_21 4 (dk_at dksJ3_hashCode_2_0 10 rfl rfl)
theorem dJ3_hashCode_2_12 : decode cJ3_hashCode_2 12 = .ok (.if_icmp .ge 19, 3) := dk_162 0 19 (dk_at dksJ3_hashCode_2_0 12 rfl rfl)
theorem dJ3_hashCode_2_15 : decode cJ3_hashCode_2 15 = .ok (.bipush 31, 2) := dk_16 31 (dk_at dksJ3_hashCode_2_0 15 rfl rfl)
theorem dJ3_hashCode_2_17 : decode cJ3_hashCode_2 17 = .ok (.iload_n 0, 1) := dk_26 (dk_at dksJ3_hashCode_2_0 17 rfl rfl)
theorem dJ3_hashCode_2_18 : decode cJ3_hashCode_2 18 = .ok (.imul, 1) := dk_104 (dk_at dksJ3_hashCode_2_0 18 rfl rfl)
theorem dJ3_hashCode_2_19 : decode cJ3_hashCode_2 19 = .ok (.aload_n 1, 1) := dk_43 (dk_at dksJ3_hashCode_2_0 19 rfl rfl)
theorem dJ3_hashCode_2_20 : decode cJ3_hashCode_2 20 = .ok (.iload 5, 2) := dk_21 5 (dk_at dksJ3_hashCode_2_0 20 rfl rfl)
theorem dJ3_hashCode_2_22 : decode cJ3_hashCode_2 22 = .ok (.baload, 1) := dk_51 (dk_at dksJ3_hashCode_2_0 22 rfl rfl)
theorem dJ3_hashCode_2_23 : decode cJ3_hashCode_2 23 = .ok (.iadd, 1) := dk_96 (dk_at dksJ3_hashCode_2_0 23 rfl rfl)
theorem dJ3_hashCode_2_24 : decode cJ3_hashCode_2 24 = .ok (.istore_n 0, 1) := dk_59 (dk_at dksJ3_hashCode_2_1 0 rfl rfl)
theorem dJ3_hashCode_2_25 : decode cJ3_hashCode_2 25 = .ok (.iinc 5 1, 3) := dk_132 5 1 (dk_at dksJ3_hashCode_2_1 1 rfl rfl)
theorem dJ3_hashCode_2_28 : decode cJ3_hashCode_2 28 = .ok (.goto (-20), 3) := dk_167 255 236 (dk_at dksJ3_hashCode_2_1 4 rfl rfl)
theorem dJ3_hashCode_2_31 : decode cJ3_hashCode_2 31 = .ok (.iload_n 0, 1) := dk_26 (dk_at dksJ3_hashCode_2_1 7 rfl rfl)
theorem dJ3_hashCode_2_32 : decode cJ3_hashCode_2 32 = .ok (.ireturn, 1) := dk_172 (dk_at dksJ3_hashCode_2_1 8 rfl rfl)
def dkwJ3_hashCode_3_1 : List UInt8 := [59, 132, 5, 1, 167, 255, 236, 26, 172]
abbrev dktJ3_hashCode_3_1 : List UInt8 := dkwJ3_hashCode_3_1 ++ []
def dkwJ3_hashCode_3_0 : List UInt8 := [28, 29, 96, 54, 4, 28, 54, 5, 21, 5, 21, 4, 162, 0, 19, 16, 31, 26, 104, 43, 21, 5, 53, 96]
abbrev dktJ3_hashCode_3_0 : List UInt8 := dkwJ3_hashCode_3_0 ++ dktJ3_hashCode_3_1
theorem dksJ3_hashCode_3_0 : cJ3_hashCode_3.data.toList.drop 0 = dktJ3_hashCode_3_0 := by decide +kernel
theorem dksJ3_hashCode_3_1 : cJ3_hashCode_3.data.toList.drop 24 = dktJ3_hashCode_3_1 := dk_seg dksJ3_hashCode_3_0 24 rfl rfl
theorem dJ3_hashCode_3_0 : decode cJ3_hashCode_3 0 = .ok (.iload_n 2, 1) := dk_28 (dk_at dksJ3_hashCode_3_0 0 rfl rfl)
theorem dJ3_hashCode_3_1 : decode cJ3_hashCode_3 1 = .ok (.iload_n 3, 1) := dk_29 (dk_at dksJ3_hashCode_3_0 1 rfl rfl)
theorem dJ3_hashCode_3_2 : decode cJ3_hashCode_3 2 = .ok (.iadd, 1) := dk_96 (dk_at dksJ3_hashCode_3_0 2 rfl rfl)
theorem dJ3_hashCode_3_3 : decode cJ3_hashCode_3 3 = .ok (.istore 4, 2) := dk_54 4 (dk_at dksJ3_hashCode_3_0 3 rfl rfl)
theorem dJ3_hashCode_3_5 : decode cJ3_hashCode_3 5 = .ok (.iload_n 2, 1) := dk_28 (dk_at dksJ3_hashCode_3_0 5 rfl rfl)
theorem dJ3_hashCode_3_6 : decode cJ3_hashCode_3 6 = .ok (.istore 5, 2) := dk_54 5 (dk_at dksJ3_hashCode_3_0 6 rfl rfl)
theorem dJ3_hashCode_3_8 : decode cJ3_hashCode_3 8 = .ok (.iload 5, 2) := dk_21 5 (dk_at dksJ3_hashCode_3_0 8 rfl rfl)
theorem dJ3_hashCode_3_10 : decode cJ3_hashCode_3 10 = .ok (.iload 4, 2) := dk_21 4 (dk_at dksJ3_hashCode_3_0 10 rfl rfl)
theorem dJ3_hashCode_3_12 : decode cJ3_hashCode_3 12 = .ok (.if_icmp .ge 19, 3) := dk_162 0 19 (dk_at dksJ3_hashCode_3_0 12 rfl rfl)
theorem dJ3_hashCode_3_15 : decode cJ3_hashCode_3 15 = .ok (.bipush 31, 2) := dk_16 31 (dk_at dksJ3_hashCode_3_0 15 rfl rfl)
theorem dJ3_hashCode_3_17 : decode cJ3_hashCode_3 17 = .ok (.iload_n 0, 1) := dk_26 (dk_at dksJ3_hashCode_3_0 17 rfl rfl)
theorem dJ3_hashCode_3_18 : decode cJ3_hashCode_3 18 = .ok (.imul, 1) := dk_104 (dk_at dksJ3_hashCode_3_0 18 rfl rfl)
theorem dJ3_hashCode_3_19 : decode cJ3_hashCode_3 19 = .ok (.aload_n 1, 1) := dk_43 (dk_at dksJ3_hashCode_3_0 19 rfl rfl)
theorem dJ3_hashCode_3_20 : decode cJ3_hashCode_3 20 = .ok (.iload 5, 2) := dk_21 5 (dk_at dksJ3_hashCode_3_0 20 rfl rfl)
theorem dJ3_hashCode_3_22 : decode cJ3_hashCode_3 22 = .ok (.saload, 1) := dk_53 (dk_at dksJ3_hashCode_3_0 22 rfl rfl)
theorem dJ3_hashCode_3_23 : decode cJ3_hashCode_3 23 = .ok (.iadd, 1) := dk_96 (dk_at dksJ3_hashCode_3_0 23 rfl rfl)
theorem dJ3_hashCode_3_24 : decode cJ3_hashCode_3 24 = .ok (.istore_n 0, 1) := dk_59 (dk_at dksJ3_hashCode_3_1 0 rfl rfl)
theorem dJ3_hashCode_3_25 : decode cJ3_hashCode_3 25 = .ok (.iinc 5 1, 3) := dk_132 5 1 (dk_at dksJ3_hashCode_3_1 1 rfl rfl)
theorem dJ3_hashCode_3_28 : decode cJ3_hashCode_3 28 = .ok (.goto (-20), 3) := dk_167 255 236 (dk_at dksJ3_hashCode_3_1 4 rfl rfl)
theorem dJ3_hashCode_3_31 : decode cJ3_hashCode_3 31 = .ok (.iload_n 0, 1) := dk_26 (dk_at dksJ3_hashCode_3_1 7 rfl rfl)
theorem dJ3_hashCode_3_32 : decode cJ3_hashCode_3 32 = .ok (.ireturn, 1) := dk_172 (dk_at dksJ3_hashCode_3_1 8 rfl rfl)
def dkwJ3_hashCode_4_1 : List UInt8 := [59, 132, 5, 1, 167, 255, 236, 26, 172]
abbrev dktJ3_hashCode_4_1 : List UInt8 := dkwJ3_hashCode_4_1 ++ []
def dkwJ3_hashCode_4_0 : List UInt8 := [28, 29, 96, 54, 4, 28, 54, 5, 21, 5, 21, 4, 162, 0, 19, 16, 31, 26, 104, 43, 21, 5, 46, 96]
abbrev dktJ3_hashCode_4_0 : List UInt8 := dkwJ3_hashCode_4_0 ++ dktJ3_hashCode_4_1
theorem dksJ3_hashCode_4_0 : cJ3_hashCode_4.data.toList.drop 0 = dktJ3_hashCode_4_0 := by decide +kernel
theorem dksJ3_hashCode_4_1 : cJ3_hashCode_4.data.toList.drop 24 = dktJ3_hashCode_4_1 := dk_seg dksJ3_hashCode_4_0 24 rfl rfl
theorem dJ3_hashCode_4_0 : decode cJ3_hashCode_4 0 = .ok (.iload_n 2, 1) := dk_28 (dk_at dksJ3_hashCode_4_0 0 rfl rfl)
theorem dJ3_hashCode_4_1 : decode cJ3_hashCode_4 1 = .ok (.iload_n 3, 1) := dk_29 (dk_at dksJ3_hashCode_4_0 1 rfl rfl)
theorem dJ3_hashCode_4_2 : decode cJ3_hashCode_4 2 = .ok (.iadd, 1) := dk_96 (dk_at dksJ3_hashCode_4_0 2 rfl rfl)
theorem dJ3_hashCode_4_3 : decode cJ3_hashCode_4 3 = .ok (.istore 4, 2) := dk_54 4 (dk_at dksJ3_hashCode_4_0 3 rfl rfl)
theorem dJ3_hashCode_4_5 : decode cJ3_hashCode_4 5 = .ok (.iload_n 2, 1) := dk_28 (dk_at dksJ3_hashCode_4_0 5 rfl rfl)
theorem dJ3_hashCode_4_6 : decode cJ3_hashCode_4 6 = .ok (.istore 5, 2) := dk_54 5 (dk_at dksJ3_hashCode_4_0 6 rfl rfl)
theorem dJ3_hashCode_4_8 : decode cJ3_hashCode_4 8 = .ok (.iload 5, 2) := dk_21 5 (dk_at dksJ3_hashCode_4_0 8 rfl rfl)
theorem dJ3_hashCode_4_10 : decode cJ3_hashCode_4 10 = .ok (.iload 4, 2) := dk_21 4 (dk_at dksJ3_hashCode_4_0 10 rfl rfl)
theorem dJ3_hashCode_4_12 : decode cJ3_hashCode_4 12 = .ok (.if_icmp .ge 19, 3) := dk_162 0 19 (dk_at dksJ3_hashCode_4_0 12 rfl rfl)
theorem dJ3_hashCode_4_15 : decode cJ3_hashCode_4 15 = .ok (.bipush 31, 2) := dk_16 31 (dk_at dksJ3_hashCode_4_0 15 rfl rfl)
theorem dJ3_hashCode_4_17 : decode cJ3_hashCode_4 17 = .ok (.iload_n 0, 1) := dk_26 (dk_at dksJ3_hashCode_4_0 17 rfl rfl)
theorem dJ3_hashCode_4_18 : decode cJ3_hashCode_4 18 = .ok (.imul, 1) := dk_104 (dk_at dksJ3_hashCode_4_0 18 rfl rfl)
theorem dJ3_hashCode_4_19 : decode cJ3_hashCode_4 19 = .ok (.aload_n 1, 1) := dk_43 (dk_at dksJ3_hashCode_4_0 19 rfl rfl)
theorem dJ3_hashCode_4_20 : decode cJ3_hashCode_4 20 = .ok (.iload 5, 2) := dk_21 5 (dk_at dksJ3_hashCode_4_0 20 rfl rfl)
theorem dJ3_hashCode_4_22 : decode cJ3_hashCode_4 22 = .ok (.iaload, 1) := dk_46 (dk_at dksJ3_hashCode_4_0 22 rfl rfl)
theorem dJ3_hashCode_4_23 : decode cJ3_hashCode_4 23 = .ok (.iadd, 1) := dk_96 (dk_at dksJ3_hashCode_4_0 23 rfl rfl)
theorem dJ3_hashCode_4_24 : decode cJ3_hashCode_4 24 = .ok (.istore_n 0, 1) := dk_59 (dk_at dksJ3_hashCode_4_1 0 rfl rfl)
theorem dJ3_hashCode_4_25 : decode cJ3_hashCode_4 25 = .ok (.iinc 5 1, 3) := dk_132 5 1 (dk_at dksJ3_hashCode_4_1 1 rfl rfl)
theorem dJ3_hashCode_4_28 : decode cJ3_hashCode_4 28 = .ok (.goto (-20), 3) := dk_167 255 236 (dk_at dksJ3_hashCode_4_1 4 rfl rfl)
theorem dJ3_hashCode_4_31 : decode cJ3_hashCode_4 31 = .ok (.iload_n 0, 1) := dk_26 (dk_at dksJ3_hashCode_4_1 7 rfl rfl)
theorem dJ3_hashCode_4_32 : decode cJ3_hashCode_4 32 = .ok (.ireturn, 1) := dk_172 (dk_at dksJ3_hashCode_4_1 8 rfl rfl)
def dkwJ4_max_0 : List UInt8 := [26, 27, 161, 0, 7, 26, 167, 0, 4, 27, 172]
abbrev dktJ4_max_0 : List UInt8 := dkwJ4_max_0 ++ []
theorem dksJ4_max_0 : cJ4_max.data.toList.drop 0 = dktJ4_max_0 := by decide +kernel
theorem dJ4_max_0 : decode cJ4_max 0 = .ok (.iload_n 0, 1) := dk_26 (dk_at dksJ4_max_0 0 rfl rfl)
theorem dJ4_max_1 : decode cJ4_max 1 = .ok (.iload_n 1, 1) := dk_27 (dk_at dksJ4_max_0 1 rfl rfl)
theorem dJ4_max_2 : decode cJ4_max 2 = .ok (.if_icmp .lt 7, 3) := dk_161 0 7 (dk_at dksJ4_max_0 2 rfl rfl)
theorem dJ4_max_5 : decode cJ4_max 5 = .ok (.iload_n 0, 1) := dk_26 (dk_at dksJ4_max_0 5 rfl rfl)
theorem dJ4_max_6 : decode cJ4_max 6 = .ok (.goto 4, 3) := dk_167 0 4 (dk_at dksJ4_max_0 6 rfl rfl)
theorem dJ4_max_9 : decode cJ4_max 9 = .ok (.iload_n 1, 1) := dk_27 (dk_at dksJ4_max_0 9 rfl rfl)
theorem dJ4_max_10 : decode cJ4_max 10 = .ok (.ireturn, 1) := dk_172 (dk_at dksJ4_max_0 10 rfl rfl)
def dkwJ4_min_0 : List UInt8 := [26, 27, 163, 0, 7, 26, 167, 0, 4, 27, 172]
abbrev dktJ4_min_0 : List UInt8 := dkwJ4_min_0 ++ []
theorem dksJ4_min_0 : cJ4_min.data.toList.drop 0 = dktJ4_min_0 := by decide +kernel
theorem dJ4_min_0 : decode cJ4_min 0 = .ok (.iload_n 0, 1) := dk_26 (dk_at dksJ4_min_0 0 rfl rfl)
theorem dJ4_min_1 : decode cJ4_min 1 = .ok (.iload_n 1, 1) := dk_27 (dk_at dksJ4_min_0 1 rfl rfl)
theorem dJ4_min_2 : decode cJ4_min 2 = .ok (.if_icmp .gt 7, 3) := dk_163 0 7 (dk_at dksJ4_min_0 2 rfl rfl)
theorem dJ4_min_5 : decode cJ4_min 5 = .ok (.iload_n 0, 1) := dk_26 (dk_at dksJ4_min_0 5 rfl rfl)
theorem dJ4_min_6 : decode cJ4_min 6 = .ok (.goto 4, 3) := dk_167 0 4 (dk_at dksJ4_min_0 6 rfl rfl)
theorem dJ4_min_9 : decode cJ4_min 9 = .ok (.iload_n 1, 1) := dk_27 (dk_at dksJ4_min_0 9 rfl rfl)
theorem dJ4_min_10 : decode cJ4_min 10 = .ok (.ireturn, 1) := dk_172 (dk_at dksJ4_min_0 10 rfl rfl)
def dkwJ4_abs_0 : List UInt8 := [30, 9, 148, 156, 0, 8, 30, 117, 167, 0, 4, 30, 173]
abbrev dktJ4_abs_0 : List UInt8 := dkwJ4_abs_0 ++ []
theorem dksJ4_abs_0 : cJ4_abs.data.toList.drop 0 = dktJ4_abs_0 := by decide +kernel
theorem dJ4_abs_0 : decode cJ4_abs 0 = .ok (.lload_n 0, 1) := dk_30 (dk_at dksJ4_abs_0 0 rfl rfl)
theorem dJ4_abs_1 : decode cJ4_abs 1 = .ok (.lconst 0, 1) := dk_9 (dk_at dksJ4_abs_0 1 rfl rfl)
theorem dJ4_abs_2 : decode cJ4_abs 2 = .ok (.lcmp, 1) := dk_148 (dk_at dksJ4_abs_0 2 rfl rfl)
theorem dJ4_abs_3 : decode cJ4_abs 3 = .ok (.ifCond .ge 8, 3) := dk_156 0 8 (dk_at dksJ4_abs_0 3 rfl rfl)
theorem dJ4_abs_6 : decode cJ4_abs 6 = .ok (.lload_n 0, 1) := dk_30 (dk_at dksJ4_abs_0 6 rfl rfl)
theorem dJ4_abs_7 : decode cJ4_abs 7 = .ok (.lneg, 1) := dk_117 (dk_at dksJ4_abs_0 7 rfl rfl)
theorem dJ4_abs_8 : decode cJ4_abs 8 = .ok (.goto 4, 3) := dk_167 0 4 (dk_at dksJ4_abs_0 8 rfl rfl)
theorem dJ4_abs_11 : decode cJ4_abs 11 = .ok (.lload_n 0, 1) := dk_30 (dk_at dksJ4_abs_0 11 rfl rfl)
theorem dJ4_abs_12 : decode cJ4_abs 12 = .ok (.lreturn, 1) := dk_173 (dk_at dksJ4_abs_0 12 rfl rfl)
def dkwJ4_max_2_0 : List UInt8 := [30, 32, 148, 155, 0, 7, 30, 167, 0, 4, 32, 173]
abbrev dktJ4_max_2_0 : List UInt8 := dkwJ4_max_2_0 ++ []
theorem dksJ4_max_2_0 : cJ4_max_2.data.toList.drop 0 = dktJ4_max_2_0 := by decide +kernel
theorem dJ4_max_2_0 : decode cJ4_max_2 0 = .ok (.lload_n 0, 1) := dk_30 (dk_at dksJ4_max_2_0 0 rfl rfl)
theorem dJ4_max_2_1 : decode cJ4_max_2 1 = .ok (.lload_n 2, 1) := dk_32 (dk_at dksJ4_max_2_0 1 rfl rfl)
theorem dJ4_max_2_2 : decode cJ4_max_2 2 = .ok (.lcmp, 1) := dk_148 (dk_at dksJ4_max_2_0 2 rfl rfl)
theorem dJ4_max_2_3 : decode cJ4_max_2 3 = .ok (.ifCond .lt 7, 3) := dk_155 0 7 (dk_at dksJ4_max_2_0 3 rfl rfl)
theorem dJ4_max_2_6 : decode cJ4_max_2 6 = .ok (.lload_n 0, 1) := dk_30 (dk_at dksJ4_max_2_0 6 rfl rfl)
theorem dJ4_max_2_7 : decode cJ4_max_2 7 = .ok (.goto 4, 3) := dk_167 0 4 (dk_at dksJ4_max_2_0 7 rfl rfl)
theorem dJ4_max_2_10 : decode cJ4_max_2 10 = .ok (.lload_n 2, 1) := dk_32 (dk_at dksJ4_max_2_0 10 rfl rfl)
theorem dJ4_max_2_11 : decode cJ4_max_2 11 = .ok (.lreturn, 1) := dk_173 (dk_at dksJ4_max_2_0 11 rfl rfl)
def dkwJ4_min_2_0 : List UInt8 := [30, 32, 148, 157, 0, 7, 30, 167, 0, 4, 32, 173]
abbrev dktJ4_min_2_0 : List UInt8 := dkwJ4_min_2_0 ++ []
theorem dksJ4_min_2_0 : cJ4_min_2.data.toList.drop 0 = dktJ4_min_2_0 := by decide +kernel
theorem dJ4_min_2_0 : decode cJ4_min_2 0 = .ok (.lload_n 0, 1) := dk_30 (dk_at dksJ4_min_2_0 0 rfl rfl)
theorem dJ4_min_2_1 : decode cJ4_min_2 1 = .ok (.lload_n 2, 1) := dk_32 (dk_at dksJ4_min_2_0 1 rfl rfl)
theorem dJ4_min_2_2 : decode cJ4_min_2 2 = .ok (.lcmp, 1) := dk_148 (dk_at dksJ4_min_2_0 2 rfl rfl)
theorem dJ4_min_2_3 : decode cJ4_min_2 3 = .ok (.ifCond .gt 7, 3) := dk_157 0 7 (dk_at dksJ4_min_2_0 3 rfl rfl)
theorem dJ4_min_2_6 : decode cJ4_min_2 6 = .ok (.lload_n 0, 1) := dk_30 (dk_at dksJ4_min_2_0 6 rfl rfl)
theorem dJ4_min_2_7 : decode cJ4_min_2 7 = .ok (.goto 4, 3) := dk_167 0 4 (dk_at dksJ4_min_2_0 7 rfl rfl)
theorem dJ4_min_2_10 : decode cJ4_min_2 10 = .ok (.lload_n 2, 1) := dk_32 (dk_at dksJ4_min_2_0 10 rfl rfl)
theorem dJ4_min_2_11 : decode cJ4_min_2 11 = .ok (.lreturn, 1) := dk_173 (dk_at dksJ4_min_2_0 11 rfl rfl)
def dkwJ5_copyOf_0 : List UInt8 := [42, 27, 42, 182, 0, 86, 184, 1, 44, 176]
abbrev dktJ5_copyOf_0 : List UInt8 := dkwJ5_copyOf_0 ++ []
theorem dksJ5_copyOf_0 : cJ5_copyOf.data.toList.drop 0 = dktJ5_copyOf_0 := by decide +kernel
theorem dJ5_copyOf_0 : decode cJ5_copyOf 0 = .ok (.aload_n 0, 1) := dk_42 (dk_at dksJ5_copyOf_0 0 rfl rfl)
theorem dJ5_copyOf_1 : decode cJ5_copyOf 1 = .ok (.iload_n 1, 1) := dk_27 (dk_at dksJ5_copyOf_0 1 rfl rfl)
theorem dJ5_copyOf_2 : decode cJ5_copyOf 2 = .ok (.aload_n 0, 1) := dk_42 (dk_at dksJ5_copyOf_0 2 rfl rfl)
theorem dJ5_copyOf_3 : decode cJ5_copyOf 3 = .ok (.invokevirtual 86, 3) := dk_182 0 86 (dk_at dksJ5_copyOf_0 3 rfl rfl)
theorem dJ5_copyOf_6 : decode cJ5_copyOf 6 = .ok (.invokestatic 300, 3) := dk_184 1 44 (dk_at dksJ5_copyOf_0 6 rfl rfl)
theorem dJ5_copyOf_9 : decode cJ5_copyOf 9 = .ok (.areturn, 1) := dk_176 (dk_at dksJ5_copyOf_0 9 rfl rfl)
def dkwJ5_copyOf_2_1 : List UInt8 := [78, 42, 3, 45, 3, 42, 190, 27, 184, 1, 48, 184, 0, 150, 45, 176]
abbrev dktJ5_copyOf_2_1 : List UInt8 := dkwJ5_copyOf_2_1 ++ []
def dkwJ5_copyOf_2_0 : List UInt8 := [44, 18, 110, 166, 0, 10, 27, 189, 0, 2, 167, 0, 14, 44, 182, 0, 90, 27, 184, 0, 95, 192, 0, 110]
abbrev dktJ5_copyOf_2_0 : List UInt8 := dkwJ5_copyOf_2_0 ++ dktJ5_copyOf_2_1
theorem dksJ5_copyOf_2_0 : cJ5_copyOf_2.data.toList.drop 0 = dktJ5_copyOf_2_0 := by decide +kernel
theorem dksJ5_copyOf_2_1 : cJ5_copyOf_2.data.toList.drop 24 = dktJ5_copyOf_2_1 := dk_seg dksJ5_copyOf_2_0 24 rfl rfl
theorem dJ5_copyOf_2_0 : decode cJ5_copyOf_2 0 = .ok (.aload_n 2, 1) := dk_44 (dk_at dksJ5_copyOf_2_0 0 rfl rfl)
theorem dJ5_copyOf_2_1 : decode cJ5_copyOf_2 1 = .ok (.ldc 110, 2) := dk_18 110 (dk_at dksJ5_copyOf_2_0 1 rfl rfl)
theorem dJ5_copyOf_2_3 : decode cJ5_copyOf_2 3 = .ok (.if_acmp .ne 10, 3) := dk_166 0 10 (dk_at dksJ5_copyOf_2_0 3 rfl rfl)
theorem dJ5_copyOf_2_6 : decode cJ5_copyOf_2 6 = .ok (.iload_n 1, 1) := dk_27 (dk_at dksJ5_copyOf_2_0 6 rfl rfl)
theorem dJ5_copyOf_2_7 : decode cJ5_copyOf_2 7 = .ok (.anewarray 2, 3) := dk_189 0 2 (dk_at dksJ5_copyOf_2_0 7 rfl rfl)
theorem dJ5_copyOf_2_10 : decode cJ5_copyOf_2 10 = .ok (.goto 14, 3) := dk_167 0 14 (dk_at dksJ5_copyOf_2_0 10 rfl rfl)
theorem dJ5_copyOf_2_13 : decode cJ5_copyOf_2 13 = .ok (.aload_n 2, 1) := dk_44 (dk_at dksJ5_copyOf_2_0 13 rfl rfl)
theorem dJ5_copyOf_2_14 : decode cJ5_copyOf_2 14 = .ok (.invokevirtual 90, 3) := dk_182 0 90 (dk_at dksJ5_copyOf_2_0 14 rfl rfl)
theorem dJ5_copyOf_2_17 : decode cJ5_copyOf_2 17 = .ok (.iload_n 1, 1) := dk_27 (dk_at dksJ5_copyOf_2_0 17 rfl rfl)
theorem dJ5_copyOf_2_18 : decode cJ5_copyOf_2 18 = .ok (.invokestatic 95, 3) := dk_184 0 95 (dk_at dksJ5_copyOf_2_0 18 rfl rfl)
theorem dJ5_copyOf_2_21 : decode cJ5_copyOf_2 21 = .ok (.checkcast 110, 3) := dk_192 0 110 (dk_at dksJ5_copyOf_2_0 21 rfl rfl)
theorem dJ5_copyOf_2_24 : decode cJ5_copyOf_2 24 = .ok (.astore_n 3, 1) := dk_78 (dk_at dksJ5_copyOf_2_1 0 rfl rfl)
theorem dJ5_copyOf_2_25 : decode cJ5_copyOf_2 25 = .ok (.aload_n 0, 1) := dk_42 (dk_at dksJ5_copyOf_2_1 1 rfl rfl)
theorem dJ5_copyOf_2_26 : decode cJ5_copyOf_2 26 = .ok (.iconst 0, 1) := dk_3 (dk_at dksJ5_copyOf_2_1 2 rfl rfl)
theorem dJ5_copyOf_2_27 : decode cJ5_copyOf_2 27 = .ok (.aload_n 3, 1) := dk_45 (dk_at dksJ5_copyOf_2_1 3 rfl rfl)
theorem dJ5_copyOf_2_28 : decode cJ5_copyOf_2 28 = .ok (.iconst 0, 1) := dk_3 (dk_at dksJ5_copyOf_2_1 4 rfl rfl)
theorem dJ5_copyOf_2_29 : decode cJ5_copyOf_2 29 = .ok (.aload_n 0, 1) := dk_42 (dk_at dksJ5_copyOf_2_1 5 rfl rfl)
theorem dJ5_copyOf_2_30 : decode cJ5_copyOf_2 30 = .ok (.arraylength, 1) := dk_190 (dk_at dksJ5_copyOf_2_1 6 rfl rfl)
theorem dJ5_copyOf_2_31 : decode cJ5_copyOf_2 31 = .ok (.iload_n 1, 1) := dk_27 (dk_at dksJ5_copyOf_2_1 7 rfl rfl)
theorem dJ5_copyOf_2_32 : decode cJ5_copyOf_2 32 = .ok (.invokestatic 304, 3) := dk_184 1 48 (dk_at dksJ5_copyOf_2_1 8 rfl rfl)
theorem dJ5_copyOf_2_35 : decode cJ5_copyOf_2 35 = .ok (.invokestatic 150, 3) := dk_184 0 150 (dk_at dksJ5_copyOf_2_1 11 rfl rfl)
theorem dJ5_copyOf_2_38 : decode cJ5_copyOf_2 38 = .ok (.aload_n 3, 1) := dk_45 (dk_at dksJ5_copyOf_2_1 14 rfl rfl)
theorem dJ5_copyOf_2_39 : decode cJ5_copyOf_2 39 = .ok (.areturn, 1) := dk_176 (dk_at dksJ5_copyOf_2_1 15 rfl rfl)
def dkwJ5_copyOf_3_1 : List UInt8 := [27, 184, 1, 48, 184, 0, 150, 44, 176]
abbrev dktJ5_copyOf_3_1 : List UInt8 := dkwJ5_copyOf_3_1 ++ []
def dkwJ5_copyOf_3_0 : List UInt8 := [27, 42, 190, 160, 0, 11, 42, 182, 1, 54, 192, 1, 55, 176, 27, 188, 8, 77, 42, 3, 44, 3, 42, 190]
abbrev dktJ5_copyOf_3_0 : List UInt8 := dkwJ5_copyOf_3_0 ++ dktJ5_copyOf_3_1
theorem dksJ5_copyOf_3_0 : cJ5_copyOf_3.data.toList.drop 0 = dktJ5_copyOf_3_0 := by decide +kernel
theorem dksJ5_copyOf_3_1 : cJ5_copyOf_3.data.toList.drop 24 = dktJ5_copyOf_3_1 := dk_seg dksJ5_copyOf_3_0 24 rfl rfl
theorem dJ5_copyOf_3_0 : decode cJ5_copyOf_3 0 = .ok (.iload_n 1, 1) := dk_27 (dk_at dksJ5_copyOf_3_0 0 rfl rfl)
theorem dJ5_copyOf_3_1 : decode cJ5_copyOf_3 1 = .ok (.aload_n 0, 1) := dk_42 (dk_at dksJ5_copyOf_3_0 1 rfl rfl)
theorem dJ5_copyOf_3_2 : decode cJ5_copyOf_3 2 = .ok (.arraylength, 1) := dk_190 (dk_at dksJ5_copyOf_3_0 2 rfl rfl)
theorem dJ5_copyOf_3_3 : decode cJ5_copyOf_3 3 = .ok (.if_icmp .ne 11, 3) := dk_160 0 11 (dk_at dksJ5_copyOf_3_0 3 rfl rfl)
theorem dJ5_copyOf_3_6 : decode cJ5_copyOf_3 6 = .ok (.aload_n 0, 1) := dk_42 (dk_at dksJ5_copyOf_3_0 6 rfl rfl)
theorem dJ5_copyOf_3_7 : decode cJ5_copyOf_3 7 = .ok (.invokevirtual 310, 3) := dk_182 1 54 (dk_at dksJ5_copyOf_3_0 7 rfl rfl)
theorem dJ5_copyOf_3_10 : decode cJ5_copyOf_3 10 = .ok (.checkcast 311, 3) := dk_192 1 55 (dk_at dksJ5_copyOf_3_0 10 rfl rfl)
theorem dJ5_copyOf_3_13 : decode cJ5_copyOf_3 13 = .ok (.areturn, 1) := dk_176 (dk_at dksJ5_copyOf_3_0 13 rfl rfl)
theorem dJ5_copyOf_3_14 : decode cJ5_copyOf_3 14 = .ok (.iload_n 1, 1) := dk_27 (dk_at dksJ5_copyOf_3_0 14 rfl rfl)
theorem dJ5_copyOf_3_15 : decode cJ5_copyOf_3 15 = .ok (.newarray .byte, 2) := dk_188_8 (dk_at dksJ5_copyOf_3_0 15 rfl rfl)
theorem dJ5_copyOf_3_17 : decode cJ5_copyOf_3 17 = .ok (.astore_n 2, 1) := dk_77 (dk_at dksJ5_copyOf_3_0 17 rfl rfl)
theorem dJ5_copyOf_3_18 : decode cJ5_copyOf_3 18 = .ok (.aload_n 0, 1) := dk_42 (dk_at dksJ5_copyOf_3_0 18 rfl rfl)
theorem dJ5_copyOf_3_19 : decode cJ5_copyOf_3 19 = .ok (.iconst 0, 1) := dk_3 (dk_at dksJ5_copyOf_3_0 19 rfl rfl)
theorem dJ5_copyOf_3_20 : decode cJ5_copyOf_3 20 = .ok (.aload_n 2, 1) := dk_44 (dk_at dksJ5_copyOf_3_0 20 rfl rfl)
theorem dJ5_copyOf_3_21 : decode cJ5_copyOf_3 21 = .ok (.iconst 0, 1) := dk_3 (dk_at dksJ5_copyOf_3_0 21 rfl rfl)
theorem dJ5_copyOf_3_22 : decode cJ5_copyOf_3 22 = .ok (.aload_n 0, 1) := dk_42 (dk_at dksJ5_copyOf_3_0 22 rfl rfl)
theorem dJ5_copyOf_3_23 : decode cJ5_copyOf_3 23 = .ok (.arraylength, 1) := dk_190 (dk_at dksJ5_copyOf_3_0 23 rfl rfl)
theorem dJ5_copyOf_3_24 : decode cJ5_copyOf_3 24 = .ok (.iload_n 1, 1) := dk_27 (dk_at dksJ5_copyOf_3_1 0 rfl rfl)
theorem dJ5_copyOf_3_25 : decode cJ5_copyOf_3 25 = .ok (.invokestatic 304, 3) := dk_184 1 48 (dk_at dksJ5_copyOf_3_1 1 rfl rfl)
theorem dJ5_copyOf_3_28 : decode cJ5_copyOf_3 28 = .ok (.invokestatic 150, 3) := dk_184 0 150 (dk_at dksJ5_copyOf_3_1 4 rfl rfl)
theorem dJ5_copyOf_3_31 : decode cJ5_copyOf_3 31 = .ok (.aload_n 2, 1) := dk_44 (dk_at dksJ5_copyOf_3_1 7 rfl rfl)
theorem dJ5_copyOf_3_32 : decode cJ5_copyOf_3 32 = .ok (.areturn, 1) := dk_176 (dk_at dksJ5_copyOf_3_1 8 rfl rfl)
def dkwJ5_copyOfRange_1 : List UInt8 := [176]
abbrev dktJ5_copyOfRange_1 : List UInt8 := dkwJ5_copyOfRange_1 ++ []
def dkwJ5_copyOfRange_0 : List UInt8 := [27, 154, 0, 9, 28, 42, 190, 159, 0, 10, 42, 27, 28, 184, 1, 83, 176, 42, 182, 1, 54, 192, 1, 55]
abbrev dktJ5_copyOfRange_0 : List UInt8 := dkwJ5_copyOfRange_0 ++ dktJ5_copyOfRange_1
theorem dksJ5_copyOfRange_0 : cJ5_copyOfRange.data.toList.drop 0 = dktJ5_copyOfRange_0 := by decide +kernel
theorem dksJ5_copyOfRange_1 : cJ5_copyOfRange.data.toList.drop 24 = dktJ5_copyOfRange_1 := dk_seg dksJ5_copyOfRange_0 24 rfl rfl
theorem dJ5_copyOfRange_0 : decode cJ5_copyOfRange 0 = .ok (.iload_n 1, 1) := dk_27 (dk_at dksJ5_copyOfRange_0 0 rfl rfl)
theorem dJ5_copyOfRange_1 : decode cJ5_copyOfRange 1 = .ok (.ifCond .ne 9, 3) := dk_154 0 9 (dk_at dksJ5_copyOfRange_0 1 rfl rfl)
theorem dJ5_copyOfRange_4 : decode cJ5_copyOfRange 4 = .ok (.iload_n 2, 1) := dk_28 (dk_at dksJ5_copyOfRange_0 4 rfl rfl)
theorem dJ5_copyOfRange_5 : decode cJ5_copyOfRange 5 = .ok (.aload_n 0, 1) := dk_42 (dk_at dksJ5_copyOfRange_0 5 rfl rfl)
theorem dJ5_copyOfRange_6 : decode cJ5_copyOfRange 6 = .ok (.arraylength, 1) := dk_190 (dk_at dksJ5_copyOfRange_0 6 rfl rfl)
theorem dJ5_copyOfRange_7 : decode cJ5_copyOfRange 7 = .ok (.if_icmp .eq 10, 3) := dk_159 0 10 (dk_at dksJ5_copyOfRange_0 7 rfl rfl)
theorem dJ5_copyOfRange_10 : decode cJ5_copyOfRange 10 = .ok (.aload_n 0, 1) := dk_42 (dk_at dksJ5_copyOfRange_0 10 rfl rfl)
theorem dJ5_copyOfRange_11 : decode cJ5_copyOfRange 11 = .ok (.iload_n 1, 1) := dk_27 (dk_at dksJ5_copyOfRange_0 11 rfl rfl)
theorem dJ5_copyOfRange_12 : decode cJ5_copyOfRange 12 = .ok (.iload_n 2, 1) := dk_28 (dk_at dksJ5_copyOfRange_0 12 rfl rfl)
theorem dJ5_copyOfRange_13 : decode cJ5_copyOfRange 13 = .ok (.invokestatic 339, 3) := dk_184 1 83 (dk_at dksJ5_copyOfRange_0 13 rfl rfl)
theorem dJ5_copyOfRange_16 : decode cJ5_copyOfRange 16 = .ok (.areturn, 1) := dk_176 (dk_at dksJ5_copyOfRange_0 16 rfl rfl)
theorem dJ5_copyOfRange_17 : decode cJ5_copyOfRange 17 = .ok (.aload_n 0, 1) := dk_42 (dk_at dksJ5_copyOfRange_0 17 rfl rfl)
theorem dJ5_copyOfRange_18 : decode cJ5_copyOfRange 18 = .ok (.invokevirtual 310, 3) := dk_182 1 54 (dk_at dksJ5_copyOfRange_0 18 rfl rfl)
theorem dJ5_copyOfRange_21 : decode cJ5_copyOfRange 21 = .ok (.checkcast 311, 3) := dk_192 1 55 (dk_at dksJ5_copyOfRange_0 21 rfl rfl)
theorem dJ5_copyOfRange_24 : decode cJ5_copyOfRange 24 = .ok (.areturn, 1) := dk_176 (dk_at dksJ5_copyOfRange_1 0 rfl rfl)
def dkwJ5_copyOfRangeByte_1 : List UInt8 := [184, 1, 48, 184, 0, 150, 25, 4, 176]
abbrev dktJ5_copyOfRangeByte_1 : List UInt8 := dkwJ5_copyOfRangeByte_1 ++ []
def dkwJ5_copyOfRangeByte_0 : List UInt8 := [27, 28, 184, 1, 87, 28, 27, 100, 62, 29, 188, 8, 58, 4, 42, 27, 25, 4, 3, 42, 190, 27, 100, 29]
abbrev dktJ5_copyOfRangeByte_0 : List UInt8 := dkwJ5_copyOfRangeByte_0 ++ dktJ5_copyOfRangeByte_1
theorem dksJ5_copyOfRangeByte_0 : cJ5_copyOfRangeByte.data.toList.drop 0 = dktJ5_copyOfRangeByte_0 := by decide +kernel
theorem dksJ5_copyOfRangeByte_1 : cJ5_copyOfRangeByte.data.toList.drop 24 = dktJ5_copyOfRangeByte_1 := dk_seg dksJ5_copyOfRangeByte_0 24 rfl rfl
theorem dJ5_copyOfRangeByte_0 : decode cJ5_copyOfRangeByte 0 = .ok (.iload_n 1, 1) := dk_27 (dk_at dksJ5_copyOfRangeByte_0 0 rfl rfl)
theorem dJ5_copyOfRangeByte_1 : decode cJ5_copyOfRangeByte 1 = .ok (.iload_n 2, 1) := dk_28 (dk_at dksJ5_copyOfRangeByte_0 1 rfl rfl)
theorem dJ5_copyOfRangeByte_2 : decode cJ5_copyOfRangeByte 2 = .ok (.invokestatic 343, 3) := dk_184 1 87 (dk_at dksJ5_copyOfRangeByte_0 2 rfl rfl)
theorem dJ5_copyOfRangeByte_5 : decode cJ5_copyOfRangeByte 5 = .ok (.iload_n 2, 1) := dk_28 (dk_at dksJ5_copyOfRangeByte_0 5 rfl rfl)
theorem dJ5_copyOfRangeByte_6 : decode cJ5_copyOfRangeByte 6 = .ok (.iload_n 1, 1) := dk_27 (dk_at dksJ5_copyOfRangeByte_0 6 rfl rfl)
theorem dJ5_copyOfRangeByte_7 : decode cJ5_copyOfRangeByte 7 = .ok (.isub, 1) := dk_100 (dk_at dksJ5_copyOfRangeByte_0 7 rfl rfl)
theorem dJ5_copyOfRangeByte_8 : decode cJ5_copyOfRangeByte 8 = .ok (.istore_n 3, 1) := dk_62 (dk_at dksJ5_copyOfRangeByte_0 8 rfl rfl)
theorem dJ5_copyOfRangeByte_9 : decode cJ5_copyOfRangeByte 9 = .ok (.iload_n 3, 1) := dk_29 (dk_at dksJ5_copyOfRangeByte_0 9 rfl rfl)
theorem dJ5_copyOfRangeByte_10 : decode cJ5_copyOfRangeByte 10 = .ok (.newarray .byte, 2) := dk_188_8 (dk_at dksJ5_copyOfRangeByte_0 10 rfl rfl)
theorem dJ5_copyOfRangeByte_12 : decode cJ5_copyOfRangeByte 12 = .ok (.astore 4, 2) := dk_58 4 (dk_at dksJ5_copyOfRangeByte_0 12 rfl rfl)
theorem dJ5_copyOfRangeByte_14 : decode cJ5_copyOfRangeByte 14 = .ok (.aload_n 0, 1) := dk_42 (dk_at dksJ5_copyOfRangeByte_0 14 rfl rfl)
theorem dJ5_copyOfRangeByte_15 : decode cJ5_copyOfRangeByte 15 = .ok (.iload_n 1, 1) := dk_27 (dk_at dksJ5_copyOfRangeByte_0 15 rfl rfl)
theorem dJ5_copyOfRangeByte_16 : decode cJ5_copyOfRangeByte 16 = .ok (.aload 4, 2) := dk_25 4 (dk_at dksJ5_copyOfRangeByte_0 16 rfl rfl)
theorem dJ5_copyOfRangeByte_18 : decode cJ5_copyOfRangeByte 18 = .ok (.iconst 0, 1) := dk_3 (dk_at dksJ5_copyOfRangeByte_0 18 rfl rfl)
theorem dJ5_copyOfRangeByte_19 : decode cJ5_copyOfRangeByte 19 = .ok (.aload_n 0, 1) := dk_42 (dk_at dksJ5_copyOfRangeByte_0 19 rfl rfl)
theorem dJ5_copyOfRangeByte_20 : decode cJ5_copyOfRangeByte 20 = .ok (.arraylength, 1) := dk_190 (dk_at dksJ5_copyOfRangeByte_0 20 rfl rfl)
theorem dJ5_copyOfRangeByte_21 : decode cJ5_copyOfRangeByte 21 = .ok (.iload_n 1, 1) := dk_27 (dk_at dksJ5_copyOfRangeByte_0 21 rfl rfl)
theorem dJ5_copyOfRangeByte_22 : decode cJ5_copyOfRangeByte 22 = .ok (.isub, 1) := dk_100 (dk_at dksJ5_copyOfRangeByte_0 22 rfl rfl)
theorem dJ5_copyOfRangeByte_23 : decode cJ5_copyOfRangeByte 23 = .ok (.iload_n 3, 1) := dk_29 (dk_at dksJ5_copyOfRangeByte_0 23 rfl rfl)
theorem dJ5_copyOfRangeByte_24 : decode cJ5_copyOfRangeByte 24 = .ok (.invokestatic 304, 3) := dk_184 1 48 (dk_at dksJ5_copyOfRangeByte_1 0 rfl rfl)
theorem dJ5_copyOfRangeByte_27 : decode cJ5_copyOfRangeByte 27 = .ok (.invokestatic 150, 3) := dk_184 0 150 (dk_at dksJ5_copyOfRangeByte_1 3 rfl rfl)
theorem dJ5_copyOfRangeByte_30 : decode cJ5_copyOfRangeByte 30 = .ok (.aload 4, 2) := dk_25 4 (dk_at dksJ5_copyOfRangeByte_1 6 rfl rfl)
theorem dJ5_copyOfRangeByte_32 : decode cJ5_copyOfRangeByte 32 = .ok (.areturn, 1) := dk_176 (dk_at dksJ5_copyOfRangeByte_1 8 rfl rfl)
def dkwJ5_checkLength_1 : List UInt8 := [182, 0, 50, 27, 182, 0, 54, 182, 0, 61, 183, 0, 65, 191, 177]
abbrev dktJ5_checkLength_1 : List UInt8 := dkwJ5_checkLength_1 ++ []
def dkwJ5_checkLength_0 : List UInt8 := [27, 26, 162, 0, 35, 187, 0, 43, 89, 187, 0, 45, 89, 183, 0, 47, 26, 182, 0, 54, 19, 1, 81]
abbrev dktJ5_checkLength_0 : List UInt8 := dkwJ5_checkLength_0 ++ dktJ5_checkLength_1
theorem dksJ5_checkLength_0 : cJ5_checkLength.data.toList.drop 0 = dktJ5_checkLength_0 := by decide +kernel
theorem dksJ5_checkLength_1 : cJ5_checkLength.data.toList.drop 23 = dktJ5_checkLength_1 := dk_seg dksJ5_checkLength_0 23 rfl rfl
theorem dJ5_checkLength_0 : decode cJ5_checkLength 0 = .ok (.iload_n 1, 1) := dk_27 (dk_at dksJ5_checkLength_0 0 rfl rfl)
theorem dJ5_checkLength_1 : decode cJ5_checkLength 1 = .ok (.iload_n 0, 1) := dk_26 (dk_at dksJ5_checkLength_0 1 rfl rfl)
theorem dJ5_checkLength_2 : decode cJ5_checkLength 2 = .ok (.if_icmp .ge 35, 3) := dk_162 0 35 (dk_at dksJ5_checkLength_0 2 rfl rfl)
theorem dJ5_checkLength_5 : decode cJ5_checkLength 5 = .ok (.new 43, 3) := dk_187 0 43 (dk_at dksJ5_checkLength_0 5 rfl rfl)
theorem dJ5_checkLength_8 : decode cJ5_checkLength 8 = .ok (.dup, 1) := dk_89 (dk_at dksJ5_checkLength_0 8 rfl rfl)
theorem dJ5_checkLength_9 : decode cJ5_checkLength 9 = .ok (.new 45, 3) := dk_187 0 45 (dk_at dksJ5_checkLength_0 9 rfl rfl)
theorem dJ5_checkLength_12 : decode cJ5_checkLength 12 = .ok (.dup, 1) := dk_89 (dk_at dksJ5_checkLength_0 12 rfl rfl)
theorem dJ5_checkLength_13 : decode cJ5_checkLength 13 = .ok (.invokespecial 47, 3) := dk_183 0 47 (dk_at dksJ5_checkLength_0 13 rfl rfl)
theorem dJ5_checkLength_16 : decode cJ5_checkLength 16 = .ok (.iload_n 0, 1) := dk_26 (dk_at dksJ5_checkLength_0 16 rfl rfl)
theorem dJ5_checkLength_17 : decode cJ5_checkLength 17 = .ok (.invokevirtual 54, 3) := dk_182 0 54 (dk_at dksJ5_checkLength_0 17 rfl rfl)
theorem dJ5_checkLength_20 : decode cJ5_checkLength 20 = .ok (.ldc_w 337, 3) := dk_19 1 81 (dk_at dksJ5_checkLength_0 20 rfl rfl)
theorem dJ5_checkLength_23 : decode cJ5_checkLength 23 = .ok (.invokevirtual 50, 3) := dk_182 0 50 (dk_at dksJ5_checkLength_1 0 rfl rfl)
theorem dJ5_checkLength_26 : decode cJ5_checkLength 26 = .ok (.iload_n 1, 1) := dk_27 (dk_at dksJ5_checkLength_1 3 rfl rfl)
theorem dJ5_checkLength_27 : decode cJ5_checkLength 27 = .ok (.invokevirtual 54, 3) := dk_182 0 54 (dk_at dksJ5_checkLength_1 4 rfl rfl)
theorem dJ5_checkLength_30 : decode cJ5_checkLength 30 = .ok (.invokevirtual 61, 3) := dk_182 0 61 (dk_at dksJ5_checkLength_1 7 rfl rfl)
theorem dJ5_checkLength_33 : decode cJ5_checkLength 33 = .ok (.invokespecial 65, 3) := dk_183 0 65 (dk_at dksJ5_checkLength_1 10 rfl rfl)
theorem dJ5_checkLength_36 : decode cJ5_checkLength 36 = .ok (.athrow, 1) := dk_191 (dk_at dksJ5_checkLength_1 13 rfl rfl)
theorem dJ5_checkLength_37 : decode cJ5_checkLength 37 = .ok (.return_, 1) := dk_177 (dk_at dksJ5_checkLength_1 14 rfl rfl)
def dkwJ6_checkIndex_0 : List UInt8 := [26, 27, 1, 184, 0, 105, 172]
abbrev dktJ6_checkIndex_0 : List UInt8 := dkwJ6_checkIndex_0 ++ []
theorem dksJ6_checkIndex_0 : cJ6_checkIndex.data.toList.drop 0 = dktJ6_checkIndex_0 := by decide +kernel
theorem dJ6_checkIndex_0 : decode cJ6_checkIndex 0 = .ok (.iload_n 0, 1) := dk_26 (dk_at dksJ6_checkIndex_0 0 rfl rfl)
theorem dJ6_checkIndex_1 : decode cJ6_checkIndex 1 = .ok (.iload_n 1, 1) := dk_27 (dk_at dksJ6_checkIndex_0 1 rfl rfl)
theorem dJ6_checkIndex_2 : decode cJ6_checkIndex 2 = .ok (.aconst_null, 1) := dk_1 (dk_at dksJ6_checkIndex_0 2 rfl rfl)
theorem dJ6_checkIndex_3 : decode cJ6_checkIndex 3 = .ok (.invokestatic 105, 3) := dk_184 0 105 (dk_at dksJ6_checkIndex_0 3 rfl rfl)
theorem dJ6_checkIndex_6 : decode cJ6_checkIndex 6 = .ok (.ireturn, 1) := dk_172 (dk_at dksJ6_checkIndex_0 6 rfl rfl)
def dkwJ7_checkIndex_0 : List UInt8 := [26, 155, 0, 8, 26, 27, 161, 0, 10, 44, 26, 27, 184, 0, 95, 191, 26, 172]
abbrev dktJ7_checkIndex_0 : List UInt8 := dkwJ7_checkIndex_0 ++ []
theorem dksJ7_checkIndex_0 : cJ7_checkIndex.data.toList.drop 0 = dktJ7_checkIndex_0 := by decide +kernel
theorem dJ7_checkIndex_0 : decode cJ7_checkIndex 0 = .ok (.iload_n 0, 1) := dk_26 (dk_at dksJ7_checkIndex_0 0 rfl rfl)
theorem dJ7_checkIndex_1 : decode cJ7_checkIndex 1 = .ok (.ifCond .lt 8, 3) := dk_155 0 8 (dk_at dksJ7_checkIndex_0 1 rfl rfl)
theorem dJ7_checkIndex_4 : decode cJ7_checkIndex 4 = .ok (.iload_n 0, 1) := dk_26 (dk_at dksJ7_checkIndex_0 4 rfl rfl)
theorem dJ7_checkIndex_5 : decode cJ7_checkIndex 5 = .ok (.iload_n 1, 1) := dk_27 (dk_at dksJ7_checkIndex_0 5 rfl rfl)
theorem dJ7_checkIndex_6 : decode cJ7_checkIndex 6 = .ok (.if_icmp .lt 10, 3) := dk_161 0 10 (dk_at dksJ7_checkIndex_0 6 rfl rfl)
theorem dJ7_checkIndex_9 : decode cJ7_checkIndex 9 = .ok (.aload_n 2, 1) := dk_44 (dk_at dksJ7_checkIndex_0 9 rfl rfl)
theorem dJ7_checkIndex_10 : decode cJ7_checkIndex 10 = .ok (.iload_n 0, 1) := dk_26 (dk_at dksJ7_checkIndex_0 10 rfl rfl)
theorem dJ7_checkIndex_11 : decode cJ7_checkIndex 11 = .ok (.iload_n 1, 1) := dk_27 (dk_at dksJ7_checkIndex_0 11 rfl rfl)
theorem dJ7_checkIndex_12 : decode cJ7_checkIndex 12 = .ok (.invokestatic 95, 3) := dk_184 0 95 (dk_at dksJ7_checkIndex_0 12 rfl rfl)
theorem dJ7_checkIndex_15 : decode cJ7_checkIndex 15 = .ok (.athrow, 1) := dk_191 (dk_at dksJ7_checkIndex_0 15 rfl rfl)
theorem dJ7_checkIndex_16 : decode cJ7_checkIndex 16 = .ok (.iload_n 0, 1) := dk_26 (dk_at dksJ7_checkIndex_0 16 rfl rfl)
theorem dJ7_checkIndex_17 : decode cJ7_checkIndex 17 = .ok (.ireturn, 1) := dk_172 (dk_at dksJ7_checkIndex_0 17 rfl rfl)
def dkwJ7_checkFromIndexSize_1 : List UInt8 := [172]
abbrev dktJ7_checkFromIndexSize_1 : List UInt8 := dkwJ7_checkFromIndexSize_1 ++ []
def dkwJ7_checkFromIndexSize_0 : List UInt8 := [28, 26, 128, 27, 128, 155, 0, 10, 27, 28, 26, 100, 164, 0, 11, 45, 26, 27, 28, 184, 0, 103, 191, 26]
abbrev dktJ7_checkFromIndexSize_0 : List UInt8 := dkwJ7_checkFromIndexSize_0 ++ dktJ7_checkFromIndexSize_1
theorem dksJ7_checkFromIndexSize_0 : cJ7_checkFromIndexSize.data.toList.drop 0 = dktJ7_checkFromIndexSize_0 := by decide +kernel
theorem dksJ7_checkFromIndexSize_1 : cJ7_checkFromIndexSize.data.toList.drop 24 = dktJ7_checkFromIndexSize_1 := dk_seg dksJ7_checkFromIndexSize_0 24 rfl rfl
theorem dJ7_checkFromIndexSize_0 : decode cJ7_checkFromIndexSize 0 = .ok (.iload_n 2, 1) := dk_28 (dk_at dksJ7_checkFromIndexSize_0 0 rfl rfl)
theorem dJ7_checkFromIndexSize_1 : decode cJ7_checkFromIndexSize 1 = .ok (.iload_n 0, 1) := dk_26 (dk_at dksJ7_checkFromIndexSize_0 1 rfl rfl)
theorem dJ7_checkFromIndexSize_2 : decode cJ7_checkFromIndexSize 2 = .ok (.ior, 1) := dk_128 (dk_at dksJ7_checkFromIndexSize_0 2 rfl rfl)
theorem dJ7_checkFromIndexSize_3 : decode cJ7_checkFromIndexSize 3 = .ok (.iload_n 1, 1) := dk_27 (dk_at dksJ7_checkFromIndexSize_0 3 rfl rfl)
theorem dJ7_checkFromIndexSize_4 : decode cJ7_checkFromIndexSize 4 = .ok (.ior, 1) := dk_128 (dk_at dksJ7_checkFromIndexSize_0 4 rfl rfl)
theorem dJ7_checkFromIndexSize_5 : decode cJ7_checkFromIndexSize 5 = .ok (.ifCond .lt 10, 3) := dk_155 0 10 (dk_at dksJ7_checkFromIndexSize_0 5 rfl rfl)
theorem dJ7_checkFromIndexSize_8 : decode cJ7_checkFromIndexSize 8 = .ok (.iload_n 1, 1) := dk_27 (dk_at dksJ7_checkFromIndexSize_0 8 rfl rfl)
theorem dJ7_checkFromIndexSize_9 : decode cJ7_checkFromIndexSize 9 = .ok (.iload_n 2, 1) := dk_28 (dk_at dksJ7_checkFromIndexSize_0 9 rfl rfl)
theorem dJ7_checkFromIndexSize_10 : decode cJ7_checkFromIndexSize 10 = .ok (.iload_n 0, 1) := dk_26 (dk_at dksJ7_checkFromIndexSize_0 10 rfl rfl)
theorem dJ7_checkFromIndexSize_11 : decode cJ7_checkFromIndexSize 11 = .ok (.isub, 1) := dk_100 (dk_at dksJ7_checkFromIndexSize_0 11 rfl rfl)
theorem dJ7_checkFromIndexSize_12 : decode cJ7_checkFromIndexSize 12 = .ok (.if_icmp .le 11, 3) := dk_164 0 11 (dk_at dksJ7_checkFromIndexSize_0 12 rfl rfl)
theorem dJ7_checkFromIndexSize_15 : decode cJ7_checkFromIndexSize 15 = .ok (.aload_n 3, 1) := dk_45 (dk_at dksJ7_checkFromIndexSize_0 15 rfl rfl)
theorem dJ7_checkFromIndexSize_16 : decode cJ7_checkFromIndexSize 16 = .ok (.iload_n 0, 1) := dk_26 (dk_at dksJ7_checkFromIndexSize_0 16 rfl rfl)
theorem dJ7_checkFromIndexSize_17 : decode cJ7_checkFromIndexSize 17 = .ok (.iload_n 1, 1) := dk_27 (dk_at dksJ7_checkFromIndexSize_0 17 rfl rfl)
theorem dJ7_checkFromIndexSize_18 : decode cJ7_checkFromIndexSize 18 = .ok (.iload_n 2, 1) := dk_28 (dk_at dksJ7_checkFromIndexSize_0 18 rfl rfl)
theorem dJ7_checkFromIndexSize_19 : decode cJ7_checkFromIndexSize 19 = .ok (.invokestatic 103, 3) := dk_184 0 103 (dk_at dksJ7_checkFromIndexSize_0 19 rfl rfl)
theorem dJ7_checkFromIndexSize_22 : decode cJ7_checkFromIndexSize 22 = .ok (.athrow, 1) := dk_191 (dk_at dksJ7_checkFromIndexSize_0 22 rfl rfl)
theorem dJ7_checkFromIndexSize_23 : decode cJ7_checkFromIndexSize 23 = .ok (.iload_n 0, 1) := dk_26 (dk_at dksJ7_checkFromIndexSize_0 23 rfl rfl)
theorem dJ7_checkFromIndexSize_24 : decode cJ7_checkFromIndexSize 24 = .ok (.ireturn, 1) := dk_172 (dk_at dksJ7_checkFromIndexSize_1 0 rfl rfl)
theorem dJ8_init_0 : decode cJ8_init 0 = .ok (.aload_n 0, 1) := by decide +kernel
theorem dJ8_init_1 : decode cJ8_init 1 = .ok (.invokespecial 1, 3) := by decide +kernel
theorem dJ8_init_4 : decode cJ8_init 4 = .ok (.return_, 1) := by decide +kernel
def dkwJ9_bitCount_2 : List UInt8 := [26, 16, 63, 126, 172]
abbrev dktJ9_bitCount_2 : List UInt8 := dkwJ9_bitCount_2 ++ []
def dkwJ9_bitCount_1 : List UInt8 := [26, 26, 7, 124, 96, 19, 1, 11, 126, 59, 26, 26, 16, 8, 124, 96, 59, 26, 26, 16, 16, 124, 96, 59]
abbrev dktJ9_bitCount_1 : List UInt8 := dkwJ9_bitCount_1 ++ dktJ9_bitCount_2
def dkwJ9_bitCount_0 : List UInt8 := [26, 26, 4, 124, 19, 1, 9, 126, 100, 59, 26, 19, 1, 10, 126, 26, 5, 124, 19, 1, 10, 126, 96, 59]
abbrev dktJ9_bitCount_0 : List UInt8 := dkwJ9_bitCount_0 ++ dktJ9_bitCount_1
theorem dksJ9_bitCount_0 : cJ9_bitCount.data.toList.drop 0 = dktJ9_bitCount_0 := by decide +kernel
theorem dksJ9_bitCount_1 : cJ9_bitCount.data.toList.drop 24 = dktJ9_bitCount_1 := dk_seg dksJ9_bitCount_0 24 rfl rfl
theorem dksJ9_bitCount_2 : cJ9_bitCount.data.toList.drop 48 = dktJ9_bitCount_2 := dk_seg dksJ9_bitCount_1 24 rfl rfl
theorem dJ9_bitCount_0 : decode cJ9_bitCount 0 = .ok (.iload_n 0, 1) := dk_26 (dk_at dksJ9_bitCount_0 0 rfl rfl)
theorem dJ9_bitCount_1 : decode cJ9_bitCount 1 = .ok (.iload_n 0, 1) := dk_26 (dk_at dksJ9_bitCount_0 1 rfl rfl)
theorem dJ9_bitCount_2 : decode cJ9_bitCount 2 = .ok (.iconst 1, 1) := dk_4 (dk_at dksJ9_bitCount_0 2 rfl rfl)
theorem dJ9_bitCount_3 : decode cJ9_bitCount 3 = .ok (.iushr, 1) := dk_124 (dk_at dksJ9_bitCount_0 3 rfl rfl)
theorem dJ9_bitCount_4 : decode cJ9_bitCount 4 = .ok (.ldc_w 265, 3) := dk_19 1 9 (dk_at dksJ9_bitCount_0 4 rfl rfl)
theorem dJ9_bitCount_7 : decode cJ9_bitCount 7 = .ok (.iand, 1) := dk_126 (dk_at dksJ9_bitCount_0 7 rfl rfl)
theorem dJ9_bitCount_8 : decode cJ9_bitCount 8 = .ok (.isub, 1) := dk_100 (dk_at dksJ9_bitCount_0 8 rfl rfl)
theorem dJ9_bitCount_9 : decode cJ9_bitCount 9 = .ok (.istore_n 0, 1) := dk_59 (dk_at dksJ9_bitCount_0 9 rfl rfl)
theorem dJ9_bitCount_10 : decode cJ9_bitCount 10 = .ok (.iload_n 0, 1) := dk_26 (dk_at dksJ9_bitCount_0 10 rfl rfl)
theorem dJ9_bitCount_11 : decode cJ9_bitCount 11 = .ok (.ldc_w 266, 3) := dk_19 1 10 (dk_at dksJ9_bitCount_0 11 rfl rfl)
theorem dJ9_bitCount_14 : decode cJ9_bitCount 14 = .ok (.iand, 1) := dk_126 (dk_at dksJ9_bitCount_0 14 rfl rfl)
theorem dJ9_bitCount_15 : decode cJ9_bitCount 15 = .ok (.iload_n 0, 1) := dk_26 (dk_at dksJ9_bitCount_0 15 rfl rfl)
theorem dJ9_bitCount_16 : decode cJ9_bitCount 16 = .ok (.iconst 2, 1) := dk_5 (dk_at dksJ9_bitCount_0 16 rfl rfl)
theorem dJ9_bitCount_17 : decode cJ9_bitCount 17 = .ok (.iushr, 1) := dk_124 (dk_at dksJ9_bitCount_0 17 rfl rfl)
theorem dJ9_bitCount_18 : decode cJ9_bitCount 18 = .ok (.ldc_w 266, 3) := dk_19 1 10 (dk_at dksJ9_bitCount_0 18 rfl rfl)
theorem dJ9_bitCount_21 : decode cJ9_bitCount 21 = .ok (.iand, 1) := dk_126 (dk_at dksJ9_bitCount_0 21 rfl rfl)
theorem dJ9_bitCount_22 : decode cJ9_bitCount 22 = .ok (.iadd, 1) := dk_96 (dk_at dksJ9_bitCount_0 22 rfl rfl)
theorem dJ9_bitCount_23 : decode cJ9_bitCount 23 = .ok (.istore_n 0, 1) := dk_59 (dk_at dksJ9_bitCount_0 23 rfl rfl)
theorem dJ9_bitCount_24 : decode cJ9_bitCount 24 = .ok (.iload_n 0, 1) := dk_26 (dk_at dksJ9_bitCount_1 0 rfl rfl)
theorem dJ9_bitCount_25 : decode cJ9_bitCount 25 = .ok (.iload_n 0, 1) := dk_26 (dk_at dksJ9_bitCount_1 1 rfl rfl)
theorem dJ9_bitCount_26 : decode cJ9_bitCount 26 = .ok (.iconst 4, 1) := dk_7 (dk_at dksJ9_bitCount_1 2 rfl rfl)
theorem dJ9_bitCount_27 : decode cJ9_bitCount 27 = .ok (.iushr, 1) := dk_124 (dk_at dksJ9_bitCount_1 3 rfl rfl)
theorem dJ9_bitCount_28 : decode cJ9_bitCount 28 = .ok (.iadd, 1) := dk_96 (dk_at dksJ9_bitCount_1 4 rfl rfl)
theorem dJ9_bitCount_29 : decode cJ9_bitCount 29 = .ok (.ldc_w 267, 3) := dk_19 1 11 (dk_at dksJ9_bitCount_1 5 rfl rfl)
theorem dJ9_bitCount_32 : decode cJ9_bitCount 32 = .ok (.iand, 1) := dk_126 (dk_at dksJ9_bitCount_1 8 rfl rfl)
theorem dJ9_bitCount_33 : decode cJ9_bitCount 33 = .ok (.istore_n 0, 1) := dk_59 (dk_at dksJ9_bitCount_1 9 rfl rfl)
theorem dJ9_bitCount_34 : decode cJ9_bitCount 34 = .ok (.iload_n 0, 1) := dk_26 (dk_at dksJ9_bitCount_1 10 rfl rfl)
theorem dJ9_bitCount_35 : decode cJ9_bitCount 35 = .ok (.iload_n 0, 1) := dk_26 (dk_at dksJ9_bitCount_1 11 rfl rfl)
theorem dJ9_bitCount_36 : decode cJ9_bitCount 36 = .ok (.bipush 8, 2) := dk_16 8 (dk_at dksJ9_bitCount_1 12 rfl rfl)
theorem dJ9_bitCount_38 : decode cJ9_bitCount 38 = .ok (.iushr, 1) := dk_124 (dk_at dksJ9_bitCount_1 14 rfl rfl)
theorem dJ9_bitCount_39 : decode cJ9_bitCount 39 = .ok (.iadd, 1) := dk_96 (dk_at dksJ9_bitCount_1 15 rfl rfl)
theorem dJ9_bitCount_40 : decode cJ9_bitCount 40 = .ok (.istore_n 0, 1) := dk_59 (dk_at dksJ9_bitCount_1 16 rfl rfl)
theorem dJ9_bitCount_41 : decode cJ9_bitCount 41 = .ok (.iload_n 0, 1) := dk_26 (dk_at dksJ9_bitCount_1 17 rfl rfl)
theorem dJ9_bitCount_42 : decode cJ9_bitCount 42 = .ok (.iload_n 0, 1) := dk_26 (dk_at dksJ9_bitCount_1 18 rfl rfl)
theorem dJ9_bitCount_43 : decode cJ9_bitCount 43 = .ok (.bipush 16, 2) := dk_16 16 (dk_at dksJ9_bitCount_1 19 rfl rfl)
theorem dJ9_bitCount_45 : decode cJ9_bitCount 45 = .ok (.iushr, 1) := dk_124 (dk_at dksJ9_bitCount_1 21 rfl rfl)
theorem dJ9_bitCount_46 : decode cJ9_bitCount 46 = .ok (.iadd, 1) := dk_96 (dk_at dksJ9_bitCount_1 22 rfl rfl)
theorem dJ9_bitCount_47 : decode cJ9_bitCount 47 = .ok (.istore_n 0, 1) := dk_59 (dk_at dksJ9_bitCount_1 23 rfl rfl)
theorem dJ9_bitCount_48 : decode cJ9_bitCount 48 = .ok (.iload_n 0, 1) := dk_26 (dk_at dksJ9_bitCount_2 0 rfl rfl)
theorem dJ9_bitCount_49 : decode cJ9_bitCount 49 = .ok (.bipush 63, 2) := dk_16 63 (dk_at dksJ9_bitCount_2 1 rfl rfl)
theorem dJ9_bitCount_51 : decode cJ9_bitCount 51 = .ok (.iand, 1) := dk_126 (dk_at dksJ9_bitCount_2 3 rfl rfl)
theorem dJ9_bitCount_52 : decode cJ9_bitCount 52 = .ok (.ireturn, 1) := dk_172 (dk_at dksJ9_bitCount_2 4 rfl rfl)
def dkwJ9_numberOfLeadingZeros_3 : List UInt8 := [5, 124, 59, 27, 26, 4, 124, 100, 172]
abbrev dktJ9_numberOfLeadingZeros_3 : List UInt8 := dkwJ9_numberOfLeadingZeros_3 ++ []
def dkwJ9_numberOfLeadingZeros_2 : List UInt8 := [124, 59, 26, 16, 16, 161, 0, 10, 132, 1, 252, 26, 7, 124, 59, 26, 7, 161, 0, 10, 132, 1, 254, 26]
abbrev dktJ9_numberOfLeadingZeros_2 : List UInt8 := dkwJ9_numberOfLeadingZeros_2 ++ dktJ9_numberOfLeadingZeros_3
def dkwJ9_numberOfLeadingZeros_1 : List UInt8 := [161, 0, 11, 132, 1, 240, 26, 16, 16, 124, 59, 26, 17, 1, 0, 161, 0, 11, 132, 1, 248, 26, 16, 8]
abbrev dktJ9_numberOfLeadingZeros_1 : List UInt8 := dkwJ9_numberOfLeadingZeros_1 ++ dktJ9_numberOfLeadingZeros_2
def dkwJ9_numberOfLeadingZeros_0 : List UInt8 := [26, 157, 0, 14, 26, 154, 0, 8, 16, 32, 167, 0, 4, 3, 172, 16, 31, 60, 26, 19, 1, 8]
abbrev dktJ9_numberOfLeadingZeros_0 : List UInt8 := dkwJ9_numberOfLeadingZeros_0 ++ dktJ9_numberOfLeadingZeros_1
theorem dksJ9_numberOfLeadingZeros_0 : cJ9_numberOfLeadingZeros.data.toList.drop 0 = dktJ9_numberOfLeadingZeros_0 := by decide +kernel
theorem dksJ9_numberOfLeadingZeros_1 : cJ9_numberOfLeadingZeros.data.toList.drop 22 = dktJ9_numberOfLeadingZeros_1 := dk_seg dksJ9_numberOfLeadingZeros_0 22 rfl rfl
theorem dksJ9_numberOfLeadingZeros_2 : cJ9_numberOfLeadingZeros.data.toList.drop 46 = dktJ9_numberOfLeadingZeros_2 := dk_seg dksJ9_numberOfLeadingZeros_1 24 rfl rfl
theorem dksJ9_numberOfLeadingZeros_3 : cJ9_numberOfLeadingZeros.data.toList.drop 70 = dktJ9_numberOfLeadingZeros_3 := dk_seg dksJ9_numberOfLeadingZeros_2 24 rfl rfl
theorem dJ9_numberOfLeadingZeros_0 : decode cJ9_numberOfLeadingZeros 0 = .ok (.iload_n 0, 1) := dk_26 (dk_at dksJ9_numberOfLeadingZeros_0 0 rfl rfl)
theorem dJ9_numberOfLeadingZeros_1 : decode cJ9_numberOfLeadingZeros 1 = .ok (.ifCond .gt 14, 3) := dk_157 0 14 (dk_at dksJ9_numberOfLeadingZeros_0 1 rfl rfl)
theorem dJ9_numberOfLeadingZeros_4 : decode cJ9_numberOfLeadingZeros 4 = .ok (.iload_n 0, 1) := dk_26 (dk_at dksJ9_numberOfLeadingZeros_0 4 rfl rfl)
theorem dJ9_numberOfLeadingZeros_5 : decode cJ9_numberOfLeadingZeros 5 = .ok (.ifCond .ne 8, 3) := dk_154 0 8 (dk_at dksJ9_numberOfLeadingZeros_0 5 rfl rfl)
theorem dJ9_numberOfLeadingZeros_8 : decode cJ9_numberOfLeadingZeros 8 = .ok (.bipush 32, 2) := dk_16 32 (dk_at dksJ9_numberOfLeadingZeros_0 8 rfl rfl)
theorem dJ9_numberOfLeadingZeros_10 : decode cJ9_numberOfLeadingZeros 10 = .ok (.goto 4, 3) := dk_167 0 4 (dk_at dksJ9_numberOfLeadingZeros_0 10 rfl rfl)
theorem dJ9_numberOfLeadingZeros_13 : decode cJ9_numberOfLeadingZeros 13 = .ok (.iconst 0, 1) := dk_3 (dk_at dksJ9_numberOfLeadingZeros_0 13 rfl rfl)
theorem dJ9_numberOfLeadingZeros_14 : decode cJ9_numberOfLeadingZeros 14 = .ok (.ireturn, 1) := dk_172 (dk_at dksJ9_numberOfLeadingZeros_0 14 rfl rfl)
theorem dJ9_numberOfLeadingZeros_15 : decode cJ9_numberOfLeadingZeros 15 = .ok (.bipush 31, 2) := dk_16 31 (dk_at dksJ9_numberOfLeadingZeros_0 15 rfl rfl)
theorem dJ9_numberOfLeadingZeros_17 : decode cJ9_numberOfLeadingZeros 17 = .ok (.istore_n 1, 1) := dk_60 (dk_at dksJ9_numberOfLeadingZeros_0 17 rfl rfl)
theorem dJ9_numberOfLeadingZeros_18 : decode cJ9_numberOfLeadingZeros 18 = .ok (.iload_n 0, 1) := dk_26 (dk_at dksJ9_numberOfLeadingZeros_0 18 rfl rfl)
theorem dJ9_numberOfLeadingZeros_19 : decode cJ9_numberOfLeadingZeros 19 = .ok (.ldc_w 264, 3) := dk_19 1 8 (dk_at dksJ9_numberOfLeadingZeros_0 19 rfl rfl)
theorem dJ9_numberOfLeadingZeros_22 : decode cJ9_numberOfLeadingZeros 22 = .ok (.if_icmp .lt 11, 3) := dk_161 0 11 (dk_at dksJ9_numberOfLeadingZeros_1 0 rfl rfl)
theorem dJ9_numberOfLeadingZeros_25 : decode cJ9_numberOfLeadingZeros 25 = .ok (.iinc 1 (-16), 3) := dk_132 1 240 (dk_at dksJ9_numberOfLeadingZeros_1 3 rfl rfl)
theorem dJ9_numberOfLeadingZeros_28 : decode cJ9_numberOfLeadingZeros 28 = .ok (.iload_n 0, 1) := dk_26 (dk_at dksJ9_numberOfLeadingZeros_1 6 rfl rfl)
theorem dJ9_numberOfLeadingZeros_29 : decode cJ9_numberOfLeadingZeros 29 = .ok (.bipush 16, 2) := dk_16 16 (dk_at dksJ9_numberOfLeadingZeros_1 7 rfl rfl)
theorem dJ9_numberOfLeadingZeros_31 : decode cJ9_numberOfLeadingZeros 31 = .ok (.iushr, 1) := dk_124 (dk_at dksJ9_numberOfLeadingZeros_1 9 rfl rfl)
theorem dJ9_numberOfLeadingZeros_32 : decode cJ9_numberOfLeadingZeros 32 = .ok (.istore_n 0, 1) := dk_59 (dk_at dksJ9_numberOfLeadingZeros_1 10 rfl rfl)
theorem dJ9_numberOfLeadingZeros_33 : decode cJ9_numberOfLeadingZeros 33 = .ok (.iload_n 0, 1) := dk_26 (dk_at dksJ9_numberOfLeadingZeros_1 11 rfl rfl)
theorem dJ9_numberOfLeadingZeros_34 : decode cJ9_numberOfLeadingZeros 34 = .ok (.sipush 256, 3) := dk_17 1 0 (dk_at dksJ9_numberOfLeadingZeros_1 12 rfl rfl)
theorem dJ9_numberOfLeadingZeros_37 : decode cJ9_numberOfLeadingZeros 37 = .ok (.if_icmp .lt 11, 3) := dk_161 0 11 (dk_at dksJ9_numberOfLeadingZeros_1 15 rfl rfl)
theorem dJ9_numberOfLeadingZeros_40 : decode cJ9_numberOfLeadingZeros 40 = .ok (.iinc 1 (-8), 3) := dk_132 1 248 (dk_at dksJ9_numberOfLeadingZeros_1 18 rfl rfl)
theorem dJ9_numberOfLeadingZeros_43 : decode cJ9_numberOfLeadingZeros 43 = .ok (.iload_n 0, 1) := dk_26 (dk_at dksJ9_numberOfLeadingZeros_1 21 rfl rfl)
theorem dJ9_numberOfLeadingZeros_44 : decode cJ9_numberOfLeadingZeros 44 = .ok (.bipush 8, 2) := dk_16 8 (dk_at dksJ9_numberOfLeadingZeros_1 22 rfl rfl)
theorem dJ9_numberOfLeadingZeros_46 : decode cJ9_numberOfLeadingZeros 46 = .ok (.iushr, 1) := dk_124 (dk_at dksJ9_numberOfLeadingZeros_2 0 rfl rfl)
theorem dJ9_numberOfLeadingZeros_47 : decode cJ9_numberOfLeadingZeros 47 = .ok (.istore_n 0, 1) := dk_59 (dk_at dksJ9_numberOfLeadingZeros_2 1 rfl rfl)
theorem dJ9_numberOfLeadingZeros_48 : decode cJ9_numberOfLeadingZeros 48 = .ok (.iload_n 0, 1) := dk_26 (dk_at dksJ9_numberOfLeadingZeros_2 2 rfl rfl)
theorem dJ9_numberOfLeadingZeros_49 : decode cJ9_numberOfLeadingZeros 49 = .ok (.bipush 16, 2) := dk_16 16 (dk_at dksJ9_numberOfLeadingZeros_2 3 rfl rfl)
theorem dJ9_numberOfLeadingZeros_51 : decode cJ9_numberOfLeadingZeros 51 = .ok (.if_icmp .lt 10, 3) := dk_161 0 10 (dk_at dksJ9_numberOfLeadingZeros_2 5 rfl rfl)
theorem dJ9_numberOfLeadingZeros_54 : decode cJ9_numberOfLeadingZeros 54 = .ok (.iinc 1 (-4), 3) := dk_132 1 252 (dk_at dksJ9_numberOfLeadingZeros_2 8 rfl rfl)
theorem dJ9_numberOfLeadingZeros_57 : decode cJ9_numberOfLeadingZeros 57 = .ok (.iload_n 0, 1) := dk_26 (dk_at dksJ9_numberOfLeadingZeros_2 11 rfl rfl)
theorem dJ9_numberOfLeadingZeros_58 : decode cJ9_numberOfLeadingZeros 58 = .ok (.iconst 4, 1) := dk_7 (dk_at dksJ9_numberOfLeadingZeros_2 12 rfl rfl)
theorem dJ9_numberOfLeadingZeros_59 : decode cJ9_numberOfLeadingZeros 59 = .ok (.iushr, 1) := dk_124 (dk_at dksJ9_numberOfLeadingZeros_2 13 rfl rfl)
theorem dJ9_numberOfLeadingZeros_60 : decode cJ9_numberOfLeadingZeros 60 = .ok (.istore_n 0, 1) := dk_59 (dk_at dksJ9_numberOfLeadingZeros_2 14 rfl rfl)
theorem dJ9_numberOfLeadingZeros_61 : decode cJ9_numberOfLeadingZeros 61 = .ok (.iload_n 0, 1) := dk_26 (dk_at dksJ9_numberOfLeadingZeros_2 15 rfl rfl)
theorem dJ9_numberOfLeadingZeros_62 : decode cJ9_numberOfLeadingZeros 62 = .ok (.iconst 4, 1) := dk_7 (dk_at dksJ9_numberOfLeadingZeros_2 16 rfl rfl)
theorem dJ9_numberOfLeadingZeros_63 : decode cJ9_numberOfLeadingZeros 63 = .ok (.if_icmp .lt 10, 3) := dk_161 0 10 (dk_at dksJ9_numberOfLeadingZeros_2 17 rfl rfl)
theorem dJ9_numberOfLeadingZeros_66 : decode cJ9_numberOfLeadingZeros 66 = .ok (.iinc 1 (-2), 3) := dk_132 1 254 (dk_at dksJ9_numberOfLeadingZeros_2 20 rfl rfl)
theorem dJ9_numberOfLeadingZeros_69 : decode cJ9_numberOfLeadingZeros 69 = .ok (.iload_n 0, 1) := dk_26 (dk_at dksJ9_numberOfLeadingZeros_2 23 rfl rfl)
theorem dJ9_numberOfLeadingZeros_70 : decode cJ9_numberOfLeadingZeros 70 = .ok (.iconst 2, 1) := dk_5 (dk_at dksJ9_numberOfLeadingZeros_3 0 rfl rfl)
theorem dJ9_numberOfLeadingZeros_71 : decode cJ9_numberOfLeadingZeros 71 = .ok (.iushr, 1) := dk_124 (dk_at dksJ9_numberOfLeadingZeros_3 1 rfl rfl)
theorem dJ9_numberOfLeadingZeros_72 : decode cJ9_numberOfLeadingZeros 72 = .ok (.istore_n 0, 1) := dk_59 (dk_at dksJ9_numberOfLeadingZeros_3 2 rfl rfl)
theorem dJ9_numberOfLeadingZeros_73 : decode cJ9_numberOfLeadingZeros 73 = .ok (.iload_n 1, 1) := dk_27 (dk_at dksJ9_numberOfLeadingZeros_3 3 rfl rfl)
theorem dJ9_numberOfLeadingZeros_74 : decode cJ9_numberOfLeadingZeros 74 = .ok (.iload_n 0, 1) := dk_26 (dk_at dksJ9_numberOfLeadingZeros_3 4 rfl rfl)
theorem dJ9_numberOfLeadingZeros_75 : decode cJ9_numberOfLeadingZeros 75 = .ok (.iconst 1, 1) := dk_4 (dk_at dksJ9_numberOfLeadingZeros_3 5 rfl rfl)
theorem dJ9_numberOfLeadingZeros_76 : decode cJ9_numberOfLeadingZeros 76 = .ok (.iushr, 1) := dk_124 (dk_at dksJ9_numberOfLeadingZeros_3 6 rfl rfl)
theorem dJ9_numberOfLeadingZeros_77 : decode cJ9_numberOfLeadingZeros 77 = .ok (.isub, 1) := dk_100 (dk_at dksJ9_numberOfLeadingZeros_3 7 rfl rfl)
theorem dJ9_numberOfLeadingZeros_78 : decode cJ9_numberOfLeadingZeros 78 = .ok (.ireturn, 1) := dk_172 (dk_at dksJ9_numberOfLeadingZeros_3 8 rfl rfl)
def dkwL_law_52 : List UInt8 := [172]
abbrev dktL_law_52 : List UInt8 := dkwL_law_52 ++ []
def dkwL_law_51 : List UInt8 := [182, 0, 161, 44, 42, 29, 4, 96, 46, 182, 0, 164, 159, 0, 5, 3, 172, 132, 3, 6, 167, 250, 206, 4]
abbrev dktL_law_51 : List UInt8 := dkwL_law_51 ++ dktL_law_52
def dkwL_law_50 : List UInt8 := [182, 0, 156, 44, 42, 29, 4, 96, 46, 182, 0, 160, 148, 153, 0, 28, 3, 172, 43, 42, 29, 4, 96, 46]
abbrev dktL_law_50 : List UInt8 := dkwL_law_50 ++ dktL_law_51
def dkwL_law_49 : List UInt8 := [29, 4, 96, 46, 42, 29, 5, 96, 46, 182, 0, 155, 159, 0, 52, 3, 172, 43, 42, 29, 4, 96, 46]
abbrev dktL_law_49 : List UInt8 := dkwL_law_49 ++ dktL_law_50
def dkwL_law_48 : List UInt8 := [182, 0, 151, 159, 0, 85, 3, 172, 43, 42, 29, 4, 96, 46, 42, 29, 5, 96, 46, 182, 0, 152, 44, 42]
abbrev dktL_law_48 : List UInt8 := dkwL_law_48 ++ dktL_law_49
def dkwL_law_47 : List UInt8 := [182, 0, 144, 44, 42, 29, 4, 96, 46, 182, 0, 147, 159, 0, 98, 3, 172, 43, 182, 0, 148, 44]
abbrev dktL_law_47 : List UInt8 := dkwL_law_47 ++ dktL_law_48
def dkwL_law_46 : List UInt8 := [29, 7, 96, 46, 42, 29, 8, 96, 46, 182, 0, 143, 159, 0, 121, 3, 172, 43, 42, 29, 4, 96, 46]
abbrev dktL_law_46 : List UInt8 := dkwL_law_46 ++ dktL_law_47
def dkwL_law_45 : List UInt8 := [29, 8, 96, 46, 182, 0, 139, 44, 42, 29, 4, 96, 46, 42, 29, 5, 96, 46, 42, 29, 6, 96, 46, 42]
abbrev dktL_law_45 : List UInt8 := dkwL_law_45 ++ dktL_law_46
def dkwL_law_44 : List UInt8 := [3, 172, 43, 42, 29, 4, 96, 46, 42, 29, 5, 96, 46, 42, 29, 6, 96, 46, 42, 29, 7, 96, 46, 42]
abbrev dktL_law_44 : List UInt8 := dkwL_law_44 ++ dktL_law_45
def dkwL_law_43 : List UInt8 := [29, 5, 96, 46, 182, 0, 135, 44, 42, 29, 4, 96, 46, 42, 29, 5, 96, 46, 182, 0, 138, 159, 0, 184]
abbrev dktL_law_43 : List UInt8 := dkwL_law_43 ++ dktL_law_44
def dkwL_law_42 : List UInt8 := [182, 0, 131, 44, 42, 29, 4, 96, 46, 182, 0, 134, 159, 0, 217, 3, 172, 43, 42, 29, 4, 96, 46, 42]
abbrev dktL_law_42 : List UInt8 := dkwL_law_42 ++ dktL_law_43
def dkwL_law_41 : List UInt8 := [29, 4, 96, 46, 42, 29, 5, 96, 46, 182, 0, 130, 159, 0, 240, 3, 172, 43, 42, 29, 4, 96, 46]
abbrev dktL_law_41 : List UInt8 := dkwL_law_41 ++ dktL_law_42
def dkwL_law_40 : List UInt8 := [182, 0, 126, 159, 1, 17, 3, 172, 43, 42, 29, 4, 96, 46, 42, 29, 5, 96, 46, 182, 0, 127, 44, 42]
abbrev dktL_law_40 : List UInt8 := dkwL_law_40 ++ dktL_law_41
def dkwL_law_39 : List UInt8 := [182, 0, 122, 159, 1, 40, 3, 172, 43, 42, 29, 4, 96, 46, 182, 0, 123, 44, 42, 29, 4, 96, 46]
abbrev dktL_law_39 : List UInt8 := dkwL_law_39 ++ dktL_law_40
def dkwL_law_38 : List UInt8 := [42, 29, 4, 96, 46, 42, 29, 5, 96, 46, 182, 0, 119, 44, 42, 29, 4, 96, 46, 42, 29, 5, 96, 46]
abbrev dktL_law_38 : List UInt8 := dkwL_law_38 ++ dktL_law_39
def dkwL_law_37 : List UInt8 := [46, 182, 0, 115, 44, 42, 29, 4, 96, 46, 42, 29, 5, 96, 46, 182, 0, 118, 159, 1, 73, 3, 172, 43]
abbrev dktL_law_37 : List UInt8 := dkwL_law_37 ++ dktL_law_38
def dkwL_law_36 : List UInt8 := [46, 42, 29, 6, 96, 46, 182, 0, 114, 159, 1, 106, 3, 172, 43, 42, 29, 4, 96, 46, 42, 29, 5, 96]
abbrev dktL_law_36 : List UInt8 := dkwL_law_36 ++ dktL_law_37
def dkwL_law_35 : List UInt8 := [46, 42, 29, 5, 96, 46, 42, 29, 6, 96, 46, 182, 0, 110, 44, 42, 29, 4, 96, 46, 42, 29, 5, 96]
abbrev dktL_law_35 : List UInt8 := dkwL_law_35 ++ dktL_law_36
def dkwL_law_34 : List UInt8 := [44, 42, 29, 4, 96, 46, 42, 29, 5, 96, 46, 182, 0, 109, 159, 1, 149, 3, 172, 43, 42, 29, 4, 96]
abbrev dktL_law_34 : List UInt8 := dkwL_law_34 ++ dktL_law_35
def dkwL_law_33 : List UInt8 := [96, 46, 182, 0, 105, 159, 1, 182, 3, 172, 43, 42, 29, 4, 96, 46, 42, 29, 5, 96, 46, 182, 0, 106]
abbrev dktL_law_33 : List UInt8 := dkwL_law_33 ++ dktL_law_34
def dkwL_law_32 : List UInt8 := [172, 43, 42, 29, 4, 96, 46, 42, 29, 5, 96, 46, 182, 0, 102, 44, 42, 29, 4, 96, 46, 42, 29, 5]
abbrev dktL_law_32 : List UInt8 := dkwL_law_32 ++ dktL_law_33
def dkwL_law_31 : List UInt8 := [96, 46, 182, 0, 98, 44, 42, 29, 4, 96, 46, 42, 29, 5, 96, 46, 182, 0, 101, 148, 153, 1, 215, 3]
abbrev dktL_law_31 : List UInt8 := dkwL_law_31 ++ dktL_law_32
def dkwL_law_30 : List UInt8 := [46, 42, 29, 5, 96, 46, 182, 0, 97, 148, 153, 1, 249, 3, 172, 43, 42, 29, 4, 96, 46, 42, 29, 5]
abbrev dktL_law_30 : List UInt8 := dkwL_law_30 ++ dktL_law_31
def dkwL_law_29 : List UInt8 := [159, 2, 27, 3, 172, 43, 42, 29, 4, 96, 46, 42, 29, 5, 96, 46, 182, 0, 94, 44, 42, 29, 4, 96]
abbrev dktL_law_29 : List UInt8 := dkwL_law_29 ++ dktL_law_30
def dkwL_law_28 : List UInt8 := [159, 2, 50, 3, 172, 43, 42, 29, 4, 96, 46, 182, 0, 89, 44, 42, 29, 4, 96, 46, 182, 0, 93]
abbrev dktL_law_28 : List UInt8 := dkwL_law_28 ++ dktL_law_29
def dkwL_law_27 : List UInt8 := [46, 42, 29, 5, 96, 46, 182, 0, 85, 44, 42, 29, 4, 96, 46, 42, 29, 5, 96, 46, 182, 0, 88]
abbrev dktL_law_27 : List UInt8 := dkwL_law_27 ++ dktL_law_28
def dkwL_law_26 : List UInt8 := [44, 42, 29, 4, 96, 46, 42, 29, 5, 96, 46, 182, 0, 84, 159, 2, 83, 3, 172, 43, 42, 29, 4, 96]
abbrev dktL_law_26 : List UInt8 := dkwL_law_26 ++ dktL_law_27
def dkwL_law_25 : List UInt8 := [96, 46, 182, 0, 80, 159, 2, 116, 3, 172, 43, 42, 29, 4, 96, 46, 42, 29, 5, 96, 46, 182, 0, 81]
abbrev dktL_law_25 : List UInt8 := dkwL_law_25 ++ dktL_law_26
def dkwL_law_24 : List UInt8 := [172, 43, 42, 29, 4, 96, 46, 42, 29, 5, 96, 46, 182, 0, 76, 44, 42, 29, 4, 96, 46, 42, 29, 5]
abbrev dktL_law_24 : List UInt8 := dkwL_law_24 ++ dktL_law_25
def dkwL_law_23 : List UInt8 := [96, 46, 182, 0, 72, 44, 42, 29, 4, 96, 46, 42, 29, 5, 96, 46, 182, 0, 75, 148, 153, 2, 149, 3]
abbrev dktL_law_23 : List UInt8 := dkwL_law_23 ++ dktL_law_24
def dkwL_law_22 : List UInt8 := [46, 42, 29, 7, 96, 46, 182, 0, 71, 148, 153, 2, 183, 3, 172, 43, 42, 29, 4, 96, 46, 42, 29, 5]
abbrev dktL_law_22 : List UInt8 := dkwL_law_22 ++ dktL_law_23
def dkwL_law_21 : List UInt8 := [46, 42, 29, 7, 96, 46, 182, 0, 67, 44, 42, 29, 4, 96, 46, 42, 29, 5, 96, 46, 42, 29, 6, 96]
abbrev dktL_law_21 : List UInt8 := dkwL_law_21 ++ dktL_law_22
def dkwL_law_20 : List UInt8 := [182, 0, 66, 148, 153, 2, 237, 3, 172, 43, 42, 29, 4, 96, 46, 42, 29, 5, 96, 46, 42, 29, 6, 96]
abbrev dktL_law_20 : List UInt8 := dkwL_law_20 ++ dktL_law_21
def dkwL_law_19 : List UInt8 := [29, 4, 96, 46, 42, 29, 5, 96, 46, 182, 0, 62, 44, 42, 29, 4, 96, 46, 42, 29, 5, 96, 46]
abbrev dktL_law_19 : List UInt8 := dkwL_law_19 ++ dktL_law_20
def dkwL_law_18 : List UInt8 := [44, 182, 0, 57, 159, 3, 28, 3, 172, 43, 182, 0, 58, 44, 182, 0, 61, 159, 3, 15, 3, 172, 43, 42]
abbrev dktL_law_18 : List UInt8 := dkwL_law_18 ++ dktL_law_19
def dkwL_law_17 : List UInt8 := [4, 96, 46, 182, 0, 49, 44, 42, 29, 4, 96, 46, 182, 0, 52, 159, 3, 41, 3, 172, 43, 182, 0, 53]
abbrev dktL_law_17 : List UInt8 := dkwL_law_17 ++ dktL_law_18
def dkwL_law_16 : List UInt8 := [29, 4, 96, 46, 182, 0, 44, 44, 42, 29, 4, 96, 46, 182, 0, 48, 159, 3, 64, 3, 172, 43, 42, 29]
abbrev dktL_law_16 : List UInt8 := dkwL_law_16 ++ dktL_law_17
def dkwL_law_15 : List UInt8 := [182, 0, 40, 44, 42, 29, 4, 96, 46, 42, 29, 5, 96, 46, 182, 0, 43, 159, 3, 87, 3, 172, 43, 42]
abbrev dktL_law_15 : List UInt8 := dkwL_law_15 ++ dktL_law_16
def dkwL_law_14 : List UInt8 := [5, 96, 46, 182, 0, 39, 159, 3, 120, 3, 172, 43, 42, 29, 4, 96, 46, 42, 29, 5, 96, 46]
abbrev dktL_law_14 : List UInt8 := dkwL_law_14 ++ dktL_law_15
def dkwL_law_13 : List UInt8 := [3, 172, 43, 42, 29, 4, 96, 46, 42, 29, 5, 96, 46, 182, 0, 36, 44, 42, 29, 4, 96, 46, 42, 29]
abbrev dktL_law_13 : List UInt8 := dkwL_law_13 ++ dktL_law_14
def dkwL_law_12 : List UInt8 := [42, 29, 6, 96, 46, 42, 29, 7, 96, 46, 153, 0, 7, 4, 167, 0, 4, 3, 182, 0, 35, 159, 3, 153]
abbrev dktL_law_12 : List UInt8 := dkwL_law_12 ++ dktL_law_13
def dkwL_law_11 : List UInt8 := [96, 46, 153, 0, 7, 4, 167, 0, 4, 3, 182, 0, 31, 44, 42, 29, 4, 96, 46, 42, 29, 5, 96, 46]
abbrev dktL_law_11 : List UInt8 := dkwL_law_11 ++ dktL_law_12
def dkwL_law_10 : List UInt8 := [159, 3, 222, 3, 172, 43, 42, 29, 4, 96, 46, 42, 29, 5, 96, 46, 42, 29, 6, 96, 46, 42, 29, 7]
abbrev dktL_law_10 : List UInt8 := dkwL_law_10 ++ dktL_law_11
def dkwL_law_9 : List UInt8 := [46, 42, 29, 5, 96, 46, 182, 0, 27, 44, 42, 29, 4, 96, 46, 42, 29, 5, 96, 46, 182, 0, 30]
abbrev dktL_law_9 : List UInt8 := dkwL_law_9 ++ dktL_law_10
def dkwL_law_8 : List UInt8 := [46, 42, 29, 6, 96, 46, 42, 29, 7, 96, 46, 182, 0, 26, 159, 3, 255, 3, 172, 43, 42, 29, 4, 96]
abbrev dktL_law_8 : List UInt8 := dkwL_law_8 ++ dktL_law_9
def dkwL_law_7 : List UInt8 := [46, 42, 29, 6, 96, 46, 42, 29, 7, 96, 46, 182, 0, 23, 44, 42, 29, 4, 96, 46, 42, 29, 5, 96]
abbrev dktL_law_7 : List UInt8 := dkwL_law_7 ++ dktL_law_8
def dkwL_law_6 : List UInt8 := [46, 42, 29, 5, 96, 46, 182, 0, 22, 159, 4, 52, 3, 172, 43, 42, 29, 4, 96, 46, 42, 29, 5, 96]
abbrev dktL_law_6 : List UInt8 := dkwL_law_6 ++ dktL_law_7
def dkwL_law_5 : List UInt8 := [159, 4, 85, 3, 172, 43, 42, 29, 4, 96, 46, 42, 29, 5, 96, 46, 182, 0, 18, 44, 42, 29, 4, 96]
abbrev dktL_law_5 : List UInt8 := dkwL_law_5 ++ dktL_law_6
def dkwL_law_4 : List UInt8 := [44, 42, 29, 4, 96, 46, 42, 29, 5, 96, 46, 42, 29, 6, 96, 46, 42, 29, 7, 96, 46, 182, 0, 17]
abbrev dktL_law_4 : List UInt8 := dkwL_law_4 ++ dktL_law_5
def dkwL_law_3 : List UInt8 := [43, 42, 29, 4, 96, 46, 42, 29, 5, 96, 46, 42, 29, 6, 96, 46, 42, 29, 7, 96, 46, 182, 0, 13]
abbrev dktL_law_3 : List UInt8 := dkwL_law_3 ++ dktL_law_4
def dkwL_law_2 : List UInt8 := [170, 0, 0, 0, 0, 5, 32, 0, 0, 0, 0, 0, 0, 0, 34, 0, 0, 0, 155, 0, 0, 0, 208, 0, 0, 0, 241, 0, 0, 1, 38, 0, 0, 1, 71, 0, 0, 1, 140, 0, 0, 1, 173, 0, 0, 1, 206, 0, 0, 1, 229, 0, 0, 1, 252, 0, 0, 2, 9, 0, 0, 2, 22, 0, 0, 2, 56, 0, 0, 2, 110, 0, 0, 2, 144, 0, 0, 2, 177, 0, 0, 2, 210, 0, 0, 2, 243, 0, 0, 3, 10, 0, 0, 3, 44, 0, 0, 3, 78, 0, 0, 3, 111, 0, 0, 3, 144, 0, 0, 3, 187, 0, 0, 3, 220, 0, 0, 3, 253, 0, 0, 4, 20, 0, 0, 4, 53, 0, 0, 4, 76, 0, 0, 4, 109, 0, 0, 4, 172, 0, 0, 4, 195, 0, 0, 4, 208, 0, 0, 4, 241, 0, 0, 5, 9]
abbrev dktL_law_2 : List UInt8 := dkwL_law_2 ++ dktL_law_3
def dkwL_law_1 : List UInt8 := [163, 5, 47, 42, 29, 46, 16, 63, 126]
abbrev dktL_law_1 : List UInt8 := dkwL_law_1 ++ dktL_law_2
def dkwL_law_0 : List UInt8 := [187, 0, 7, 89, 183, 0, 9, 76, 187, 0, 10, 89, 183, 0, 12, 77, 3, 62, 29, 42, 190, 16, 6, 100]
abbrev dktL_law_0 : List UInt8 := dkwL_law_0 ++ dktL_law_1
theorem dksL_law_0 : cL_law.data.toList.drop 0 = dktL_law_0 := by decide +kernel
theorem dksL_law_1 : cL_law.data.toList.drop 24 = dktL_law_1 := dk_seg dksL_law_0 24 rfl rfl
theorem dksL_law_2 : cL_law.data.toList.drop 33 = dktL_law_2 := dk_seg dksL_law_1 9 rfl rfl
theorem dksL_law_3 : cL_law.data.toList.drop 188 = dktL_law_3 := dk_seg dksL_law_2 155 rfl rfl
theorem dksL_law_4 : cL_law.data.toList.drop 212 = dktL_law_4 := dk_seg dksL_law_3 24 rfl rfl
theorem dksL_law_5 : cL_law.data.toList.drop 236 = dktL_law_5 := dk_seg dksL_law_4 24 rfl rfl
theorem dksL_law_6 : cL_law.data.toList.drop 260 = dktL_law_6 := dk_seg dksL_law_5 24 rfl rfl
theorem dksL_law_7 : cL_law.data.toList.drop 284 = dktL_law_7 := dk_seg dksL_law_6 24 rfl rfl
theorem dksL_law_8 : cL_law.data.toList.drop 308 = dktL_law_8 := dk_seg dksL_law_7 24 rfl rfl
theorem dksL_law_9 : cL_law.data.toList.drop 332 = dktL_law_9 := dk_seg dksL_law_8 24 rfl rfl
theorem dksL_law_10 : cL_law.data.toList.drop 355 = dktL_law_10 := dk_seg dksL_law_9 23 rfl rfl
theorem dksL_law_11 : cL_law.data.toList.drop 379 = dktL_law_11 := dk_seg dksL_law_10 24 rfl rfl
theorem dksL_law_12 : cL_law.data.toList.drop 403 = dktL_law_12 := dk_seg dksL_law_11 24 rfl rfl
theorem dksL_law_13 : cL_law.data.toList.drop 427 = dktL_law_13 := dk_seg dksL_law_12 24 rfl rfl
theorem dksL_law_14 : cL_law.data.toList.drop 451 = dktL_law_14 := dk_seg dksL_law_13 24 rfl rfl
theorem dksL_law_15 : cL_law.data.toList.drop 473 = dktL_law_15 := dk_seg dksL_law_14 22 rfl rfl
theorem dksL_law_16 : cL_law.data.toList.drop 497 = dktL_law_16 := dk_seg dksL_law_15 24 rfl rfl
theorem dksL_law_17 : cL_law.data.toList.drop 521 = dktL_law_17 := dk_seg dksL_law_16 24 rfl rfl
theorem dksL_law_18 : cL_law.data.toList.drop 545 = dktL_law_18 := dk_seg dksL_law_17 24 rfl rfl
theorem dksL_law_19 : cL_law.data.toList.drop 569 = dktL_law_19 := dk_seg dksL_law_18 24 rfl rfl
theorem dksL_law_20 : cL_law.data.toList.drop 592 = dktL_law_20 := dk_seg dksL_law_19 23 rfl rfl
theorem dksL_law_21 : cL_law.data.toList.drop 616 = dktL_law_21 := dk_seg dksL_law_20 24 rfl rfl
theorem dksL_law_22 : cL_law.data.toList.drop 640 = dktL_law_22 := dk_seg dksL_law_21 24 rfl rfl
theorem dksL_law_23 : cL_law.data.toList.drop 664 = dktL_law_23 := dk_seg dksL_law_22 24 rfl rfl
theorem dksL_law_24 : cL_law.data.toList.drop 688 = dktL_law_24 := dk_seg dksL_law_23 24 rfl rfl
theorem dksL_law_25 : cL_law.data.toList.drop 712 = dktL_law_25 := dk_seg dksL_law_24 24 rfl rfl
theorem dksL_law_26 : cL_law.data.toList.drop 736 = dktL_law_26 := dk_seg dksL_law_25 24 rfl rfl
theorem dksL_law_27 : cL_law.data.toList.drop 760 = dktL_law_27 := dk_seg dksL_law_26 24 rfl rfl
theorem dksL_law_28 : cL_law.data.toList.drop 783 = dktL_law_28 := dk_seg dksL_law_27 23 rfl rfl
theorem dksL_law_29 : cL_law.data.toList.drop 806 = dktL_law_29 := dk_seg dksL_law_28 23 rfl rfl
theorem dksL_law_30 : cL_law.data.toList.drop 830 = dktL_law_30 := dk_seg dksL_law_29 24 rfl rfl
theorem dksL_law_31 : cL_law.data.toList.drop 854 = dktL_law_31 := dk_seg dksL_law_30 24 rfl rfl
theorem dksL_law_32 : cL_law.data.toList.drop 878 = dktL_law_32 := dk_seg dksL_law_31 24 rfl rfl
theorem dksL_law_33 : cL_law.data.toList.drop 902 = dktL_law_33 := dk_seg dksL_law_32 24 rfl rfl
theorem dksL_law_34 : cL_law.data.toList.drop 926 = dktL_law_34 := dk_seg dksL_law_33 24 rfl rfl
theorem dksL_law_35 : cL_law.data.toList.drop 950 = dktL_law_35 := dk_seg dksL_law_34 24 rfl rfl
theorem dksL_law_36 : cL_law.data.toList.drop 974 = dktL_law_36 := dk_seg dksL_law_35 24 rfl rfl
theorem dksL_law_37 : cL_law.data.toList.drop 998 = dktL_law_37 := dk_seg dksL_law_36 24 rfl rfl
theorem dksL_law_38 : cL_law.data.toList.drop 1022 = dktL_law_38 := dk_seg dksL_law_37 24 rfl rfl
theorem dksL_law_39 : cL_law.data.toList.drop 1046 = dktL_law_39 := dk_seg dksL_law_38 24 rfl rfl
theorem dksL_law_40 : cL_law.data.toList.drop 1069 = dktL_law_40 := dk_seg dksL_law_39 23 rfl rfl
theorem dksL_law_41 : cL_law.data.toList.drop 1093 = dktL_law_41 := dk_seg dksL_law_40 24 rfl rfl
theorem dksL_law_42 : cL_law.data.toList.drop 1116 = dktL_law_42 := dk_seg dksL_law_41 23 rfl rfl
theorem dksL_law_43 : cL_law.data.toList.drop 1140 = dktL_law_43 := dk_seg dksL_law_42 24 rfl rfl
theorem dksL_law_44 : cL_law.data.toList.drop 1164 = dktL_law_44 := dk_seg dksL_law_43 24 rfl rfl
theorem dksL_law_45 : cL_law.data.toList.drop 1188 = dktL_law_45 := dk_seg dksL_law_44 24 rfl rfl
theorem dksL_law_46 : cL_law.data.toList.drop 1212 = dktL_law_46 := dk_seg dksL_law_45 24 rfl rfl
theorem dksL_law_47 : cL_law.data.toList.drop 1235 = dktL_law_47 := dk_seg dksL_law_46 23 rfl rfl
theorem dksL_law_48 : cL_law.data.toList.drop 1257 = dktL_law_48 := dk_seg dksL_law_47 22 rfl rfl
theorem dksL_law_49 : cL_law.data.toList.drop 1281 = dktL_law_49 := dk_seg dksL_law_48 24 rfl rfl
theorem dksL_law_50 : cL_law.data.toList.drop 1304 = dktL_law_50 := dk_seg dksL_law_49 23 rfl rfl
theorem dksL_law_51 : cL_law.data.toList.drop 1328 = dktL_law_51 := dk_seg dksL_law_50 24 rfl rfl
theorem dksL_law_52 : cL_law.data.toList.drop 1352 = dktL_law_52 := dk_seg dksL_law_51 24 rfl rfl
theorem dL_law_0 : decode cL_law 0 = .ok (.new 7, 3) := dk_187 0 7 (dk_at dksL_law_0 0 rfl rfl)
theorem dL_law_3 : decode cL_law 3 = .ok (.dup, 1) := dk_89 (dk_at dksL_law_0 3 rfl rfl)
theorem dL_law_4 : decode cL_law 4 = .ok (.invokespecial 9, 3) := dk_183 0 9 (dk_at dksL_law_0 4 rfl rfl)
theorem dL_law_7 : decode cL_law 7 = .ok (.astore_n 1, 1) := dk_76 (dk_at dksL_law_0 7 rfl rfl)
theorem dL_law_8 : decode cL_law 8 = .ok (.new 10, 3) := dk_187 0 10 (dk_at dksL_law_0 8 rfl rfl)
theorem dL_law_11 : decode cL_law 11 = .ok (.dup, 1) := dk_89 (dk_at dksL_law_0 11 rfl rfl)
theorem dL_law_12 : decode cL_law 12 = .ok (.invokespecial 12, 3) := dk_183 0 12 (dk_at dksL_law_0 12 rfl rfl)
theorem dL_law_15 : decode cL_law 15 = .ok (.astore_n 2, 1) := dk_77 (dk_at dksL_law_0 15 rfl rfl)
theorem dL_law_16 : decode cL_law 16 = .ok (.iconst 0, 1) := dk_3 (dk_at dksL_law_0 16 rfl rfl)
theorem dL_law_17 : decode cL_law 17 = .ok (.istore_n 3, 1) := dk_62 (dk_at dksL_law_0 17 rfl rfl)
theorem dL_law_18 : decode cL_law 18 = .ok (.iload_n 3, 1) := dk_29 (dk_at dksL_law_0 18 rfl rfl)
theorem dL_law_19 : decode cL_law 19 = .ok (.aload_n 0, 1) := dk_42 (dk_at dksL_law_0 19 rfl rfl)
theorem dL_law_20 : decode cL_law 20 = .ok (.arraylength, 1) := dk_190 (dk_at dksL_law_0 20 rfl rfl)
theorem dL_law_21 : decode cL_law 21 = .ok (.bipush 6, 2) := dk_16 6 (dk_at dksL_law_0 21 rfl rfl)
theorem dL_law_23 : decode cL_law 23 = .ok (.isub, 1) := dk_100 (dk_at dksL_law_0 23 rfl rfl)
theorem dL_law_24 : decode cL_law 24 = .ok (.if_icmp .gt 1327, 3) := dk_163 5 47 (dk_at dksL_law_1 0 rfl rfl)
theorem dL_law_27 : decode cL_law 27 = .ok (.aload_n 0, 1) := dk_42 (dk_at dksL_law_1 3 rfl rfl)
theorem dL_law_28 : decode cL_law 28 = .ok (.iload_n 3, 1) := dk_29 (dk_at dksL_law_1 4 rfl rfl)
theorem dL_law_29 : decode cL_law 29 = .ok (.iaload, 1) := dk_46 (dk_at dksL_law_1 5 rfl rfl)
theorem dL_law_30 : decode cL_law 30 = .ok (.bipush 63, 2) := dk_16 63 (dk_at dksL_law_1 6 rfl rfl)
theorem dL_law_32 : decode cL_law 32 = .ok (.iand, 1) := dk_126 (dk_at dksL_law_1 8 rfl rfl)
theorem dL_law_33 : decode cL_law 33 = .ok (.tableswitch 1312 0 34 #[155, 208, 241, 294, 327, 396, 429, 462, 485, 508, 521, 534, 568, 622, 656, 689, 722, 755, 778, 812, 846, 879, 912, 955, 988, 1021, 1044, 1077, 1100, 1133, 1196, 1219, 1232, 1265, 1289], 155) := by decide +kernel
theorem dL_law_188 : decode cL_law 188 = .ok (.aload_n 1, 1) := dk_43 (dk_at dksL_law_3 0 rfl rfl)
theorem dL_law_189 : decode cL_law 189 = .ok (.aload_n 0, 1) := dk_42 (dk_at dksL_law_3 1 rfl rfl)
theorem dL_law_190 : decode cL_law 190 = .ok (.iload_n 3, 1) := dk_29 (dk_at dksL_law_3 2 rfl rfl)
theorem dL_law_191 : decode cL_law 191 = .ok (.iconst 1, 1) := dk_4 (dk_at dksL_law_3 3 rfl rfl)
theorem dL_law_192 : decode cL_law 192 = .ok (.iadd, 1) := dk_96 (dk_at dksL_law_3 4 rfl rfl)
theorem dL_law_193 : decode cL_law 193 = .ok (.iaload, 1) := dk_46 (dk_at dksL_law_3 5 rfl rfl)
theorem dL_law_194 : decode cL_law 194 = .ok (.aload_n 0, 1) := dk_42 (dk_at dksL_law_3 6 rfl rfl)
theorem dL_law_195 : decode cL_law 195 = .ok (.iload_n 3, 1) := dk_29 (dk_at dksL_law_3 7 rfl rfl)
theorem dL_law_196 : decode cL_law 196 = .ok (.iconst 2, 1) := dk_5 (dk_at dksL_law_3 8 rfl rfl)
theorem dL_law_197 : decode cL_law 197 = .ok (.iadd, 1) := dk_96 (dk_at dksL_law_3 9 rfl rfl)
theorem dL_law_198 : decode cL_law 198 = .ok (.iaload, 1) := dk_46 (dk_at dksL_law_3 10 rfl rfl)
theorem dL_law_199 : decode cL_law 199 = .ok (.aload_n 0, 1) := dk_42 (dk_at dksL_law_3 11 rfl rfl)
theorem dL_law_200 : decode cL_law 200 = .ok (.iload_n 3, 1) := dk_29 (dk_at dksL_law_3 12 rfl rfl)
theorem dL_law_201 : decode cL_law 201 = .ok (.iconst 3, 1) := dk_6 (dk_at dksL_law_3 13 rfl rfl)
theorem dL_law_202 : decode cL_law 202 = .ok (.iadd, 1) := dk_96 (dk_at dksL_law_3 14 rfl rfl)
theorem dL_law_203 : decode cL_law 203 = .ok (.iaload, 1) := dk_46 (dk_at dksL_law_3 15 rfl rfl)
theorem dL_law_204 : decode cL_law 204 = .ok (.aload_n 0, 1) := dk_42 (dk_at dksL_law_3 16 rfl rfl)
theorem dL_law_205 : decode cL_law 205 = .ok (.iload_n 3, 1) := dk_29 (dk_at dksL_law_3 17 rfl rfl)
theorem dL_law_206 : decode cL_law 206 = .ok (.iconst 4, 1) := dk_7 (dk_at dksL_law_3 18 rfl rfl)
theorem dL_law_207 : decode cL_law 207 = .ok (.iadd, 1) := dk_96 (dk_at dksL_law_3 19 rfl rfl)
theorem dL_law_208 : decode cL_law 208 = .ok (.iaload, 1) := dk_46 (dk_at dksL_law_3 20 rfl rfl)
theorem dL_law_209 : decode cL_law 209 = .ok (.invokevirtual 13, 3) := dk_182 0 13 (dk_at dksL_law_3 21 rfl rfl)
theorem dL_law_212 : decode cL_law 212 = .ok (.aload_n 2, 1) := dk_44 (dk_at dksL_law_4 0 rfl rfl)
theorem dL_law_213 : decode cL_law 213 = .ok (.aload_n 0, 1) := dk_42 (dk_at dksL_law_4 1 rfl rfl)
theorem dL_law_214 : decode cL_law 214 = .ok (.iload_n 3, 1) := dk_29 (dk_at dksL_law_4 2 rfl rfl)
theorem dL_law_215 : decode cL_law 215 = .ok (.iconst 1, 1) := dk_4 (dk_at dksL_law_4 3 rfl rfl)
theorem dL_law_216 : decode cL_law 216 = .ok (.iadd, 1) := dk_96 (dk_at dksL_law_4 4 rfl rfl)
theorem dL_law_217 : decode cL_law 217 = .ok (.iaload, 1) := dk_46 (dk_at dksL_law_4 5 rfl rfl)
theorem dL_law_218 : decode cL_law 218 = .ok (.aload_n 0, 1) := dk_42 (dk_at dksL_law_4 6 rfl rfl)
theorem dL_law_219 : decode cL_law 219 = .ok (.iload_n 3, 1) := dk_29 (dk_at dksL_law_4 7 rfl rfl)
theorem dL_law_220 : decode cL_law 220 = .ok (.iconst 2, 1) := dk_5 (dk_at dksL_law_4 8 rfl rfl)
theorem dL_law_221 : decode cL_law 221 = .ok (.iadd, 1) := dk_96 (dk_at dksL_law_4 9 rfl rfl)
theorem dL_law_222 : decode cL_law 222 = .ok (.iaload, 1) := dk_46 (dk_at dksL_law_4 10 rfl rfl)
theorem dL_law_223 : decode cL_law 223 = .ok (.aload_n 0, 1) := dk_42 (dk_at dksL_law_4 11 rfl rfl)
theorem dL_law_224 : decode cL_law 224 = .ok (.iload_n 3, 1) := dk_29 (dk_at dksL_law_4 12 rfl rfl)
theorem dL_law_225 : decode cL_law 225 = .ok (.iconst 3, 1) := dk_6 (dk_at dksL_law_4 13 rfl rfl)
theorem dL_law_226 : decode cL_law 226 = .ok (.iadd, 1) := dk_96 (dk_at dksL_law_4 14 rfl rfl)
theorem dL_law_227 : decode cL_law 227 = .ok (.iaload, 1) := dk_46 (dk_at dksL_law_4 15 rfl rfl)
theorem dL_law_228 : decode cL_law 228 = .ok (.aload_n 0, 1) := dk_42 (dk_at dksL_law_4 16 rfl rfl)
theorem dL_law_229 : decode cL_law 229 = .ok (.iload_n 3, 1) := dk_29 (dk_at dksL_law_4 17 rfl rfl)
theorem dL_law_230 : decode cL_law 230 = .ok (.iconst 4, 1) := dk_7 (dk_at dksL_law_4 18 rfl rfl)
theorem dL_law_231 : decode cL_law 231 = .ok (.iadd, 1) := dk_96 (dk_at dksL_law_4 19 rfl rfl)
theorem dL_law_232 : decode cL_law 232 = .ok (.iaload, 1) := dk_46 (dk_at dksL_law_4 20 rfl rfl)
theorem dL_law_233 : decode cL_law 233 = .ok (.invokevirtual 17, 3) := dk_182 0 17 (dk_at dksL_law_4 21 rfl rfl)
theorem dL_law_236 : decode cL_law 236 = .ok (.if_icmp .eq 1109, 3) := dk_159 4 85 (dk_at dksL_law_5 0 rfl rfl)
theorem dL_law_239 : decode cL_law 239 = .ok (.iconst 0, 1) := dk_3 (dk_at dksL_law_5 3 rfl rfl)
theorem dL_law_240 : decode cL_law 240 = .ok (.ireturn, 1) := dk_172 (dk_at dksL_law_5 4 rfl rfl)
theorem dL_law_241 : decode cL_law 241 = .ok (.aload_n 1, 1) := dk_43 (dk_at dksL_law_5 5 rfl rfl)
theorem dL_law_242 : decode cL_law 242 = .ok (.aload_n 0, 1) := dk_42 (dk_at dksL_law_5 6 rfl rfl)
theorem dL_law_243 : decode cL_law 243 = .ok (.iload_n 3, 1) := dk_29 (dk_at dksL_law_5 7 rfl rfl)
theorem dL_law_244 : decode cL_law 244 = .ok (.iconst 1, 1) := dk_4 (dk_at dksL_law_5 8 rfl rfl)
theorem dL_law_245 : decode cL_law 245 = .ok (.iadd, 1) := dk_96 (dk_at dksL_law_5 9 rfl rfl)
theorem dL_law_246 : decode cL_law 246 = .ok (.iaload, 1) := dk_46 (dk_at dksL_law_5 10 rfl rfl)
theorem dL_law_247 : decode cL_law 247 = .ok (.aload_n 0, 1) := dk_42 (dk_at dksL_law_5 11 rfl rfl)
theorem dL_law_248 : decode cL_law 248 = .ok (.iload_n 3, 1) := dk_29 (dk_at dksL_law_5 12 rfl rfl)
theorem dL_law_249 : decode cL_law 249 = .ok (.iconst 2, 1) := dk_5 (dk_at dksL_law_5 13 rfl rfl)
theorem dL_law_250 : decode cL_law 250 = .ok (.iadd, 1) := dk_96 (dk_at dksL_law_5 14 rfl rfl)
theorem dL_law_251 : decode cL_law 251 = .ok (.iaload, 1) := dk_46 (dk_at dksL_law_5 15 rfl rfl)
theorem dL_law_252 : decode cL_law 252 = .ok (.invokevirtual 18, 3) := dk_182 0 18 (dk_at dksL_law_5 16 rfl rfl)
theorem dL_law_255 : decode cL_law 255 = .ok (.aload_n 2, 1) := dk_44 (dk_at dksL_law_5 19 rfl rfl)
theorem dL_law_256 : decode cL_law 256 = .ok (.aload_n 0, 1) := dk_42 (dk_at dksL_law_5 20 rfl rfl)
theorem dL_law_257 : decode cL_law 257 = .ok (.iload_n 3, 1) := dk_29 (dk_at dksL_law_5 21 rfl rfl)
theorem dL_law_258 : decode cL_law 258 = .ok (.iconst 1, 1) := dk_4 (dk_at dksL_law_5 22 rfl rfl)
theorem dL_law_259 : decode cL_law 259 = .ok (.iadd, 1) := dk_96 (dk_at dksL_law_5 23 rfl rfl)
theorem dL_law_260 : decode cL_law 260 = .ok (.iaload, 1) := dk_46 (dk_at dksL_law_6 0 rfl rfl)
theorem dL_law_261 : decode cL_law 261 = .ok (.aload_n 0, 1) := dk_42 (dk_at dksL_law_6 1 rfl rfl)
theorem dL_law_262 : decode cL_law 262 = .ok (.iload_n 3, 1) := dk_29 (dk_at dksL_law_6 2 rfl rfl)
theorem dL_law_263 : decode cL_law 263 = .ok (.iconst 2, 1) := dk_5 (dk_at dksL_law_6 3 rfl rfl)
theorem dL_law_264 : decode cL_law 264 = .ok (.iadd, 1) := dk_96 (dk_at dksL_law_6 4 rfl rfl)
theorem dL_law_265 : decode cL_law 265 = .ok (.iaload, 1) := dk_46 (dk_at dksL_law_6 5 rfl rfl)
theorem dL_law_266 : decode cL_law 266 = .ok (.invokevirtual 22, 3) := dk_182 0 22 (dk_at dksL_law_6 6 rfl rfl)
theorem dL_law_269 : decode cL_law 269 = .ok (.if_icmp .eq 1076, 3) := dk_159 4 52 (dk_at dksL_law_6 9 rfl rfl)
theorem dL_law_272 : decode cL_law 272 = .ok (.iconst 0, 1) := dk_3 (dk_at dksL_law_6 12 rfl rfl)
theorem dL_law_273 : decode cL_law 273 = .ok (.ireturn, 1) := dk_172 (dk_at dksL_law_6 13 rfl rfl)
theorem dL_law_274 : decode cL_law 274 = .ok (.aload_n 1, 1) := dk_43 (dk_at dksL_law_6 14 rfl rfl)
theorem dL_law_275 : decode cL_law 275 = .ok (.aload_n 0, 1) := dk_42 (dk_at dksL_law_6 15 rfl rfl)
theorem dL_law_276 : decode cL_law 276 = .ok (.iload_n 3, 1) := dk_29 (dk_at dksL_law_6 16 rfl rfl)
theorem dL_law_277 : decode cL_law 277 = .ok (.iconst 1, 1) := dk_4 (dk_at dksL_law_6 17 rfl rfl)
theorem dL_law_278 : decode cL_law 278 = .ok (.iadd, 1) := dk_96 (dk_at dksL_law_6 18 rfl rfl)
theorem dL_law_279 : decode cL_law 279 = .ok (.iaload, 1) := dk_46 (dk_at dksL_law_6 19 rfl rfl)
theorem dL_law_280 : decode cL_law 280 = .ok (.aload_n 0, 1) := dk_42 (dk_at dksL_law_6 20 rfl rfl)
theorem dL_law_281 : decode cL_law 281 = .ok (.iload_n 3, 1) := dk_29 (dk_at dksL_law_6 21 rfl rfl)
theorem dL_law_282 : decode cL_law 282 = .ok (.iconst 2, 1) := dk_5 (dk_at dksL_law_6 22 rfl rfl)
theorem dL_law_283 : decode cL_law 283 = .ok (.iadd, 1) := dk_96 (dk_at dksL_law_6 23 rfl rfl)
theorem dL_law_284 : decode cL_law 284 = .ok (.iaload, 1) := dk_46 (dk_at dksL_law_7 0 rfl rfl)
theorem dL_law_285 : decode cL_law 285 = .ok (.aload_n 0, 1) := dk_42 (dk_at dksL_law_7 1 rfl rfl)
theorem dL_law_286 : decode cL_law 286 = .ok (.iload_n 3, 1) := dk_29 (dk_at dksL_law_7 2 rfl rfl)
theorem dL_law_287 : decode cL_law 287 = .ok (.iconst 3, 1) := dk_6 (dk_at dksL_law_7 3 rfl rfl)
theorem dL_law_288 : decode cL_law 288 = .ok (.iadd, 1) := dk_96 (dk_at dksL_law_7 4 rfl rfl)
theorem dL_law_289 : decode cL_law 289 = .ok (.iaload, 1) := dk_46 (dk_at dksL_law_7 5 rfl rfl)
theorem dL_law_290 : decode cL_law 290 = .ok (.aload_n 0, 1) := dk_42 (dk_at dksL_law_7 6 rfl rfl)
theorem dL_law_291 : decode cL_law 291 = .ok (.iload_n 3, 1) := dk_29 (dk_at dksL_law_7 7 rfl rfl)
theorem dL_law_292 : decode cL_law 292 = .ok (.iconst 4, 1) := dk_7 (dk_at dksL_law_7 8 rfl rfl)
theorem dL_law_293 : decode cL_law 293 = .ok (.iadd, 1) := dk_96 (dk_at dksL_law_7 9 rfl rfl)
theorem dL_law_294 : decode cL_law 294 = .ok (.iaload, 1) := dk_46 (dk_at dksL_law_7 10 rfl rfl)
theorem dL_law_295 : decode cL_law 295 = .ok (.invokevirtual 23, 3) := dk_182 0 23 (dk_at dksL_law_7 11 rfl rfl)
theorem dL_law_298 : decode cL_law 298 = .ok (.aload_n 2, 1) := dk_44 (dk_at dksL_law_7 14 rfl rfl)
theorem dL_law_299 : decode cL_law 299 = .ok (.aload_n 0, 1) := dk_42 (dk_at dksL_law_7 15 rfl rfl)
theorem dL_law_300 : decode cL_law 300 = .ok (.iload_n 3, 1) := dk_29 (dk_at dksL_law_7 16 rfl rfl)
theorem dL_law_301 : decode cL_law 301 = .ok (.iconst 1, 1) := dk_4 (dk_at dksL_law_7 17 rfl rfl)
theorem dL_law_302 : decode cL_law 302 = .ok (.iadd, 1) := dk_96 (dk_at dksL_law_7 18 rfl rfl)
theorem dL_law_303 : decode cL_law 303 = .ok (.iaload, 1) := dk_46 (dk_at dksL_law_7 19 rfl rfl)
theorem dL_law_304 : decode cL_law 304 = .ok (.aload_n 0, 1) := dk_42 (dk_at dksL_law_7 20 rfl rfl)
theorem dL_law_305 : decode cL_law 305 = .ok (.iload_n 3, 1) := dk_29 (dk_at dksL_law_7 21 rfl rfl)
theorem dL_law_306 : decode cL_law 306 = .ok (.iconst 2, 1) := dk_5 (dk_at dksL_law_7 22 rfl rfl)
theorem dL_law_307 : decode cL_law 307 = .ok (.iadd, 1) := dk_96 (dk_at dksL_law_7 23 rfl rfl)
theorem dL_law_308 : decode cL_law 308 = .ok (.iaload, 1) := dk_46 (dk_at dksL_law_8 0 rfl rfl)
theorem dL_law_309 : decode cL_law 309 = .ok (.aload_n 0, 1) := dk_42 (dk_at dksL_law_8 1 rfl rfl)
theorem dL_law_310 : decode cL_law 310 = .ok (.iload_n 3, 1) := dk_29 (dk_at dksL_law_8 2 rfl rfl)
theorem dL_law_311 : decode cL_law 311 = .ok (.iconst 3, 1) := dk_6 (dk_at dksL_law_8 3 rfl rfl)
theorem dL_law_312 : decode cL_law 312 = .ok (.iadd, 1) := dk_96 (dk_at dksL_law_8 4 rfl rfl)
theorem dL_law_313 : decode cL_law 313 = .ok (.iaload, 1) := dk_46 (dk_at dksL_law_8 5 rfl rfl)
theorem dL_law_314 : decode cL_law 314 = .ok (.aload_n 0, 1) := dk_42 (dk_at dksL_law_8 6 rfl rfl)
theorem dL_law_315 : decode cL_law 315 = .ok (.iload_n 3, 1) := dk_29 (dk_at dksL_law_8 7 rfl rfl)
theorem dL_law_316 : decode cL_law 316 = .ok (.iconst 4, 1) := dk_7 (dk_at dksL_law_8 8 rfl rfl)
theorem dL_law_317 : decode cL_law 317 = .ok (.iadd, 1) := dk_96 (dk_at dksL_law_8 9 rfl rfl)
theorem dL_law_318 : decode cL_law 318 = .ok (.iaload, 1) := dk_46 (dk_at dksL_law_8 10 rfl rfl)
theorem dL_law_319 : decode cL_law 319 = .ok (.invokevirtual 26, 3) := dk_182 0 26 (dk_at dksL_law_8 11 rfl rfl)
theorem dL_law_322 : decode cL_law 322 = .ok (.if_icmp .eq 1023, 3) := dk_159 3 255 (dk_at dksL_law_8 14 rfl rfl)
theorem dL_law_325 : decode cL_law 325 = .ok (.iconst 0, 1) := dk_3 (dk_at dksL_law_8 17 rfl rfl)
theorem dL_law_326 : decode cL_law 326 = .ok (.ireturn, 1) := dk_172 (dk_at dksL_law_8 18 rfl rfl)
theorem dL_law_327 : decode cL_law 327 = .ok (.aload_n 1, 1) := dk_43 (dk_at dksL_law_8 19 rfl rfl)
theorem dL_law_328 : decode cL_law 328 = .ok (.aload_n 0, 1) := dk_42 (dk_at dksL_law_8 20 rfl rfl)
theorem dL_law_329 : decode cL_law 329 = .ok (.iload_n 3, 1) := dk_29 (dk_at dksL_law_8 21 rfl rfl)
theorem dL_law_330 : decode cL_law 330 = .ok (.iconst 1, 1) := dk_4 (dk_at dksL_law_8 22 rfl rfl)
theorem dL_law_331 : decode cL_law 331 = .ok (.iadd, 1) := dk_96 (dk_at dksL_law_8 23 rfl rfl)
theorem dL_law_332 : decode cL_law 332 = .ok (.iaload, 1) := dk_46 (dk_at dksL_law_9 0 rfl rfl)
theorem dL_law_333 : decode cL_law 333 = .ok (.aload_n 0, 1) := dk_42 (dk_at dksL_law_9 1 rfl rfl)
theorem dL_law_334 : decode cL_law 334 = .ok (.iload_n 3, 1) := dk_29 (dk_at dksL_law_9 2 rfl rfl)
theorem dL_law_335 : decode cL_law 335 = .ok (.iconst 2, 1) := dk_5 (dk_at dksL_law_9 3 rfl rfl)
theorem dL_law_336 : decode cL_law 336 = .ok (.iadd, 1) := dk_96 (dk_at dksL_law_9 4 rfl rfl)
theorem dL_law_337 : decode cL_law 337 = .ok (.iaload, 1) := dk_46 (dk_at dksL_law_9 5 rfl rfl)
theorem dL_law_338 : decode cL_law 338 = .ok (.invokevirtual 27, 3) := dk_182 0 27 (dk_at dksL_law_9 6 rfl rfl)
theorem dL_law_341 : decode cL_law 341 = .ok (.aload_n 2, 1) := dk_44 (dk_at dksL_law_9 9 rfl rfl)
theorem dL_law_342 : decode cL_law 342 = .ok (.aload_n 0, 1) := dk_42 (dk_at dksL_law_9 10 rfl rfl)
theorem dL_law_343 : decode cL_law 343 = .ok (.iload_n 3, 1) := dk_29 (dk_at dksL_law_9 11 rfl rfl)
theorem dL_law_344 : decode cL_law 344 = .ok (.iconst 1, 1) := dk_4 (dk_at dksL_law_9 12 rfl rfl)
theorem dL_law_345 : decode cL_law 345 = .ok (.iadd, 1) := dk_96 (dk_at dksL_law_9 13 rfl rfl)
theorem dL_law_346 : decode cL_law 346 = .ok (.iaload, 1) := dk_46 (dk_at dksL_law_9 14 rfl rfl)
theorem dL_law_347 : decode cL_law 347 = .ok (.aload_n 0, 1) := dk_42 (dk_at dksL_law_9 15 rfl rfl)
theorem dL_law_348 : decode cL_law 348 = .ok (.iload_n 3, 1) := dk_29 (dk_at dksL_law_9 16 rfl rfl)
theorem dL_law_349 : decode cL_law 349 = .ok (.iconst 2, 1) := dk_5 (dk_at dksL_law_9 17 rfl rfl)
theorem dL_law_350 : decode cL_law 350 = .ok (.iadd, 1) := dk_96 (dk_at dksL_law_9 18 rfl rfl)
theorem dL_law_351 : decode cL_law 351 = .ok (.iaload, 1) := dk_46 (dk_at dksL_law_9 19 rfl rfl)
theorem dL_law_352 : decode cL_law 352 = .ok (.invokevirtual 30, 3) := dk_182 0 30 (dk_at dksL_law_9 20 rfl rfl)
theorem dL_law_355 : decode cL_law 355 = .ok (.if_icmp .eq 990, 3) := dk_159 3 222 (dk_at dksL_law_10 0 rfl rfl)
theorem dL_law_358 : decode cL_law 358 = .ok (.iconst 0, 1) := dk_3 (dk_at dksL_law_10 3 rfl rfl)
theorem dL_law_359 : decode cL_law 359 = .ok (.ireturn, 1) := dk_172 (dk_at dksL_law_10 4 rfl rfl)
theorem dL_law_360 : decode cL_law 360 = .ok (.aload_n 1, 1) := dk_43 (dk_at dksL_law_10 5 rfl rfl)
theorem dL_law_361 : decode cL_law 361 = .ok (.aload_n 0, 1) := dk_42 (dk_at dksL_law_10 6 rfl rfl)
theorem dL_law_362 : decode cL_law 362 = .ok (.iload_n 3, 1) := dk_29 (dk_at dksL_law_10 7 rfl rfl)
theorem dL_law_363 : decode cL_law 363 = .ok (.iconst 1, 1) := dk_4 (dk_at dksL_law_10 8 rfl rfl)
theorem dL_law_364 : decode cL_law 364 = .ok (.iadd, 1) := dk_96 (dk_at dksL_law_10 9 rfl rfl)
theorem dL_law_365 : decode cL_law 365 = .ok (.iaload, 1) := dk_46 (dk_at dksL_law_10 10 rfl rfl)
theorem dL_law_366 : decode cL_law 366 = .ok (.aload_n 0, 1) := dk_42 (dk_at dksL_law_10 11 rfl rfl)
theorem dL_law_367 : decode cL_law 367 = .ok (.iload_n 3, 1) := dk_29 (dk_at dksL_law_10 12 rfl rfl)
theorem dL_law_368 : decode cL_law 368 = .ok (.iconst 2, 1) := dk_5 (dk_at dksL_law_10 13 rfl rfl)
theorem dL_law_369 : decode cL_law 369 = .ok (.iadd, 1) := dk_96 (dk_at dksL_law_10 14 rfl rfl)
theorem dL_law_370 : decode cL_law 370 = .ok (.iaload, 1) := dk_46 (dk_at dksL_law_10 15 rfl rfl)
theorem dL_law_371 : decode cL_law 371 = .ok (.aload_n 0, 1) := dk_42 (dk_at dksL_law_10 16 rfl rfl)
theorem dL_law_372 : decode cL_law 372 = .ok (.iload_n 3, 1) := dk_29 (dk_at dksL_law_10 17 rfl rfl)
theorem dL_law_373 : decode cL_law 373 = .ok (.iconst 3, 1) := dk_6 (dk_at dksL_law_10 18 rfl rfl)
theorem dL_law_374 : decode cL_law 374 = .ok (.iadd, 1) := dk_96 (dk_at dksL_law_10 19 rfl rfl)
theorem dL_law_375 : decode cL_law 375 = .ok (.iaload, 1) := dk_46 (dk_at dksL_law_10 20 rfl rfl)
theorem dL_law_376 : decode cL_law 376 = .ok (.aload_n 0, 1) := dk_42 (dk_at dksL_law_10 21 rfl rfl)
theorem dL_law_377 : decode cL_law 377 = .ok (.iload_n 3, 1) := dk_29 (dk_at dksL_law_10 22 rfl rfl)
theorem dL_law_378 : decode cL_law 378 = .ok (.iconst 4, 1) := dk_7 (dk_at dksL_law_10 23 rfl rfl)
theorem dL_law_379 : decode cL_law 379 = .ok (.iadd, 1) := dk_96 (dk_at dksL_law_11 0 rfl rfl)
theorem dL_law_380 : decode cL_law 380 = .ok (.iaload, 1) := dk_46 (dk_at dksL_law_11 1 rfl rfl)
theorem dL_law_381 : decode cL_law 381 = .ok (.ifCond .eq 7, 3) := dk_153 0 7 (dk_at dksL_law_11 2 rfl rfl)
theorem dL_law_384 : decode cL_law 384 = .ok (.iconst 1, 1) := dk_4 (dk_at dksL_law_11 5 rfl rfl)
theorem dL_law_385 : decode cL_law 385 = .ok (.goto 4, 3) := dk_167 0 4 (dk_at dksL_law_11 6 rfl rfl)
theorem dL_law_388 : decode cL_law 388 = .ok (.iconst 0, 1) := dk_3 (dk_at dksL_law_11 9 rfl rfl)
theorem dL_law_389 : decode cL_law 389 = .ok (.invokevirtual 31, 3) := dk_182 0 31 (dk_at dksL_law_11 10 rfl rfl)
theorem dL_law_392 : decode cL_law 392 = .ok (.aload_n 2, 1) := dk_44 (dk_at dksL_law_11 13 rfl rfl)
theorem dL_law_393 : decode cL_law 393 = .ok (.aload_n 0, 1) := dk_42 (dk_at dksL_law_11 14 rfl rfl)
theorem dL_law_394 : decode cL_law 394 = .ok (.iload_n 3, 1) := dk_29 (dk_at dksL_law_11 15 rfl rfl)
theorem dL_law_395 : decode cL_law 395 = .ok (.iconst 1, 1) := dk_4 (dk_at dksL_law_11 16 rfl rfl)
theorem dL_law_396 : decode cL_law 396 = .ok (.iadd, 1) := dk_96 (dk_at dksL_law_11 17 rfl rfl)
theorem dL_law_397 : decode cL_law 397 = .ok (.iaload, 1) := dk_46 (dk_at dksL_law_11 18 rfl rfl)
theorem dL_law_398 : decode cL_law 398 = .ok (.aload_n 0, 1) := dk_42 (dk_at dksL_law_11 19 rfl rfl)
theorem dL_law_399 : decode cL_law 399 = .ok (.iload_n 3, 1) := dk_29 (dk_at dksL_law_11 20 rfl rfl)
theorem dL_law_400 : decode cL_law 400 = .ok (.iconst 2, 1) := dk_5 (dk_at dksL_law_11 21 rfl rfl)
theorem dL_law_401 : decode cL_law 401 = .ok (.iadd, 1) := dk_96 (dk_at dksL_law_11 22 rfl rfl)
theorem dL_law_402 : decode cL_law 402 = .ok (.iaload, 1) := dk_46 (dk_at dksL_law_11 23 rfl rfl)
theorem dL_law_403 : decode cL_law 403 = .ok (.aload_n 0, 1) := dk_42 (dk_at dksL_law_12 0 rfl rfl)
theorem dL_law_404 : decode cL_law 404 = .ok (.iload_n 3, 1) := dk_29 (dk_at dksL_law_12 1 rfl rfl)
theorem dL_law_405 : decode cL_law 405 = .ok (.iconst 3, 1) := dk_6 (dk_at dksL_law_12 2 rfl rfl)
theorem dL_law_406 : decode cL_law 406 = .ok (.iadd, 1) := dk_96 (dk_at dksL_law_12 3 rfl rfl)
theorem dL_law_407 : decode cL_law 407 = .ok (.iaload, 1) := dk_46 (dk_at dksL_law_12 4 rfl rfl)
theorem dL_law_408 : decode cL_law 408 = .ok (.aload_n 0, 1) := dk_42 (dk_at dksL_law_12 5 rfl rfl)
theorem dL_law_409 : decode cL_law 409 = .ok (.iload_n 3, 1) := dk_29 (dk_at dksL_law_12 6 rfl rfl)
theorem dL_law_410 : decode cL_law 410 = .ok (.iconst 4, 1) := dk_7 (dk_at dksL_law_12 7 rfl rfl)
theorem dL_law_411 : decode cL_law 411 = .ok (.iadd, 1) := dk_96 (dk_at dksL_law_12 8 rfl rfl)
theorem dL_law_412 : decode cL_law 412 = .ok (.iaload, 1) := dk_46 (dk_at dksL_law_12 9 rfl rfl)
theorem dL_law_413 : decode cL_law 413 = .ok (.ifCond .eq 7, 3) := dk_153 0 7 (dk_at dksL_law_12 10 rfl rfl)
theorem dL_law_416 : decode cL_law 416 = .ok (.iconst 1, 1) := dk_4 (dk_at dksL_law_12 13 rfl rfl)
theorem dL_law_417 : decode cL_law 417 = .ok (.goto 4, 3) := dk_167 0 4 (dk_at dksL_law_12 14 rfl rfl)
theorem dL_law_420 : decode cL_law 420 = .ok (.iconst 0, 1) := dk_3 (dk_at dksL_law_12 17 rfl rfl)
theorem dL_law_421 : decode cL_law 421 = .ok (.invokevirtual 35, 3) := dk_182 0 35 (dk_at dksL_law_12 18 rfl rfl)
theorem dL_law_424 : decode cL_law 424 = .ok (.if_icmp .eq 921, 3) := dk_159 3 153 (dk_at dksL_law_12 21 rfl rfl)
theorem dL_law_427 : decode cL_law 427 = .ok (.iconst 0, 1) := dk_3 (dk_at dksL_law_13 0 rfl rfl)
theorem dL_law_428 : decode cL_law 428 = .ok (.ireturn, 1) := dk_172 (dk_at dksL_law_13 1 rfl rfl)
theorem dL_law_429 : decode cL_law 429 = .ok (.aload_n 1, 1) := dk_43 (dk_at dksL_law_13 2 rfl rfl)
theorem dL_law_430 : decode cL_law 430 = .ok (.aload_n 0, 1) := dk_42 (dk_at dksL_law_13 3 rfl rfl)
theorem dL_law_431 : decode cL_law 431 = .ok (.iload_n 3, 1) := dk_29 (dk_at dksL_law_13 4 rfl rfl)
theorem dL_law_432 : decode cL_law 432 = .ok (.iconst 1, 1) := dk_4 (dk_at dksL_law_13 5 rfl rfl)
theorem dL_law_433 : decode cL_law 433 = .ok (.iadd, 1) := dk_96 (dk_at dksL_law_13 6 rfl rfl)
theorem dL_law_434 : decode cL_law 434 = .ok (.iaload, 1) := dk_46 (dk_at dksL_law_13 7 rfl rfl)
theorem dL_law_435 : decode cL_law 435 = .ok (.aload_n 0, 1) := dk_42 (dk_at dksL_law_13 8 rfl rfl)
theorem dL_law_436 : decode cL_law 436 = .ok (.iload_n 3, 1) := dk_29 (dk_at dksL_law_13 9 rfl rfl)
theorem dL_law_437 : decode cL_law 437 = .ok (.iconst 2, 1) := dk_5 (dk_at dksL_law_13 10 rfl rfl)
theorem dL_law_438 : decode cL_law 438 = .ok (.iadd, 1) := dk_96 (dk_at dksL_law_13 11 rfl rfl)
theorem dL_law_439 : decode cL_law 439 = .ok (.iaload, 1) := dk_46 (dk_at dksL_law_13 12 rfl rfl)
theorem dL_law_440 : decode cL_law 440 = .ok (.invokevirtual 36, 3) := dk_182 0 36 (dk_at dksL_law_13 13 rfl rfl)
theorem dL_law_443 : decode cL_law 443 = .ok (.aload_n 2, 1) := dk_44 (dk_at dksL_law_13 16 rfl rfl)
theorem dL_law_444 : decode cL_law 444 = .ok (.aload_n 0, 1) := dk_42 (dk_at dksL_law_13 17 rfl rfl)
theorem dL_law_445 : decode cL_law 445 = .ok (.iload_n 3, 1) := dk_29 (dk_at dksL_law_13 18 rfl rfl)
theorem dL_law_446 : decode cL_law 446 = .ok (.iconst 1, 1) := dk_4 (dk_at dksL_law_13 19 rfl rfl)
theorem dL_law_447 : decode cL_law 447 = .ok (.iadd, 1) := dk_96 (dk_at dksL_law_13 20 rfl rfl)
theorem dL_law_448 : decode cL_law 448 = .ok (.iaload, 1) := dk_46 (dk_at dksL_law_13 21 rfl rfl)
theorem dL_law_449 : decode cL_law 449 = .ok (.aload_n 0, 1) := dk_42 (dk_at dksL_law_13 22 rfl rfl)
theorem dL_law_450 : decode cL_law 450 = .ok (.iload_n 3, 1) := dk_29 (dk_at dksL_law_13 23 rfl rfl)
theorem dL_law_451 : decode cL_law 451 = .ok (.iconst 2, 1) := dk_5 (dk_at dksL_law_14 0 rfl rfl)
theorem dL_law_452 : decode cL_law 452 = .ok (.iadd, 1) := dk_96 (dk_at dksL_law_14 1 rfl rfl)
theorem dL_law_453 : decode cL_law 453 = .ok (.iaload, 1) := dk_46 (dk_at dksL_law_14 2 rfl rfl)
theorem dL_law_454 : decode cL_law 454 = .ok (.invokevirtual 39, 3) := dk_182 0 39 (dk_at dksL_law_14 3 rfl rfl)
theorem dL_law_457 : decode cL_law 457 = .ok (.if_icmp .eq 888, 3) := dk_159 3 120 (dk_at dksL_law_14 6 rfl rfl)
theorem dL_law_460 : decode cL_law 460 = .ok (.iconst 0, 1) := dk_3 (dk_at dksL_law_14 9 rfl rfl)
theorem dL_law_461 : decode cL_law 461 = .ok (.ireturn, 1) := dk_172 (dk_at dksL_law_14 10 rfl rfl)
theorem dL_law_462 : decode cL_law 462 = .ok (.aload_n 1, 1) := dk_43 (dk_at dksL_law_14 11 rfl rfl)
theorem dL_law_463 : decode cL_law 463 = .ok (.aload_n 0, 1) := dk_42 (dk_at dksL_law_14 12 rfl rfl)
theorem dL_law_464 : decode cL_law 464 = .ok (.iload_n 3, 1) := dk_29 (dk_at dksL_law_14 13 rfl rfl)
theorem dL_law_465 : decode cL_law 465 = .ok (.iconst 1, 1) := dk_4 (dk_at dksL_law_14 14 rfl rfl)
theorem dL_law_466 : decode cL_law 466 = .ok (.iadd, 1) := dk_96 (dk_at dksL_law_14 15 rfl rfl)
theorem dL_law_467 : decode cL_law 467 = .ok (.iaload, 1) := dk_46 (dk_at dksL_law_14 16 rfl rfl)
theorem dL_law_468 : decode cL_law 468 = .ok (.aload_n 0, 1) := dk_42 (dk_at dksL_law_14 17 rfl rfl)
theorem dL_law_469 : decode cL_law 469 = .ok (.iload_n 3, 1) := dk_29 (dk_at dksL_law_14 18 rfl rfl)
theorem dL_law_470 : decode cL_law 470 = .ok (.iconst 2, 1) := dk_5 (dk_at dksL_law_14 19 rfl rfl)
theorem dL_law_471 : decode cL_law 471 = .ok (.iadd, 1) := dk_96 (dk_at dksL_law_14 20 rfl rfl)
theorem dL_law_472 : decode cL_law 472 = .ok (.iaload, 1) := dk_46 (dk_at dksL_law_14 21 rfl rfl)
theorem dL_law_473 : decode cL_law 473 = .ok (.invokevirtual 40, 3) := dk_182 0 40 (dk_at dksL_law_15 0 rfl rfl)
theorem dL_law_476 : decode cL_law 476 = .ok (.aload_n 2, 1) := dk_44 (dk_at dksL_law_15 3 rfl rfl)
theorem dL_law_477 : decode cL_law 477 = .ok (.aload_n 0, 1) := dk_42 (dk_at dksL_law_15 4 rfl rfl)
theorem dL_law_478 : decode cL_law 478 = .ok (.iload_n 3, 1) := dk_29 (dk_at dksL_law_15 5 rfl rfl)
theorem dL_law_479 : decode cL_law 479 = .ok (.iconst 1, 1) := dk_4 (dk_at dksL_law_15 6 rfl rfl)
theorem dL_law_480 : decode cL_law 480 = .ok (.iadd, 1) := dk_96 (dk_at dksL_law_15 7 rfl rfl)
theorem dL_law_481 : decode cL_law 481 = .ok (.iaload, 1) := dk_46 (dk_at dksL_law_15 8 rfl rfl)
theorem dL_law_482 : decode cL_law 482 = .ok (.aload_n 0, 1) := dk_42 (dk_at dksL_law_15 9 rfl rfl)
theorem dL_law_483 : decode cL_law 483 = .ok (.iload_n 3, 1) := dk_29 (dk_at dksL_law_15 10 rfl rfl)
theorem dL_law_484 : decode cL_law 484 = .ok (.iconst 2, 1) := dk_5 (dk_at dksL_law_15 11 rfl rfl)
theorem dL_law_485 : decode cL_law 485 = .ok (.iadd, 1) := dk_96 (dk_at dksL_law_15 12 rfl rfl)
theorem dL_law_486 : decode cL_law 486 = .ok (.iaload, 1) := dk_46 (dk_at dksL_law_15 13 rfl rfl)
theorem dL_law_487 : decode cL_law 487 = .ok (.invokevirtual 43, 3) := dk_182 0 43 (dk_at dksL_law_15 14 rfl rfl)
theorem dL_law_490 : decode cL_law 490 = .ok (.if_icmp .eq 855, 3) := dk_159 3 87 (dk_at dksL_law_15 17 rfl rfl)
theorem dL_law_493 : decode cL_law 493 = .ok (.iconst 0, 1) := dk_3 (dk_at dksL_law_15 20 rfl rfl)
theorem dL_law_494 : decode cL_law 494 = .ok (.ireturn, 1) := dk_172 (dk_at dksL_law_15 21 rfl rfl)
theorem dL_law_495 : decode cL_law 495 = .ok (.aload_n 1, 1) := dk_43 (dk_at dksL_law_15 22 rfl rfl)
theorem dL_law_496 : decode cL_law 496 = .ok (.aload_n 0, 1) := dk_42 (dk_at dksL_law_15 23 rfl rfl)
theorem dL_law_497 : decode cL_law 497 = .ok (.iload_n 3, 1) := dk_29 (dk_at dksL_law_16 0 rfl rfl)
theorem dL_law_498 : decode cL_law 498 = .ok (.iconst 1, 1) := dk_4 (dk_at dksL_law_16 1 rfl rfl)
theorem dL_law_499 : decode cL_law 499 = .ok (.iadd, 1) := dk_96 (dk_at dksL_law_16 2 rfl rfl)
theorem dL_law_500 : decode cL_law 500 = .ok (.iaload, 1) := dk_46 (dk_at dksL_law_16 3 rfl rfl)
theorem dL_law_501 : decode cL_law 501 = .ok (.invokevirtual 44, 3) := dk_182 0 44 (dk_at dksL_law_16 4 rfl rfl)
theorem dL_law_504 : decode cL_law 504 = .ok (.aload_n 2, 1) := dk_44 (dk_at dksL_law_16 7 rfl rfl)
theorem dL_law_505 : decode cL_law 505 = .ok (.aload_n 0, 1) := dk_42 (dk_at dksL_law_16 8 rfl rfl)
theorem dL_law_506 : decode cL_law 506 = .ok (.iload_n 3, 1) := dk_29 (dk_at dksL_law_16 9 rfl rfl)
theorem dL_law_507 : decode cL_law 507 = .ok (.iconst 1, 1) := dk_4 (dk_at dksL_law_16 10 rfl rfl)
theorem dL_law_508 : decode cL_law 508 = .ok (.iadd, 1) := dk_96 (dk_at dksL_law_16 11 rfl rfl)
theorem dL_law_509 : decode cL_law 509 = .ok (.iaload, 1) := dk_46 (dk_at dksL_law_16 12 rfl rfl)
theorem dL_law_510 : decode cL_law 510 = .ok (.invokevirtual 48, 3) := dk_182 0 48 (dk_at dksL_law_16 13 rfl rfl)
theorem dL_law_513 : decode cL_law 513 = .ok (.if_icmp .eq 832, 3) := dk_159 3 64 (dk_at dksL_law_16 16 rfl rfl)
theorem dL_law_516 : decode cL_law 516 = .ok (.iconst 0, 1) := dk_3 (dk_at dksL_law_16 19 rfl rfl)
theorem dL_law_517 : decode cL_law 517 = .ok (.ireturn, 1) := dk_172 (dk_at dksL_law_16 20 rfl rfl)
theorem dL_law_518 : decode cL_law 518 = .ok (.aload_n 1, 1) := dk_43 (dk_at dksL_law_16 21 rfl rfl)
theorem dL_law_519 : decode cL_law 519 = .ok (.aload_n 0, 1) := dk_42 (dk_at dksL_law_16 22 rfl rfl)
theorem dL_law_520 : decode cL_law 520 = .ok (.iload_n 3, 1) := dk_29 (dk_at dksL_law_16 23 rfl rfl)
theorem dL_law_521 : decode cL_law 521 = .ok (.iconst 1, 1) := dk_4 (dk_at dksL_law_17 0 rfl rfl)
theorem dL_law_522 : decode cL_law 522 = .ok (.iadd, 1) := dk_96 (dk_at dksL_law_17 1 rfl rfl)
theorem dL_law_523 : decode cL_law 523 = .ok (.iaload, 1) := dk_46 (dk_at dksL_law_17 2 rfl rfl)
theorem dL_law_524 : decode cL_law 524 = .ok (.invokevirtual 49, 3) := dk_182 0 49 (dk_at dksL_law_17 3 rfl rfl)
theorem dL_law_527 : decode cL_law 527 = .ok (.aload_n 2, 1) := dk_44 (dk_at dksL_law_17 6 rfl rfl)
theorem dL_law_528 : decode cL_law 528 = .ok (.aload_n 0, 1) := dk_42 (dk_at dksL_law_17 7 rfl rfl)
theorem dL_law_529 : decode cL_law 529 = .ok (.iload_n 3, 1) := dk_29 (dk_at dksL_law_17 8 rfl rfl)
theorem dL_law_530 : decode cL_law 530 = .ok (.iconst 1, 1) := dk_4 (dk_at dksL_law_17 9 rfl rfl)
theorem dL_law_531 : decode cL_law 531 = .ok (.iadd, 1) := dk_96 (dk_at dksL_law_17 10 rfl rfl)
theorem dL_law_532 : decode cL_law 532 = .ok (.iaload, 1) := dk_46 (dk_at dksL_law_17 11 rfl rfl)
theorem dL_law_533 : decode cL_law 533 = .ok (.invokevirtual 52, 3) := dk_182 0 52 (dk_at dksL_law_17 12 rfl rfl)
theorem dL_law_536 : decode cL_law 536 = .ok (.if_icmp .eq 809, 3) := dk_159 3 41 (dk_at dksL_law_17 15 rfl rfl)
theorem dL_law_539 : decode cL_law 539 = .ok (.iconst 0, 1) := dk_3 (dk_at dksL_law_17 18 rfl rfl)
theorem dL_law_540 : decode cL_law 540 = .ok (.ireturn, 1) := dk_172 (dk_at dksL_law_17 19 rfl rfl)
theorem dL_law_541 : decode cL_law 541 = .ok (.aload_n 1, 1) := dk_43 (dk_at dksL_law_17 20 rfl rfl)
theorem dL_law_542 : decode cL_law 542 = .ok (.invokevirtual 53, 3) := dk_182 0 53 (dk_at dksL_law_17 21 rfl rfl)
theorem dL_law_545 : decode cL_law 545 = .ok (.aload_n 2, 1) := dk_44 (dk_at dksL_law_18 0 rfl rfl)
theorem dL_law_546 : decode cL_law 546 = .ok (.invokevirtual 57, 3) := dk_182 0 57 (dk_at dksL_law_18 1 rfl rfl)
theorem dL_law_549 : decode cL_law 549 = .ok (.if_icmp .eq 796, 3) := dk_159 3 28 (dk_at dksL_law_18 4 rfl rfl)
theorem dL_law_552 : decode cL_law 552 = .ok (.iconst 0, 1) := dk_3 (dk_at dksL_law_18 7 rfl rfl)
theorem dL_law_553 : decode cL_law 553 = .ok (.ireturn, 1) := dk_172 (dk_at dksL_law_18 8 rfl rfl)
theorem dL_law_554 : decode cL_law 554 = .ok (.aload_n 1, 1) := dk_43 (dk_at dksL_law_18 9 rfl rfl)
theorem dL_law_555 : decode cL_law 555 = .ok (.invokevirtual 58, 3) := dk_182 0 58 (dk_at dksL_law_18 10 rfl rfl)
theorem dL_law_558 : decode cL_law 558 = .ok (.aload_n 2, 1) := dk_44 (dk_at dksL_law_18 13 rfl rfl)
theorem dL_law_559 : decode cL_law 559 = .ok (.invokevirtual 61, 3) := dk_182 0 61 (dk_at dksL_law_18 14 rfl rfl)
theorem dL_law_562 : decode cL_law 562 = .ok (.if_icmp .eq 783, 3) := dk_159 3 15 (dk_at dksL_law_18 17 rfl rfl)
theorem dL_law_565 : decode cL_law 565 = .ok (.iconst 0, 1) := dk_3 (dk_at dksL_law_18 20 rfl rfl)
theorem dL_law_566 : decode cL_law 566 = .ok (.ireturn, 1) := dk_172 (dk_at dksL_law_18 21 rfl rfl)
theorem dL_law_567 : decode cL_law 567 = .ok (.aload_n 1, 1) := dk_43 (dk_at dksL_law_18 22 rfl rfl)
theorem dL_law_568 : decode cL_law 568 = .ok (.aload_n 0, 1) := dk_42 (dk_at dksL_law_18 23 rfl rfl)
theorem dL_law_569 : decode cL_law 569 = .ok (.iload_n 3, 1) := dk_29 (dk_at dksL_law_19 0 rfl rfl)
theorem dL_law_570 : decode cL_law 570 = .ok (.iconst 1, 1) := dk_4 (dk_at dksL_law_19 1 rfl rfl)
theorem dL_law_571 : decode cL_law 571 = .ok (.iadd, 1) := dk_96 (dk_at dksL_law_19 2 rfl rfl)
theorem dL_law_572 : decode cL_law 572 = .ok (.iaload, 1) := dk_46 (dk_at dksL_law_19 3 rfl rfl)
theorem dL_law_573 : decode cL_law 573 = .ok (.aload_n 0, 1) := dk_42 (dk_at dksL_law_19 4 rfl rfl)
theorem dL_law_574 : decode cL_law 574 = .ok (.iload_n 3, 1) := dk_29 (dk_at dksL_law_19 5 rfl rfl)
theorem dL_law_575 : decode cL_law 575 = .ok (.iconst 2, 1) := dk_5 (dk_at dksL_law_19 6 rfl rfl)
theorem dL_law_576 : decode cL_law 576 = .ok (.iadd, 1) := dk_96 (dk_at dksL_law_19 7 rfl rfl)
theorem dL_law_577 : decode cL_law 577 = .ok (.iaload, 1) := dk_46 (dk_at dksL_law_19 8 rfl rfl)
theorem dL_law_578 : decode cL_law 578 = .ok (.invokevirtual 62, 3) := dk_182 0 62 (dk_at dksL_law_19 9 rfl rfl)
theorem dL_law_581 : decode cL_law 581 = .ok (.aload_n 2, 1) := dk_44 (dk_at dksL_law_19 12 rfl rfl)
theorem dL_law_582 : decode cL_law 582 = .ok (.aload_n 0, 1) := dk_42 (dk_at dksL_law_19 13 rfl rfl)
theorem dL_law_583 : decode cL_law 583 = .ok (.iload_n 3, 1) := dk_29 (dk_at dksL_law_19 14 rfl rfl)
theorem dL_law_584 : decode cL_law 584 = .ok (.iconst 1, 1) := dk_4 (dk_at dksL_law_19 15 rfl rfl)
theorem dL_law_585 : decode cL_law 585 = .ok (.iadd, 1) := dk_96 (dk_at dksL_law_19 16 rfl rfl)
theorem dL_law_586 : decode cL_law 586 = .ok (.iaload, 1) := dk_46 (dk_at dksL_law_19 17 rfl rfl)
theorem dL_law_587 : decode cL_law 587 = .ok (.aload_n 0, 1) := dk_42 (dk_at dksL_law_19 18 rfl rfl)
theorem dL_law_588 : decode cL_law 588 = .ok (.iload_n 3, 1) := dk_29 (dk_at dksL_law_19 19 rfl rfl)
theorem dL_law_589 : decode cL_law 589 = .ok (.iconst 2, 1) := dk_5 (dk_at dksL_law_19 20 rfl rfl)
theorem dL_law_590 : decode cL_law 590 = .ok (.iadd, 1) := dk_96 (dk_at dksL_law_19 21 rfl rfl)
theorem dL_law_591 : decode cL_law 591 = .ok (.iaload, 1) := dk_46 (dk_at dksL_law_19 22 rfl rfl)
theorem dL_law_592 : decode cL_law 592 = .ok (.invokevirtual 66, 3) := dk_182 0 66 (dk_at dksL_law_20 0 rfl rfl)
theorem dL_law_595 : decode cL_law 595 = .ok (.lcmp, 1) := dk_148 (dk_at dksL_law_20 3 rfl rfl)
theorem dL_law_596 : decode cL_law 596 = .ok (.ifCond .eq 749, 3) := dk_153 2 237 (dk_at dksL_law_20 4 rfl rfl)
theorem dL_law_599 : decode cL_law 599 = .ok (.iconst 0, 1) := dk_3 (dk_at dksL_law_20 7 rfl rfl)
theorem dL_law_600 : decode cL_law 600 = .ok (.ireturn, 1) := dk_172 (dk_at dksL_law_20 8 rfl rfl)
theorem dL_law_601 : decode cL_law 601 = .ok (.aload_n 1, 1) := dk_43 (dk_at dksL_law_20 9 rfl rfl)
theorem dL_law_602 : decode cL_law 602 = .ok (.aload_n 0, 1) := dk_42 (dk_at dksL_law_20 10 rfl rfl)
theorem dL_law_603 : decode cL_law 603 = .ok (.iload_n 3, 1) := dk_29 (dk_at dksL_law_20 11 rfl rfl)
theorem dL_law_604 : decode cL_law 604 = .ok (.iconst 1, 1) := dk_4 (dk_at dksL_law_20 12 rfl rfl)
theorem dL_law_605 : decode cL_law 605 = .ok (.iadd, 1) := dk_96 (dk_at dksL_law_20 13 rfl rfl)
theorem dL_law_606 : decode cL_law 606 = .ok (.iaload, 1) := dk_46 (dk_at dksL_law_20 14 rfl rfl)
theorem dL_law_607 : decode cL_law 607 = .ok (.aload_n 0, 1) := dk_42 (dk_at dksL_law_20 15 rfl rfl)
theorem dL_law_608 : decode cL_law 608 = .ok (.iload_n 3, 1) := dk_29 (dk_at dksL_law_20 16 rfl rfl)
theorem dL_law_609 : decode cL_law 609 = .ok (.iconst 2, 1) := dk_5 (dk_at dksL_law_20 17 rfl rfl)
theorem dL_law_610 : decode cL_law 610 = .ok (.iadd, 1) := dk_96 (dk_at dksL_law_20 18 rfl rfl)
theorem dL_law_611 : decode cL_law 611 = .ok (.iaload, 1) := dk_46 (dk_at dksL_law_20 19 rfl rfl)
theorem dL_law_612 : decode cL_law 612 = .ok (.aload_n 0, 1) := dk_42 (dk_at dksL_law_20 20 rfl rfl)
theorem dL_law_613 : decode cL_law 613 = .ok (.iload_n 3, 1) := dk_29 (dk_at dksL_law_20 21 rfl rfl)
theorem dL_law_614 : decode cL_law 614 = .ok (.iconst 3, 1) := dk_6 (dk_at dksL_law_20 22 rfl rfl)
theorem dL_law_615 : decode cL_law 615 = .ok (.iadd, 1) := dk_96 (dk_at dksL_law_20 23 rfl rfl)
theorem dL_law_616 : decode cL_law 616 = .ok (.iaload, 1) := dk_46 (dk_at dksL_law_21 0 rfl rfl)
theorem dL_law_617 : decode cL_law 617 = .ok (.aload_n 0, 1) := dk_42 (dk_at dksL_law_21 1 rfl rfl)
theorem dL_law_618 : decode cL_law 618 = .ok (.iload_n 3, 1) := dk_29 (dk_at dksL_law_21 2 rfl rfl)
theorem dL_law_619 : decode cL_law 619 = .ok (.iconst 4, 1) := dk_7 (dk_at dksL_law_21 3 rfl rfl)
theorem dL_law_620 : decode cL_law 620 = .ok (.iadd, 1) := dk_96 (dk_at dksL_law_21 4 rfl rfl)
theorem dL_law_621 : decode cL_law 621 = .ok (.iaload, 1) := dk_46 (dk_at dksL_law_21 5 rfl rfl)
theorem dL_law_622 : decode cL_law 622 = .ok (.invokevirtual 67, 3) := dk_182 0 67 (dk_at dksL_law_21 6 rfl rfl)
theorem dL_law_625 : decode cL_law 625 = .ok (.aload_n 2, 1) := dk_44 (dk_at dksL_law_21 9 rfl rfl)
theorem dL_law_626 : decode cL_law 626 = .ok (.aload_n 0, 1) := dk_42 (dk_at dksL_law_21 10 rfl rfl)
theorem dL_law_627 : decode cL_law 627 = .ok (.iload_n 3, 1) := dk_29 (dk_at dksL_law_21 11 rfl rfl)
theorem dL_law_628 : decode cL_law 628 = .ok (.iconst 1, 1) := dk_4 (dk_at dksL_law_21 12 rfl rfl)
theorem dL_law_629 : decode cL_law 629 = .ok (.iadd, 1) := dk_96 (dk_at dksL_law_21 13 rfl rfl)
theorem dL_law_630 : decode cL_law 630 = .ok (.iaload, 1) := dk_46 (dk_at dksL_law_21 14 rfl rfl)
theorem dL_law_631 : decode cL_law 631 = .ok (.aload_n 0, 1) := dk_42 (dk_at dksL_law_21 15 rfl rfl)
theorem dL_law_632 : decode cL_law 632 = .ok (.iload_n 3, 1) := dk_29 (dk_at dksL_law_21 16 rfl rfl)
theorem dL_law_633 : decode cL_law 633 = .ok (.iconst 2, 1) := dk_5 (dk_at dksL_law_21 17 rfl rfl)
theorem dL_law_634 : decode cL_law 634 = .ok (.iadd, 1) := dk_96 (dk_at dksL_law_21 18 rfl rfl)
theorem dL_law_635 : decode cL_law 635 = .ok (.iaload, 1) := dk_46 (dk_at dksL_law_21 19 rfl rfl)
theorem dL_law_636 : decode cL_law 636 = .ok (.aload_n 0, 1) := dk_42 (dk_at dksL_law_21 20 rfl rfl)
theorem dL_law_637 : decode cL_law 637 = .ok (.iload_n 3, 1) := dk_29 (dk_at dksL_law_21 21 rfl rfl)
theorem dL_law_638 : decode cL_law 638 = .ok (.iconst 3, 1) := dk_6 (dk_at dksL_law_21 22 rfl rfl)
theorem dL_law_639 : decode cL_law 639 = .ok (.iadd, 1) := dk_96 (dk_at dksL_law_21 23 rfl rfl)
theorem dL_law_640 : decode cL_law 640 = .ok (.iaload, 1) := dk_46 (dk_at dksL_law_22 0 rfl rfl)
theorem dL_law_641 : decode cL_law 641 = .ok (.aload_n 0, 1) := dk_42 (dk_at dksL_law_22 1 rfl rfl)
theorem dL_law_642 : decode cL_law 642 = .ok (.iload_n 3, 1) := dk_29 (dk_at dksL_law_22 2 rfl rfl)
theorem dL_law_643 : decode cL_law 643 = .ok (.iconst 4, 1) := dk_7 (dk_at dksL_law_22 3 rfl rfl)
theorem dL_law_644 : decode cL_law 644 = .ok (.iadd, 1) := dk_96 (dk_at dksL_law_22 4 rfl rfl)
theorem dL_law_645 : decode cL_law 645 = .ok (.iaload, 1) := dk_46 (dk_at dksL_law_22 5 rfl rfl)
theorem dL_law_646 : decode cL_law 646 = .ok (.invokevirtual 71, 3) := dk_182 0 71 (dk_at dksL_law_22 6 rfl rfl)
theorem dL_law_649 : decode cL_law 649 = .ok (.lcmp, 1) := dk_148 (dk_at dksL_law_22 9 rfl rfl)
theorem dL_law_650 : decode cL_law 650 = .ok (.ifCond .eq 695, 3) := dk_153 2 183 (dk_at dksL_law_22 10 rfl rfl)
theorem dL_law_653 : decode cL_law 653 = .ok (.iconst 0, 1) := dk_3 (dk_at dksL_law_22 13 rfl rfl)
theorem dL_law_654 : decode cL_law 654 = .ok (.ireturn, 1) := dk_172 (dk_at dksL_law_22 14 rfl rfl)
theorem dL_law_655 : decode cL_law 655 = .ok (.aload_n 1, 1) := dk_43 (dk_at dksL_law_22 15 rfl rfl)
theorem dL_law_656 : decode cL_law 656 = .ok (.aload_n 0, 1) := dk_42 (dk_at dksL_law_22 16 rfl rfl)
theorem dL_law_657 : decode cL_law 657 = .ok (.iload_n 3, 1) := dk_29 (dk_at dksL_law_22 17 rfl rfl)
theorem dL_law_658 : decode cL_law 658 = .ok (.iconst 1, 1) := dk_4 (dk_at dksL_law_22 18 rfl rfl)
theorem dL_law_659 : decode cL_law 659 = .ok (.iadd, 1) := dk_96 (dk_at dksL_law_22 19 rfl rfl)
theorem dL_law_660 : decode cL_law 660 = .ok (.iaload, 1) := dk_46 (dk_at dksL_law_22 20 rfl rfl)
theorem dL_law_661 : decode cL_law 661 = .ok (.aload_n 0, 1) := dk_42 (dk_at dksL_law_22 21 rfl rfl)
theorem dL_law_662 : decode cL_law 662 = .ok (.iload_n 3, 1) := dk_29 (dk_at dksL_law_22 22 rfl rfl)
theorem dL_law_663 : decode cL_law 663 = .ok (.iconst 2, 1) := dk_5 (dk_at dksL_law_22 23 rfl rfl)
theorem dL_law_664 : decode cL_law 664 = .ok (.iadd, 1) := dk_96 (dk_at dksL_law_23 0 rfl rfl)
theorem dL_law_665 : decode cL_law 665 = .ok (.iaload, 1) := dk_46 (dk_at dksL_law_23 1 rfl rfl)
theorem dL_law_666 : decode cL_law 666 = .ok (.invokevirtual 72, 3) := dk_182 0 72 (dk_at dksL_law_23 2 rfl rfl)
theorem dL_law_669 : decode cL_law 669 = .ok (.aload_n 2, 1) := dk_44 (dk_at dksL_law_23 5 rfl rfl)
theorem dL_law_670 : decode cL_law 670 = .ok (.aload_n 0, 1) := dk_42 (dk_at dksL_law_23 6 rfl rfl)
theorem dL_law_671 : decode cL_law 671 = .ok (.iload_n 3, 1) := dk_29 (dk_at dksL_law_23 7 rfl rfl)
theorem dL_law_672 : decode cL_law 672 = .ok (.iconst 1, 1) := dk_4 (dk_at dksL_law_23 8 rfl rfl)
theorem dL_law_673 : decode cL_law 673 = .ok (.iadd, 1) := dk_96 (dk_at dksL_law_23 9 rfl rfl)
theorem dL_law_674 : decode cL_law 674 = .ok (.iaload, 1) := dk_46 (dk_at dksL_law_23 10 rfl rfl)
theorem dL_law_675 : decode cL_law 675 = .ok (.aload_n 0, 1) := dk_42 (dk_at dksL_law_23 11 rfl rfl)
theorem dL_law_676 : decode cL_law 676 = .ok (.iload_n 3, 1) := dk_29 (dk_at dksL_law_23 12 rfl rfl)
theorem dL_law_677 : decode cL_law 677 = .ok (.iconst 2, 1) := dk_5 (dk_at dksL_law_23 13 rfl rfl)
theorem dL_law_678 : decode cL_law 678 = .ok (.iadd, 1) := dk_96 (dk_at dksL_law_23 14 rfl rfl)
theorem dL_law_679 : decode cL_law 679 = .ok (.iaload, 1) := dk_46 (dk_at dksL_law_23 15 rfl rfl)
theorem dL_law_680 : decode cL_law 680 = .ok (.invokevirtual 75, 3) := dk_182 0 75 (dk_at dksL_law_23 16 rfl rfl)
theorem dL_law_683 : decode cL_law 683 = .ok (.lcmp, 1) := dk_148 (dk_at dksL_law_23 19 rfl rfl)
theorem dL_law_684 : decode cL_law 684 = .ok (.ifCond .eq 661, 3) := dk_153 2 149 (dk_at dksL_law_23 20 rfl rfl)
theorem dL_law_687 : decode cL_law 687 = .ok (.iconst 0, 1) := dk_3 (dk_at dksL_law_23 23 rfl rfl)
theorem dL_law_688 : decode cL_law 688 = .ok (.ireturn, 1) := dk_172 (dk_at dksL_law_24 0 rfl rfl)
theorem dL_law_689 : decode cL_law 689 = .ok (.aload_n 1, 1) := dk_43 (dk_at dksL_law_24 1 rfl rfl)
theorem dL_law_690 : decode cL_law 690 = .ok (.aload_n 0, 1) := dk_42 (dk_at dksL_law_24 2 rfl rfl)
theorem dL_law_691 : decode cL_law 691 = .ok (.iload_n 3, 1) := dk_29 (dk_at dksL_law_24 3 rfl rfl)
theorem dL_law_692 : decode cL_law 692 = .ok (.iconst 1, 1) := dk_4 (dk_at dksL_law_24 4 rfl rfl)
theorem dL_law_693 : decode cL_law 693 = .ok (.iadd, 1) := dk_96 (dk_at dksL_law_24 5 rfl rfl)
theorem dL_law_694 : decode cL_law 694 = .ok (.iaload, 1) := dk_46 (dk_at dksL_law_24 6 rfl rfl)
theorem dL_law_695 : decode cL_law 695 = .ok (.aload_n 0, 1) := dk_42 (dk_at dksL_law_24 7 rfl rfl)
theorem dL_law_696 : decode cL_law 696 = .ok (.iload_n 3, 1) := dk_29 (dk_at dksL_law_24 8 rfl rfl)
theorem dL_law_697 : decode cL_law 697 = .ok (.iconst 2, 1) := dk_5 (dk_at dksL_law_24 9 rfl rfl)
theorem dL_law_698 : decode cL_law 698 = .ok (.iadd, 1) := dk_96 (dk_at dksL_law_24 10 rfl rfl)
theorem dL_law_699 : decode cL_law 699 = .ok (.iaload, 1) := dk_46 (dk_at dksL_law_24 11 rfl rfl)
theorem dL_law_700 : decode cL_law 700 = .ok (.invokevirtual 76, 3) := dk_182 0 76 (dk_at dksL_law_24 12 rfl rfl)
theorem dL_law_703 : decode cL_law 703 = .ok (.aload_n 2, 1) := dk_44 (dk_at dksL_law_24 15 rfl rfl)
theorem dL_law_704 : decode cL_law 704 = .ok (.aload_n 0, 1) := dk_42 (dk_at dksL_law_24 16 rfl rfl)
theorem dL_law_705 : decode cL_law 705 = .ok (.iload_n 3, 1) := dk_29 (dk_at dksL_law_24 17 rfl rfl)
theorem dL_law_706 : decode cL_law 706 = .ok (.iconst 1, 1) := dk_4 (dk_at dksL_law_24 18 rfl rfl)
theorem dL_law_707 : decode cL_law 707 = .ok (.iadd, 1) := dk_96 (dk_at dksL_law_24 19 rfl rfl)
theorem dL_law_708 : decode cL_law 708 = .ok (.iaload, 1) := dk_46 (dk_at dksL_law_24 20 rfl rfl)
theorem dL_law_709 : decode cL_law 709 = .ok (.aload_n 0, 1) := dk_42 (dk_at dksL_law_24 21 rfl rfl)
theorem dL_law_710 : decode cL_law 710 = .ok (.iload_n 3, 1) := dk_29 (dk_at dksL_law_24 22 rfl rfl)
theorem dL_law_711 : decode cL_law 711 = .ok (.iconst 2, 1) := dk_5 (dk_at dksL_law_24 23 rfl rfl)
theorem dL_law_712 : decode cL_law 712 = .ok (.iadd, 1) := dk_96 (dk_at dksL_law_25 0 rfl rfl)
theorem dL_law_713 : decode cL_law 713 = .ok (.iaload, 1) := dk_46 (dk_at dksL_law_25 1 rfl rfl)
theorem dL_law_714 : decode cL_law 714 = .ok (.invokevirtual 80, 3) := dk_182 0 80 (dk_at dksL_law_25 2 rfl rfl)
theorem dL_law_717 : decode cL_law 717 = .ok (.if_icmp .eq 628, 3) := dk_159 2 116 (dk_at dksL_law_25 5 rfl rfl)
theorem dL_law_720 : decode cL_law 720 = .ok (.iconst 0, 1) := dk_3 (dk_at dksL_law_25 8 rfl rfl)
theorem dL_law_721 : decode cL_law 721 = .ok (.ireturn, 1) := dk_172 (dk_at dksL_law_25 9 rfl rfl)
theorem dL_law_722 : decode cL_law 722 = .ok (.aload_n 1, 1) := dk_43 (dk_at dksL_law_25 10 rfl rfl)
theorem dL_law_723 : decode cL_law 723 = .ok (.aload_n 0, 1) := dk_42 (dk_at dksL_law_25 11 rfl rfl)
theorem dL_law_724 : decode cL_law 724 = .ok (.iload_n 3, 1) := dk_29 (dk_at dksL_law_25 12 rfl rfl)
theorem dL_law_725 : decode cL_law 725 = .ok (.iconst 1, 1) := dk_4 (dk_at dksL_law_25 13 rfl rfl)
theorem dL_law_726 : decode cL_law 726 = .ok (.iadd, 1) := dk_96 (dk_at dksL_law_25 14 rfl rfl)
theorem dL_law_727 : decode cL_law 727 = .ok (.iaload, 1) := dk_46 (dk_at dksL_law_25 15 rfl rfl)
theorem dL_law_728 : decode cL_law 728 = .ok (.aload_n 0, 1) := dk_42 (dk_at dksL_law_25 16 rfl rfl)
theorem dL_law_729 : decode cL_law 729 = .ok (.iload_n 3, 1) := dk_29 (dk_at dksL_law_25 17 rfl rfl)
theorem dL_law_730 : decode cL_law 730 = .ok (.iconst 2, 1) := dk_5 (dk_at dksL_law_25 18 rfl rfl)
theorem dL_law_731 : decode cL_law 731 = .ok (.iadd, 1) := dk_96 (dk_at dksL_law_25 19 rfl rfl)
theorem dL_law_732 : decode cL_law 732 = .ok (.iaload, 1) := dk_46 (dk_at dksL_law_25 20 rfl rfl)
theorem dL_law_733 : decode cL_law 733 = .ok (.invokevirtual 81, 3) := dk_182 0 81 (dk_at dksL_law_25 21 rfl rfl)
theorem dL_law_736 : decode cL_law 736 = .ok (.aload_n 2, 1) := dk_44 (dk_at dksL_law_26 0 rfl rfl)
theorem dL_law_737 : decode cL_law 737 = .ok (.aload_n 0, 1) := dk_42 (dk_at dksL_law_26 1 rfl rfl)
theorem dL_law_738 : decode cL_law 738 = .ok (.iload_n 3, 1) := dk_29 (dk_at dksL_law_26 2 rfl rfl)
theorem dL_law_739 : decode cL_law 739 = .ok (.iconst 1, 1) := dk_4 (dk_at dksL_law_26 3 rfl rfl)
theorem dL_law_740 : decode cL_law 740 = .ok (.iadd, 1) := dk_96 (dk_at dksL_law_26 4 rfl rfl)
theorem dL_law_741 : decode cL_law 741 = .ok (.iaload, 1) := dk_46 (dk_at dksL_law_26 5 rfl rfl)
theorem dL_law_742 : decode cL_law 742 = .ok (.aload_n 0, 1) := dk_42 (dk_at dksL_law_26 6 rfl rfl)
theorem dL_law_743 : decode cL_law 743 = .ok (.iload_n 3, 1) := dk_29 (dk_at dksL_law_26 7 rfl rfl)
theorem dL_law_744 : decode cL_law 744 = .ok (.iconst 2, 1) := dk_5 (dk_at dksL_law_26 8 rfl rfl)
theorem dL_law_745 : decode cL_law 745 = .ok (.iadd, 1) := dk_96 (dk_at dksL_law_26 9 rfl rfl)
theorem dL_law_746 : decode cL_law 746 = .ok (.iaload, 1) := dk_46 (dk_at dksL_law_26 10 rfl rfl)
theorem dL_law_747 : decode cL_law 747 = .ok (.invokevirtual 84, 3) := dk_182 0 84 (dk_at dksL_law_26 11 rfl rfl)
theorem dL_law_750 : decode cL_law 750 = .ok (.if_icmp .eq 595, 3) := dk_159 2 83 (dk_at dksL_law_26 14 rfl rfl)
theorem dL_law_753 : decode cL_law 753 = .ok (.iconst 0, 1) := dk_3 (dk_at dksL_law_26 17 rfl rfl)
theorem dL_law_754 : decode cL_law 754 = .ok (.ireturn, 1) := dk_172 (dk_at dksL_law_26 18 rfl rfl)
theorem dL_law_755 : decode cL_law 755 = .ok (.aload_n 1, 1) := dk_43 (dk_at dksL_law_26 19 rfl rfl)
theorem dL_law_756 : decode cL_law 756 = .ok (.aload_n 0, 1) := dk_42 (dk_at dksL_law_26 20 rfl rfl)
theorem dL_law_757 : decode cL_law 757 = .ok (.iload_n 3, 1) := dk_29 (dk_at dksL_law_26 21 rfl rfl)
theorem dL_law_758 : decode cL_law 758 = .ok (.iconst 1, 1) := dk_4 (dk_at dksL_law_26 22 rfl rfl)
theorem dL_law_759 : decode cL_law 759 = .ok (.iadd, 1) := dk_96 (dk_at dksL_law_26 23 rfl rfl)
theorem dL_law_760 : decode cL_law 760 = .ok (.iaload, 1) := dk_46 (dk_at dksL_law_27 0 rfl rfl)
theorem dL_law_761 : decode cL_law 761 = .ok (.aload_n 0, 1) := dk_42 (dk_at dksL_law_27 1 rfl rfl)
theorem dL_law_762 : decode cL_law 762 = .ok (.iload_n 3, 1) := dk_29 (dk_at dksL_law_27 2 rfl rfl)
theorem dL_law_763 : decode cL_law 763 = .ok (.iconst 2, 1) := dk_5 (dk_at dksL_law_27 3 rfl rfl)
theorem dL_law_764 : decode cL_law 764 = .ok (.iadd, 1) := dk_96 (dk_at dksL_law_27 4 rfl rfl)
theorem dL_law_765 : decode cL_law 765 = .ok (.iaload, 1) := dk_46 (dk_at dksL_law_27 5 rfl rfl)
theorem dL_law_766 : decode cL_law 766 = .ok (.invokevirtual 85, 3) := dk_182 0 85 (dk_at dksL_law_27 6 rfl rfl)
theorem dL_law_769 : decode cL_law 769 = .ok (.aload_n 2, 1) := dk_44 (dk_at dksL_law_27 9 rfl rfl)
theorem dL_law_770 : decode cL_law 770 = .ok (.aload_n 0, 1) := dk_42 (dk_at dksL_law_27 10 rfl rfl)
theorem dL_law_771 : decode cL_law 771 = .ok (.iload_n 3, 1) := dk_29 (dk_at dksL_law_27 11 rfl rfl)
theorem dL_law_772 : decode cL_law 772 = .ok (.iconst 1, 1) := dk_4 (dk_at dksL_law_27 12 rfl rfl)
theorem dL_law_773 : decode cL_law 773 = .ok (.iadd, 1) := dk_96 (dk_at dksL_law_27 13 rfl rfl)
theorem dL_law_774 : decode cL_law 774 = .ok (.iaload, 1) := dk_46 (dk_at dksL_law_27 14 rfl rfl)
theorem dL_law_775 : decode cL_law 775 = .ok (.aload_n 0, 1) := dk_42 (dk_at dksL_law_27 15 rfl rfl)
theorem dL_law_776 : decode cL_law 776 = .ok (.iload_n 3, 1) := dk_29 (dk_at dksL_law_27 16 rfl rfl)
theorem dL_law_777 : decode cL_law 777 = .ok (.iconst 2, 1) := dk_5 (dk_at dksL_law_27 17 rfl rfl)
theorem dL_law_778 : decode cL_law 778 = .ok (.iadd, 1) := dk_96 (dk_at dksL_law_27 18 rfl rfl)
theorem dL_law_779 : decode cL_law 779 = .ok (.iaload, 1) := dk_46 (dk_at dksL_law_27 19 rfl rfl)
theorem dL_law_780 : decode cL_law 780 = .ok (.invokevirtual 88, 3) := dk_182 0 88 (dk_at dksL_law_27 20 rfl rfl)
theorem dL_law_783 : decode cL_law 783 = .ok (.if_icmp .eq 562, 3) := dk_159 2 50 (dk_at dksL_law_28 0 rfl rfl)
theorem dL_law_786 : decode cL_law 786 = .ok (.iconst 0, 1) := dk_3 (dk_at dksL_law_28 3 rfl rfl)
theorem dL_law_787 : decode cL_law 787 = .ok (.ireturn, 1) := dk_172 (dk_at dksL_law_28 4 rfl rfl)
theorem dL_law_788 : decode cL_law 788 = .ok (.aload_n 1, 1) := dk_43 (dk_at dksL_law_28 5 rfl rfl)
theorem dL_law_789 : decode cL_law 789 = .ok (.aload_n 0, 1) := dk_42 (dk_at dksL_law_28 6 rfl rfl)
theorem dL_law_790 : decode cL_law 790 = .ok (.iload_n 3, 1) := dk_29 (dk_at dksL_law_28 7 rfl rfl)
theorem dL_law_791 : decode cL_law 791 = .ok (.iconst 1, 1) := dk_4 (dk_at dksL_law_28 8 rfl rfl)
theorem dL_law_792 : decode cL_law 792 = .ok (.iadd, 1) := dk_96 (dk_at dksL_law_28 9 rfl rfl)
theorem dL_law_793 : decode cL_law 793 = .ok (.iaload, 1) := dk_46 (dk_at dksL_law_28 10 rfl rfl)
theorem dL_law_794 : decode cL_law 794 = .ok (.invokevirtual 89, 3) := dk_182 0 89 (dk_at dksL_law_28 11 rfl rfl)
theorem dL_law_797 : decode cL_law 797 = .ok (.aload_n 2, 1) := dk_44 (dk_at dksL_law_28 14 rfl rfl)
theorem dL_law_798 : decode cL_law 798 = .ok (.aload_n 0, 1) := dk_42 (dk_at dksL_law_28 15 rfl rfl)
theorem dL_law_799 : decode cL_law 799 = .ok (.iload_n 3, 1) := dk_29 (dk_at dksL_law_28 16 rfl rfl)
theorem dL_law_800 : decode cL_law 800 = .ok (.iconst 1, 1) := dk_4 (dk_at dksL_law_28 17 rfl rfl)
theorem dL_law_801 : decode cL_law 801 = .ok (.iadd, 1) := dk_96 (dk_at dksL_law_28 18 rfl rfl)
theorem dL_law_802 : decode cL_law 802 = .ok (.iaload, 1) := dk_46 (dk_at dksL_law_28 19 rfl rfl)
theorem dL_law_803 : decode cL_law 803 = .ok (.invokevirtual 93, 3) := dk_182 0 93 (dk_at dksL_law_28 20 rfl rfl)
theorem dL_law_806 : decode cL_law 806 = .ok (.if_icmp .eq 539, 3) := dk_159 2 27 (dk_at dksL_law_29 0 rfl rfl)
theorem dL_law_809 : decode cL_law 809 = .ok (.iconst 0, 1) := dk_3 (dk_at dksL_law_29 3 rfl rfl)
theorem dL_law_810 : decode cL_law 810 = .ok (.ireturn, 1) := dk_172 (dk_at dksL_law_29 4 rfl rfl)
theorem dL_law_811 : decode cL_law 811 = .ok (.aload_n 1, 1) := dk_43 (dk_at dksL_law_29 5 rfl rfl)
theorem dL_law_812 : decode cL_law 812 = .ok (.aload_n 0, 1) := dk_42 (dk_at dksL_law_29 6 rfl rfl)
theorem dL_law_813 : decode cL_law 813 = .ok (.iload_n 3, 1) := dk_29 (dk_at dksL_law_29 7 rfl rfl)
theorem dL_law_814 : decode cL_law 814 = .ok (.iconst 1, 1) := dk_4 (dk_at dksL_law_29 8 rfl rfl)
theorem dL_law_815 : decode cL_law 815 = .ok (.iadd, 1) := dk_96 (dk_at dksL_law_29 9 rfl rfl)
theorem dL_law_816 : decode cL_law 816 = .ok (.iaload, 1) := dk_46 (dk_at dksL_law_29 10 rfl rfl)
theorem dL_law_817 : decode cL_law 817 = .ok (.aload_n 0, 1) := dk_42 (dk_at dksL_law_29 11 rfl rfl)
theorem dL_law_818 : decode cL_law 818 = .ok (.iload_n 3, 1) := dk_29 (dk_at dksL_law_29 12 rfl rfl)
theorem dL_law_819 : decode cL_law 819 = .ok (.iconst 2, 1) := dk_5 (dk_at dksL_law_29 13 rfl rfl)
theorem dL_law_820 : decode cL_law 820 = .ok (.iadd, 1) := dk_96 (dk_at dksL_law_29 14 rfl rfl)
theorem dL_law_821 : decode cL_law 821 = .ok (.iaload, 1) := dk_46 (dk_at dksL_law_29 15 rfl rfl)
theorem dL_law_822 : decode cL_law 822 = .ok (.invokevirtual 94, 3) := dk_182 0 94 (dk_at dksL_law_29 16 rfl rfl)
theorem dL_law_825 : decode cL_law 825 = .ok (.aload_n 2, 1) := dk_44 (dk_at dksL_law_29 19 rfl rfl)
theorem dL_law_826 : decode cL_law 826 = .ok (.aload_n 0, 1) := dk_42 (dk_at dksL_law_29 20 rfl rfl)
theorem dL_law_827 : decode cL_law 827 = .ok (.iload_n 3, 1) := dk_29 (dk_at dksL_law_29 21 rfl rfl)
theorem dL_law_828 : decode cL_law 828 = .ok (.iconst 1, 1) := dk_4 (dk_at dksL_law_29 22 rfl rfl)
theorem dL_law_829 : decode cL_law 829 = .ok (.iadd, 1) := dk_96 (dk_at dksL_law_29 23 rfl rfl)
theorem dL_law_830 : decode cL_law 830 = .ok (.iaload, 1) := dk_46 (dk_at dksL_law_30 0 rfl rfl)
theorem dL_law_831 : decode cL_law 831 = .ok (.aload_n 0, 1) := dk_42 (dk_at dksL_law_30 1 rfl rfl)
theorem dL_law_832 : decode cL_law 832 = .ok (.iload_n 3, 1) := dk_29 (dk_at dksL_law_30 2 rfl rfl)
theorem dL_law_833 : decode cL_law 833 = .ok (.iconst 2, 1) := dk_5 (dk_at dksL_law_30 3 rfl rfl)
theorem dL_law_834 : decode cL_law 834 = .ok (.iadd, 1) := dk_96 (dk_at dksL_law_30 4 rfl rfl)
theorem dL_law_835 : decode cL_law 835 = .ok (.iaload, 1) := dk_46 (dk_at dksL_law_30 5 rfl rfl)
theorem dL_law_836 : decode cL_law 836 = .ok (.invokevirtual 97, 3) := dk_182 0 97 (dk_at dksL_law_30 6 rfl rfl)
theorem dL_law_839 : decode cL_law 839 = .ok (.lcmp, 1) := dk_148 (dk_at dksL_law_30 9 rfl rfl)
theorem dL_law_840 : decode cL_law 840 = .ok (.ifCond .eq 505, 3) := dk_153 1 249 (dk_at dksL_law_30 10 rfl rfl)
theorem dL_law_843 : decode cL_law 843 = .ok (.iconst 0, 1) := dk_3 (dk_at dksL_law_30 13 rfl rfl)
theorem dL_law_844 : decode cL_law 844 = .ok (.ireturn, 1) := dk_172 (dk_at dksL_law_30 14 rfl rfl)
theorem dL_law_845 : decode cL_law 845 = .ok (.aload_n 1, 1) := dk_43 (dk_at dksL_law_30 15 rfl rfl)
theorem dL_law_846 : decode cL_law 846 = .ok (.aload_n 0, 1) := dk_42 (dk_at dksL_law_30 16 rfl rfl)
theorem dL_law_847 : decode cL_law 847 = .ok (.iload_n 3, 1) := dk_29 (dk_at dksL_law_30 17 rfl rfl)
theorem dL_law_848 : decode cL_law 848 = .ok (.iconst 1, 1) := dk_4 (dk_at dksL_law_30 18 rfl rfl)
theorem dL_law_849 : decode cL_law 849 = .ok (.iadd, 1) := dk_96 (dk_at dksL_law_30 19 rfl rfl)
theorem dL_law_850 : decode cL_law 850 = .ok (.iaload, 1) := dk_46 (dk_at dksL_law_30 20 rfl rfl)
theorem dL_law_851 : decode cL_law 851 = .ok (.aload_n 0, 1) := dk_42 (dk_at dksL_law_30 21 rfl rfl)
theorem dL_law_852 : decode cL_law 852 = .ok (.iload_n 3, 1) := dk_29 (dk_at dksL_law_30 22 rfl rfl)
theorem dL_law_853 : decode cL_law 853 = .ok (.iconst 2, 1) := dk_5 (dk_at dksL_law_30 23 rfl rfl)
theorem dL_law_854 : decode cL_law 854 = .ok (.iadd, 1) := dk_96 (dk_at dksL_law_31 0 rfl rfl)
theorem dL_law_855 : decode cL_law 855 = .ok (.iaload, 1) := dk_46 (dk_at dksL_law_31 1 rfl rfl)
theorem dL_law_856 : decode cL_law 856 = .ok (.invokevirtual 98, 3) := dk_182 0 98 (dk_at dksL_law_31 2 rfl rfl)
theorem dL_law_859 : decode cL_law 859 = .ok (.aload_n 2, 1) := dk_44 (dk_at dksL_law_31 5 rfl rfl)
theorem dL_law_860 : decode cL_law 860 = .ok (.aload_n 0, 1) := dk_42 (dk_at dksL_law_31 6 rfl rfl)
theorem dL_law_861 : decode cL_law 861 = .ok (.iload_n 3, 1) := dk_29 (dk_at dksL_law_31 7 rfl rfl)
theorem dL_law_862 : decode cL_law 862 = .ok (.iconst 1, 1) := dk_4 (dk_at dksL_law_31 8 rfl rfl)
theorem dL_law_863 : decode cL_law 863 = .ok (.iadd, 1) := dk_96 (dk_at dksL_law_31 9 rfl rfl)
theorem dL_law_864 : decode cL_law 864 = .ok (.iaload, 1) := dk_46 (dk_at dksL_law_31 10 rfl rfl)
theorem dL_law_865 : decode cL_law 865 = .ok (.aload_n 0, 1) := dk_42 (dk_at dksL_law_31 11 rfl rfl)
theorem dL_law_866 : decode cL_law 866 = .ok (.iload_n 3, 1) := dk_29 (dk_at dksL_law_31 12 rfl rfl)
theorem dL_law_867 : decode cL_law 867 = .ok (.iconst 2, 1) := dk_5 (dk_at dksL_law_31 13 rfl rfl)
theorem dL_law_868 : decode cL_law 868 = .ok (.iadd, 1) := dk_96 (dk_at dksL_law_31 14 rfl rfl)
theorem dL_law_869 : decode cL_law 869 = .ok (.iaload, 1) := dk_46 (dk_at dksL_law_31 15 rfl rfl)
theorem dL_law_870 : decode cL_law 870 = .ok (.invokevirtual 101, 3) := dk_182 0 101 (dk_at dksL_law_31 16 rfl rfl)
theorem dL_law_873 : decode cL_law 873 = .ok (.lcmp, 1) := dk_148 (dk_at dksL_law_31 19 rfl rfl)
theorem dL_law_874 : decode cL_law 874 = .ok (.ifCond .eq 471, 3) := dk_153 1 215 (dk_at dksL_law_31 20 rfl rfl)
theorem dL_law_877 : decode cL_law 877 = .ok (.iconst 0, 1) := dk_3 (dk_at dksL_law_31 23 rfl rfl)
theorem dL_law_878 : decode cL_law 878 = .ok (.ireturn, 1) := dk_172 (dk_at dksL_law_32 0 rfl rfl)
theorem dL_law_879 : decode cL_law 879 = .ok (.aload_n 1, 1) := dk_43 (dk_at dksL_law_32 1 rfl rfl)
theorem dL_law_880 : decode cL_law 880 = .ok (.aload_n 0, 1) := dk_42 (dk_at dksL_law_32 2 rfl rfl)
theorem dL_law_881 : decode cL_law 881 = .ok (.iload_n 3, 1) := dk_29 (dk_at dksL_law_32 3 rfl rfl)
theorem dL_law_882 : decode cL_law 882 = .ok (.iconst 1, 1) := dk_4 (dk_at dksL_law_32 4 rfl rfl)
theorem dL_law_883 : decode cL_law 883 = .ok (.iadd, 1) := dk_96 (dk_at dksL_law_32 5 rfl rfl)
theorem dL_law_884 : decode cL_law 884 = .ok (.iaload, 1) := dk_46 (dk_at dksL_law_32 6 rfl rfl)
theorem dL_law_885 : decode cL_law 885 = .ok (.aload_n 0, 1) := dk_42 (dk_at dksL_law_32 7 rfl rfl)
theorem dL_law_886 : decode cL_law 886 = .ok (.iload_n 3, 1) := dk_29 (dk_at dksL_law_32 8 rfl rfl)
theorem dL_law_887 : decode cL_law 887 = .ok (.iconst 2, 1) := dk_5 (dk_at dksL_law_32 9 rfl rfl)
theorem dL_law_888 : decode cL_law 888 = .ok (.iadd, 1) := dk_96 (dk_at dksL_law_32 10 rfl rfl)
theorem dL_law_889 : decode cL_law 889 = .ok (.iaload, 1) := dk_46 (dk_at dksL_law_32 11 rfl rfl)
theorem dL_law_890 : decode cL_law 890 = .ok (.invokevirtual 102, 3) := dk_182 0 102 (dk_at dksL_law_32 12 rfl rfl)
theorem dL_law_893 : decode cL_law 893 = .ok (.aload_n 2, 1) := dk_44 (dk_at dksL_law_32 15 rfl rfl)
theorem dL_law_894 : decode cL_law 894 = .ok (.aload_n 0, 1) := dk_42 (dk_at dksL_law_32 16 rfl rfl)
theorem dL_law_895 : decode cL_law 895 = .ok (.iload_n 3, 1) := dk_29 (dk_at dksL_law_32 17 rfl rfl)
theorem dL_law_896 : decode cL_law 896 = .ok (.iconst 1, 1) := dk_4 (dk_at dksL_law_32 18 rfl rfl)
theorem dL_law_897 : decode cL_law 897 = .ok (.iadd, 1) := dk_96 (dk_at dksL_law_32 19 rfl rfl)
theorem dL_law_898 : decode cL_law 898 = .ok (.iaload, 1) := dk_46 (dk_at dksL_law_32 20 rfl rfl)
theorem dL_law_899 : decode cL_law 899 = .ok (.aload_n 0, 1) := dk_42 (dk_at dksL_law_32 21 rfl rfl)
theorem dL_law_900 : decode cL_law 900 = .ok (.iload_n 3, 1) := dk_29 (dk_at dksL_law_32 22 rfl rfl)
theorem dL_law_901 : decode cL_law 901 = .ok (.iconst 2, 1) := dk_5 (dk_at dksL_law_32 23 rfl rfl)
theorem dL_law_902 : decode cL_law 902 = .ok (.iadd, 1) := dk_96 (dk_at dksL_law_33 0 rfl rfl)
theorem dL_law_903 : decode cL_law 903 = .ok (.iaload, 1) := dk_46 (dk_at dksL_law_33 1 rfl rfl)
theorem dL_law_904 : decode cL_law 904 = .ok (.invokevirtual 105, 3) := dk_182 0 105 (dk_at dksL_law_33 2 rfl rfl)
theorem dL_law_907 : decode cL_law 907 = .ok (.if_icmp .eq 438, 3) := dk_159 1 182 (dk_at dksL_law_33 5 rfl rfl)
theorem dL_law_910 : decode cL_law 910 = .ok (.iconst 0, 1) := dk_3 (dk_at dksL_law_33 8 rfl rfl)
theorem dL_law_911 : decode cL_law 911 = .ok (.ireturn, 1) := dk_172 (dk_at dksL_law_33 9 rfl rfl)
theorem dL_law_912 : decode cL_law 912 = .ok (.aload_n 1, 1) := dk_43 (dk_at dksL_law_33 10 rfl rfl)
theorem dL_law_913 : decode cL_law 913 = .ok (.aload_n 0, 1) := dk_42 (dk_at dksL_law_33 11 rfl rfl)
theorem dL_law_914 : decode cL_law 914 = .ok (.iload_n 3, 1) := dk_29 (dk_at dksL_law_33 12 rfl rfl)
theorem dL_law_915 : decode cL_law 915 = .ok (.iconst 1, 1) := dk_4 (dk_at dksL_law_33 13 rfl rfl)
theorem dL_law_916 : decode cL_law 916 = .ok (.iadd, 1) := dk_96 (dk_at dksL_law_33 14 rfl rfl)
theorem dL_law_917 : decode cL_law 917 = .ok (.iaload, 1) := dk_46 (dk_at dksL_law_33 15 rfl rfl)
theorem dL_law_918 : decode cL_law 918 = .ok (.aload_n 0, 1) := dk_42 (dk_at dksL_law_33 16 rfl rfl)
theorem dL_law_919 : decode cL_law 919 = .ok (.iload_n 3, 1) := dk_29 (dk_at dksL_law_33 17 rfl rfl)
theorem dL_law_920 : decode cL_law 920 = .ok (.iconst 2, 1) := dk_5 (dk_at dksL_law_33 18 rfl rfl)
theorem dL_law_921 : decode cL_law 921 = .ok (.iadd, 1) := dk_96 (dk_at dksL_law_33 19 rfl rfl)
theorem dL_law_922 : decode cL_law 922 = .ok (.iaload, 1) := dk_46 (dk_at dksL_law_33 20 rfl rfl)
theorem dL_law_923 : decode cL_law 923 = .ok (.invokevirtual 106, 3) := dk_182 0 106 (dk_at dksL_law_33 21 rfl rfl)
theorem dL_law_926 : decode cL_law 926 = .ok (.aload_n 2, 1) := dk_44 (dk_at dksL_law_34 0 rfl rfl)
theorem dL_law_927 : decode cL_law 927 = .ok (.aload_n 0, 1) := dk_42 (dk_at dksL_law_34 1 rfl rfl)
theorem dL_law_928 : decode cL_law 928 = .ok (.iload_n 3, 1) := dk_29 (dk_at dksL_law_34 2 rfl rfl)
theorem dL_law_929 : decode cL_law 929 = .ok (.iconst 1, 1) := dk_4 (dk_at dksL_law_34 3 rfl rfl)
theorem dL_law_930 : decode cL_law 930 = .ok (.iadd, 1) := dk_96 (dk_at dksL_law_34 4 rfl rfl)
theorem dL_law_931 : decode cL_law 931 = .ok (.iaload, 1) := dk_46 (dk_at dksL_law_34 5 rfl rfl)
theorem dL_law_932 : decode cL_law 932 = .ok (.aload_n 0, 1) := dk_42 (dk_at dksL_law_34 6 rfl rfl)
theorem dL_law_933 : decode cL_law 933 = .ok (.iload_n 3, 1) := dk_29 (dk_at dksL_law_34 7 rfl rfl)
theorem dL_law_934 : decode cL_law 934 = .ok (.iconst 2, 1) := dk_5 (dk_at dksL_law_34 8 rfl rfl)
theorem dL_law_935 : decode cL_law 935 = .ok (.iadd, 1) := dk_96 (dk_at dksL_law_34 9 rfl rfl)
theorem dL_law_936 : decode cL_law 936 = .ok (.iaload, 1) := dk_46 (dk_at dksL_law_34 10 rfl rfl)
theorem dL_law_937 : decode cL_law 937 = .ok (.invokevirtual 109, 3) := dk_182 0 109 (dk_at dksL_law_34 11 rfl rfl)
theorem dL_law_940 : decode cL_law 940 = .ok (.if_icmp .eq 405, 3) := dk_159 1 149 (dk_at dksL_law_34 14 rfl rfl)
theorem dL_law_943 : decode cL_law 943 = .ok (.iconst 0, 1) := dk_3 (dk_at dksL_law_34 17 rfl rfl)
theorem dL_law_944 : decode cL_law 944 = .ok (.ireturn, 1) := dk_172 (dk_at dksL_law_34 18 rfl rfl)
theorem dL_law_945 : decode cL_law 945 = .ok (.aload_n 1, 1) := dk_43 (dk_at dksL_law_34 19 rfl rfl)
theorem dL_law_946 : decode cL_law 946 = .ok (.aload_n 0, 1) := dk_42 (dk_at dksL_law_34 20 rfl rfl)
theorem dL_law_947 : decode cL_law 947 = .ok (.iload_n 3, 1) := dk_29 (dk_at dksL_law_34 21 rfl rfl)
theorem dL_law_948 : decode cL_law 948 = .ok (.iconst 1, 1) := dk_4 (dk_at dksL_law_34 22 rfl rfl)
theorem dL_law_949 : decode cL_law 949 = .ok (.iadd, 1) := dk_96 (dk_at dksL_law_34 23 rfl rfl)
theorem dL_law_950 : decode cL_law 950 = .ok (.iaload, 1) := dk_46 (dk_at dksL_law_35 0 rfl rfl)
theorem dL_law_951 : decode cL_law 951 = .ok (.aload_n 0, 1) := dk_42 (dk_at dksL_law_35 1 rfl rfl)
theorem dL_law_952 : decode cL_law 952 = .ok (.iload_n 3, 1) := dk_29 (dk_at dksL_law_35 2 rfl rfl)
theorem dL_law_953 : decode cL_law 953 = .ok (.iconst 2, 1) := dk_5 (dk_at dksL_law_35 3 rfl rfl)
theorem dL_law_954 : decode cL_law 954 = .ok (.iadd, 1) := dk_96 (dk_at dksL_law_35 4 rfl rfl)
theorem dL_law_955 : decode cL_law 955 = .ok (.iaload, 1) := dk_46 (dk_at dksL_law_35 5 rfl rfl)
theorem dL_law_956 : decode cL_law 956 = .ok (.aload_n 0, 1) := dk_42 (dk_at dksL_law_35 6 rfl rfl)
theorem dL_law_957 : decode cL_law 957 = .ok (.iload_n 3, 1) := dk_29 (dk_at dksL_law_35 7 rfl rfl)
theorem dL_law_958 : decode cL_law 958 = .ok (.iconst 3, 1) := dk_6 (dk_at dksL_law_35 8 rfl rfl)
theorem dL_law_959 : decode cL_law 959 = .ok (.iadd, 1) := dk_96 (dk_at dksL_law_35 9 rfl rfl)
theorem dL_law_960 : decode cL_law 960 = .ok (.iaload, 1) := dk_46 (dk_at dksL_law_35 10 rfl rfl)
theorem dL_law_961 : decode cL_law 961 = .ok (.invokevirtual 110, 3) := dk_182 0 110 (dk_at dksL_law_35 11 rfl rfl)
theorem dL_law_964 : decode cL_law 964 = .ok (.aload_n 2, 1) := dk_44 (dk_at dksL_law_35 14 rfl rfl)
theorem dL_law_965 : decode cL_law 965 = .ok (.aload_n 0, 1) := dk_42 (dk_at dksL_law_35 15 rfl rfl)
theorem dL_law_966 : decode cL_law 966 = .ok (.iload_n 3, 1) := dk_29 (dk_at dksL_law_35 16 rfl rfl)
theorem dL_law_967 : decode cL_law 967 = .ok (.iconst 1, 1) := dk_4 (dk_at dksL_law_35 17 rfl rfl)
theorem dL_law_968 : decode cL_law 968 = .ok (.iadd, 1) := dk_96 (dk_at dksL_law_35 18 rfl rfl)
theorem dL_law_969 : decode cL_law 969 = .ok (.iaload, 1) := dk_46 (dk_at dksL_law_35 19 rfl rfl)
theorem dL_law_970 : decode cL_law 970 = .ok (.aload_n 0, 1) := dk_42 (dk_at dksL_law_35 20 rfl rfl)
theorem dL_law_971 : decode cL_law 971 = .ok (.iload_n 3, 1) := dk_29 (dk_at dksL_law_35 21 rfl rfl)
theorem dL_law_972 : decode cL_law 972 = .ok (.iconst 2, 1) := dk_5 (dk_at dksL_law_35 22 rfl rfl)
theorem dL_law_973 : decode cL_law 973 = .ok (.iadd, 1) := dk_96 (dk_at dksL_law_35 23 rfl rfl)
theorem dL_law_974 : decode cL_law 974 = .ok (.iaload, 1) := dk_46 (dk_at dksL_law_36 0 rfl rfl)
theorem dL_law_975 : decode cL_law 975 = .ok (.aload_n 0, 1) := dk_42 (dk_at dksL_law_36 1 rfl rfl)
theorem dL_law_976 : decode cL_law 976 = .ok (.iload_n 3, 1) := dk_29 (dk_at dksL_law_36 2 rfl rfl)
theorem dL_law_977 : decode cL_law 977 = .ok (.iconst 3, 1) := dk_6 (dk_at dksL_law_36 3 rfl rfl)
theorem dL_law_978 : decode cL_law 978 = .ok (.iadd, 1) := dk_96 (dk_at dksL_law_36 4 rfl rfl)
theorem dL_law_979 : decode cL_law 979 = .ok (.iaload, 1) := dk_46 (dk_at dksL_law_36 5 rfl rfl)
theorem dL_law_980 : decode cL_law 980 = .ok (.invokevirtual 114, 3) := dk_182 0 114 (dk_at dksL_law_36 6 rfl rfl)
theorem dL_law_983 : decode cL_law 983 = .ok (.if_icmp .eq 362, 3) := dk_159 1 106 (dk_at dksL_law_36 9 rfl rfl)
theorem dL_law_986 : decode cL_law 986 = .ok (.iconst 0, 1) := dk_3 (dk_at dksL_law_36 12 rfl rfl)
theorem dL_law_987 : decode cL_law 987 = .ok (.ireturn, 1) := dk_172 (dk_at dksL_law_36 13 rfl rfl)
theorem dL_law_988 : decode cL_law 988 = .ok (.aload_n 1, 1) := dk_43 (dk_at dksL_law_36 14 rfl rfl)
theorem dL_law_989 : decode cL_law 989 = .ok (.aload_n 0, 1) := dk_42 (dk_at dksL_law_36 15 rfl rfl)
theorem dL_law_990 : decode cL_law 990 = .ok (.iload_n 3, 1) := dk_29 (dk_at dksL_law_36 16 rfl rfl)
theorem dL_law_991 : decode cL_law 991 = .ok (.iconst 1, 1) := dk_4 (dk_at dksL_law_36 17 rfl rfl)
theorem dL_law_992 : decode cL_law 992 = .ok (.iadd, 1) := dk_96 (dk_at dksL_law_36 18 rfl rfl)
theorem dL_law_993 : decode cL_law 993 = .ok (.iaload, 1) := dk_46 (dk_at dksL_law_36 19 rfl rfl)
theorem dL_law_994 : decode cL_law 994 = .ok (.aload_n 0, 1) := dk_42 (dk_at dksL_law_36 20 rfl rfl)
theorem dL_law_995 : decode cL_law 995 = .ok (.iload_n 3, 1) := dk_29 (dk_at dksL_law_36 21 rfl rfl)
theorem dL_law_996 : decode cL_law 996 = .ok (.iconst 2, 1) := dk_5 (dk_at dksL_law_36 22 rfl rfl)
theorem dL_law_997 : decode cL_law 997 = .ok (.iadd, 1) := dk_96 (dk_at dksL_law_36 23 rfl rfl)
theorem dL_law_998 : decode cL_law 998 = .ok (.iaload, 1) := dk_46 (dk_at dksL_law_37 0 rfl rfl)
theorem dL_law_999 : decode cL_law 999 = .ok (.invokevirtual 115, 3) := dk_182 0 115 (dk_at dksL_law_37 1 rfl rfl)
theorem dL_law_1002 : decode cL_law 1002 = .ok (.aload_n 2, 1) := dk_44 (dk_at dksL_law_37 4 rfl rfl)
theorem dL_law_1003 : decode cL_law 1003 = .ok (.aload_n 0, 1) := dk_42 (dk_at dksL_law_37 5 rfl rfl)
theorem dL_law_1004 : decode cL_law 1004 = .ok (.iload_n 3, 1) := dk_29 (dk_at dksL_law_37 6 rfl rfl)
theorem dL_law_1005 : decode cL_law 1005 = .ok (.iconst 1, 1) := dk_4 (dk_at dksL_law_37 7 rfl rfl)
theorem dL_law_1006 : decode cL_law 1006 = .ok (.iadd, 1) := dk_96 (dk_at dksL_law_37 8 rfl rfl)
theorem dL_law_1007 : decode cL_law 1007 = .ok (.iaload, 1) := dk_46 (dk_at dksL_law_37 9 rfl rfl)
theorem dL_law_1008 : decode cL_law 1008 = .ok (.aload_n 0, 1) := dk_42 (dk_at dksL_law_37 10 rfl rfl)
theorem dL_law_1009 : decode cL_law 1009 = .ok (.iload_n 3, 1) := dk_29 (dk_at dksL_law_37 11 rfl rfl)
theorem dL_law_1010 : decode cL_law 1010 = .ok (.iconst 2, 1) := dk_5 (dk_at dksL_law_37 12 rfl rfl)
theorem dL_law_1011 : decode cL_law 1011 = .ok (.iadd, 1) := dk_96 (dk_at dksL_law_37 13 rfl rfl)
theorem dL_law_1012 : decode cL_law 1012 = .ok (.iaload, 1) := dk_46 (dk_at dksL_law_37 14 rfl rfl)
theorem dL_law_1013 : decode cL_law 1013 = .ok (.invokevirtual 118, 3) := dk_182 0 118 (dk_at dksL_law_37 15 rfl rfl)
theorem dL_law_1016 : decode cL_law 1016 = .ok (.if_icmp .eq 329, 3) := dk_159 1 73 (dk_at dksL_law_37 18 rfl rfl)
theorem dL_law_1019 : decode cL_law 1019 = .ok (.iconst 0, 1) := dk_3 (dk_at dksL_law_37 21 rfl rfl)
theorem dL_law_1020 : decode cL_law 1020 = .ok (.ireturn, 1) := dk_172 (dk_at dksL_law_37 22 rfl rfl)
theorem dL_law_1021 : decode cL_law 1021 = .ok (.aload_n 1, 1) := dk_43 (dk_at dksL_law_37 23 rfl rfl)
theorem dL_law_1022 : decode cL_law 1022 = .ok (.aload_n 0, 1) := dk_42 (dk_at dksL_law_38 0 rfl rfl)
theorem dL_law_1023 : decode cL_law 1023 = .ok (.iload_n 3, 1) := dk_29 (dk_at dksL_law_38 1 rfl rfl)
theorem dL_law_1024 : decode cL_law 1024 = .ok (.iconst 1, 1) := dk_4 (dk_at dksL_law_38 2 rfl rfl)
theorem dL_law_1025 : decode cL_law 1025 = .ok (.iadd, 1) := dk_96 (dk_at dksL_law_38 3 rfl rfl)
theorem dL_law_1026 : decode cL_law 1026 = .ok (.iaload, 1) := dk_46 (dk_at dksL_law_38 4 rfl rfl)
theorem dL_law_1027 : decode cL_law 1027 = .ok (.aload_n 0, 1) := dk_42 (dk_at dksL_law_38 5 rfl rfl)
theorem dL_law_1028 : decode cL_law 1028 = .ok (.iload_n 3, 1) := dk_29 (dk_at dksL_law_38 6 rfl rfl)
theorem dL_law_1029 : decode cL_law 1029 = .ok (.iconst 2, 1) := dk_5 (dk_at dksL_law_38 7 rfl rfl)
theorem dL_law_1030 : decode cL_law 1030 = .ok (.iadd, 1) := dk_96 (dk_at dksL_law_38 8 rfl rfl)
theorem dL_law_1031 : decode cL_law 1031 = .ok (.iaload, 1) := dk_46 (dk_at dksL_law_38 9 rfl rfl)
theorem dL_law_1032 : decode cL_law 1032 = .ok (.invokevirtual 119, 3) := dk_182 0 119 (dk_at dksL_law_38 10 rfl rfl)
theorem dL_law_1035 : decode cL_law 1035 = .ok (.aload_n 2, 1) := dk_44 (dk_at dksL_law_38 13 rfl rfl)
theorem dL_law_1036 : decode cL_law 1036 = .ok (.aload_n 0, 1) := dk_42 (dk_at dksL_law_38 14 rfl rfl)
theorem dL_law_1037 : decode cL_law 1037 = .ok (.iload_n 3, 1) := dk_29 (dk_at dksL_law_38 15 rfl rfl)
theorem dL_law_1038 : decode cL_law 1038 = .ok (.iconst 1, 1) := dk_4 (dk_at dksL_law_38 16 rfl rfl)
theorem dL_law_1039 : decode cL_law 1039 = .ok (.iadd, 1) := dk_96 (dk_at dksL_law_38 17 rfl rfl)
theorem dL_law_1040 : decode cL_law 1040 = .ok (.iaload, 1) := dk_46 (dk_at dksL_law_38 18 rfl rfl)
theorem dL_law_1041 : decode cL_law 1041 = .ok (.aload_n 0, 1) := dk_42 (dk_at dksL_law_38 19 rfl rfl)
theorem dL_law_1042 : decode cL_law 1042 = .ok (.iload_n 3, 1) := dk_29 (dk_at dksL_law_38 20 rfl rfl)
theorem dL_law_1043 : decode cL_law 1043 = .ok (.iconst 2, 1) := dk_5 (dk_at dksL_law_38 21 rfl rfl)
theorem dL_law_1044 : decode cL_law 1044 = .ok (.iadd, 1) := dk_96 (dk_at dksL_law_38 22 rfl rfl)
theorem dL_law_1045 : decode cL_law 1045 = .ok (.iaload, 1) := dk_46 (dk_at dksL_law_38 23 rfl rfl)
theorem dL_law_1046 : decode cL_law 1046 = .ok (.invokevirtual 122, 3) := dk_182 0 122 (dk_at dksL_law_39 0 rfl rfl)
theorem dL_law_1049 : decode cL_law 1049 = .ok (.if_icmp .eq 296, 3) := dk_159 1 40 (dk_at dksL_law_39 3 rfl rfl)
theorem dL_law_1052 : decode cL_law 1052 = .ok (.iconst 0, 1) := dk_3 (dk_at dksL_law_39 6 rfl rfl)
theorem dL_law_1053 : decode cL_law 1053 = .ok (.ireturn, 1) := dk_172 (dk_at dksL_law_39 7 rfl rfl)
theorem dL_law_1054 : decode cL_law 1054 = .ok (.aload_n 1, 1) := dk_43 (dk_at dksL_law_39 8 rfl rfl)
theorem dL_law_1055 : decode cL_law 1055 = .ok (.aload_n 0, 1) := dk_42 (dk_at dksL_law_39 9 rfl rfl)
theorem dL_law_1056 : decode cL_law 1056 = .ok (.iload_n 3, 1) := dk_29 (dk_at dksL_law_39 10 rfl rfl)
theorem dL_law_1057 : decode cL_law 1057 = .ok (.iconst 1, 1) := dk_4 (dk_at dksL_law_39 11 rfl rfl)
theorem dL_law_1058 : decode cL_law 1058 = .ok (.iadd, 1) := dk_96 (dk_at dksL_law_39 12 rfl rfl)
theorem dL_law_1059 : decode cL_law 1059 = .ok (.iaload, 1) := dk_46 (dk_at dksL_law_39 13 rfl rfl)
theorem dL_law_1060 : decode cL_law 1060 = .ok (.invokevirtual 123, 3) := dk_182 0 123 (dk_at dksL_law_39 14 rfl rfl)
theorem dL_law_1063 : decode cL_law 1063 = .ok (.aload_n 2, 1) := dk_44 (dk_at dksL_law_39 17 rfl rfl)
theorem dL_law_1064 : decode cL_law 1064 = .ok (.aload_n 0, 1) := dk_42 (dk_at dksL_law_39 18 rfl rfl)
theorem dL_law_1065 : decode cL_law 1065 = .ok (.iload_n 3, 1) := dk_29 (dk_at dksL_law_39 19 rfl rfl)
theorem dL_law_1066 : decode cL_law 1066 = .ok (.iconst 1, 1) := dk_4 (dk_at dksL_law_39 20 rfl rfl)
theorem dL_law_1067 : decode cL_law 1067 = .ok (.iadd, 1) := dk_96 (dk_at dksL_law_39 21 rfl rfl)
theorem dL_law_1068 : decode cL_law 1068 = .ok (.iaload, 1) := dk_46 (dk_at dksL_law_39 22 rfl rfl)
theorem dL_law_1069 : decode cL_law 1069 = .ok (.invokevirtual 126, 3) := dk_182 0 126 (dk_at dksL_law_40 0 rfl rfl)
theorem dL_law_1072 : decode cL_law 1072 = .ok (.if_icmp .eq 273, 3) := dk_159 1 17 (dk_at dksL_law_40 3 rfl rfl)
theorem dL_law_1075 : decode cL_law 1075 = .ok (.iconst 0, 1) := dk_3 (dk_at dksL_law_40 6 rfl rfl)
theorem dL_law_1076 : decode cL_law 1076 = .ok (.ireturn, 1) := dk_172 (dk_at dksL_law_40 7 rfl rfl)
theorem dL_law_1077 : decode cL_law 1077 = .ok (.aload_n 1, 1) := dk_43 (dk_at dksL_law_40 8 rfl rfl)
theorem dL_law_1078 : decode cL_law 1078 = .ok (.aload_n 0, 1) := dk_42 (dk_at dksL_law_40 9 rfl rfl)
theorem dL_law_1079 : decode cL_law 1079 = .ok (.iload_n 3, 1) := dk_29 (dk_at dksL_law_40 10 rfl rfl)
theorem dL_law_1080 : decode cL_law 1080 = .ok (.iconst 1, 1) := dk_4 (dk_at dksL_law_40 11 rfl rfl)
theorem dL_law_1081 : decode cL_law 1081 = .ok (.iadd, 1) := dk_96 (dk_at dksL_law_40 12 rfl rfl)
theorem dL_law_1082 : decode cL_law 1082 = .ok (.iaload, 1) := dk_46 (dk_at dksL_law_40 13 rfl rfl)
theorem dL_law_1083 : decode cL_law 1083 = .ok (.aload_n 0, 1) := dk_42 (dk_at dksL_law_40 14 rfl rfl)
theorem dL_law_1084 : decode cL_law 1084 = .ok (.iload_n 3, 1) := dk_29 (dk_at dksL_law_40 15 rfl rfl)
theorem dL_law_1085 : decode cL_law 1085 = .ok (.iconst 2, 1) := dk_5 (dk_at dksL_law_40 16 rfl rfl)
theorem dL_law_1086 : decode cL_law 1086 = .ok (.iadd, 1) := dk_96 (dk_at dksL_law_40 17 rfl rfl)
theorem dL_law_1087 : decode cL_law 1087 = .ok (.iaload, 1) := dk_46 (dk_at dksL_law_40 18 rfl rfl)
theorem dL_law_1088 : decode cL_law 1088 = .ok (.invokevirtual 127, 3) := dk_182 0 127 (dk_at dksL_law_40 19 rfl rfl)
theorem dL_law_1091 : decode cL_law 1091 = .ok (.aload_n 2, 1) := dk_44 (dk_at dksL_law_40 22 rfl rfl)
theorem dL_law_1092 : decode cL_law 1092 = .ok (.aload_n 0, 1) := dk_42 (dk_at dksL_law_40 23 rfl rfl)
theorem dL_law_1093 : decode cL_law 1093 = .ok (.iload_n 3, 1) := dk_29 (dk_at dksL_law_41 0 rfl rfl)
theorem dL_law_1094 : decode cL_law 1094 = .ok (.iconst 1, 1) := dk_4 (dk_at dksL_law_41 1 rfl rfl)
theorem dL_law_1095 : decode cL_law 1095 = .ok (.iadd, 1) := dk_96 (dk_at dksL_law_41 2 rfl rfl)
theorem dL_law_1096 : decode cL_law 1096 = .ok (.iaload, 1) := dk_46 (dk_at dksL_law_41 3 rfl rfl)
theorem dL_law_1097 : decode cL_law 1097 = .ok (.aload_n 0, 1) := dk_42 (dk_at dksL_law_41 4 rfl rfl)
theorem dL_law_1098 : decode cL_law 1098 = .ok (.iload_n 3, 1) := dk_29 (dk_at dksL_law_41 5 rfl rfl)
theorem dL_law_1099 : decode cL_law 1099 = .ok (.iconst 2, 1) := dk_5 (dk_at dksL_law_41 6 rfl rfl)
theorem dL_law_1100 : decode cL_law 1100 = .ok (.iadd, 1) := dk_96 (dk_at dksL_law_41 7 rfl rfl)
theorem dL_law_1101 : decode cL_law 1101 = .ok (.iaload, 1) := dk_46 (dk_at dksL_law_41 8 rfl rfl)
theorem dL_law_1102 : decode cL_law 1102 = .ok (.invokevirtual 130, 3) := dk_182 0 130 (dk_at dksL_law_41 9 rfl rfl)
theorem dL_law_1105 : decode cL_law 1105 = .ok (.if_icmp .eq 240, 3) := dk_159 0 240 (dk_at dksL_law_41 12 rfl rfl)
theorem dL_law_1108 : decode cL_law 1108 = .ok (.iconst 0, 1) := dk_3 (dk_at dksL_law_41 15 rfl rfl)
theorem dL_law_1109 : decode cL_law 1109 = .ok (.ireturn, 1) := dk_172 (dk_at dksL_law_41 16 rfl rfl)
theorem dL_law_1110 : decode cL_law 1110 = .ok (.aload_n 1, 1) := dk_43 (dk_at dksL_law_41 17 rfl rfl)
theorem dL_law_1111 : decode cL_law 1111 = .ok (.aload_n 0, 1) := dk_42 (dk_at dksL_law_41 18 rfl rfl)
theorem dL_law_1112 : decode cL_law 1112 = .ok (.iload_n 3, 1) := dk_29 (dk_at dksL_law_41 19 rfl rfl)
theorem dL_law_1113 : decode cL_law 1113 = .ok (.iconst 1, 1) := dk_4 (dk_at dksL_law_41 20 rfl rfl)
theorem dL_law_1114 : decode cL_law 1114 = .ok (.iadd, 1) := dk_96 (dk_at dksL_law_41 21 rfl rfl)
theorem dL_law_1115 : decode cL_law 1115 = .ok (.iaload, 1) := dk_46 (dk_at dksL_law_41 22 rfl rfl)
theorem dL_law_1116 : decode cL_law 1116 = .ok (.invokevirtual 131, 3) := dk_182 0 131 (dk_at dksL_law_42 0 rfl rfl)
theorem dL_law_1119 : decode cL_law 1119 = .ok (.aload_n 2, 1) := dk_44 (dk_at dksL_law_42 3 rfl rfl)
theorem dL_law_1120 : decode cL_law 1120 = .ok (.aload_n 0, 1) := dk_42 (dk_at dksL_law_42 4 rfl rfl)
theorem dL_law_1121 : decode cL_law 1121 = .ok (.iload_n 3, 1) := dk_29 (dk_at dksL_law_42 5 rfl rfl)
theorem dL_law_1122 : decode cL_law 1122 = .ok (.iconst 1, 1) := dk_4 (dk_at dksL_law_42 6 rfl rfl)
theorem dL_law_1123 : decode cL_law 1123 = .ok (.iadd, 1) := dk_96 (dk_at dksL_law_42 7 rfl rfl)
theorem dL_law_1124 : decode cL_law 1124 = .ok (.iaload, 1) := dk_46 (dk_at dksL_law_42 8 rfl rfl)
theorem dL_law_1125 : decode cL_law 1125 = .ok (.invokevirtual 134, 3) := dk_182 0 134 (dk_at dksL_law_42 9 rfl rfl)
theorem dL_law_1128 : decode cL_law 1128 = .ok (.if_icmp .eq 217, 3) := dk_159 0 217 (dk_at dksL_law_42 12 rfl rfl)
theorem dL_law_1131 : decode cL_law 1131 = .ok (.iconst 0, 1) := dk_3 (dk_at dksL_law_42 15 rfl rfl)
theorem dL_law_1132 : decode cL_law 1132 = .ok (.ireturn, 1) := dk_172 (dk_at dksL_law_42 16 rfl rfl)
theorem dL_law_1133 : decode cL_law 1133 = .ok (.aload_n 1, 1) := dk_43 (dk_at dksL_law_42 17 rfl rfl)
theorem dL_law_1134 : decode cL_law 1134 = .ok (.aload_n 0, 1) := dk_42 (dk_at dksL_law_42 18 rfl rfl)
theorem dL_law_1135 : decode cL_law 1135 = .ok (.iload_n 3, 1) := dk_29 (dk_at dksL_law_42 19 rfl rfl)
theorem dL_law_1136 : decode cL_law 1136 = .ok (.iconst 1, 1) := dk_4 (dk_at dksL_law_42 20 rfl rfl)
theorem dL_law_1137 : decode cL_law 1137 = .ok (.iadd, 1) := dk_96 (dk_at dksL_law_42 21 rfl rfl)
theorem dL_law_1138 : decode cL_law 1138 = .ok (.iaload, 1) := dk_46 (dk_at dksL_law_42 22 rfl rfl)
theorem dL_law_1139 : decode cL_law 1139 = .ok (.aload_n 0, 1) := dk_42 (dk_at dksL_law_42 23 rfl rfl)
theorem dL_law_1140 : decode cL_law 1140 = .ok (.iload_n 3, 1) := dk_29 (dk_at dksL_law_43 0 rfl rfl)
theorem dL_law_1141 : decode cL_law 1141 = .ok (.iconst 2, 1) := dk_5 (dk_at dksL_law_43 1 rfl rfl)
theorem dL_law_1142 : decode cL_law 1142 = .ok (.iadd, 1) := dk_96 (dk_at dksL_law_43 2 rfl rfl)
theorem dL_law_1143 : decode cL_law 1143 = .ok (.iaload, 1) := dk_46 (dk_at dksL_law_43 3 rfl rfl)
theorem dL_law_1144 : decode cL_law 1144 = .ok (.invokevirtual 135, 3) := dk_182 0 135 (dk_at dksL_law_43 4 rfl rfl)
theorem dL_law_1147 : decode cL_law 1147 = .ok (.aload_n 2, 1) := dk_44 (dk_at dksL_law_43 7 rfl rfl)
theorem dL_law_1148 : decode cL_law 1148 = .ok (.aload_n 0, 1) := dk_42 (dk_at dksL_law_43 8 rfl rfl)
theorem dL_law_1149 : decode cL_law 1149 = .ok (.iload_n 3, 1) := dk_29 (dk_at dksL_law_43 9 rfl rfl)
theorem dL_law_1150 : decode cL_law 1150 = .ok (.iconst 1, 1) := dk_4 (dk_at dksL_law_43 10 rfl rfl)
theorem dL_law_1151 : decode cL_law 1151 = .ok (.iadd, 1) := dk_96 (dk_at dksL_law_43 11 rfl rfl)
theorem dL_law_1152 : decode cL_law 1152 = .ok (.iaload, 1) := dk_46 (dk_at dksL_law_43 12 rfl rfl)
theorem dL_law_1153 : decode cL_law 1153 = .ok (.aload_n 0, 1) := dk_42 (dk_at dksL_law_43 13 rfl rfl)
theorem dL_law_1154 : decode cL_law 1154 = .ok (.iload_n 3, 1) := dk_29 (dk_at dksL_law_43 14 rfl rfl)
theorem dL_law_1155 : decode cL_law 1155 = .ok (.iconst 2, 1) := dk_5 (dk_at dksL_law_43 15 rfl rfl)
theorem dL_law_1156 : decode cL_law 1156 = .ok (.iadd, 1) := dk_96 (dk_at dksL_law_43 16 rfl rfl)
theorem dL_law_1157 : decode cL_law 1157 = .ok (.iaload, 1) := dk_46 (dk_at dksL_law_43 17 rfl rfl)
theorem dL_law_1158 : decode cL_law 1158 = .ok (.invokevirtual 138, 3) := dk_182 0 138 (dk_at dksL_law_43 18 rfl rfl)
theorem dL_law_1161 : decode cL_law 1161 = .ok (.if_icmp .eq 184, 3) := dk_159 0 184 (dk_at dksL_law_43 21 rfl rfl)
theorem dL_law_1164 : decode cL_law 1164 = .ok (.iconst 0, 1) := dk_3 (dk_at dksL_law_44 0 rfl rfl)
theorem dL_law_1165 : decode cL_law 1165 = .ok (.ireturn, 1) := dk_172 (dk_at dksL_law_44 1 rfl rfl)
theorem dL_law_1166 : decode cL_law 1166 = .ok (.aload_n 1, 1) := dk_43 (dk_at dksL_law_44 2 rfl rfl)
theorem dL_law_1167 : decode cL_law 1167 = .ok (.aload_n 0, 1) := dk_42 (dk_at dksL_law_44 3 rfl rfl)
theorem dL_law_1168 : decode cL_law 1168 = .ok (.iload_n 3, 1) := dk_29 (dk_at dksL_law_44 4 rfl rfl)
theorem dL_law_1169 : decode cL_law 1169 = .ok (.iconst 1, 1) := dk_4 (dk_at dksL_law_44 5 rfl rfl)
theorem dL_law_1170 : decode cL_law 1170 = .ok (.iadd, 1) := dk_96 (dk_at dksL_law_44 6 rfl rfl)
theorem dL_law_1171 : decode cL_law 1171 = .ok (.iaload, 1) := dk_46 (dk_at dksL_law_44 7 rfl rfl)
theorem dL_law_1172 : decode cL_law 1172 = .ok (.aload_n 0, 1) := dk_42 (dk_at dksL_law_44 8 rfl rfl)
theorem dL_law_1173 : decode cL_law 1173 = .ok (.iload_n 3, 1) := dk_29 (dk_at dksL_law_44 9 rfl rfl)
theorem dL_law_1174 : decode cL_law 1174 = .ok (.iconst 2, 1) := dk_5 (dk_at dksL_law_44 10 rfl rfl)
theorem dL_law_1175 : decode cL_law 1175 = .ok (.iadd, 1) := dk_96 (dk_at dksL_law_44 11 rfl rfl)
theorem dL_law_1176 : decode cL_law 1176 = .ok (.iaload, 1) := dk_46 (dk_at dksL_law_44 12 rfl rfl)
theorem dL_law_1177 : decode cL_law 1177 = .ok (.aload_n 0, 1) := dk_42 (dk_at dksL_law_44 13 rfl rfl)
theorem dL_law_1178 : decode cL_law 1178 = .ok (.iload_n 3, 1) := dk_29 (dk_at dksL_law_44 14 rfl rfl)
theorem dL_law_1179 : decode cL_law 1179 = .ok (.iconst 3, 1) := dk_6 (dk_at dksL_law_44 15 rfl rfl)
theorem dL_law_1180 : decode cL_law 1180 = .ok (.iadd, 1) := dk_96 (dk_at dksL_law_44 16 rfl rfl)
theorem dL_law_1181 : decode cL_law 1181 = .ok (.iaload, 1) := dk_46 (dk_at dksL_law_44 17 rfl rfl)
theorem dL_law_1182 : decode cL_law 1182 = .ok (.aload_n 0, 1) := dk_42 (dk_at dksL_law_44 18 rfl rfl)
theorem dL_law_1183 : decode cL_law 1183 = .ok (.iload_n 3, 1) := dk_29 (dk_at dksL_law_44 19 rfl rfl)
theorem dL_law_1184 : decode cL_law 1184 = .ok (.iconst 4, 1) := dk_7 (dk_at dksL_law_44 20 rfl rfl)
theorem dL_law_1185 : decode cL_law 1185 = .ok (.iadd, 1) := dk_96 (dk_at dksL_law_44 21 rfl rfl)
theorem dL_law_1186 : decode cL_law 1186 = .ok (.iaload, 1) := dk_46 (dk_at dksL_law_44 22 rfl rfl)
theorem dL_law_1187 : decode cL_law 1187 = .ok (.aload_n 0, 1) := dk_42 (dk_at dksL_law_44 23 rfl rfl)
theorem dL_law_1188 : decode cL_law 1188 = .ok (.iload_n 3, 1) := dk_29 (dk_at dksL_law_45 0 rfl rfl)
theorem dL_law_1189 : decode cL_law 1189 = .ok (.iconst 5, 1) := dk_8 (dk_at dksL_law_45 1 rfl rfl)
theorem dL_law_1190 : decode cL_law 1190 = .ok (.iadd, 1) := dk_96 (dk_at dksL_law_45 2 rfl rfl)
theorem dL_law_1191 : decode cL_law 1191 = .ok (.iaload, 1) := dk_46 (dk_at dksL_law_45 3 rfl rfl)
theorem dL_law_1192 : decode cL_law 1192 = .ok (.invokevirtual 139, 3) := dk_182 0 139 (dk_at dksL_law_45 4 rfl rfl)
theorem dL_law_1195 : decode cL_law 1195 = .ok (.aload_n 2, 1) := dk_44 (dk_at dksL_law_45 7 rfl rfl)
theorem dL_law_1196 : decode cL_law 1196 = .ok (.aload_n 0, 1) := dk_42 (dk_at dksL_law_45 8 rfl rfl)
theorem dL_law_1197 : decode cL_law 1197 = .ok (.iload_n 3, 1) := dk_29 (dk_at dksL_law_45 9 rfl rfl)
theorem dL_law_1198 : decode cL_law 1198 = .ok (.iconst 1, 1) := dk_4 (dk_at dksL_law_45 10 rfl rfl)
theorem dL_law_1199 : decode cL_law 1199 = .ok (.iadd, 1) := dk_96 (dk_at dksL_law_45 11 rfl rfl)
theorem dL_law_1200 : decode cL_law 1200 = .ok (.iaload, 1) := dk_46 (dk_at dksL_law_45 12 rfl rfl)
theorem dL_law_1201 : decode cL_law 1201 = .ok (.aload_n 0, 1) := dk_42 (dk_at dksL_law_45 13 rfl rfl)
theorem dL_law_1202 : decode cL_law 1202 = .ok (.iload_n 3, 1) := dk_29 (dk_at dksL_law_45 14 rfl rfl)
theorem dL_law_1203 : decode cL_law 1203 = .ok (.iconst 2, 1) := dk_5 (dk_at dksL_law_45 15 rfl rfl)
theorem dL_law_1204 : decode cL_law 1204 = .ok (.iadd, 1) := dk_96 (dk_at dksL_law_45 16 rfl rfl)
theorem dL_law_1205 : decode cL_law 1205 = .ok (.iaload, 1) := dk_46 (dk_at dksL_law_45 17 rfl rfl)
theorem dL_law_1206 : decode cL_law 1206 = .ok (.aload_n 0, 1) := dk_42 (dk_at dksL_law_45 18 rfl rfl)
theorem dL_law_1207 : decode cL_law 1207 = .ok (.iload_n 3, 1) := dk_29 (dk_at dksL_law_45 19 rfl rfl)
theorem dL_law_1208 : decode cL_law 1208 = .ok (.iconst 3, 1) := dk_6 (dk_at dksL_law_45 20 rfl rfl)
theorem dL_law_1209 : decode cL_law 1209 = .ok (.iadd, 1) := dk_96 (dk_at dksL_law_45 21 rfl rfl)
theorem dL_law_1210 : decode cL_law 1210 = .ok (.iaload, 1) := dk_46 (dk_at dksL_law_45 22 rfl rfl)
theorem dL_law_1211 : decode cL_law 1211 = .ok (.aload_n 0, 1) := dk_42 (dk_at dksL_law_45 23 rfl rfl)
theorem dL_law_1212 : decode cL_law 1212 = .ok (.iload_n 3, 1) := dk_29 (dk_at dksL_law_46 0 rfl rfl)
theorem dL_law_1213 : decode cL_law 1213 = .ok (.iconst 4, 1) := dk_7 (dk_at dksL_law_46 1 rfl rfl)
theorem dL_law_1214 : decode cL_law 1214 = .ok (.iadd, 1) := dk_96 (dk_at dksL_law_46 2 rfl rfl)
theorem dL_law_1215 : decode cL_law 1215 = .ok (.iaload, 1) := dk_46 (dk_at dksL_law_46 3 rfl rfl)
theorem dL_law_1216 : decode cL_law 1216 = .ok (.aload_n 0, 1) := dk_42 (dk_at dksL_law_46 4 rfl rfl)
theorem dL_law_1217 : decode cL_law 1217 = .ok (.iload_n 3, 1) := dk_29 (dk_at dksL_law_46 5 rfl rfl)
theorem dL_law_1218 : decode cL_law 1218 = .ok (.iconst 5, 1) := dk_8 (dk_at dksL_law_46 6 rfl rfl)
theorem dL_law_1219 : decode cL_law 1219 = .ok (.iadd, 1) := dk_96 (dk_at dksL_law_46 7 rfl rfl)
theorem dL_law_1220 : decode cL_law 1220 = .ok (.iaload, 1) := dk_46 (dk_at dksL_law_46 8 rfl rfl)
theorem dL_law_1221 : decode cL_law 1221 = .ok (.invokevirtual 143, 3) := dk_182 0 143 (dk_at dksL_law_46 9 rfl rfl)
theorem dL_law_1224 : decode cL_law 1224 = .ok (.if_icmp .eq 121, 3) := dk_159 0 121 (dk_at dksL_law_46 12 rfl rfl)
theorem dL_law_1227 : decode cL_law 1227 = .ok (.iconst 0, 1) := dk_3 (dk_at dksL_law_46 15 rfl rfl)
theorem dL_law_1228 : decode cL_law 1228 = .ok (.ireturn, 1) := dk_172 (dk_at dksL_law_46 16 rfl rfl)
theorem dL_law_1229 : decode cL_law 1229 = .ok (.aload_n 1, 1) := dk_43 (dk_at dksL_law_46 17 rfl rfl)
theorem dL_law_1230 : decode cL_law 1230 = .ok (.aload_n 0, 1) := dk_42 (dk_at dksL_law_46 18 rfl rfl)
theorem dL_law_1231 : decode cL_law 1231 = .ok (.iload_n 3, 1) := dk_29 (dk_at dksL_law_46 19 rfl rfl)
theorem dL_law_1232 : decode cL_law 1232 = .ok (.iconst 1, 1) := dk_4 (dk_at dksL_law_46 20 rfl rfl)
theorem dL_law_1233 : decode cL_law 1233 = .ok (.iadd, 1) := dk_96 (dk_at dksL_law_46 21 rfl rfl)
theorem dL_law_1234 : decode cL_law 1234 = .ok (.iaload, 1) := dk_46 (dk_at dksL_law_46 22 rfl rfl)
theorem dL_law_1235 : decode cL_law 1235 = .ok (.invokevirtual 144, 3) := dk_182 0 144 (dk_at dksL_law_47 0 rfl rfl)
theorem dL_law_1238 : decode cL_law 1238 = .ok (.aload_n 2, 1) := dk_44 (dk_at dksL_law_47 3 rfl rfl)
theorem dL_law_1239 : decode cL_law 1239 = .ok (.aload_n 0, 1) := dk_42 (dk_at dksL_law_47 4 rfl rfl)
theorem dL_law_1240 : decode cL_law 1240 = .ok (.iload_n 3, 1) := dk_29 (dk_at dksL_law_47 5 rfl rfl)
theorem dL_law_1241 : decode cL_law 1241 = .ok (.iconst 1, 1) := dk_4 (dk_at dksL_law_47 6 rfl rfl)
theorem dL_law_1242 : decode cL_law 1242 = .ok (.iadd, 1) := dk_96 (dk_at dksL_law_47 7 rfl rfl)
theorem dL_law_1243 : decode cL_law 1243 = .ok (.iaload, 1) := dk_46 (dk_at dksL_law_47 8 rfl rfl)
theorem dL_law_1244 : decode cL_law 1244 = .ok (.invokevirtual 147, 3) := dk_182 0 147 (dk_at dksL_law_47 9 rfl rfl)
theorem dL_law_1247 : decode cL_law 1247 = .ok (.if_icmp .eq 98, 3) := dk_159 0 98 (dk_at dksL_law_47 12 rfl rfl)
theorem dL_law_1250 : decode cL_law 1250 = .ok (.iconst 0, 1) := dk_3 (dk_at dksL_law_47 15 rfl rfl)
theorem dL_law_1251 : decode cL_law 1251 = .ok (.ireturn, 1) := dk_172 (dk_at dksL_law_47 16 rfl rfl)
theorem dL_law_1252 : decode cL_law 1252 = .ok (.aload_n 1, 1) := dk_43 (dk_at dksL_law_47 17 rfl rfl)
theorem dL_law_1253 : decode cL_law 1253 = .ok (.invokevirtual 148, 3) := dk_182 0 148 (dk_at dksL_law_47 18 rfl rfl)
theorem dL_law_1256 : decode cL_law 1256 = .ok (.aload_n 2, 1) := dk_44 (dk_at dksL_law_47 21 rfl rfl)
theorem dL_law_1257 : decode cL_law 1257 = .ok (.invokevirtual 151, 3) := dk_182 0 151 (dk_at dksL_law_48 0 rfl rfl)
theorem dL_law_1260 : decode cL_law 1260 = .ok (.if_icmp .eq 85, 3) := dk_159 0 85 (dk_at dksL_law_48 3 rfl rfl)
theorem dL_law_1263 : decode cL_law 1263 = .ok (.iconst 0, 1) := dk_3 (dk_at dksL_law_48 6 rfl rfl)
theorem dL_law_1264 : decode cL_law 1264 = .ok (.ireturn, 1) := dk_172 (dk_at dksL_law_48 7 rfl rfl)
theorem dL_law_1265 : decode cL_law 1265 = .ok (.aload_n 1, 1) := dk_43 (dk_at dksL_law_48 8 rfl rfl)
theorem dL_law_1266 : decode cL_law 1266 = .ok (.aload_n 0, 1) := dk_42 (dk_at dksL_law_48 9 rfl rfl)
theorem dL_law_1267 : decode cL_law 1267 = .ok (.iload_n 3, 1) := dk_29 (dk_at dksL_law_48 10 rfl rfl)
theorem dL_law_1268 : decode cL_law 1268 = .ok (.iconst 1, 1) := dk_4 (dk_at dksL_law_48 11 rfl rfl)
theorem dL_law_1269 : decode cL_law 1269 = .ok (.iadd, 1) := dk_96 (dk_at dksL_law_48 12 rfl rfl)
theorem dL_law_1270 : decode cL_law 1270 = .ok (.iaload, 1) := dk_46 (dk_at dksL_law_48 13 rfl rfl)
theorem dL_law_1271 : decode cL_law 1271 = .ok (.aload_n 0, 1) := dk_42 (dk_at dksL_law_48 14 rfl rfl)
theorem dL_law_1272 : decode cL_law 1272 = .ok (.iload_n 3, 1) := dk_29 (dk_at dksL_law_48 15 rfl rfl)
theorem dL_law_1273 : decode cL_law 1273 = .ok (.iconst 2, 1) := dk_5 (dk_at dksL_law_48 16 rfl rfl)
theorem dL_law_1274 : decode cL_law 1274 = .ok (.iadd, 1) := dk_96 (dk_at dksL_law_48 17 rfl rfl)
theorem dL_law_1275 : decode cL_law 1275 = .ok (.iaload, 1) := dk_46 (dk_at dksL_law_48 18 rfl rfl)
theorem dL_law_1276 : decode cL_law 1276 = .ok (.invokevirtual 152, 3) := dk_182 0 152 (dk_at dksL_law_48 19 rfl rfl)
theorem dL_law_1279 : decode cL_law 1279 = .ok (.aload_n 2, 1) := dk_44 (dk_at dksL_law_48 22 rfl rfl)
theorem dL_law_1280 : decode cL_law 1280 = .ok (.aload_n 0, 1) := dk_42 (dk_at dksL_law_48 23 rfl rfl)
theorem dL_law_1281 : decode cL_law 1281 = .ok (.iload_n 3, 1) := dk_29 (dk_at dksL_law_49 0 rfl rfl)
theorem dL_law_1282 : decode cL_law 1282 = .ok (.iconst 1, 1) := dk_4 (dk_at dksL_law_49 1 rfl rfl)
theorem dL_law_1283 : decode cL_law 1283 = .ok (.iadd, 1) := dk_96 (dk_at dksL_law_49 2 rfl rfl)
theorem dL_law_1284 : decode cL_law 1284 = .ok (.iaload, 1) := dk_46 (dk_at dksL_law_49 3 rfl rfl)
theorem dL_law_1285 : decode cL_law 1285 = .ok (.aload_n 0, 1) := dk_42 (dk_at dksL_law_49 4 rfl rfl)
theorem dL_law_1286 : decode cL_law 1286 = .ok (.iload_n 3, 1) := dk_29 (dk_at dksL_law_49 5 rfl rfl)
theorem dL_law_1287 : decode cL_law 1287 = .ok (.iconst 2, 1) := dk_5 (dk_at dksL_law_49 6 rfl rfl)
theorem dL_law_1288 : decode cL_law 1288 = .ok (.iadd, 1) := dk_96 (dk_at dksL_law_49 7 rfl rfl)
theorem dL_law_1289 : decode cL_law 1289 = .ok (.iaload, 1) := dk_46 (dk_at dksL_law_49 8 rfl rfl)
theorem dL_law_1290 : decode cL_law 1290 = .ok (.invokevirtual 155, 3) := dk_182 0 155 (dk_at dksL_law_49 9 rfl rfl)
theorem dL_law_1293 : decode cL_law 1293 = .ok (.if_icmp .eq 52, 3) := dk_159 0 52 (dk_at dksL_law_49 12 rfl rfl)
theorem dL_law_1296 : decode cL_law 1296 = .ok (.iconst 0, 1) := dk_3 (dk_at dksL_law_49 15 rfl rfl)
theorem dL_law_1297 : decode cL_law 1297 = .ok (.ireturn, 1) := dk_172 (dk_at dksL_law_49 16 rfl rfl)
theorem dL_law_1298 : decode cL_law 1298 = .ok (.aload_n 1, 1) := dk_43 (dk_at dksL_law_49 17 rfl rfl)
theorem dL_law_1299 : decode cL_law 1299 = .ok (.aload_n 0, 1) := dk_42 (dk_at dksL_law_49 18 rfl rfl)
theorem dL_law_1300 : decode cL_law 1300 = .ok (.iload_n 3, 1) := dk_29 (dk_at dksL_law_49 19 rfl rfl)
theorem dL_law_1301 : decode cL_law 1301 = .ok (.iconst 1, 1) := dk_4 (dk_at dksL_law_49 20 rfl rfl)
theorem dL_law_1302 : decode cL_law 1302 = .ok (.iadd, 1) := dk_96 (dk_at dksL_law_49 21 rfl rfl)
theorem dL_law_1303 : decode cL_law 1303 = .ok (.iaload, 1) := dk_46 (dk_at dksL_law_49 22 rfl rfl)
theorem dL_law_1304 : decode cL_law 1304 = .ok (.invokevirtual 156, 3) := dk_182 0 156 (dk_at dksL_law_50 0 rfl rfl)
theorem dL_law_1307 : decode cL_law 1307 = .ok (.aload_n 2, 1) := dk_44 (dk_at dksL_law_50 3 rfl rfl)
theorem dL_law_1308 : decode cL_law 1308 = .ok (.aload_n 0, 1) := dk_42 (dk_at dksL_law_50 4 rfl rfl)
theorem dL_law_1309 : decode cL_law 1309 = .ok (.iload_n 3, 1) := dk_29 (dk_at dksL_law_50 5 rfl rfl)
theorem dL_law_1310 : decode cL_law 1310 = .ok (.iconst 1, 1) := dk_4 (dk_at dksL_law_50 6 rfl rfl)
theorem dL_law_1311 : decode cL_law 1311 = .ok (.iadd, 1) := dk_96 (dk_at dksL_law_50 7 rfl rfl)
theorem dL_law_1312 : decode cL_law 1312 = .ok (.iaload, 1) := dk_46 (dk_at dksL_law_50 8 rfl rfl)
theorem dL_law_1313 : decode cL_law 1313 = .ok (.invokevirtual 160, 3) := dk_182 0 160 (dk_at dksL_law_50 9 rfl rfl)
theorem dL_law_1316 : decode cL_law 1316 = .ok (.lcmp, 1) := dk_148 (dk_at dksL_law_50 12 rfl rfl)
theorem dL_law_1317 : decode cL_law 1317 = .ok (.ifCond .eq 28, 3) := dk_153 0 28 (dk_at dksL_law_50 13 rfl rfl)
theorem dL_law_1320 : decode cL_law 1320 = .ok (.iconst 0, 1) := dk_3 (dk_at dksL_law_50 16 rfl rfl)
theorem dL_law_1321 : decode cL_law 1321 = .ok (.ireturn, 1) := dk_172 (dk_at dksL_law_50 17 rfl rfl)
theorem dL_law_1322 : decode cL_law 1322 = .ok (.aload_n 1, 1) := dk_43 (dk_at dksL_law_50 18 rfl rfl)
theorem dL_law_1323 : decode cL_law 1323 = .ok (.aload_n 0, 1) := dk_42 (dk_at dksL_law_50 19 rfl rfl)
theorem dL_law_1324 : decode cL_law 1324 = .ok (.iload_n 3, 1) := dk_29 (dk_at dksL_law_50 20 rfl rfl)
theorem dL_law_1325 : decode cL_law 1325 = .ok (.iconst 1, 1) := dk_4 (dk_at dksL_law_50 21 rfl rfl)
theorem dL_law_1326 : decode cL_law 1326 = .ok (.iadd, 1) := dk_96 (dk_at dksL_law_50 22 rfl rfl)
theorem dL_law_1327 : decode cL_law 1327 = .ok (.iaload, 1) := dk_46 (dk_at dksL_law_50 23 rfl rfl)
theorem dL_law_1328 : decode cL_law 1328 = .ok (.invokevirtual 161, 3) := dk_182 0 161 (dk_at dksL_law_51 0 rfl rfl)
theorem dL_law_1331 : decode cL_law 1331 = .ok (.aload_n 2, 1) := dk_44 (dk_at dksL_law_51 3 rfl rfl)
theorem dL_law_1332 : decode cL_law 1332 = .ok (.aload_n 0, 1) := dk_42 (dk_at dksL_law_51 4 rfl rfl)
theorem dL_law_1333 : decode cL_law 1333 = .ok (.iload_n 3, 1) := dk_29 (dk_at dksL_law_51 5 rfl rfl)
theorem dL_law_1334 : decode cL_law 1334 = .ok (.iconst 1, 1) := dk_4 (dk_at dksL_law_51 6 rfl rfl)
theorem dL_law_1335 : decode cL_law 1335 = .ok (.iadd, 1) := dk_96 (dk_at dksL_law_51 7 rfl rfl)
theorem dL_law_1336 : decode cL_law 1336 = .ok (.iaload, 1) := dk_46 (dk_at dksL_law_51 8 rfl rfl)
theorem dL_law_1337 : decode cL_law 1337 = .ok (.invokevirtual 164, 3) := dk_182 0 164 (dk_at dksL_law_51 9 rfl rfl)
theorem dL_law_1340 : decode cL_law 1340 = .ok (.if_icmp .eq 5, 3) := dk_159 0 5 (dk_at dksL_law_51 12 rfl rfl)
theorem dL_law_1343 : decode cL_law 1343 = .ok (.iconst 0, 1) := dk_3 (dk_at dksL_law_51 15 rfl rfl)
theorem dL_law_1344 : decode cL_law 1344 = .ok (.ireturn, 1) := dk_172 (dk_at dksL_law_51 16 rfl rfl)
theorem dL_law_1345 : decode cL_law 1345 = .ok (.iinc 3 6, 3) := dk_132 3 6 (dk_at dksL_law_51 17 rfl rfl)
theorem dL_law_1348 : decode cL_law 1348 = .ok (.goto (-1330), 3) := dk_167 250 206 (dk_at dksL_law_51 20 rfl rfl)
theorem dL_law_1351 : decode cL_law 1351 = .ok (.iconst 1, 1) := dk_4 (dk_at dksL_law_51 23 rfl rfl)
theorem dL_law_1352 : decode cL_law 1352 = .ok (.ireturn, 1) := dk_172 (dk_at dksL_law_52 0 rfl rfl)
