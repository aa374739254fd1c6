set_option maxRecDepth 100000
def dkwX7_init_3 : List UInt8 := [181, 0, 33, 177]
abbrev dktX7_init_3 : List UInt8 := dkwX7_init_3 ++ []
def dkwX7_init_2 : List UInt8 := [181, 0, 22, 42, 16, 60, 188, 5, 181, 0, 25, 42, 2, 181, 0, 29, 42, 17, 0, 180, 188, 10]
abbrev dktX7_init_2 : List UInt8 := dkwX7_init_2 ++ dktX7_init_3
def dkwX7_init_1 : List UInt8 := [17, 0, 156, 188, 10, 181, 0, 16, 42, 17, 0, 156, 188, 10, 181, 0, 19, 42, 17, 4, 224, 188, 10]
abbrev dktX7_init_1 : List UInt8 := dkwX7_init_1 ++ dktX7_init_2
def dkwX7_init_0 : List UInt8 := [42, 183, 0, 3, 42, 17, 0, 156, 188, 10, 181, 0, 9, 42, 17, 0, 156, 188, 10, 181, 0, 13, 42]
abbrev dktX7_init_0 : List UInt8 := dkwX7_init_0 ++ dktX7_init_1
theorem dksX7_init_0 : cX7_init.data.toList.drop 0 = dktX7_init_0 := by decide +kernel
theorem dksX7_init_1 : cX7_init.data.toList.drop 23 = dktX7_init_1 := dk_seg dksX7_init_0 23 rfl rfl
theorem dksX7_init_2 : cX7_init.data.toList.drop 46 = dktX7_init_2 := dk_seg dksX7_init_1 23 rfl rfl
theorem dksX7_init_3 : cX7_init.data.toList.drop 68 = dktX7_init_3 := dk_seg dksX7_init_2 22 rfl rfl
theorem dX7_init_0 : decode cX7_init 0 = .ok (.aload_n 0, 1) := dk_42 (dk_at dksX7_init_0 0 rfl rfl)
theorem dX7_init_1 : decode cX7_init 1 = .ok (.invokespecial 3, 3) := dk_183 0 3 (dk_at dksX7_init_0 1 rfl rfl)
theorem dX7_init_4 : decode cX7_init 4 = .ok (.aload_n 0, 1) := dk_42 (dk_at dksX7_init_0 4 rfl rfl)
theorem dX7_init_5 : decode cX7_init 5 = .ok (.sipush 156, 3) := dk_17 0 156 (dk_at dksX7_init_0 5 rfl rfl)
theorem dX7_init_8 : decode cX7_init 8 = .ok (.newarray .int, 2) := dk_188_10 (dk_at dksX7_init_0 8 rfl rfl)
theorem dX7_init_10 : decode cX7_init 10 = .ok (.putfield 9, 3) := dk_181 0 9 (dk_at dksX7_init_0 10 rfl rfl)
theorem dX7_init_13 : decode cX7_init 13 = .ok (.aload_n 0, 1) := dk_42 (dk_at dksX7_init_0 13 rfl rfl)
theorem dX7_init_14 : decode cX7_init 14 = .ok (.sipush 156, 3) := dk_17 0 156 (dk_at dksX7_init_0 14 rfl rfl)
theorem dX7_init_17 : decode cX7_init 17 = .ok (.newarray .int, 2) := dk_188_10 (dk_at dksX7_init_0 17 rfl rfl)
theorem dX7_init_19 : decode cX7_init 19 = .ok (.putfield 13, 3) := dk_181 0 13 (dk_at dksX7_init_0 19 rfl rfl)
theorem dX7_init_22 : decode cX7_init 22 = .ok (.aload_n 0, 1) := dk_42 (dk_at dksX7_init_0 22 rfl rfl)
theorem dX7_init_23 : decode cX7_init 23 = .ok (.sipush 156, 3) := dk_17 0 156 (dk_at dksX7_init_1 0 rfl rfl)
theorem dX7_init_26 : decode cX7_init 26 = .ok (.newarray .int, 2) := dk_188_10 (dk_at dksX7_init_1 3 rfl rfl)
theorem dX7_init_28 : decode cX7_init 28 = .ok (.putfield 16, 3) := dk_181 0 16 (dk_at dksX7_init_1 5 rfl rfl)
theorem dX7_init_31 : decode cX7_init 31 = .ok (.aload_n 0, 1) := dk_42 (dk_at dksX7_init_1 8 rfl rfl)
theorem dX7_init_32 : decode cX7_init 32 = .ok (.sipush 156, 3) := dk_17 0 156 (dk_at dksX7_init_1 9 rfl rfl)
theorem dX7_init_35 : decode cX7_init 35 = .ok (.newarray .int, 2) := dk_188_10 (dk_at dksX7_init_1 12 rfl rfl)
theorem dX7_init_37 : decode cX7_init 37 = .ok (.putfield 19, 3) := dk_181 0 19 (dk_at dksX7_init_1 14 rfl rfl)
theorem dX7_init_40 : decode cX7_init 40 = .ok (.aload_n 0, 1) := dk_42 (dk_at dksX7_init_1 17 rfl rfl)
theorem dX7_init_41 : decode cX7_init 41 = .ok (.sipush 1248, 3) := dk_17 4 224 (dk_at dksX7_init_1 18 rfl rfl)
theorem dX7_init_44 : decode cX7_init 44 = .ok (.newarray .int, 2) := dk_188_10 (dk_at dksX7_init_1 21 rfl rfl)
theorem dX7_init_46 : decode cX7_init 46 = .ok (.putfield 22, 3) := dk_181 0 22 (dk_at dksX7_init_2 0 rfl rfl)
theorem dX7_init_49 : decode cX7_init 49 = .ok (.aload_n 0, 1) := dk_42 (dk_at dksX7_init_2 3 rfl rfl)
theorem dX7_init_50 : decode cX7_init 50 = .ok (.bipush 60, 2) := dk_16 60 (dk_at dksX7_init_2 4 rfl rfl)
theorem dX7_init_52 : decode cX7_init 52 = .ok (.newarray .char, 2) := dk_188_5 (dk_at dksX7_init_2 6 rfl rfl)
theorem dX7_init_54 : decode cX7_init 54 = .ok (.putfield 25, 3) := dk_181 0 25 (dk_at dksX7_init_2 8 rfl rfl)
theorem dX7_init_57 : decode cX7_init 57 = .ok (.aload_n 0, 1) := dk_42 (dk_at dksX7_init_2 11 rfl rfl)
theorem dX7_init_58 : decode cX7_init 58 = .ok (.iconst (-1), 1) := dk_2 (dk_at dksX7_init_2 12 rfl rfl)
theorem dX7_init_59 : decode cX7_init 59 = .ok (.putfield 29, 3) := dk_181 0 29 (dk_at dksX7_init_2 13 rfl rfl)
theorem dX7_init_62 : decode cX7_init 62 = .ok (.aload_n 0, 1) := dk_42 (dk_at dksX7_init_2 16 rfl rfl)
theorem dX7_init_63 : decode cX7_init 63 = .ok (.sipush 180, 3) := dk_17 0 180 (dk_at dksX7_init_2 17 rfl rfl)
theorem dX7_init_66 : decode cX7_init 66 = .ok (.newarray .int, 2) := dk_188_10 (dk_at dksX7_init_2 20 rfl rfl)
theorem dX7_init_68 : decode cX7_init 68 = .ok (.putfield 33, 3) := dk_181 0 33 (dk_at dksX7_init_3 0 rfl rfl)
theorem dX7_init_71 : decode cX7_init 71 = .ok (.return_, 1) := dk_177 (dk_at dksX7_init_3 3 rfl rfl)
theorem dX7_thrown_0 : decode cX7_thrown 0 = .ok (.aload_n 0, 1) := by decide +kernel
theorem dX7_thrown_1 : decode cX7_thrown 1 = .ok (.getfield 36, 3) := by decide +kernel
theorem dX7_thrown_4 : decode cX7_thrown 4 = .ok (.ireturn, 1) := by decide +kernel
def dkwX7_pool_7 : List UInt8 := [42, 21, 4, 182, 0, 81, 172]
abbrev dktX7_pool_7 : List UInt8 := dkwX7_pool_7 ++ []
def dkwX7_pool_6 : List UInt8 := [79, 42, 180, 0, 9, 21, 4, 184, 0, 58, 6, 96, 6, 79, 42, 180, 0, 9, 3, 92, 46, 4, 96, 79]
abbrev dktX7_pool_6 : List UInt8 := dkwX7_pool_6 ++ dktX7_pool_7
def dkwX7_pool_5 : List UInt8 := [180, 0, 9, 21, 4, 184, 0, 58, 4, 96, 28, 79, 42, 180, 0, 9, 21, 4, 184, 0, 58, 5, 96, 29]
abbrev dktX7_pool_5 : List UInt8 := dkwX7_pool_5 ++ dktX7_pool_6
def dkwX7_pool_4 : List UInt8 := [96, 3, 79, 132, 5, 1, 167, 255, 232, 42, 180, 0, 9, 21, 4, 184, 0, 58, 3, 96, 27, 79, 42]
abbrev dktX7_pool_4 : List UInt8 := dkwX7_pool_4 ++ dktX7_pool_5
def dkwX7_pool_3 : List UInt8 := [182, 0, 78, 3, 54, 5, 21, 5, 16, 11, 162, 0, 23, 42, 180, 0, 9, 21, 4, 184, 0, 58, 21, 5]
abbrev dktX7_pool_3 : List UInt8 := dkwX7_pool_3 ++ dktX7_pool_4
def dkwX7_pool_2 : List UInt8 := [172, 42, 180, 0, 9, 3, 46, 54, 4, 21, 4, 16, 6, 160, 0, 10, 42, 5, 4, 182, 0, 75, 172, 42]
abbrev dktX7_pool_2 : List UInt8 := dkwX7_pool_2 ++ dktX7_pool_3
def dkwX7_pool_1 : List UInt8 := [16, 9, 184, 0, 54, 154, 0, 7, 4, 167, 0, 4, 3, 181, 0, 36, 42, 180, 0, 36, 158, 0, 5, 3]
abbrev dktX7_pool_1 : List UInt8 := dkwX7_pool_1 ++ dktX7_pool_2
def dkwX7_pool_0 : List UInt8 := [42, 27, 4, 16, 9, 184, 0, 54, 153, 0, 23, 28, 5, 16, 20, 184, 0, 54, 153, 0, 13, 29, 3]
abbrev dktX7_pool_0 : List UInt8 := dkwX7_pool_0 ++ dktX7_pool_1
theorem dksX7_pool_0 : cX7_pool.data.toList.drop 0 = dktX7_pool_0 := by decide +kernel
theorem dksX7_pool_1 : cX7_pool.data.toList.drop 23 = dktX7_pool_1 := dk_seg dksX7_pool_0 23 rfl rfl
theorem dksX7_pool_2 : cX7_pool.data.toList.drop 47 = dktX7_pool_2 := dk_seg dksX7_pool_1 24 rfl rfl
theorem dksX7_pool_3 : cX7_pool.data.toList.drop 71 = dktX7_pool_3 := dk_seg dksX7_pool_2 24 rfl rfl
theorem dksX7_pool_4 : cX7_pool.data.toList.drop 95 = dktX7_pool_4 := dk_seg dksX7_pool_3 24 rfl rfl
theorem dksX7_pool_5 : cX7_pool.data.toList.drop 118 = dktX7_pool_5 := dk_seg dksX7_pool_4 23 rfl rfl
theorem dksX7_pool_6 : cX7_pool.data.toList.drop 142 = dktX7_pool_6 := dk_seg dksX7_pool_5 24 rfl rfl
theorem dksX7_pool_7 : cX7_pool.data.toList.drop 166 = dktX7_pool_7 := dk_seg dksX7_pool_6 24 rfl rfl
theorem dX7_pool_0 : decode cX7_pool 0 = .ok (.aload_n 0, 1) := dk_42 (dk_at dksX7_pool_0 0 rfl rfl)
theorem dX7_pool_1 : decode cX7_pool 1 = .ok (.iload_n 1, 1) := dk_27 (dk_at dksX7_pool_0 1 rfl rfl)
theorem dX7_pool_2 : decode cX7_pool 2 = .ok (.iconst 1, 1) := dk_4 (dk_at dksX7_pool_0 2 rfl rfl)
theorem dX7_pool_3 : decode cX7_pool 3 = .ok (.bipush 9, 2) := dk_16 9 (dk_at dksX7_pool_0 3 rfl rfl)
theorem dX7_pool_5 : decode cX7_pool 5 = .ok (.invokestatic 54, 3) := dk_184 0 54 (dk_at dksX7_pool_0 5 rfl rfl)
theorem dX7_pool_8 : decode cX7_pool 8 = .ok (.ifCond .eq 23, 3) := dk_153 0 23 (dk_at dksX7_pool_0 8 rfl rfl)
theorem dX7_pool_11 : decode cX7_pool 11 = .ok (.iload_n 2, 1) := dk_28 (dk_at dksX7_pool_0 11 rfl rfl)
theorem dX7_pool_12 : decode cX7_pool 12 = .ok (.iconst 2, 1) := dk_5 (dk_at dksX7_pool_0 12 rfl rfl)
theorem dX7_pool_13 : decode cX7_pool 13 = .ok (.bipush 20, 2) := dk_16 20 (dk_at dksX7_pool_0 13 rfl rfl)
theorem dX7_pool_15 : decode cX7_pool 15 = .ok (.invokestatic 54, 3) := dk_184 0 54 (dk_at dksX7_pool_0 15 rfl rfl)
theorem dX7_pool_18 : decode cX7_pool 18 = .ok (.ifCond .eq 13, 3) := dk_153 0 13 (dk_at dksX7_pool_0 18 rfl rfl)
theorem dX7_pool_21 : decode cX7_pool 21 = .ok (.iload_n 3, 1) := dk_29 (dk_at dksX7_pool_0 21 rfl rfl)
theorem dX7_pool_22 : decode cX7_pool 22 = .ok (.iconst 0, 1) := dk_3 (dk_at dksX7_pool_0 22 rfl rfl)
theorem dX7_pool_23 : decode cX7_pool 23 = .ok (.bipush 9, 2) := dk_16 9 (dk_at dksX7_pool_1 0 rfl rfl)
theorem dX7_pool_25 : decode cX7_pool 25 = .ok (.invokestatic 54, 3) := dk_184 0 54 (dk_at dksX7_pool_1 2 rfl rfl)
theorem dX7_pool_28 : decode cX7_pool 28 = .ok (.ifCond .ne 7, 3) := dk_154 0 7 (dk_at dksX7_pool_1 5 rfl rfl)
theorem dX7_pool_31 : decode cX7_pool 31 = .ok (.iconst 1, 1) := dk_4 (dk_at dksX7_pool_1 8 rfl rfl)
theorem dX7_pool_32 : decode cX7_pool 32 = .ok (.goto 4, 3) := dk_167 0 4 (dk_at dksX7_pool_1 9 rfl rfl)
theorem dX7_pool_35 : decode cX7_pool 35 = .ok (.iconst 0, 1) := dk_3 (dk_at dksX7_pool_1 12 rfl rfl)
theorem dX7_pool_36 : decode cX7_pool 36 = .ok (.putfield 36, 3) := dk_181 0 36 (dk_at dksX7_pool_1 13 rfl rfl)
theorem dX7_pool_39 : decode cX7_pool 39 = .ok (.aload_n 0, 1) := dk_42 (dk_at dksX7_pool_1 16 rfl rfl)
theorem dX7_pool_40 : decode cX7_pool 40 = .ok (.getfield 36, 3) := dk_180 0 36 (dk_at dksX7_pool_1 17 rfl rfl)
theorem dX7_pool_43 : decode cX7_pool 43 = .ok (.ifCond .le 5, 3) := dk_158 0 5 (dk_at dksX7_pool_1 20 rfl rfl)
theorem dX7_pool_46 : decode cX7_pool 46 = .ok (.iconst 0, 1) := dk_3 (dk_at dksX7_pool_1 23 rfl rfl)
theorem dX7_pool_47 : decode cX7_pool 47 = .ok (.ireturn, 1) := dk_172 (dk_at dksX7_pool_2 0 rfl rfl)
theorem dX7_pool_48 : decode cX7_pool 48 = .ok (.aload_n 0, 1) := dk_42 (dk_at dksX7_pool_2 1 rfl rfl)
theorem dX7_pool_49 : decode cX7_pool 49 = .ok (.getfield 9, 3) := dk_180 0 9 (dk_at dksX7_pool_2 2 rfl rfl)
theorem dX7_pool_52 : decode cX7_pool 52 = .ok (.iconst 0, 1) := dk_3 (dk_at dksX7_pool_2 5 rfl rfl)
theorem dX7_pool_53 : decode cX7_pool 53 = .ok (.iaload, 1) := dk_46 (dk_at dksX7_pool_2 6 rfl rfl)
theorem dX7_pool_54 : decode cX7_pool 54 = .ok (.istore 4, 2) := dk_54 4 (dk_at dksX7_pool_2 7 rfl rfl)
theorem dX7_pool_56 : decode cX7_pool 56 = .ok (.iload 4, 2) := dk_21 4 (dk_at dksX7_pool_2 9 rfl rfl)
theorem dX7_pool_58 : decode cX7_pool 58 = .ok (.bipush 6, 2) := dk_16 6 (dk_at dksX7_pool_2 11 rfl rfl)
theorem dX7_pool_60 : decode cX7_pool 60 = .ok (.if_icmp .ne 10, 3) := dk_160 0 10 (dk_at dksX7_pool_2 13 rfl rfl)
theorem dX7_pool_63 : decode cX7_pool 63 = .ok (.aload_n 0, 1) := dk_42 (dk_at dksX7_pool_2 16 rfl rfl)
theorem dX7_pool_64 : decode cX7_pool 64 = .ok (.iconst 2, 1) := dk_5 (dk_at dksX7_pool_2 17 rfl rfl)
theorem dX7_pool_65 : decode cX7_pool 65 = .ok (.iconst 1, 1) := dk_4 (dk_at dksX7_pool_2 18 rfl rfl)
theorem dX7_pool_66 : decode cX7_pool 66 = .ok (.invokevirtual 75, 3) := dk_182 0 75 (dk_at dksX7_pool_2 19 rfl rfl)
theorem dX7_pool_69 : decode cX7_pool 69 = .ok (.ireturn, 1) := dk_172 (dk_at dksX7_pool_2 22 rfl rfl)
theorem dX7_pool_70 : decode cX7_pool 70 = .ok (.aload_n 0, 1) := dk_42 (dk_at dksX7_pool_2 23 rfl rfl)
theorem dX7_pool_71 : decode cX7_pool 71 = .ok (.invokevirtual 78, 3) := dk_182 0 78 (dk_at dksX7_pool_3 0 rfl rfl)
theorem dX7_pool_74 : decode cX7_pool 74 = .ok (.iconst 0, 1) := dk_3 (dk_at dksX7_pool_3 3 rfl rfl)
theorem dX7_pool_75 : decode cX7_pool 75 = .ok (.istore 5, 2) := dk_54 5 (dk_at dksX7_pool_3 4 rfl rfl)
theorem dX7_pool_77 : decode cX7_pool 77 = .ok (.iload 5, 2) := dk_21 5 (dk_at dksX7_pool_3 6 rfl rfl)
theorem dX7_pool_79 : decode cX7_pool 79 = .ok (.bipush 11, 2) := dk_16 11 (dk_at dksX7_pool_3 8 rfl rfl)
theorem dX7_pool_81 : decode cX7_pool 81 = .ok (.if_icmp .ge 23, 3) := dk_162 0 23 (dk_at dksX7_pool_3 10 rfl rfl)
theorem dX7_pool_84 : decode cX7_pool 84 = .ok (.aload_n 0, 1) := dk_42 (dk_at dksX7_pool_3 13 rfl rfl)
theorem dX7_pool_85 : decode cX7_pool 85 = .ok (.getfield 9, 3) := dk_180 0 9 (dk_at dksX7_pool_3 14 rfl rfl)
theorem dX7_pool_88 : decode cX7_pool 88 = .ok (.iload 4, 2) := dk_21 4 (dk_at dksX7_pool_3 17 rfl rfl)
theorem dX7_pool_90 : decode cX7_pool 90 = .ok (.invokestatic 58, 3) := dk_184 0 58 (dk_at dksX7_pool_3 19 rfl rfl)
theorem dX7_pool_93 : decode cX7_pool 93 = .ok (.iload 5, 2) := dk_21 5 (dk_at dksX7_pool_3 22 rfl rfl)
theorem dX7_pool_95 : decode cX7_pool 95 = .ok (.iadd, 1) := dk_96 (dk_at dksX7_pool_4 0 rfl rfl)
theorem dX7_pool_96 : decode cX7_pool 96 = .ok (.iconst 0, 1) := dk_3 (dk_at dksX7_pool_4 1 rfl rfl)
theorem dX7_pool_97 : decode cX7_pool 97 = .ok (.iastore, 1) := dk_79 (dk_at dksX7_pool_4 2 rfl rfl)
theorem dX7_pool_98 : decode cX7_pool 98 = .ok (.iinc 5 1, 3) := dk_132 5 1 (dk_at dksX7_pool_4 3 rfl rfl)
theorem dX7_pool_101 : decode cX7_pool 101 = .ok (.goto (-24), 3) := dk_167 255 232 (dk_at dksX7_pool_4 6 rfl rfl)
theorem dX7_pool_104 : decode cX7_pool 104 = .ok (.aload_n 0, 1) := dk_42 (dk_at dksX7_pool_4 9 rfl rfl)
theorem dX7_pool_105 : decode cX7_pool 105 = .ok (.getfield 9, 3) := dk_180 0 9 (dk_at dksX7_pool_4 10 rfl rfl)
theorem dX7_pool_108 : decode cX7_pool 108 = .ok (.iload 4, 2) := dk_21 4 (dk_at dksX7_pool_4 13 rfl rfl)
theorem dX7_pool_110 : decode cX7_pool 110 = .ok (.invokestatic 58, 3) := dk_184 0 58 (dk_at dksX7_pool_4 15 rfl rfl)
theorem dX7_pool_113 : decode cX7_pool 113 = .ok (.iconst 0, 1) := dk_3 (dk_at dksX7_pool_4 18 rfl rfl)
theorem dX7_pool_114 : decode cX7_pool 114 = .ok (.iadd, 1) := dk_96 (dk_at dksX7_pool_4 19 rfl rfl)
theorem dX7_pool_115 : decode cX7_pool 115 = .ok (.iload_n 1, 1) := dk_27 (dk_at dksX7_pool_4 20 rfl rfl)
theorem dX7_pool_116 : decode cX7_pool 116 = .ok (.iastore, 1) := dk_79 (dk_at dksX7_pool_4 21 rfl rfl)
theorem dX7_pool_117 : decode cX7_pool 117 = .ok (.aload_n 0, 1) := dk_42 (dk_at dksX7_pool_4 22 rfl rfl)
theorem dX7_pool_118 : decode cX7_pool 118 = .ok (.getfield 9, 3) := dk_180 0 9 (dk_at dksX7_pool_5 0 rfl rfl)
theorem dX7_pool_121 : decode cX7_pool 121 = .ok (.iload 4, 2) := dk_21 4 (dk_at dksX7_pool_5 3 rfl rfl)
theorem dX7_pool_123 : decode cX7_pool 123 = .ok (.invokestatic 58, 3) := dk_184 0 58 (dk_at dksX7_pool_5 5 rfl rfl)
theorem dX7_pool_126 : decode cX7_pool 126 = .ok (.iconst 1, 1) := dk_4 (dk_at dksX7_pool_5 8 rfl rfl)
theorem dX7_pool_127 : decode cX7_pool 127 = .ok (.iadd, 1) := dk_96 (dk_at dksX7_pool_5 9 rfl rfl)
theorem dX7_pool_128 : decode cX7_pool 128 = .ok (.iload_n 2, 1) := dk_28 (dk_at dksX7_pool_5 10 rfl rfl)
theorem dX7_pool_129 : decode cX7_pool 129 = .ok (.iastore, 1) := dk_79 (dk_at dksX7_pool_5 11 rfl rfl)
theorem dX7_pool_130 : decode cX7_pool 130 = .ok (.aload_n 0, 1) := dk_42 (dk_at dksX7_pool_5 12 rfl rfl)
theorem dX7_pool_131 : decode cX7_pool 131 = .ok (.getfield 9, 3) := dk_180 0 9 (dk_at dksX7_pool_5 13 rfl rfl)
theorem dX7_pool_134 : decode cX7_pool 134 = .ok (.iload 4, 2) := dk_21 4 (dk_at dksX7_pool_5 16 rfl rfl)
theorem dX7_pool_136 : decode cX7_pool 136 = .ok (.invokestatic 58, 3) := dk_184 0 58 (dk_at dksX7_pool_5 18 rfl rfl)
theorem dX7_pool_139 : decode cX7_pool 139 = .ok (.iconst 2, 1) := dk_5 (dk_at dksX7_pool_5 21 rfl rfl)
theorem dX7_pool_140 : decode cX7_pool 140 = .ok (.iadd, 1) := dk_96 (dk_at dksX7_pool_5 22 rfl rfl)
theorem dX7_pool_141 : decode cX7_pool 141 = .ok (.iload_n 3, 1) := dk_29 (dk_at dksX7_pool_5 23 rfl rfl)
theorem dX7_pool_142 : decode cX7_pool 142 = .ok (.iastore, 1) := dk_79 (dk_at dksX7_pool_6 0 rfl rfl)
theorem dX7_pool_143 : decode cX7_pool 143 = .ok (.aload_n 0, 1) := dk_42 (dk_at dksX7_pool_6 1 rfl rfl)
theorem dX7_pool_144 : decode cX7_pool 144 = .ok (.getfield 9, 3) := dk_180 0 9 (dk_at dksX7_pool_6 2 rfl rfl)
theorem dX7_pool_147 : decode cX7_pool 147 = .ok (.iload 4, 2) := dk_21 4 (dk_at dksX7_pool_6 5 rfl rfl)
theorem dX7_pool_149 : decode cX7_pool 149 = .ok (.invokestatic 58, 3) := dk_184 0 58 (dk_at dksX7_pool_6 7 rfl rfl)
theorem dX7_pool_152 : decode cX7_pool 152 = .ok (.iconst 3, 1) := dk_6 (dk_at dksX7_pool_6 10 rfl rfl)
theorem dX7_pool_153 : decode cX7_pool 153 = .ok (.iadd, 1) := dk_96 (dk_at dksX7_pool_6 11 rfl rfl)
theorem dX7_pool_154 : decode cX7_pool 154 = .ok (.iconst 3, 1) := dk_6 (dk_at dksX7_pool_6 12 rfl rfl)
theorem dX7_pool_155 : decode cX7_pool 155 = .ok (.iastore, 1) := dk_79 (dk_at dksX7_pool_6 13 rfl rfl)
theorem dX7_pool_156 : decode cX7_pool 156 = .ok (.aload_n 0, 1) := dk_42 (dk_at dksX7_pool_6 14 rfl rfl)
theorem dX7_pool_157 : decode cX7_pool 157 = .ok (.getfield 9, 3) := dk_180 0 9 (dk_at dksX7_pool_6 15 rfl rfl)
theorem dX7_pool_160 : decode cX7_pool 160 = .ok (.iconst 0, 1) := dk_3 (dk_at dksX7_pool_6 18 rfl rfl)
theorem dX7_pool_161 : decode cX7_pool 161 = .ok (.dup2, 1) := dk_92 (dk_at dksX7_pool_6 19 rfl rfl)
theorem dX7_pool_162 : decode cX7_pool 162 = .ok (.iaload, 1) := dk_46 (dk_at dksX7_pool_6 20 rfl rfl)
theorem dX7_pool_163 : decode cX7_pool 163 = .ok (.iconst 1, 1) := dk_4 (dk_at dksX7_pool_6 21 rfl rfl)
theorem dX7_pool_164 : decode cX7_pool 164 = .ok (.iadd, 1) := dk_96 (dk_at dksX7_pool_6 22 rfl rfl)
theorem dX7_pool_165 : decode cX7_pool 165 = .ok (.iastore, 1) := dk_79 (dk_at dksX7_pool_6 23 rfl rfl)
theorem dX7_pool_166 : decode cX7_pool 166 = .ok (.aload_n 0, 1) := dk_42 (dk_at dksX7_pool_7 0 rfl rfl)
theorem dX7_pool_167 : decode cX7_pool 167 = .ok (.iload 4, 2) := dk_21 4 (dk_at dksX7_pool_7 1 rfl rfl)
theorem dX7_pool_169 : decode cX7_pool 169 = .ok (.invokevirtual 81, 3) := dk_182 0 81 (dk_at dksX7_pool_7 3 rfl rfl)
theorem dX7_pool_172 : decode cX7_pool 172 = .ok (.ireturn, 1) := dk_172 (dk_at dksX7_pool_7 6 rfl rfl)
def dkwX7_in_0 : List UInt8 := [26, 27, 161, 0, 12, 26, 28, 163, 0, 7, 4, 167, 0, 4, 3, 172]
abbrev dktX7_in_0 : List UInt8 := dkwX7_in_0 ++ []
theorem dksX7_in_0 : cX7_in.data.toList.drop 0 = dktX7_in_0 := by decide +kernel
theorem dX7_in_0 : decode cX7_in 0 = .ok (.iload_n 0, 1) := dk_26 (dk_at dksX7_in_0 0 rfl rfl)
theorem dX7_in_1 : decode cX7_in 1 = .ok (.iload_n 1, 1) := dk_27 (dk_at dksX7_in_0 1 rfl rfl)
theorem dX7_in_2 : decode cX7_in 2 = .ok (.if_icmp .lt 12, 3) := dk_161 0 12 (dk_at dksX7_in_0 2 rfl rfl)
theorem dX7_in_5 : decode cX7_in 5 = .ok (.iload_n 0, 1) := dk_26 (dk_at dksX7_in_0 5 rfl rfl)
theorem dX7_in_6 : decode cX7_in 6 = .ok (.iload_n 2, 1) := dk_28 (dk_at dksX7_in_0 6 rfl rfl)
theorem dX7_in_7 : decode cX7_in 7 = .ok (.if_icmp .gt 7, 3) := dk_163 0 7 (dk_at dksX7_in_0 7 rfl rfl)
theorem dX7_in_10 : decode cX7_in 10 = .ok (.iconst 1, 1) := dk_4 (dk_at dksX7_in_0 10 rfl rfl)
theorem dX7_in_11 : decode cX7_in 11 = .ok (.goto 4, 3) := dk_167 0 4 (dk_at dksX7_in_0 11 rfl rfl)
theorem dX7_in_14 : decode cX7_in 14 = .ok (.iconst 0, 1) := dk_3 (dk_at dksX7_in_0 14 rfl rfl)
theorem dX7_in_15 : decode cX7_in 15 = .ok (.ireturn, 1) := dk_172 (dk_at dksX7_in_0 15 rfl rfl)
def dkwX7_refuse_0 : List UInt8 := [42, 27, 181, 0, 36, 42, 28, 181, 0, 48, 42, 3, 181, 0, 51, 3, 172]
abbrev dktX7_refuse_0 : List UInt8 := dkwX7_refuse_0 ++ []
theorem dksX7_refuse_0 : cX7_refuse.data.toList.drop 0 = dktX7_refuse_0 := by decide +kernel
theorem dX7_refuse_0 : decode cX7_refuse 0 = .ok (.aload_n 0, 1) := dk_42 (dk_at dksX7_refuse_0 0 rfl rfl)
theorem dX7_refuse_1 : decode cX7_refuse 1 = .ok (.iload_n 1, 1) := dk_27 (dk_at dksX7_refuse_0 1 rfl rfl)
theorem dX7_refuse_2 : decode cX7_refuse 2 = .ok (.putfield 36, 3) := dk_181 0 36 (dk_at dksX7_refuse_0 2 rfl rfl)
theorem dX7_refuse_5 : decode cX7_refuse 5 = .ok (.aload_n 0, 1) := dk_42 (dk_at dksX7_refuse_0 5 rfl rfl)
theorem dX7_refuse_6 : decode cX7_refuse 6 = .ok (.iload_n 2, 1) := dk_28 (dk_at dksX7_refuse_0 6 rfl rfl)
theorem dX7_refuse_7 : decode cX7_refuse 7 = .ok (.putfield 48, 3) := dk_181 0 48 (dk_at dksX7_refuse_0 7 rfl rfl)
theorem dX7_refuse_10 : decode cX7_refuse 10 = .ok (.aload_n 0, 1) := dk_42 (dk_at dksX7_refuse_0 10 rfl rfl)
theorem dX7_refuse_11 : decode cX7_refuse 11 = .ok (.iconst 0, 1) := dk_3 (dk_at dksX7_refuse_0 11 rfl rfl)
theorem dX7_refuse_12 : decode cX7_refuse 12 = .ok (.putfield 51, 3) := dk_181 0 51 (dk_at dksX7_refuse_0 12 rfl rfl)
theorem dX7_refuse_15 : decode cX7_refuse 15 = .ok (.iconst 0, 1) := dk_3 (dk_at dksX7_refuse_0 15 rfl rfl)
theorem dX7_refuse_16 : decode cX7_refuse 16 = .ok (.ireturn, 1) := dk_172 (dk_at dksX7_refuse_0 16 rfl rfl)
def dkwX7_keep_0 : List UInt8 := [42, 180, 0, 9, 3, 42, 180, 0, 13, 3, 17, 0, 156, 184, 0, 39, 177]
abbrev dktX7_keep_0 : List UInt8 := dkwX7_keep_0 ++ []
theorem dksX7_keep_0 : cX7_keep.data.toList.drop 0 = dktX7_keep_0 := by decide +kernel
theorem dX7_keep_0 : decode cX7_keep 0 = .ok (.aload_n 0, 1) := dk_42 (dk_at dksX7_keep_0 0 rfl rfl)
theorem dX7_keep_1 : decode cX7_keep 1 = .ok (.getfield 9, 3) := dk_180 0 9 (dk_at dksX7_keep_0 1 rfl rfl)
theorem dX7_keep_4 : decode cX7_keep 4 = .ok (.iconst 0, 1) := dk_3 (dk_at dksX7_keep_0 4 rfl rfl)
theorem dX7_keep_5 : decode cX7_keep 5 = .ok (.aload_n 0, 1) := dk_42 (dk_at dksX7_keep_0 5 rfl rfl)
theorem dX7_keep_6 : decode cX7_keep 6 = .ok (.getfield 13, 3) := dk_180 0 13 (dk_at dksX7_keep_0 6 rfl rfl)
theorem dX7_keep_9 : decode cX7_keep 9 = .ok (.iconst 0, 1) := dk_3 (dk_at dksX7_keep_0 9 rfl rfl)
theorem dX7_keep_10 : decode cX7_keep 10 = .ok (.sipush 156, 3) := dk_17 0 156 (dk_at dksX7_keep_0 10 rfl rfl)
theorem dX7_keep_13 : decode cX7_keep 13 = .ok (.invokestatic 39, 3) := dk_184 0 39 (dk_at dksX7_keep_0 13 rfl rfl)
theorem dX7_keep_16 : decode cX7_keep 16 = .ok (.return_, 1) := dk_177 (dk_at dksX7_keep_0 16 rfl rfl)
def dkwX7_at_0 : List UInt8 := [16, 12, 16, 11, 26, 104, 96, 172]
abbrev dktX7_at_0 : List UInt8 := dkwX7_at_0 ++ []
theorem dksX7_at_0 : cX7_at.data.toList.drop 0 = dktX7_at_0 := by decide +kernel
theorem dX7_at_0 : decode cX7_at 0 = .ok (.bipush 12, 2) := dk_16 12 (dk_at dksX7_at_0 0 rfl rfl)
theorem dX7_at_2 : decode cX7_at 2 = .ok (.bipush 11, 2) := dk_16 11 (dk_at dksX7_at_0 2 rfl rfl)
theorem dX7_at_4 : decode cX7_at 4 = .ok (.iload_n 0, 1) := dk_26 (dk_at dksX7_at_0 4 rfl rfl)
theorem dX7_at_5 : decode cX7_at 5 = .ok (.imul, 1) := dk_104 (dk_at dksX7_at_0 5 rfl rfl)
theorem dX7_at_6 : decode cX7_at 6 = .ok (.iadd, 1) := dk_96 (dk_at dksX7_at_0 6 rfl rfl)
theorem dX7_at_7 : decode cX7_at 7 = .ok (.ireturn, 1) := dk_172 (dk_at dksX7_at_0 7 rfl rfl)
def dkwX7_ends_4 : List UInt8 := [181, 0, 45, 27, 172]
abbrev dktX7_ends_4 : List UInt8 := dkwX7_ends_4 ++ []
def dkwX7_ends_3 : List UInt8 := [180, 0, 22, 17, 0, 156, 42, 180, 0, 45, 104, 17, 0, 156, 184, 0, 39, 42, 89, 180, 0, 45, 4, 96]
abbrev dktX7_ends_3 : List UInt8 := dkwX7_ends_3 ++ dktX7_ends_4
def dkwX7_ends_2 : List UInt8 := [17, 4, 68, 184, 0, 39, 42, 89, 180, 0, 45, 4, 100, 181, 0, 45, 42, 180, 0, 13, 3, 42]
abbrev dktX7_ends_2 : List UInt8 := dkwX7_ends_2 ++ dktX7_ends_3
def dkwX7_ends_1 : List UInt8 := [172, 42, 180, 0, 45, 16, 8, 160, 0, 31, 42, 180, 0, 22, 17, 0, 156, 42, 180, 0, 22, 3]
abbrev dktX7_ends_1 : List UInt8 := dkwX7_ends_1 ++ dktX7_ends_2
def dkwX7_ends_0 : List UInt8 := [42, 180, 0, 36, 158, 0, 21, 42, 180, 0, 13, 3, 42, 180, 0, 9, 3, 17, 0, 156, 184, 0, 39, 3]
abbrev dktX7_ends_0 : List UInt8 := dkwX7_ends_0 ++ dktX7_ends_1
theorem dksX7_ends_0 : cX7_ends.data.toList.drop 0 = dktX7_ends_0 := by decide +kernel
theorem dksX7_ends_1 : cX7_ends.data.toList.drop 24 = dktX7_ends_1 := dk_seg dksX7_ends_0 24 rfl rfl
theorem dksX7_ends_2 : cX7_ends.data.toList.drop 46 = dktX7_ends_2 := dk_seg dksX7_ends_1 22 rfl rfl
theorem dksX7_ends_3 : cX7_ends.data.toList.drop 68 = dktX7_ends_3 := dk_seg dksX7_ends_2 22 rfl rfl
theorem dksX7_ends_4 : cX7_ends.data.toList.drop 92 = dktX7_ends_4 := dk_seg dksX7_ends_3 24 rfl rfl
theorem dX7_ends_0 : decode cX7_ends 0 = .ok (.aload_n 0, 1) := dk_42 (dk_at dksX7_ends_0 0 rfl rfl)
theorem dX7_ends_1 : decode cX7_ends 1 = .ok (.getfield 36, 3) := dk_180 0 36 (dk_at dksX7_ends_0 1 rfl rfl)
theorem dX7_ends_4 : decode cX7_ends 4 = .ok (.ifCond .le 21, 3) := dk_158 0 21 (dk_at dksX7_ends_0 4 rfl rfl)
theorem dX7_ends_7 : decode cX7_ends 7 = .ok (.aload_n 0, 1) := dk_42 (dk_at dksX7_ends_0 7 rfl rfl)
theorem dX7_ends_8 : decode cX7_ends 8 = .ok (.getfield 13, 3) := dk_180 0 13 (dk_at dksX7_ends_0 8 rfl rfl)
theorem dX7_ends_11 : decode cX7_ends 11 = .ok (.iconst 0, 1) := dk_3 (dk_at dksX7_ends_0 11 rfl rfl)
theorem dX7_ends_12 : decode cX7_ends 12 = .ok (.aload_n 0, 1) := dk_42 (dk_at dksX7_ends_0 12 rfl rfl)
theorem dX7_ends_13 : decode cX7_ends 13 = .ok (.getfield 9, 3) := dk_180 0 9 (dk_at dksX7_ends_0 13 rfl rfl)
theorem dX7_ends_16 : decode cX7_ends 16 = .ok (.iconst 0, 1) := dk_3 (dk_at dksX7_ends_0 16 rfl rfl)
theorem dX7_ends_17 : decode cX7_ends 17 = .ok (.sipush 156, 3) := dk_17 0 156 (dk_at dksX7_ends_0 17 rfl rfl)
theorem dX7_ends_20 : decode cX7_ends 20 = .ok (.invokestatic 39, 3) := dk_184 0 39 (dk_at dksX7_ends_0 20 rfl rfl)
theorem dX7_ends_23 : decode cX7_ends 23 = .ok (.iconst 0, 1) := dk_3 (dk_at dksX7_ends_0 23 rfl rfl)
theorem dX7_ends_24 : decode cX7_ends 24 = .ok (.ireturn, 1) := dk_172 (dk_at dksX7_ends_1 0 rfl rfl)
theorem dX7_ends_25 : decode cX7_ends 25 = .ok (.aload_n 0, 1) := dk_42 (dk_at dksX7_ends_1 1 rfl rfl)
theorem dX7_ends_26 : decode cX7_ends 26 = .ok (.getfield 45, 3) := dk_180 0 45 (dk_at dksX7_ends_1 2 rfl rfl)
theorem dX7_ends_29 : decode cX7_ends 29 = .ok (.bipush 8, 2) := dk_16 8 (dk_at dksX7_ends_1 5 rfl rfl)
theorem dX7_ends_31 : decode cX7_ends 31 = .ok (.if_icmp .ne 31, 3) := dk_160 0 31 (dk_at dksX7_ends_1 7 rfl rfl)
theorem dX7_ends_34 : decode cX7_ends 34 = .ok (.aload_n 0, 1) := dk_42 (dk_at dksX7_ends_1 10 rfl rfl)
theorem dX7_ends_35 : decode cX7_ends 35 = .ok (.getfield 22, 3) := dk_180 0 22 (dk_at dksX7_ends_1 11 rfl rfl)
theorem dX7_ends_38 : decode cX7_ends 38 = .ok (.sipush 156, 3) := dk_17 0 156 (dk_at dksX7_ends_1 14 rfl rfl)
theorem dX7_ends_41 : decode cX7_ends 41 = .ok (.aload_n 0, 1) := dk_42 (dk_at dksX7_ends_1 17 rfl rfl)
theorem dX7_ends_42 : decode cX7_ends 42 = .ok (.getfield 22, 3) := dk_180 0 22 (dk_at dksX7_ends_1 18 rfl rfl)
theorem dX7_ends_45 : decode cX7_ends 45 = .ok (.iconst 0, 1) := dk_3 (dk_at dksX7_ends_1 21 rfl rfl)
theorem dX7_ends_46 : decode cX7_ends 46 = .ok (.sipush 1092, 3) := dk_17 4 68 (dk_at dksX7_ends_2 0 rfl rfl)
theorem dX7_ends_49 : decode cX7_ends 49 = .ok (.invokestatic 39, 3) := dk_184 0 39 (dk_at dksX7_ends_2 3 rfl rfl)
theorem dX7_ends_52 : decode cX7_ends 52 = .ok (.aload_n 0, 1) := dk_42 (dk_at dksX7_ends_2 6 rfl rfl)
theorem dX7_ends_53 : decode cX7_ends 53 = .ok (.dup, 1) := dk_89 (dk_at dksX7_ends_2 7 rfl rfl)
theorem dX7_ends_54 : decode cX7_ends 54 = .ok (.getfield 45, 3) := dk_180 0 45 (dk_at dksX7_ends_2 8 rfl rfl)
theorem dX7_ends_57 : decode cX7_ends 57 = .ok (.iconst 1, 1) := dk_4 (dk_at dksX7_ends_2 11 rfl rfl)
theorem dX7_ends_58 : decode cX7_ends 58 = .ok (.isub, 1) := dk_100 (dk_at dksX7_ends_2 12 rfl rfl)
theorem dX7_ends_59 : decode cX7_ends 59 = .ok (.putfield 45, 3) := dk_181 0 45 (dk_at dksX7_ends_2 13 rfl rfl)
theorem dX7_ends_62 : decode cX7_ends 62 = .ok (.aload_n 0, 1) := dk_42 (dk_at dksX7_ends_2 16 rfl rfl)
theorem dX7_ends_63 : decode cX7_ends 63 = .ok (.getfield 13, 3) := dk_180 0 13 (dk_at dksX7_ends_2 17 rfl rfl)
theorem dX7_ends_66 : decode cX7_ends 66 = .ok (.iconst 0, 1) := dk_3 (dk_at dksX7_ends_2 20 rfl rfl)
theorem dX7_ends_67 : decode cX7_ends 67 = .ok (.aload_n 0, 1) := dk_42 (dk_at dksX7_ends_2 21 rfl rfl)
theorem dX7_ends_68 : decode cX7_ends 68 = .ok (.getfield 22, 3) := dk_180 0 22 (dk_at dksX7_ends_3 0 rfl rfl)
theorem dX7_ends_71 : decode cX7_ends 71 = .ok (.sipush 156, 3) := dk_17 0 156 (dk_at dksX7_ends_3 3 rfl rfl)
theorem dX7_ends_74 : decode cX7_ends 74 = .ok (.aload_n 0, 1) := dk_42 (dk_at dksX7_ends_3 6 rfl rfl)
theorem dX7_ends_75 : decode cX7_ends 75 = .ok (.getfield 45, 3) := dk_180 0 45 (dk_at dksX7_ends_3 7 rfl rfl)
theorem dX7_ends_78 : decode cX7_ends 78 = .ok (.imul, 1) := dk_104 (dk_at dksX7_ends_3 10 rfl rfl)
theorem dX7_ends_79 : decode cX7_ends 79 = .ok (.sipush 156, 3) := dk_17 0 156 (dk_at dksX7_ends_3 11 rfl rfl)
theorem dX7_ends_82 : decode cX7_ends 82 = .ok (.invokestatic 39, 3) := dk_184 0 39 (dk_at dksX7_ends_3 14 rfl rfl)
theorem dX7_ends_85 : decode cX7_ends 85 = .ok (.aload_n 0, 1) := dk_42 (dk_at dksX7_ends_3 17 rfl rfl)
theorem dX7_ends_86 : decode cX7_ends 86 = .ok (.dup, 1) := dk_89 (dk_at dksX7_ends_3 18 rfl rfl)
theorem dX7_ends_87 : decode cX7_ends 87 = .ok (.getfield 45, 3) := dk_180 0 45 (dk_at dksX7_ends_3 19 rfl rfl)
theorem dX7_ends_90 : decode cX7_ends 90 = .ok (.iconst 1, 1) := dk_4 (dk_at dksX7_ends_3 22 rfl rfl)
theorem dX7_ends_91 : decode cX7_ends 91 = .ok (.iadd, 1) := dk_96 (dk_at dksX7_ends_3 23 rfl rfl)
theorem dX7_ends_92 : decode cX7_ends 92 = .ok (.putfield 45, 3) := dk_181 0 45 (dk_at dksX7_ends_4 0 rfl rfl)
theorem dX7_ends_95 : decode cX7_ends 95 = .ok (.iload_n 1, 1) := dk_27 (dk_at dksX7_ends_4 3 rfl rfl)
theorem dX7_ends_96 : decode cX7_ends 96 = .ok (.ireturn, 1) := dk_172 (dk_at dksX7_ends_4 4 rfl rfl)
def dkwX7_boards_0 : List UInt8 := [42, 182, 0, 78, 42, 42, 27, 28, 182, 0, 87, 182, 0, 81, 172]
abbrev dktX7_boards_0 : List UInt8 := dkwX7_boards_0 ++ []
theorem dksX7_boards_0 : cX7_boards.data.toList.drop 0 = dktX7_boards_0 := by decide +kernel
theorem dX7_boards_0 : decode cX7_boards 0 = .ok (.aload_n 0, 1) := dk_42 (dk_at dksX7_boards_0 0 rfl rfl)
theorem dX7_boards_1 : decode cX7_boards 1 = .ok (.invokevirtual 78, 3) := dk_182 0 78 (dk_at dksX7_boards_0 1 rfl rfl)
theorem dX7_boards_4 : decode cX7_boards 4 = .ok (.aload_n 0, 1) := dk_42 (dk_at dksX7_boards_0 4 rfl rfl)
theorem dX7_boards_5 : decode cX7_boards 5 = .ok (.aload_n 0, 1) := dk_42 (dk_at dksX7_boards_0 5 rfl rfl)
theorem dX7_boards_6 : decode cX7_boards 6 = .ok (.iload_n 1, 1) := dk_27 (dk_at dksX7_boards_0 6 rfl rfl)
theorem dX7_boards_7 : decode cX7_boards 7 = .ok (.iload_n 2, 1) := dk_28 (dk_at dksX7_boards_0 7 rfl rfl)
theorem dX7_boards_8 : decode cX7_boards 8 = .ok (.invokevirtual 87, 3) := dk_182 0 87 (dk_at dksX7_boards_0 8 rfl rfl)
theorem dX7_boards_11 : decode cX7_boards 11 = .ok (.invokevirtual 81, 3) := dk_182 0 81 (dk_at dksX7_boards_0 11 rfl rfl)
theorem dX7_boards_14 : decode cX7_boards 14 = .ok (.ireturn, 1) := dk_172 (dk_at dksX7_boards_0 14 rfl rfl)
def dkwX7_doBoards_4 : List UInt8 := [28, 79, 29, 172]
abbrev dktX7_doBoards_4 : List UInt8 := dkwX7_doBoards_4 ++ []
def dkwX7_doBoards_3 : List UInt8 := [182, 0, 62, 104, 164, 0, 10, 42, 6, 8, 182, 0, 75, 172, 42, 180, 0, 9, 27, 184, 0, 58, 6, 96]
abbrev dktX7_doBoards_3 : List UInt8 := dkwX7_doBoards_3 ++ dktX7_doBoards_4
def dkwX7_doBoards_2 : List UInt8 := [29, 162, 0, 35, 42, 27, 182, 0, 66, 154, 0, 27, 42, 27, 7, 182, 0, 62, 28, 42, 27, 3]
abbrev dktX7_doBoards_2 : List UInt8 := dkwX7_doBoards_2 ++ dktX7_doBoards_3
def dkwX7_doBoards_1 : List UInt8 := [167, 0, 4, 3, 181, 0, 36, 42, 180, 0, 36, 158, 0, 5, 3, 172, 42, 27, 6, 182, 0, 62, 62, 28]
abbrev dktX7_doBoards_1 : List UInt8 := dkwX7_doBoards_1 ++ dktX7_doBoards_2
def dkwX7_doBoards_0 : List UInt8 := [42, 42, 27, 182, 0, 84, 154, 0, 7, 4, 167, 0, 18, 28, 3, 16, 9, 184, 0, 54, 154, 0, 7, 5]
abbrev dktX7_doBoards_0 : List UInt8 := dkwX7_doBoards_0 ++ dktX7_doBoards_1
theorem dksX7_doBoards_0 : cX7_doBoards.data.toList.drop 0 = dktX7_doBoards_0 := by decide +kernel
theorem dksX7_doBoards_1 : cX7_doBoards.data.toList.drop 24 = dktX7_doBoards_1 := dk_seg dksX7_doBoards_0 24 rfl rfl
theorem dksX7_doBoards_2 : cX7_doBoards.data.toList.drop 48 = dktX7_doBoards_2 := dk_seg dksX7_doBoards_1 24 rfl rfl
theorem dksX7_doBoards_3 : cX7_doBoards.data.toList.drop 70 = dktX7_doBoards_3 := dk_seg dksX7_doBoards_2 22 rfl rfl
theorem dksX7_doBoards_4 : cX7_doBoards.data.toList.drop 94 = dktX7_doBoards_4 := dk_seg dksX7_doBoards_3 24 rfl rfl
theorem dX7_doBoards_0 : decode cX7_doBoards 0 = .ok (.aload_n 0, 1) := dk_42 (dk_at dksX7_doBoards_0 0 rfl rfl)
theorem dX7_doBoards_1 : decode cX7_doBoards 1 = .ok (.aload_n 0, 1) := dk_42 (dk_at dksX7_doBoards_0 1 rfl rfl)
theorem dX7_doBoards_2 : decode cX7_doBoards 2 = .ok (.iload_n 1, 1) := dk_27 (dk_at dksX7_doBoards_0 2 rfl rfl)
theorem dX7_doBoards_3 : decode cX7_doBoards 3 = .ok (.invokevirtual 84, 3) := dk_182 0 84 (dk_at dksX7_doBoards_0 3 rfl rfl)
theorem dX7_doBoards_6 : decode cX7_doBoards 6 = .ok (.ifCond .ne 7, 3) := dk_154 0 7 (dk_at dksX7_doBoards_0 6 rfl rfl)
theorem dX7_doBoards_9 : decode cX7_doBoards 9 = .ok (.iconst 1, 1) := dk_4 (dk_at dksX7_doBoards_0 9 rfl rfl)
theorem dX7_doBoards_10 : decode cX7_doBoards 10 = .ok (.goto 18, 3) := dk_167 0 18 (dk_at dksX7_doBoards_0 10 rfl rfl)
theorem dX7_doBoards_13 : decode cX7_doBoards 13 = .ok (.iload_n 2, 1) := dk_28 (dk_at dksX7_doBoards_0 13 rfl rfl)
theorem dX7_doBoards_14 : decode cX7_doBoards 14 = .ok (.iconst 0, 1) := dk_3 (dk_at dksX7_doBoards_0 14 rfl rfl)
theorem dX7_doBoards_15 : decode cX7_doBoards 15 = .ok (.bipush 9, 2) := dk_16 9 (dk_at dksX7_doBoards_0 15 rfl rfl)
theorem dX7_doBoards_17 : decode cX7_doBoards 17 = .ok (.invokestatic 54, 3) := dk_184 0 54 (dk_at dksX7_doBoards_0 17 rfl rfl)
theorem dX7_doBoards_20 : decode cX7_doBoards 20 = .ok (.ifCond .ne 7, 3) := dk_154 0 7 (dk_at dksX7_doBoards_0 20 rfl rfl)
theorem dX7_doBoards_23 : decode cX7_doBoards 23 = .ok (.iconst 2, 1) := dk_5 (dk_at dksX7_doBoards_0 23 rfl rfl)
theorem dX7_doBoards_24 : decode cX7_doBoards 24 = .ok (.goto 4, 3) := dk_167 0 4 (dk_at dksX7_doBoards_1 0 rfl rfl)
theorem dX7_doBoards_27 : decode cX7_doBoards 27 = .ok (.iconst 0, 1) := dk_3 (dk_at dksX7_doBoards_1 3 rfl rfl)
theorem dX7_doBoards_28 : decode cX7_doBoards 28 = .ok (.putfield 36, 3) := dk_181 0 36 (dk_at dksX7_doBoards_1 4 rfl rfl)
theorem dX7_doBoards_31 : decode cX7_doBoards 31 = .ok (.aload_n 0, 1) := dk_42 (dk_at dksX7_doBoards_1 7 rfl rfl)
theorem dX7_doBoards_32 : decode cX7_doBoards 32 = .ok (.getfield 36, 3) := dk_180 0 36 (dk_at dksX7_doBoards_1 8 rfl rfl)
theorem dX7_doBoards_35 : decode cX7_doBoards 35 = .ok (.ifCond .le 5, 3) := dk_158 0 5 (dk_at dksX7_doBoards_1 11 rfl rfl)
theorem dX7_doBoards_38 : decode cX7_doBoards 38 = .ok (.iconst 0, 1) := dk_3 (dk_at dksX7_doBoards_1 14 rfl rfl)
theorem dX7_doBoards_39 : decode cX7_doBoards 39 = .ok (.ireturn, 1) := dk_172 (dk_at dksX7_doBoards_1 15 rfl rfl)
theorem dX7_doBoards_40 : decode cX7_doBoards 40 = .ok (.aload_n 0, 1) := dk_42 (dk_at dksX7_doBoards_1 16 rfl rfl)
theorem dX7_doBoards_41 : decode cX7_doBoards 41 = .ok (.iload_n 1, 1) := dk_27 (dk_at dksX7_doBoards_1 17 rfl rfl)
theorem dX7_doBoards_42 : decode cX7_doBoards 42 = .ok (.iconst 3, 1) := dk_6 (dk_at dksX7_doBoards_1 18 rfl rfl)
theorem dX7_doBoards_43 : decode cX7_doBoards 43 = .ok (.invokevirtual 62, 3) := dk_182 0 62 (dk_at dksX7_doBoards_1 19 rfl rfl)
theorem dX7_doBoards_46 : decode cX7_doBoards 46 = .ok (.istore_n 3, 1) := dk_62 (dk_at dksX7_doBoards_1 22 rfl rfl)
theorem dX7_doBoards_47 : decode cX7_doBoards 47 = .ok (.iload_n 2, 1) := dk_28 (dk_at dksX7_doBoards_1 23 rfl rfl)
theorem dX7_doBoards_48 : decode cX7_doBoards 48 = .ok (.iload_n 3, 1) := dk_29 (dk_at dksX7_doBoards_2 0 rfl rfl)
theorem dX7_doBoards_49 : decode cX7_doBoards 49 = .ok (.if_icmp .ge 35, 3) := dk_162 0 35 (dk_at dksX7_doBoards_2 1 rfl rfl)
theorem dX7_doBoards_52 : decode cX7_doBoards 52 = .ok (.aload_n 0, 1) := dk_42 (dk_at dksX7_doBoards_2 4 rfl rfl)
theorem dX7_doBoards_53 : decode cX7_doBoards 53 = .ok (.iload_n 1, 1) := dk_27 (dk_at dksX7_doBoards_2 5 rfl rfl)
theorem dX7_doBoards_54 : decode cX7_doBoards 54 = .ok (.invokevirtual 66, 3) := dk_182 0 66 (dk_at dksX7_doBoards_2 6 rfl rfl)
theorem dX7_doBoards_57 : decode cX7_doBoards 57 = .ok (.ifCond .ne 27, 3) := dk_154 0 27 (dk_at dksX7_doBoards_2 9 rfl rfl)
theorem dX7_doBoards_60 : decode cX7_doBoards 60 = .ok (.aload_n 0, 1) := dk_42 (dk_at dksX7_doBoards_2 12 rfl rfl)
theorem dX7_doBoards_61 : decode cX7_doBoards 61 = .ok (.iload_n 1, 1) := dk_27 (dk_at dksX7_doBoards_2 13 rfl rfl)
theorem dX7_doBoards_62 : decode cX7_doBoards 62 = .ok (.iconst 4, 1) := dk_7 (dk_at dksX7_doBoards_2 14 rfl rfl)
theorem dX7_doBoards_63 : decode cX7_doBoards 63 = .ok (.invokevirtual 62, 3) := dk_182 0 62 (dk_at dksX7_doBoards_2 15 rfl rfl)
theorem dX7_doBoards_66 : decode cX7_doBoards 66 = .ok (.iload_n 2, 1) := dk_28 (dk_at dksX7_doBoards_2 18 rfl rfl)
theorem dX7_doBoards_67 : decode cX7_doBoards 67 = .ok (.aload_n 0, 1) := dk_42 (dk_at dksX7_doBoards_2 19 rfl rfl)
theorem dX7_doBoards_68 : decode cX7_doBoards 68 = .ok (.iload_n 1, 1) := dk_27 (dk_at dksX7_doBoards_2 20 rfl rfl)
theorem dX7_doBoards_69 : decode cX7_doBoards 69 = .ok (.iconst 0, 1) := dk_3 (dk_at dksX7_doBoards_2 21 rfl rfl)
theorem dX7_doBoards_70 : decode cX7_doBoards 70 = .ok (.invokevirtual 62, 3) := dk_182 0 62 (dk_at dksX7_doBoards_3 0 rfl rfl)
theorem dX7_doBoards_73 : decode cX7_doBoards 73 = .ok (.imul, 1) := dk_104 (dk_at dksX7_doBoards_3 3 rfl rfl)
theorem dX7_doBoards_74 : decode cX7_doBoards 74 = .ok (.if_icmp .le 10, 3) := dk_164 0 10 (dk_at dksX7_doBoards_3 4 rfl rfl)
theorem dX7_doBoards_77 : decode cX7_doBoards 77 = .ok (.aload_n 0, 1) := dk_42 (dk_at dksX7_doBoards_3 7 rfl rfl)
theorem dX7_doBoards_78 : decode cX7_doBoards 78 = .ok (.iconst 3, 1) := dk_6 (dk_at dksX7_doBoards_3 8 rfl rfl)
theorem dX7_doBoards_79 : decode cX7_doBoards 79 = .ok (.iconst 5, 1) := dk_8 (dk_at dksX7_doBoards_3 9 rfl rfl)
theorem dX7_doBoards_80 : decode cX7_doBoards 80 = .ok (.invokevirtual 75, 3) := dk_182 0 75 (dk_at dksX7_doBoards_3 10 rfl rfl)
theorem dX7_doBoards_83 : decode cX7_doBoards 83 = .ok (.ireturn, 1) := dk_172 (dk_at dksX7_doBoards_3 13 rfl rfl)
theorem dX7_doBoards_84 : decode cX7_doBoards 84 = .ok (.aload_n 0, 1) := dk_42 (dk_at dksX7_doBoards_3 14 rfl rfl)
theorem dX7_doBoards_85 : decode cX7_doBoards 85 = .ok (.getfield 9, 3) := dk_180 0 9 (dk_at dksX7_doBoards_3 15 rfl rfl)
theorem dX7_doBoards_88 : decode cX7_doBoards 88 = .ok (.iload_n 1, 1) := dk_27 (dk_at dksX7_doBoards_3 18 rfl rfl)
theorem dX7_doBoards_89 : decode cX7_doBoards 89 = .ok (.invokestatic 58, 3) := dk_184 0 58 (dk_at dksX7_doBoards_3 19 rfl rfl)
theorem dX7_doBoards_92 : decode cX7_doBoards 92 = .ok (.iconst 3, 1) := dk_6 (dk_at dksX7_doBoards_3 22 rfl rfl)
theorem dX7_doBoards_93 : decode cX7_doBoards 93 = .ok (.iadd, 1) := dk_96 (dk_at dksX7_doBoards_3 23 rfl rfl)
theorem dX7_doBoards_94 : decode cX7_doBoards 94 = .ok (.iload_n 2, 1) := dk_28 (dk_at dksX7_doBoards_4 0 rfl rfl)
theorem dX7_doBoards_95 : decode cX7_doBoards 95 = .ok (.iastore, 1) := dk_79 (dk_at dksX7_doBoards_4 1 rfl rfl)
theorem dX7_doBoards_96 : decode cX7_doBoards 96 = .ok (.iload_n 3, 1) := dk_29 (dk_at dksX7_doBoards_4 2 rfl rfl)
theorem dX7_doBoards_97 : decode cX7_doBoards 97 = .ok (.ireturn, 1) := dk_172 (dk_at dksX7_doBoards_4 3 rfl rfl)
def dkwX7_isPool_0 : List UInt8 := [27, 3, 42, 180, 0, 9, 3, 46, 4, 100, 184, 0, 54, 172]
abbrev dktX7_isPool_0 : List UInt8 := dkwX7_isPool_0 ++ []
theorem dksX7_isPool_0 : cX7_isPool.data.toList.drop 0 = dktX7_isPool_0 := by decide +kernel
theorem dX7_isPool_0 : decode cX7_isPool 0 = .ok (.iload_n 1, 1) := dk_27 (dk_at dksX7_isPool_0 0 rfl rfl)
theorem dX7_isPool_1 : decode cX7_isPool 1 = .ok (.iconst 0, 1) := dk_3 (dk_at dksX7_isPool_0 1 rfl rfl)
theorem dX7_isPool_2 : decode cX7_isPool 2 = .ok (.aload_n 0, 1) := dk_42 (dk_at dksX7_isPool_0 2 rfl rfl)
theorem dX7_isPool_3 : decode cX7_isPool 3 = .ok (.getfield 9, 3) := dk_180 0 9 (dk_at dksX7_isPool_0 3 rfl rfl)
theorem dX7_isPool_6 : decode cX7_isPool 6 = .ok (.iconst 0, 1) := dk_3 (dk_at dksX7_isPool_0 6 rfl rfl)
theorem dX7_isPool_7 : decode cX7_isPool 7 = .ok (.iaload, 1) := dk_46 (dk_at dksX7_isPool_0 7 rfl rfl)
theorem dX7_isPool_8 : decode cX7_isPool 8 = .ok (.iconst 1, 1) := dk_4 (dk_at dksX7_isPool_0 8 rfl rfl)
theorem dX7_isPool_9 : decode cX7_isPool 9 = .ok (.isub, 1) := dk_100 (dk_at dksX7_isPool_0 9 rfl rfl)
theorem dX7_isPool_10 : decode cX7_isPool 10 = .ok (.invokestatic 54, 3) := dk_184 0 54 (dk_at dksX7_isPool_0 10 rfl rfl)
theorem dX7_isPool_13 : decode cX7_isPool 13 = .ok (.ireturn, 1) := dk_172 (dk_at dksX7_isPool_0 13 rfl rfl)
def dkwX7_get_0 : List UInt8 := [42, 180, 0, 9, 27, 184, 0, 58, 28, 96, 46, 172]
abbrev dktX7_get_0 : List UInt8 := dkwX7_get_0 ++ []
theorem dksX7_get_0 : cX7_get.data.toList.drop 0 = dktX7_get_0 := by decide +kernel
theorem dX7_get_0 : decode cX7_get 0 = .ok (.aload_n 0, 1) := dk_42 (dk_at dksX7_get_0 0 rfl rfl)
theorem dX7_get_1 : decode cX7_get 1 = .ok (.getfield 9, 3) := dk_180 0 9 (dk_at dksX7_get_0 1 rfl rfl)
theorem dX7_get_4 : decode cX7_get 4 = .ok (.iload_n 1, 1) := dk_27 (dk_at dksX7_get_0 4 rfl rfl)
theorem dX7_get_5 : decode cX7_get 5 = .ok (.invokestatic 58, 3) := dk_184 0 58 (dk_at dksX7_get_0 5 rfl rfl)
theorem dX7_get_8 : decode cX7_get 8 = .ok (.iload_n 2, 1) := dk_28 (dk_at dksX7_get_0 8 rfl rfl)
theorem dX7_get_9 : decode cX7_get 9 = .ok (.iadd, 1) := dk_96 (dk_at dksX7_get_0 9 rfl rfl)
theorem dX7_get_10 : decode cX7_get 10 = .ok (.iaload, 1) := dk_46 (dk_at dksX7_get_0 10 rfl rfl)
theorem dX7_get_11 : decode cX7_get 11 = .ok (.ireturn, 1) := dk_172 (dk_at dksX7_get_0 11 rfl rfl)
def dkwX7_isOpen_1 : List UInt8 := [160, 0, 18, 42, 27, 16, 6, 182, 0, 62, 4, 160, 0, 7, 4, 167, 0, 4, 3, 172]
abbrev dktX7_isOpen_1 : List UInt8 := dkwX7_isOpen_1 ++ []
def dkwX7_isOpen_0 : List UInt8 := [42, 27, 16, 7, 182, 0, 62, 42, 27, 16, 8, 182, 0, 62, 96, 61, 28, 5, 159, 0, 19, 28, 4]
abbrev dktX7_isOpen_0 : List UInt8 := dkwX7_isOpen_0 ++ dktX7_isOpen_1
theorem dksX7_isOpen_0 : cX7_isOpen.data.toList.drop 0 = dktX7_isOpen_0 := by decide +kernel
theorem dksX7_isOpen_1 : cX7_isOpen.data.toList.drop 23 = dktX7_isOpen_1 := dk_seg dksX7_isOpen_0 23 rfl rfl
theorem dX7_isOpen_0 : decode cX7_isOpen 0 = .ok (.aload_n 0, 1) := dk_42 (dk_at dksX7_isOpen_0 0 rfl rfl)
theorem dX7_isOpen_1 : decode cX7_isOpen 1 = .ok (.iload_n 1, 1) := dk_27 (dk_at dksX7_isOpen_0 1 rfl rfl)
theorem dX7_isOpen_2 : decode cX7_isOpen 2 = .ok (.bipush 7, 2) := dk_16 7 (dk_at dksX7_isOpen_0 2 rfl rfl)
theorem dX7_isOpen_4 : decode cX7_isOpen 4 = .ok (.invokevirtual 62, 3) := dk_182 0 62 (dk_at dksX7_isOpen_0 4 rfl rfl)
theorem dX7_isOpen_7 : decode cX7_isOpen 7 = .ok (.aload_n 0, 1) := dk_42 (dk_at dksX7_isOpen_0 7 rfl rfl)
theorem dX7_isOpen_8 : decode cX7_isOpen 8 = .ok (.iload_n 1, 1) := dk_27 (dk_at dksX7_isOpen_0 8 rfl rfl)
theorem dX7_isOpen_9 : decode cX7_isOpen 9 = .ok (.bipush 8, 2) := dk_16 8 (dk_at dksX7_isOpen_0 9 rfl rfl)
theorem dX7_isOpen_11 : decode cX7_isOpen 11 = .ok (.invokevirtual 62, 3) := dk_182 0 62 (dk_at dksX7_isOpen_0 11 rfl rfl)
theorem dX7_isOpen_14 : decode cX7_isOpen 14 = .ok (.iadd, 1) := dk_96 (dk_at dksX7_isOpen_0 14 rfl rfl)
theorem dX7_isOpen_15 : decode cX7_isOpen 15 = .ok (.istore_n 2, 1) := dk_61 (dk_at dksX7_isOpen_0 15 rfl rfl)
theorem dX7_isOpen_16 : decode cX7_isOpen 16 = .ok (.iload_n 2, 1) := dk_28 (dk_at dksX7_isOpen_0 16 rfl rfl)
theorem dX7_isOpen_17 : decode cX7_isOpen 17 = .ok (.iconst 2, 1) := dk_5 (dk_at dksX7_isOpen_0 17 rfl rfl)
theorem dX7_isOpen_18 : decode cX7_isOpen 18 = .ok (.if_icmp .eq 19, 3) := dk_159 0 19 (dk_at dksX7_isOpen_0 18 rfl rfl)
theorem dX7_isOpen_21 : decode cX7_isOpen 21 = .ok (.iload_n 2, 1) := dk_28 (dk_at dksX7_isOpen_0 21 rfl rfl)
theorem dX7_isOpen_22 : decode cX7_isOpen 22 = .ok (.iconst 1, 1) := dk_4 (dk_at dksX7_isOpen_0 22 rfl rfl)
theorem dX7_isOpen_23 : decode cX7_isOpen 23 = .ok (.if_icmp .ne 18, 3) := dk_160 0 18 (dk_at dksX7_isOpen_1 0 rfl rfl)
theorem dX7_isOpen_26 : decode cX7_isOpen 26 = .ok (.aload_n 0, 1) := dk_42 (dk_at dksX7_isOpen_1 3 rfl rfl)
theorem dX7_isOpen_27 : decode cX7_isOpen 27 = .ok (.iload_n 1, 1) := dk_27 (dk_at dksX7_isOpen_1 4 rfl rfl)
theorem dX7_isOpen_28 : decode cX7_isOpen 28 = .ok (.bipush 6, 2) := dk_16 6 (dk_at dksX7_isOpen_1 5 rfl rfl)
theorem dX7_isOpen_30 : decode cX7_isOpen 30 = .ok (.invokevirtual 62, 3) := dk_182 0 62 (dk_at dksX7_isOpen_1 7 rfl rfl)
theorem dX7_isOpen_33 : decode cX7_isOpen 33 = .ok (.iconst 1, 1) := dk_4 (dk_at dksX7_isOpen_1 10 rfl rfl)
theorem dX7_isOpen_34 : decode cX7_isOpen 34 = .ok (.if_icmp .ne 7, 3) := dk_160 0 7 (dk_at dksX7_isOpen_1 11 rfl rfl)
theorem dX7_isOpen_37 : decode cX7_isOpen 37 = .ok (.iconst 1, 1) := dk_4 (dk_at dksX7_isOpen_1 14 rfl rfl)
theorem dX7_isOpen_38 : decode cX7_isOpen 38 = .ok (.goto 4, 3) := dk_167 0 4 (dk_at dksX7_isOpen_1 15 rfl rfl)
theorem dX7_isOpen_41 : decode cX7_isOpen 41 = .ok (.iconst 0, 1) := dk_3 (dk_at dksX7_isOpen_1 18 rfl rfl)
theorem dX7_isOpen_42 : decode cX7_isOpen 42 = .ok (.ireturn, 1) := dk_172 (dk_at dksX7_isOpen_1 19 rfl rfl)
def dkwX7_weir_1 : List UInt8 := [3, 172]
abbrev dktX7_weir_1 : List UInt8 := dkwX7_weir_1 ++ []
def dkwX7_weir_0 : List UInt8 := [42, 182, 0, 78, 42, 42, 27, 16, 6, 28, 182, 0, 90, 182, 0, 81, 4, 160, 0, 7, 4, 167, 0, 4]
abbrev dktX7_weir_0 : List UInt8 := dkwX7_weir_0 ++ dktX7_weir_1
theorem dksX7_weir_0 : cX7_weir.data.toList.drop 0 = dktX7_weir_0 := by decide +kernel
theorem dksX7_weir_1 : cX7_weir.data.toList.drop 24 = dktX7_weir_1 := dk_seg dksX7_weir_0 24 rfl rfl
theorem dX7_weir_0 : decode cX7_weir 0 = .ok (.aload_n 0, 1) := dk_42 (dk_at dksX7_weir_0 0 rfl rfl)
theorem dX7_weir_1 : decode cX7_weir 1 = .ok (.invokevirtual 78, 3) := dk_182 0 78 (dk_at dksX7_weir_0 1 rfl rfl)
theorem dX7_weir_4 : decode cX7_weir 4 = .ok (.aload_n 0, 1) := dk_42 (dk_at dksX7_weir_0 4 rfl rfl)
theorem dX7_weir_5 : decode cX7_weir 5 = .ok (.aload_n 0, 1) := dk_42 (dk_at dksX7_weir_0 5 rfl rfl)
theorem dX7_weir_6 : decode cX7_weir 6 = .ok (.iload_n 1, 1) := dk_27 (dk_at dksX7_weir_0 6 rfl rfl)
theorem dX7_weir_7 : decode cX7_weir 7 = .ok (.bipush 6, 2) := dk_16 6 (dk_at dksX7_weir_0 7 rfl rfl)
theorem dX7_weir_9 : decode cX7_weir 9 = .ok (.iload_n 2, 1) := dk_28 (dk_at dksX7_weir_0 9 rfl rfl)
theorem dX7_weir_10 : decode cX7_weir 10 = .ok (.invokevirtual 90, 3) := dk_182 0 90 (dk_at dksX7_weir_0 10 rfl rfl)
theorem dX7_weir_13 : decode cX7_weir 13 = .ok (.invokevirtual 81, 3) := dk_182 0 81 (dk_at dksX7_weir_0 13 rfl rfl)
theorem dX7_weir_16 : decode cX7_weir 16 = .ok (.iconst 1, 1) := dk_4 (dk_at dksX7_weir_0 16 rfl rfl)
theorem dX7_weir_17 : decode cX7_weir 17 = .ok (.if_icmp .ne 7, 3) := dk_160 0 7 (dk_at dksX7_weir_0 17 rfl rfl)
theorem dX7_weir_20 : decode cX7_weir 20 = .ok (.iconst 1, 1) := dk_4 (dk_at dksX7_weir_0 20 rfl rfl)
theorem dX7_weir_21 : decode cX7_weir 21 = .ok (.goto 4, 3) := dk_167 0 4 (dk_at dksX7_weir_0 21 rfl rfl)
theorem dX7_weir_24 : decode cX7_weir 24 = .ok (.iconst 0, 1) := dk_3 (dk_at dksX7_weir_1 0 rfl rfl)
theorem dX7_weir_25 : decode cX7_weir 25 = .ok (.ireturn, 1) := dk_172 (dk_at dksX7_weir_1 1 rfl rfl)
def dkwX7_becomes_2 : List UInt8 := [4, 167, 0, 4, 3, 79, 21, 4, 172]
abbrev dktX7_becomes_2 : List UInt8 := dkwX7_becomes_2 ++ []
def dkwX7_becomes_1 : List UInt8 := [3, 172, 42, 27, 28, 182, 0, 62, 54, 4, 42, 180, 0, 9, 27, 184, 0, 58, 28, 96, 29, 153, 0, 7]
abbrev dktX7_becomes_1 : List UInt8 := dkwX7_becomes_1 ++ dktX7_becomes_2
def dkwX7_becomes_0 : List UInt8 := [42, 42, 27, 182, 0, 84, 153, 0, 7, 3, 167, 0, 4, 4, 181, 0, 36, 42, 180, 0, 36, 158, 0, 5]
abbrev dktX7_becomes_0 : List UInt8 := dkwX7_becomes_0 ++ dktX7_becomes_1
theorem dksX7_becomes_0 : cX7_becomes.data.toList.drop 0 = dktX7_becomes_0 := by decide +kernel
theorem dksX7_becomes_1 : cX7_becomes.data.toList.drop 24 = dktX7_becomes_1 := dk_seg dksX7_becomes_0 24 rfl rfl
theorem dksX7_becomes_2 : cX7_becomes.data.toList.drop 48 = dktX7_becomes_2 := dk_seg dksX7_becomes_1 24 rfl rfl
theorem dX7_becomes_0 : decode cX7_becomes 0 = .ok (.aload_n 0, 1) := dk_42 (dk_at dksX7_becomes_0 0 rfl rfl)
theorem dX7_becomes_1 : decode cX7_becomes 1 = .ok (.aload_n 0, 1) := dk_42 (dk_at dksX7_becomes_0 1 rfl rfl)
theorem dX7_becomes_2 : decode cX7_becomes 2 = .ok (.iload_n 1, 1) := dk_27 (dk_at dksX7_becomes_0 2 rfl rfl)
theorem dX7_becomes_3 : decode cX7_becomes 3 = .ok (.invokevirtual 84, 3) := dk_182 0 84 (dk_at dksX7_becomes_0 3 rfl rfl)
theorem dX7_becomes_6 : decode cX7_becomes 6 = .ok (.ifCond .eq 7, 3) := dk_153 0 7 (dk_at dksX7_becomes_0 6 rfl rfl)
theorem dX7_becomes_9 : decode cX7_becomes 9 = .ok (.iconst 0, 1) := dk_3 (dk_at dksX7_becomes_0 9 rfl rfl)
theorem dX7_becomes_10 : decode cX7_becomes 10 = .ok (.goto 4, 3) := dk_167 0 4 (dk_at dksX7_becomes_0 10 rfl rfl)
theorem dX7_becomes_13 : decode cX7_becomes 13 = .ok (.iconst 1, 1) := dk_4 (dk_at dksX7_becomes_0 13 rfl rfl)
theorem dX7_becomes_14 : decode cX7_becomes 14 = .ok (.putfield 36, 3) := dk_181 0 36 (dk_at dksX7_becomes_0 14 rfl rfl)
theorem dX7_becomes_17 : decode cX7_becomes 17 = .ok (.aload_n 0, 1) := dk_42 (dk_at dksX7_becomes_0 17 rfl rfl)
theorem dX7_becomes_18 : decode cX7_becomes 18 = .ok (.getfield 36, 3) := dk_180 0 36 (dk_at dksX7_becomes_0 18 rfl rfl)
theorem dX7_becomes_21 : decode cX7_becomes 21 = .ok (.ifCond .le 5, 3) := dk_158 0 5 (dk_at dksX7_becomes_0 21 rfl rfl)
theorem dX7_becomes_24 : decode cX7_becomes 24 = .ok (.iconst 0, 1) := dk_3 (dk_at dksX7_becomes_1 0 rfl rfl)
theorem dX7_becomes_25 : decode cX7_becomes 25 = .ok (.ireturn, 1) := dk_172 (dk_at dksX7_becomes_1 1 rfl rfl)
theorem dX7_becomes_26 : decode cX7_becomes 26 = .ok (.aload_n 0, 1) := dk_42 (dk_at dksX7_becomes_1 2 rfl rfl)
theorem dX7_becomes_27 : decode cX7_becomes 27 = .ok (.iload_n 1, 1) := dk_27 (dk_at dksX7_becomes_1 3 rfl rfl)
theorem dX7_becomes_28 : decode cX7_becomes 28 = .ok (.iload_n 2, 1) := dk_28 (dk_at dksX7_becomes_1 4 rfl rfl)
theorem dX7_becomes_29 : decode cX7_becomes 29 = .ok (.invokevirtual 62, 3) := dk_182 0 62 (dk_at dksX7_becomes_1 5 rfl rfl)
theorem dX7_becomes_32 : decode cX7_becomes 32 = .ok (.istore 4, 2) := dk_54 4 (dk_at dksX7_becomes_1 8 rfl rfl)
theorem dX7_becomes_34 : decode cX7_becomes 34 = .ok (.aload_n 0, 1) := dk_42 (dk_at dksX7_becomes_1 10 rfl rfl)
theorem dX7_becomes_35 : decode cX7_becomes 35 = .ok (.getfield 9, 3) := dk_180 0 9 (dk_at dksX7_becomes_1 11 rfl rfl)
theorem dX7_becomes_38 : decode cX7_becomes 38 = .ok (.iload_n 1, 1) := dk_27 (dk_at dksX7_becomes_1 14 rfl rfl)
theorem dX7_becomes_39 : decode cX7_becomes 39 = .ok (.invokestatic 58, 3) := dk_184 0 58 (dk_at dksX7_becomes_1 15 rfl rfl)
theorem dX7_becomes_42 : decode cX7_becomes 42 = .ok (.iload_n 2, 1) := dk_28 (dk_at dksX7_becomes_1 18 rfl rfl)
theorem dX7_becomes_43 : decode cX7_becomes 43 = .ok (.iadd, 1) := dk_96 (dk_at dksX7_becomes_1 19 rfl rfl)
theorem dX7_becomes_44 : decode cX7_becomes 44 = .ok (.iload_n 3, 1) := dk_29 (dk_at dksX7_becomes_1 20 rfl rfl)
theorem dX7_becomes_45 : decode cX7_becomes 45 = .ok (.ifCond .eq 7, 3) := dk_153 0 7 (dk_at dksX7_becomes_1 21 rfl rfl)
theorem dX7_becomes_48 : decode cX7_becomes 48 = .ok (.iconst 1, 1) := dk_4 (dk_at dksX7_becomes_2 0 rfl rfl)
theorem dX7_becomes_49 : decode cX7_becomes 49 = .ok (.goto 4, 3) := dk_167 0 4 (dk_at dksX7_becomes_2 1 rfl rfl)
theorem dX7_becomes_52 : decode cX7_becomes 52 = .ok (.iconst 0, 1) := dk_3 (dk_at dksX7_becomes_2 4 rfl rfl)
theorem dX7_becomes_53 : decode cX7_becomes 53 = .ok (.iastore, 1) := dk_79 (dk_at dksX7_becomes_2 5 rfl rfl)
theorem dX7_becomes_54 : decode cX7_becomes 54 = .ok (.iload 4, 2) := dk_21 4 (dk_at dksX7_becomes_2 6 rfl rfl)
theorem dX7_becomes_56 : decode cX7_becomes 56 = .ok (.ireturn, 1) := dk_172 (dk_at dksX7_becomes_2 8 rfl rfl)
def dkwX7_latch_1 : List UInt8 := [182, 0, 81, 4, 160, 0, 7, 4, 167, 0, 4, 3, 172]
abbrev dktX7_latch_1 : List UInt8 := dkwX7_latch_1 ++ []
def dkwX7_latch_0 : List UInt8 := [42, 182, 0, 78, 42, 42, 27, 28, 153, 0, 8, 16, 7, 167, 0, 5, 16, 8, 29, 182, 0, 90]
abbrev dktX7_latch_0 : List UInt8 := dkwX7_latch_0 ++ dktX7_latch_1
theorem dksX7_latch_0 : cX7_latch.data.toList.drop 0 = dktX7_latch_0 := by decide +kernel
theorem dksX7_latch_1 : cX7_latch.data.toList.drop 22 = dktX7_latch_1 := dk_seg dksX7_latch_0 22 rfl rfl
theorem dX7_latch_0 : decode cX7_latch 0 = .ok (.aload_n 0, 1) := dk_42 (dk_at dksX7_latch_0 0 rfl rfl)
theorem dX7_latch_1 : decode cX7_latch 1 = .ok (.invokevirtual 78, 3) := dk_182 0 78 (dk_at dksX7_latch_0 1 rfl rfl)
theorem dX7_latch_4 : decode cX7_latch 4 = .ok (.aload_n 0, 1) := dk_42 (dk_at dksX7_latch_0 4 rfl rfl)
theorem dX7_latch_5 : decode cX7_latch 5 = .ok (.aload_n 0, 1) := dk_42 (dk_at dksX7_latch_0 5 rfl rfl)
theorem dX7_latch_6 : decode cX7_latch 6 = .ok (.iload_n 1, 1) := dk_27 (dk_at dksX7_latch_0 6 rfl rfl)
theorem dX7_latch_7 : decode cX7_latch 7 = .ok (.iload_n 2, 1) := dk_28 (dk_at dksX7_latch_0 7 rfl rfl)
theorem dX7_latch_8 : decode cX7_latch 8 = .ok (.ifCond .eq 8, 3) := dk_153 0 8 (dk_at dksX7_latch_0 8 rfl rfl)
theorem dX7_latch_11 : decode cX7_latch 11 = .ok (.bipush 7, 2) := dk_16 7 (dk_at dksX7_latch_0 11 rfl rfl)
theorem dX7_latch_13 : decode cX7_latch 13 = .ok (.goto 5, 3) := dk_167 0 5 (dk_at dksX7_latch_0 13 rfl rfl)
theorem dX7_latch_16 : decode cX7_latch 16 = .ok (.bipush 8, 2) := dk_16 8 (dk_at dksX7_latch_0 16 rfl rfl)
theorem dX7_latch_18 : decode cX7_latch 18 = .ok (.iload_n 3, 1) := dk_29 (dk_at dksX7_latch_0 18 rfl rfl)
theorem dX7_latch_19 : decode cX7_latch 19 = .ok (.invokevirtual 90, 3) := dk_182 0 90 (dk_at dksX7_latch_0 19 rfl rfl)
theorem dX7_latch_22 : decode cX7_latch 22 = .ok (.invokevirtual 81, 3) := dk_182 0 81 (dk_at dksX7_latch_1 0 rfl rfl)
theorem dX7_latch_25 : decode cX7_latch 25 = .ok (.iconst 1, 1) := dk_4 (dk_at dksX7_latch_1 3 rfl rfl)
theorem dX7_latch_26 : decode cX7_latch 26 = .ok (.if_icmp .ne 7, 3) := dk_160 0 7 (dk_at dksX7_latch_1 4 rfl rfl)
theorem dX7_latch_29 : decode cX7_latch 29 = .ok (.iconst 1, 1) := dk_4 (dk_at dksX7_latch_1 7 rfl rfl)
theorem dX7_latch_30 : decode cX7_latch 30 = .ok (.goto 4, 3) := dk_167 0 4 (dk_at dksX7_latch_1 8 rfl rfl)
theorem dX7_latch_33 : decode cX7_latch 33 = .ok (.iconst 0, 1) := dk_3 (dk_at dksX7_latch_1 11 rfl rfl)
theorem dX7_latch_34 : decode cX7_latch 34 = .ok (.ireturn, 1) := dk_172 (dk_at dksX7_latch_1 12 rfl rfl)
def dkwX7_frogs_2 : List UInt8 := [182, 0, 62, 62, 42, 180, 0, 9, 27, 184, 0, 58, 8, 96, 28, 79, 42, 29, 182, 0, 81, 172]
abbrev dktX7_frogs_2 : List UInt8 := dkwX7_frogs_2 ++ []
def dkwX7_frogs_1 : List UInt8 := [5, 167, 0, 4, 3, 181, 0, 36, 42, 180, 0, 36, 158, 0, 5, 3, 172, 42, 182, 0, 78, 42, 27, 8]
abbrev dktX7_frogs_1 : List UInt8 := dkwX7_frogs_1 ++ dktX7_frogs_2
def dkwX7_frogs_0 : List UInt8 := [42, 42, 27, 182, 0, 84, 154, 0, 7, 4, 167, 0, 19, 28, 3, 17, 3, 231, 184, 0, 54, 154, 0, 7]
abbrev dktX7_frogs_0 : List UInt8 := dkwX7_frogs_0 ++ dktX7_frogs_1
theorem dksX7_frogs_0 : cX7_frogs.data.toList.drop 0 = dktX7_frogs_0 := by decide +kernel
theorem dksX7_frogs_1 : cX7_frogs.data.toList.drop 24 = dktX7_frogs_1 := dk_seg dksX7_frogs_0 24 rfl rfl
theorem dksX7_frogs_2 : cX7_frogs.data.toList.drop 48 = dktX7_frogs_2 := dk_seg dksX7_frogs_1 24 rfl rfl
theorem dX7_frogs_0 : decode cX7_frogs 0 = .ok (.aload_n 0, 1) := dk_42 (dk_at dksX7_frogs_0 0 rfl rfl)
theorem dX7_frogs_1 : decode cX7_frogs 1 = .ok (.aload_n 0, 1) := dk_42 (dk_at dksX7_frogs_0 1 rfl rfl)
theorem dX7_frogs_2 : decode cX7_frogs 2 = .ok (.iload_n 1, 1) := dk_27 (dk_at dksX7_frogs_0 2 rfl rfl)
theorem dX7_frogs_3 : decode cX7_frogs 3 = .ok (.invokevirtual 84, 3) := dk_182 0 84 (dk_at dksX7_frogs_0 3 rfl rfl)
theorem dX7_frogs_6 : decode cX7_frogs 6 = .ok (.ifCond .ne 7, 3) := dk_154 0 7 (dk_at dksX7_frogs_0 6 rfl rfl)
theorem dX7_frogs_9 : decode cX7_frogs 9 = .ok (.iconst 1, 1) := dk_4 (dk_at dksX7_frogs_0 9 rfl rfl)
theorem dX7_frogs_10 : decode cX7_frogs 10 = .ok (.goto 19, 3) := dk_167 0 19 (dk_at dksX7_frogs_0 10 rfl rfl)
theorem dX7_frogs_13 : decode cX7_frogs 13 = .ok (.iload_n 2, 1) := dk_28 (dk_at dksX7_frogs_0 13 rfl rfl)
theorem dX7_frogs_14 : decode cX7_frogs 14 = .ok (.iconst 0, 1) := dk_3 (dk_at dksX7_frogs_0 14 rfl rfl)
theorem dX7_frogs_15 : decode cX7_frogs 15 = .ok (.sipush 999, 3) := dk_17 3 231 (dk_at dksX7_frogs_0 15 rfl rfl)
theorem dX7_frogs_18 : decode cX7_frogs 18 = .ok (.invokestatic 54, 3) := dk_184 0 54 (dk_at dksX7_frogs_0 18 rfl rfl)
theorem dX7_frogs_21 : decode cX7_frogs 21 = .ok (.ifCond .ne 7, 3) := dk_154 0 7 (dk_at dksX7_frogs_0 21 rfl rfl)
theorem dX7_frogs_24 : decode cX7_frogs 24 = .ok (.iconst 2, 1) := dk_5 (dk_at dksX7_frogs_1 0 rfl rfl)
theorem dX7_frogs_25 : decode cX7_frogs 25 = .ok (.goto 4, 3) := dk_167 0 4 (dk_at dksX7_frogs_1 1 rfl rfl)
theorem dX7_frogs_28 : decode cX7_frogs 28 = .ok (.iconst 0, 1) := dk_3 (dk_at dksX7_frogs_1 4 rfl rfl)
theorem dX7_frogs_29 : decode cX7_frogs 29 = .ok (.putfield 36, 3) := dk_181 0 36 (dk_at dksX7_frogs_1 5 rfl rfl)
theorem dX7_frogs_32 : decode cX7_frogs 32 = .ok (.aload_n 0, 1) := dk_42 (dk_at dksX7_frogs_1 8 rfl rfl)
theorem dX7_frogs_33 : decode cX7_frogs 33 = .ok (.getfield 36, 3) := dk_180 0 36 (dk_at dksX7_frogs_1 9 rfl rfl)
theorem dX7_frogs_36 : decode cX7_frogs 36 = .ok (.ifCond .le 5, 3) := dk_158 0 5 (dk_at dksX7_frogs_1 12 rfl rfl)
theorem dX7_frogs_39 : decode cX7_frogs 39 = .ok (.iconst 0, 1) := dk_3 (dk_at dksX7_frogs_1 15 rfl rfl)
theorem dX7_frogs_40 : decode cX7_frogs 40 = .ok (.ireturn, 1) := dk_172 (dk_at dksX7_frogs_1 16 rfl rfl)
theorem dX7_frogs_41 : decode cX7_frogs 41 = .ok (.aload_n 0, 1) := dk_42 (dk_at dksX7_frogs_1 17 rfl rfl)
theorem dX7_frogs_42 : decode cX7_frogs 42 = .ok (.invokevirtual 78, 3) := dk_182 0 78 (dk_at dksX7_frogs_1 18 rfl rfl)
theorem dX7_frogs_45 : decode cX7_frogs 45 = .ok (.aload_n 0, 1) := dk_42 (dk_at dksX7_frogs_1 21 rfl rfl)
theorem dX7_frogs_46 : decode cX7_frogs 46 = .ok (.iload_n 1, 1) := dk_27 (dk_at dksX7_frogs_1 22 rfl rfl)
theorem dX7_frogs_47 : decode cX7_frogs 47 = .ok (.iconst 5, 1) := dk_8 (dk_at dksX7_frogs_1 23 rfl rfl)
theorem dX7_frogs_48 : decode cX7_frogs 48 = .ok (.invokevirtual 62, 3) := dk_182 0 62 (dk_at dksX7_frogs_2 0 rfl rfl)
theorem dX7_frogs_51 : decode cX7_frogs 51 = .ok (.istore_n 3, 1) := dk_62 (dk_at dksX7_frogs_2 3 rfl rfl)
theorem dX7_frogs_52 : decode cX7_frogs 52 = .ok (.aload_n 0, 1) := dk_42 (dk_at dksX7_frogs_2 4 rfl rfl)
theorem dX7_frogs_53 : decode cX7_frogs 53 = .ok (.getfield 9, 3) := dk_180 0 9 (dk_at dksX7_frogs_2 5 rfl rfl)
theorem dX7_frogs_56 : decode cX7_frogs 56 = .ok (.iload_n 1, 1) := dk_27 (dk_at dksX7_frogs_2 8 rfl rfl)
theorem dX7_frogs_57 : decode cX7_frogs 57 = .ok (.invokestatic 58, 3) := dk_184 0 58 (dk_at dksX7_frogs_2 9 rfl rfl)
theorem dX7_frogs_60 : decode cX7_frogs 60 = .ok (.iconst 5, 1) := dk_8 (dk_at dksX7_frogs_2 12 rfl rfl)
theorem dX7_frogs_61 : decode cX7_frogs 61 = .ok (.iadd, 1) := dk_96 (dk_at dksX7_frogs_2 13 rfl rfl)
theorem dX7_frogs_62 : decode cX7_frogs 62 = .ok (.iload_n 2, 1) := dk_28 (dk_at dksX7_frogs_2 14 rfl rfl)
theorem dX7_frogs_63 : decode cX7_frogs 63 = .ok (.iastore, 1) := dk_79 (dk_at dksX7_frogs_2 15 rfl rfl)
theorem dX7_frogs_64 : decode cX7_frogs 64 = .ok (.aload_n 0, 1) := dk_42 (dk_at dksX7_frogs_2 16 rfl rfl)
theorem dX7_frogs_65 : decode cX7_frogs 65 = .ok (.iload_n 3, 1) := dk_29 (dk_at dksX7_frogs_2 17 rfl rfl)
theorem dX7_frogs_66 : decode cX7_frogs 66 = .ok (.invokevirtual 81, 3) := dk_182 0 81 (dk_at dksX7_frogs_2 18 rfl rfl)
theorem dX7_frogs_69 : decode cX7_frogs 69 = .ok (.ireturn, 1) := dk_172 (dk_at dksX7_frogs_2 21 rfl rfl)
def dkwX7_lay_0 : List UInt8 := [42, 182, 0, 78, 42, 42, 27, 28, 182, 0, 100, 182, 0, 81, 172]
abbrev dktX7_lay_0 : List UInt8 := dkwX7_lay_0 ++ []
theorem dksX7_lay_0 : cX7_lay.data.toList.drop 0 = dktX7_lay_0 := by decide +kernel
theorem dX7_lay_0 : decode cX7_lay 0 = .ok (.aload_n 0, 1) := dk_42 (dk_at dksX7_lay_0 0 rfl rfl)
theorem dX7_lay_1 : decode cX7_lay 1 = .ok (.invokevirtual 78, 3) := dk_182 0 78 (dk_at dksX7_lay_0 1 rfl rfl)
theorem dX7_lay_4 : decode cX7_lay 4 = .ok (.aload_n 0, 1) := dk_42 (dk_at dksX7_lay_0 4 rfl rfl)
theorem dX7_lay_5 : decode cX7_lay 5 = .ok (.aload_n 0, 1) := dk_42 (dk_at dksX7_lay_0 5 rfl rfl)
theorem dX7_lay_6 : decode cX7_lay 6 = .ok (.iload_n 1, 1) := dk_27 (dk_at dksX7_lay_0 6 rfl rfl)
theorem dX7_lay_7 : decode cX7_lay 7 = .ok (.iload_n 2, 1) := dk_28 (dk_at dksX7_lay_0 7 rfl rfl)
theorem dX7_lay_8 : decode cX7_lay 8 = .ok (.invokevirtual 100, 3) := dk_182 0 100 (dk_at dksX7_lay_0 8 rfl rfl)
theorem dX7_lay_11 : decode cX7_lay 11 = .ok (.invokevirtual 81, 3) := dk_182 0 81 (dk_at dksX7_lay_0 11 rfl rfl)
theorem dX7_lay_14 : decode cX7_lay 14 = .ok (.ireturn, 1) := dk_172 (dk_at dksX7_lay_0 14 rfl rfl)
def dkwX7_doLay_6 : List UInt8 := [92, 46, 28, 96, 79, 29, 172]
abbrev dktX7_doLay_6 : List UInt8 := dkwX7_doLay_6 ++ []
def dkwX7_doLay_5 : List UInt8 := [6, 96, 42, 27, 182, 0, 94, 79, 42, 180, 0, 9, 4, 92, 46, 4, 96, 79, 42, 180, 0, 9, 16, 9]
abbrev dktX7_doLay_5 : List UInt8 := dkwX7_doLay_5 ++ dktX7_doLay_6
def dkwX7_doLay_4 : List UInt8 := [4, 96, 28, 79, 42, 180, 0, 9, 29, 184, 0, 97, 5, 96, 3, 79, 42, 180, 0, 9, 29, 184, 0, 97]
abbrev dktX7_doLay_4 : List UInt8 := dkwX7_doLay_4 ++ dktX7_doLay_5
def dkwX7_doLay_3 : List UInt8 := [6, 6, 182, 0, 75, 172, 42, 180, 0, 9, 29, 184, 0, 97, 27, 79, 42, 180, 0, 9, 29, 184, 0, 97]
abbrev dktX7_doLay_3 : List UInt8 := dkwX7_doLay_3 ++ dktX7_doLay_4
def dkwX7_doLay_2 : List UInt8 := [162, 0, 10, 42, 6, 5, 182, 0, 75, 172, 42, 180, 0, 9, 4, 46, 62, 29, 16, 12, 160, 0, 10, 42]
abbrev dktX7_doLay_2 : List UInt8 := dkwX7_doLay_2 ++ dktX7_doLay_3
def dkwX7_doLay_1 : List UInt8 := [167, 0, 4, 3, 181, 0, 36, 42, 180, 0, 36, 158, 0, 5, 3, 172, 42, 27, 182, 0, 94, 4]
abbrev dktX7_doLay_1 : List UInt8 := dkwX7_doLay_1 ++ dktX7_doLay_2
def dkwX7_doLay_0 : List UInt8 := [42, 42, 27, 182, 0, 84, 154, 0, 7, 4, 167, 0, 18, 28, 4, 16, 99, 184, 0, 54, 154, 0, 7, 5]
abbrev dktX7_doLay_0 : List UInt8 := dkwX7_doLay_0 ++ dktX7_doLay_1
theorem dksX7_doLay_0 : cX7_doLay.data.toList.drop 0 = dktX7_doLay_0 := by decide +kernel
theorem dksX7_doLay_1 : cX7_doLay.data.toList.drop 24 = dktX7_doLay_1 := dk_seg dksX7_doLay_0 24 rfl rfl
theorem dksX7_doLay_2 : cX7_doLay.data.toList.drop 46 = dktX7_doLay_2 := dk_seg dksX7_doLay_1 22 rfl rfl
theorem dksX7_doLay_3 : cX7_doLay.data.toList.drop 70 = dktX7_doLay_3 := dk_seg dksX7_doLay_2 24 rfl rfl
theorem dksX7_doLay_4 : cX7_doLay.data.toList.drop 94 = dktX7_doLay_4 := dk_seg dksX7_doLay_3 24 rfl rfl
theorem dksX7_doLay_5 : cX7_doLay.data.toList.drop 118 = dktX7_doLay_5 := dk_seg dksX7_doLay_4 24 rfl rfl
theorem dksX7_doLay_6 : cX7_doLay.data.toList.drop 142 = dktX7_doLay_6 := dk_seg dksX7_doLay_5 24 rfl rfl
theorem dX7_doLay_0 : decode cX7_doLay 0 = .ok (.aload_n 0, 1) := dk_42 (dk_at dksX7_doLay_0 0 rfl rfl)
theorem dX7_doLay_1 : decode cX7_doLay 1 = .ok (.aload_n 0, 1) := dk_42 (dk_at dksX7_doLay_0 1 rfl rfl)
theorem dX7_doLay_2 : decode cX7_doLay 2 = .ok (.iload_n 1, 1) := dk_27 (dk_at dksX7_doLay_0 2 rfl rfl)
theorem dX7_doLay_3 : decode cX7_doLay 3 = .ok (.invokevirtual 84, 3) := dk_182 0 84 (dk_at dksX7_doLay_0 3 rfl rfl)
theorem dX7_doLay_6 : decode cX7_doLay 6 = .ok (.ifCond .ne 7, 3) := dk_154 0 7 (dk_at dksX7_doLay_0 6 rfl rfl)
theorem dX7_doLay_9 : decode cX7_doLay 9 = .ok (.iconst 1, 1) := dk_4 (dk_at dksX7_doLay_0 9 rfl rfl)
theorem dX7_doLay_10 : decode cX7_doLay 10 = .ok (.goto 18, 3) := dk_167 0 18 (dk_at dksX7_doLay_0 10 rfl rfl)
theorem dX7_doLay_13 : decode cX7_doLay 13 = .ok (.iload_n 2, 1) := dk_28 (dk_at dksX7_doLay_0 13 rfl rfl)
theorem dX7_doLay_14 : decode cX7_doLay 14 = .ok (.iconst 1, 1) := dk_4 (dk_at dksX7_doLay_0 14 rfl rfl)
theorem dX7_doLay_15 : decode cX7_doLay 15 = .ok (.bipush 99, 2) := dk_16 99 (dk_at dksX7_doLay_0 15 rfl rfl)
theorem dX7_doLay_17 : decode cX7_doLay 17 = .ok (.invokestatic 54, 3) := dk_184 0 54 (dk_at dksX7_doLay_0 17 rfl rfl)
theorem dX7_doLay_20 : decode cX7_doLay 20 = .ok (.ifCond .ne 7, 3) := dk_154 0 7 (dk_at dksX7_doLay_0 20 rfl rfl)
theorem dX7_doLay_23 : decode cX7_doLay 23 = .ok (.iconst 2, 1) := dk_5 (dk_at dksX7_doLay_0 23 rfl rfl)
theorem dX7_doLay_24 : decode cX7_doLay 24 = .ok (.goto 4, 3) := dk_167 0 4 (dk_at dksX7_doLay_1 0 rfl rfl)
theorem dX7_doLay_27 : decode cX7_doLay 27 = .ok (.iconst 0, 1) := dk_3 (dk_at dksX7_doLay_1 3 rfl rfl)
theorem dX7_doLay_28 : decode cX7_doLay 28 = .ok (.putfield 36, 3) := dk_181 0 36 (dk_at dksX7_doLay_1 4 rfl rfl)
theorem dX7_doLay_31 : decode cX7_doLay 31 = .ok (.aload_n 0, 1) := dk_42 (dk_at dksX7_doLay_1 7 rfl rfl)
theorem dX7_doLay_32 : decode cX7_doLay 32 = .ok (.getfield 36, 3) := dk_180 0 36 (dk_at dksX7_doLay_1 8 rfl rfl)
theorem dX7_doLay_35 : decode cX7_doLay 35 = .ok (.ifCond .le 5, 3) := dk_158 0 5 (dk_at dksX7_doLay_1 11 rfl rfl)
theorem dX7_doLay_38 : decode cX7_doLay 38 = .ok (.iconst 0, 1) := dk_3 (dk_at dksX7_doLay_1 14 rfl rfl)
theorem dX7_doLay_39 : decode cX7_doLay 39 = .ok (.ireturn, 1) := dk_172 (dk_at dksX7_doLay_1 15 rfl rfl)
theorem dX7_doLay_40 : decode cX7_doLay 40 = .ok (.aload_n 0, 1) := dk_42 (dk_at dksX7_doLay_1 16 rfl rfl)
theorem dX7_doLay_41 : decode cX7_doLay 41 = .ok (.iload_n 1, 1) := dk_27 (dk_at dksX7_doLay_1 17 rfl rfl)
theorem dX7_doLay_42 : decode cX7_doLay 42 = .ok (.invokevirtual 94, 3) := dk_182 0 94 (dk_at dksX7_doLay_1 18 rfl rfl)
theorem dX7_doLay_45 : decode cX7_doLay 45 = .ok (.iconst 1, 1) := dk_4 (dk_at dksX7_doLay_1 21 rfl rfl)
theorem dX7_doLay_46 : decode cX7_doLay 46 = .ok (.if_icmp .ge 10, 3) := dk_162 0 10 (dk_at dksX7_doLay_2 0 rfl rfl)
theorem dX7_doLay_49 : decode cX7_doLay 49 = .ok (.aload_n 0, 1) := dk_42 (dk_at dksX7_doLay_2 3 rfl rfl)
theorem dX7_doLay_50 : decode cX7_doLay 50 = .ok (.iconst 3, 1) := dk_6 (dk_at dksX7_doLay_2 4 rfl rfl)
theorem dX7_doLay_51 : decode cX7_doLay 51 = .ok (.iconst 2, 1) := dk_5 (dk_at dksX7_doLay_2 5 rfl rfl)
theorem dX7_doLay_52 : decode cX7_doLay 52 = .ok (.invokevirtual 75, 3) := dk_182 0 75 (dk_at dksX7_doLay_2 6 rfl rfl)
theorem dX7_doLay_55 : decode cX7_doLay 55 = .ok (.ireturn, 1) := dk_172 (dk_at dksX7_doLay_2 9 rfl rfl)
theorem dX7_doLay_56 : decode cX7_doLay 56 = .ok (.aload_n 0, 1) := dk_42 (dk_at dksX7_doLay_2 10 rfl rfl)
theorem dX7_doLay_57 : decode cX7_doLay 57 = .ok (.getfield 9, 3) := dk_180 0 9 (dk_at dksX7_doLay_2 11 rfl rfl)
theorem dX7_doLay_60 : decode cX7_doLay 60 = .ok (.iconst 1, 1) := dk_4 (dk_at dksX7_doLay_2 14 rfl rfl)
theorem dX7_doLay_61 : decode cX7_doLay 61 = .ok (.iaload, 1) := dk_46 (dk_at dksX7_doLay_2 15 rfl rfl)
theorem dX7_doLay_62 : decode cX7_doLay 62 = .ok (.istore_n 3, 1) := dk_62 (dk_at dksX7_doLay_2 16 rfl rfl)
theorem dX7_doLay_63 : decode cX7_doLay 63 = .ok (.iload_n 3, 1) := dk_29 (dk_at dksX7_doLay_2 17 rfl rfl)
theorem dX7_doLay_64 : decode cX7_doLay 64 = .ok (.bipush 12, 2) := dk_16 12 (dk_at dksX7_doLay_2 18 rfl rfl)
theorem dX7_doLay_66 : decode cX7_doLay 66 = .ok (.if_icmp .ne 10, 3) := dk_160 0 10 (dk_at dksX7_doLay_2 20 rfl rfl)
theorem dX7_doLay_69 : decode cX7_doLay 69 = .ok (.aload_n 0, 1) := dk_42 (dk_at dksX7_doLay_2 23 rfl rfl)
theorem dX7_doLay_70 : decode cX7_doLay 70 = .ok (.iconst 3, 1) := dk_6 (dk_at dksX7_doLay_3 0 rfl rfl)
theorem dX7_doLay_71 : decode cX7_doLay 71 = .ok (.iconst 3, 1) := dk_6 (dk_at dksX7_doLay_3 1 rfl rfl)
theorem dX7_doLay_72 : decode cX7_doLay 72 = .ok (.invokevirtual 75, 3) := dk_182 0 75 (dk_at dksX7_doLay_3 2 rfl rfl)
theorem dX7_doLay_75 : decode cX7_doLay 75 = .ok (.ireturn, 1) := dk_172 (dk_at dksX7_doLay_3 5 rfl rfl)
theorem dX7_doLay_76 : decode cX7_doLay 76 = .ok (.aload_n 0, 1) := dk_42 (dk_at dksX7_doLay_3 6 rfl rfl)
theorem dX7_doLay_77 : decode cX7_doLay 77 = .ok (.getfield 9, 3) := dk_180 0 9 (dk_at dksX7_doLay_3 7 rfl rfl)
theorem dX7_doLay_80 : decode cX7_doLay 80 = .ok (.iload_n 3, 1) := dk_29 (dk_at dksX7_doLay_3 10 rfl rfl)
theorem dX7_doLay_81 : decode cX7_doLay 81 = .ok (.invokestatic 97, 3) := dk_184 0 97 (dk_at dksX7_doLay_3 11 rfl rfl)
theorem dX7_doLay_84 : decode cX7_doLay 84 = .ok (.iload_n 1, 1) := dk_27 (dk_at dksX7_doLay_3 14 rfl rfl)
theorem dX7_doLay_85 : decode cX7_doLay 85 = .ok (.iastore, 1) := dk_79 (dk_at dksX7_doLay_3 15 rfl rfl)
theorem dX7_doLay_86 : decode cX7_doLay 86 = .ok (.aload_n 0, 1) := dk_42 (dk_at dksX7_doLay_3 16 rfl rfl)
theorem dX7_doLay_87 : decode cX7_doLay 87 = .ok (.getfield 9, 3) := dk_180 0 9 (dk_at dksX7_doLay_3 17 rfl rfl)
theorem dX7_doLay_90 : decode cX7_doLay 90 = .ok (.iload_n 3, 1) := dk_29 (dk_at dksX7_doLay_3 20 rfl rfl)
theorem dX7_doLay_91 : decode cX7_doLay 91 = .ok (.invokestatic 97, 3) := dk_184 0 97 (dk_at dksX7_doLay_3 21 rfl rfl)
theorem dX7_doLay_94 : decode cX7_doLay 94 = .ok (.iconst 1, 1) := dk_4 (dk_at dksX7_doLay_4 0 rfl rfl)
theorem dX7_doLay_95 : decode cX7_doLay 95 = .ok (.iadd, 1) := dk_96 (dk_at dksX7_doLay_4 1 rfl rfl)
theorem dX7_doLay_96 : decode cX7_doLay 96 = .ok (.iload_n 2, 1) := dk_28 (dk_at dksX7_doLay_4 2 rfl rfl)
theorem dX7_doLay_97 : decode cX7_doLay 97 = .ok (.iastore, 1) := dk_79 (dk_at dksX7_doLay_4 3 rfl rfl)
theorem dX7_doLay_98 : decode cX7_doLay 98 = .ok (.aload_n 0, 1) := dk_42 (dk_at dksX7_doLay_4 4 rfl rfl)
theorem dX7_doLay_99 : decode cX7_doLay 99 = .ok (.getfield 9, 3) := dk_180 0 9 (dk_at dksX7_doLay_4 5 rfl rfl)
theorem dX7_doLay_102 : decode cX7_doLay 102 = .ok (.iload_n 3, 1) := dk_29 (dk_at dksX7_doLay_4 8 rfl rfl)
theorem dX7_doLay_103 : decode cX7_doLay 103 = .ok (.invokestatic 97, 3) := dk_184 0 97 (dk_at dksX7_doLay_4 9 rfl rfl)
theorem dX7_doLay_106 : decode cX7_doLay 106 = .ok (.iconst 2, 1) := dk_5 (dk_at dksX7_doLay_4 12 rfl rfl)
theorem dX7_doLay_107 : decode cX7_doLay 107 = .ok (.iadd, 1) := dk_96 (dk_at dksX7_doLay_4 13 rfl rfl)
theorem dX7_doLay_108 : decode cX7_doLay 108 = .ok (.iconst 0, 1) := dk_3 (dk_at dksX7_doLay_4 14 rfl rfl)
theorem dX7_doLay_109 : decode cX7_doLay 109 = .ok (.iastore, 1) := dk_79 (dk_at dksX7_doLay_4 15 rfl rfl)
theorem dX7_doLay_110 : decode cX7_doLay 110 = .ok (.aload_n 0, 1) := dk_42 (dk_at dksX7_doLay_4 16 rfl rfl)
theorem dX7_doLay_111 : decode cX7_doLay 111 = .ok (.getfield 9, 3) := dk_180 0 9 (dk_at dksX7_doLay_4 17 rfl rfl)
theorem dX7_doLay_114 : decode cX7_doLay 114 = .ok (.iload_n 3, 1) := dk_29 (dk_at dksX7_doLay_4 20 rfl rfl)
theorem dX7_doLay_115 : decode cX7_doLay 115 = .ok (.invokestatic 97, 3) := dk_184 0 97 (dk_at dksX7_doLay_4 21 rfl rfl)
theorem dX7_doLay_118 : decode cX7_doLay 118 = .ok (.iconst 3, 1) := dk_6 (dk_at dksX7_doLay_5 0 rfl rfl)
theorem dX7_doLay_119 : decode cX7_doLay 119 = .ok (.iadd, 1) := dk_96 (dk_at dksX7_doLay_5 1 rfl rfl)
theorem dX7_doLay_120 : decode cX7_doLay 120 = .ok (.aload_n 0, 1) := dk_42 (dk_at dksX7_doLay_5 2 rfl rfl)
theorem dX7_doLay_121 : decode cX7_doLay 121 = .ok (.iload_n 1, 1) := dk_27 (dk_at dksX7_doLay_5 3 rfl rfl)
theorem dX7_doLay_122 : decode cX7_doLay 122 = .ok (.invokevirtual 94, 3) := dk_182 0 94 (dk_at dksX7_doLay_5 4 rfl rfl)
theorem dX7_doLay_125 : decode cX7_doLay 125 = .ok (.iastore, 1) := dk_79 (dk_at dksX7_doLay_5 7 rfl rfl)
theorem dX7_doLay_126 : decode cX7_doLay 126 = .ok (.aload_n 0, 1) := dk_42 (dk_at dksX7_doLay_5 8 rfl rfl)
theorem dX7_doLay_127 : decode cX7_doLay 127 = .ok (.getfield 9, 3) := dk_180 0 9 (dk_at dksX7_doLay_5 9 rfl rfl)
theorem dX7_doLay_130 : decode cX7_doLay 130 = .ok (.iconst 1, 1) := dk_4 (dk_at dksX7_doLay_5 12 rfl rfl)
theorem dX7_doLay_131 : decode cX7_doLay 131 = .ok (.dup2, 1) := dk_92 (dk_at dksX7_doLay_5 13 rfl rfl)
theorem dX7_doLay_132 : decode cX7_doLay 132 = .ok (.iaload, 1) := dk_46 (dk_at dksX7_doLay_5 14 rfl rfl)
theorem dX7_doLay_133 : decode cX7_doLay 133 = .ok (.iconst 1, 1) := dk_4 (dk_at dksX7_doLay_5 15 rfl rfl)
theorem dX7_doLay_134 : decode cX7_doLay 134 = .ok (.iadd, 1) := dk_96 (dk_at dksX7_doLay_5 16 rfl rfl)
theorem dX7_doLay_135 : decode cX7_doLay 135 = .ok (.iastore, 1) := dk_79 (dk_at dksX7_doLay_5 17 rfl rfl)
theorem dX7_doLay_136 : decode cX7_doLay 136 = .ok (.aload_n 0, 1) := dk_42 (dk_at dksX7_doLay_5 18 rfl rfl)
theorem dX7_doLay_137 : decode cX7_doLay 137 = .ok (.getfield 9, 3) := dk_180 0 9 (dk_at dksX7_doLay_5 19 rfl rfl)
theorem dX7_doLay_140 : decode cX7_doLay 140 = .ok (.bipush 9, 2) := dk_16 9 (dk_at dksX7_doLay_5 22 rfl rfl)
theorem dX7_doLay_142 : decode cX7_doLay 142 = .ok (.dup2, 1) := dk_92 (dk_at dksX7_doLay_6 0 rfl rfl)
theorem dX7_doLay_143 : decode cX7_doLay 143 = .ok (.iaload, 1) := dk_46 (dk_at dksX7_doLay_6 1 rfl rfl)
theorem dX7_doLay_144 : decode cX7_doLay 144 = .ok (.iload_n 2, 1) := dk_28 (dk_at dksX7_doLay_6 2 rfl rfl)
theorem dX7_doLay_145 : decode cX7_doLay 145 = .ok (.iadd, 1) := dk_96 (dk_at dksX7_doLay_6 3 rfl rfl)
theorem dX7_doLay_146 : decode cX7_doLay 146 = .ok (.iastore, 1) := dk_79 (dk_at dksX7_doLay_6 4 rfl rfl)
theorem dX7_doLay_147 : decode cX7_doLay 147 = .ok (.iload_n 3, 1) := dk_29 (dk_at dksX7_doLay_6 5 rfl rfl)
theorem dX7_doLay_148 : decode cX7_doLay 148 = .ok (.ireturn, 1) := dk_172 (dk_at dksX7_doLay_6 6 rfl rfl)
def dkwX7_level_0 : List UInt8 := [42, 27, 7, 182, 0, 62, 42, 27, 3, 182, 0, 62, 108, 172]
abbrev dktX7_level_0 : List UInt8 := dkwX7_level_0 ++ []
theorem dksX7_level_0 : cX7_level.data.toList.drop 0 = dktX7_level_0 := by decide +kernel
theorem dX7_level_0 : decode cX7_level 0 = .ok (.aload_n 0, 1) := dk_42 (dk_at dksX7_level_0 0 rfl rfl)
theorem dX7_level_1 : decode cX7_level 1 = .ok (.iload_n 1, 1) := dk_27 (dk_at dksX7_level_0 1 rfl rfl)
theorem dX7_level_2 : decode cX7_level 2 = .ok (.iconst 4, 1) := dk_7 (dk_at dksX7_level_0 2 rfl rfl)
theorem dX7_level_3 : decode cX7_level 3 = .ok (.invokevirtual 62, 3) := dk_182 0 62 (dk_at dksX7_level_0 3 rfl rfl)
theorem dX7_level_6 : decode cX7_level 6 = .ok (.aload_n 0, 1) := dk_42 (dk_at dksX7_level_0 6 rfl rfl)
theorem dX7_level_7 : decode cX7_level 7 = .ok (.iload_n 1, 1) := dk_27 (dk_at dksX7_level_0 7 rfl rfl)
theorem dX7_level_8 : decode cX7_level 8 = .ok (.iconst 0, 1) := dk_3 (dk_at dksX7_level_0 8 rfl rfl)
theorem dX7_level_9 : decode cX7_level 9 = .ok (.invokevirtual 62, 3) := dk_182 0 62 (dk_at dksX7_level_0 9 rfl rfl)
theorem dX7_level_12 : decode cX7_level 12 = .ok (.idiv, 1) := dk_108 (dk_at dksX7_level_0 12 rfl rfl)
theorem dX7_level_13 : decode cX7_level 13 = .ok (.ireturn, 1) := dk_172 (dk_at dksX7_level_0 13 rfl rfl)
def dkwX7_clutchAt_0 : List UInt8 := [16, 78, 7, 26, 104, 96, 172]
abbrev dktX7_clutchAt_0 : List UInt8 := dkwX7_clutchAt_0 ++ []
theorem dksX7_clutchAt_0 : cX7_clutchAt.data.toList.drop 0 = dktX7_clutchAt_0 := by decide +kernel
theorem dX7_clutchAt_0 : decode cX7_clutchAt 0 = .ok (.bipush 78, 2) := dk_16 78 (dk_at dksX7_clutchAt_0 0 rfl rfl)
theorem dX7_clutchAt_2 : decode cX7_clutchAt 2 = .ok (.iconst 4, 1) := dk_7 (dk_at dksX7_clutchAt_0 2 rfl rfl)
theorem dX7_clutchAt_3 : decode cX7_clutchAt 3 = .ok (.iload_n 0, 1) := dk_26 (dk_at dksX7_clutchAt_0 3 rfl rfl)
theorem dX7_clutchAt_4 : decode cX7_clutchAt 4 = .ok (.imul, 1) := dk_104 (dk_at dksX7_clutchAt_0 4 rfl rfl)
theorem dX7_clutchAt_5 : decode cX7_clutchAt 5 = .ok (.iadd, 1) := dk_96 (dk_at dksX7_clutchAt_0 5 rfl rfl)
theorem dX7_clutchAt_6 : decode cX7_clutchAt 6 = .ok (.ireturn, 1) := dk_172 (dk_at dksX7_clutchAt_0 6 rfl rfl)
def dkwX7_of_2 : List UInt8 := [172]
abbrev dktX7_of_2 : List UInt8 := dkwX7_of_2 ++ []
def dkwX7_of_1 : List UInt8 := [167, 0, 4, 3, 181, 0, 36, 42, 180, 0, 36, 158, 0, 7, 3, 167, 0, 9, 42, 27, 28, 182, 0, 109]
abbrev dktX7_of_1 : List UInt8 := dkwX7_of_1 ++ dktX7_of_2
def dkwX7_of_0 : List UInt8 := [42, 42, 27, 182, 0, 84, 154, 0, 7, 4, 167, 0, 18, 28, 3, 16, 8, 184, 0, 54, 154, 0, 7, 5]
abbrev dktX7_of_0 : List UInt8 := dkwX7_of_0 ++ dktX7_of_1
theorem dksX7_of_0 : cX7_of.data.toList.drop 0 = dktX7_of_0 := by decide +kernel
theorem dksX7_of_1 : cX7_of.data.toList.drop 24 = dktX7_of_1 := dk_seg dksX7_of_0 24 rfl rfl
theorem dksX7_of_2 : cX7_of.data.toList.drop 48 = dktX7_of_2 := dk_seg dksX7_of_1 24 rfl rfl
theorem dX7_of_0 : decode cX7_of 0 = .ok (.aload_n 0, 1) := dk_42 (dk_at dksX7_of_0 0 rfl rfl)
theorem dX7_of_1 : decode cX7_of 1 = .ok (.aload_n 0, 1) := dk_42 (dk_at dksX7_of_0 1 rfl rfl)
theorem dX7_of_2 : decode cX7_of 2 = .ok (.iload_n 1, 1) := dk_27 (dk_at dksX7_of_0 2 rfl rfl)
theorem dX7_of_3 : decode cX7_of 3 = .ok (.invokevirtual 84, 3) := dk_182 0 84 (dk_at dksX7_of_0 3 rfl rfl)
theorem dX7_of_6 : decode cX7_of 6 = .ok (.ifCond .ne 7, 3) := dk_154 0 7 (dk_at dksX7_of_0 6 rfl rfl)
theorem dX7_of_9 : decode cX7_of 9 = .ok (.iconst 1, 1) := dk_4 (dk_at dksX7_of_0 9 rfl rfl)
theorem dX7_of_10 : decode cX7_of 10 = .ok (.goto 18, 3) := dk_167 0 18 (dk_at dksX7_of_0 10 rfl rfl)
theorem dX7_of_13 : decode cX7_of 13 = .ok (.iload_n 2, 1) := dk_28 (dk_at dksX7_of_0 13 rfl rfl)
theorem dX7_of_14 : decode cX7_of 14 = .ok (.iconst 0, 1) := dk_3 (dk_at dksX7_of_0 14 rfl rfl)
theorem dX7_of_15 : decode cX7_of 15 = .ok (.bipush 8, 2) := dk_16 8 (dk_at dksX7_of_0 15 rfl rfl)
theorem dX7_of_17 : decode cX7_of 17 = .ok (.invokestatic 54, 3) := dk_184 0 54 (dk_at dksX7_of_0 17 rfl rfl)
theorem dX7_of_20 : decode cX7_of 20 = .ok (.ifCond .ne 7, 3) := dk_154 0 7 (dk_at dksX7_of_0 20 rfl rfl)
theorem dX7_of_23 : decode cX7_of 23 = .ok (.iconst 2, 1) := dk_5 (dk_at dksX7_of_0 23 rfl rfl)
theorem dX7_of_24 : decode cX7_of 24 = .ok (.goto 4, 3) := dk_167 0 4 (dk_at dksX7_of_1 0 rfl rfl)
theorem dX7_of_27 : decode cX7_of 27 = .ok (.iconst 0, 1) := dk_3 (dk_at dksX7_of_1 3 rfl rfl)
theorem dX7_of_28 : decode cX7_of 28 = .ok (.putfield 36, 3) := dk_181 0 36 (dk_at dksX7_of_1 4 rfl rfl)
theorem dX7_of_31 : decode cX7_of 31 = .ok (.aload_n 0, 1) := dk_42 (dk_at dksX7_of_1 7 rfl rfl)
theorem dX7_of_32 : decode cX7_of 32 = .ok (.getfield 36, 3) := dk_180 0 36 (dk_at dksX7_of_1 8 rfl rfl)
theorem dX7_of_35 : decode cX7_of 35 = .ok (.ifCond .le 7, 3) := dk_158 0 7 (dk_at dksX7_of_1 11 rfl rfl)
theorem dX7_of_38 : decode cX7_of 38 = .ok (.iconst 0, 1) := dk_3 (dk_at dksX7_of_1 14 rfl rfl)
theorem dX7_of_39 : decode cX7_of 39 = .ok (.goto 9, 3) := dk_167 0 9 (dk_at dksX7_of_1 15 rfl rfl)
theorem dX7_of_42 : decode cX7_of 42 = .ok (.aload_n 0, 1) := dk_42 (dk_at dksX7_of_1 18 rfl rfl)
theorem dX7_of_43 : decode cX7_of 43 = .ok (.iload_n 1, 1) := dk_27 (dk_at dksX7_of_1 19 rfl rfl)
theorem dX7_of_44 : decode cX7_of 44 = .ok (.iload_n 2, 1) := dk_28 (dk_at dksX7_of_1 20 rfl rfl)
theorem dX7_of_45 : decode cX7_of 45 = .ok (.invokevirtual 109, 3) := dk_182 0 109 (dk_at dksX7_of_1 21 rfl rfl)
theorem dX7_of_48 : decode cX7_of 48 = .ok (.ireturn, 1) := dk_172 (dk_at dksX7_of_2 0 rfl rfl)
def dkwX7_numberOf_3 : List UInt8 := [172, 42, 27, 28, 182, 0, 62, 172]
abbrev dktX7_numberOf_3 : List UInt8 := dkwX7_numberOf_3 ++ []
def dkwX7_numberOf_2 : List UInt8 := [42, 27, 182, 0, 94, 172, 42, 27, 8, 182, 0, 62, 172, 42, 27, 182, 0, 103, 172, 42, 27, 182, 0, 106]
abbrev dktX7_numberOf_2 : List UInt8 := dkwX7_numberOf_2 ++ dktX7_numberOf_3
def dkwX7_numberOf_1 : List UInt8 := [170, 0, 0, 0, 0, 0, 56, 0, 0, 0, 5, 0, 0, 0, 8, 0, 0, 0, 31, 0, 0, 0, 37, 0, 0, 0, 44, 0, 0, 0, 50]
abbrev dktX7_numberOf_1 : List UInt8 := dkwX7_numberOf_1 ++ dktX7_numberOf_2
def dkwX7_numberOf_0 : List UInt8 := [28]
abbrev dktX7_numberOf_0 : List UInt8 := dkwX7_numberOf_0 ++ dktX7_numberOf_1
theorem dksX7_numberOf_0 : cX7_numberOf.data.toList.drop 0 = dktX7_numberOf_0 := by decide +kernel
theorem dksX7_numberOf_1 : cX7_numberOf.data.toList.drop 1 = dktX7_numberOf_1 := dk_seg dksX7_numberOf_0 1 rfl rfl
theorem dksX7_numberOf_2 : cX7_numberOf.data.toList.drop 32 = dktX7_numberOf_2 := dk_seg dksX7_numberOf_1 31 rfl rfl
theorem dksX7_numberOf_3 : cX7_numberOf.data.toList.drop 56 = dktX7_numberOf_3 := dk_seg dksX7_numberOf_2 24 rfl rfl
theorem dX7_numberOf_0 : decode cX7_numberOf 0 = .ok (.iload_n 2, 1) := dk_28 (dk_at dksX7_numberOf_0 0 rfl rfl)
theorem dX7_numberOf_1 : decode cX7_numberOf 1 = .ok (.tableswitch 56 5 8 #[31, 37, 44, 50], 31) := by decide +kernel
theorem dX7_numberOf_32 : decode cX7_numberOf 32 = .ok (.aload_n 0, 1) := dk_42 (dk_at dksX7_numberOf_2 0 rfl rfl)
theorem dX7_numberOf_33 : decode cX7_numberOf 33 = .ok (.iload_n 1, 1) := dk_27 (dk_at dksX7_numberOf_2 1 rfl rfl)
theorem dX7_numberOf_34 : decode cX7_numberOf 34 = .ok (.invokevirtual 94, 3) := dk_182 0 94 (dk_at dksX7_numberOf_2 2 rfl rfl)
theorem dX7_numberOf_37 : decode cX7_numberOf 37 = .ok (.ireturn, 1) := dk_172 (dk_at dksX7_numberOf_2 5 rfl rfl)
theorem dX7_numberOf_38 : decode cX7_numberOf 38 = .ok (.aload_n 0, 1) := dk_42 (dk_at dksX7_numberOf_2 6 rfl rfl)
theorem dX7_numberOf_39 : decode cX7_numberOf 39 = .ok (.iload_n 1, 1) := dk_27 (dk_at dksX7_numberOf_2 7 rfl rfl)
theorem dX7_numberOf_40 : decode cX7_numberOf 40 = .ok (.iconst 5, 1) := dk_8 (dk_at dksX7_numberOf_2 8 rfl rfl)
theorem dX7_numberOf_41 : decode cX7_numberOf 41 = .ok (.invokevirtual 62, 3) := dk_182 0 62 (dk_at dksX7_numberOf_2 9 rfl rfl)
theorem dX7_numberOf_44 : decode cX7_numberOf 44 = .ok (.ireturn, 1) := dk_172 (dk_at dksX7_numberOf_2 12 rfl rfl)
theorem dX7_numberOf_45 : decode cX7_numberOf 45 = .ok (.aload_n 0, 1) := dk_42 (dk_at dksX7_numberOf_2 13 rfl rfl)
theorem dX7_numberOf_46 : decode cX7_numberOf 46 = .ok (.iload_n 1, 1) := dk_27 (dk_at dksX7_numberOf_2 14 rfl rfl)
theorem dX7_numberOf_47 : decode cX7_numberOf 47 = .ok (.invokevirtual 103, 3) := dk_182 0 103 (dk_at dksX7_numberOf_2 15 rfl rfl)
theorem dX7_numberOf_50 : decode cX7_numberOf 50 = .ok (.ireturn, 1) := dk_172 (dk_at dksX7_numberOf_2 18 rfl rfl)
theorem dX7_numberOf_51 : decode cX7_numberOf 51 = .ok (.aload_n 0, 1) := dk_42 (dk_at dksX7_numberOf_2 19 rfl rfl)
theorem dX7_numberOf_52 : decode cX7_numberOf 52 = .ok (.iload_n 1, 1) := dk_27 (dk_at dksX7_numberOf_2 20 rfl rfl)
theorem dX7_numberOf_53 : decode cX7_numberOf 53 = .ok (.invokevirtual 106, 3) := dk_182 0 106 (dk_at dksX7_numberOf_2 21 rfl rfl)
theorem dX7_numberOf_56 : decode cX7_numberOf 56 = .ok (.ireturn, 1) := dk_172 (dk_at dksX7_numberOf_3 0 rfl rfl)
theorem dX7_numberOf_57 : decode cX7_numberOf 57 = .ok (.aload_n 0, 1) := dk_42 (dk_at dksX7_numberOf_3 1 rfl rfl)
theorem dX7_numberOf_58 : decode cX7_numberOf 58 = .ok (.iload_n 1, 1) := dk_27 (dk_at dksX7_numberOf_3 2 rfl rfl)
theorem dX7_numberOf_59 : decode cX7_numberOf 59 = .ok (.iload_n 2, 1) := dk_28 (dk_at dksX7_numberOf_3 3 rfl rfl)
theorem dX7_numberOf_60 : decode cX7_numberOf 60 = .ok (.invokevirtual 62, 3) := dk_182 0 62 (dk_at dksX7_numberOf_3 4 rfl rfl)
theorem dX7_numberOf_63 : decode cX7_numberOf 63 = .ok (.ireturn, 1) := dk_172 (dk_at dksX7_numberOf_3 7 rfl rfl)
def dkwX7_eggsIn_2 : List UInt8 := [61, 132, 3, 1, 167, 255, 208, 28, 172]
abbrev dktX7_eggsIn_2 : List UInt8 := dkwX7_eggsIn_2 ++ []
def dkwX7_eggsIn_1 : List UInt8 := [184, 0, 97, 46, 27, 160, 0, 17, 42, 180, 0, 9, 29, 184, 0, 97, 4, 96, 46, 167, 0, 4, 3, 96]
abbrev dktX7_eggsIn_1 : List UInt8 := dkwX7_eggsIn_1 ++ dktX7_eggsIn_2
def dkwX7_eggsIn_0 : List UInt8 := [3, 61, 3, 62, 29, 42, 180, 0, 9, 4, 46, 162, 0, 44, 28, 27, 155, 0, 16, 42, 180, 0, 9, 29]
abbrev dktX7_eggsIn_0 : List UInt8 := dkwX7_eggsIn_0 ++ dktX7_eggsIn_1
theorem dksX7_eggsIn_0 : cX7_eggsIn.data.toList.drop 0 = dktX7_eggsIn_0 := by decide +kernel
theorem dksX7_eggsIn_1 : cX7_eggsIn.data.toList.drop 24 = dktX7_eggsIn_1 := dk_seg dksX7_eggsIn_0 24 rfl rfl
theorem dksX7_eggsIn_2 : cX7_eggsIn.data.toList.drop 48 = dktX7_eggsIn_2 := dk_seg dksX7_eggsIn_1 24 rfl rfl
theorem dX7_eggsIn_0 : decode cX7_eggsIn 0 = .ok (.iconst 0, 1) := dk_3 (dk_at dksX7_eggsIn_0 0 rfl rfl)
theorem dX7_eggsIn_1 : decode cX7_eggsIn 1 = .ok (.istore_n 2, 1) := dk_61 (dk_at dksX7_eggsIn_0 1 rfl rfl)
theorem dX7_eggsIn_2 : decode cX7_eggsIn 2 = .ok (.iconst 0, 1) := dk_3 (dk_at dksX7_eggsIn_0 2 rfl rfl)
theorem dX7_eggsIn_3 : decode cX7_eggsIn 3 = .ok (.istore_n 3, 1) := dk_62 (dk_at dksX7_eggsIn_0 3 rfl rfl)
theorem dX7_eggsIn_4 : decode cX7_eggsIn 4 = .ok (.iload_n 3, 1) := dk_29 (dk_at dksX7_eggsIn_0 4 rfl rfl)
theorem dX7_eggsIn_5 : decode cX7_eggsIn 5 = .ok (.aload_n 0, 1) := dk_42 (dk_at dksX7_eggsIn_0 5 rfl rfl)
theorem dX7_eggsIn_6 : decode cX7_eggsIn 6 = .ok (.getfield 9, 3) := dk_180 0 9 (dk_at dksX7_eggsIn_0 6 rfl rfl)
theorem dX7_eggsIn_9 : decode cX7_eggsIn 9 = .ok (.iconst 1, 1) := dk_4 (dk_at dksX7_eggsIn_0 9 rfl rfl)
theorem dX7_eggsIn_10 : decode cX7_eggsIn 10 = .ok (.iaload, 1) := dk_46 (dk_at dksX7_eggsIn_0 10 rfl rfl)
theorem dX7_eggsIn_11 : decode cX7_eggsIn 11 = .ok (.if_icmp .ge 44, 3) := dk_162 0 44 (dk_at dksX7_eggsIn_0 11 rfl rfl)
theorem dX7_eggsIn_14 : decode cX7_eggsIn 14 = .ok (.iload_n 2, 1) := dk_28 (dk_at dksX7_eggsIn_0 14 rfl rfl)
theorem dX7_eggsIn_15 : decode cX7_eggsIn 15 = .ok (.iload_n 1, 1) := dk_27 (dk_at dksX7_eggsIn_0 15 rfl rfl)
theorem dX7_eggsIn_16 : decode cX7_eggsIn 16 = .ok (.ifCond .lt 16, 3) := dk_155 0 16 (dk_at dksX7_eggsIn_0 16 rfl rfl)
theorem dX7_eggsIn_19 : decode cX7_eggsIn 19 = .ok (.aload_n 0, 1) := dk_42 (dk_at dksX7_eggsIn_0 19 rfl rfl)
theorem dX7_eggsIn_20 : decode cX7_eggsIn 20 = .ok (.getfield 9, 3) := dk_180 0 9 (dk_at dksX7_eggsIn_0 20 rfl rfl)
theorem dX7_eggsIn_23 : decode cX7_eggsIn 23 = .ok (.iload_n 3, 1) := dk_29 (dk_at dksX7_eggsIn_0 23 rfl rfl)
theorem dX7_eggsIn_24 : decode cX7_eggsIn 24 = .ok (.invokestatic 97, 3) := dk_184 0 97 (dk_at dksX7_eggsIn_1 0 rfl rfl)
theorem dX7_eggsIn_27 : decode cX7_eggsIn 27 = .ok (.iaload, 1) := dk_46 (dk_at dksX7_eggsIn_1 3 rfl rfl)
theorem dX7_eggsIn_28 : decode cX7_eggsIn 28 = .ok (.iload_n 1, 1) := dk_27 (dk_at dksX7_eggsIn_1 4 rfl rfl)
theorem dX7_eggsIn_29 : decode cX7_eggsIn 29 = .ok (.if_icmp .ne 17, 3) := dk_160 0 17 (dk_at dksX7_eggsIn_1 5 rfl rfl)
theorem dX7_eggsIn_32 : decode cX7_eggsIn 32 = .ok (.aload_n 0, 1) := dk_42 (dk_at dksX7_eggsIn_1 8 rfl rfl)
theorem dX7_eggsIn_33 : decode cX7_eggsIn 33 = .ok (.getfield 9, 3) := dk_180 0 9 (dk_at dksX7_eggsIn_1 9 rfl rfl)
theorem dX7_eggsIn_36 : decode cX7_eggsIn 36 = .ok (.iload_n 3, 1) := dk_29 (dk_at dksX7_eggsIn_1 12 rfl rfl)
theorem dX7_eggsIn_37 : decode cX7_eggsIn 37 = .ok (.invokestatic 97, 3) := dk_184 0 97 (dk_at dksX7_eggsIn_1 13 rfl rfl)
theorem dX7_eggsIn_40 : decode cX7_eggsIn 40 = .ok (.iconst 1, 1) := dk_4 (dk_at dksX7_eggsIn_1 16 rfl rfl)
theorem dX7_eggsIn_41 : decode cX7_eggsIn 41 = .ok (.iadd, 1) := dk_96 (dk_at dksX7_eggsIn_1 17 rfl rfl)
theorem dX7_eggsIn_42 : decode cX7_eggsIn 42 = .ok (.iaload, 1) := dk_46 (dk_at dksX7_eggsIn_1 18 rfl rfl)
theorem dX7_eggsIn_43 : decode cX7_eggsIn 43 = .ok (.goto 4, 3) := dk_167 0 4 (dk_at dksX7_eggsIn_1 19 rfl rfl)
theorem dX7_eggsIn_46 : decode cX7_eggsIn 46 = .ok (.iconst 0, 1) := dk_3 (dk_at dksX7_eggsIn_1 22 rfl rfl)
theorem dX7_eggsIn_47 : decode cX7_eggsIn 47 = .ok (.iadd, 1) := dk_96 (dk_at dksX7_eggsIn_1 23 rfl rfl)
theorem dX7_eggsIn_48 : decode cX7_eggsIn 48 = .ok (.istore_n 2, 1) := dk_61 (dk_at dksX7_eggsIn_2 0 rfl rfl)
theorem dX7_eggsIn_49 : decode cX7_eggsIn 49 = .ok (.iinc 3 1, 3) := dk_132 3 1 (dk_at dksX7_eggsIn_2 1 rfl rfl)
theorem dX7_eggsIn_52 : decode cX7_eggsIn 52 = .ok (.goto (-48), 3) := dk_167 255 208 (dk_at dksX7_eggsIn_2 4 rfl rfl)
theorem dX7_eggsIn_55 : decode cX7_eggsIn 55 = .ok (.iload_n 2, 1) := dk_28 (dk_at dksX7_eggsIn_2 7 rfl rfl)
theorem dX7_eggsIn_56 : decode cX7_eggsIn 56 = .ok (.ireturn, 1) := dk_172 (dk_at dksX7_eggsIn_2 8 rfl rfl)
def dkwX7_letsDown_2 : List UInt8 := [184, 0, 70, 172]
abbrev dktX7_letsDown_2 : List UInt8 := dkwX7_letsDown_2 ++ []
def dkwX7_letsDown_1 : List UInt8 := [104, 61, 42, 27, 7, 182, 0, 62, 28, 100, 62, 29, 156, 0, 7, 3, 167, 0, 9, 16, 20, 29]
abbrev dktX7_letsDown_1 : List UInt8 := dkwX7_letsDown_1 ++ dktX7_letsDown_2
def dkwX7_letsDown_0 : List UInt8 := [42, 27, 182, 0, 66, 153, 0, 7, 3, 167, 0, 16, 42, 27, 6, 182, 0, 62, 42, 27, 3, 182, 0, 62]
abbrev dktX7_letsDown_0 : List UInt8 := dkwX7_letsDown_0 ++ dktX7_letsDown_1
theorem dksX7_letsDown_0 : cX7_letsDown.data.toList.drop 0 = dktX7_letsDown_0 := by decide +kernel
theorem dksX7_letsDown_1 : cX7_letsDown.data.toList.drop 24 = dktX7_letsDown_1 := dk_seg dksX7_letsDown_0 24 rfl rfl
theorem dksX7_letsDown_2 : cX7_letsDown.data.toList.drop 46 = dktX7_letsDown_2 := dk_seg dksX7_letsDown_1 22 rfl rfl
theorem dX7_letsDown_0 : decode cX7_letsDown 0 = .ok (.aload_n 0, 1) := dk_42 (dk_at dksX7_letsDown_0 0 rfl rfl)
theorem dX7_letsDown_1 : decode cX7_letsDown 1 = .ok (.iload_n 1, 1) := dk_27 (dk_at dksX7_letsDown_0 1 rfl rfl)
theorem dX7_letsDown_2 : decode cX7_letsDown 2 = .ok (.invokevirtual 66, 3) := dk_182 0 66 (dk_at dksX7_letsDown_0 2 rfl rfl)
theorem dX7_letsDown_5 : decode cX7_letsDown 5 = .ok (.ifCond .eq 7, 3) := dk_153 0 7 (dk_at dksX7_letsDown_0 5 rfl rfl)
theorem dX7_letsDown_8 : decode cX7_letsDown 8 = .ok (.iconst 0, 1) := dk_3 (dk_at dksX7_letsDown_0 8 rfl rfl)
theorem dX7_letsDown_9 : decode cX7_letsDown 9 = .ok (.goto 16, 3) := dk_167 0 16 (dk_at dksX7_letsDown_0 9 rfl rfl)
theorem dX7_letsDown_12 : decode cX7_letsDown 12 = .ok (.aload_n 0, 1) := dk_42 (dk_at dksX7_letsDown_0 12 rfl rfl)
theorem dX7_letsDown_13 : decode cX7_letsDown 13 = .ok (.iload_n 1, 1) := dk_27 (dk_at dksX7_letsDown_0 13 rfl rfl)
theorem dX7_letsDown_14 : decode cX7_letsDown 14 = .ok (.iconst 3, 1) := dk_6 (dk_at dksX7_letsDown_0 14 rfl rfl)
theorem dX7_letsDown_15 : decode cX7_letsDown 15 = .ok (.invokevirtual 62, 3) := dk_182 0 62 (dk_at dksX7_letsDown_0 15 rfl rfl)
theorem dX7_letsDown_18 : decode cX7_letsDown 18 = .ok (.aload_n 0, 1) := dk_42 (dk_at dksX7_letsDown_0 18 rfl rfl)
theorem dX7_letsDown_19 : decode cX7_letsDown 19 = .ok (.iload_n 1, 1) := dk_27 (dk_at dksX7_letsDown_0 19 rfl rfl)
theorem dX7_letsDown_20 : decode cX7_letsDown 20 = .ok (.iconst 0, 1) := dk_3 (dk_at dksX7_letsDown_0 20 rfl rfl)
theorem dX7_letsDown_21 : decode cX7_letsDown 21 = .ok (.invokevirtual 62, 3) := dk_182 0 62 (dk_at dksX7_letsDown_0 21 rfl rfl)
theorem dX7_letsDown_24 : decode cX7_letsDown 24 = .ok (.imul, 1) := dk_104 (dk_at dksX7_letsDown_1 0 rfl rfl)
theorem dX7_letsDown_25 : decode cX7_letsDown 25 = .ok (.istore_n 2, 1) := dk_61 (dk_at dksX7_letsDown_1 1 rfl rfl)
theorem dX7_letsDown_26 : decode cX7_letsDown 26 = .ok (.aload_n 0, 1) := dk_42 (dk_at dksX7_letsDown_1 2 rfl rfl)
theorem dX7_letsDown_27 : decode cX7_letsDown 27 = .ok (.iload_n 1, 1) := dk_27 (dk_at dksX7_letsDown_1 3 rfl rfl)
theorem dX7_letsDown_28 : decode cX7_letsDown 28 = .ok (.iconst 4, 1) := dk_7 (dk_at dksX7_letsDown_1 4 rfl rfl)
theorem dX7_letsDown_29 : decode cX7_letsDown 29 = .ok (.invokevirtual 62, 3) := dk_182 0 62 (dk_at dksX7_letsDown_1 5 rfl rfl)
theorem dX7_letsDown_32 : decode cX7_letsDown 32 = .ok (.iload_n 2, 1) := dk_28 (dk_at dksX7_letsDown_1 8 rfl rfl)
theorem dX7_letsDown_33 : decode cX7_letsDown 33 = .ok (.isub, 1) := dk_100 (dk_at dksX7_letsDown_1 9 rfl rfl)
theorem dX7_letsDown_34 : decode cX7_letsDown 34 = .ok (.istore_n 3, 1) := dk_62 (dk_at dksX7_letsDown_1 10 rfl rfl)
theorem dX7_letsDown_35 : decode cX7_letsDown 35 = .ok (.iload_n 3, 1) := dk_29 (dk_at dksX7_letsDown_1 11 rfl rfl)
theorem dX7_letsDown_36 : decode cX7_letsDown 36 = .ok (.ifCond .ge 7, 3) := dk_156 0 7 (dk_at dksX7_letsDown_1 12 rfl rfl)
theorem dX7_letsDown_39 : decode cX7_letsDown 39 = .ok (.iconst 0, 1) := dk_3 (dk_at dksX7_letsDown_1 15 rfl rfl)
theorem dX7_letsDown_40 : decode cX7_letsDown 40 = .ok (.goto 9, 3) := dk_167 0 9 (dk_at dksX7_letsDown_1 16 rfl rfl)
theorem dX7_letsDown_43 : decode cX7_letsDown 43 = .ok (.bipush 20, 2) := dk_16 20 (dk_at dksX7_letsDown_1 19 rfl rfl)
theorem dX7_letsDown_45 : decode cX7_letsDown 45 = .ok (.iload_n 3, 1) := dk_29 (dk_at dksX7_letsDown_1 21 rfl rfl)
theorem dX7_letsDown_46 : decode cX7_letsDown 46 = .ok (.invokestatic 70, 3) := dk_184 0 70 (dk_at dksX7_letsDown_2 0 rfl rfl)
theorem dX7_letsDown_49 : decode cX7_letsDown 49 = .ok (.ireturn, 1) := dk_172 (dk_at dksX7_letsDown_2 3 rfl rfl)
def dkwX7_is_2 : List UInt8 := [182, 0, 66, 167, 0, 20, 42, 27, 8, 28, 96, 182, 0, 62, 4, 160, 0, 7, 4, 167, 0, 4, 3, 172]
abbrev dktX7_is_2 : List UInt8 := dkwX7_is_2 ++ []
def dkwX7_is_1 : List UInt8 := [167, 0, 4, 3, 181, 0, 36, 42, 180, 0, 36, 158, 0, 5, 3, 172, 28, 154, 0, 11, 42, 27]
abbrev dktX7_is_1 : List UInt8 := dkwX7_is_1 ++ dktX7_is_2
def dkwX7_is_0 : List UInt8 := [42, 42, 27, 182, 0, 84, 154, 0, 7, 4, 167, 0, 17, 28, 3, 8, 184, 0, 54, 154, 0, 7, 5]
abbrev dktX7_is_0 : List UInt8 := dkwX7_is_0 ++ dktX7_is_1
theorem dksX7_is_0 : cX7_is.data.toList.drop 0 = dktX7_is_0 := by decide +kernel
theorem dksX7_is_1 : cX7_is.data.toList.drop 23 = dktX7_is_1 := dk_seg dksX7_is_0 23 rfl rfl
theorem dksX7_is_2 : cX7_is.data.toList.drop 45 = dktX7_is_2 := dk_seg dksX7_is_1 22 rfl rfl
theorem dX7_is_0 : decode cX7_is 0 = .ok (.aload_n 0, 1) := dk_42 (dk_at dksX7_is_0 0 rfl rfl)
theorem dX7_is_1 : decode cX7_is 1 = .ok (.aload_n 0, 1) := dk_42 (dk_at dksX7_is_0 1 rfl rfl)
theorem dX7_is_2 : decode cX7_is 2 = .ok (.iload_n 1, 1) := dk_27 (dk_at dksX7_is_0 2 rfl rfl)
theorem dX7_is_3 : decode cX7_is 3 = .ok (.invokevirtual 84, 3) := dk_182 0 84 (dk_at dksX7_is_0 3 rfl rfl)
theorem dX7_is_6 : decode cX7_is 6 = .ok (.ifCond .ne 7, 3) := dk_154 0 7 (dk_at dksX7_is_0 6 rfl rfl)
theorem dX7_is_9 : decode cX7_is 9 = .ok (.iconst 1, 1) := dk_4 (dk_at dksX7_is_0 9 rfl rfl)
theorem dX7_is_10 : decode cX7_is 10 = .ok (.goto 17, 3) := dk_167 0 17 (dk_at dksX7_is_0 10 rfl rfl)
theorem dX7_is_13 : decode cX7_is 13 = .ok (.iload_n 2, 1) := dk_28 (dk_at dksX7_is_0 13 rfl rfl)
theorem dX7_is_14 : decode cX7_is 14 = .ok (.iconst 0, 1) := dk_3 (dk_at dksX7_is_0 14 rfl rfl)
theorem dX7_is_15 : decode cX7_is 15 = .ok (.iconst 5, 1) := dk_8 (dk_at dksX7_is_0 15 rfl rfl)
theorem dX7_is_16 : decode cX7_is 16 = .ok (.invokestatic 54, 3) := dk_184 0 54 (dk_at dksX7_is_0 16 rfl rfl)
theorem dX7_is_19 : decode cX7_is 19 = .ok (.ifCond .ne 7, 3) := dk_154 0 7 (dk_at dksX7_is_0 19 rfl rfl)
theorem dX7_is_22 : decode cX7_is 22 = .ok (.iconst 2, 1) := dk_5 (dk_at dksX7_is_0 22 rfl rfl)
theorem dX7_is_23 : decode cX7_is 23 = .ok (.goto 4, 3) := dk_167 0 4 (dk_at dksX7_is_1 0 rfl rfl)
theorem dX7_is_26 : decode cX7_is 26 = .ok (.iconst 0, 1) := dk_3 (dk_at dksX7_is_1 3 rfl rfl)
theorem dX7_is_27 : decode cX7_is 27 = .ok (.putfield 36, 3) := dk_181 0 36 (dk_at dksX7_is_1 4 rfl rfl)
theorem dX7_is_30 : decode cX7_is 30 = .ok (.aload_n 0, 1) := dk_42 (dk_at dksX7_is_1 7 rfl rfl)
theorem dX7_is_31 : decode cX7_is 31 = .ok (.getfield 36, 3) := dk_180 0 36 (dk_at dksX7_is_1 8 rfl rfl)
theorem dX7_is_34 : decode cX7_is 34 = .ok (.ifCond .le 5, 3) := dk_158 0 5 (dk_at dksX7_is_1 11 rfl rfl)
theorem dX7_is_37 : decode cX7_is 37 = .ok (.iconst 0, 1) := dk_3 (dk_at dksX7_is_1 14 rfl rfl)
theorem dX7_is_38 : decode cX7_is 38 = .ok (.ireturn, 1) := dk_172 (dk_at dksX7_is_1 15 rfl rfl)
theorem dX7_is_39 : decode cX7_is 39 = .ok (.iload_n 2, 1) := dk_28 (dk_at dksX7_is_1 16 rfl rfl)
theorem dX7_is_40 : decode cX7_is 40 = .ok (.ifCond .ne 11, 3) := dk_154 0 11 (dk_at dksX7_is_1 17 rfl rfl)
theorem dX7_is_43 : decode cX7_is 43 = .ok (.aload_n 0, 1) := dk_42 (dk_at dksX7_is_1 20 rfl rfl)
theorem dX7_is_44 : decode cX7_is 44 = .ok (.iload_n 1, 1) := dk_27 (dk_at dksX7_is_1 21 rfl rfl)
theorem dX7_is_45 : decode cX7_is 45 = .ok (.invokevirtual 66, 3) := dk_182 0 66 (dk_at dksX7_is_2 0 rfl rfl)
theorem dX7_is_48 : decode cX7_is 48 = .ok (.goto 20, 3) := dk_167 0 20 (dk_at dksX7_is_2 3 rfl rfl)
theorem dX7_is_51 : decode cX7_is 51 = .ok (.aload_n 0, 1) := dk_42 (dk_at dksX7_is_2 6 rfl rfl)
theorem dX7_is_52 : decode cX7_is 52 = .ok (.iload_n 1, 1) := dk_27 (dk_at dksX7_is_2 7 rfl rfl)
theorem dX7_is_53 : decode cX7_is 53 = .ok (.iconst 5, 1) := dk_8 (dk_at dksX7_is_2 8 rfl rfl)
theorem dX7_is_54 : decode cX7_is 54 = .ok (.iload_n 2, 1) := dk_28 (dk_at dksX7_is_2 9 rfl rfl)
theorem dX7_is_55 : decode cX7_is 55 = .ok (.iadd, 1) := dk_96 (dk_at dksX7_is_2 10 rfl rfl)
theorem dX7_is_56 : decode cX7_is 56 = .ok (.invokevirtual 62, 3) := dk_182 0 62 (dk_at dksX7_is_2 11 rfl rfl)
theorem dX7_is_59 : decode cX7_is 59 = .ok (.iconst 1, 1) := dk_4 (dk_at dksX7_is_2 14 rfl rfl)
theorem dX7_is_60 : decode cX7_is 60 = .ok (.if_icmp .ne 7, 3) := dk_160 0 7 (dk_at dksX7_is_2 15 rfl rfl)
theorem dX7_is_63 : decode cX7_is 63 = .ok (.iconst 1, 1) := dk_4 (dk_at dksX7_is_2 18 rfl rfl)
theorem dX7_is_64 : decode cX7_is 64 = .ok (.goto 4, 3) := dk_167 0 4 (dk_at dksX7_is_2 19 rfl rfl)
theorem dX7_is_67 : decode cX7_is 67 = .ok (.iconst 0, 1) := dk_3 (dk_at dksX7_is_2 22 rfl rfl)
theorem dX7_is_68 : decode cX7_is 68 = .ok (.ireturn, 1) := dk_172 (dk_at dksX7_is_2 23 rfl rfl)
def dkwX7_clutch_2 : List UInt8 := [167, 0, 14, 42, 180, 0, 9, 27, 184, 0, 97, 28, 96, 46, 172]
abbrev dktX7_clutch_2 : List UInt8 := dkwX7_clutch_2 ++ []
def dkwX7_clutch_1 : List UInt8 := [184, 0, 54, 154, 0, 7, 5, 167, 0, 4, 3, 181, 0, 36, 42, 180, 0, 36, 158, 0, 7, 3]
abbrev dktX7_clutch_1 : List UInt8 := dkwX7_clutch_1 ++ dktX7_clutch_2
def dkwX7_clutch_0 : List UInt8 := [42, 27, 3, 42, 180, 0, 9, 4, 46, 4, 100, 184, 0, 54, 154, 0, 7, 4, 167, 0, 17, 28, 3, 6]
abbrev dktX7_clutch_0 : List UInt8 := dkwX7_clutch_0 ++ dktX7_clutch_1
theorem dksX7_clutch_0 : cX7_clutch.data.toList.drop 0 = dktX7_clutch_0 := by decide +kernel
theorem dksX7_clutch_1 : cX7_clutch.data.toList.drop 24 = dktX7_clutch_1 := dk_seg dksX7_clutch_0 24 rfl rfl
theorem dksX7_clutch_2 : cX7_clutch.data.toList.drop 46 = dktX7_clutch_2 := dk_seg dksX7_clutch_1 22 rfl rfl
theorem dX7_clutch_0 : decode cX7_clutch 0 = .ok (.aload_n 0, 1) := dk_42 (dk_at dksX7_clutch_0 0 rfl rfl)
theorem dX7_clutch_1 : decode cX7_clutch 1 = .ok (.iload_n 1, 1) := dk_27 (dk_at dksX7_clutch_0 1 rfl rfl)
theorem dX7_clutch_2 : decode cX7_clutch 2 = .ok (.iconst 0, 1) := dk_3 (dk_at dksX7_clutch_0 2 rfl rfl)
theorem dX7_clutch_3 : decode cX7_clutch 3 = .ok (.aload_n 0, 1) := dk_42 (dk_at dksX7_clutch_0 3 rfl rfl)
theorem dX7_clutch_4 : decode cX7_clutch 4 = .ok (.getfield 9, 3) := dk_180 0 9 (dk_at dksX7_clutch_0 4 rfl rfl)
theorem dX7_clutch_7 : decode cX7_clutch 7 = .ok (.iconst 1, 1) := dk_4 (dk_at dksX7_clutch_0 7 rfl rfl)
theorem dX7_clutch_8 : decode cX7_clutch 8 = .ok (.iaload, 1) := dk_46 (dk_at dksX7_clutch_0 8 rfl rfl)
theorem dX7_clutch_9 : decode cX7_clutch 9 = .ok (.iconst 1, 1) := dk_4 (dk_at dksX7_clutch_0 9 rfl rfl)
theorem dX7_clutch_10 : decode cX7_clutch 10 = .ok (.isub, 1) := dk_100 (dk_at dksX7_clutch_0 10 rfl rfl)
theorem dX7_clutch_11 : decode cX7_clutch 11 = .ok (.invokestatic 54, 3) := dk_184 0 54 (dk_at dksX7_clutch_0 11 rfl rfl)
theorem dX7_clutch_14 : decode cX7_clutch 14 = .ok (.ifCond .ne 7, 3) := dk_154 0 7 (dk_at dksX7_clutch_0 14 rfl rfl)
theorem dX7_clutch_17 : decode cX7_clutch 17 = .ok (.iconst 1, 1) := dk_4 (dk_at dksX7_clutch_0 17 rfl rfl)
theorem dX7_clutch_18 : decode cX7_clutch 18 = .ok (.goto 17, 3) := dk_167 0 17 (dk_at dksX7_clutch_0 18 rfl rfl)
theorem dX7_clutch_21 : decode cX7_clutch 21 = .ok (.iload_n 2, 1) := dk_28 (dk_at dksX7_clutch_0 21 rfl rfl)
theorem dX7_clutch_22 : decode cX7_clutch 22 = .ok (.iconst 0, 1) := dk_3 (dk_at dksX7_clutch_0 22 rfl rfl)
theorem dX7_clutch_23 : decode cX7_clutch 23 = .ok (.iconst 3, 1) := dk_6 (dk_at dksX7_clutch_0 23 rfl rfl)
theorem dX7_clutch_24 : decode cX7_clutch 24 = .ok (.invokestatic 54, 3) := dk_184 0 54 (dk_at dksX7_clutch_1 0 rfl rfl)
theorem dX7_clutch_27 : decode cX7_clutch 27 = .ok (.ifCond .ne 7, 3) := dk_154 0 7 (dk_at dksX7_clutch_1 3 rfl rfl)
theorem dX7_clutch_30 : decode cX7_clutch 30 = .ok (.iconst 2, 1) := dk_5 (dk_at dksX7_clutch_1 6 rfl rfl)
theorem dX7_clutch_31 : decode cX7_clutch 31 = .ok (.goto 4, 3) := dk_167 0 4 (dk_at dksX7_clutch_1 7 rfl rfl)
theorem dX7_clutch_34 : decode cX7_clutch 34 = .ok (.iconst 0, 1) := dk_3 (dk_at dksX7_clutch_1 10 rfl rfl)
theorem dX7_clutch_35 : decode cX7_clutch 35 = .ok (.putfield 36, 3) := dk_181 0 36 (dk_at dksX7_clutch_1 11 rfl rfl)
theorem dX7_clutch_38 : decode cX7_clutch 38 = .ok (.aload_n 0, 1) := dk_42 (dk_at dksX7_clutch_1 14 rfl rfl)
theorem dX7_clutch_39 : decode cX7_clutch 39 = .ok (.getfield 36, 3) := dk_180 0 36 (dk_at dksX7_clutch_1 15 rfl rfl)
theorem dX7_clutch_42 : decode cX7_clutch 42 = .ok (.ifCond .le 7, 3) := dk_158 0 7 (dk_at dksX7_clutch_1 18 rfl rfl)
theorem dX7_clutch_45 : decode cX7_clutch 45 = .ok (.iconst 0, 1) := dk_3 (dk_at dksX7_clutch_1 21 rfl rfl)
theorem dX7_clutch_46 : decode cX7_clutch 46 = .ok (.goto 14, 3) := dk_167 0 14 (dk_at dksX7_clutch_2 0 rfl rfl)
theorem dX7_clutch_49 : decode cX7_clutch 49 = .ok (.aload_n 0, 1) := dk_42 (dk_at dksX7_clutch_2 3 rfl rfl)
theorem dX7_clutch_50 : decode cX7_clutch 50 = .ok (.getfield 9, 3) := dk_180 0 9 (dk_at dksX7_clutch_2 4 rfl rfl)
theorem dX7_clutch_53 : decode cX7_clutch 53 = .ok (.iload_n 1, 1) := dk_27 (dk_at dksX7_clutch_2 7 rfl rfl)
theorem dX7_clutch_54 : decode cX7_clutch 54 = .ok (.invokestatic 97, 3) := dk_184 0 97 (dk_at dksX7_clutch_2 8 rfl rfl)
theorem dX7_clutch_57 : decode cX7_clutch 57 = .ok (.iload_n 2, 1) := dk_28 (dk_at dksX7_clutch_2 11 rfl rfl)
theorem dX7_clutch_58 : decode cX7_clutch 58 = .ok (.iadd, 1) := dk_96 (dk_at dksX7_clutch_2 12 rfl rfl)
theorem dX7_clutch_59 : decode cX7_clutch 59 = .ok (.iaload, 1) := dk_46 (dk_at dksX7_clutch_2 13 rfl rfl)
theorem dX7_clutch_60 : decode cX7_clutch 60 = .ok (.ireturn, 1) := dk_172 (dk_at dksX7_clutch_2 14 rfl rfl)
def dkwX7_tell_0 : List UInt8 := [42, 182, 0, 78, 42, 42, 27, 182, 0, 139, 182, 0, 81, 172]
abbrev dktX7_tell_0 : List UInt8 := dkwX7_tell_0 ++ []
theorem dksX7_tell_0 : cX7_tell.data.toList.drop 0 = dktX7_tell_0 := by decide +kernel
theorem dX7_tell_0 : decode cX7_tell 0 = .ok (.aload_n 0, 1) := dk_42 (dk_at dksX7_tell_0 0 rfl rfl)
theorem dX7_tell_1 : decode cX7_tell 1 = .ok (.invokevirtual 78, 3) := dk_182 0 78 (dk_at dksX7_tell_0 1 rfl rfl)
theorem dX7_tell_4 : decode cX7_tell 4 = .ok (.aload_n 0, 1) := dk_42 (dk_at dksX7_tell_0 4 rfl rfl)
theorem dX7_tell_5 : decode cX7_tell 5 = .ok (.aload_n 0, 1) := dk_42 (dk_at dksX7_tell_0 5 rfl rfl)
theorem dX7_tell_6 : decode cX7_tell 6 = .ok (.iload_n 1, 1) := dk_27 (dk_at dksX7_tell_0 6 rfl rfl)
theorem dX7_tell_7 : decode cX7_tell 7 = .ok (.invokevirtual 139, 3) := dk_182 0 139 (dk_at dksX7_tell_0 7 rfl rfl)
theorem dX7_tell_10 : decode cX7_tell 10 = .ok (.invokevirtual 81, 3) := dk_182 0 81 (dk_at dksX7_tell_0 10 rfl rfl)
theorem dX7_tell_13 : decode cX7_tell 13 = .ok (.ireturn, 1) := dk_172 (dk_at dksX7_tell_0 13 rfl rfl)
def dkwX7_doTell_3 : List UInt8 := [42, 180, 0, 9, 5, 46, 172]
abbrev dktX7_doTell_3 : List UInt8 := dkwX7_doTell_3 ++ []
def dkwX7_doTell_2 : List UInt8 := [180, 0, 9, 16, 126, 42, 180, 0, 9, 5, 46, 96, 27, 79, 42, 180, 0, 9, 5, 92, 46, 4, 96, 79]
abbrev dktX7_doTell_2 : List UInt8 := dkwX7_doTell_2 ++ dktX7_doTell_3
def dkwX7_doTell_1 : List UInt8 := [158, 0, 5, 3, 172, 42, 180, 0, 9, 5, 46, 16, 30, 160, 0, 10, 42, 5, 7, 182, 0, 75, 172, 42]
abbrev dktX7_doTell_1 : List UInt8 := dkwX7_doTell_1 ++ dktX7_doTell_2
def dkwX7_doTell_0 : List UInt8 := [42, 27, 3, 16, 99, 184, 0, 54, 153, 0, 7, 3, 167, 0, 4, 4, 181, 0, 36, 42, 180, 0, 36]
abbrev dktX7_doTell_0 : List UInt8 := dkwX7_doTell_0 ++ dktX7_doTell_1
theorem dksX7_doTell_0 : cX7_doTell.data.toList.drop 0 = dktX7_doTell_0 := by decide +kernel
theorem dksX7_doTell_1 : cX7_doTell.data.toList.drop 23 = dktX7_doTell_1 := dk_seg dksX7_doTell_0 23 rfl rfl
theorem dksX7_doTell_2 : cX7_doTell.data.toList.drop 47 = dktX7_doTell_2 := dk_seg dksX7_doTell_1 24 rfl rfl
theorem dksX7_doTell_3 : cX7_doTell.data.toList.drop 71 = dktX7_doTell_3 := dk_seg dksX7_doTell_2 24 rfl rfl
theorem dX7_doTell_0 : decode cX7_doTell 0 = .ok (.aload_n 0, 1) := dk_42 (dk_at dksX7_doTell_0 0 rfl rfl)
theorem dX7_doTell_1 : decode cX7_doTell 1 = .ok (.iload_n 1, 1) := dk_27 (dk_at dksX7_doTell_0 1 rfl rfl)
theorem dX7_doTell_2 : decode cX7_doTell 2 = .ok (.iconst 0, 1) := dk_3 (dk_at dksX7_doTell_0 2 rfl rfl)
theorem dX7_doTell_3 : decode cX7_doTell 3 = .ok (.bipush 99, 2) := dk_16 99 (dk_at dksX7_doTell_0 3 rfl rfl)
theorem dX7_doTell_5 : decode cX7_doTell 5 = .ok (.invokestatic 54, 3) := dk_184 0 54 (dk_at dksX7_doTell_0 5 rfl rfl)
theorem dX7_doTell_8 : decode cX7_doTell 8 = .ok (.ifCond .eq 7, 3) := dk_153 0 7 (dk_at dksX7_doTell_0 8 rfl rfl)
theorem dX7_doTell_11 : decode cX7_doTell 11 = .ok (.iconst 0, 1) := dk_3 (dk_at dksX7_doTell_0 11 rfl rfl)
theorem dX7_doTell_12 : decode cX7_doTell 12 = .ok (.goto 4, 3) := dk_167 0 4 (dk_at dksX7_doTell_0 12 rfl rfl)
theorem dX7_doTell_15 : decode cX7_doTell 15 = .ok (.iconst 1, 1) := dk_4 (dk_at dksX7_doTell_0 15 rfl rfl)
theorem dX7_doTell_16 : decode cX7_doTell 16 = .ok (.putfield 36, 3) := dk_181 0 36 (dk_at dksX7_doTell_0 16 rfl rfl)
theorem dX7_doTell_19 : decode cX7_doTell 19 = .ok (.aload_n 0, 1) := dk_42 (dk_at dksX7_doTell_0 19 rfl rfl)
theorem dX7_doTell_20 : decode cX7_doTell 20 = .ok (.getfield 36, 3) := dk_180 0 36 (dk_at dksX7_doTell_0 20 rfl rfl)
theorem dX7_doTell_23 : decode cX7_doTell 23 = .ok (.ifCond .le 5, 3) := dk_158 0 5 (dk_at dksX7_doTell_1 0 rfl rfl)
theorem dX7_doTell_26 : decode cX7_doTell 26 = .ok (.iconst 0, 1) := dk_3 (dk_at dksX7_doTell_1 3 rfl rfl)
theorem dX7_doTell_27 : decode cX7_doTell 27 = .ok (.ireturn, 1) := dk_172 (dk_at dksX7_doTell_1 4 rfl rfl)
theorem dX7_doTell_28 : decode cX7_doTell 28 = .ok (.aload_n 0, 1) := dk_42 (dk_at dksX7_doTell_1 5 rfl rfl)
theorem dX7_doTell_29 : decode cX7_doTell 29 = .ok (.getfield 9, 3) := dk_180 0 9 (dk_at dksX7_doTell_1 6 rfl rfl)
theorem dX7_doTell_32 : decode cX7_doTell 32 = .ok (.iconst 2, 1) := dk_5 (dk_at dksX7_doTell_1 9 rfl rfl)
theorem dX7_doTell_33 : decode cX7_doTell 33 = .ok (.iaload, 1) := dk_46 (dk_at dksX7_doTell_1 10 rfl rfl)
theorem dX7_doTell_34 : decode cX7_doTell 34 = .ok (.bipush 30, 2) := dk_16 30 (dk_at dksX7_doTell_1 11 rfl rfl)
theorem dX7_doTell_36 : decode cX7_doTell 36 = .ok (.if_icmp .ne 10, 3) := dk_160 0 10 (dk_at dksX7_doTell_1 13 rfl rfl)
theorem dX7_doTell_39 : decode cX7_doTell 39 = .ok (.aload_n 0, 1) := dk_42 (dk_at dksX7_doTell_1 16 rfl rfl)
theorem dX7_doTell_40 : decode cX7_doTell 40 = .ok (.iconst 2, 1) := dk_5 (dk_at dksX7_doTell_1 17 rfl rfl)
theorem dX7_doTell_41 : decode cX7_doTell 41 = .ok (.iconst 4, 1) := dk_7 (dk_at dksX7_doTell_1 18 rfl rfl)
theorem dX7_doTell_42 : decode cX7_doTell 42 = .ok (.invokevirtual 75, 3) := dk_182 0 75 (dk_at dksX7_doTell_1 19 rfl rfl)
theorem dX7_doTell_45 : decode cX7_doTell 45 = .ok (.ireturn, 1) := dk_172 (dk_at dksX7_doTell_1 22 rfl rfl)
theorem dX7_doTell_46 : decode cX7_doTell 46 = .ok (.aload_n 0, 1) := dk_42 (dk_at dksX7_doTell_1 23 rfl rfl)
theorem dX7_doTell_47 : decode cX7_doTell 47 = .ok (.getfield 9, 3) := dk_180 0 9 (dk_at dksX7_doTell_2 0 rfl rfl)
theorem dX7_doTell_50 : decode cX7_doTell 50 = .ok (.bipush 126, 2) := dk_16 126 (dk_at dksX7_doTell_2 3 rfl rfl)
theorem dX7_doTell_52 : decode cX7_doTell 52 = .ok (.aload_n 0, 1) := dk_42 (dk_at dksX7_doTell_2 5 rfl rfl)
theorem dX7_doTell_53 : decode cX7_doTell 53 = .ok (.getfield 9, 3) := dk_180 0 9 (dk_at dksX7_doTell_2 6 rfl rfl)
theorem dX7_doTell_56 : decode cX7_doTell 56 = .ok (.iconst 2, 1) := dk_5 (dk_at dksX7_doTell_2 9 rfl rfl)
theorem dX7_doTell_57 : decode cX7_doTell 57 = .ok (.iaload, 1) := dk_46 (dk_at dksX7_doTell_2 10 rfl rfl)
theorem dX7_doTell_58 : decode cX7_doTell 58 = .ok (.iadd, 1) := dk_96 (dk_at dksX7_doTell_2 11 rfl rfl)
theorem dX7_doTell_59 : decode cX7_doTell 59 = .ok (.iload_n 1, 1) := dk_27 (dk_at dksX7_doTell_2 12 rfl rfl)
theorem dX7_doTell_60 : decode cX7_doTell 60 = .ok (.iastore, 1) := dk_79 (dk_at dksX7_doTell_2 13 rfl rfl)
theorem dX7_doTell_61 : decode cX7_doTell 61 = .ok (.aload_n 0, 1) := dk_42 (dk_at dksX7_doTell_2 14 rfl rfl)
theorem dX7_doTell_62 : decode cX7_doTell 62 = .ok (.getfield 9, 3) := dk_180 0 9 (dk_at dksX7_doTell_2 15 rfl rfl)
theorem dX7_doTell_65 : decode cX7_doTell 65 = .ok (.iconst 2, 1) := dk_5 (dk_at dksX7_doTell_2 18 rfl rfl)
theorem dX7_doTell_66 : decode cX7_doTell 66 = .ok (.dup2, 1) := dk_92 (dk_at dksX7_doTell_2 19 rfl rfl)
theorem dX7_doTell_67 : decode cX7_doTell 67 = .ok (.iaload, 1) := dk_46 (dk_at dksX7_doTell_2 20 rfl rfl)
theorem dX7_doTell_68 : decode cX7_doTell 68 = .ok (.iconst 1, 1) := dk_4 (dk_at dksX7_doTell_2 21 rfl rfl)
theorem dX7_doTell_69 : decode cX7_doTell 69 = .ok (.iadd, 1) := dk_96 (dk_at dksX7_doTell_2 22 rfl rfl)
theorem dX7_doTell_70 : decode cX7_doTell 70 = .ok (.iastore, 1) := dk_79 (dk_at dksX7_doTell_2 23 rfl rfl)
theorem dX7_doTell_71 : decode cX7_doTell 71 = .ok (.aload_n 0, 1) := dk_42 (dk_at dksX7_doTell_3 0 rfl rfl)
theorem dX7_doTell_72 : decode cX7_doTell 72 = .ok (.getfield 9, 3) := dk_180 0 9 (dk_at dksX7_doTell_3 1 rfl rfl)
theorem dX7_doTell_75 : decode cX7_doTell 75 = .ok (.iconst 2, 1) := dk_5 (dk_at dksX7_doTell_3 4 rfl rfl)
theorem dX7_doTell_76 : decode cX7_doTell 76 = .ok (.iaload, 1) := dk_46 (dk_at dksX7_doTell_3 5 rfl rfl)
theorem dX7_doTell_77 : decode cX7_doTell 77 = .ok (.ireturn, 1) := dk_172 (dk_at dksX7_doTell_3 6 rfl rfl)
def dkwX7_rain_1 : List UInt8 := [181, 0, 36, 42, 180, 0, 36, 158, 0, 7, 3, 167, 0, 12, 42, 180, 0, 9, 16, 126, 27, 96, 46, 172]
abbrev dktX7_rain_1 : List UInt8 := dkwX7_rain_1 ++ []
def dkwX7_rain_0 : List UInt8 := [42, 27, 3, 42, 180, 0, 9, 5, 46, 4, 100, 184, 0, 54, 153, 0, 7, 3, 167, 0, 4, 4]
abbrev dktX7_rain_0 : List UInt8 := dkwX7_rain_0 ++ dktX7_rain_1
theorem dksX7_rain_0 : cX7_rain.data.toList.drop 0 = dktX7_rain_0 := by decide +kernel
theorem dksX7_rain_1 : cX7_rain.data.toList.drop 22 = dktX7_rain_1 := dk_seg dksX7_rain_0 22 rfl rfl
theorem dX7_rain_0 : decode cX7_rain 0 = .ok (.aload_n 0, 1) := dk_42 (dk_at dksX7_rain_0 0 rfl rfl)
theorem dX7_rain_1 : decode cX7_rain 1 = .ok (.iload_n 1, 1) := dk_27 (dk_at dksX7_rain_0 1 rfl rfl)
theorem dX7_rain_2 : decode cX7_rain 2 = .ok (.iconst 0, 1) := dk_3 (dk_at dksX7_rain_0 2 rfl rfl)
theorem dX7_rain_3 : decode cX7_rain 3 = .ok (.aload_n 0, 1) := dk_42 (dk_at dksX7_rain_0 3 rfl rfl)
theorem dX7_rain_4 : decode cX7_rain 4 = .ok (.getfield 9, 3) := dk_180 0 9 (dk_at dksX7_rain_0 4 rfl rfl)
theorem dX7_rain_7 : decode cX7_rain 7 = .ok (.iconst 2, 1) := dk_5 (dk_at dksX7_rain_0 7 rfl rfl)
theorem dX7_rain_8 : decode cX7_rain 8 = .ok (.iaload, 1) := dk_46 (dk_at dksX7_rain_0 8 rfl rfl)
theorem dX7_rain_9 : decode cX7_rain 9 = .ok (.iconst 1, 1) := dk_4 (dk_at dksX7_rain_0 9 rfl rfl)
theorem dX7_rain_10 : decode cX7_rain 10 = .ok (.isub, 1) := dk_100 (dk_at dksX7_rain_0 10 rfl rfl)
theorem dX7_rain_11 : decode cX7_rain 11 = .ok (.invokestatic 54, 3) := dk_184 0 54 (dk_at dksX7_rain_0 11 rfl rfl)
theorem dX7_rain_14 : decode cX7_rain 14 = .ok (.ifCond .eq 7, 3) := dk_153 0 7 (dk_at dksX7_rain_0 14 rfl rfl)
theorem dX7_rain_17 : decode cX7_rain 17 = .ok (.iconst 0, 1) := dk_3 (dk_at dksX7_rain_0 17 rfl rfl)
theorem dX7_rain_18 : decode cX7_rain 18 = .ok (.goto 4, 3) := dk_167 0 4 (dk_at dksX7_rain_0 18 rfl rfl)
theorem dX7_rain_21 : decode cX7_rain 21 = .ok (.iconst 1, 1) := dk_4 (dk_at dksX7_rain_0 21 rfl rfl)
theorem dX7_rain_22 : decode cX7_rain 22 = .ok (.putfield 36, 3) := dk_181 0 36 (dk_at dksX7_rain_1 0 rfl rfl)
theorem dX7_rain_25 : decode cX7_rain 25 = .ok (.aload_n 0, 1) := dk_42 (dk_at dksX7_rain_1 3 rfl rfl)
theorem dX7_rain_26 : decode cX7_rain 26 = .ok (.getfield 36, 3) := dk_180 0 36 (dk_at dksX7_rain_1 4 rfl rfl)
theorem dX7_rain_29 : decode cX7_rain 29 = .ok (.ifCond .le 7, 3) := dk_158 0 7 (dk_at dksX7_rain_1 7 rfl rfl)
theorem dX7_rain_32 : decode cX7_rain 32 = .ok (.iconst 0, 1) := dk_3 (dk_at dksX7_rain_1 10 rfl rfl)
theorem dX7_rain_33 : decode cX7_rain 33 = .ok (.goto 12, 3) := dk_167 0 12 (dk_at dksX7_rain_1 11 rfl rfl)
theorem dX7_rain_36 : decode cX7_rain 36 = .ok (.aload_n 0, 1) := dk_42 (dk_at dksX7_rain_1 14 rfl rfl)
theorem dX7_rain_37 : decode cX7_rain 37 = .ok (.getfield 9, 3) := dk_180 0 9 (dk_at dksX7_rain_1 15 rfl rfl)
theorem dX7_rain_40 : decode cX7_rain 40 = .ok (.bipush 126, 2) := dk_16 126 (dk_at dksX7_rain_1 18 rfl rfl)
theorem dX7_rain_42 : decode cX7_rain 42 = .ok (.iload_n 1, 1) := dk_27 (dk_at dksX7_rain_1 20 rfl rfl)
theorem dX7_rain_43 : decode cX7_rain 43 = .ok (.iadd, 1) := dk_96 (dk_at dksX7_rain_1 21 rfl rfl)
theorem dX7_rain_44 : decode cX7_rain 44 = .ok (.iaload, 1) := dk_46 (dk_at dksX7_rain_1 22 rfl rfl)
theorem dX7_rain_45 : decode cX7_rain 45 = .ok (.ireturn, 1) := dk_172 (dk_at dksX7_rain_1 23 rfl rfl)
def dkwX7_day_0 : List UInt8 := [42, 3, 181, 0, 36, 42, 182, 0, 78, 42, 42, 182, 0, 142, 182, 0, 81, 172]
abbrev dktX7_day_0 : List UInt8 := dkwX7_day_0 ++ []
theorem dksX7_day_0 : cX7_day.data.toList.drop 0 = dktX7_day_0 := by decide +kernel
theorem dX7_day_0 : decode cX7_day 0 = .ok (.aload_n 0, 1) := dk_42 (dk_at dksX7_day_0 0 rfl rfl)
theorem dX7_day_1 : decode cX7_day 1 = .ok (.iconst 0, 1) := dk_3 (dk_at dksX7_day_0 1 rfl rfl)
theorem dX7_day_2 : decode cX7_day 2 = .ok (.putfield 36, 3) := dk_181 0 36 (dk_at dksX7_day_0 2 rfl rfl)
theorem dX7_day_5 : decode cX7_day 5 = .ok (.aload_n 0, 1) := dk_42 (dk_at dksX7_day_0 5 rfl rfl)
theorem dX7_day_6 : decode cX7_day 6 = .ok (.invokevirtual 78, 3) := dk_182 0 78 (dk_at dksX7_day_0 6 rfl rfl)
theorem dX7_day_9 : decode cX7_day 9 = .ok (.aload_n 0, 1) := dk_42 (dk_at dksX7_day_0 9 rfl rfl)
theorem dX7_day_10 : decode cX7_day 10 = .ok (.aload_n 0, 1) := dk_42 (dk_at dksX7_day_0 10 rfl rfl)
theorem dX7_day_11 : decode cX7_day 11 = .ok (.invokevirtual 142, 3) := dk_182 0 142 (dk_at dksX7_day_0 11 rfl rfl)
theorem dX7_day_14 : decode cX7_day 14 = .ok (.invokevirtual 81, 3) := dk_182 0 81 (dk_at dksX7_day_0 14 rfl rfl)
theorem dX7_day_17 : decode cX7_day 17 = .ok (.ireturn, 1) := dk_172 (dk_at dksX7_day_0 17 rfl rfl)
def dkwX7_goBy_5 : List UInt8 := [182, 0, 126, 61, 42, 182, 0, 130, 42, 182, 0, 133, 42, 182, 0, 136, 28, 172]
abbrev dktX7_goBy_5 : List UInt8 := dkwX7_goBy_5 ++ []
def dkwX7_goBy_4 : List UInt8 := [3, 46, 162, 0, 19, 42, 28, 42, 28, 182, 0, 106, 182, 0, 116, 132, 2, 1, 167, 255, 233, 42]
abbrev dktX7_goBy_4 : List UInt8 := dkwX7_goBy_4 ++ dktX7_goBy_5
def dkwX7_goBy_3 : List UInt8 := [79, 42, 180, 0, 9, 6, 92, 46, 4, 96, 79, 42, 3, 27, 182, 0, 112, 3, 61, 28, 42, 180, 0, 9]
abbrev dktX7_goBy_3 : List UInt8 := dkwX7_goBy_3 ++ dktX7_goBy_4
def dkwX7_goBy_2 : List UInt8 := [42, 180, 0, 9, 16, 126, 42, 180, 0, 9, 5, 46, 184, 0, 39, 42, 180, 0, 9, 7, 92, 46, 27, 96]
abbrev dktX7_goBy_2 : List UInt8 := dkwX7_goBy_2 ++ dktX7_goBy_3
def dkwX7_goBy_1 : List UInt8 := [180, 0, 9, 5, 46, 158, 0, 34, 42, 180, 0, 9, 5, 92, 46, 4, 100, 79, 42, 180, 0, 9, 16, 127]
abbrev dktX7_goBy_1 : List UInt8 := dkwX7_goBy_1 ++ dktX7_goBy_2
def dkwX7_goBy_0 : List UInt8 := [42, 180, 0, 9, 5, 46, 158, 0, 13, 42, 180, 0, 9, 16, 126, 46, 167, 0, 4, 3, 60, 42]
abbrev dktX7_goBy_0 : List UInt8 := dkwX7_goBy_0 ++ dktX7_goBy_1
theorem dksX7_goBy_0 : cX7_goBy.data.toList.drop 0 = dktX7_goBy_0 := by decide +kernel
theorem dksX7_goBy_1 : cX7_goBy.data.toList.drop 22 = dktX7_goBy_1 := dk_seg dksX7_goBy_0 22 rfl rfl
theorem dksX7_goBy_2 : cX7_goBy.data.toList.drop 46 = dktX7_goBy_2 := dk_seg dksX7_goBy_1 24 rfl rfl
theorem dksX7_goBy_3 : cX7_goBy.data.toList.drop 70 = dktX7_goBy_3 := dk_seg dksX7_goBy_2 24 rfl rfl
theorem dksX7_goBy_4 : cX7_goBy.data.toList.drop 94 = dktX7_goBy_4 := dk_seg dksX7_goBy_3 24 rfl rfl
theorem dksX7_goBy_5 : cX7_goBy.data.toList.drop 116 = dktX7_goBy_5 := dk_seg dksX7_goBy_4 22 rfl rfl
theorem dX7_goBy_0 : decode cX7_goBy 0 = .ok (.aload_n 0, 1) := dk_42 (dk_at dksX7_goBy_0 0 rfl rfl)
theorem dX7_goBy_1 : decode cX7_goBy 1 = .ok (.getfield 9, 3) := dk_180 0 9 (dk_at dksX7_goBy_0 1 rfl rfl)
theorem dX7_goBy_4 : decode cX7_goBy 4 = .ok (.iconst 2, 1) := dk_5 (dk_at dksX7_goBy_0 4 rfl rfl)
theorem dX7_goBy_5 : decode cX7_goBy 5 = .ok (.iaload, 1) := dk_46 (dk_at dksX7_goBy_0 5 rfl rfl)
theorem dX7_goBy_6 : decode cX7_goBy 6 = .ok (.ifCond .le 13, 3) := dk_158 0 13 (dk_at dksX7_goBy_0 6 rfl rfl)
theorem dX7_goBy_9 : decode cX7_goBy 9 = .ok (.aload_n 0, 1) := dk_42 (dk_at dksX7_goBy_0 9 rfl rfl)
theorem dX7_goBy_10 : decode cX7_goBy 10 = .ok (.getfield 9, 3) := dk_180 0 9 (dk_at dksX7_goBy_0 10 rfl rfl)
theorem dX7_goBy_13 : decode cX7_goBy 13 = .ok (.bipush 126, 2) := dk_16 126 (dk_at dksX7_goBy_0 13 rfl rfl)
theorem dX7_goBy_15 : decode cX7_goBy 15 = .ok (.iaload, 1) := dk_46 (dk_at dksX7_goBy_0 15 rfl rfl)
theorem dX7_goBy_16 : decode cX7_goBy 16 = .ok (.goto 4, 3) := dk_167 0 4 (dk_at dksX7_goBy_0 16 rfl rfl)
theorem dX7_goBy_19 : decode cX7_goBy 19 = .ok (.iconst 0, 1) := dk_3 (dk_at dksX7_goBy_0 19 rfl rfl)
theorem dX7_goBy_20 : decode cX7_goBy 20 = .ok (.istore_n 1, 1) := dk_60 (dk_at dksX7_goBy_0 20 rfl rfl)
theorem dX7_goBy_21 : decode cX7_goBy 21 = .ok (.aload_n 0, 1) := dk_42 (dk_at dksX7_goBy_0 21 rfl rfl)
theorem dX7_goBy_22 : decode cX7_goBy 22 = .ok (.getfield 9, 3) := dk_180 0 9 (dk_at dksX7_goBy_1 0 rfl rfl)
theorem dX7_goBy_25 : decode cX7_goBy 25 = .ok (.iconst 2, 1) := dk_5 (dk_at dksX7_goBy_1 3 rfl rfl)
theorem dX7_goBy_26 : decode cX7_goBy 26 = .ok (.iaload, 1) := dk_46 (dk_at dksX7_goBy_1 4 rfl rfl)
theorem dX7_goBy_27 : decode cX7_goBy 27 = .ok (.ifCond .le 34, 3) := dk_158 0 34 (dk_at dksX7_goBy_1 5 rfl rfl)
theorem dX7_goBy_30 : decode cX7_goBy 30 = .ok (.aload_n 0, 1) := dk_42 (dk_at dksX7_goBy_1 8 rfl rfl)
theorem dX7_goBy_31 : decode cX7_goBy 31 = .ok (.getfield 9, 3) := dk_180 0 9 (dk_at dksX7_goBy_1 9 rfl rfl)
theorem dX7_goBy_34 : decode cX7_goBy 34 = .ok (.iconst 2, 1) := dk_5 (dk_at dksX7_goBy_1 12 rfl rfl)
theorem dX7_goBy_35 : decode cX7_goBy 35 = .ok (.dup2, 1) := dk_92 (dk_at dksX7_goBy_1 13 rfl rfl)
theorem dX7_goBy_36 : decode cX7_goBy 36 = .ok (.iaload, 1) := dk_46 (dk_at dksX7_goBy_1 14 rfl rfl)
theorem dX7_goBy_37 : decode cX7_goBy 37 = .ok (.iconst 1, 1) := dk_4 (dk_at dksX7_goBy_1 15 rfl rfl)
theorem dX7_goBy_38 : decode cX7_goBy 38 = .ok (.isub, 1) := dk_100 (dk_at dksX7_goBy_1 16 rfl rfl)
theorem dX7_goBy_39 : decode cX7_goBy 39 = .ok (.iastore, 1) := dk_79 (dk_at dksX7_goBy_1 17 rfl rfl)
theorem dX7_goBy_40 : decode cX7_goBy 40 = .ok (.aload_n 0, 1) := dk_42 (dk_at dksX7_goBy_1 18 rfl rfl)
theorem dX7_goBy_41 : decode cX7_goBy 41 = .ok (.getfield 9, 3) := dk_180 0 9 (dk_at dksX7_goBy_1 19 rfl rfl)
theorem dX7_goBy_44 : decode cX7_goBy 44 = .ok (.bipush 127, 2) := dk_16 127 (dk_at dksX7_goBy_1 22 rfl rfl)
theorem dX7_goBy_46 : decode cX7_goBy 46 = .ok (.aload_n 0, 1) := dk_42 (dk_at dksX7_goBy_2 0 rfl rfl)
theorem dX7_goBy_47 : decode cX7_goBy 47 = .ok (.getfield 9, 3) := dk_180 0 9 (dk_at dksX7_goBy_2 1 rfl rfl)
theorem dX7_goBy_50 : decode cX7_goBy 50 = .ok (.bipush 126, 2) := dk_16 126 (dk_at dksX7_goBy_2 4 rfl rfl)
theorem dX7_goBy_52 : decode cX7_goBy 52 = .ok (.aload_n 0, 1) := dk_42 (dk_at dksX7_goBy_2 6 rfl rfl)
theorem dX7_goBy_53 : decode cX7_goBy 53 = .ok (.getfield 9, 3) := dk_180 0 9 (dk_at dksX7_goBy_2 7 rfl rfl)
theorem dX7_goBy_56 : decode cX7_goBy 56 = .ok (.iconst 2, 1) := dk_5 (dk_at dksX7_goBy_2 10 rfl rfl)
theorem dX7_goBy_57 : decode cX7_goBy 57 = .ok (.iaload, 1) := dk_46 (dk_at dksX7_goBy_2 11 rfl rfl)
theorem dX7_goBy_58 : decode cX7_goBy 58 = .ok (.invokestatic 39, 3) := dk_184 0 39 (dk_at dksX7_goBy_2 12 rfl rfl)
theorem dX7_goBy_61 : decode cX7_goBy 61 = .ok (.aload_n 0, 1) := dk_42 (dk_at dksX7_goBy_2 15 rfl rfl)
theorem dX7_goBy_62 : decode cX7_goBy 62 = .ok (.getfield 9, 3) := dk_180 0 9 (dk_at dksX7_goBy_2 16 rfl rfl)
theorem dX7_goBy_65 : decode cX7_goBy 65 = .ok (.iconst 4, 1) := dk_7 (dk_at dksX7_goBy_2 19 rfl rfl)
theorem dX7_goBy_66 : decode cX7_goBy 66 = .ok (.dup2, 1) := dk_92 (dk_at dksX7_goBy_2 20 rfl rfl)
theorem dX7_goBy_67 : decode cX7_goBy 67 = .ok (.iaload, 1) := dk_46 (dk_at dksX7_goBy_2 21 rfl rfl)
theorem dX7_goBy_68 : decode cX7_goBy 68 = .ok (.iload_n 1, 1) := dk_27 (dk_at dksX7_goBy_2 22 rfl rfl)
theorem dX7_goBy_69 : decode cX7_goBy 69 = .ok (.iadd, 1) := dk_96 (dk_at dksX7_goBy_2 23 rfl rfl)
theorem dX7_goBy_70 : decode cX7_goBy 70 = .ok (.iastore, 1) := dk_79 (dk_at dksX7_goBy_3 0 rfl rfl)
theorem dX7_goBy_71 : decode cX7_goBy 71 = .ok (.aload_n 0, 1) := dk_42 (dk_at dksX7_goBy_3 1 rfl rfl)
theorem dX7_goBy_72 : decode cX7_goBy 72 = .ok (.getfield 9, 3) := dk_180 0 9 (dk_at dksX7_goBy_3 2 rfl rfl)
theorem dX7_goBy_75 : decode cX7_goBy 75 = .ok (.iconst 3, 1) := dk_6 (dk_at dksX7_goBy_3 5 rfl rfl)
theorem dX7_goBy_76 : decode cX7_goBy 76 = .ok (.dup2, 1) := dk_92 (dk_at dksX7_goBy_3 6 rfl rfl)
theorem dX7_goBy_77 : decode cX7_goBy 77 = .ok (.iaload, 1) := dk_46 (dk_at dksX7_goBy_3 7 rfl rfl)
theorem dX7_goBy_78 : decode cX7_goBy 78 = .ok (.iconst 1, 1) := dk_4 (dk_at dksX7_goBy_3 8 rfl rfl)
theorem dX7_goBy_79 : decode cX7_goBy 79 = .ok (.iadd, 1) := dk_96 (dk_at dksX7_goBy_3 9 rfl rfl)
theorem dX7_goBy_80 : decode cX7_goBy 80 = .ok (.iastore, 1) := dk_79 (dk_at dksX7_goBy_3 10 rfl rfl)
theorem dX7_goBy_81 : decode cX7_goBy 81 = .ok (.aload_n 0, 1) := dk_42 (dk_at dksX7_goBy_3 11 rfl rfl)
theorem dX7_goBy_82 : decode cX7_goBy 82 = .ok (.iconst 0, 1) := dk_3 (dk_at dksX7_goBy_3 12 rfl rfl)
theorem dX7_goBy_83 : decode cX7_goBy 83 = .ok (.iload_n 1, 1) := dk_27 (dk_at dksX7_goBy_3 13 rfl rfl)
theorem dX7_goBy_84 : decode cX7_goBy 84 = .ok (.invokevirtual 112, 3) := dk_182 0 112 (dk_at dksX7_goBy_3 14 rfl rfl)
theorem dX7_goBy_87 : decode cX7_goBy 87 = .ok (.iconst 0, 1) := dk_3 (dk_at dksX7_goBy_3 17 rfl rfl)
theorem dX7_goBy_88 : decode cX7_goBy 88 = .ok (.istore_n 2, 1) := dk_61 (dk_at dksX7_goBy_3 18 rfl rfl)
theorem dX7_goBy_89 : decode cX7_goBy 89 = .ok (.iload_n 2, 1) := dk_28 (dk_at dksX7_goBy_3 19 rfl rfl)
theorem dX7_goBy_90 : decode cX7_goBy 90 = .ok (.aload_n 0, 1) := dk_42 (dk_at dksX7_goBy_3 20 rfl rfl)
theorem dX7_goBy_91 : decode cX7_goBy 91 = .ok (.getfield 9, 3) := dk_180 0 9 (dk_at dksX7_goBy_3 21 rfl rfl)
theorem dX7_goBy_94 : decode cX7_goBy 94 = .ok (.iconst 0, 1) := dk_3 (dk_at dksX7_goBy_4 0 rfl rfl)
theorem dX7_goBy_95 : decode cX7_goBy 95 = .ok (.iaload, 1) := dk_46 (dk_at dksX7_goBy_4 1 rfl rfl)
theorem dX7_goBy_96 : decode cX7_goBy 96 = .ok (.if_icmp .ge 19, 3) := dk_162 0 19 (dk_at dksX7_goBy_4 2 rfl rfl)
theorem dX7_goBy_99 : decode cX7_goBy 99 = .ok (.aload_n 0, 1) := dk_42 (dk_at dksX7_goBy_4 5 rfl rfl)
theorem dX7_goBy_100 : decode cX7_goBy 100 = .ok (.iload_n 2, 1) := dk_28 (dk_at dksX7_goBy_4 6 rfl rfl)
theorem dX7_goBy_101 : decode cX7_goBy 101 = .ok (.aload_n 0, 1) := dk_42 (dk_at dksX7_goBy_4 7 rfl rfl)
theorem dX7_goBy_102 : decode cX7_goBy 102 = .ok (.iload_n 2, 1) := dk_28 (dk_at dksX7_goBy_4 8 rfl rfl)
theorem dX7_goBy_103 : decode cX7_goBy 103 = .ok (.invokevirtual 106, 3) := dk_182 0 106 (dk_at dksX7_goBy_4 9 rfl rfl)
theorem dX7_goBy_106 : decode cX7_goBy 106 = .ok (.invokevirtual 116, 3) := dk_182 0 116 (dk_at dksX7_goBy_4 12 rfl rfl)
theorem dX7_goBy_109 : decode cX7_goBy 109 = .ok (.iinc 2 1, 3) := dk_132 2 1 (dk_at dksX7_goBy_4 15 rfl rfl)
theorem dX7_goBy_112 : decode cX7_goBy 112 = .ok (.goto (-23), 3) := dk_167 255 233 (dk_at dksX7_goBy_4 18 rfl rfl)
theorem dX7_goBy_115 : decode cX7_goBy 115 = .ok (.aload_n 0, 1) := dk_42 (dk_at dksX7_goBy_4 21 rfl rfl)
theorem dX7_goBy_116 : decode cX7_goBy 116 = .ok (.invokevirtual 126, 3) := dk_182 0 126 (dk_at dksX7_goBy_5 0 rfl rfl)
theorem dX7_goBy_119 : decode cX7_goBy 119 = .ok (.istore_n 2, 1) := dk_61 (dk_at dksX7_goBy_5 3 rfl rfl)
theorem dX7_goBy_120 : decode cX7_goBy 120 = .ok (.aload_n 0, 1) := dk_42 (dk_at dksX7_goBy_5 4 rfl rfl)
theorem dX7_goBy_121 : decode cX7_goBy 121 = .ok (.invokevirtual 130, 3) := dk_182 0 130 (dk_at dksX7_goBy_5 5 rfl rfl)
theorem dX7_goBy_124 : decode cX7_goBy 124 = .ok (.aload_n 0, 1) := dk_42 (dk_at dksX7_goBy_5 8 rfl rfl)
theorem dX7_goBy_125 : decode cX7_goBy 125 = .ok (.invokevirtual 133, 3) := dk_182 0 133 (dk_at dksX7_goBy_5 9 rfl rfl)
theorem dX7_goBy_128 : decode cX7_goBy 128 = .ok (.aload_n 0, 1) := dk_42 (dk_at dksX7_goBy_5 12 rfl rfl)
theorem dX7_goBy_129 : decode cX7_goBy 129 = .ok (.invokevirtual 136, 3) := dk_182 0 136 (dk_at dksX7_goBy_5 13 rfl rfl)
theorem dX7_goBy_132 : decode cX7_goBy 132 = .ok (.iload_n 2, 1) := dk_28 (dk_at dksX7_goBy_5 16 rfl rfl)
theorem dX7_goBy_133 : decode cX7_goBy 133 = .ok (.ireturn, 1) := dk_172 (dk_at dksX7_goBy_5 17 rfl rfl)
def dkwX7_flows_1 : List UInt8 := [167, 0, 13, 42, 180, 0, 9, 8, 92, 46, 28, 96, 79, 177]
abbrev dktX7_flows_1 : List UInt8 := dkwX7_flows_1 ++ []
def dkwX7_flows_0 : List UInt8 := [42, 27, 182, 0, 84, 153, 0, 21, 42, 180, 0, 9, 27, 184, 0, 58, 7, 96, 92, 46, 28, 96, 79]
abbrev dktX7_flows_0 : List UInt8 := dkwX7_flows_0 ++ dktX7_flows_1
theorem dksX7_flows_0 : cX7_flows.data.toList.drop 0 = dktX7_flows_0 := by decide +kernel
theorem dksX7_flows_1 : cX7_flows.data.toList.drop 23 = dktX7_flows_1 := dk_seg dksX7_flows_0 23 rfl rfl
theorem dX7_flows_0 : decode cX7_flows 0 = .ok (.aload_n 0, 1) := dk_42 (dk_at dksX7_flows_0 0 rfl rfl)
theorem dX7_flows_1 : decode cX7_flows 1 = .ok (.iload_n 1, 1) := dk_27 (dk_at dksX7_flows_0 1 rfl rfl)
theorem dX7_flows_2 : decode cX7_flows 2 = .ok (.invokevirtual 84, 3) := dk_182 0 84 (dk_at dksX7_flows_0 2 rfl rfl)
theorem dX7_flows_5 : decode cX7_flows 5 = .ok (.ifCond .eq 21, 3) := dk_153 0 21 (dk_at dksX7_flows_0 5 rfl rfl)
theorem dX7_flows_8 : decode cX7_flows 8 = .ok (.aload_n 0, 1) := dk_42 (dk_at dksX7_flows_0 8 rfl rfl)
theorem dX7_flows_9 : decode cX7_flows 9 = .ok (.getfield 9, 3) := dk_180 0 9 (dk_at dksX7_flows_0 9 rfl rfl)
theorem dX7_flows_12 : decode cX7_flows 12 = .ok (.iload_n 1, 1) := dk_27 (dk_at dksX7_flows_0 12 rfl rfl)
theorem dX7_flows_13 : decode cX7_flows 13 = .ok (.invokestatic 58, 3) := dk_184 0 58 (dk_at dksX7_flows_0 13 rfl rfl)
theorem dX7_flows_16 : decode cX7_flows 16 = .ok (.iconst 4, 1) := dk_7 (dk_at dksX7_flows_0 16 rfl rfl)
theorem dX7_flows_17 : decode cX7_flows 17 = .ok (.iadd, 1) := dk_96 (dk_at dksX7_flows_0 17 rfl rfl)
theorem dX7_flows_18 : decode cX7_flows 18 = .ok (.dup2, 1) := dk_92 (dk_at dksX7_flows_0 18 rfl rfl)
theorem dX7_flows_19 : decode cX7_flows 19 = .ok (.iaload, 1) := dk_46 (dk_at dksX7_flows_0 19 rfl rfl)
theorem dX7_flows_20 : decode cX7_flows 20 = .ok (.iload_n 2, 1) := dk_28 (dk_at dksX7_flows_0 20 rfl rfl)
theorem dX7_flows_21 : decode cX7_flows 21 = .ok (.iadd, 1) := dk_96 (dk_at dksX7_flows_0 21 rfl rfl)
theorem dX7_flows_22 : decode cX7_flows 22 = .ok (.iastore, 1) := dk_79 (dk_at dksX7_flows_0 22 rfl rfl)
theorem dX7_flows_23 : decode cX7_flows 23 = .ok (.goto 13, 3) := dk_167 0 13 (dk_at dksX7_flows_1 0 rfl rfl)
theorem dX7_flows_26 : decode cX7_flows 26 = .ok (.aload_n 0, 1) := dk_42 (dk_at dksX7_flows_1 3 rfl rfl)
theorem dX7_flows_27 : decode cX7_flows 27 = .ok (.getfield 9, 3) := dk_180 0 9 (dk_at dksX7_flows_1 4 rfl rfl)
theorem dX7_flows_30 : decode cX7_flows 30 = .ok (.iconst 5, 1) := dk_8 (dk_at dksX7_flows_1 7 rfl rfl)
theorem dX7_flows_31 : decode cX7_flows 31 = .ok (.dup2, 1) := dk_92 (dk_at dksX7_flows_1 8 rfl rfl)
theorem dX7_flows_32 : decode cX7_flows 32 = .ok (.iaload, 1) := dk_46 (dk_at dksX7_flows_1 9 rfl rfl)
theorem dX7_flows_33 : decode cX7_flows 33 = .ok (.iload_n 2, 1) := dk_28 (dk_at dksX7_flows_1 10 rfl rfl)
theorem dX7_flows_34 : decode cX7_flows 34 = .ok (.iadd, 1) := dk_96 (dk_at dksX7_flows_1 11 rfl rfl)
theorem dX7_flows_35 : decode cX7_flows 35 = .ok (.iastore, 1) := dk_79 (dk_at dksX7_flows_1 12 rfl rfl)
theorem dX7_flows_36 : decode cX7_flows 36 = .ok (.return_, 1) := dk_177 (dk_at dksX7_flows_1 13 rfl rfl)
def dkwX7_goesDown_0 : List UInt8 := [42, 180, 0, 9, 27, 184, 0, 58, 7, 96, 92, 46, 28, 100, 79, 42, 27, 4, 96, 28, 182, 0, 112, 177]
abbrev dktX7_goesDown_0 : List UInt8 := dkwX7_goesDown_0 ++ []
theorem dksX7_goesDown_0 : cX7_goesDown.data.toList.drop 0 = dktX7_goesDown_0 := by decide +kernel
theorem dX7_goesDown_0 : decode cX7_goesDown 0 = .ok (.aload_n 0, 1) := dk_42 (dk_at dksX7_goesDown_0 0 rfl rfl)
theorem dX7_goesDown_1 : decode cX7_goesDown 1 = .ok (.getfield 9, 3) := dk_180 0 9 (dk_at dksX7_goesDown_0 1 rfl rfl)
theorem dX7_goesDown_4 : decode cX7_goesDown 4 = .ok (.iload_n 1, 1) := dk_27 (dk_at dksX7_goesDown_0 4 rfl rfl)
theorem dX7_goesDown_5 : decode cX7_goesDown 5 = .ok (.invokestatic 58, 3) := dk_184 0 58 (dk_at dksX7_goesDown_0 5 rfl rfl)
theorem dX7_goesDown_8 : decode cX7_goesDown 8 = .ok (.iconst 4, 1) := dk_7 (dk_at dksX7_goesDown_0 8 rfl rfl)
theorem dX7_goesDown_9 : decode cX7_goesDown 9 = .ok (.iadd, 1) := dk_96 (dk_at dksX7_goesDown_0 9 rfl rfl)
theorem dX7_goesDown_10 : decode cX7_goesDown 10 = .ok (.dup2, 1) := dk_92 (dk_at dksX7_goesDown_0 10 rfl rfl)
theorem dX7_goesDown_11 : decode cX7_goesDown 11 = .ok (.iaload, 1) := dk_46 (dk_at dksX7_goesDown_0 11 rfl rfl)
theorem dX7_goesDown_12 : decode cX7_goesDown 12 = .ok (.iload_n 2, 1) := dk_28 (dk_at dksX7_goesDown_0 12 rfl rfl)
theorem dX7_goesDown_13 : decode cX7_goesDown 13 = .ok (.isub, 1) := dk_100 (dk_at dksX7_goesDown_0 13 rfl rfl)
theorem dX7_goesDown_14 : decode cX7_goesDown 14 = .ok (.iastore, 1) := dk_79 (dk_at dksX7_goesDown_0 14 rfl rfl)
theorem dX7_goesDown_15 : decode cX7_goesDown 15 = .ok (.aload_n 0, 1) := dk_42 (dk_at dksX7_goesDown_0 15 rfl rfl)
theorem dX7_goesDown_16 : decode cX7_goesDown 16 = .ok (.iload_n 1, 1) := dk_27 (dk_at dksX7_goesDown_0 16 rfl rfl)
theorem dX7_goesDown_17 : decode cX7_goesDown 17 = .ok (.iconst 1, 1) := dk_4 (dk_at dksX7_goesDown_0 17 rfl rfl)
theorem dX7_goesDown_18 : decode cX7_goesDown 18 = .ok (.iadd, 1) := dk_96 (dk_at dksX7_goesDown_0 18 rfl rfl)
theorem dX7_goesDown_19 : decode cX7_goesDown 19 = .ok (.iload_n 2, 1) := dk_28 (dk_at dksX7_goesDown_0 19 rfl rfl)
theorem dX7_goesDown_20 : decode cX7_goesDown 20 = .ok (.invokevirtual 112, 3) := dk_182 0 112 (dk_at dksX7_goesDown_0 20 rfl rfl)
theorem dX7_goesDown_23 : decode cX7_goesDown 23 = .ok (.return_, 1) := dk_177 (dk_at dksX7_goesDown_0 23 rfl rfl)
def dkwX7_flood_4 : List UInt8 := [180, 0, 9, 16, 7, 92, 46, 27, 96, 79, 27, 172]
abbrev dktX7_flood_4 : List UInt8 := dkwX7_flood_4 ++ []
def dkwX7_flood_3 : List UInt8 := [182, 0, 62, 42, 28, 3, 182, 0, 62, 104, 100, 182, 0, 116, 132, 1, 1, 132, 2, 1, 167, 255, 170, 42]
abbrev dktX7_flood_3 : List UInt8 := dkwX7_flood_3 ++ dktX7_flood_4
def dkwX7_flood_2 : List UInt8 := [153, 0, 7, 4, 167, 0, 4, 3, 79, 29, 153, 0, 31, 42, 28, 42, 28, 7, 182, 0, 62, 42, 28, 4]
abbrev dktX7_flood_2 : List UInt8 := dkwX7_flood_2 ++ dktX7_flood_3
def dkwX7_flood_1 : List UInt8 := [182, 0, 62, 164, 0, 7, 4, 167, 0, 4, 3, 62, 42, 180, 0, 9, 28, 184, 0, 58, 16, 9, 96, 29]
abbrev dktX7_flood_1 : List UInt8 := dkwX7_flood_1 ++ dktX7_flood_2
def dkwX7_flood_0 : List UInt8 := [3, 60, 3, 61, 28, 42, 180, 0, 9, 3, 46, 162, 0, 82, 42, 28, 182, 0, 94, 42, 28, 4]
abbrev dktX7_flood_0 : List UInt8 := dkwX7_flood_0 ++ dktX7_flood_1
theorem dksX7_flood_0 : cX7_flood.data.toList.drop 0 = dktX7_flood_0 := by decide +kernel
theorem dksX7_flood_1 : cX7_flood.data.toList.drop 22 = dktX7_flood_1 := dk_seg dksX7_flood_0 22 rfl rfl
theorem dksX7_flood_2 : cX7_flood.data.toList.drop 46 = dktX7_flood_2 := dk_seg dksX7_flood_1 24 rfl rfl
theorem dksX7_flood_3 : cX7_flood.data.toList.drop 70 = dktX7_flood_3 := dk_seg dksX7_flood_2 24 rfl rfl
theorem dksX7_flood_4 : cX7_flood.data.toList.drop 94 = dktX7_flood_4 := dk_seg dksX7_flood_3 24 rfl rfl
theorem dX7_flood_0 : decode cX7_flood 0 = .ok (.iconst 0, 1) := dk_3 (dk_at dksX7_flood_0 0 rfl rfl)
theorem dX7_flood_1 : decode cX7_flood 1 = .ok (.istore_n 1, 1) := dk_60 (dk_at dksX7_flood_0 1 rfl rfl)
theorem dX7_flood_2 : decode cX7_flood 2 = .ok (.iconst 0, 1) := dk_3 (dk_at dksX7_flood_0 2 rfl rfl)
theorem dX7_flood_3 : decode cX7_flood 3 = .ok (.istore_n 2, 1) := dk_61 (dk_at dksX7_flood_0 3 rfl rfl)
theorem dX7_flood_4 : decode cX7_flood 4 = .ok (.iload_n 2, 1) := dk_28 (dk_at dksX7_flood_0 4 rfl rfl)
theorem dX7_flood_5 : decode cX7_flood 5 = .ok (.aload_n 0, 1) := dk_42 (dk_at dksX7_flood_0 5 rfl rfl)
theorem dX7_flood_6 : decode cX7_flood 6 = .ok (.getfield 9, 3) := dk_180 0 9 (dk_at dksX7_flood_0 6 rfl rfl)
theorem dX7_flood_9 : decode cX7_flood 9 = .ok (.iconst 0, 1) := dk_3 (dk_at dksX7_flood_0 9 rfl rfl)
theorem dX7_flood_10 : decode cX7_flood 10 = .ok (.iaload, 1) := dk_46 (dk_at dksX7_flood_0 10 rfl rfl)
theorem dX7_flood_11 : decode cX7_flood 11 = .ok (.if_icmp .ge 82, 3) := dk_162 0 82 (dk_at dksX7_flood_0 11 rfl rfl)
theorem dX7_flood_14 : decode cX7_flood 14 = .ok (.aload_n 0, 1) := dk_42 (dk_at dksX7_flood_0 14 rfl rfl)
theorem dX7_flood_15 : decode cX7_flood 15 = .ok (.iload_n 2, 1) := dk_28 (dk_at dksX7_flood_0 15 rfl rfl)
theorem dX7_flood_16 : decode cX7_flood 16 = .ok (.invokevirtual 94, 3) := dk_182 0 94 (dk_at dksX7_flood_0 16 rfl rfl)
theorem dX7_flood_19 : decode cX7_flood 19 = .ok (.aload_n 0, 1) := dk_42 (dk_at dksX7_flood_0 19 rfl rfl)
theorem dX7_flood_20 : decode cX7_flood 20 = .ok (.iload_n 2, 1) := dk_28 (dk_at dksX7_flood_0 20 rfl rfl)
theorem dX7_flood_21 : decode cX7_flood 21 = .ok (.iconst 1, 1) := dk_4 (dk_at dksX7_flood_0 21 rfl rfl)
theorem dX7_flood_22 : decode cX7_flood 22 = .ok (.invokevirtual 62, 3) := dk_182 0 62 (dk_at dksX7_flood_1 0 rfl rfl)
theorem dX7_flood_25 : decode cX7_flood 25 = .ok (.if_icmp .le 7, 3) := dk_164 0 7 (dk_at dksX7_flood_1 3 rfl rfl)
theorem dX7_flood_28 : decode cX7_flood 28 = .ok (.iconst 1, 1) := dk_4 (dk_at dksX7_flood_1 6 rfl rfl)
theorem dX7_flood_29 : decode cX7_flood 29 = .ok (.goto 4, 3) := dk_167 0 4 (dk_at dksX7_flood_1 7 rfl rfl)
theorem dX7_flood_32 : decode cX7_flood 32 = .ok (.iconst 0, 1) := dk_3 (dk_at dksX7_flood_1 10 rfl rfl)
theorem dX7_flood_33 : decode cX7_flood 33 = .ok (.istore_n 3, 1) := dk_62 (dk_at dksX7_flood_1 11 rfl rfl)
theorem dX7_flood_34 : decode cX7_flood 34 = .ok (.aload_n 0, 1) := dk_42 (dk_at dksX7_flood_1 12 rfl rfl)
theorem dX7_flood_35 : decode cX7_flood 35 = .ok (.getfield 9, 3) := dk_180 0 9 (dk_at dksX7_flood_1 13 rfl rfl)
theorem dX7_flood_38 : decode cX7_flood 38 = .ok (.iload_n 2, 1) := dk_28 (dk_at dksX7_flood_1 16 rfl rfl)
theorem dX7_flood_39 : decode cX7_flood 39 = .ok (.invokestatic 58, 3) := dk_184 0 58 (dk_at dksX7_flood_1 17 rfl rfl)
theorem dX7_flood_42 : decode cX7_flood 42 = .ok (.bipush 9, 2) := dk_16 9 (dk_at dksX7_flood_1 20 rfl rfl)
theorem dX7_flood_44 : decode cX7_flood 44 = .ok (.iadd, 1) := dk_96 (dk_at dksX7_flood_1 22 rfl rfl)
theorem dX7_flood_45 : decode cX7_flood 45 = .ok (.iload_n 3, 1) := dk_29 (dk_at dksX7_flood_1 23 rfl rfl)
theorem dX7_flood_46 : decode cX7_flood 46 = .ok (.ifCond .eq 7, 3) := dk_153 0 7 (dk_at dksX7_flood_2 0 rfl rfl)
theorem dX7_flood_49 : decode cX7_flood 49 = .ok (.iconst 1, 1) := dk_4 (dk_at dksX7_flood_2 3 rfl rfl)
theorem dX7_flood_50 : decode cX7_flood 50 = .ok (.goto 4, 3) := dk_167 0 4 (dk_at dksX7_flood_2 4 rfl rfl)
theorem dX7_flood_53 : decode cX7_flood 53 = .ok (.iconst 0, 1) := dk_3 (dk_at dksX7_flood_2 7 rfl rfl)
theorem dX7_flood_54 : decode cX7_flood 54 = .ok (.iastore, 1) := dk_79 (dk_at dksX7_flood_2 8 rfl rfl)
theorem dX7_flood_55 : decode cX7_flood 55 = .ok (.iload_n 3, 1) := dk_29 (dk_at dksX7_flood_2 9 rfl rfl)
theorem dX7_flood_56 : decode cX7_flood 56 = .ok (.ifCond .eq 31, 3) := dk_153 0 31 (dk_at dksX7_flood_2 10 rfl rfl)
theorem dX7_flood_59 : decode cX7_flood 59 = .ok (.aload_n 0, 1) := dk_42 (dk_at dksX7_flood_2 13 rfl rfl)
theorem dX7_flood_60 : decode cX7_flood 60 = .ok (.iload_n 2, 1) := dk_28 (dk_at dksX7_flood_2 14 rfl rfl)
theorem dX7_flood_61 : decode cX7_flood 61 = .ok (.aload_n 0, 1) := dk_42 (dk_at dksX7_flood_2 15 rfl rfl)
theorem dX7_flood_62 : decode cX7_flood 62 = .ok (.iload_n 2, 1) := dk_28 (dk_at dksX7_flood_2 16 rfl rfl)
theorem dX7_flood_63 : decode cX7_flood 63 = .ok (.iconst 4, 1) := dk_7 (dk_at dksX7_flood_2 17 rfl rfl)
theorem dX7_flood_64 : decode cX7_flood 64 = .ok (.invokevirtual 62, 3) := dk_182 0 62 (dk_at dksX7_flood_2 18 rfl rfl)
theorem dX7_flood_67 : decode cX7_flood 67 = .ok (.aload_n 0, 1) := dk_42 (dk_at dksX7_flood_2 21 rfl rfl)
theorem dX7_flood_68 : decode cX7_flood 68 = .ok (.iload_n 2, 1) := dk_28 (dk_at dksX7_flood_2 22 rfl rfl)
theorem dX7_flood_69 : decode cX7_flood 69 = .ok (.iconst 1, 1) := dk_4 (dk_at dksX7_flood_2 23 rfl rfl)
theorem dX7_flood_70 : decode cX7_flood 70 = .ok (.invokevirtual 62, 3) := dk_182 0 62 (dk_at dksX7_flood_3 0 rfl rfl)
theorem dX7_flood_73 : decode cX7_flood 73 = .ok (.aload_n 0, 1) := dk_42 (dk_at dksX7_flood_3 3 rfl rfl)
theorem dX7_flood_74 : decode cX7_flood 74 = .ok (.iload_n 2, 1) := dk_28 (dk_at dksX7_flood_3 4 rfl rfl)
theorem dX7_flood_75 : decode cX7_flood 75 = .ok (.iconst 0, 1) := dk_3 (dk_at dksX7_flood_3 5 rfl rfl)
theorem dX7_flood_76 : decode cX7_flood 76 = .ok (.invokevirtual 62, 3) := dk_182 0 62 (dk_at dksX7_flood_3 6 rfl rfl)
theorem dX7_flood_79 : decode cX7_flood 79 = .ok (.imul, 1) := dk_104 (dk_at dksX7_flood_3 9 rfl rfl)
theorem dX7_flood_80 : decode cX7_flood 80 = .ok (.isub, 1) := dk_100 (dk_at dksX7_flood_3 10 rfl rfl)
theorem dX7_flood_81 : decode cX7_flood 81 = .ok (.invokevirtual 116, 3) := dk_182 0 116 (dk_at dksX7_flood_3 11 rfl rfl)
theorem dX7_flood_84 : decode cX7_flood 84 = .ok (.iinc 1 1, 3) := dk_132 1 1 (dk_at dksX7_flood_3 14 rfl rfl)
theorem dX7_flood_87 : decode cX7_flood 87 = .ok (.iinc 2 1, 3) := dk_132 2 1 (dk_at dksX7_flood_3 17 rfl rfl)
theorem dX7_flood_90 : decode cX7_flood 90 = .ok (.goto (-86), 3) := dk_167 255 170 (dk_at dksX7_flood_3 20 rfl rfl)
theorem dX7_flood_93 : decode cX7_flood 93 = .ok (.aload_n 0, 1) := dk_42 (dk_at dksX7_flood_3 23 rfl rfl)
theorem dX7_flood_94 : decode cX7_flood 94 = .ok (.getfield 9, 3) := dk_180 0 9 (dk_at dksX7_flood_4 0 rfl rfl)
theorem dX7_flood_97 : decode cX7_flood 97 = .ok (.bipush 7, 2) := dk_16 7 (dk_at dksX7_flood_4 3 rfl rfl)
theorem dX7_flood_99 : decode cX7_flood 99 = .ok (.dup2, 1) := dk_92 (dk_at dksX7_flood_4 5 rfl rfl)
theorem dX7_flood_100 : decode cX7_flood 100 = .ok (.iaload, 1) := dk_46 (dk_at dksX7_flood_4 6 rfl rfl)
theorem dX7_flood_101 : decode cX7_flood 101 = .ok (.iload_n 1, 1) := dk_27 (dk_at dksX7_flood_4 7 rfl rfl)
theorem dX7_flood_102 : decode cX7_flood 102 = .ok (.iadd, 1) := dk_96 (dk_at dksX7_flood_4 8 rfl rfl)
theorem dX7_flood_103 : decode cX7_flood 103 = .ok (.iastore, 1) := dk_79 (dk_at dksX7_flood_4 9 rfl rfl)
theorem dX7_flood_104 : decode cX7_flood 104 = .ok (.iload_n 1, 1) := dk_27 (dk_at dksX7_flood_4 10 rfl rfl)
theorem dX7_flood_105 : decode cX7_flood 105 = .ok (.ireturn, 1) := dk_172 (dk_at dksX7_flood_4 11 rfl rfl)
def dkwX7_takeForFields_3 : List UInt8 := [167, 255, 188, 177]
abbrev dktX7_takeForFields_3 : List UInt8 := dkwX7_takeForFields_3 ++ []
def dkwX7_takeForFields_2 : List UInt8 := [184, 0, 58, 7, 96, 92, 46, 28, 100, 79, 42, 180, 0, 9, 16, 6, 92, 46, 28, 96, 79, 132, 1, 1]
abbrev dktX7_takeForFields_2 : List UInt8 := dkwX7_takeForFields_2 ++ dktX7_takeForFields_3
def dkwX7_takeForFields_1 : List UInt8 := [182, 0, 62, 42, 27, 7, 182, 0, 62, 184, 0, 70, 167, 0, 4, 3, 61, 42, 180, 0, 9, 27]
abbrev dktX7_takeForFields_1 : List UInt8 := dkwX7_takeForFields_1 ++ dktX7_takeForFields_2
def dkwX7_takeForFields_0 : List UInt8 := [3, 60, 27, 42, 180, 0, 9, 3, 46, 162, 0, 64, 42, 27, 182, 0, 94, 5, 161, 0, 21, 42, 27, 5]
abbrev dktX7_takeForFields_0 : List UInt8 := dkwX7_takeForFields_0 ++ dktX7_takeForFields_1
theorem dksX7_takeForFields_0 : cX7_takeForFields.data.toList.drop 0 = dktX7_takeForFields_0 := by decide +kernel
theorem dksX7_takeForFields_1 : cX7_takeForFields.data.toList.drop 24 = dktX7_takeForFields_1 := dk_seg dksX7_takeForFields_0 24 rfl rfl
theorem dksX7_takeForFields_2 : cX7_takeForFields.data.toList.drop 46 = dktX7_takeForFields_2 := dk_seg dksX7_takeForFields_1 22 rfl rfl
theorem dksX7_takeForFields_3 : cX7_takeForFields.data.toList.drop 70 = dktX7_takeForFields_3 := dk_seg dksX7_takeForFields_2 24 rfl rfl
theorem dX7_takeForFields_0 : decode cX7_takeForFields 0 = .ok (.iconst 0, 1) := dk_3 (dk_at dksX7_takeForFields_0 0 rfl rfl)
theorem dX7_takeForFields_1 : decode cX7_takeForFields 1 = .ok (.istore_n 1, 1) := dk_60 (dk_at dksX7_takeForFields_0 1 rfl rfl)
theorem dX7_takeForFields_2 : decode cX7_takeForFields 2 = .ok (.iload_n 1, 1) := dk_27 (dk_at dksX7_takeForFields_0 2 rfl rfl)
theorem dX7_takeForFields_3 : decode cX7_takeForFields 3 = .ok (.aload_n 0, 1) := dk_42 (dk_at dksX7_takeForFields_0 3 rfl rfl)
theorem dX7_takeForFields_4 : decode cX7_takeForFields 4 = .ok (.getfield 9, 3) := dk_180 0 9 (dk_at dksX7_takeForFields_0 4 rfl rfl)
theorem dX7_takeForFields_7 : decode cX7_takeForFields 7 = .ok (.iconst 0, 1) := dk_3 (dk_at dksX7_takeForFields_0 7 rfl rfl)
theorem dX7_takeForFields_8 : decode cX7_takeForFields 8 = .ok (.iaload, 1) := dk_46 (dk_at dksX7_takeForFields_0 8 rfl rfl)
theorem dX7_takeForFields_9 : decode cX7_takeForFields 9 = .ok (.if_icmp .ge 64, 3) := dk_162 0 64 (dk_at dksX7_takeForFields_0 9 rfl rfl)
theorem dX7_takeForFields_12 : decode cX7_takeForFields 12 = .ok (.aload_n 0, 1) := dk_42 (dk_at dksX7_takeForFields_0 12 rfl rfl)
theorem dX7_takeForFields_13 : decode cX7_takeForFields 13 = .ok (.iload_n 1, 1) := dk_27 (dk_at dksX7_takeForFields_0 13 rfl rfl)
theorem dX7_takeForFields_14 : decode cX7_takeForFields 14 = .ok (.invokevirtual 94, 3) := dk_182 0 94 (dk_at dksX7_takeForFields_0 14 rfl rfl)
theorem dX7_takeForFields_17 : decode cX7_takeForFields 17 = .ok (.iconst 2, 1) := dk_5 (dk_at dksX7_takeForFields_0 17 rfl rfl)
theorem dX7_takeForFields_18 : decode cX7_takeForFields 18 = .ok (.if_icmp .lt 21, 3) := dk_161 0 21 (dk_at dksX7_takeForFields_0 18 rfl rfl)
theorem dX7_takeForFields_21 : decode cX7_takeForFields 21 = .ok (.aload_n 0, 1) := dk_42 (dk_at dksX7_takeForFields_0 21 rfl rfl)
theorem dX7_takeForFields_22 : decode cX7_takeForFields 22 = .ok (.iload_n 1, 1) := dk_27 (dk_at dksX7_takeForFields_0 22 rfl rfl)
theorem dX7_takeForFields_23 : decode cX7_takeForFields 23 = .ok (.iconst 2, 1) := dk_5 (dk_at dksX7_takeForFields_0 23 rfl rfl)
theorem dX7_takeForFields_24 : decode cX7_takeForFields 24 = .ok (.invokevirtual 62, 3) := dk_182 0 62 (dk_at dksX7_takeForFields_1 0 rfl rfl)
theorem dX7_takeForFields_27 : decode cX7_takeForFields 27 = .ok (.aload_n 0, 1) := dk_42 (dk_at dksX7_takeForFields_1 3 rfl rfl)
theorem dX7_takeForFields_28 : decode cX7_takeForFields 28 = .ok (.iload_n 1, 1) := dk_27 (dk_at dksX7_takeForFields_1 4 rfl rfl)
theorem dX7_takeForFields_29 : decode cX7_takeForFields 29 = .ok (.iconst 4, 1) := dk_7 (dk_at dksX7_takeForFields_1 5 rfl rfl)
theorem dX7_takeForFields_30 : decode cX7_takeForFields 30 = .ok (.invokevirtual 62, 3) := dk_182 0 62 (dk_at dksX7_takeForFields_1 6 rfl rfl)
theorem dX7_takeForFields_33 : decode cX7_takeForFields 33 = .ok (.invokestatic 70, 3) := dk_184 0 70 (dk_at dksX7_takeForFields_1 9 rfl rfl)
theorem dX7_takeForFields_36 : decode cX7_takeForFields 36 = .ok (.goto 4, 3) := dk_167 0 4 (dk_at dksX7_takeForFields_1 12 rfl rfl)
theorem dX7_takeForFields_39 : decode cX7_takeForFields 39 = .ok (.iconst 0, 1) := dk_3 (dk_at dksX7_takeForFields_1 15 rfl rfl)
theorem dX7_takeForFields_40 : decode cX7_takeForFields 40 = .ok (.istore_n 2, 1) := dk_61 (dk_at dksX7_takeForFields_1 16 rfl rfl)
theorem dX7_takeForFields_41 : decode cX7_takeForFields 41 = .ok (.aload_n 0, 1) := dk_42 (dk_at dksX7_takeForFields_1 17 rfl rfl)
theorem dX7_takeForFields_42 : decode cX7_takeForFields 42 = .ok (.getfield 9, 3) := dk_180 0 9 (dk_at dksX7_takeForFields_1 18 rfl rfl)
theorem dX7_takeForFields_45 : decode cX7_takeForFields 45 = .ok (.iload_n 1, 1) := dk_27 (dk_at dksX7_takeForFields_1 21 rfl rfl)
theorem dX7_takeForFields_46 : decode cX7_takeForFields 46 = .ok (.invokestatic 58, 3) := dk_184 0 58 (dk_at dksX7_takeForFields_2 0 rfl rfl)
theorem dX7_takeForFields_49 : decode cX7_takeForFields 49 = .ok (.iconst 4, 1) := dk_7 (dk_at dksX7_takeForFields_2 3 rfl rfl)
theorem dX7_takeForFields_50 : decode cX7_takeForFields 50 = .ok (.iadd, 1) := dk_96 (dk_at dksX7_takeForFields_2 4 rfl rfl)
theorem dX7_takeForFields_51 : decode cX7_takeForFields 51 = .ok (.dup2, 1) := dk_92 (dk_at dksX7_takeForFields_2 5 rfl rfl)
theorem dX7_takeForFields_52 : decode cX7_takeForFields 52 = .ok (.iaload, 1) := dk_46 (dk_at dksX7_takeForFields_2 6 rfl rfl)
theorem dX7_takeForFields_53 : decode cX7_takeForFields 53 = .ok (.iload_n 2, 1) := dk_28 (dk_at dksX7_takeForFields_2 7 rfl rfl)
theorem dX7_takeForFields_54 : decode cX7_takeForFields 54 = .ok (.isub, 1) := dk_100 (dk_at dksX7_takeForFields_2 8 rfl rfl)
theorem dX7_takeForFields_55 : decode cX7_takeForFields 55 = .ok (.iastore, 1) := dk_79 (dk_at dksX7_takeForFields_2 9 rfl rfl)
theorem dX7_takeForFields_56 : decode cX7_takeForFields 56 = .ok (.aload_n 0, 1) := dk_42 (dk_at dksX7_takeForFields_2 10 rfl rfl)
theorem dX7_takeForFields_57 : decode cX7_takeForFields 57 = .ok (.getfield 9, 3) := dk_180 0 9 (dk_at dksX7_takeForFields_2 11 rfl rfl)
theorem dX7_takeForFields_60 : decode cX7_takeForFields 60 = .ok (.bipush 6, 2) := dk_16 6 (dk_at dksX7_takeForFields_2 14 rfl rfl)
theorem dX7_takeForFields_62 : decode cX7_takeForFields 62 = .ok (.dup2, 1) := dk_92 (dk_at dksX7_takeForFields_2 16 rfl rfl)
theorem dX7_takeForFields_63 : decode cX7_takeForFields 63 = .ok (.iaload, 1) := dk_46 (dk_at dksX7_takeForFields_2 17 rfl rfl)
theorem dX7_takeForFields_64 : decode cX7_takeForFields 64 = .ok (.iload_n 2, 1) := dk_28 (dk_at dksX7_takeForFields_2 18 rfl rfl)
theorem dX7_takeForFields_65 : decode cX7_takeForFields 65 = .ok (.iadd, 1) := dk_96 (dk_at dksX7_takeForFields_2 19 rfl rfl)
theorem dX7_takeForFields_66 : decode cX7_takeForFields 66 = .ok (.iastore, 1) := dk_79 (dk_at dksX7_takeForFields_2 20 rfl rfl)
theorem dX7_takeForFields_67 : decode cX7_takeForFields 67 = .ok (.iinc 1 1, 3) := dk_132 1 1 (dk_at dksX7_takeForFields_2 21 rfl rfl)
theorem dX7_takeForFields_70 : decode cX7_takeForFields 70 = .ok (.goto (-68), 3) := dk_167 255 188 (dk_at dksX7_takeForFields_3 0 rfl rfl)
theorem dX7_takeForFields_73 : decode cX7_takeForFields 73 = .ok (.return_, 1) := dk_177 (dk_at dksX7_takeForFields_3 3 rfl rfl)
def dkwX7_liveAll_2 : List UInt8 := [184, 0, 97, 7, 184, 0, 39, 132, 1, 1, 132, 2, 1, 167, 255, 201, 42, 180, 0, 9, 4, 27, 79, 177]
abbrev dktX7_liveAll_2 : List UInt8 := dkwX7_liveAll_2 ++ []
def dkwX7_liveAll_1 : List UInt8 := [184, 0, 97, 4, 96, 46, 158, 0, 26, 42, 180, 0, 9, 28, 184, 0, 97, 42, 180, 0, 9, 27]
abbrev dktX7_liveAll_1 : List UInt8 := dkwX7_liveAll_1 ++ dktX7_liveAll_2
def dkwX7_liveAll_0 : List UInt8 := [3, 60, 3, 61, 28, 42, 180, 0, 9, 4, 46, 162, 0, 51, 42, 28, 182, 0, 122, 42, 180, 0, 9, 28]
abbrev dktX7_liveAll_0 : List UInt8 := dkwX7_liveAll_0 ++ dktX7_liveAll_1
theorem dksX7_liveAll_0 : cX7_liveAll.data.toList.drop 0 = dktX7_liveAll_0 := by decide +kernel
theorem dksX7_liveAll_1 : cX7_liveAll.data.toList.drop 24 = dktX7_liveAll_1 := dk_seg dksX7_liveAll_0 24 rfl rfl
theorem dksX7_liveAll_2 : cX7_liveAll.data.toList.drop 46 = dktX7_liveAll_2 := dk_seg dksX7_liveAll_1 22 rfl rfl
theorem dX7_liveAll_0 : decode cX7_liveAll 0 = .ok (.iconst 0, 1) := dk_3 (dk_at dksX7_liveAll_0 0 rfl rfl)
theorem dX7_liveAll_1 : decode cX7_liveAll 1 = .ok (.istore_n 1, 1) := dk_60 (dk_at dksX7_liveAll_0 1 rfl rfl)
theorem dX7_liveAll_2 : decode cX7_liveAll 2 = .ok (.iconst 0, 1) := dk_3 (dk_at dksX7_liveAll_0 2 rfl rfl)
theorem dX7_liveAll_3 : decode cX7_liveAll 3 = .ok (.istore_n 2, 1) := dk_61 (dk_at dksX7_liveAll_0 3 rfl rfl)
theorem dX7_liveAll_4 : decode cX7_liveAll 4 = .ok (.iload_n 2, 1) := dk_28 (dk_at dksX7_liveAll_0 4 rfl rfl)
theorem dX7_liveAll_5 : decode cX7_liveAll 5 = .ok (.aload_n 0, 1) := dk_42 (dk_at dksX7_liveAll_0 5 rfl rfl)
theorem dX7_liveAll_6 : decode cX7_liveAll 6 = .ok (.getfield 9, 3) := dk_180 0 9 (dk_at dksX7_liveAll_0 6 rfl rfl)
theorem dX7_liveAll_9 : decode cX7_liveAll 9 = .ok (.iconst 1, 1) := dk_4 (dk_at dksX7_liveAll_0 9 rfl rfl)
theorem dX7_liveAll_10 : decode cX7_liveAll 10 = .ok (.iaload, 1) := dk_46 (dk_at dksX7_liveAll_0 10 rfl rfl)
theorem dX7_liveAll_11 : decode cX7_liveAll 11 = .ok (.if_icmp .ge 51, 3) := dk_162 0 51 (dk_at dksX7_liveAll_0 11 rfl rfl)
theorem dX7_liveAll_14 : decode cX7_liveAll 14 = .ok (.aload_n 0, 1) := dk_42 (dk_at dksX7_liveAll_0 14 rfl rfl)
theorem dX7_liveAll_15 : decode cX7_liveAll 15 = .ok (.iload_n 2, 1) := dk_28 (dk_at dksX7_liveAll_0 15 rfl rfl)
theorem dX7_liveAll_16 : decode cX7_liveAll 16 = .ok (.invokevirtual 122, 3) := dk_182 0 122 (dk_at dksX7_liveAll_0 16 rfl rfl)
theorem dX7_liveAll_19 : decode cX7_liveAll 19 = .ok (.aload_n 0, 1) := dk_42 (dk_at dksX7_liveAll_0 19 rfl rfl)
theorem dX7_liveAll_20 : decode cX7_liveAll 20 = .ok (.getfield 9, 3) := dk_180 0 9 (dk_at dksX7_liveAll_0 20 rfl rfl)
theorem dX7_liveAll_23 : decode cX7_liveAll 23 = .ok (.iload_n 2, 1) := dk_28 (dk_at dksX7_liveAll_0 23 rfl rfl)
theorem dX7_liveAll_24 : decode cX7_liveAll 24 = .ok (.invokestatic 97, 3) := dk_184 0 97 (dk_at dksX7_liveAll_1 0 rfl rfl)
theorem dX7_liveAll_27 : decode cX7_liveAll 27 = .ok (.iconst 1, 1) := dk_4 (dk_at dksX7_liveAll_1 3 rfl rfl)
theorem dX7_liveAll_28 : decode cX7_liveAll 28 = .ok (.iadd, 1) := dk_96 (dk_at dksX7_liveAll_1 4 rfl rfl)
theorem dX7_liveAll_29 : decode cX7_liveAll 29 = .ok (.iaload, 1) := dk_46 (dk_at dksX7_liveAll_1 5 rfl rfl)
theorem dX7_liveAll_30 : decode cX7_liveAll 30 = .ok (.ifCond .le 26, 3) := dk_158 0 26 (dk_at dksX7_liveAll_1 6 rfl rfl)
theorem dX7_liveAll_33 : decode cX7_liveAll 33 = .ok (.aload_n 0, 1) := dk_42 (dk_at dksX7_liveAll_1 9 rfl rfl)
theorem dX7_liveAll_34 : decode cX7_liveAll 34 = .ok (.getfield 9, 3) := dk_180 0 9 (dk_at dksX7_liveAll_1 10 rfl rfl)
theorem dX7_liveAll_37 : decode cX7_liveAll 37 = .ok (.iload_n 2, 1) := dk_28 (dk_at dksX7_liveAll_1 13 rfl rfl)
theorem dX7_liveAll_38 : decode cX7_liveAll 38 = .ok (.invokestatic 97, 3) := dk_184 0 97 (dk_at dksX7_liveAll_1 14 rfl rfl)
theorem dX7_liveAll_41 : decode cX7_liveAll 41 = .ok (.aload_n 0, 1) := dk_42 (dk_at dksX7_liveAll_1 17 rfl rfl)
theorem dX7_liveAll_42 : decode cX7_liveAll 42 = .ok (.getfield 9, 3) := dk_180 0 9 (dk_at dksX7_liveAll_1 18 rfl rfl)
theorem dX7_liveAll_45 : decode cX7_liveAll 45 = .ok (.iload_n 1, 1) := dk_27 (dk_at dksX7_liveAll_1 21 rfl rfl)
theorem dX7_liveAll_46 : decode cX7_liveAll 46 = .ok (.invokestatic 97, 3) := dk_184 0 97 (dk_at dksX7_liveAll_2 0 rfl rfl)
theorem dX7_liveAll_49 : decode cX7_liveAll 49 = .ok (.iconst 4, 1) := dk_7 (dk_at dksX7_liveAll_2 3 rfl rfl)
theorem dX7_liveAll_50 : decode cX7_liveAll 50 = .ok (.invokestatic 39, 3) := dk_184 0 39 (dk_at dksX7_liveAll_2 4 rfl rfl)
theorem dX7_liveAll_53 : decode cX7_liveAll 53 = .ok (.iinc 1 1, 3) := dk_132 1 1 (dk_at dksX7_liveAll_2 7 rfl rfl)
theorem dX7_liveAll_56 : decode cX7_liveAll 56 = .ok (.iinc 2 1, 3) := dk_132 2 1 (dk_at dksX7_liveAll_2 10 rfl rfl)
theorem dX7_liveAll_59 : decode cX7_liveAll 59 = .ok (.goto (-55), 3) := dk_167 255 201 (dk_at dksX7_liveAll_2 13 rfl rfl)
theorem dX7_liveAll_62 : decode cX7_liveAll 62 = .ok (.aload_n 0, 1) := dk_42 (dk_at dksX7_liveAll_2 16 rfl rfl)
theorem dX7_liveAll_63 : decode cX7_liveAll 63 = .ok (.getfield 9, 3) := dk_180 0 9 (dk_at dksX7_liveAll_2 17 rfl rfl)
theorem dX7_liveAll_66 : decode cX7_liveAll 66 = .ok (.iconst 1, 1) := dk_4 (dk_at dksX7_liveAll_2 20 rfl rfl)
theorem dX7_liveAll_67 : decode cX7_liveAll 67 = .ok (.iload_n 1, 1) := dk_27 (dk_at dksX7_liveAll_2 21 rfl rfl)
theorem dX7_liveAll_68 : decode cX7_liveAll 68 = .ok (.iastore, 1) := dk_79 (dk_at dksX7_liveAll_2 22 rfl rfl)
theorem dX7_liveAll_69 : decode cX7_liveAll 69 = .ok (.return_, 1) := dk_177 (dk_at dksX7_liveAll_2 23 rfl rfl)
def dkwX7_live_9 : List UInt8 := [180, 0, 9, 28, 4, 96, 3, 79, 177]
abbrev dktX7_live_9 : List UInt8 := dkwX7_live_9 ++ []
def dkwX7_live_8 : List UInt8 := [17, 3, 231, 42, 180, 0, 9, 21, 5, 46, 42, 180, 0, 9, 28, 4, 96, 46, 96, 184, 0, 70, 79, 42]
abbrev dktX7_live_8 : List UInt8 := dkwX7_live_8 ++ dktX7_live_9
def dkwX7_live_7 : List UInt8 := [42, 180, 0, 9, 16, 10, 92, 46, 42, 180, 0, 9, 28, 4, 96, 46, 96, 79, 42, 180, 0, 9, 21, 5]
abbrev dktX7_live_7 : List UInt8 := dkwX7_live_7 ++ dktX7_live_8
def dkwX7_live_6 : List UInt8 := [180, 0, 9, 28, 5, 96, 46, 8, 160, 0, 72, 42, 180, 0, 9, 28, 46, 184, 0, 58, 8, 96, 54, 5]
abbrev dktX7_live_6 : List UInt8 := dkwX7_live_6 ++ dktX7_live_7
def dkwX7_live_5 : List UInt8 := [21, 4, 6, 96, 7, 108, 182, 0, 119, 42, 180, 0, 9, 28, 5, 96, 92, 46, 4, 96, 79, 42]
abbrev dktX7_live_5 : List UInt8 := dkwX7_live_5 ++ dktX7_live_6
def dkwX7_live_4 : List UInt8 := [167, 0, 32, 5, 42, 29, 182, 0, 94, 104, 42, 180, 0, 9, 28, 6, 96, 46, 162, 0, 14, 42, 27]
abbrev dktX7_live_4 : List UInt8 := dkwX7_live_4 ++ dktX7_live_5
def dkwX7_live_3 : List UInt8 := [182, 0, 119, 42, 180, 0, 9, 28, 92, 46, 21, 5, 153, 0, 7, 3, 167, 0, 4, 4, 96, 79]
abbrev dktX7_live_3 : List UInt8 := dkwX7_live_3 ++ dktX7_live_4
def dkwX7_live_2 : List UInt8 := [167, 0, 4, 3, 54, 5, 42, 27, 21, 5, 153, 0, 8, 21, 4, 167, 0, 9, 21, 4, 4, 96, 5, 108]
abbrev dktX7_live_2 : List UInt8 := dkwX7_live_2 ++ dktX7_live_3
def dkwX7_live_1 : List UInt8 := [16, 9, 182, 0, 62, 4, 160, 0, 65, 29, 42, 180, 0, 9, 3, 46, 4, 100, 160, 0, 7, 4]
abbrev dktX7_live_1 : List UInt8 := dkwX7_live_1 ++ dktX7_live_2
def dkwX7_live_0 : List UInt8 := [27, 184, 0, 97, 61, 42, 180, 0, 9, 28, 46, 62, 42, 180, 0, 9, 28, 4, 96, 46, 54, 4, 42, 29]
abbrev dktX7_live_0 : List UInt8 := dkwX7_live_0 ++ dktX7_live_1
theorem dksX7_live_0 : cX7_live.data.toList.drop 0 = dktX7_live_0 := by decide +kernel
theorem dksX7_live_1 : cX7_live.data.toList.drop 24 = dktX7_live_1 := dk_seg dksX7_live_0 24 rfl rfl
theorem dksX7_live_2 : cX7_live.data.toList.drop 46 = dktX7_live_2 := dk_seg dksX7_live_1 22 rfl rfl
theorem dksX7_live_3 : cX7_live.data.toList.drop 70 = dktX7_live_3 := dk_seg dksX7_live_2 24 rfl rfl
theorem dksX7_live_4 : cX7_live.data.toList.drop 92 = dktX7_live_4 := dk_seg dksX7_live_3 22 rfl rfl
theorem dksX7_live_5 : cX7_live.data.toList.drop 115 = dktX7_live_5 := dk_seg dksX7_live_4 23 rfl rfl
theorem dksX7_live_6 : cX7_live.data.toList.drop 137 = dktX7_live_6 := dk_seg dksX7_live_5 22 rfl rfl
theorem dksX7_live_7 : cX7_live.data.toList.drop 161 = dktX7_live_7 := dk_seg dksX7_live_6 24 rfl rfl
theorem dksX7_live_8 : cX7_live.data.toList.drop 185 = dktX7_live_8 := dk_seg dksX7_live_7 24 rfl rfl
theorem dksX7_live_9 : cX7_live.data.toList.drop 209 = dktX7_live_9 := dk_seg dksX7_live_8 24 rfl rfl
theorem dX7_live_0 : decode cX7_live 0 = .ok (.iload_n 1, 1) := dk_27 (dk_at dksX7_live_0 0 rfl rfl)
theorem dX7_live_1 : decode cX7_live 1 = .ok (.invokestatic 97, 3) := dk_184 0 97 (dk_at dksX7_live_0 1 rfl rfl)
theorem dX7_live_4 : decode cX7_live 4 = .ok (.istore_n 2, 1) := dk_61 (dk_at dksX7_live_0 4 rfl rfl)
theorem dX7_live_5 : decode cX7_live 5 = .ok (.aload_n 0, 1) := dk_42 (dk_at dksX7_live_0 5 rfl rfl)
theorem dX7_live_6 : decode cX7_live 6 = .ok (.getfield 9, 3) := dk_180 0 9 (dk_at dksX7_live_0 6 rfl rfl)
theorem dX7_live_9 : decode cX7_live 9 = .ok (.iload_n 2, 1) := dk_28 (dk_at dksX7_live_0 9 rfl rfl)
theorem dX7_live_10 : decode cX7_live 10 = .ok (.iaload, 1) := dk_46 (dk_at dksX7_live_0 10 rfl rfl)
theorem dX7_live_11 : decode cX7_live 11 = .ok (.istore_n 3, 1) := dk_62 (dk_at dksX7_live_0 11 rfl rfl)
theorem dX7_live_12 : decode cX7_live 12 = .ok (.aload_n 0, 1) := dk_42 (dk_at dksX7_live_0 12 rfl rfl)
theorem dX7_live_13 : decode cX7_live 13 = .ok (.getfield 9, 3) := dk_180 0 9 (dk_at dksX7_live_0 13 rfl rfl)
theorem dX7_live_16 : decode cX7_live 16 = .ok (.iload_n 2, 1) := dk_28 (dk_at dksX7_live_0 16 rfl rfl)
theorem dX7_live_17 : decode cX7_live 17 = .ok (.iconst 1, 1) := dk_4 (dk_at dksX7_live_0 17 rfl rfl)
theorem dX7_live_18 : decode cX7_live 18 = .ok (.iadd, 1) := dk_96 (dk_at dksX7_live_0 18 rfl rfl)
theorem dX7_live_19 : decode cX7_live 19 = .ok (.iaload, 1) := dk_46 (dk_at dksX7_live_0 19 rfl rfl)
theorem dX7_live_20 : decode cX7_live 20 = .ok (.istore 4, 2) := dk_54 4 (dk_at dksX7_live_0 20 rfl rfl)
theorem dX7_live_22 : decode cX7_live 22 = .ok (.aload_n 0, 1) := dk_42 (dk_at dksX7_live_0 22 rfl rfl)
theorem dX7_live_23 : decode cX7_live 23 = .ok (.iload_n 3, 1) := dk_29 (dk_at dksX7_live_0 23 rfl rfl)
theorem dX7_live_24 : decode cX7_live 24 = .ok (.bipush 9, 2) := dk_16 9 (dk_at dksX7_live_1 0 rfl rfl)
theorem dX7_live_26 : decode cX7_live 26 = .ok (.invokevirtual 62, 3) := dk_182 0 62 (dk_at dksX7_live_1 2 rfl rfl)
theorem dX7_live_29 : decode cX7_live 29 = .ok (.iconst 1, 1) := dk_4 (dk_at dksX7_live_1 5 rfl rfl)
theorem dX7_live_30 : decode cX7_live 30 = .ok (.if_icmp .ne 65, 3) := dk_160 0 65 (dk_at dksX7_live_1 6 rfl rfl)
theorem dX7_live_33 : decode cX7_live 33 = .ok (.iload_n 3, 1) := dk_29 (dk_at dksX7_live_1 9 rfl rfl)
theorem dX7_live_34 : decode cX7_live 34 = .ok (.aload_n 0, 1) := dk_42 (dk_at dksX7_live_1 10 rfl rfl)
theorem dX7_live_35 : decode cX7_live 35 = .ok (.getfield 9, 3) := dk_180 0 9 (dk_at dksX7_live_1 11 rfl rfl)
theorem dX7_live_38 : decode cX7_live 38 = .ok (.iconst 0, 1) := dk_3 (dk_at dksX7_live_1 14 rfl rfl)
theorem dX7_live_39 : decode cX7_live 39 = .ok (.iaload, 1) := dk_46 (dk_at dksX7_live_1 15 rfl rfl)
theorem dX7_live_40 : decode cX7_live 40 = .ok (.iconst 1, 1) := dk_4 (dk_at dksX7_live_1 16 rfl rfl)
theorem dX7_live_41 : decode cX7_live 41 = .ok (.isub, 1) := dk_100 (dk_at dksX7_live_1 17 rfl rfl)
theorem dX7_live_42 : decode cX7_live 42 = .ok (.if_icmp .ne 7, 3) := dk_160 0 7 (dk_at dksX7_live_1 18 rfl rfl)
theorem dX7_live_45 : decode cX7_live 45 = .ok (.iconst 1, 1) := dk_4 (dk_at dksX7_live_1 21 rfl rfl)
theorem dX7_live_46 : decode cX7_live 46 = .ok (.goto 4, 3) := dk_167 0 4 (dk_at dksX7_live_2 0 rfl rfl)
theorem dX7_live_49 : decode cX7_live 49 = .ok (.iconst 0, 1) := dk_3 (dk_at dksX7_live_2 3 rfl rfl)
theorem dX7_live_50 : decode cX7_live 50 = .ok (.istore 5, 2) := dk_54 5 (dk_at dksX7_live_2 4 rfl rfl)
theorem dX7_live_52 : decode cX7_live 52 = .ok (.aload_n 0, 1) := dk_42 (dk_at dksX7_live_2 6 rfl rfl)
theorem dX7_live_53 : decode cX7_live 53 = .ok (.iload_n 1, 1) := dk_27 (dk_at dksX7_live_2 7 rfl rfl)
theorem dX7_live_54 : decode cX7_live 54 = .ok (.iload 5, 2) := dk_21 5 (dk_at dksX7_live_2 8 rfl rfl)
theorem dX7_live_56 : decode cX7_live 56 = .ok (.ifCond .eq 8, 3) := dk_153 0 8 (dk_at dksX7_live_2 10 rfl rfl)
theorem dX7_live_59 : decode cX7_live 59 = .ok (.iload 4, 2) := dk_21 4 (dk_at dksX7_live_2 13 rfl rfl)
theorem dX7_live_61 : decode cX7_live 61 = .ok (.goto 9, 3) := dk_167 0 9 (dk_at dksX7_live_2 15 rfl rfl)
theorem dX7_live_64 : decode cX7_live 64 = .ok (.iload 4, 2) := dk_21 4 (dk_at dksX7_live_2 18 rfl rfl)
theorem dX7_live_66 : decode cX7_live 66 = .ok (.iconst 1, 1) := dk_4 (dk_at dksX7_live_2 20 rfl rfl)
theorem dX7_live_67 : decode cX7_live 67 = .ok (.iadd, 1) := dk_96 (dk_at dksX7_live_2 21 rfl rfl)
theorem dX7_live_68 : decode cX7_live 68 = .ok (.iconst 2, 1) := dk_5 (dk_at dksX7_live_2 22 rfl rfl)
theorem dX7_live_69 : decode cX7_live 69 = .ok (.idiv, 1) := dk_108 (dk_at dksX7_live_2 23 rfl rfl)
theorem dX7_live_70 : decode cX7_live 70 = .ok (.invokevirtual 119, 3) := dk_182 0 119 (dk_at dksX7_live_3 0 rfl rfl)
theorem dX7_live_73 : decode cX7_live 73 = .ok (.aload_n 0, 1) := dk_42 (dk_at dksX7_live_3 3 rfl rfl)
theorem dX7_live_74 : decode cX7_live 74 = .ok (.getfield 9, 3) := dk_180 0 9 (dk_at dksX7_live_3 4 rfl rfl)
theorem dX7_live_77 : decode cX7_live 77 = .ok (.iload_n 2, 1) := dk_28 (dk_at dksX7_live_3 7 rfl rfl)
theorem dX7_live_78 : decode cX7_live 78 = .ok (.dup2, 1) := dk_92 (dk_at dksX7_live_3 8 rfl rfl)
theorem dX7_live_79 : decode cX7_live 79 = .ok (.iaload, 1) := dk_46 (dk_at dksX7_live_3 9 rfl rfl)
theorem dX7_live_80 : decode cX7_live 80 = .ok (.iload 5, 2) := dk_21 5 (dk_at dksX7_live_3 10 rfl rfl)
theorem dX7_live_82 : decode cX7_live 82 = .ok (.ifCond .eq 7, 3) := dk_153 0 7 (dk_at dksX7_live_3 12 rfl rfl)
theorem dX7_live_85 : decode cX7_live 85 = .ok (.iconst 0, 1) := dk_3 (dk_at dksX7_live_3 15 rfl rfl)
theorem dX7_live_86 : decode cX7_live 86 = .ok (.goto 4, 3) := dk_167 0 4 (dk_at dksX7_live_3 16 rfl rfl)
theorem dX7_live_89 : decode cX7_live 89 = .ok (.iconst 1, 1) := dk_4 (dk_at dksX7_live_3 19 rfl rfl)
theorem dX7_live_90 : decode cX7_live 90 = .ok (.iadd, 1) := dk_96 (dk_at dksX7_live_3 20 rfl rfl)
theorem dX7_live_91 : decode cX7_live 91 = .ok (.iastore, 1) := dk_79 (dk_at dksX7_live_3 21 rfl rfl)
theorem dX7_live_92 : decode cX7_live 92 = .ok (.goto 32, 3) := dk_167 0 32 (dk_at dksX7_live_4 0 rfl rfl)
theorem dX7_live_95 : decode cX7_live 95 = .ok (.iconst 2, 1) := dk_5 (dk_at dksX7_live_4 3 rfl rfl)
theorem dX7_live_96 : decode cX7_live 96 = .ok (.aload_n 0, 1) := dk_42 (dk_at dksX7_live_4 4 rfl rfl)
theorem dX7_live_97 : decode cX7_live 97 = .ok (.iload_n 3, 1) := dk_29 (dk_at dksX7_live_4 5 rfl rfl)
theorem dX7_live_98 : decode cX7_live 98 = .ok (.invokevirtual 94, 3) := dk_182 0 94 (dk_at dksX7_live_4 6 rfl rfl)
theorem dX7_live_101 : decode cX7_live 101 = .ok (.imul, 1) := dk_104 (dk_at dksX7_live_4 9 rfl rfl)
theorem dX7_live_102 : decode cX7_live 102 = .ok (.aload_n 0, 1) := dk_42 (dk_at dksX7_live_4 10 rfl rfl)
theorem dX7_live_103 : decode cX7_live 103 = .ok (.getfield 9, 3) := dk_180 0 9 (dk_at dksX7_live_4 11 rfl rfl)
theorem dX7_live_106 : decode cX7_live 106 = .ok (.iload_n 2, 1) := dk_28 (dk_at dksX7_live_4 14 rfl rfl)
theorem dX7_live_107 : decode cX7_live 107 = .ok (.iconst 3, 1) := dk_6 (dk_at dksX7_live_4 15 rfl rfl)
theorem dX7_live_108 : decode cX7_live 108 = .ok (.iadd, 1) := dk_96 (dk_at dksX7_live_4 16 rfl rfl)
theorem dX7_live_109 : decode cX7_live 109 = .ok (.iaload, 1) := dk_46 (dk_at dksX7_live_4 17 rfl rfl)
theorem dX7_live_110 : decode cX7_live 110 = .ok (.if_icmp .ge 14, 3) := dk_162 0 14 (dk_at dksX7_live_4 18 rfl rfl)
theorem dX7_live_113 : decode cX7_live 113 = .ok (.aload_n 0, 1) := dk_42 (dk_at dksX7_live_4 21 rfl rfl)
theorem dX7_live_114 : decode cX7_live 114 = .ok (.iload_n 1, 1) := dk_27 (dk_at dksX7_live_4 22 rfl rfl)
theorem dX7_live_115 : decode cX7_live 115 = .ok (.iload 4, 2) := dk_21 4 (dk_at dksX7_live_5 0 rfl rfl)
theorem dX7_live_117 : decode cX7_live 117 = .ok (.iconst 3, 1) := dk_6 (dk_at dksX7_live_5 2 rfl rfl)
theorem dX7_live_118 : decode cX7_live 118 = .ok (.iadd, 1) := dk_96 (dk_at dksX7_live_5 3 rfl rfl)
theorem dX7_live_119 : decode cX7_live 119 = .ok (.iconst 4, 1) := dk_7 (dk_at dksX7_live_5 4 rfl rfl)
theorem dX7_live_120 : decode cX7_live 120 = .ok (.idiv, 1) := dk_108 (dk_at dksX7_live_5 5 rfl rfl)
theorem dX7_live_121 : decode cX7_live 121 = .ok (.invokevirtual 119, 3) := dk_182 0 119 (dk_at dksX7_live_5 6 rfl rfl)
theorem dX7_live_124 : decode cX7_live 124 = .ok (.aload_n 0, 1) := dk_42 (dk_at dksX7_live_5 9 rfl rfl)
theorem dX7_live_125 : decode cX7_live 125 = .ok (.getfield 9, 3) := dk_180 0 9 (dk_at dksX7_live_5 10 rfl rfl)
theorem dX7_live_128 : decode cX7_live 128 = .ok (.iload_n 2, 1) := dk_28 (dk_at dksX7_live_5 13 rfl rfl)
theorem dX7_live_129 : decode cX7_live 129 = .ok (.iconst 2, 1) := dk_5 (dk_at dksX7_live_5 14 rfl rfl)
theorem dX7_live_130 : decode cX7_live 130 = .ok (.iadd, 1) := dk_96 (dk_at dksX7_live_5 15 rfl rfl)
theorem dX7_live_131 : decode cX7_live 131 = .ok (.dup2, 1) := dk_92 (dk_at dksX7_live_5 16 rfl rfl)
theorem dX7_live_132 : decode cX7_live 132 = .ok (.iaload, 1) := dk_46 (dk_at dksX7_live_5 17 rfl rfl)
theorem dX7_live_133 : decode cX7_live 133 = .ok (.iconst 1, 1) := dk_4 (dk_at dksX7_live_5 18 rfl rfl)
theorem dX7_live_134 : decode cX7_live 134 = .ok (.iadd, 1) := dk_96 (dk_at dksX7_live_5 19 rfl rfl)
theorem dX7_live_135 : decode cX7_live 135 = .ok (.iastore, 1) := dk_79 (dk_at dksX7_live_5 20 rfl rfl)
theorem dX7_live_136 : decode cX7_live 136 = .ok (.aload_n 0, 1) := dk_42 (dk_at dksX7_live_5 21 rfl rfl)
theorem dX7_live_137 : decode cX7_live 137 = .ok (.getfield 9, 3) := dk_180 0 9 (dk_at dksX7_live_6 0 rfl rfl)
theorem dX7_live_140 : decode cX7_live 140 = .ok (.iload_n 2, 1) := dk_28 (dk_at dksX7_live_6 3 rfl rfl)
theorem dX7_live_141 : decode cX7_live 141 = .ok (.iconst 2, 1) := dk_5 (dk_at dksX7_live_6 4 rfl rfl)
theorem dX7_live_142 : decode cX7_live 142 = .ok (.iadd, 1) := dk_96 (dk_at dksX7_live_6 5 rfl rfl)
theorem dX7_live_143 : decode cX7_live 143 = .ok (.iaload, 1) := dk_46 (dk_at dksX7_live_6 6 rfl rfl)
theorem dX7_live_144 : decode cX7_live 144 = .ok (.iconst 5, 1) := dk_8 (dk_at dksX7_live_6 7 rfl rfl)
theorem dX7_live_145 : decode cX7_live 145 = .ok (.if_icmp .ne 72, 3) := dk_160 0 72 (dk_at dksX7_live_6 8 rfl rfl)
theorem dX7_live_148 : decode cX7_live 148 = .ok (.aload_n 0, 1) := dk_42 (dk_at dksX7_live_6 11 rfl rfl)
theorem dX7_live_149 : decode cX7_live 149 = .ok (.getfield 9, 3) := dk_180 0 9 (dk_at dksX7_live_6 12 rfl rfl)
theorem dX7_live_152 : decode cX7_live 152 = .ok (.iload_n 2, 1) := dk_28 (dk_at dksX7_live_6 15 rfl rfl)
theorem dX7_live_153 : decode cX7_live 153 = .ok (.iaload, 1) := dk_46 (dk_at dksX7_live_6 16 rfl rfl)
theorem dX7_live_154 : decode cX7_live 154 = .ok (.invokestatic 58, 3) := dk_184 0 58 (dk_at dksX7_live_6 17 rfl rfl)
theorem dX7_live_157 : decode cX7_live 157 = .ok (.iconst 5, 1) := dk_8 (dk_at dksX7_live_6 20 rfl rfl)
theorem dX7_live_158 : decode cX7_live 158 = .ok (.iadd, 1) := dk_96 (dk_at dksX7_live_6 21 rfl rfl)
theorem dX7_live_159 : decode cX7_live 159 = .ok (.istore 5, 2) := dk_54 5 (dk_at dksX7_live_6 22 rfl rfl)
theorem dX7_live_161 : decode cX7_live 161 = .ok (.aload_n 0, 1) := dk_42 (dk_at dksX7_live_7 0 rfl rfl)
theorem dX7_live_162 : decode cX7_live 162 = .ok (.getfield 9, 3) := dk_180 0 9 (dk_at dksX7_live_7 1 rfl rfl)
theorem dX7_live_165 : decode cX7_live 165 = .ok (.bipush 10, 2) := dk_16 10 (dk_at dksX7_live_7 4 rfl rfl)
theorem dX7_live_167 : decode cX7_live 167 = .ok (.dup2, 1) := dk_92 (dk_at dksX7_live_7 6 rfl rfl)
theorem dX7_live_168 : decode cX7_live 168 = .ok (.iaload, 1) := dk_46 (dk_at dksX7_live_7 7 rfl rfl)
theorem dX7_live_169 : decode cX7_live 169 = .ok (.aload_n 0, 1) := dk_42 (dk_at dksX7_live_7 8 rfl rfl)
theorem dX7_live_170 : decode cX7_live 170 = .ok (.getfield 9, 3) := dk_180 0 9 (dk_at dksX7_live_7 9 rfl rfl)
theorem dX7_live_173 : decode cX7_live 173 = .ok (.iload_n 2, 1) := dk_28 (dk_at dksX7_live_7 12 rfl rfl)
theorem dX7_live_174 : decode cX7_live 174 = .ok (.iconst 1, 1) := dk_4 (dk_at dksX7_live_7 13 rfl rfl)
theorem dX7_live_175 : decode cX7_live 175 = .ok (.iadd, 1) := dk_96 (dk_at dksX7_live_7 14 rfl rfl)
theorem dX7_live_176 : decode cX7_live 176 = .ok (.iaload, 1) := dk_46 (dk_at dksX7_live_7 15 rfl rfl)
theorem dX7_live_177 : decode cX7_live 177 = .ok (.iadd, 1) := dk_96 (dk_at dksX7_live_7 16 rfl rfl)
theorem dX7_live_178 : decode cX7_live 178 = .ok (.iastore, 1) := dk_79 (dk_at dksX7_live_7 17 rfl rfl)
theorem dX7_live_179 : decode cX7_live 179 = .ok (.aload_n 0, 1) := dk_42 (dk_at dksX7_live_7 18 rfl rfl)
theorem dX7_live_180 : decode cX7_live 180 = .ok (.getfield 9, 3) := dk_180 0 9 (dk_at dksX7_live_7 19 rfl rfl)
theorem dX7_live_183 : decode cX7_live 183 = .ok (.iload 5, 2) := dk_21 5 (dk_at dksX7_live_7 22 rfl rfl)
theorem dX7_live_185 : decode cX7_live 185 = .ok (.sipush 999, 3) := dk_17 3 231 (dk_at dksX7_live_8 0 rfl rfl)
theorem dX7_live_188 : decode cX7_live 188 = .ok (.aload_n 0, 1) := dk_42 (dk_at dksX7_live_8 3 rfl rfl)
theorem dX7_live_189 : decode cX7_live 189 = .ok (.getfield 9, 3) := dk_180 0 9 (dk_at dksX7_live_8 4 rfl rfl)
theorem dX7_live_192 : decode cX7_live 192 = .ok (.iload 5, 2) := dk_21 5 (dk_at dksX7_live_8 7 rfl rfl)
theorem dX7_live_194 : decode cX7_live 194 = .ok (.iaload, 1) := dk_46 (dk_at dksX7_live_8 9 rfl rfl)
theorem dX7_live_195 : decode cX7_live 195 = .ok (.aload_n 0, 1) := dk_42 (dk_at dksX7_live_8 10 rfl rfl)
theorem dX7_live_196 : decode cX7_live 196 = .ok (.getfield 9, 3) := dk_180 0 9 (dk_at dksX7_live_8 11 rfl rfl)
theorem dX7_live_199 : decode cX7_live 199 = .ok (.iload_n 2, 1) := dk_28 (dk_at dksX7_live_8 14 rfl rfl)
theorem dX7_live_200 : decode cX7_live 200 = .ok (.iconst 1, 1) := dk_4 (dk_at dksX7_live_8 15 rfl rfl)
theorem dX7_live_201 : decode cX7_live 201 = .ok (.iadd, 1) := dk_96 (dk_at dksX7_live_8 16 rfl rfl)
theorem dX7_live_202 : decode cX7_live 202 = .ok (.iaload, 1) := dk_46 (dk_at dksX7_live_8 17 rfl rfl)
theorem dX7_live_203 : decode cX7_live 203 = .ok (.iadd, 1) := dk_96 (dk_at dksX7_live_8 18 rfl rfl)
theorem dX7_live_204 : decode cX7_live 204 = .ok (.invokestatic 70, 3) := dk_184 0 70 (dk_at dksX7_live_8 19 rfl rfl)
theorem dX7_live_207 : decode cX7_live 207 = .ok (.iastore, 1) := dk_79 (dk_at dksX7_live_8 22 rfl rfl)
theorem dX7_live_208 : decode cX7_live 208 = .ok (.aload_n 0, 1) := dk_42 (dk_at dksX7_live_8 23 rfl rfl)
theorem dX7_live_209 : decode cX7_live 209 = .ok (.getfield 9, 3) := dk_180 0 9 (dk_at dksX7_live_9 0 rfl rfl)
theorem dX7_live_212 : decode cX7_live 212 = .ok (.iload_n 2, 1) := dk_28 (dk_at dksX7_live_9 3 rfl rfl)
theorem dX7_live_213 : decode cX7_live 213 = .ok (.iconst 1, 1) := dk_4 (dk_at dksX7_live_9 4 rfl rfl)
theorem dX7_live_214 : decode cX7_live 214 = .ok (.iadd, 1) := dk_96 (dk_at dksX7_live_9 5 rfl rfl)
theorem dX7_live_215 : decode cX7_live 215 = .ok (.iconst 0, 1) := dk_3 (dk_at dksX7_live_9 6 rfl rfl)
theorem dX7_live_216 : decode cX7_live 216 = .ok (.iastore, 1) := dk_79 (dk_at dksX7_live_9 7 rfl rfl)
theorem dX7_live_217 : decode cX7_live 217 = .ok (.return_, 1) := dk_177 (dk_at dksX7_live_9 8 rfl rfl)
def dkwX7_lose_1 : List UInt8 := [96, 79, 177]
abbrev dktX7_lose_1 : List UInt8 := dkwX7_lose_1 ++ []
def dkwX7_lose_0 : List UInt8 := [42, 180, 0, 9, 27, 184, 0, 97, 4, 96, 92, 46, 28, 100, 79, 42, 180, 0, 9, 16, 11, 92, 46, 28]
abbrev dktX7_lose_0 : List UInt8 := dkwX7_lose_0 ++ dktX7_lose_1
theorem dksX7_lose_0 : cX7_lose.data.toList.drop 0 = dktX7_lose_0 := by decide +kernel
theorem dksX7_lose_1 : cX7_lose.data.toList.drop 24 = dktX7_lose_1 := dk_seg dksX7_lose_0 24 rfl rfl
theorem dX7_lose_0 : decode cX7_lose 0 = .ok (.aload_n 0, 1) := dk_42 (dk_at dksX7_lose_0 0 rfl rfl)
theorem dX7_lose_1 : decode cX7_lose 1 = .ok (.getfield 9, 3) := dk_180 0 9 (dk_at dksX7_lose_0 1 rfl rfl)
theorem dX7_lose_4 : decode cX7_lose 4 = .ok (.iload_n 1, 1) := dk_27 (dk_at dksX7_lose_0 4 rfl rfl)
theorem dX7_lose_5 : decode cX7_lose 5 = .ok (.invokestatic 97, 3) := dk_184 0 97 (dk_at dksX7_lose_0 5 rfl rfl)
theorem dX7_lose_8 : decode cX7_lose 8 = .ok (.iconst 1, 1) := dk_4 (dk_at dksX7_lose_0 8 rfl rfl)
theorem dX7_lose_9 : decode cX7_lose 9 = .ok (.iadd, 1) := dk_96 (dk_at dksX7_lose_0 9 rfl rfl)
theorem dX7_lose_10 : decode cX7_lose 10 = .ok (.dup2, 1) := dk_92 (dk_at dksX7_lose_0 10 rfl rfl)
theorem dX7_lose_11 : decode cX7_lose 11 = .ok (.iaload, 1) := dk_46 (dk_at dksX7_lose_0 11 rfl rfl)
theorem dX7_lose_12 : decode cX7_lose 12 = .ok (.iload_n 2, 1) := dk_28 (dk_at dksX7_lose_0 12 rfl rfl)
theorem dX7_lose_13 : decode cX7_lose 13 = .ok (.isub, 1) := dk_100 (dk_at dksX7_lose_0 13 rfl rfl)
theorem dX7_lose_14 : decode cX7_lose 14 = .ok (.iastore, 1) := dk_79 (dk_at dksX7_lose_0 14 rfl rfl)
theorem dX7_lose_15 : decode cX7_lose 15 = .ok (.aload_n 0, 1) := dk_42 (dk_at dksX7_lose_0 15 rfl rfl)
theorem dX7_lose_16 : decode cX7_lose 16 = .ok (.getfield 9, 3) := dk_180 0 9 (dk_at dksX7_lose_0 16 rfl rfl)
theorem dX7_lose_19 : decode cX7_lose 19 = .ok (.bipush 11, 2) := dk_16 11 (dk_at dksX7_lose_0 19 rfl rfl)
theorem dX7_lose_21 : decode cX7_lose 21 = .ok (.dup2, 1) := dk_92 (dk_at dksX7_lose_0 21 rfl rfl)
theorem dX7_lose_22 : decode cX7_lose 22 = .ok (.iaload, 1) := dk_46 (dk_at dksX7_lose_0 22 rfl rfl)
theorem dX7_lose_23 : decode cX7_lose 23 = .ok (.iload_n 2, 1) := dk_28 (dk_at dksX7_lose_0 23 rfl rfl)
theorem dX7_lose_24 : decode cX7_lose 24 = .ok (.iadd, 1) := dk_96 (dk_at dksX7_lose_1 0 rfl rfl)
theorem dX7_lose_25 : decode cX7_lose 25 = .ok (.iastore, 1) := dk_79 (dk_at dksX7_lose_1 1 rfl rfl)
theorem dX7_lose_26 : decode cX7_lose 26 = .ok (.return_, 1) := dk_177 (dk_at dksX7_lose_1 2 rfl rfl)
def dkwX7_night_4 : List UInt8 := [27, 153, 0, 7, 4, 167, 0, 4, 3, 96, 79, 177]
abbrev dktX7_night_4 : List UInt8 := dkwX7_night_4 ++ []
def dkwX7_night_3 : List UInt8 := [29, 154, 0, 7, 4, 167, 0, 4, 3, 60, 132, 2, 1, 167, 255, 175, 42, 180, 0, 9, 16, 8, 92, 46]
abbrev dktX7_night_3 : List UInt8 := dkwX7_night_3 ++ dktX7_night_4
def dkwX7_night_2 : List UInt8 := [180, 0, 9, 28, 184, 0, 58, 16, 10, 96, 29, 153, 0, 7, 4, 167, 0, 4, 3, 79, 27, 153, 0, 11]
abbrev dktX7_night_2 : List UInt8 := dkwX7_night_2 ++ dktX7_night_3
def dkwX7_night_1 : List UInt8 := [28, 182, 0, 94, 5, 42, 28, 4, 182, 0, 62, 184, 0, 54, 153, 0, 7, 4, 167, 0, 4, 3, 62, 42]
abbrev dktX7_night_1 : List UInt8 := dkwX7_night_1 ++ dktX7_night_2
def dkwX7_night_0 : List UInt8 := [4, 60, 3, 61, 28, 42, 180, 0, 9, 3, 46, 162, 0, 77, 42, 28, 8, 182, 0, 62, 158, 0, 25, 42]
abbrev dktX7_night_0 : List UInt8 := dkwX7_night_0 ++ dktX7_night_1
theorem dksX7_night_0 : cX7_night.data.toList.drop 0 = dktX7_night_0 := by decide +kernel
theorem dksX7_night_1 : cX7_night.data.toList.drop 24 = dktX7_night_1 := dk_seg dksX7_night_0 24 rfl rfl
theorem dksX7_night_2 : cX7_night.data.toList.drop 48 = dktX7_night_2 := dk_seg dksX7_night_1 24 rfl rfl
theorem dksX7_night_3 : cX7_night.data.toList.drop 72 = dktX7_night_3 := dk_seg dksX7_night_2 24 rfl rfl
theorem dksX7_night_4 : cX7_night.data.toList.drop 96 = dktX7_night_4 := dk_seg dksX7_night_3 24 rfl rfl
theorem dX7_night_0 : decode cX7_night 0 = .ok (.iconst 1, 1) := dk_4 (dk_at dksX7_night_0 0 rfl rfl)
theorem dX7_night_1 : decode cX7_night 1 = .ok (.istore_n 1, 1) := dk_60 (dk_at dksX7_night_0 1 rfl rfl)
theorem dX7_night_2 : decode cX7_night 2 = .ok (.iconst 0, 1) := dk_3 (dk_at dksX7_night_0 2 rfl rfl)
theorem dX7_night_3 : decode cX7_night 3 = .ok (.istore_n 2, 1) := dk_61 (dk_at dksX7_night_0 3 rfl rfl)
theorem dX7_night_4 : decode cX7_night 4 = .ok (.iload_n 2, 1) := dk_28 (dk_at dksX7_night_0 4 rfl rfl)
theorem dX7_night_5 : decode cX7_night 5 = .ok (.aload_n 0, 1) := dk_42 (dk_at dksX7_night_0 5 rfl rfl)
theorem dX7_night_6 : decode cX7_night 6 = .ok (.getfield 9, 3) := dk_180 0 9 (dk_at dksX7_night_0 6 rfl rfl)
theorem dX7_night_9 : decode cX7_night 9 = .ok (.iconst 0, 1) := dk_3 (dk_at dksX7_night_0 9 rfl rfl)
theorem dX7_night_10 : decode cX7_night 10 = .ok (.iaload, 1) := dk_46 (dk_at dksX7_night_0 10 rfl rfl)
theorem dX7_night_11 : decode cX7_night 11 = .ok (.if_icmp .ge 77, 3) := dk_162 0 77 (dk_at dksX7_night_0 11 rfl rfl)
theorem dX7_night_14 : decode cX7_night 14 = .ok (.aload_n 0, 1) := dk_42 (dk_at dksX7_night_0 14 rfl rfl)
theorem dX7_night_15 : decode cX7_night 15 = .ok (.iload_n 2, 1) := dk_28 (dk_at dksX7_night_0 15 rfl rfl)
theorem dX7_night_16 : decode cX7_night 16 = .ok (.iconst 5, 1) := dk_8 (dk_at dksX7_night_0 16 rfl rfl)
theorem dX7_night_17 : decode cX7_night 17 = .ok (.invokevirtual 62, 3) := dk_182 0 62 (dk_at dksX7_night_0 17 rfl rfl)
theorem dX7_night_20 : decode cX7_night 20 = .ok (.ifCond .le 25, 3) := dk_158 0 25 (dk_at dksX7_night_0 20 rfl rfl)
theorem dX7_night_23 : decode cX7_night 23 = .ok (.aload_n 0, 1) := dk_42 (dk_at dksX7_night_0 23 rfl rfl)
theorem dX7_night_24 : decode cX7_night 24 = .ok (.iload_n 2, 1) := dk_28 (dk_at dksX7_night_1 0 rfl rfl)
theorem dX7_night_25 : decode cX7_night 25 = .ok (.invokevirtual 94, 3) := dk_182 0 94 (dk_at dksX7_night_1 1 rfl rfl)
theorem dX7_night_28 : decode cX7_night 28 = .ok (.iconst 2, 1) := dk_5 (dk_at dksX7_night_1 4 rfl rfl)
theorem dX7_night_29 : decode cX7_night 29 = .ok (.aload_n 0, 1) := dk_42 (dk_at dksX7_night_1 5 rfl rfl)
theorem dX7_night_30 : decode cX7_night 30 = .ok (.iload_n 2, 1) := dk_28 (dk_at dksX7_night_1 6 rfl rfl)
theorem dX7_night_31 : decode cX7_night 31 = .ok (.iconst 1, 1) := dk_4 (dk_at dksX7_night_1 7 rfl rfl)
theorem dX7_night_32 : decode cX7_night 32 = .ok (.invokevirtual 62, 3) := dk_182 0 62 (dk_at dksX7_night_1 8 rfl rfl)
theorem dX7_night_35 : decode cX7_night 35 = .ok (.invokestatic 54, 3) := dk_184 0 54 (dk_at dksX7_night_1 11 rfl rfl)
theorem dX7_night_38 : decode cX7_night 38 = .ok (.ifCond .eq 7, 3) := dk_153 0 7 (dk_at dksX7_night_1 14 rfl rfl)
theorem dX7_night_41 : decode cX7_night 41 = .ok (.iconst 1, 1) := dk_4 (dk_at dksX7_night_1 17 rfl rfl)
theorem dX7_night_42 : decode cX7_night 42 = .ok (.goto 4, 3) := dk_167 0 4 (dk_at dksX7_night_1 18 rfl rfl)
theorem dX7_night_45 : decode cX7_night 45 = .ok (.iconst 0, 1) := dk_3 (dk_at dksX7_night_1 21 rfl rfl)
theorem dX7_night_46 : decode cX7_night 46 = .ok (.istore_n 3, 1) := dk_62 (dk_at dksX7_night_1 22 rfl rfl)
theorem dX7_night_47 : decode cX7_night 47 = .ok (.aload_n 0, 1) := dk_42 (dk_at dksX7_night_1 23 rfl rfl)
theorem dX7_night_48 : decode cX7_night 48 = .ok (.getfield 9, 3) := dk_180 0 9 (dk_at dksX7_night_2 0 rfl rfl)
theorem dX7_night_51 : decode cX7_night 51 = .ok (.iload_n 2, 1) := dk_28 (dk_at dksX7_night_2 3 rfl rfl)
theorem dX7_night_52 : decode cX7_night 52 = .ok (.invokestatic 58, 3) := dk_184 0 58 (dk_at dksX7_night_2 4 rfl rfl)
theorem dX7_night_55 : decode cX7_night 55 = .ok (.bipush 10, 2) := dk_16 10 (dk_at dksX7_night_2 7 rfl rfl)
theorem dX7_night_57 : decode cX7_night 57 = .ok (.iadd, 1) := dk_96 (dk_at dksX7_night_2 9 rfl rfl)
theorem dX7_night_58 : decode cX7_night 58 = .ok (.iload_n 3, 1) := dk_29 (dk_at dksX7_night_2 10 rfl rfl)
theorem dX7_night_59 : decode cX7_night 59 = .ok (.ifCond .eq 7, 3) := dk_153 0 7 (dk_at dksX7_night_2 11 rfl rfl)
theorem dX7_night_62 : decode cX7_night 62 = .ok (.iconst 1, 1) := dk_4 (dk_at dksX7_night_2 14 rfl rfl)
theorem dX7_night_63 : decode cX7_night 63 = .ok (.goto 4, 3) := dk_167 0 4 (dk_at dksX7_night_2 15 rfl rfl)
theorem dX7_night_66 : decode cX7_night 66 = .ok (.iconst 0, 1) := dk_3 (dk_at dksX7_night_2 18 rfl rfl)
theorem dX7_night_67 : decode cX7_night 67 = .ok (.iastore, 1) := dk_79 (dk_at dksX7_night_2 19 rfl rfl)
theorem dX7_night_68 : decode cX7_night 68 = .ok (.iload_n 1, 1) := dk_27 (dk_at dksX7_night_2 20 rfl rfl)
theorem dX7_night_69 : decode cX7_night 69 = .ok (.ifCond .eq 11, 3) := dk_153 0 11 (dk_at dksX7_night_2 21 rfl rfl)
theorem dX7_night_72 : decode cX7_night 72 = .ok (.iload_n 3, 1) := dk_29 (dk_at dksX7_night_3 0 rfl rfl)
theorem dX7_night_73 : decode cX7_night 73 = .ok (.ifCond .ne 7, 3) := dk_154 0 7 (dk_at dksX7_night_3 1 rfl rfl)
theorem dX7_night_76 : decode cX7_night 76 = .ok (.iconst 1, 1) := dk_4 (dk_at dksX7_night_3 4 rfl rfl)
theorem dX7_night_77 : decode cX7_night 77 = .ok (.goto 4, 3) := dk_167 0 4 (dk_at dksX7_night_3 5 rfl rfl)
theorem dX7_night_80 : decode cX7_night 80 = .ok (.iconst 0, 1) := dk_3 (dk_at dksX7_night_3 8 rfl rfl)
theorem dX7_night_81 : decode cX7_night 81 = .ok (.istore_n 1, 1) := dk_60 (dk_at dksX7_night_3 9 rfl rfl)
theorem dX7_night_82 : decode cX7_night 82 = .ok (.iinc 2 1, 3) := dk_132 2 1 (dk_at dksX7_night_3 10 rfl rfl)
theorem dX7_night_85 : decode cX7_night 85 = .ok (.goto (-81), 3) := dk_167 255 175 (dk_at dksX7_night_3 13 rfl rfl)
theorem dX7_night_88 : decode cX7_night 88 = .ok (.aload_n 0, 1) := dk_42 (dk_at dksX7_night_3 16 rfl rfl)
theorem dX7_night_89 : decode cX7_night 89 = .ok (.getfield 9, 3) := dk_180 0 9 (dk_at dksX7_night_3 17 rfl rfl)
theorem dX7_night_92 : decode cX7_night 92 = .ok (.bipush 8, 2) := dk_16 8 (dk_at dksX7_night_3 20 rfl rfl)
theorem dX7_night_94 : decode cX7_night 94 = .ok (.dup2, 1) := dk_92 (dk_at dksX7_night_3 22 rfl rfl)
theorem dX7_night_95 : decode cX7_night 95 = .ok (.iaload, 1) := dk_46 (dk_at dksX7_night_3 23 rfl rfl)
theorem dX7_night_96 : decode cX7_night 96 = .ok (.iload_n 1, 1) := dk_27 (dk_at dksX7_night_4 0 rfl rfl)
theorem dX7_night_97 : decode cX7_night 97 = .ok (.ifCond .eq 7, 3) := dk_153 0 7 (dk_at dksX7_night_4 1 rfl rfl)
theorem dX7_night_100 : decode cX7_night 100 = .ok (.iconst 1, 1) := dk_4 (dk_at dksX7_night_4 4 rfl rfl)
theorem dX7_night_101 : decode cX7_night 101 = .ok (.goto 4, 3) := dk_167 0 4 (dk_at dksX7_night_4 5 rfl rfl)
theorem dX7_night_104 : decode cX7_night 104 = .ok (.iconst 0, 1) := dk_3 (dk_at dksX7_night_4 8 rfl rfl)
theorem dX7_night_105 : decode cX7_night 105 = .ok (.iadd, 1) := dk_96 (dk_at dksX7_night_4 9 rfl rfl)
theorem dX7_night_106 : decode cX7_night 106 = .ok (.iastore, 1) := dk_79 (dk_at dksX7_night_4 10 rfl rfl)
theorem dX7_night_107 : decode cX7_night 107 = .ok (.return_, 1) := dk_177 (dk_at dksX7_night_4 11 rfl rfl)
def dkwX7_season_2 : List UInt8 := [132, 2, 1, 167, 255, 243, 42, 27, 182, 0, 81, 172]
abbrev dktX7_season_2 : List UInt8 := dkwX7_season_2 ++ []
def dkwX7_season_1 : List UInt8 := [182, 0, 78, 42, 180, 0, 9, 5, 46, 60, 3, 61, 28, 27, 162, 0, 14, 42, 182, 0, 142, 62]
abbrev dktX7_season_1 : List UInt8 := dkwX7_season_1 ++ dktX7_season_2
def dkwX7_season_0 : List UInt8 := [42, 3, 181, 0, 36, 42, 180, 0, 9, 5, 46, 154, 0, 11, 42, 4, 16, 6, 182, 0, 75, 172, 42]
abbrev dktX7_season_0 : List UInt8 := dkwX7_season_0 ++ dktX7_season_1
theorem dksX7_season_0 : cX7_season.data.toList.drop 0 = dktX7_season_0 := by decide +kernel
theorem dksX7_season_1 : cX7_season.data.toList.drop 23 = dktX7_season_1 := dk_seg dksX7_season_0 23 rfl rfl
theorem dksX7_season_2 : cX7_season.data.toList.drop 45 = dktX7_season_2 := dk_seg dksX7_season_1 22 rfl rfl
theorem dX7_season_0 : decode cX7_season 0 = .ok (.aload_n 0, 1) := dk_42 (dk_at dksX7_season_0 0 rfl rfl)
theorem dX7_season_1 : decode cX7_season 1 = .ok (.iconst 0, 1) := dk_3 (dk_at dksX7_season_0 1 rfl rfl)
theorem dX7_season_2 : decode cX7_season 2 = .ok (.putfield 36, 3) := dk_181 0 36 (dk_at dksX7_season_0 2 rfl rfl)
theorem dX7_season_5 : decode cX7_season 5 = .ok (.aload_n 0, 1) := dk_42 (dk_at dksX7_season_0 5 rfl rfl)
theorem dX7_season_6 : decode cX7_season 6 = .ok (.getfield 9, 3) := dk_180 0 9 (dk_at dksX7_season_0 6 rfl rfl)
theorem dX7_season_9 : decode cX7_season 9 = .ok (.iconst 2, 1) := dk_5 (dk_at dksX7_season_0 9 rfl rfl)
theorem dX7_season_10 : decode cX7_season 10 = .ok (.iaload, 1) := dk_46 (dk_at dksX7_season_0 10 rfl rfl)
theorem dX7_season_11 : decode cX7_season 11 = .ok (.ifCond .ne 11, 3) := dk_154 0 11 (dk_at dksX7_season_0 11 rfl rfl)
theorem dX7_season_14 : decode cX7_season 14 = .ok (.aload_n 0, 1) := dk_42 (dk_at dksX7_season_0 14 rfl rfl)
theorem dX7_season_15 : decode cX7_season 15 = .ok (.iconst 1, 1) := dk_4 (dk_at dksX7_season_0 15 rfl rfl)
theorem dX7_season_16 : decode cX7_season 16 = .ok (.bipush 6, 2) := dk_16 6 (dk_at dksX7_season_0 16 rfl rfl)
theorem dX7_season_18 : decode cX7_season 18 = .ok (.invokevirtual 75, 3) := dk_182 0 75 (dk_at dksX7_season_0 18 rfl rfl)
theorem dX7_season_21 : decode cX7_season 21 = .ok (.ireturn, 1) := dk_172 (dk_at dksX7_season_0 21 rfl rfl)
theorem dX7_season_22 : decode cX7_season 22 = .ok (.aload_n 0, 1) := dk_42 (dk_at dksX7_season_0 22 rfl rfl)
theorem dX7_season_23 : decode cX7_season 23 = .ok (.invokevirtual 78, 3) := dk_182 0 78 (dk_at dksX7_season_1 0 rfl rfl)
theorem dX7_season_26 : decode cX7_season 26 = .ok (.aload_n 0, 1) := dk_42 (dk_at dksX7_season_1 3 rfl rfl)
theorem dX7_season_27 : decode cX7_season 27 = .ok (.getfield 9, 3) := dk_180 0 9 (dk_at dksX7_season_1 4 rfl rfl)
theorem dX7_season_30 : decode cX7_season 30 = .ok (.iconst 2, 1) := dk_5 (dk_at dksX7_season_1 7 rfl rfl)
theorem dX7_season_31 : decode cX7_season 31 = .ok (.iaload, 1) := dk_46 (dk_at dksX7_season_1 8 rfl rfl)
theorem dX7_season_32 : decode cX7_season 32 = .ok (.istore_n 1, 1) := dk_60 (dk_at dksX7_season_1 9 rfl rfl)
theorem dX7_season_33 : decode cX7_season 33 = .ok (.iconst 0, 1) := dk_3 (dk_at dksX7_season_1 10 rfl rfl)
theorem dX7_season_34 : decode cX7_season 34 = .ok (.istore_n 2, 1) := dk_61 (dk_at dksX7_season_1 11 rfl rfl)
theorem dX7_season_35 : decode cX7_season 35 = .ok (.iload_n 2, 1) := dk_28 (dk_at dksX7_season_1 12 rfl rfl)
theorem dX7_season_36 : decode cX7_season 36 = .ok (.iload_n 1, 1) := dk_27 (dk_at dksX7_season_1 13 rfl rfl)
theorem dX7_season_37 : decode cX7_season 37 = .ok (.if_icmp .ge 14, 3) := dk_162 0 14 (dk_at dksX7_season_1 14 rfl rfl)
theorem dX7_season_40 : decode cX7_season 40 = .ok (.aload_n 0, 1) := dk_42 (dk_at dksX7_season_1 17 rfl rfl)
theorem dX7_season_41 : decode cX7_season 41 = .ok (.invokevirtual 142, 3) := dk_182 0 142 (dk_at dksX7_season_1 18 rfl rfl)
theorem dX7_season_44 : decode cX7_season 44 = .ok (.istore_n 3, 1) := dk_62 (dk_at dksX7_season_1 21 rfl rfl)
theorem dX7_season_45 : decode cX7_season 45 = .ok (.iinc 2 1, 3) := dk_132 2 1 (dk_at dksX7_season_2 0 rfl rfl)
theorem dX7_season_48 : decode cX7_season 48 = .ok (.goto (-13), 3) := dk_167 255 243 (dk_at dksX7_season_2 3 rfl rfl)
theorem dX7_season_51 : decode cX7_season 51 = .ok (.aload_n 0, 1) := dk_42 (dk_at dksX7_season_2 6 rfl rfl)
theorem dX7_season_52 : decode cX7_season 52 = .ok (.iload_n 1, 1) := dk_27 (dk_at dksX7_season_2 7 rfl rfl)
theorem dX7_season_53 : decode cX7_season 53 = .ok (.invokevirtual 81, 3) := dk_182 0 81 (dk_at dksX7_season_2 8 rfl rfl)
theorem dX7_season_56 : decode cX7_season 56 = .ok (.ireturn, 1) := dk_172 (dk_at dksX7_season_2 11 rfl rfl)
def dkwX7_foretold_3 : List UInt8 := [132, 4, 1, 167, 255, 241, 42, 28, 29, 182, 0, 109, 54, 4, 42, 182, 0, 148, 21, 4, 172]
abbrev dktX7_foretold_3 : List UInt8 := dkwX7_foretold_3 ++ []
def dkwX7_foretold_2 : List UInt8 := [158, 0, 5, 3, 172, 42, 182, 0, 145, 3, 54, 4, 21, 4, 27, 162, 0, 15, 42, 182, 0, 142, 54, 5]
abbrev dktX7_foretold_2 : List UInt8 := dkwX7_foretold_2 ++ dktX7_foretold_3
def dkwX7_foretold_1 : List UInt8 := [167, 0, 16, 42, 28, 182, 0, 84, 154, 0, 7, 5, 167, 0, 4, 3, 181, 0, 36, 42, 180, 0, 36]
abbrev dktX7_foretold_1 : List UInt8 := dkwX7_foretold_1 ++ dktX7_foretold_2
def dkwX7_foretold_0 : List UInt8 := [42, 27, 4, 16, 30, 184, 0, 54, 153, 0, 13, 29, 3, 16, 8, 184, 0, 54, 154, 0, 7, 4]
abbrev dktX7_foretold_0 : List UInt8 := dkwX7_foretold_0 ++ dktX7_foretold_1
theorem dksX7_foretold_0 : cX7_foretold.data.toList.drop 0 = dktX7_foretold_0 := by decide +kernel
theorem dksX7_foretold_1 : cX7_foretold.data.toList.drop 22 = dktX7_foretold_1 := dk_seg dksX7_foretold_0 22 rfl rfl
theorem dksX7_foretold_2 : cX7_foretold.data.toList.drop 45 = dktX7_foretold_2 := dk_seg dksX7_foretold_1 23 rfl rfl
theorem dksX7_foretold_3 : cX7_foretold.data.toList.drop 69 = dktX7_foretold_3 := dk_seg dksX7_foretold_2 24 rfl rfl
theorem dX7_foretold_0 : decode cX7_foretold 0 = .ok (.aload_n 0, 1) := dk_42 (dk_at dksX7_foretold_0 0 rfl rfl)
theorem dX7_foretold_1 : decode cX7_foretold 1 = .ok (.iload_n 1, 1) := dk_27 (dk_at dksX7_foretold_0 1 rfl rfl)
theorem dX7_foretold_2 : decode cX7_foretold 2 = .ok (.iconst 1, 1) := dk_4 (dk_at dksX7_foretold_0 2 rfl rfl)
theorem dX7_foretold_3 : decode cX7_foretold 3 = .ok (.bipush 30, 2) := dk_16 30 (dk_at dksX7_foretold_0 3 rfl rfl)
theorem dX7_foretold_5 : decode cX7_foretold 5 = .ok (.invokestatic 54, 3) := dk_184 0 54 (dk_at dksX7_foretold_0 5 rfl rfl)
theorem dX7_foretold_8 : decode cX7_foretold 8 = .ok (.ifCond .eq 13, 3) := dk_153 0 13 (dk_at dksX7_foretold_0 8 rfl rfl)
theorem dX7_foretold_11 : decode cX7_foretold 11 = .ok (.iload_n 3, 1) := dk_29 (dk_at dksX7_foretold_0 11 rfl rfl)
theorem dX7_foretold_12 : decode cX7_foretold 12 = .ok (.iconst 0, 1) := dk_3 (dk_at dksX7_foretold_0 12 rfl rfl)
theorem dX7_foretold_13 : decode cX7_foretold 13 = .ok (.bipush 8, 2) := dk_16 8 (dk_at dksX7_foretold_0 13 rfl rfl)
theorem dX7_foretold_15 : decode cX7_foretold 15 = .ok (.invokestatic 54, 3) := dk_184 0 54 (dk_at dksX7_foretold_0 15 rfl rfl)
theorem dX7_foretold_18 : decode cX7_foretold 18 = .ok (.ifCond .ne 7, 3) := dk_154 0 7 (dk_at dksX7_foretold_0 18 rfl rfl)
theorem dX7_foretold_21 : decode cX7_foretold 21 = .ok (.iconst 1, 1) := dk_4 (dk_at dksX7_foretold_0 21 rfl rfl)
theorem dX7_foretold_22 : decode cX7_foretold 22 = .ok (.goto 16, 3) := dk_167 0 16 (dk_at dksX7_foretold_1 0 rfl rfl)
theorem dX7_foretold_25 : decode cX7_foretold 25 = .ok (.aload_n 0, 1) := dk_42 (dk_at dksX7_foretold_1 3 rfl rfl)
theorem dX7_foretold_26 : decode cX7_foretold 26 = .ok (.iload_n 2, 1) := dk_28 (dk_at dksX7_foretold_1 4 rfl rfl)
theorem dX7_foretold_27 : decode cX7_foretold 27 = .ok (.invokevirtual 84, 3) := dk_182 0 84 (dk_at dksX7_foretold_1 5 rfl rfl)
theorem dX7_foretold_30 : decode cX7_foretold 30 = .ok (.ifCond .ne 7, 3) := dk_154 0 7 (dk_at dksX7_foretold_1 8 rfl rfl)
theorem dX7_foretold_33 : decode cX7_foretold 33 = .ok (.iconst 2, 1) := dk_5 (dk_at dksX7_foretold_1 11 rfl rfl)
theorem dX7_foretold_34 : decode cX7_foretold 34 = .ok (.goto 4, 3) := dk_167 0 4 (dk_at dksX7_foretold_1 12 rfl rfl)
theorem dX7_foretold_37 : decode cX7_foretold 37 = .ok (.iconst 0, 1) := dk_3 (dk_at dksX7_foretold_1 15 rfl rfl)
theorem dX7_foretold_38 : decode cX7_foretold 38 = .ok (.putfield 36, 3) := dk_181 0 36 (dk_at dksX7_foretold_1 16 rfl rfl)
theorem dX7_foretold_41 : decode cX7_foretold 41 = .ok (.aload_n 0, 1) := dk_42 (dk_at dksX7_foretold_1 19 rfl rfl)
theorem dX7_foretold_42 : decode cX7_foretold 42 = .ok (.getfield 36, 3) := dk_180 0 36 (dk_at dksX7_foretold_1 20 rfl rfl)
theorem dX7_foretold_45 : decode cX7_foretold 45 = .ok (.ifCond .le 5, 3) := dk_158 0 5 (dk_at dksX7_foretold_2 0 rfl rfl)
theorem dX7_foretold_48 : decode cX7_foretold 48 = .ok (.iconst 0, 1) := dk_3 (dk_at dksX7_foretold_2 3 rfl rfl)
theorem dX7_foretold_49 : decode cX7_foretold 49 = .ok (.ireturn, 1) := dk_172 (dk_at dksX7_foretold_2 4 rfl rfl)
theorem dX7_foretold_50 : decode cX7_foretold 50 = .ok (.aload_n 0, 1) := dk_42 (dk_at dksX7_foretold_2 5 rfl rfl)
theorem dX7_foretold_51 : decode cX7_foretold 51 = .ok (.invokevirtual 145, 3) := dk_182 0 145 (dk_at dksX7_foretold_2 6 rfl rfl)
theorem dX7_foretold_54 : decode cX7_foretold 54 = .ok (.iconst 0, 1) := dk_3 (dk_at dksX7_foretold_2 9 rfl rfl)
theorem dX7_foretold_55 : decode cX7_foretold 55 = .ok (.istore 4, 2) := dk_54 4 (dk_at dksX7_foretold_2 10 rfl rfl)
theorem dX7_foretold_57 : decode cX7_foretold 57 = .ok (.iload 4, 2) := dk_21 4 (dk_at dksX7_foretold_2 12 rfl rfl)
theorem dX7_foretold_59 : decode cX7_foretold 59 = .ok (.iload_n 1, 1) := dk_27 (dk_at dksX7_foretold_2 14 rfl rfl)
theorem dX7_foretold_60 : decode cX7_foretold 60 = .ok (.if_icmp .ge 15, 3) := dk_162 0 15 (dk_at dksX7_foretold_2 15 rfl rfl)
theorem dX7_foretold_63 : decode cX7_foretold 63 = .ok (.aload_n 0, 1) := dk_42 (dk_at dksX7_foretold_2 18 rfl rfl)
theorem dX7_foretold_64 : decode cX7_foretold 64 = .ok (.invokevirtual 142, 3) := dk_182 0 142 (dk_at dksX7_foretold_2 19 rfl rfl)
theorem dX7_foretold_67 : decode cX7_foretold 67 = .ok (.istore 5, 2) := dk_54 5 (dk_at dksX7_foretold_2 22 rfl rfl)
theorem dX7_foretold_69 : decode cX7_foretold 69 = .ok (.iinc 4 1, 3) := dk_132 4 1 (dk_at dksX7_foretold_3 0 rfl rfl)
theorem dX7_foretold_72 : decode cX7_foretold 72 = .ok (.goto (-15), 3) := dk_167 255 241 (dk_at dksX7_foretold_3 3 rfl rfl)
theorem dX7_foretold_75 : decode cX7_foretold 75 = .ok (.aload_n 0, 1) := dk_42 (dk_at dksX7_foretold_3 6 rfl rfl)
theorem dX7_foretold_76 : decode cX7_foretold 76 = .ok (.iload_n 2, 1) := dk_28 (dk_at dksX7_foretold_3 7 rfl rfl)
theorem dX7_foretold_77 : decode cX7_foretold 77 = .ok (.iload_n 3, 1) := dk_29 (dk_at dksX7_foretold_3 8 rfl rfl)
theorem dX7_foretold_78 : decode cX7_foretold 78 = .ok (.invokevirtual 109, 3) := dk_182 0 109 (dk_at dksX7_foretold_3 9 rfl rfl)
theorem dX7_foretold_81 : decode cX7_foretold 81 = .ok (.istore 4, 2) := dk_54 4 (dk_at dksX7_foretold_3 12 rfl rfl)
theorem dX7_foretold_83 : decode cX7_foretold 83 = .ok (.aload_n 0, 1) := dk_42 (dk_at dksX7_foretold_3 14 rfl rfl)
theorem dX7_foretold_84 : decode cX7_foretold 84 = .ok (.invokevirtual 148, 3) := dk_182 0 148 (dk_at dksX7_foretold_3 15 rfl rfl)
theorem dX7_foretold_87 : decode cX7_foretold 87 = .ok (.iload 4, 2) := dk_21 4 (dk_at dksX7_foretold_3 18 rfl rfl)
theorem dX7_foretold_89 : decode cX7_foretold 89 = .ok (.ireturn, 1) := dk_172 (dk_at dksX7_foretold_3 20 rfl rfl)
def dkwX7_layAside_0 : List UInt8 := [42, 180, 0, 9, 3, 42, 180, 0, 16, 3, 17, 0, 156, 184, 0, 39, 177]
abbrev dktX7_layAside_0 : List UInt8 := dkwX7_layAside_0 ++ []
theorem dksX7_layAside_0 : cX7_layAside.data.toList.drop 0 = dktX7_layAside_0 := by decide +kernel
theorem dX7_layAside_0 : decode cX7_layAside 0 = .ok (.aload_n 0, 1) := dk_42 (dk_at dksX7_layAside_0 0 rfl rfl)
theorem dX7_layAside_1 : decode cX7_layAside 1 = .ok (.getfield 9, 3) := dk_180 0 9 (dk_at dksX7_layAside_0 1 rfl rfl)
theorem dX7_layAside_4 : decode cX7_layAside 4 = .ok (.iconst 0, 1) := dk_3 (dk_at dksX7_layAside_0 4 rfl rfl)
theorem dX7_layAside_5 : decode cX7_layAside 5 = .ok (.aload_n 0, 1) := dk_42 (dk_at dksX7_layAside_0 5 rfl rfl)
theorem dX7_layAside_6 : decode cX7_layAside 6 = .ok (.getfield 16, 3) := dk_180 0 16 (dk_at dksX7_layAside_0 6 rfl rfl)
theorem dX7_layAside_9 : decode cX7_layAside 9 = .ok (.iconst 0, 1) := dk_3 (dk_at dksX7_layAside_0 9 rfl rfl)
theorem dX7_layAside_10 : decode cX7_layAside 10 = .ok (.sipush 156, 3) := dk_17 0 156 (dk_at dksX7_layAside_0 10 rfl rfl)
theorem dX7_layAside_13 : decode cX7_layAside 13 = .ok (.invokestatic 39, 3) := dk_184 0 39 (dk_at dksX7_layAside_0 13 rfl rfl)
theorem dX7_layAside_16 : decode cX7_layAside 16 = .ok (.return_, 1) := dk_177 (dk_at dksX7_layAside_0 16 rfl rfl)
def dkwX7_bringBack_0 : List UInt8 := [42, 180, 0, 16, 3, 42, 180, 0, 9, 3, 17, 0, 156, 184, 0, 39, 177]
abbrev dktX7_bringBack_0 : List UInt8 := dkwX7_bringBack_0 ++ []
theorem dksX7_bringBack_0 : cX7_bringBack.data.toList.drop 0 = dktX7_bringBack_0 := by decide +kernel
theorem dX7_bringBack_0 : decode cX7_bringBack 0 = .ok (.aload_n 0, 1) := dk_42 (dk_at dksX7_bringBack_0 0 rfl rfl)
theorem dX7_bringBack_1 : decode cX7_bringBack 1 = .ok (.getfield 16, 3) := dk_180 0 16 (dk_at dksX7_bringBack_0 1 rfl rfl)
theorem dX7_bringBack_4 : decode cX7_bringBack 4 = .ok (.iconst 0, 1) := dk_3 (dk_at dksX7_bringBack_0 4 rfl rfl)
theorem dX7_bringBack_5 : decode cX7_bringBack 5 = .ok (.aload_n 0, 1) := dk_42 (dk_at dksX7_bringBack_0 5 rfl rfl)
theorem dX7_bringBack_6 : decode cX7_bringBack 6 = .ok (.getfield 9, 3) := dk_180 0 9 (dk_at dksX7_bringBack_0 6 rfl rfl)
theorem dX7_bringBack_9 : decode cX7_bringBack 9 = .ok (.iconst 0, 1) := dk_3 (dk_at dksX7_bringBack_0 9 rfl rfl)
theorem dX7_bringBack_10 : decode cX7_bringBack 10 = .ok (.sipush 156, 3) := dk_17 0 156 (dk_at dksX7_bringBack_0 10 rfl rfl)
theorem dX7_bringBack_13 : decode cX7_bringBack 13 = .ok (.invokestatic 39, 3) := dk_184 0 39 (dk_at dksX7_bringBack_0 13 rfl rfl)
theorem dX7_bringBack_16 : decode cX7_bringBack 16 = .ok (.return_, 1) := dk_177 (dk_at dksX7_bringBack_0 16 rfl rfl)
def dkwX7_firstFlood_4 : List UInt8 := [158, 0, 7, 3, 167, 0, 4, 28, 172]
abbrev dktX7_firstFlood_4 : List UInt8 := dkwX7_firstFlood_4 ++ []
def dkwX7_firstFlood_3 : List UInt8 := [167, 255, 220, 42, 182, 0, 148, 42, 29, 153, 0, 7, 3, 167, 0, 4, 5, 181, 0, 36, 42, 180, 0, 36]
abbrev dktX7_firstFlood_3 : List UInt8 := dkwX7_firstFlood_3 ++ dktX7_firstFlood_4
def dkwX7_firstFlood_2 : List UInt8 := [54, 4, 132, 2, 1, 42, 27, 16, 9, 182, 0, 62, 4, 160, 0, 7, 4, 167, 0, 4, 3, 62]
abbrev dktX7_firstFlood_2 : List UInt8 := dkwX7_firstFlood_2 ++ dktX7_firstFlood_3
def dkwX7_firstFlood_1 : List UInt8 := [3, 172, 42, 182, 0, 145, 3, 61, 3, 62, 28, 16, 30, 162, 0, 36, 29, 154, 0, 32, 42, 182, 0, 142]
abbrev dktX7_firstFlood_1 : List UInt8 := dkwX7_firstFlood_1 ++ dktX7_firstFlood_2
def dkwX7_firstFlood_0 : List UInt8 := [42, 42, 27, 182, 0, 84, 153, 0, 7, 3, 167, 0, 4, 4, 181, 0, 36, 42, 180, 0, 36, 158, 0, 5]
abbrev dktX7_firstFlood_0 : List UInt8 := dkwX7_firstFlood_0 ++ dktX7_firstFlood_1
theorem dksX7_firstFlood_0 : cX7_firstFlood.data.toList.drop 0 = dktX7_firstFlood_0 := by decide +kernel
theorem dksX7_firstFlood_1 : cX7_firstFlood.data.toList.drop 24 = dktX7_firstFlood_1 := dk_seg dksX7_firstFlood_0 24 rfl rfl
theorem dksX7_firstFlood_2 : cX7_firstFlood.data.toList.drop 48 = dktX7_firstFlood_2 := dk_seg dksX7_firstFlood_1 24 rfl rfl
theorem dksX7_firstFlood_3 : cX7_firstFlood.data.toList.drop 70 = dktX7_firstFlood_3 := dk_seg dksX7_firstFlood_2 22 rfl rfl
theorem dksX7_firstFlood_4 : cX7_firstFlood.data.toList.drop 94 = dktX7_firstFlood_4 := dk_seg dksX7_firstFlood_3 24 rfl rfl
theorem dX7_firstFlood_0 : decode cX7_firstFlood 0 = .ok (.aload_n 0, 1) := dk_42 (dk_at dksX7_firstFlood_0 0 rfl rfl)
theorem dX7_firstFlood_1 : decode cX7_firstFlood 1 = .ok (.aload_n 0, 1) := dk_42 (dk_at dksX7_firstFlood_0 1 rfl rfl)
theorem dX7_firstFlood_2 : decode cX7_firstFlood 2 = .ok (.iload_n 1, 1) := dk_27 (dk_at dksX7_firstFlood_0 2 rfl rfl)
theorem dX7_firstFlood_3 : decode cX7_firstFlood 3 = .ok (.invokevirtual 84, 3) := dk_182 0 84 (dk_at dksX7_firstFlood_0 3 rfl rfl)
theorem dX7_firstFlood_6 : decode cX7_firstFlood 6 = .ok (.ifCond .eq 7, 3) := dk_153 0 7 (dk_at dksX7_firstFlood_0 6 rfl rfl)
theorem dX7_firstFlood_9 : decode cX7_firstFlood 9 = .ok (.iconst 0, 1) := dk_3 (dk_at dksX7_firstFlood_0 9 rfl rfl)
theorem dX7_firstFlood_10 : decode cX7_firstFlood 10 = .ok (.goto 4, 3) := dk_167 0 4 (dk_at dksX7_firstFlood_0 10 rfl rfl)
theorem dX7_firstFlood_13 : decode cX7_firstFlood 13 = .ok (.iconst 1, 1) := dk_4 (dk_at dksX7_firstFlood_0 13 rfl rfl)
theorem dX7_firstFlood_14 : decode cX7_firstFlood 14 = .ok (.putfield 36, 3) := dk_181 0 36 (dk_at dksX7_firstFlood_0 14 rfl rfl)
theorem dX7_firstFlood_17 : decode cX7_firstFlood 17 = .ok (.aload_n 0, 1) := dk_42 (dk_at dksX7_firstFlood_0 17 rfl rfl)
theorem dX7_firstFlood_18 : decode cX7_firstFlood 18 = .ok (.getfield 36, 3) := dk_180 0 36 (dk_at dksX7_firstFlood_0 18 rfl rfl)
theorem dX7_firstFlood_21 : decode cX7_firstFlood 21 = .ok (.ifCond .le 5, 3) := dk_158 0 5 (dk_at dksX7_firstFlood_0 21 rfl rfl)
theorem dX7_firstFlood_24 : decode cX7_firstFlood 24 = .ok (.iconst 0, 1) := dk_3 (dk_at dksX7_firstFlood_1 0 rfl rfl)
theorem dX7_firstFlood_25 : decode cX7_firstFlood 25 = .ok (.ireturn, 1) := dk_172 (dk_at dksX7_firstFlood_1 1 rfl rfl)
theorem dX7_firstFlood_26 : decode cX7_firstFlood 26 = .ok (.aload_n 0, 1) := dk_42 (dk_at dksX7_firstFlood_1 2 rfl rfl)
theorem dX7_firstFlood_27 : decode cX7_firstFlood 27 = .ok (.invokevirtual 145, 3) := dk_182 0 145 (dk_at dksX7_firstFlood_1 3 rfl rfl)
theorem dX7_firstFlood_30 : decode cX7_firstFlood 30 = .ok (.iconst 0, 1) := dk_3 (dk_at dksX7_firstFlood_1 6 rfl rfl)
theorem dX7_firstFlood_31 : decode cX7_firstFlood 31 = .ok (.istore_n 2, 1) := dk_61 (dk_at dksX7_firstFlood_1 7 rfl rfl)
theorem dX7_firstFlood_32 : decode cX7_firstFlood 32 = .ok (.iconst 0, 1) := dk_3 (dk_at dksX7_firstFlood_1 8 rfl rfl)
theorem dX7_firstFlood_33 : decode cX7_firstFlood 33 = .ok (.istore_n 3, 1) := dk_62 (dk_at dksX7_firstFlood_1 9 rfl rfl)
theorem dX7_firstFlood_34 : decode cX7_firstFlood 34 = .ok (.iload_n 2, 1) := dk_28 (dk_at dksX7_firstFlood_1 10 rfl rfl)
theorem dX7_firstFlood_35 : decode cX7_firstFlood 35 = .ok (.bipush 30, 2) := dk_16 30 (dk_at dksX7_firstFlood_1 11 rfl rfl)
theorem dX7_firstFlood_37 : decode cX7_firstFlood 37 = .ok (.if_icmp .ge 36, 3) := dk_162 0 36 (dk_at dksX7_firstFlood_1 13 rfl rfl)
theorem dX7_firstFlood_40 : decode cX7_firstFlood 40 = .ok (.iload_n 3, 1) := dk_29 (dk_at dksX7_firstFlood_1 16 rfl rfl)
theorem dX7_firstFlood_41 : decode cX7_firstFlood 41 = .ok (.ifCond .ne 32, 3) := dk_154 0 32 (dk_at dksX7_firstFlood_1 17 rfl rfl)
theorem dX7_firstFlood_44 : decode cX7_firstFlood 44 = .ok (.aload_n 0, 1) := dk_42 (dk_at dksX7_firstFlood_1 20 rfl rfl)
theorem dX7_firstFlood_45 : decode cX7_firstFlood 45 = .ok (.invokevirtual 142, 3) := dk_182 0 142 (dk_at dksX7_firstFlood_1 21 rfl rfl)
theorem dX7_firstFlood_48 : decode cX7_firstFlood 48 = .ok (.istore 4, 2) := dk_54 4 (dk_at dksX7_firstFlood_2 0 rfl rfl)
theorem dX7_firstFlood_50 : decode cX7_firstFlood 50 = .ok (.iinc 2 1, 3) := dk_132 2 1 (dk_at dksX7_firstFlood_2 2 rfl rfl)
theorem dX7_firstFlood_53 : decode cX7_firstFlood 53 = .ok (.aload_n 0, 1) := dk_42 (dk_at dksX7_firstFlood_2 5 rfl rfl)
theorem dX7_firstFlood_54 : decode cX7_firstFlood 54 = .ok (.iload_n 1, 1) := dk_27 (dk_at dksX7_firstFlood_2 6 rfl rfl)
theorem dX7_firstFlood_55 : decode cX7_firstFlood 55 = .ok (.bipush 9, 2) := dk_16 9 (dk_at dksX7_firstFlood_2 7 rfl rfl)
theorem dX7_firstFlood_57 : decode cX7_firstFlood 57 = .ok (.invokevirtual 62, 3) := dk_182 0 62 (dk_at dksX7_firstFlood_2 9 rfl rfl)
theorem dX7_firstFlood_60 : decode cX7_firstFlood 60 = .ok (.iconst 1, 1) := dk_4 (dk_at dksX7_firstFlood_2 12 rfl rfl)
theorem dX7_firstFlood_61 : decode cX7_firstFlood 61 = .ok (.if_icmp .ne 7, 3) := dk_160 0 7 (dk_at dksX7_firstFlood_2 13 rfl rfl)
theorem dX7_firstFlood_64 : decode cX7_firstFlood 64 = .ok (.iconst 1, 1) := dk_4 (dk_at dksX7_firstFlood_2 16 rfl rfl)
theorem dX7_firstFlood_65 : decode cX7_firstFlood 65 = .ok (.goto 4, 3) := dk_167 0 4 (dk_at dksX7_firstFlood_2 17 rfl rfl)
theorem dX7_firstFlood_68 : decode cX7_firstFlood 68 = .ok (.iconst 0, 1) := dk_3 (dk_at dksX7_firstFlood_2 20 rfl rfl)
theorem dX7_firstFlood_69 : decode cX7_firstFlood 69 = .ok (.istore_n 3, 1) := dk_62 (dk_at dksX7_firstFlood_2 21 rfl rfl)
theorem dX7_firstFlood_70 : decode cX7_firstFlood 70 = .ok (.goto (-36), 3) := dk_167 255 220 (dk_at dksX7_firstFlood_3 0 rfl rfl)
theorem dX7_firstFlood_73 : decode cX7_firstFlood 73 = .ok (.aload_n 0, 1) := dk_42 (dk_at dksX7_firstFlood_3 3 rfl rfl)
theorem dX7_firstFlood_74 : decode cX7_firstFlood 74 = .ok (.invokevirtual 148, 3) := dk_182 0 148 (dk_at dksX7_firstFlood_3 4 rfl rfl)
theorem dX7_firstFlood_77 : decode cX7_firstFlood 77 = .ok (.aload_n 0, 1) := dk_42 (dk_at dksX7_firstFlood_3 7 rfl rfl)
theorem dX7_firstFlood_78 : decode cX7_firstFlood 78 = .ok (.iload_n 3, 1) := dk_29 (dk_at dksX7_firstFlood_3 8 rfl rfl)
theorem dX7_firstFlood_79 : decode cX7_firstFlood 79 = .ok (.ifCond .eq 7, 3) := dk_153 0 7 (dk_at dksX7_firstFlood_3 9 rfl rfl)
theorem dX7_firstFlood_82 : decode cX7_firstFlood 82 = .ok (.iconst 0, 1) := dk_3 (dk_at dksX7_firstFlood_3 12 rfl rfl)
theorem dX7_firstFlood_83 : decode cX7_firstFlood 83 = .ok (.goto 4, 3) := dk_167 0 4 (dk_at dksX7_firstFlood_3 13 rfl rfl)
theorem dX7_firstFlood_86 : decode cX7_firstFlood 86 = .ok (.iconst 2, 1) := dk_5 (dk_at dksX7_firstFlood_3 16 rfl rfl)
theorem dX7_firstFlood_87 : decode cX7_firstFlood 87 = .ok (.putfield 36, 3) := dk_181 0 36 (dk_at dksX7_firstFlood_3 17 rfl rfl)
theorem dX7_firstFlood_90 : decode cX7_firstFlood 90 = .ok (.aload_n 0, 1) := dk_42 (dk_at dksX7_firstFlood_3 20 rfl rfl)
theorem dX7_firstFlood_91 : decode cX7_firstFlood 91 = .ok (.getfield 36, 3) := dk_180 0 36 (dk_at dksX7_firstFlood_3 21 rfl rfl)
theorem dX7_firstFlood_94 : decode cX7_firstFlood 94 = .ok (.ifCond .le 7, 3) := dk_158 0 7 (dk_at dksX7_firstFlood_4 0 rfl rfl)
theorem dX7_firstFlood_97 : decode cX7_firstFlood 97 = .ok (.iconst 0, 1) := dk_3 (dk_at dksX7_firstFlood_4 3 rfl rfl)
theorem dX7_firstFlood_98 : decode cX7_firstFlood 98 = .ok (.goto 4, 3) := dk_167 0 4 (dk_at dksX7_firstFlood_4 4 rfl rfl)
theorem dX7_firstFlood_101 : decode cX7_firstFlood 101 = .ok (.iload_n 2, 1) := dk_28 (dk_at dksX7_firstFlood_4 7 rfl rfl)
theorem dX7_firstFlood_102 : decode cX7_firstFlood 102 = .ok (.ireturn, 1) := dk_172 (dk_at dksX7_firstFlood_4 8 rfl rfl)
def dkwX7_best_2 : List UInt8 := [21, 4, 172]
abbrev dktX7_best_2 : List UInt8 := dkwX7_best_2 ++ []
def dkwX7_best_1 : List UInt8 := [158, 0, 5, 3, 172, 42, 27, 28, 182, 0, 170, 54, 4, 29, 153, 0, 10, 42, 180, 0, 162, 167, 0, 5]
abbrev dktX7_best_1 : List UInt8 := dkwX7_best_1 ++ dktX7_best_2
def dkwX7_best_0 : List UInt8 := [42, 28, 4, 8, 184, 0, 54, 153, 0, 7, 3, 167, 0, 4, 4, 181, 0, 36, 42, 180, 0, 36]
abbrev dktX7_best_0 : List UInt8 := dkwX7_best_0 ++ dktX7_best_1
theorem dksX7_best_0 : cX7_best.data.toList.drop 0 = dktX7_best_0 := by decide +kernel
theorem dksX7_best_1 : cX7_best.data.toList.drop 22 = dktX7_best_1 := dk_seg dksX7_best_0 22 rfl rfl
theorem dksX7_best_2 : cX7_best.data.toList.drop 46 = dktX7_best_2 := dk_seg dksX7_best_1 24 rfl rfl
theorem dX7_best_0 : decode cX7_best 0 = .ok (.aload_n 0, 1) := dk_42 (dk_at dksX7_best_0 0 rfl rfl)
theorem dX7_best_1 : decode cX7_best 1 = .ok (.iload_n 2, 1) := dk_28 (dk_at dksX7_best_0 1 rfl rfl)
theorem dX7_best_2 : decode cX7_best 2 = .ok (.iconst 1, 1) := dk_4 (dk_at dksX7_best_0 2 rfl rfl)
theorem dX7_best_3 : decode cX7_best 3 = .ok (.iconst 5, 1) := dk_8 (dk_at dksX7_best_0 3 rfl rfl)
theorem dX7_best_4 : decode cX7_best 4 = .ok (.invokestatic 54, 3) := dk_184 0 54 (dk_at dksX7_best_0 4 rfl rfl)
theorem dX7_best_7 : decode cX7_best 7 = .ok (.ifCond .eq 7, 3) := dk_153 0 7 (dk_at dksX7_best_0 7 rfl rfl)
theorem dX7_best_10 : decode cX7_best 10 = .ok (.iconst 0, 1) := dk_3 (dk_at dksX7_best_0 10 rfl rfl)
theorem dX7_best_11 : decode cX7_best 11 = .ok (.goto 4, 3) := dk_167 0 4 (dk_at dksX7_best_0 11 rfl rfl)
theorem dX7_best_14 : decode cX7_best 14 = .ok (.iconst 1, 1) := dk_4 (dk_at dksX7_best_0 14 rfl rfl)
theorem dX7_best_15 : decode cX7_best 15 = .ok (.putfield 36, 3) := dk_181 0 36 (dk_at dksX7_best_0 15 rfl rfl)
theorem dX7_best_18 : decode cX7_best 18 = .ok (.aload_n 0, 1) := dk_42 (dk_at dksX7_best_0 18 rfl rfl)
theorem dX7_best_19 : decode cX7_best 19 = .ok (.getfield 36, 3) := dk_180 0 36 (dk_at dksX7_best_0 19 rfl rfl)
theorem dX7_best_22 : decode cX7_best 22 = .ok (.ifCond .le 5, 3) := dk_158 0 5 (dk_at dksX7_best_1 0 rfl rfl)
theorem dX7_best_25 : decode cX7_best 25 = .ok (.iconst 0, 1) := dk_3 (dk_at dksX7_best_1 3 rfl rfl)
theorem dX7_best_26 : decode cX7_best 26 = .ok (.ireturn, 1) := dk_172 (dk_at dksX7_best_1 4 rfl rfl)
theorem dX7_best_27 : decode cX7_best 27 = .ok (.aload_n 0, 1) := dk_42 (dk_at dksX7_best_1 5 rfl rfl)
theorem dX7_best_28 : decode cX7_best 28 = .ok (.iload_n 1, 1) := dk_27 (dk_at dksX7_best_1 6 rfl rfl)
theorem dX7_best_29 : decode cX7_best 29 = .ok (.iload_n 2, 1) := dk_28 (dk_at dksX7_best_1 7 rfl rfl)
theorem dX7_best_30 : decode cX7_best 30 = .ok (.invokevirtual 170, 3) := dk_182 0 170 (dk_at dksX7_best_1 8 rfl rfl)
theorem dX7_best_33 : decode cX7_best 33 = .ok (.istore 4, 2) := dk_54 4 (dk_at dksX7_best_1 11 rfl rfl)
theorem dX7_best_35 : decode cX7_best 35 = .ok (.iload_n 3, 1) := dk_29 (dk_at dksX7_best_1 13 rfl rfl)
theorem dX7_best_36 : decode cX7_best 36 = .ok (.ifCond .eq 10, 3) := dk_153 0 10 (dk_at dksX7_best_1 14 rfl rfl)
theorem dX7_best_39 : decode cX7_best 39 = .ok (.aload_n 0, 1) := dk_42 (dk_at dksX7_best_1 17 rfl rfl)
theorem dX7_best_40 : decode cX7_best 40 = .ok (.getfield 162, 3) := dk_180 0 162 (dk_at dksX7_best_1 18 rfl rfl)
theorem dX7_best_43 : decode cX7_best 43 = .ok (.goto 5, 3) := dk_167 0 5 (dk_at dksX7_best_1 21 rfl rfl)
theorem dX7_best_46 : decode cX7_best 46 = .ok (.iload 4, 2) := dk_21 4 (dk_at dksX7_best_2 0 rfl rfl)
theorem dX7_best_48 : decode cX7_best 48 = .ok (.ireturn, 1) := dk_172 (dk_at dksX7_best_2 2 rfl rfl)
def dkwX7_bestOf_3 : List UInt8 := [42, 21, 5, 181, 0, 162, 132, 4, 1, 167, 255, 191, 29, 172]
abbrev dktX7_bestOf_3 : List UInt8 := dkwX7_bestOf_3 ++ []
def dkwX7_bestOf_2 : List UInt8 := [21, 5, 42, 180, 0, 162, 160, 0, 24, 21, 4, 184, 0, 165, 29, 184, 0, 165, 162, 0, 12, 21, 4, 62]
abbrev dktX7_bestOf_2 : List UInt8 := dkwX7_bestOf_2 ++ dktX7_bestOf_3
def dkwX7_bestOf_1 : List UInt8 := [46, 120, 162, 0, 58, 42, 27, 28, 21, 4, 182, 0, 158, 54, 5, 21, 5, 42, 180, 0, 162, 163, 0, 24]
abbrev dktX7_bestOf_1 : List UInt8 := dkwX7_bestOf_1 ++ dktX7_bestOf_2
def dkwX7_bestOf_0 : List UInt8 := [3, 62, 42, 42, 27, 28, 3, 182, 0, 158, 181, 0, 162, 4, 54, 4, 21, 4, 4, 42, 180, 0, 9, 3]
abbrev dktX7_bestOf_0 : List UInt8 := dkwX7_bestOf_0 ++ dktX7_bestOf_1
theorem dksX7_bestOf_0 : cX7_bestOf.data.toList.drop 0 = dktX7_bestOf_0 := by decide +kernel
theorem dksX7_bestOf_1 : cX7_bestOf.data.toList.drop 24 = dktX7_bestOf_1 := dk_seg dksX7_bestOf_0 24 rfl rfl
theorem dksX7_bestOf_2 : cX7_bestOf.data.toList.drop 48 = dktX7_bestOf_2 := dk_seg dksX7_bestOf_1 24 rfl rfl
theorem dksX7_bestOf_3 : cX7_bestOf.data.toList.drop 72 = dktX7_bestOf_3 := dk_seg dksX7_bestOf_2 24 rfl rfl
theorem dX7_bestOf_0 : decode cX7_bestOf 0 = .ok (.iconst 0, 1) := dk_3 (dk_at dksX7_bestOf_0 0 rfl rfl)
theorem dX7_bestOf_1 : decode cX7_bestOf 1 = .ok (.istore_n 3, 1) := dk_62 (dk_at dksX7_bestOf_0 1 rfl rfl)
theorem dX7_bestOf_2 : decode cX7_bestOf 2 = .ok (.aload_n 0, 1) := dk_42 (dk_at dksX7_bestOf_0 2 rfl rfl)
theorem dX7_bestOf_3 : decode cX7_bestOf 3 = .ok (.aload_n 0, 1) := dk_42 (dk_at dksX7_bestOf_0 3 rfl rfl)
theorem dX7_bestOf_4 : decode cX7_bestOf 4 = .ok (.iload_n 1, 1) := dk_27 (dk_at dksX7_bestOf_0 4 rfl rfl)
theorem dX7_bestOf_5 : decode cX7_bestOf 5 = .ok (.iload_n 2, 1) := dk_28 (dk_at dksX7_bestOf_0 5 rfl rfl)
theorem dX7_bestOf_6 : decode cX7_bestOf 6 = .ok (.iconst 0, 1) := dk_3 (dk_at dksX7_bestOf_0 6 rfl rfl)
theorem dX7_bestOf_7 : decode cX7_bestOf 7 = .ok (.invokevirtual 158, 3) := dk_182 0 158 (dk_at dksX7_bestOf_0 7 rfl rfl)
theorem dX7_bestOf_10 : decode cX7_bestOf 10 = .ok (.putfield 162, 3) := dk_181 0 162 (dk_at dksX7_bestOf_0 10 rfl rfl)
theorem dX7_bestOf_13 : decode cX7_bestOf 13 = .ok (.iconst 1, 1) := dk_4 (dk_at dksX7_bestOf_0 13 rfl rfl)
theorem dX7_bestOf_14 : decode cX7_bestOf 14 = .ok (.istore 4, 2) := dk_54 4 (dk_at dksX7_bestOf_0 14 rfl rfl)
theorem dX7_bestOf_16 : decode cX7_bestOf 16 = .ok (.iload 4, 2) := dk_21 4 (dk_at dksX7_bestOf_0 16 rfl rfl)
theorem dX7_bestOf_18 : decode cX7_bestOf 18 = .ok (.iconst 1, 1) := dk_4 (dk_at dksX7_bestOf_0 18 rfl rfl)
theorem dX7_bestOf_19 : decode cX7_bestOf 19 = .ok (.aload_n 0, 1) := dk_42 (dk_at dksX7_bestOf_0 19 rfl rfl)
theorem dX7_bestOf_20 : decode cX7_bestOf 20 = .ok (.getfield 9, 3) := dk_180 0 9 (dk_at dksX7_bestOf_0 20 rfl rfl)
theorem dX7_bestOf_23 : decode cX7_bestOf 23 = .ok (.iconst 0, 1) := dk_3 (dk_at dksX7_bestOf_0 23 rfl rfl)
theorem dX7_bestOf_24 : decode cX7_bestOf 24 = .ok (.iaload, 1) := dk_46 (dk_at dksX7_bestOf_1 0 rfl rfl)
theorem dX7_bestOf_25 : decode cX7_bestOf 25 = .ok (.ishl, 1) := dk_120 (dk_at dksX7_bestOf_1 1 rfl rfl)
theorem dX7_bestOf_26 : decode cX7_bestOf 26 = .ok (.if_icmp .ge 58, 3) := dk_162 0 58 (dk_at dksX7_bestOf_1 2 rfl rfl)
theorem dX7_bestOf_29 : decode cX7_bestOf 29 = .ok (.aload_n 0, 1) := dk_42 (dk_at dksX7_bestOf_1 5 rfl rfl)
theorem dX7_bestOf_30 : decode cX7_bestOf 30 = .ok (.iload_n 1, 1) := dk_27 (dk_at dksX7_bestOf_1 6 rfl rfl)
theorem dX7_bestOf_31 : decode cX7_bestOf 31 = .ok (.iload_n 2, 1) := dk_28 (dk_at dksX7_bestOf_1 7 rfl rfl)
theorem dX7_bestOf_32 : decode cX7_bestOf 32 = .ok (.iload 4, 2) := dk_21 4 (dk_at dksX7_bestOf_1 8 rfl rfl)
theorem dX7_bestOf_34 : decode cX7_bestOf 34 = .ok (.invokevirtual 158, 3) := dk_182 0 158 (dk_at dksX7_bestOf_1 10 rfl rfl)
theorem dX7_bestOf_37 : decode cX7_bestOf 37 = .ok (.istore 5, 2) := dk_54 5 (dk_at dksX7_bestOf_1 13 rfl rfl)
theorem dX7_bestOf_39 : decode cX7_bestOf 39 = .ok (.iload 5, 2) := dk_21 5 (dk_at dksX7_bestOf_1 15 rfl rfl)
theorem dX7_bestOf_41 : decode cX7_bestOf 41 = .ok (.aload_n 0, 1) := dk_42 (dk_at dksX7_bestOf_1 17 rfl rfl)
theorem dX7_bestOf_42 : decode cX7_bestOf 42 = .ok (.getfield 162, 3) := dk_180 0 162 (dk_at dksX7_bestOf_1 18 rfl rfl)
theorem dX7_bestOf_45 : decode cX7_bestOf 45 = .ok (.if_icmp .gt 24, 3) := dk_163 0 24 (dk_at dksX7_bestOf_1 21 rfl rfl)
theorem dX7_bestOf_48 : decode cX7_bestOf 48 = .ok (.iload 5, 2) := dk_21 5 (dk_at dksX7_bestOf_2 0 rfl rfl)
theorem dX7_bestOf_50 : decode cX7_bestOf 50 = .ok (.aload_n 0, 1) := dk_42 (dk_at dksX7_bestOf_2 2 rfl rfl)
theorem dX7_bestOf_51 : decode cX7_bestOf 51 = .ok (.getfield 162, 3) := dk_180 0 162 (dk_at dksX7_bestOf_2 3 rfl rfl)
theorem dX7_bestOf_54 : decode cX7_bestOf 54 = .ok (.if_icmp .ne 24, 3) := dk_160 0 24 (dk_at dksX7_bestOf_2 6 rfl rfl)
theorem dX7_bestOf_57 : decode cX7_bestOf 57 = .ok (.iload 4, 2) := dk_21 4 (dk_at dksX7_bestOf_2 9 rfl rfl)
theorem dX7_bestOf_59 : decode cX7_bestOf 59 = .ok (.invokestatic 165, 3) := dk_184 0 165 (dk_at dksX7_bestOf_2 11 rfl rfl)
theorem dX7_bestOf_62 : decode cX7_bestOf 62 = .ok (.iload_n 3, 1) := dk_29 (dk_at dksX7_bestOf_2 14 rfl rfl)
theorem dX7_bestOf_63 : decode cX7_bestOf 63 = .ok (.invokestatic 165, 3) := dk_184 0 165 (dk_at dksX7_bestOf_2 15 rfl rfl)
theorem dX7_bestOf_66 : decode cX7_bestOf 66 = .ok (.if_icmp .ge 12, 3) := dk_162 0 12 (dk_at dksX7_bestOf_2 18 rfl rfl)
theorem dX7_bestOf_69 : decode cX7_bestOf 69 = .ok (.iload 4, 2) := dk_21 4 (dk_at dksX7_bestOf_2 21 rfl rfl)
theorem dX7_bestOf_71 : decode cX7_bestOf 71 = .ok (.istore_n 3, 1) := dk_62 (dk_at dksX7_bestOf_2 23 rfl rfl)
theorem dX7_bestOf_72 : decode cX7_bestOf 72 = .ok (.aload_n 0, 1) := dk_42 (dk_at dksX7_bestOf_3 0 rfl rfl)
theorem dX7_bestOf_73 : decode cX7_bestOf 73 = .ok (.iload 5, 2) := dk_21 5 (dk_at dksX7_bestOf_3 1 rfl rfl)
theorem dX7_bestOf_75 : decode cX7_bestOf 75 = .ok (.putfield 162, 3) := dk_181 0 162 (dk_at dksX7_bestOf_3 3 rfl rfl)
theorem dX7_bestOf_78 : decode cX7_bestOf 78 = .ok (.iinc 4 1, 3) := dk_132 4 1 (dk_at dksX7_bestOf_3 6 rfl rfl)
theorem dX7_bestOf_81 : decode cX7_bestOf 81 = .ok (.goto (-65), 3) := dk_167 255 191 (dk_at dksX7_bestOf_3 9 rfl rfl)
theorem dX7_bestOf_84 : decode cX7_bestOf 84 = .ok (.iload_n 3, 1) := dk_29 (dk_at dksX7_bestOf_3 12 rfl rfl)
theorem dX7_bestOf_85 : decode cX7_bestOf 85 = .ok (.ireturn, 1) := dk_172 (dk_at dksX7_bestOf_3 13 rfl rfl)
def dkwX7_worthOf_3 : List UInt8 := [182, 0, 148, 21, 5, 172]
abbrev dktX7_worthOf_3 : List UInt8 := dkwX7_worthOf_3 ++ []
def dkwX7_worthOf_2 : List UInt8 := [182, 0, 103, 42, 182, 0, 155, 96, 167, 0, 13, 42, 180, 0, 9, 16, 6, 46, 21, 4, 100, 54, 5, 42]
abbrev dktX7_worthOf_2 : List UInt8 := dkwX7_worthOf_2 ++ dktX7_worthOf_3
def dkwX7_worthOf_1 : List UInt8 := [28, 162, 0, 15, 42, 182, 0, 142, 54, 6, 132, 5, 1, 167, 255, 241, 27, 153, 0, 16, 42, 2]
abbrev dktX7_worthOf_1 : List UInt8 := dkwX7_worthOf_1 ++ dktX7_worthOf_2
def dkwX7_worthOf_0 : List UInt8 := [42, 182, 0, 145, 42, 180, 0, 9, 16, 6, 46, 54, 4, 42, 27, 29, 182, 0, 151, 3, 54, 5, 21, 5]
abbrev dktX7_worthOf_0 : List UInt8 := dkwX7_worthOf_0 ++ dktX7_worthOf_1
theorem dksX7_worthOf_0 : cX7_worthOf.data.toList.drop 0 = dktX7_worthOf_0 := by decide +kernel
theorem dksX7_worthOf_1 : cX7_worthOf.data.toList.drop 24 = dktX7_worthOf_1 := dk_seg dksX7_worthOf_0 24 rfl rfl
theorem dksX7_worthOf_2 : cX7_worthOf.data.toList.drop 46 = dktX7_worthOf_2 := dk_seg dksX7_worthOf_1 22 rfl rfl
theorem dksX7_worthOf_3 : cX7_worthOf.data.toList.drop 70 = dktX7_worthOf_3 := dk_seg dksX7_worthOf_2 24 rfl rfl
theorem dX7_worthOf_0 : decode cX7_worthOf 0 = .ok (.aload_n 0, 1) := dk_42 (dk_at dksX7_worthOf_0 0 rfl rfl)
theorem dX7_worthOf_1 : decode cX7_worthOf 1 = .ok (.invokevirtual 145, 3) := dk_182 0 145 (dk_at dksX7_worthOf_0 1 rfl rfl)
theorem dX7_worthOf_4 : decode cX7_worthOf 4 = .ok (.aload_n 0, 1) := dk_42 (dk_at dksX7_worthOf_0 4 rfl rfl)
theorem dX7_worthOf_5 : decode cX7_worthOf 5 = .ok (.getfield 9, 3) := dk_180 0 9 (dk_at dksX7_worthOf_0 5 rfl rfl)
theorem dX7_worthOf_8 : decode cX7_worthOf 8 = .ok (.bipush 6, 2) := dk_16 6 (dk_at dksX7_worthOf_0 8 rfl rfl)
theorem dX7_worthOf_10 : decode cX7_worthOf 10 = .ok (.iaload, 1) := dk_46 (dk_at dksX7_worthOf_0 10 rfl rfl)
theorem dX7_worthOf_11 : decode cX7_worthOf 11 = .ok (.istore 4, 2) := dk_54 4 (dk_at dksX7_worthOf_0 11 rfl rfl)
theorem dX7_worthOf_13 : decode cX7_worthOf 13 = .ok (.aload_n 0, 1) := dk_42 (dk_at dksX7_worthOf_0 13 rfl rfl)
theorem dX7_worthOf_14 : decode cX7_worthOf 14 = .ok (.iload_n 1, 1) := dk_27 (dk_at dksX7_worthOf_0 14 rfl rfl)
theorem dX7_worthOf_15 : decode cX7_worthOf 15 = .ok (.iload_n 3, 1) := dk_29 (dk_at dksX7_worthOf_0 15 rfl rfl)
theorem dX7_worthOf_16 : decode cX7_worthOf 16 = .ok (.invokevirtual 151, 3) := dk_182 0 151 (dk_at dksX7_worthOf_0 16 rfl rfl)
theorem dX7_worthOf_19 : decode cX7_worthOf 19 = .ok (.iconst 0, 1) := dk_3 (dk_at dksX7_worthOf_0 19 rfl rfl)
theorem dX7_worthOf_20 : decode cX7_worthOf 20 = .ok (.istore 5, 2) := dk_54 5 (dk_at dksX7_worthOf_0 20 rfl rfl)
theorem dX7_worthOf_22 : decode cX7_worthOf 22 = .ok (.iload 5, 2) := dk_21 5 (dk_at dksX7_worthOf_0 22 rfl rfl)
theorem dX7_worthOf_24 : decode cX7_worthOf 24 = .ok (.iload_n 2, 1) := dk_28 (dk_at dksX7_worthOf_1 0 rfl rfl)
theorem dX7_worthOf_25 : decode cX7_worthOf 25 = .ok (.if_icmp .ge 15, 3) := dk_162 0 15 (dk_at dksX7_worthOf_1 1 rfl rfl)
theorem dX7_worthOf_28 : decode cX7_worthOf 28 = .ok (.aload_n 0, 1) := dk_42 (dk_at dksX7_worthOf_1 4 rfl rfl)
theorem dX7_worthOf_29 : decode cX7_worthOf 29 = .ok (.invokevirtual 142, 3) := dk_182 0 142 (dk_at dksX7_worthOf_1 5 rfl rfl)
theorem dX7_worthOf_32 : decode cX7_worthOf 32 = .ok (.istore 6, 2) := dk_54 6 (dk_at dksX7_worthOf_1 8 rfl rfl)
theorem dX7_worthOf_34 : decode cX7_worthOf 34 = .ok (.iinc 5 1, 3) := dk_132 5 1 (dk_at dksX7_worthOf_1 10 rfl rfl)
theorem dX7_worthOf_37 : decode cX7_worthOf 37 = .ok (.goto (-15), 3) := dk_167 255 241 (dk_at dksX7_worthOf_1 13 rfl rfl)
theorem dX7_worthOf_40 : decode cX7_worthOf 40 = .ok (.iload_n 1, 1) := dk_27 (dk_at dksX7_worthOf_1 16 rfl rfl)
theorem dX7_worthOf_41 : decode cX7_worthOf 41 = .ok (.ifCond .eq 16, 3) := dk_153 0 16 (dk_at dksX7_worthOf_1 17 rfl rfl)
theorem dX7_worthOf_44 : decode cX7_worthOf 44 = .ok (.aload_n 0, 1) := dk_42 (dk_at dksX7_worthOf_1 20 rfl rfl)
theorem dX7_worthOf_45 : decode cX7_worthOf 45 = .ok (.iconst (-1), 1) := dk_2 (dk_at dksX7_worthOf_1 21 rfl rfl)
theorem dX7_worthOf_46 : decode cX7_worthOf 46 = .ok (.invokevirtual 103, 3) := dk_182 0 103 (dk_at dksX7_worthOf_2 0 rfl rfl)
theorem dX7_worthOf_49 : decode cX7_worthOf 49 = .ok (.aload_n 0, 1) := dk_42 (dk_at dksX7_worthOf_2 3 rfl rfl)
theorem dX7_worthOf_50 : decode cX7_worthOf 50 = .ok (.invokevirtual 155, 3) := dk_182 0 155 (dk_at dksX7_worthOf_2 4 rfl rfl)
theorem dX7_worthOf_53 : decode cX7_worthOf 53 = .ok (.iadd, 1) := dk_96 (dk_at dksX7_worthOf_2 7 rfl rfl)
theorem dX7_worthOf_54 : decode cX7_worthOf 54 = .ok (.goto 13, 3) := dk_167 0 13 (dk_at dksX7_worthOf_2 8 rfl rfl)
theorem dX7_worthOf_57 : decode cX7_worthOf 57 = .ok (.aload_n 0, 1) := dk_42 (dk_at dksX7_worthOf_2 11 rfl rfl)
theorem dX7_worthOf_58 : decode cX7_worthOf 58 = .ok (.getfield 9, 3) := dk_180 0 9 (dk_at dksX7_worthOf_2 12 rfl rfl)
theorem dX7_worthOf_61 : decode cX7_worthOf 61 = .ok (.bipush 6, 2) := dk_16 6 (dk_at dksX7_worthOf_2 15 rfl rfl)
theorem dX7_worthOf_63 : decode cX7_worthOf 63 = .ok (.iaload, 1) := dk_46 (dk_at dksX7_worthOf_2 17 rfl rfl)
theorem dX7_worthOf_64 : decode cX7_worthOf 64 = .ok (.iload 4, 2) := dk_21 4 (dk_at dksX7_worthOf_2 18 rfl rfl)
theorem dX7_worthOf_66 : decode cX7_worthOf 66 = .ok (.isub, 1) := dk_100 (dk_at dksX7_worthOf_2 20 rfl rfl)
theorem dX7_worthOf_67 : decode cX7_worthOf 67 = .ok (.istore 5, 2) := dk_54 5 (dk_at dksX7_worthOf_2 21 rfl rfl)
theorem dX7_worthOf_69 : decode cX7_worthOf 69 = .ok (.aload_n 0, 1) := dk_42 (dk_at dksX7_worthOf_2 23 rfl rfl)
theorem dX7_worthOf_70 : decode cX7_worthOf 70 = .ok (.invokevirtual 148, 3) := dk_182 0 148 (dk_at dksX7_worthOf_3 0 rfl rfl)
theorem dX7_worthOf_73 : decode cX7_worthOf 73 = .ok (.iload 5, 2) := dk_21 5 (dk_at dksX7_worthOf_3 3 rfl rfl)
theorem dX7_worthOf_75 : decode cX7_worthOf 75 = .ok (.ireturn, 1) := dk_172 (dk_at dksX7_worthOf_3 5 rfl rfl)
def dkwX7_setLatches_1 : List UInt8 := [16, 7, 167, 0, 5, 16, 8, 96, 28, 29, 122, 4, 126, 79, 132, 3, 1, 167, 255, 217, 177]
abbrev dktX7_setLatches_1 : List UInt8 := dkwX7_setLatches_1 ++ []
def dkwX7_setLatches_0 : List UInt8 := [3, 62, 29, 42, 180, 0, 9, 3, 46, 162, 0, 35, 42, 180, 0, 9, 29, 184, 0, 58, 27, 153, 0, 8]
abbrev dktX7_setLatches_0 : List UInt8 := dkwX7_setLatches_0 ++ dktX7_setLatches_1
theorem dksX7_setLatches_0 : cX7_setLatches.data.toList.drop 0 = dktX7_setLatches_0 := by decide +kernel
theorem dksX7_setLatches_1 : cX7_setLatches.data.toList.drop 24 = dktX7_setLatches_1 := dk_seg dksX7_setLatches_0 24 rfl rfl
theorem dX7_setLatches_0 : decode cX7_setLatches 0 = .ok (.iconst 0, 1) := dk_3 (dk_at dksX7_setLatches_0 0 rfl rfl)
theorem dX7_setLatches_1 : decode cX7_setLatches 1 = .ok (.istore_n 3, 1) := dk_62 (dk_at dksX7_setLatches_0 1 rfl rfl)
theorem dX7_setLatches_2 : decode cX7_setLatches 2 = .ok (.iload_n 3, 1) := dk_29 (dk_at dksX7_setLatches_0 2 rfl rfl)
theorem dX7_setLatches_3 : decode cX7_setLatches 3 = .ok (.aload_n 0, 1) := dk_42 (dk_at dksX7_setLatches_0 3 rfl rfl)
theorem dX7_setLatches_4 : decode cX7_setLatches 4 = .ok (.getfield 9, 3) := dk_180 0 9 (dk_at dksX7_setLatches_0 4 rfl rfl)
theorem dX7_setLatches_7 : decode cX7_setLatches 7 = .ok (.iconst 0, 1) := dk_3 (dk_at dksX7_setLatches_0 7 rfl rfl)
theorem dX7_setLatches_8 : decode cX7_setLatches 8 = .ok (.iaload, 1) := dk_46 (dk_at dksX7_setLatches_0 8 rfl rfl)
theorem dX7_setLatches_9 : decode cX7_setLatches 9 = .ok (.if_icmp .ge 35, 3) := dk_162 0 35 (dk_at dksX7_setLatches_0 9 rfl rfl)
theorem dX7_setLatches_12 : decode cX7_setLatches 12 = .ok (.aload_n 0, 1) := dk_42 (dk_at dksX7_setLatches_0 12 rfl rfl)
theorem dX7_setLatches_13 : decode cX7_setLatches 13 = .ok (.getfield 9, 3) := dk_180 0 9 (dk_at dksX7_setLatches_0 13 rfl rfl)
theorem dX7_setLatches_16 : decode cX7_setLatches 16 = .ok (.iload_n 3, 1) := dk_29 (dk_at dksX7_setLatches_0 16 rfl rfl)
theorem dX7_setLatches_17 : decode cX7_setLatches 17 = .ok (.invokestatic 58, 3) := dk_184 0 58 (dk_at dksX7_setLatches_0 17 rfl rfl)
theorem dX7_setLatches_20 : decode cX7_setLatches 20 = .ok (.iload_n 1, 1) := dk_27 (dk_at dksX7_setLatches_0 20 rfl rfl)
theorem dX7_setLatches_21 : decode cX7_setLatches 21 = .ok (.ifCond .eq 8, 3) := dk_153 0 8 (dk_at dksX7_setLatches_0 21 rfl rfl)
theorem dX7_setLatches_24 : decode cX7_setLatches 24 = .ok (.bipush 7, 2) := dk_16 7 (dk_at dksX7_setLatches_1 0 rfl rfl)
theorem dX7_setLatches_26 : decode cX7_setLatches 26 = .ok (.goto 5, 3) := dk_167 0 5 (dk_at dksX7_setLatches_1 2 rfl rfl)
theorem dX7_setLatches_29 : decode cX7_setLatches 29 = .ok (.bipush 8, 2) := dk_16 8 (dk_at dksX7_setLatches_1 5 rfl rfl)
theorem dX7_setLatches_31 : decode cX7_setLatches 31 = .ok (.iadd, 1) := dk_96 (dk_at dksX7_setLatches_1 7 rfl rfl)
theorem dX7_setLatches_32 : decode cX7_setLatches 32 = .ok (.iload_n 2, 1) := dk_28 (dk_at dksX7_setLatches_1 8 rfl rfl)
theorem dX7_setLatches_33 : decode cX7_setLatches 33 = .ok (.iload_n 3, 1) := dk_29 (dk_at dksX7_setLatches_1 9 rfl rfl)
theorem dX7_setLatches_34 : decode cX7_setLatches 34 = .ok (.ishr, 1) := dk_122 (dk_at dksX7_setLatches_1 10 rfl rfl)
theorem dX7_setLatches_35 : decode cX7_setLatches 35 = .ok (.iconst 1, 1) := dk_4 (dk_at dksX7_setLatches_1 11 rfl rfl)
theorem dX7_setLatches_36 : decode cX7_setLatches 36 = .ok (.iand, 1) := dk_126 (dk_at dksX7_setLatches_1 12 rfl rfl)
theorem dX7_setLatches_37 : decode cX7_setLatches 37 = .ok (.iastore, 1) := dk_79 (dk_at dksX7_setLatches_1 13 rfl rfl)
theorem dX7_setLatches_38 : decode cX7_setLatches 38 = .ok (.iinc 3 1, 3) := dk_132 3 1 (dk_at dksX7_setLatches_1 14 rfl rfl)
theorem dX7_setLatches_41 : decode cX7_setLatches 41 = .ok (.goto (-39), 3) := dk_167 255 217 (dk_at dksX7_setLatches_1 17 rfl rfl)
theorem dX7_setLatches_44 : decode cX7_setLatches 44 = .ok (.return_, 1) := dk_177 (dk_at dksX7_setLatches_1 20 rfl rfl)
def dkwX7_frogsOfAll_1 : List UInt8 := [132, 2, 1, 167, 255, 234, 27, 172]
abbrev dktX7_frogsOfAll_1 : List UInt8 := dkwX7_frogsOfAll_1 ++ []
def dkwX7_frogsOfAll_0 : List UInt8 := [3, 60, 3, 61, 28, 42, 180, 0, 9, 3, 46, 162, 0, 18, 27, 42, 28, 8, 182, 0, 62, 96, 60]
abbrev dktX7_frogsOfAll_0 : List UInt8 := dkwX7_frogsOfAll_0 ++ dktX7_frogsOfAll_1
theorem dksX7_frogsOfAll_0 : cX7_frogsOfAll.data.toList.drop 0 = dktX7_frogsOfAll_0 := by decide +kernel
theorem dksX7_frogsOfAll_1 : cX7_frogsOfAll.data.toList.drop 23 = dktX7_frogsOfAll_1 := dk_seg dksX7_frogsOfAll_0 23 rfl rfl
theorem dX7_frogsOfAll_0 : decode cX7_frogsOfAll 0 = .ok (.iconst 0, 1) := dk_3 (dk_at dksX7_frogsOfAll_0 0 rfl rfl)
theorem dX7_frogsOfAll_1 : decode cX7_frogsOfAll 1 = .ok (.istore_n 1, 1) := dk_60 (dk_at dksX7_frogsOfAll_0 1 rfl rfl)
theorem dX7_frogsOfAll_2 : decode cX7_frogsOfAll 2 = .ok (.iconst 0, 1) := dk_3 (dk_at dksX7_frogsOfAll_0 2 rfl rfl)
theorem dX7_frogsOfAll_3 : decode cX7_frogsOfAll 3 = .ok (.istore_n 2, 1) := dk_61 (dk_at dksX7_frogsOfAll_0 3 rfl rfl)
theorem dX7_frogsOfAll_4 : decode cX7_frogsOfAll 4 = .ok (.iload_n 2, 1) := dk_28 (dk_at dksX7_frogsOfAll_0 4 rfl rfl)
theorem dX7_frogsOfAll_5 : decode cX7_frogsOfAll 5 = .ok (.aload_n 0, 1) := dk_42 (dk_at dksX7_frogsOfAll_0 5 rfl rfl)
theorem dX7_frogsOfAll_6 : decode cX7_frogsOfAll 6 = .ok (.getfield 9, 3) := dk_180 0 9 (dk_at dksX7_frogsOfAll_0 6 rfl rfl)
theorem dX7_frogsOfAll_9 : decode cX7_frogsOfAll 9 = .ok (.iconst 0, 1) := dk_3 (dk_at dksX7_frogsOfAll_0 9 rfl rfl)
theorem dX7_frogsOfAll_10 : decode cX7_frogsOfAll 10 = .ok (.iaload, 1) := dk_46 (dk_at dksX7_frogsOfAll_0 10 rfl rfl)
theorem dX7_frogsOfAll_11 : decode cX7_frogsOfAll 11 = .ok (.if_icmp .ge 18, 3) := dk_162 0 18 (dk_at dksX7_frogsOfAll_0 11 rfl rfl)
theorem dX7_frogsOfAll_14 : decode cX7_frogsOfAll 14 = .ok (.iload_n 1, 1) := dk_27 (dk_at dksX7_frogsOfAll_0 14 rfl rfl)
theorem dX7_frogsOfAll_15 : decode cX7_frogsOfAll 15 = .ok (.aload_n 0, 1) := dk_42 (dk_at dksX7_frogsOfAll_0 15 rfl rfl)
theorem dX7_frogsOfAll_16 : decode cX7_frogsOfAll 16 = .ok (.iload_n 2, 1) := dk_28 (dk_at dksX7_frogsOfAll_0 16 rfl rfl)
theorem dX7_frogsOfAll_17 : decode cX7_frogsOfAll 17 = .ok (.iconst 5, 1) := dk_8 (dk_at dksX7_frogsOfAll_0 17 rfl rfl)
theorem dX7_frogsOfAll_18 : decode cX7_frogsOfAll 18 = .ok (.invokevirtual 62, 3) := dk_182 0 62 (dk_at dksX7_frogsOfAll_0 18 rfl rfl)
theorem dX7_frogsOfAll_21 : decode cX7_frogsOfAll 21 = .ok (.iadd, 1) := dk_96 (dk_at dksX7_frogsOfAll_0 21 rfl rfl)
theorem dX7_frogsOfAll_22 : decode cX7_frogsOfAll 22 = .ok (.istore_n 1, 1) := dk_60 (dk_at dksX7_frogsOfAll_0 22 rfl rfl)
theorem dX7_frogsOfAll_23 : decode cX7_frogsOfAll 23 = .ok (.iinc 2 1, 3) := dk_132 2 1 (dk_at dksX7_frogsOfAll_1 0 rfl rfl)
theorem dX7_frogsOfAll_26 : decode cX7_frogsOfAll 26 = .ok (.goto (-22), 3) := dk_167 255 234 (dk_at dksX7_frogsOfAll_1 3 rfl rfl)
theorem dX7_frogsOfAll_29 : decode cX7_frogsOfAll 29 = .ok (.iload_n 1, 1) := dk_27 (dk_at dksX7_frogsOfAll_1 6 rfl rfl)
theorem dX7_frogsOfAll_30 : decode cX7_frogsOfAll 30 = .ok (.ireturn, 1) := dk_172 (dk_at dksX7_frogsOfAll_1 7 rfl rfl)
def dkwX7_worth_2 : List UInt8 := [167, 0, 10, 42, 27, 28, 29, 182, 0, 158, 172]
abbrev dktX7_worth_2 : List UInt8 := dkwX7_worth_2 ++ []
def dkwX7_worth_1 : List UInt8 := [4, 100, 184, 0, 54, 154, 0, 7, 5, 167, 0, 4, 3, 181, 0, 36, 42, 180, 0, 36, 158, 0, 7, 3]
abbrev dktX7_worth_1 : List UInt8 := dkwX7_worth_1 ++ dktX7_worth_2
def dkwX7_worth_0 : List UInt8 := [42, 28, 4, 8, 184, 0, 54, 154, 0, 7, 4, 167, 0, 26, 29, 3, 4, 42, 180, 0, 9, 3, 46, 120]
abbrev dktX7_worth_0 : List UInt8 := dkwX7_worth_0 ++ dktX7_worth_1
theorem dksX7_worth_0 : cX7_worth.data.toList.drop 0 = dktX7_worth_0 := by decide +kernel
theorem dksX7_worth_1 : cX7_worth.data.toList.drop 24 = dktX7_worth_1 := dk_seg dksX7_worth_0 24 rfl rfl
theorem dksX7_worth_2 : cX7_worth.data.toList.drop 48 = dktX7_worth_2 := dk_seg dksX7_worth_1 24 rfl rfl
theorem dX7_worth_0 : decode cX7_worth 0 = .ok (.aload_n 0, 1) := dk_42 (dk_at dksX7_worth_0 0 rfl rfl)
theorem dX7_worth_1 : decode cX7_worth 1 = .ok (.iload_n 2, 1) := dk_28 (dk_at dksX7_worth_0 1 rfl rfl)
theorem dX7_worth_2 : decode cX7_worth 2 = .ok (.iconst 1, 1) := dk_4 (dk_at dksX7_worth_0 2 rfl rfl)
theorem dX7_worth_3 : decode cX7_worth 3 = .ok (.iconst 5, 1) := dk_8 (dk_at dksX7_worth_0 3 rfl rfl)
theorem dX7_worth_4 : decode cX7_worth 4 = .ok (.invokestatic 54, 3) := dk_184 0 54 (dk_at dksX7_worth_0 4 rfl rfl)
theorem dX7_worth_7 : decode cX7_worth 7 = .ok (.ifCond .ne 7, 3) := dk_154 0 7 (dk_at dksX7_worth_0 7 rfl rfl)
theorem dX7_worth_10 : decode cX7_worth 10 = .ok (.iconst 1, 1) := dk_4 (dk_at dksX7_worth_0 10 rfl rfl)
theorem dX7_worth_11 : decode cX7_worth 11 = .ok (.goto 26, 3) := dk_167 0 26 (dk_at dksX7_worth_0 11 rfl rfl)
theorem dX7_worth_14 : decode cX7_worth 14 = .ok (.iload_n 3, 1) := dk_29 (dk_at dksX7_worth_0 14 rfl rfl)
theorem dX7_worth_15 : decode cX7_worth 15 = .ok (.iconst 0, 1) := dk_3 (dk_at dksX7_worth_0 15 rfl rfl)
theorem dX7_worth_16 : decode cX7_worth 16 = .ok (.iconst 1, 1) := dk_4 (dk_at dksX7_worth_0 16 rfl rfl)
theorem dX7_worth_17 : decode cX7_worth 17 = .ok (.aload_n 0, 1) := dk_42 (dk_at dksX7_worth_0 17 rfl rfl)
theorem dX7_worth_18 : decode cX7_worth 18 = .ok (.getfield 9, 3) := dk_180 0 9 (dk_at dksX7_worth_0 18 rfl rfl)
theorem dX7_worth_21 : decode cX7_worth 21 = .ok (.iconst 0, 1) := dk_3 (dk_at dksX7_worth_0 21 rfl rfl)
theorem dX7_worth_22 : decode cX7_worth 22 = .ok (.iaload, 1) := dk_46 (dk_at dksX7_worth_0 22 rfl rfl)
theorem dX7_worth_23 : decode cX7_worth 23 = .ok (.ishl, 1) := dk_120 (dk_at dksX7_worth_0 23 rfl rfl)
theorem dX7_worth_24 : decode cX7_worth 24 = .ok (.iconst 1, 1) := dk_4 (dk_at dksX7_worth_1 0 rfl rfl)
theorem dX7_worth_25 : decode cX7_worth 25 = .ok (.isub, 1) := dk_100 (dk_at dksX7_worth_1 1 rfl rfl)
theorem dX7_worth_26 : decode cX7_worth 26 = .ok (.invokestatic 54, 3) := dk_184 0 54 (dk_at dksX7_worth_1 2 rfl rfl)
theorem dX7_worth_29 : decode cX7_worth 29 = .ok (.ifCond .ne 7, 3) := dk_154 0 7 (dk_at dksX7_worth_1 5 rfl rfl)
theorem dX7_worth_32 : decode cX7_worth 32 = .ok (.iconst 2, 1) := dk_5 (dk_at dksX7_worth_1 8 rfl rfl)
theorem dX7_worth_33 : decode cX7_worth 33 = .ok (.goto 4, 3) := dk_167 0 4 (dk_at dksX7_worth_1 9 rfl rfl)
theorem dX7_worth_36 : decode cX7_worth 36 = .ok (.iconst 0, 1) := dk_3 (dk_at dksX7_worth_1 12 rfl rfl)
theorem dX7_worth_37 : decode cX7_worth 37 = .ok (.putfield 36, 3) := dk_181 0 36 (dk_at dksX7_worth_1 13 rfl rfl)
theorem dX7_worth_40 : decode cX7_worth 40 = .ok (.aload_n 0, 1) := dk_42 (dk_at dksX7_worth_1 16 rfl rfl)
theorem dX7_worth_41 : decode cX7_worth 41 = .ok (.getfield 36, 3) := dk_180 0 36 (dk_at dksX7_worth_1 17 rfl rfl)
theorem dX7_worth_44 : decode cX7_worth 44 = .ok (.ifCond .le 7, 3) := dk_158 0 7 (dk_at dksX7_worth_1 20 rfl rfl)
theorem dX7_worth_47 : decode cX7_worth 47 = .ok (.iconst 0, 1) := dk_3 (dk_at dksX7_worth_1 23 rfl rfl)
theorem dX7_worth_48 : decode cX7_worth 48 = .ok (.goto 10, 3) := dk_167 0 10 (dk_at dksX7_worth_2 0 rfl rfl)
theorem dX7_worth_51 : decode cX7_worth 51 = .ok (.aload_n 0, 1) := dk_42 (dk_at dksX7_worth_2 3 rfl rfl)
theorem dX7_worth_52 : decode cX7_worth 52 = .ok (.iload_n 1, 1) := dk_27 (dk_at dksX7_worth_2 4 rfl rfl)
theorem dX7_worth_53 : decode cX7_worth 53 = .ok (.iload_n 2, 1) := dk_28 (dk_at dksX7_worth_2 5 rfl rfl)
theorem dX7_worth_54 : decode cX7_worth 54 = .ok (.iload_n 3, 1) := dk_29 (dk_at dksX7_worth_2 6 rfl rfl)
theorem dX7_worth_55 : decode cX7_worth 55 = .ok (.invokevirtual 158, 3) := dk_182 0 158 (dk_at dksX7_worth_2 7 rfl rfl)
theorem dX7_worth_58 : decode cX7_worth 58 = .ok (.ireturn, 1) := dk_172 (dk_at dksX7_worth_2 10 rfl rfl)
def dkwX7_choose_1 : List UInt8 := [158, 0, 5, 3, 172, 42, 182, 0, 78, 42, 42, 27, 28, 182, 0, 178, 182, 0, 81, 172]
abbrev dktX7_choose_1 : List UInt8 := dkwX7_choose_1 ++ []
def dkwX7_choose_0 : List UInt8 := [42, 28, 4, 8, 184, 0, 54, 153, 0, 7, 3, 167, 0, 4, 4, 181, 0, 36, 42, 180, 0, 36]
abbrev dktX7_choose_0 : List UInt8 := dkwX7_choose_0 ++ dktX7_choose_1
theorem dksX7_choose_0 : cX7_choose.data.toList.drop 0 = dktX7_choose_0 := by decide +kernel
theorem dksX7_choose_1 : cX7_choose.data.toList.drop 22 = dktX7_choose_1 := dk_seg dksX7_choose_0 22 rfl rfl
theorem dX7_choose_0 : decode cX7_choose 0 = .ok (.aload_n 0, 1) := dk_42 (dk_at dksX7_choose_0 0 rfl rfl)
theorem dX7_choose_1 : decode cX7_choose 1 = .ok (.iload_n 2, 1) := dk_28 (dk_at dksX7_choose_0 1 rfl rfl)
theorem dX7_choose_2 : decode cX7_choose 2 = .ok (.iconst 1, 1) := dk_4 (dk_at dksX7_choose_0 2 rfl rfl)
theorem dX7_choose_3 : decode cX7_choose 3 = .ok (.iconst 5, 1) := dk_8 (dk_at dksX7_choose_0 3 rfl rfl)
theorem dX7_choose_4 : decode cX7_choose 4 = .ok (.invokestatic 54, 3) := dk_184 0 54 (dk_at dksX7_choose_0 4 rfl rfl)
theorem dX7_choose_7 : decode cX7_choose 7 = .ok (.ifCond .eq 7, 3) := dk_153 0 7 (dk_at dksX7_choose_0 7 rfl rfl)
theorem dX7_choose_10 : decode cX7_choose 10 = .ok (.iconst 0, 1) := dk_3 (dk_at dksX7_choose_0 10 rfl rfl)
theorem dX7_choose_11 : decode cX7_choose 11 = .ok (.goto 4, 3) := dk_167 0 4 (dk_at dksX7_choose_0 11 rfl rfl)
theorem dX7_choose_14 : decode cX7_choose 14 = .ok (.iconst 1, 1) := dk_4 (dk_at dksX7_choose_0 14 rfl rfl)
theorem dX7_choose_15 : decode cX7_choose 15 = .ok (.putfield 36, 3) := dk_181 0 36 (dk_at dksX7_choose_0 15 rfl rfl)
theorem dX7_choose_18 : decode cX7_choose 18 = .ok (.aload_n 0, 1) := dk_42 (dk_at dksX7_choose_0 18 rfl rfl)
theorem dX7_choose_19 : decode cX7_choose 19 = .ok (.getfield 36, 3) := dk_180 0 36 (dk_at dksX7_choose_0 19 rfl rfl)
theorem dX7_choose_22 : decode cX7_choose 22 = .ok (.ifCond .le 5, 3) := dk_158 0 5 (dk_at dksX7_choose_1 0 rfl rfl)
theorem dX7_choose_25 : decode cX7_choose 25 = .ok (.iconst 0, 1) := dk_3 (dk_at dksX7_choose_1 3 rfl rfl)
theorem dX7_choose_26 : decode cX7_choose 26 = .ok (.ireturn, 1) := dk_172 (dk_at dksX7_choose_1 4 rfl rfl)
theorem dX7_choose_27 : decode cX7_choose 27 = .ok (.aload_n 0, 1) := dk_42 (dk_at dksX7_choose_1 5 rfl rfl)
theorem dX7_choose_28 : decode cX7_choose 28 = .ok (.invokevirtual 78, 3) := dk_182 0 78 (dk_at dksX7_choose_1 6 rfl rfl)
theorem dX7_choose_31 : decode cX7_choose 31 = .ok (.aload_n 0, 1) := dk_42 (dk_at dksX7_choose_1 9 rfl rfl)
theorem dX7_choose_32 : decode cX7_choose 32 = .ok (.aload_n 0, 1) := dk_42 (dk_at dksX7_choose_1 10 rfl rfl)
theorem dX7_choose_33 : decode cX7_choose 33 = .ok (.iload_n 1, 1) := dk_27 (dk_at dksX7_choose_1 11 rfl rfl)
theorem dX7_choose_34 : decode cX7_choose 34 = .ok (.iload_n 2, 1) := dk_28 (dk_at dksX7_choose_1 12 rfl rfl)
theorem dX7_choose_35 : decode cX7_choose 35 = .ok (.invokevirtual 178, 3) := dk_182 0 178 (dk_at dksX7_choose_1 13 rfl rfl)
theorem dX7_choose_38 : decode cX7_choose 38 = .ok (.invokevirtual 81, 3) := dk_182 0 81 (dk_at dksX7_choose_1 16 rfl rfl)
theorem dX7_choose_41 : decode cX7_choose 41 = .ok (.ireturn, 1) := dk_172 (dk_at dksX7_choose_1 19 rfl rfl)
def dkwX7_chooses_1 : List UInt8 := [130, 184, 0, 165, 172]
abbrev dktX7_chooses_1 : List UInt8 := dkwX7_chooses_1 ++ []
def dkwX7_chooses_0 : List UInt8 := [42, 27, 182, 0, 174, 62, 42, 27, 28, 182, 0, 170, 54, 4, 42, 27, 21, 4, 182, 0, 151, 29, 21, 4]
abbrev dktX7_chooses_0 : List UInt8 := dkwX7_chooses_0 ++ dktX7_chooses_1
theorem dksX7_chooses_0 : cX7_chooses.data.toList.drop 0 = dktX7_chooses_0 := by decide +kernel
theorem dksX7_chooses_1 : cX7_chooses.data.toList.drop 24 = dktX7_chooses_1 := dk_seg dksX7_chooses_0 24 rfl rfl
theorem dX7_chooses_0 : decode cX7_chooses 0 = .ok (.aload_n 0, 1) := dk_42 (dk_at dksX7_chooses_0 0 rfl rfl)
theorem dX7_chooses_1 : decode cX7_chooses 1 = .ok (.iload_n 1, 1) := dk_27 (dk_at dksX7_chooses_0 1 rfl rfl)
theorem dX7_chooses_2 : decode cX7_chooses 2 = .ok (.invokevirtual 174, 3) := dk_182 0 174 (dk_at dksX7_chooses_0 2 rfl rfl)
theorem dX7_chooses_5 : decode cX7_chooses 5 = .ok (.istore_n 3, 1) := dk_62 (dk_at dksX7_chooses_0 5 rfl rfl)
theorem dX7_chooses_6 : decode cX7_chooses 6 = .ok (.aload_n 0, 1) := dk_42 (dk_at dksX7_chooses_0 6 rfl rfl)
theorem dX7_chooses_7 : decode cX7_chooses 7 = .ok (.iload_n 1, 1) := dk_27 (dk_at dksX7_chooses_0 7 rfl rfl)
theorem dX7_chooses_8 : decode cX7_chooses 8 = .ok (.iload_n 2, 1) := dk_28 (dk_at dksX7_chooses_0 8 rfl rfl)
theorem dX7_chooses_9 : decode cX7_chooses 9 = .ok (.invokevirtual 170, 3) := dk_182 0 170 (dk_at dksX7_chooses_0 9 rfl rfl)
theorem dX7_chooses_12 : decode cX7_chooses 12 = .ok (.istore 4, 2) := dk_54 4 (dk_at dksX7_chooses_0 12 rfl rfl)
theorem dX7_chooses_14 : decode cX7_chooses 14 = .ok (.aload_n 0, 1) := dk_42 (dk_at dksX7_chooses_0 14 rfl rfl)
theorem dX7_chooses_15 : decode cX7_chooses 15 = .ok (.iload_n 1, 1) := dk_27 (dk_at dksX7_chooses_0 15 rfl rfl)
theorem dX7_chooses_16 : decode cX7_chooses 16 = .ok (.iload 4, 2) := dk_21 4 (dk_at dksX7_chooses_0 16 rfl rfl)
theorem dX7_chooses_18 : decode cX7_chooses 18 = .ok (.invokevirtual 151, 3) := dk_182 0 151 (dk_at dksX7_chooses_0 18 rfl rfl)
theorem dX7_chooses_21 : decode cX7_chooses 21 = .ok (.iload_n 3, 1) := dk_29 (dk_at dksX7_chooses_0 21 rfl rfl)
theorem dX7_chooses_22 : decode cX7_chooses 22 = .ok (.iload 4, 2) := dk_21 4 (dk_at dksX7_chooses_0 22 rfl rfl)
theorem dX7_chooses_24 : decode cX7_chooses 24 = .ok (.ixor, 1) := dk_130 (dk_at dksX7_chooses_1 0 rfl rfl)
theorem dX7_chooses_25 : decode cX7_chooses 25 = .ok (.invokestatic 165, 3) := dk_184 0 165 (dk_at dksX7_chooses_1 1 rfl rfl)
theorem dX7_chooses_28 : decode cX7_chooses 28 = .ok (.ireturn, 1) := dk_172 (dk_at dksX7_chooses_1 4 rfl rfl)
def dkwX7_latches_1 : List UInt8 := [167, 0, 5, 16, 8, 182, 0, 62, 29, 120, 128, 61, 132, 3, 1, 167, 255, 222, 28, 172]
abbrev dktX7_latches_1 : List UInt8 := dkwX7_latches_1 ++ []
def dkwX7_latches_0 : List UInt8 := [3, 61, 3, 62, 29, 42, 180, 0, 9, 3, 46, 162, 0, 30, 28, 42, 29, 27, 153, 0, 8, 16, 7]
abbrev dktX7_latches_0 : List UInt8 := dkwX7_latches_0 ++ dktX7_latches_1
theorem dksX7_latches_0 : cX7_latches.data.toList.drop 0 = dktX7_latches_0 := by decide +kernel
theorem dksX7_latches_1 : cX7_latches.data.toList.drop 23 = dktX7_latches_1 := dk_seg dksX7_latches_0 23 rfl rfl
theorem dX7_latches_0 : decode cX7_latches 0 = .ok (.iconst 0, 1) := dk_3 (dk_at dksX7_latches_0 0 rfl rfl)
theorem dX7_latches_1 : decode cX7_latches 1 = .ok (.istore_n 2, 1) := dk_61 (dk_at dksX7_latches_0 1 rfl rfl)
theorem dX7_latches_2 : decode cX7_latches 2 = .ok (.iconst 0, 1) := dk_3 (dk_at dksX7_latches_0 2 rfl rfl)
theorem dX7_latches_3 : decode cX7_latches 3 = .ok (.istore_n 3, 1) := dk_62 (dk_at dksX7_latches_0 3 rfl rfl)
theorem dX7_latches_4 : decode cX7_latches 4 = .ok (.iload_n 3, 1) := dk_29 (dk_at dksX7_latches_0 4 rfl rfl)
theorem dX7_latches_5 : decode cX7_latches 5 = .ok (.aload_n 0, 1) := dk_42 (dk_at dksX7_latches_0 5 rfl rfl)
theorem dX7_latches_6 : decode cX7_latches 6 = .ok (.getfield 9, 3) := dk_180 0 9 (dk_at dksX7_latches_0 6 rfl rfl)
theorem dX7_latches_9 : decode cX7_latches 9 = .ok (.iconst 0, 1) := dk_3 (dk_at dksX7_latches_0 9 rfl rfl)
theorem dX7_latches_10 : decode cX7_latches 10 = .ok (.iaload, 1) := dk_46 (dk_at dksX7_latches_0 10 rfl rfl)
theorem dX7_latches_11 : decode cX7_latches 11 = .ok (.if_icmp .ge 30, 3) := dk_162 0 30 (dk_at dksX7_latches_0 11 rfl rfl)
theorem dX7_latches_14 : decode cX7_latches 14 = .ok (.iload_n 2, 1) := dk_28 (dk_at dksX7_latches_0 14 rfl rfl)
theorem dX7_latches_15 : decode cX7_latches 15 = .ok (.aload_n 0, 1) := dk_42 (dk_at dksX7_latches_0 15 rfl rfl)
theorem dX7_latches_16 : decode cX7_latches 16 = .ok (.iload_n 3, 1) := dk_29 (dk_at dksX7_latches_0 16 rfl rfl)
theorem dX7_latches_17 : decode cX7_latches 17 = .ok (.iload_n 1, 1) := dk_27 (dk_at dksX7_latches_0 17 rfl rfl)
theorem dX7_latches_18 : decode cX7_latches 18 = .ok (.ifCond .eq 8, 3) := dk_153 0 8 (dk_at dksX7_latches_0 18 rfl rfl)
theorem dX7_latches_21 : decode cX7_latches 21 = .ok (.bipush 7, 2) := dk_16 7 (dk_at dksX7_latches_0 21 rfl rfl)
theorem dX7_latches_23 : decode cX7_latches 23 = .ok (.goto 5, 3) := dk_167 0 5 (dk_at dksX7_latches_1 0 rfl rfl)
theorem dX7_latches_26 : decode cX7_latches 26 = .ok (.bipush 8, 2) := dk_16 8 (dk_at dksX7_latches_1 3 rfl rfl)
theorem dX7_latches_28 : decode cX7_latches 28 = .ok (.invokevirtual 62, 3) := dk_182 0 62 (dk_at dksX7_latches_1 5 rfl rfl)
theorem dX7_latches_31 : decode cX7_latches 31 = .ok (.iload_n 3, 1) := dk_29 (dk_at dksX7_latches_1 8 rfl rfl)
theorem dX7_latches_32 : decode cX7_latches 32 = .ok (.ishl, 1) := dk_120 (dk_at dksX7_latches_1 9 rfl rfl)
theorem dX7_latches_33 : decode cX7_latches 33 = .ok (.ior, 1) := dk_128 (dk_at dksX7_latches_1 10 rfl rfl)
theorem dX7_latches_34 : decode cX7_latches 34 = .ok (.istore_n 2, 1) := dk_61 (dk_at dksX7_latches_1 11 rfl rfl)
theorem dX7_latches_35 : decode cX7_latches 35 = .ok (.iinc 3 1, 3) := dk_132 3 1 (dk_at dksX7_latches_1 12 rfl rfl)
theorem dX7_latches_38 : decode cX7_latches 38 = .ok (.goto (-34), 3) := dk_167 255 222 (dk_at dksX7_latches_1 15 rfl rfl)
theorem dX7_latches_41 : decode cX7_latches 41 = .ok (.iload_n 2, 1) := dk_28 (dk_at dksX7_latches_1 18 rfl rfl)
theorem dX7_latches_42 : decode cX7_latches 42 = .ok (.ireturn, 1) := dk_172 (dk_at dksX7_latches_1 19 rfl rfl)
def dkwX7_rest_4 : List UInt8 := [42, 28, 182, 0, 81, 172]
abbrev dktX7_rest_4 : List UInt8 := dkwX7_rest_4 ++ []
def dkwX7_rest_3 : List UInt8 := [167, 0, 4, 3, 62, 132, 2, 1, 167, 255, 213, 42, 29, 153, 0, 7, 3, 167, 0, 4, 5, 181, 0, 36]
abbrev dktX7_rest_3 : List UInt8 := dkwX7_rest_3 ++ dktX7_rest_4
def dkwX7_rest_2 : List UInt8 := [4, 27, 182, 0, 178, 54, 4, 42, 3, 27, 182, 0, 178, 54, 5, 21, 4, 21, 5, 96, 154, 0, 7, 4]
abbrev dktX7_rest_2 : List UInt8 := dkwX7_rest_2 ++ dktX7_rest_3
def dkwX7_rest_1 : List UInt8 := [158, 0, 5, 3, 172, 42, 182, 0, 78, 3, 61, 3, 62, 28, 16, 10, 162, 0, 43, 29, 154, 0, 39, 42]
abbrev dktX7_rest_1 : List UInt8 := dkwX7_rest_1 ++ dktX7_rest_2
def dkwX7_rest_0 : List UInt8 := [42, 27, 4, 8, 184, 0, 54, 153, 0, 7, 3, 167, 0, 4, 4, 181, 0, 36, 42, 180, 0, 36]
abbrev dktX7_rest_0 : List UInt8 := dkwX7_rest_0 ++ dktX7_rest_1
theorem dksX7_rest_0 : cX7_rest.data.toList.drop 0 = dktX7_rest_0 := by decide +kernel
theorem dksX7_rest_1 : cX7_rest.data.toList.drop 22 = dktX7_rest_1 := dk_seg dksX7_rest_0 22 rfl rfl
theorem dksX7_rest_2 : cX7_rest.data.toList.drop 46 = dktX7_rest_2 := dk_seg dksX7_rest_1 24 rfl rfl
theorem dksX7_rest_3 : cX7_rest.data.toList.drop 70 = dktX7_rest_3 := dk_seg dksX7_rest_2 24 rfl rfl
theorem dksX7_rest_4 : cX7_rest.data.toList.drop 94 = dktX7_rest_4 := dk_seg dksX7_rest_3 24 rfl rfl
theorem dX7_rest_0 : decode cX7_rest 0 = .ok (.aload_n 0, 1) := dk_42 (dk_at dksX7_rest_0 0 rfl rfl)
theorem dX7_rest_1 : decode cX7_rest 1 = .ok (.iload_n 1, 1) := dk_27 (dk_at dksX7_rest_0 1 rfl rfl)
theorem dX7_rest_2 : decode cX7_rest 2 = .ok (.iconst 1, 1) := dk_4 (dk_at dksX7_rest_0 2 rfl rfl)
theorem dX7_rest_3 : decode cX7_rest 3 = .ok (.iconst 5, 1) := dk_8 (dk_at dksX7_rest_0 3 rfl rfl)
theorem dX7_rest_4 : decode cX7_rest 4 = .ok (.invokestatic 54, 3) := dk_184 0 54 (dk_at dksX7_rest_0 4 rfl rfl)
theorem dX7_rest_7 : decode cX7_rest 7 = .ok (.ifCond .eq 7, 3) := dk_153 0 7 (dk_at dksX7_rest_0 7 rfl rfl)
theorem dX7_rest_10 : decode cX7_rest 10 = .ok (.iconst 0, 1) := dk_3 (dk_at dksX7_rest_0 10 rfl rfl)
theorem dX7_rest_11 : decode cX7_rest 11 = .ok (.goto 4, 3) := dk_167 0 4 (dk_at dksX7_rest_0 11 rfl rfl)
theorem dX7_rest_14 : decode cX7_rest 14 = .ok (.iconst 1, 1) := dk_4 (dk_at dksX7_rest_0 14 rfl rfl)
theorem dX7_rest_15 : decode cX7_rest 15 = .ok (.putfield 36, 3) := dk_181 0 36 (dk_at dksX7_rest_0 15 rfl rfl)
theorem dX7_rest_18 : decode cX7_rest 18 = .ok (.aload_n 0, 1) := dk_42 (dk_at dksX7_rest_0 18 rfl rfl)
theorem dX7_rest_19 : decode cX7_rest 19 = .ok (.getfield 36, 3) := dk_180 0 36 (dk_at dksX7_rest_0 19 rfl rfl)
theorem dX7_rest_22 : decode cX7_rest 22 = .ok (.ifCond .le 5, 3) := dk_158 0 5 (dk_at dksX7_rest_1 0 rfl rfl)
theorem dX7_rest_25 : decode cX7_rest 25 = .ok (.iconst 0, 1) := dk_3 (dk_at dksX7_rest_1 3 rfl rfl)
theorem dX7_rest_26 : decode cX7_rest 26 = .ok (.ireturn, 1) := dk_172 (dk_at dksX7_rest_1 4 rfl rfl)
theorem dX7_rest_27 : decode cX7_rest 27 = .ok (.aload_n 0, 1) := dk_42 (dk_at dksX7_rest_1 5 rfl rfl)
theorem dX7_rest_28 : decode cX7_rest 28 = .ok (.invokevirtual 78, 3) := dk_182 0 78 (dk_at dksX7_rest_1 6 rfl rfl)
theorem dX7_rest_31 : decode cX7_rest 31 = .ok (.iconst 0, 1) := dk_3 (dk_at dksX7_rest_1 9 rfl rfl)
theorem dX7_rest_32 : decode cX7_rest 32 = .ok (.istore_n 2, 1) := dk_61 (dk_at dksX7_rest_1 10 rfl rfl)
theorem dX7_rest_33 : decode cX7_rest 33 = .ok (.iconst 0, 1) := dk_3 (dk_at dksX7_rest_1 11 rfl rfl)
theorem dX7_rest_34 : decode cX7_rest 34 = .ok (.istore_n 3, 1) := dk_62 (dk_at dksX7_rest_1 12 rfl rfl)
theorem dX7_rest_35 : decode cX7_rest 35 = .ok (.iload_n 2, 1) := dk_28 (dk_at dksX7_rest_1 13 rfl rfl)
theorem dX7_rest_36 : decode cX7_rest 36 = .ok (.bipush 10, 2) := dk_16 10 (dk_at dksX7_rest_1 14 rfl rfl)
theorem dX7_rest_38 : decode cX7_rest 38 = .ok (.if_icmp .ge 43, 3) := dk_162 0 43 (dk_at dksX7_rest_1 16 rfl rfl)
theorem dX7_rest_41 : decode cX7_rest 41 = .ok (.iload_n 3, 1) := dk_29 (dk_at dksX7_rest_1 19 rfl rfl)
theorem dX7_rest_42 : decode cX7_rest 42 = .ok (.ifCond .ne 39, 3) := dk_154 0 39 (dk_at dksX7_rest_1 20 rfl rfl)
theorem dX7_rest_45 : decode cX7_rest 45 = .ok (.aload_n 0, 1) := dk_42 (dk_at dksX7_rest_1 23 rfl rfl)
theorem dX7_rest_46 : decode cX7_rest 46 = .ok (.iconst 1, 1) := dk_4 (dk_at dksX7_rest_2 0 rfl rfl)
theorem dX7_rest_47 : decode cX7_rest 47 = .ok (.iload_n 1, 1) := dk_27 (dk_at dksX7_rest_2 1 rfl rfl)
theorem dX7_rest_48 : decode cX7_rest 48 = .ok (.invokevirtual 178, 3) := dk_182 0 178 (dk_at dksX7_rest_2 2 rfl rfl)
theorem dX7_rest_51 : decode cX7_rest 51 = .ok (.istore 4, 2) := dk_54 4 (dk_at dksX7_rest_2 5 rfl rfl)
theorem dX7_rest_53 : decode cX7_rest 53 = .ok (.aload_n 0, 1) := dk_42 (dk_at dksX7_rest_2 7 rfl rfl)
theorem dX7_rest_54 : decode cX7_rest 54 = .ok (.iconst 0, 1) := dk_3 (dk_at dksX7_rest_2 8 rfl rfl)
theorem dX7_rest_55 : decode cX7_rest 55 = .ok (.iload_n 1, 1) := dk_27 (dk_at dksX7_rest_2 9 rfl rfl)
theorem dX7_rest_56 : decode cX7_rest 56 = .ok (.invokevirtual 178, 3) := dk_182 0 178 (dk_at dksX7_rest_2 10 rfl rfl)
theorem dX7_rest_59 : decode cX7_rest 59 = .ok (.istore 5, 2) := dk_54 5 (dk_at dksX7_rest_2 13 rfl rfl)
theorem dX7_rest_61 : decode cX7_rest 61 = .ok (.iload 4, 2) := dk_21 4 (dk_at dksX7_rest_2 15 rfl rfl)
theorem dX7_rest_63 : decode cX7_rest 63 = .ok (.iload 5, 2) := dk_21 5 (dk_at dksX7_rest_2 17 rfl rfl)
theorem dX7_rest_65 : decode cX7_rest 65 = .ok (.iadd, 1) := dk_96 (dk_at dksX7_rest_2 19 rfl rfl)
theorem dX7_rest_66 : decode cX7_rest 66 = .ok (.ifCond .ne 7, 3) := dk_154 0 7 (dk_at dksX7_rest_2 20 rfl rfl)
theorem dX7_rest_69 : decode cX7_rest 69 = .ok (.iconst 1, 1) := dk_4 (dk_at dksX7_rest_2 23 rfl rfl)
theorem dX7_rest_70 : decode cX7_rest 70 = .ok (.goto 4, 3) := dk_167 0 4 (dk_at dksX7_rest_3 0 rfl rfl)
theorem dX7_rest_73 : decode cX7_rest 73 = .ok (.iconst 0, 1) := dk_3 (dk_at dksX7_rest_3 3 rfl rfl)
theorem dX7_rest_74 : decode cX7_rest 74 = .ok (.istore_n 3, 1) := dk_62 (dk_at dksX7_rest_3 4 rfl rfl)
theorem dX7_rest_75 : decode cX7_rest 75 = .ok (.iinc 2 1, 3) := dk_132 2 1 (dk_at dksX7_rest_3 5 rfl rfl)
theorem dX7_rest_78 : decode cX7_rest 78 = .ok (.goto (-43), 3) := dk_167 255 213 (dk_at dksX7_rest_3 8 rfl rfl)
theorem dX7_rest_81 : decode cX7_rest 81 = .ok (.aload_n 0, 1) := dk_42 (dk_at dksX7_rest_3 11 rfl rfl)
theorem dX7_rest_82 : decode cX7_rest 82 = .ok (.iload_n 3, 1) := dk_29 (dk_at dksX7_rest_3 12 rfl rfl)
theorem dX7_rest_83 : decode cX7_rest 83 = .ok (.ifCond .eq 7, 3) := dk_153 0 7 (dk_at dksX7_rest_3 13 rfl rfl)
theorem dX7_rest_86 : decode cX7_rest 86 = .ok (.iconst 0, 1) := dk_3 (dk_at dksX7_rest_3 16 rfl rfl)
theorem dX7_rest_87 : decode cX7_rest 87 = .ok (.goto 4, 3) := dk_167 0 4 (dk_at dksX7_rest_3 17 rfl rfl)
theorem dX7_rest_90 : decode cX7_rest 90 = .ok (.iconst 2, 1) := dk_5 (dk_at dksX7_rest_3 20 rfl rfl)
theorem dX7_rest_91 : decode cX7_rest 91 = .ok (.putfield 36, 3) := dk_181 0 36 (dk_at dksX7_rest_3 21 rfl rfl)
theorem dX7_rest_94 : decode cX7_rest 94 = .ok (.aload_n 0, 1) := dk_42 (dk_at dksX7_rest_4 0 rfl rfl)
theorem dX7_rest_95 : decode cX7_rest 95 = .ok (.iload_n 2, 1) := dk_28 (dk_at dksX7_rest_4 1 rfl rfl)
theorem dX7_rest_96 : decode cX7_rest 96 = .ok (.invokevirtual 81, 3) := dk_182 0 81 (dk_at dksX7_rest_4 2 rfl rfl)
theorem dX7_rest_99 : decode cX7_rest 99 = .ok (.ireturn, 1) := dk_172 (dk_at dksX7_rest_4 5 rfl rfl)
def dkwX7_water_0 : List UInt8 := [42, 3, 181, 0, 36, 42, 182, 0, 181, 172]
abbrev dktX7_water_0 : List UInt8 := dkwX7_water_0 ++ []
theorem dksX7_water_0 : cX7_water.data.toList.drop 0 = dktX7_water_0 := by decide +kernel
theorem dX7_water_0 : decode cX7_water 0 = .ok (.aload_n 0, 1) := dk_42 (dk_at dksX7_water_0 0 rfl rfl)
theorem dX7_water_1 : decode cX7_water 1 = .ok (.iconst 0, 1) := dk_3 (dk_at dksX7_water_0 1 rfl rfl)
theorem dX7_water_2 : decode cX7_water 2 = .ok (.putfield 36, 3) := dk_181 0 36 (dk_at dksX7_water_0 2 rfl rfl)
theorem dX7_water_5 : decode cX7_water 5 = .ok (.aload_n 0, 1) := dk_42 (dk_at dksX7_water_0 5 rfl rfl)
theorem dX7_water_6 : decode cX7_water 6 = .ok (.invokevirtual 181, 3) := dk_182 0 181 (dk_at dksX7_water_0 6 rfl rfl)
theorem dX7_water_9 : decode cX7_water 9 = .ok (.ireturn, 1) := dk_172 (dk_at dksX7_water_0 9 rfl rfl)
def dkwX7_waterNow_1 : List UInt8 := [132, 2, 1, 167, 255, 234, 27, 172]
abbrev dktX7_waterNow_1 : List UInt8 := dkwX7_waterNow_1 ++ []
def dkwX7_waterNow_0 : List UInt8 := [3, 60, 3, 61, 28, 42, 180, 0, 9, 3, 46, 162, 0, 18, 27, 42, 28, 7, 182, 0, 62, 96, 60]
abbrev dktX7_waterNow_0 : List UInt8 := dkwX7_waterNow_0 ++ dktX7_waterNow_1
theorem dksX7_waterNow_0 : cX7_waterNow.data.toList.drop 0 = dktX7_waterNow_0 := by decide +kernel
theorem dksX7_waterNow_1 : cX7_waterNow.data.toList.drop 23 = dktX7_waterNow_1 := dk_seg dksX7_waterNow_0 23 rfl rfl
theorem dX7_waterNow_0 : decode cX7_waterNow 0 = .ok (.iconst 0, 1) := dk_3 (dk_at dksX7_waterNow_0 0 rfl rfl)
theorem dX7_waterNow_1 : decode cX7_waterNow 1 = .ok (.istore_n 1, 1) := dk_60 (dk_at dksX7_waterNow_0 1 rfl rfl)
theorem dX7_waterNow_2 : decode cX7_waterNow 2 = .ok (.iconst 0, 1) := dk_3 (dk_at dksX7_waterNow_0 2 rfl rfl)
theorem dX7_waterNow_3 : decode cX7_waterNow 3 = .ok (.istore_n 2, 1) := dk_61 (dk_at dksX7_waterNow_0 3 rfl rfl)
theorem dX7_waterNow_4 : decode cX7_waterNow 4 = .ok (.iload_n 2, 1) := dk_28 (dk_at dksX7_waterNow_0 4 rfl rfl)
theorem dX7_waterNow_5 : decode cX7_waterNow 5 = .ok (.aload_n 0, 1) := dk_42 (dk_at dksX7_waterNow_0 5 rfl rfl)
theorem dX7_waterNow_6 : decode cX7_waterNow 6 = .ok (.getfield 9, 3) := dk_180 0 9 (dk_at dksX7_waterNow_0 6 rfl rfl)
theorem dX7_waterNow_9 : decode cX7_waterNow 9 = .ok (.iconst 0, 1) := dk_3 (dk_at dksX7_waterNow_0 9 rfl rfl)
theorem dX7_waterNow_10 : decode cX7_waterNow 10 = .ok (.iaload, 1) := dk_46 (dk_at dksX7_waterNow_0 10 rfl rfl)
theorem dX7_waterNow_11 : decode cX7_waterNow 11 = .ok (.if_icmp .ge 18, 3) := dk_162 0 18 (dk_at dksX7_waterNow_0 11 rfl rfl)
theorem dX7_waterNow_14 : decode cX7_waterNow 14 = .ok (.iload_n 1, 1) := dk_27 (dk_at dksX7_waterNow_0 14 rfl rfl)
theorem dX7_waterNow_15 : decode cX7_waterNow 15 = .ok (.aload_n 0, 1) := dk_42 (dk_at dksX7_waterNow_0 15 rfl rfl)
theorem dX7_waterNow_16 : decode cX7_waterNow 16 = .ok (.iload_n 2, 1) := dk_28 (dk_at dksX7_waterNow_0 16 rfl rfl)
theorem dX7_waterNow_17 : decode cX7_waterNow 17 = .ok (.iconst 4, 1) := dk_7 (dk_at dksX7_waterNow_0 17 rfl rfl)
theorem dX7_waterNow_18 : decode cX7_waterNow 18 = .ok (.invokevirtual 62, 3) := dk_182 0 62 (dk_at dksX7_waterNow_0 18 rfl rfl)
theorem dX7_waterNow_21 : decode cX7_waterNow 21 = .ok (.iadd, 1) := dk_96 (dk_at dksX7_waterNow_0 21 rfl rfl)
theorem dX7_waterNow_22 : decode cX7_waterNow 22 = .ok (.istore_n 1, 1) := dk_60 (dk_at dksX7_waterNow_0 22 rfl rfl)
theorem dX7_waterNow_23 : decode cX7_waterNow 23 = .ok (.iinc 2 1, 3) := dk_132 2 1 (dk_at dksX7_waterNow_1 0 rfl rfl)
theorem dX7_waterNow_26 : decode cX7_waterNow 26 = .ok (.goto (-22), 3) := dk_167 255 234 (dk_at dksX7_waterNow_1 3 rfl rfl)
theorem dX7_waterNow_29 : decode cX7_waterNow 29 = .ok (.iload_n 1, 1) := dk_27 (dk_at dksX7_waterNow_1 6 rfl rfl)
theorem dX7_waterNow_30 : decode cX7_waterNow 30 = .ok (.ireturn, 1) := dk_172 (dk_at dksX7_waterNow_1 7 rfl rfl)
def dkwX7_waterAgain_1 : List UInt8 := [46, 100, 172]
abbrev dktX7_waterAgain_1 : List UInt8 := dkwX7_waterAgain_1 ++ []
def dkwX7_waterAgain_0 : List UInt8 := [42, 3, 181, 0, 36, 42, 180, 0, 9, 7, 46, 42, 180, 0, 9, 8, 46, 100, 42, 180, 0, 9, 16, 6]
abbrev dktX7_waterAgain_0 : List UInt8 := dkwX7_waterAgain_0 ++ dktX7_waterAgain_1
theorem dksX7_waterAgain_0 : cX7_waterAgain.data.toList.drop 0 = dktX7_waterAgain_0 := by decide +kernel
theorem dksX7_waterAgain_1 : cX7_waterAgain.data.toList.drop 24 = dktX7_waterAgain_1 := dk_seg dksX7_waterAgain_0 24 rfl rfl
theorem dX7_waterAgain_0 : decode cX7_waterAgain 0 = .ok (.aload_n 0, 1) := dk_42 (dk_at dksX7_waterAgain_0 0 rfl rfl)
theorem dX7_waterAgain_1 : decode cX7_waterAgain 1 = .ok (.iconst 0, 1) := dk_3 (dk_at dksX7_waterAgain_0 1 rfl rfl)
theorem dX7_waterAgain_2 : decode cX7_waterAgain 2 = .ok (.putfield 36, 3) := dk_181 0 36 (dk_at dksX7_waterAgain_0 2 rfl rfl)
theorem dX7_waterAgain_5 : decode cX7_waterAgain 5 = .ok (.aload_n 0, 1) := dk_42 (dk_at dksX7_waterAgain_0 5 rfl rfl)
theorem dX7_waterAgain_6 : decode cX7_waterAgain 6 = .ok (.getfield 9, 3) := dk_180 0 9 (dk_at dksX7_waterAgain_0 6 rfl rfl)
theorem dX7_waterAgain_9 : decode cX7_waterAgain 9 = .ok (.iconst 4, 1) := dk_7 (dk_at dksX7_waterAgain_0 9 rfl rfl)
theorem dX7_waterAgain_10 : decode cX7_waterAgain 10 = .ok (.iaload, 1) := dk_46 (dk_at dksX7_waterAgain_0 10 rfl rfl)
theorem dX7_waterAgain_11 : decode cX7_waterAgain 11 = .ok (.aload_n 0, 1) := dk_42 (dk_at dksX7_waterAgain_0 11 rfl rfl)
theorem dX7_waterAgain_12 : decode cX7_waterAgain 12 = .ok (.getfield 9, 3) := dk_180 0 9 (dk_at dksX7_waterAgain_0 12 rfl rfl)
theorem dX7_waterAgain_15 : decode cX7_waterAgain 15 = .ok (.iconst 5, 1) := dk_8 (dk_at dksX7_waterAgain_0 15 rfl rfl)
theorem dX7_waterAgain_16 : decode cX7_waterAgain 16 = .ok (.iaload, 1) := dk_46 (dk_at dksX7_waterAgain_0 16 rfl rfl)
theorem dX7_waterAgain_17 : decode cX7_waterAgain 17 = .ok (.isub, 1) := dk_100 (dk_at dksX7_waterAgain_0 17 rfl rfl)
theorem dX7_waterAgain_18 : decode cX7_waterAgain 18 = .ok (.aload_n 0, 1) := dk_42 (dk_at dksX7_waterAgain_0 18 rfl rfl)
theorem dX7_waterAgain_19 : decode cX7_waterAgain 19 = .ok (.getfield 9, 3) := dk_180 0 9 (dk_at dksX7_waterAgain_0 19 rfl rfl)
theorem dX7_waterAgain_22 : decode cX7_waterAgain 22 = .ok (.bipush 6, 2) := dk_16 6 (dk_at dksX7_waterAgain_0 22 rfl rfl)
theorem dX7_waterAgain_24 : decode cX7_waterAgain 24 = .ok (.iaload, 1) := dk_46 (dk_at dksX7_waterAgain_1 0 rfl rfl)
theorem dX7_waterAgain_25 : decode cX7_waterAgain 25 = .ok (.isub, 1) := dk_100 (dk_at dksX7_waterAgain_1 1 rfl rfl)
theorem dX7_waterAgain_26 : decode cX7_waterAgain 26 = .ok (.ireturn, 1) := dk_172 (dk_at dksX7_waterAgain_1 2 rfl rfl)
def dkwX7_number_5 : List UInt8 := [180, 0, 45, 172, 42, 180, 0, 184, 172, 42, 180, 0, 9, 6, 27, 96, 4, 100, 46, 172]
abbrev dktX7_number_5 : List UInt8 := dkwX7_number_5 ++ []
def dkwX7_number_4 : List UInt8 := [16, 9, 27, 96, 16, 9, 100, 46, 172, 42, 182, 0, 155, 172, 42, 180, 0, 9, 5, 46, 172, 42]
abbrev dktX7_number_4 : List UInt8 := dkwX7_number_4 ++ dktX7_number_5
def dkwX7_number_3 : List UInt8 := [42, 180, 0, 9, 3, 46, 172, 42, 180, 0, 9, 4, 46, 172, 42, 2, 182, 0, 103, 172, 42, 180, 0, 9]
abbrev dktX7_number_3 : List UInt8 := dkwX7_number_3 ++ dktX7_number_4
def dkwX7_number_2 : List UInt8 := [170, 0, 0, 0, 0, 0, 134, 0, 0, 0, 0, 0, 0, 0, 15, 0, 0, 0, 79, 0, 0, 0, 134, 0, 0, 0, 134, 0, 0, 0, 134, 0, 0, 0, 134, 0, 0, 0, 134, 0, 0, 0, 134, 0, 0, 0, 86, 0, 0, 0, 93, 0, 0, 0, 99, 0, 0, 0, 99, 0, 0, 0, 99, 0, 0, 0, 112, 0, 0, 0, 117, 0, 0, 0, 124, 0, 0, 0, 129]
abbrev dktX7_number_2 : List UInt8 := dkwX7_number_2 ++ dktX7_number_3
def dkwX7_number_1 : List UInt8 := [158, 0, 5, 3, 172, 27]
abbrev dktX7_number_1 : List UInt8 := dkwX7_number_1 ++ dktX7_number_2
def dkwX7_number_0 : List UInt8 := [42, 27, 3, 16, 15, 184, 0, 54, 153, 0, 7, 3, 167, 0, 4, 4, 181, 0, 36, 42, 180, 0, 36]
abbrev dktX7_number_0 : List UInt8 := dkwX7_number_0 ++ dktX7_number_1
theorem dksX7_number_0 : cX7_number.data.toList.drop 0 = dktX7_number_0 := by decide +kernel
theorem dksX7_number_1 : cX7_number.data.toList.drop 23 = dktX7_number_1 := dk_seg dksX7_number_0 23 rfl rfl
theorem dksX7_number_2 : cX7_number.data.toList.drop 29 = dktX7_number_2 := dk_seg dksX7_number_1 6 rfl rfl
theorem dksX7_number_3 : cX7_number.data.toList.drop 108 = dktX7_number_3 := dk_seg dksX7_number_2 79 rfl rfl
theorem dksX7_number_4 : cX7_number.data.toList.drop 132 = dktX7_number_4 := dk_seg dksX7_number_3 24 rfl rfl
theorem dksX7_number_5 : cX7_number.data.toList.drop 154 = dktX7_number_5 := dk_seg dksX7_number_4 22 rfl rfl
theorem dX7_number_0 : decode cX7_number 0 = .ok (.aload_n 0, 1) := dk_42 (dk_at dksX7_number_0 0 rfl rfl)
theorem dX7_number_1 : decode cX7_number 1 = .ok (.iload_n 1, 1) := dk_27 (dk_at dksX7_number_0 1 rfl rfl)
theorem dX7_number_2 : decode cX7_number 2 = .ok (.iconst 0, 1) := dk_3 (dk_at dksX7_number_0 2 rfl rfl)
theorem dX7_number_3 : decode cX7_number 3 = .ok (.bipush 15, 2) := dk_16 15 (dk_at dksX7_number_0 3 rfl rfl)
theorem dX7_number_5 : decode cX7_number 5 = .ok (.invokestatic 54, 3) := dk_184 0 54 (dk_at dksX7_number_0 5 rfl rfl)
theorem dX7_number_8 : decode cX7_number 8 = .ok (.ifCond .eq 7, 3) := dk_153 0 7 (dk_at dksX7_number_0 8 rfl rfl)
theorem dX7_number_11 : decode cX7_number 11 = .ok (.iconst 0, 1) := dk_3 (dk_at dksX7_number_0 11 rfl rfl)
theorem dX7_number_12 : decode cX7_number 12 = .ok (.goto 4, 3) := dk_167 0 4 (dk_at dksX7_number_0 12 rfl rfl)
theorem dX7_number_15 : decode cX7_number 15 = .ok (.iconst 1, 1) := dk_4 (dk_at dksX7_number_0 15 rfl rfl)
theorem dX7_number_16 : decode cX7_number 16 = .ok (.putfield 36, 3) := dk_181 0 36 (dk_at dksX7_number_0 16 rfl rfl)
theorem dX7_number_19 : decode cX7_number 19 = .ok (.aload_n 0, 1) := dk_42 (dk_at dksX7_number_0 19 rfl rfl)
theorem dX7_number_20 : decode cX7_number 20 = .ok (.getfield 36, 3) := dk_180 0 36 (dk_at dksX7_number_0 20 rfl rfl)
theorem dX7_number_23 : decode cX7_number 23 = .ok (.ifCond .le 5, 3) := dk_158 0 5 (dk_at dksX7_number_1 0 rfl rfl)
theorem dX7_number_26 : decode cX7_number 26 = .ok (.iconst 0, 1) := dk_3 (dk_at dksX7_number_1 3 rfl rfl)
theorem dX7_number_27 : decode cX7_number 27 = .ok (.ireturn, 1) := dk_172 (dk_at dksX7_number_1 4 rfl rfl)
theorem dX7_number_28 : decode cX7_number 28 = .ok (.iload_n 1, 1) := dk_27 (dk_at dksX7_number_1 5 rfl rfl)
theorem dX7_number_29 : decode cX7_number 29 = .ok (.tableswitch 134 0 15 #[79, 134, 134, 134, 134, 134, 134, 86, 93, 99, 99, 99, 112, 117, 124, 129], 79) := by decide +kernel
theorem dX7_number_108 : decode cX7_number 108 = .ok (.aload_n 0, 1) := dk_42 (dk_at dksX7_number_3 0 rfl rfl)
theorem dX7_number_109 : decode cX7_number 109 = .ok (.getfield 9, 3) := dk_180 0 9 (dk_at dksX7_number_3 1 rfl rfl)
theorem dX7_number_112 : decode cX7_number 112 = .ok (.iconst 0, 1) := dk_3 (dk_at dksX7_number_3 4 rfl rfl)
theorem dX7_number_113 : decode cX7_number 113 = .ok (.iaload, 1) := dk_46 (dk_at dksX7_number_3 5 rfl rfl)
theorem dX7_number_114 : decode cX7_number 114 = .ok (.ireturn, 1) := dk_172 (dk_at dksX7_number_3 6 rfl rfl)
theorem dX7_number_115 : decode cX7_number 115 = .ok (.aload_n 0, 1) := dk_42 (dk_at dksX7_number_3 7 rfl rfl)
theorem dX7_number_116 : decode cX7_number 116 = .ok (.getfield 9, 3) := dk_180 0 9 (dk_at dksX7_number_3 8 rfl rfl)
theorem dX7_number_119 : decode cX7_number 119 = .ok (.iconst 1, 1) := dk_4 (dk_at dksX7_number_3 11 rfl rfl)
theorem dX7_number_120 : decode cX7_number 120 = .ok (.iaload, 1) := dk_46 (dk_at dksX7_number_3 12 rfl rfl)
theorem dX7_number_121 : decode cX7_number 121 = .ok (.ireturn, 1) := dk_172 (dk_at dksX7_number_3 13 rfl rfl)
theorem dX7_number_122 : decode cX7_number 122 = .ok (.aload_n 0, 1) := dk_42 (dk_at dksX7_number_3 14 rfl rfl)
theorem dX7_number_123 : decode cX7_number 123 = .ok (.iconst (-1), 1) := dk_2 (dk_at dksX7_number_3 15 rfl rfl)
theorem dX7_number_124 : decode cX7_number 124 = .ok (.invokevirtual 103, 3) := dk_182 0 103 (dk_at dksX7_number_3 16 rfl rfl)
theorem dX7_number_127 : decode cX7_number 127 = .ok (.ireturn, 1) := dk_172 (dk_at dksX7_number_3 19 rfl rfl)
theorem dX7_number_128 : decode cX7_number 128 = .ok (.aload_n 0, 1) := dk_42 (dk_at dksX7_number_3 20 rfl rfl)
theorem dX7_number_129 : decode cX7_number 129 = .ok (.getfield 9, 3) := dk_180 0 9 (dk_at dksX7_number_3 21 rfl rfl)
theorem dX7_number_132 : decode cX7_number 132 = .ok (.bipush 9, 2) := dk_16 9 (dk_at dksX7_number_4 0 rfl rfl)
theorem dX7_number_134 : decode cX7_number 134 = .ok (.iload_n 1, 1) := dk_27 (dk_at dksX7_number_4 2 rfl rfl)
theorem dX7_number_135 : decode cX7_number 135 = .ok (.iadd, 1) := dk_96 (dk_at dksX7_number_4 3 rfl rfl)
theorem dX7_number_136 : decode cX7_number 136 = .ok (.bipush 9, 2) := dk_16 9 (dk_at dksX7_number_4 4 rfl rfl)
theorem dX7_number_138 : decode cX7_number 138 = .ok (.isub, 1) := dk_100 (dk_at dksX7_number_4 6 rfl rfl)
theorem dX7_number_139 : decode cX7_number 139 = .ok (.iaload, 1) := dk_46 (dk_at dksX7_number_4 7 rfl rfl)
theorem dX7_number_140 : decode cX7_number 140 = .ok (.ireturn, 1) := dk_172 (dk_at dksX7_number_4 8 rfl rfl)
theorem dX7_number_141 : decode cX7_number 141 = .ok (.aload_n 0, 1) := dk_42 (dk_at dksX7_number_4 9 rfl rfl)
theorem dX7_number_142 : decode cX7_number 142 = .ok (.invokevirtual 155, 3) := dk_182 0 155 (dk_at dksX7_number_4 10 rfl rfl)
theorem dX7_number_145 : decode cX7_number 145 = .ok (.ireturn, 1) := dk_172 (dk_at dksX7_number_4 13 rfl rfl)
theorem dX7_number_146 : decode cX7_number 146 = .ok (.aload_n 0, 1) := dk_42 (dk_at dksX7_number_4 14 rfl rfl)
theorem dX7_number_147 : decode cX7_number 147 = .ok (.getfield 9, 3) := dk_180 0 9 (dk_at dksX7_number_4 15 rfl rfl)
theorem dX7_number_150 : decode cX7_number 150 = .ok (.iconst 2, 1) := dk_5 (dk_at dksX7_number_4 18 rfl rfl)
theorem dX7_number_151 : decode cX7_number 151 = .ok (.iaload, 1) := dk_46 (dk_at dksX7_number_4 19 rfl rfl)
theorem dX7_number_152 : decode cX7_number 152 = .ok (.ireturn, 1) := dk_172 (dk_at dksX7_number_4 20 rfl rfl)
theorem dX7_number_153 : decode cX7_number 153 = .ok (.aload_n 0, 1) := dk_42 (dk_at dksX7_number_4 21 rfl rfl)
theorem dX7_number_154 : decode cX7_number 154 = .ok (.getfield 45, 3) := dk_180 0 45 (dk_at dksX7_number_5 0 rfl rfl)
theorem dX7_number_157 : decode cX7_number 157 = .ok (.ireturn, 1) := dk_172 (dk_at dksX7_number_5 3 rfl rfl)
theorem dX7_number_158 : decode cX7_number 158 = .ok (.aload_n 0, 1) := dk_42 (dk_at dksX7_number_5 4 rfl rfl)
theorem dX7_number_159 : decode cX7_number 159 = .ok (.getfield 184, 3) := dk_180 0 184 (dk_at dksX7_number_5 5 rfl rfl)
theorem dX7_number_162 : decode cX7_number 162 = .ok (.ireturn, 1) := dk_172 (dk_at dksX7_number_5 8 rfl rfl)
theorem dX7_number_163 : decode cX7_number 163 = .ok (.aload_n 0, 1) := dk_42 (dk_at dksX7_number_5 9 rfl rfl)
theorem dX7_number_164 : decode cX7_number 164 = .ok (.getfield 9, 3) := dk_180 0 9 (dk_at dksX7_number_5 10 rfl rfl)
theorem dX7_number_167 : decode cX7_number 167 = .ok (.iconst 3, 1) := dk_6 (dk_at dksX7_number_5 13 rfl rfl)
theorem dX7_number_168 : decode cX7_number 168 = .ok (.iload_n 1, 1) := dk_27 (dk_at dksX7_number_5 14 rfl rfl)
theorem dX7_number_169 : decode cX7_number 169 = .ok (.iadd, 1) := dk_96 (dk_at dksX7_number_5 15 rfl rfl)
theorem dX7_number_170 : decode cX7_number 170 = .ok (.iconst 1, 1) := dk_4 (dk_at dksX7_number_5 16 rfl rfl)
theorem dX7_number_171 : decode cX7_number 171 = .ok (.isub, 1) := dk_100 (dk_at dksX7_number_5 17 rfl rfl)
theorem dX7_number_172 : decode cX7_number 172 = .ok (.iaload, 1) := dk_46 (dk_at dksX7_number_5 18 rfl rfl)
theorem dX7_number_173 : decode cX7_number 173 = .ok (.ireturn, 1) := dk_172 (dk_at dksX7_number_5 19 rfl rfl)
def dkwX7_meanLevel_2 : List UInt8 := [182, 0, 94, 96, 60, 132, 2, 1, 167, 255, 235, 27, 135, 42, 180, 0, 9, 3, 46, 135, 111, 175]
abbrev dktX7_meanLevel_2 : List UInt8 := dkwX7_meanLevel_2 ++ []
def dkwX7_meanLevel_1 : List UInt8 := [158, 0, 5, 14, 175, 3, 60, 3, 61, 28, 42, 180, 0, 9, 3, 46, 162, 0, 17, 27, 42, 28]
abbrev dktX7_meanLevel_1 : List UInt8 := dkwX7_meanLevel_1 ++ dktX7_meanLevel_2
def dkwX7_meanLevel_0 : List UInt8 := [42, 42, 180, 0, 9, 3, 46, 154, 0, 7, 4, 167, 0, 4, 3, 181, 0, 36, 42, 180, 0, 36]
abbrev dktX7_meanLevel_0 : List UInt8 := dkwX7_meanLevel_0 ++ dktX7_meanLevel_1
theorem dksX7_meanLevel_0 : cX7_meanLevel.data.toList.drop 0 = dktX7_meanLevel_0 := by decide +kernel
theorem dksX7_meanLevel_1 : cX7_meanLevel.data.toList.drop 22 = dktX7_meanLevel_1 := dk_seg dksX7_meanLevel_0 22 rfl rfl
theorem dksX7_meanLevel_2 : cX7_meanLevel.data.toList.drop 44 = dktX7_meanLevel_2 := dk_seg dksX7_meanLevel_1 22 rfl rfl
theorem dX7_meanLevel_0 : decode cX7_meanLevel 0 = .ok (.aload_n 0, 1) := dk_42 (dk_at dksX7_meanLevel_0 0 rfl rfl)
theorem dX7_meanLevel_1 : decode cX7_meanLevel 1 = .ok (.aload_n 0, 1) := dk_42 (dk_at dksX7_meanLevel_0 1 rfl rfl)
theorem dX7_meanLevel_2 : decode cX7_meanLevel 2 = .ok (.getfield 9, 3) := dk_180 0 9 (dk_at dksX7_meanLevel_0 2 rfl rfl)
theorem dX7_meanLevel_5 : decode cX7_meanLevel 5 = .ok (.iconst 0, 1) := dk_3 (dk_at dksX7_meanLevel_0 5 rfl rfl)
theorem dX7_meanLevel_6 : decode cX7_meanLevel 6 = .ok (.iaload, 1) := dk_46 (dk_at dksX7_meanLevel_0 6 rfl rfl)
theorem dX7_meanLevel_7 : decode cX7_meanLevel 7 = .ok (.ifCond .ne 7, 3) := dk_154 0 7 (dk_at dksX7_meanLevel_0 7 rfl rfl)
theorem dX7_meanLevel_10 : decode cX7_meanLevel 10 = .ok (.iconst 1, 1) := dk_4 (dk_at dksX7_meanLevel_0 10 rfl rfl)
theorem dX7_meanLevel_11 : decode cX7_meanLevel 11 = .ok (.goto 4, 3) := dk_167 0 4 (dk_at dksX7_meanLevel_0 11 rfl rfl)
theorem dX7_meanLevel_14 : decode cX7_meanLevel 14 = .ok (.iconst 0, 1) := dk_3 (dk_at dksX7_meanLevel_0 14 rfl rfl)
theorem dX7_meanLevel_15 : decode cX7_meanLevel 15 = .ok (.putfield 36, 3) := dk_181 0 36 (dk_at dksX7_meanLevel_0 15 rfl rfl)
theorem dX7_meanLevel_18 : decode cX7_meanLevel 18 = .ok (.aload_n 0, 1) := dk_42 (dk_at dksX7_meanLevel_0 18 rfl rfl)
theorem dX7_meanLevel_19 : decode cX7_meanLevel 19 = .ok (.getfield 36, 3) := dk_180 0 36 (dk_at dksX7_meanLevel_0 19 rfl rfl)
theorem dX7_meanLevel_22 : decode cX7_meanLevel 22 = .ok (.ifCond .le 5, 3) := dk_158 0 5 (dk_at dksX7_meanLevel_1 0 rfl rfl)
theorem dX7_meanLevel_25 : decode cX7_meanLevel 25 = .ok (.dconst 0, 1) := dk_14 (dk_at dksX7_meanLevel_1 3 rfl rfl)
theorem dX7_meanLevel_26 : decode cX7_meanLevel 26 = .ok (.dreturn, 1) := dk_175 (dk_at dksX7_meanLevel_1 4 rfl rfl)
theorem dX7_meanLevel_27 : decode cX7_meanLevel 27 = .ok (.iconst 0, 1) := dk_3 (dk_at dksX7_meanLevel_1 5 rfl rfl)
theorem dX7_meanLevel_28 : decode cX7_meanLevel 28 = .ok (.istore_n 1, 1) := dk_60 (dk_at dksX7_meanLevel_1 6 rfl rfl)
theorem dX7_meanLevel_29 : decode cX7_meanLevel 29 = .ok (.iconst 0, 1) := dk_3 (dk_at dksX7_meanLevel_1 7 rfl rfl)
theorem dX7_meanLevel_30 : decode cX7_meanLevel 30 = .ok (.istore_n 2, 1) := dk_61 (dk_at dksX7_meanLevel_1 8 rfl rfl)
theorem dX7_meanLevel_31 : decode cX7_meanLevel 31 = .ok (.iload_n 2, 1) := dk_28 (dk_at dksX7_meanLevel_1 9 rfl rfl)
theorem dX7_meanLevel_32 : decode cX7_meanLevel 32 = .ok (.aload_n 0, 1) := dk_42 (dk_at dksX7_meanLevel_1 10 rfl rfl)
theorem dX7_meanLevel_33 : decode cX7_meanLevel 33 = .ok (.getfield 9, 3) := dk_180 0 9 (dk_at dksX7_meanLevel_1 11 rfl rfl)
theorem dX7_meanLevel_36 : decode cX7_meanLevel 36 = .ok (.iconst 0, 1) := dk_3 (dk_at dksX7_meanLevel_1 14 rfl rfl)
theorem dX7_meanLevel_37 : decode cX7_meanLevel 37 = .ok (.iaload, 1) := dk_46 (dk_at dksX7_meanLevel_1 15 rfl rfl)
theorem dX7_meanLevel_38 : decode cX7_meanLevel 38 = .ok (.if_icmp .ge 17, 3) := dk_162 0 17 (dk_at dksX7_meanLevel_1 16 rfl rfl)
theorem dX7_meanLevel_41 : decode cX7_meanLevel 41 = .ok (.iload_n 1, 1) := dk_27 (dk_at dksX7_meanLevel_1 19 rfl rfl)
theorem dX7_meanLevel_42 : decode cX7_meanLevel 42 = .ok (.aload_n 0, 1) := dk_42 (dk_at dksX7_meanLevel_1 20 rfl rfl)
theorem dX7_meanLevel_43 : decode cX7_meanLevel 43 = .ok (.iload_n 2, 1) := dk_28 (dk_at dksX7_meanLevel_1 21 rfl rfl)
theorem dX7_meanLevel_44 : decode cX7_meanLevel 44 = .ok (.invokevirtual 94, 3) := dk_182 0 94 (dk_at dksX7_meanLevel_2 0 rfl rfl)
theorem dX7_meanLevel_47 : decode cX7_meanLevel 47 = .ok (.iadd, 1) := dk_96 (dk_at dksX7_meanLevel_2 3 rfl rfl)
theorem dX7_meanLevel_48 : decode cX7_meanLevel 48 = .ok (.istore_n 1, 1) := dk_60 (dk_at dksX7_meanLevel_2 4 rfl rfl)
theorem dX7_meanLevel_49 : decode cX7_meanLevel 49 = .ok (.iinc 2 1, 3) := dk_132 2 1 (dk_at dksX7_meanLevel_2 5 rfl rfl)
theorem dX7_meanLevel_52 : decode cX7_meanLevel 52 = .ok (.goto (-21), 3) := dk_167 255 235 (dk_at dksX7_meanLevel_2 8 rfl rfl)
theorem dX7_meanLevel_55 : decode cX7_meanLevel 55 = .ok (.iload_n 1, 1) := dk_27 (dk_at dksX7_meanLevel_2 11 rfl rfl)
theorem dX7_meanLevel_56 : decode cX7_meanLevel 56 = .ok (.i2d, 1) := dk_135 (dk_at dksX7_meanLevel_2 12 rfl rfl)
theorem dX7_meanLevel_57 : decode cX7_meanLevel 57 = .ok (.aload_n 0, 1) := dk_42 (dk_at dksX7_meanLevel_2 13 rfl rfl)
theorem dX7_meanLevel_58 : decode cX7_meanLevel 58 = .ok (.getfield 9, 3) := dk_180 0 9 (dk_at dksX7_meanLevel_2 14 rfl rfl)
theorem dX7_meanLevel_61 : decode cX7_meanLevel 61 = .ok (.iconst 0, 1) := dk_3 (dk_at dksX7_meanLevel_2 17 rfl rfl)
theorem dX7_meanLevel_62 : decode cX7_meanLevel 62 = .ok (.iaload, 1) := dk_46 (dk_at dksX7_meanLevel_2 18 rfl rfl)
theorem dX7_meanLevel_63 : decode cX7_meanLevel 63 = .ok (.i2d, 1) := dk_135 (dk_at dksX7_meanLevel_2 19 rfl rfl)
theorem dX7_meanLevel_64 : decode cX7_meanLevel 64 = .ok (.ddiv, 1) := dk_111 (dk_at dksX7_meanLevel_2 20 rfl rfl)
theorem dX7_meanLevel_65 : decode cX7_meanLevel 65 = .ok (.dreturn, 1) := dk_175 (dk_at dksX7_meanLevel_2 21 rfl rfl)
def dkwX7_silence_1 : List UInt8 := [158, 0, 7, 11, 167, 0, 19, 42, 180, 0, 9, 16, 8, 46, 134, 42, 180, 0, 9, 6, 46, 134, 110, 174]
abbrev dktX7_silence_1 : List UInt8 := dkwX7_silence_1 ++ []
def dkwX7_silence_0 : List UInt8 := [42, 42, 180, 0, 9, 6, 46, 154, 0, 7, 4, 167, 0, 4, 3, 181, 0, 36, 42, 180, 0, 36]
abbrev dktX7_silence_0 : List UInt8 := dkwX7_silence_0 ++ dktX7_silence_1
theorem dksX7_silence_0 : cX7_silence.data.toList.drop 0 = dktX7_silence_0 := by decide +kernel
theorem dksX7_silence_1 : cX7_silence.data.toList.drop 22 = dktX7_silence_1 := dk_seg dksX7_silence_0 22 rfl rfl
theorem dX7_silence_0 : decode cX7_silence 0 = .ok (.aload_n 0, 1) := dk_42 (dk_at dksX7_silence_0 0 rfl rfl)
theorem dX7_silence_1 : decode cX7_silence 1 = .ok (.aload_n 0, 1) := dk_42 (dk_at dksX7_silence_0 1 rfl rfl)
theorem dX7_silence_2 : decode cX7_silence 2 = .ok (.getfield 9, 3) := dk_180 0 9 (dk_at dksX7_silence_0 2 rfl rfl)
theorem dX7_silence_5 : decode cX7_silence 5 = .ok (.iconst 3, 1) := dk_6 (dk_at dksX7_silence_0 5 rfl rfl)
theorem dX7_silence_6 : decode cX7_silence 6 = .ok (.iaload, 1) := dk_46 (dk_at dksX7_silence_0 6 rfl rfl)
theorem dX7_silence_7 : decode cX7_silence 7 = .ok (.ifCond .ne 7, 3) := dk_154 0 7 (dk_at dksX7_silence_0 7 rfl rfl)
theorem dX7_silence_10 : decode cX7_silence 10 = .ok (.iconst 1, 1) := dk_4 (dk_at dksX7_silence_0 10 rfl rfl)
theorem dX7_silence_11 : decode cX7_silence 11 = .ok (.goto 4, 3) := dk_167 0 4 (dk_at dksX7_silence_0 11 rfl rfl)
theorem dX7_silence_14 : decode cX7_silence 14 = .ok (.iconst 0, 1) := dk_3 (dk_at dksX7_silence_0 14 rfl rfl)
theorem dX7_silence_15 : decode cX7_silence 15 = .ok (.putfield 36, 3) := dk_181 0 36 (dk_at dksX7_silence_0 15 rfl rfl)
theorem dX7_silence_18 : decode cX7_silence 18 = .ok (.aload_n 0, 1) := dk_42 (dk_at dksX7_silence_0 18 rfl rfl)
theorem dX7_silence_19 : decode cX7_silence 19 = .ok (.getfield 36, 3) := dk_180 0 36 (dk_at dksX7_silence_0 19 rfl rfl)
theorem dX7_silence_22 : decode cX7_silence 22 = .ok (.ifCond .le 7, 3) := dk_158 0 7 (dk_at dksX7_silence_1 0 rfl rfl)
theorem dX7_silence_25 : decode cX7_silence 25 = .ok (.fconst 0, 1) := dk_11 (dk_at dksX7_silence_1 3 rfl rfl)
theorem dX7_silence_26 : decode cX7_silence 26 = .ok (.goto 19, 3) := dk_167 0 19 (dk_at dksX7_silence_1 4 rfl rfl)
theorem dX7_silence_29 : decode cX7_silence 29 = .ok (.aload_n 0, 1) := dk_42 (dk_at dksX7_silence_1 7 rfl rfl)
theorem dX7_silence_30 : decode cX7_silence 30 = .ok (.getfield 9, 3) := dk_180 0 9 (dk_at dksX7_silence_1 8 rfl rfl)
theorem dX7_silence_33 : decode cX7_silence 33 = .ok (.bipush 8, 2) := dk_16 8 (dk_at dksX7_silence_1 11 rfl rfl)
theorem dX7_silence_35 : decode cX7_silence 35 = .ok (.iaload, 1) := dk_46 (dk_at dksX7_silence_1 13 rfl rfl)
theorem dX7_silence_36 : decode cX7_silence 36 = .ok (.i2f, 1) := dk_134 (dk_at dksX7_silence_1 14 rfl rfl)
theorem dX7_silence_37 : decode cX7_silence 37 = .ok (.aload_n 0, 1) := dk_42 (dk_at dksX7_silence_1 15 rfl rfl)
theorem dX7_silence_38 : decode cX7_silence 38 = .ok (.getfield 9, 3) := dk_180 0 9 (dk_at dksX7_silence_1 16 rfl rfl)
theorem dX7_silence_41 : decode cX7_silence 41 = .ok (.iconst 3, 1) := dk_6 (dk_at dksX7_silence_1 19 rfl rfl)
theorem dX7_silence_42 : decode cX7_silence 42 = .ok (.iaload, 1) := dk_46 (dk_at dksX7_silence_1 20 rfl rfl)
theorem dX7_silence_43 : decode cX7_silence 43 = .ok (.i2f, 1) := dk_134 (dk_at dksX7_silence_1 21 rfl rfl)
theorem dX7_silence_44 : decode cX7_silence 44 = .ok (.fdiv, 1) := dk_110 (dk_at dksX7_silence_1 22 rfl rfl)
theorem dX7_silence_45 : decode cX7_silence 45 = .ok (.freturn, 1) := dk_174 (dk_at dksX7_silence_1 23 rfl rfl)
def dkwX7_feed_2 : List UInt8 := [181, 0, 184, 42, 180, 0, 184, 172]
abbrev dktX7_feed_2 : List UInt8 := dkwX7_feed_2 ++ []
def dkwX7_feed_1 : List UInt8 := [158, 0, 5, 3, 172, 42, 180, 0, 25, 42, 180, 0, 184, 27, 85, 42, 89, 180, 0, 184, 4, 96]
abbrev dktX7_feed_1 : List UInt8 := dkwX7_feed_1 ++ dktX7_feed_2
def dkwX7_feed_0 : List UInt8 := [42, 42, 180, 0, 184, 16, 60, 160, 0, 7, 4, 167, 0, 4, 3, 181, 0, 36, 42, 180, 0, 36]
abbrev dktX7_feed_0 : List UInt8 := dkwX7_feed_0 ++ dktX7_feed_1
theorem dksX7_feed_0 : cX7_feed.data.toList.drop 0 = dktX7_feed_0 := by decide +kernel
theorem dksX7_feed_1 : cX7_feed.data.toList.drop 22 = dktX7_feed_1 := dk_seg dksX7_feed_0 22 rfl rfl
theorem dksX7_feed_2 : cX7_feed.data.toList.drop 44 = dktX7_feed_2 := dk_seg dksX7_feed_1 22 rfl rfl
theorem dX7_feed_0 : decode cX7_feed 0 = .ok (.aload_n 0, 1) := dk_42 (dk_at dksX7_feed_0 0 rfl rfl)
theorem dX7_feed_1 : decode cX7_feed 1 = .ok (.aload_n 0, 1) := dk_42 (dk_at dksX7_feed_0 1 rfl rfl)
theorem dX7_feed_2 : decode cX7_feed 2 = .ok (.getfield 184, 3) := dk_180 0 184 (dk_at dksX7_feed_0 2 rfl rfl)
theorem dX7_feed_5 : decode cX7_feed 5 = .ok (.bipush 60, 2) := dk_16 60 (dk_at dksX7_feed_0 5 rfl rfl)
theorem dX7_feed_7 : decode cX7_feed 7 = .ok (.if_icmp .ne 7, 3) := dk_160 0 7 (dk_at dksX7_feed_0 7 rfl rfl)
theorem dX7_feed_10 : decode cX7_feed 10 = .ok (.iconst 1, 1) := dk_4 (dk_at dksX7_feed_0 10 rfl rfl)
theorem dX7_feed_11 : decode cX7_feed 11 = .ok (.goto 4, 3) := dk_167 0 4 (dk_at dksX7_feed_0 11 rfl rfl)
theorem dX7_feed_14 : decode cX7_feed 14 = .ok (.iconst 0, 1) := dk_3 (dk_at dksX7_feed_0 14 rfl rfl)
theorem dX7_feed_15 : decode cX7_feed 15 = .ok (.putfield 36, 3) := dk_181 0 36 (dk_at dksX7_feed_0 15 rfl rfl)
theorem dX7_feed_18 : decode cX7_feed 18 = .ok (.aload_n 0, 1) := dk_42 (dk_at dksX7_feed_0 18 rfl rfl)
theorem dX7_feed_19 : decode cX7_feed 19 = .ok (.getfield 36, 3) := dk_180 0 36 (dk_at dksX7_feed_0 19 rfl rfl)
theorem dX7_feed_22 : decode cX7_feed 22 = .ok (.ifCond .le 5, 3) := dk_158 0 5 (dk_at dksX7_feed_1 0 rfl rfl)
theorem dX7_feed_25 : decode cX7_feed 25 = .ok (.iconst 0, 1) := dk_3 (dk_at dksX7_feed_1 3 rfl rfl)
theorem dX7_feed_26 : decode cX7_feed 26 = .ok (.ireturn, 1) := dk_172 (dk_at dksX7_feed_1 4 rfl rfl)
theorem dX7_feed_27 : decode cX7_feed 27 = .ok (.aload_n 0, 1) := dk_42 (dk_at dksX7_feed_1 5 rfl rfl)
theorem dX7_feed_28 : decode cX7_feed 28 = .ok (.getfield 25, 3) := dk_180 0 25 (dk_at dksX7_feed_1 6 rfl rfl)
theorem dX7_feed_31 : decode cX7_feed 31 = .ok (.aload_n 0, 1) := dk_42 (dk_at dksX7_feed_1 9 rfl rfl)
theorem dX7_feed_32 : decode cX7_feed 32 = .ok (.getfield 184, 3) := dk_180 0 184 (dk_at dksX7_feed_1 10 rfl rfl)
theorem dX7_feed_35 : decode cX7_feed 35 = .ok (.iload_n 1, 1) := dk_27 (dk_at dksX7_feed_1 13 rfl rfl)
theorem dX7_feed_36 : decode cX7_feed 36 = .ok (.castore, 1) := dk_85 (dk_at dksX7_feed_1 14 rfl rfl)
theorem dX7_feed_37 : decode cX7_feed 37 = .ok (.aload_n 0, 1) := dk_42 (dk_at dksX7_feed_1 15 rfl rfl)
theorem dX7_feed_38 : decode cX7_feed 38 = .ok (.dup, 1) := dk_89 (dk_at dksX7_feed_1 16 rfl rfl)
theorem dX7_feed_39 : decode cX7_feed 39 = .ok (.getfield 184, 3) := dk_180 0 184 (dk_at dksX7_feed_1 17 rfl rfl)
theorem dX7_feed_42 : decode cX7_feed 42 = .ok (.iconst 1, 1) := dk_4 (dk_at dksX7_feed_1 20 rfl rfl)
theorem dX7_feed_43 : decode cX7_feed 43 = .ok (.iadd, 1) := dk_96 (dk_at dksX7_feed_1 21 rfl rfl)
theorem dX7_feed_44 : decode cX7_feed 44 = .ok (.putfield 184, 3) := dk_181 0 184 (dk_at dksX7_feed_2 0 rfl rfl)
theorem dX7_feed_47 : decode cX7_feed 47 = .ok (.aload_n 0, 1) := dk_42 (dk_at dksX7_feed_2 3 rfl rfl)
theorem dX7_feed_48 : decode cX7_feed 48 = .ok (.getfield 184, 3) := dk_180 0 184 (dk_at dksX7_feed_2 4 rfl rfl)
theorem dX7_feed_51 : decode cX7_feed 51 = .ok (.ireturn, 1) := dk_172 (dk_at dksX7_feed_2 7 rfl rfl)
def dkwX7_read_8 : List UInt8 := [182, 0, 81, 172]
abbrev dktX7_read_8 : List UInt8 := dkwX7_read_8 ++ []
def dkwX7_read_7 : List UInt8 := [42, 5, 181, 0, 36, 42, 3, 182, 0, 81, 172, 132, 1, 1, 167, 255, 184, 42, 42, 180, 0, 207]
abbrev dktX7_read_7 : List UInt8 := dkwX7_read_7 ++ dktX7_read_8
def dkwX7_read_6 : List UInt8 := [46, 182, 0, 227, 153, 0, 10, 42, 180, 0, 48, 167, 0, 5, 16, 20, 181, 0, 48, 42, 27, 181, 0, 51]
abbrev dktX7_read_6 : List UInt8 := dkwX7_read_6 ++ dktX7_read_7
def dkwX7_read_5 : List UInt8 := [181, 0, 36, 42, 27, 182, 0, 224, 42, 180, 0, 36, 158, 0, 47, 42, 42, 42, 180, 0, 33, 6, 27, 104]
abbrev dktX7_read_5 : List UInt8 := dkwX7_read_5 ++ dktX7_read_6
def dkwX7_read_4 : List UInt8 := [4, 181, 0, 36, 3, 172, 42, 182, 0, 78, 3, 60, 27, 42, 180, 0, 207, 162, 0, 70, 42, 3]
abbrev dktX7_read_4 : List UInt8 := dkwX7_read_4 ++ dktX7_read_5
def dkwX7_read_3 : List UInt8 := [181, 0, 187, 42, 3, 181, 0, 184, 42, 180, 0, 187, 153, 0, 18, 42, 42, 180, 0, 191, 181, 0, 29, 42]
abbrev dktX7_read_3 : List UInt8 := dkwX7_read_3 ++ dktX7_read_4
def dkwX7_read_2 : List UInt8 := [42, 180, 0, 187, 154, 0, 14, 42, 180, 0, 191, 42, 180, 0, 184, 162, 0, 7, 4, 167, 0, 4, 3]
abbrev dktX7_read_2 : List UInt8 := dkwX7_read_2 ++ dktX7_read_3
def dkwX7_read_1 : List UInt8 := [182, 0, 194, 153, 0, 20, 42, 89, 180, 0, 191, 4, 96, 181, 0, 191, 42, 182, 0, 221, 167, 255, 231, 42]
abbrev dktX7_read_1 : List UInt8 := dkwX7_read_1 ++ dktX7_read_2
def dkwX7_read_0 : List UInt8 := [42, 3, 181, 0, 191, 42, 3, 181, 0, 187, 42, 3, 181, 0, 207, 42, 182, 0, 221, 42, 16, 59, 16, 59]
abbrev dktX7_read_0 : List UInt8 := dkwX7_read_0 ++ dktX7_read_1
theorem dksX7_read_0 : cX7_read.data.toList.drop 0 = dktX7_read_0 := by decide +kernel
theorem dksX7_read_1 : cX7_read.data.toList.drop 24 = dktX7_read_1 := dk_seg dksX7_read_0 24 rfl rfl
theorem dksX7_read_2 : cX7_read.data.toList.drop 48 = dktX7_read_2 := dk_seg dksX7_read_1 24 rfl rfl
theorem dksX7_read_3 : cX7_read.data.toList.drop 71 = dktX7_read_3 := dk_seg dksX7_read_2 23 rfl rfl
theorem dksX7_read_4 : cX7_read.data.toList.drop 95 = dktX7_read_4 := dk_seg dksX7_read_3 24 rfl rfl
theorem dksX7_read_5 : cX7_read.data.toList.drop 117 = dktX7_read_5 := dk_seg dksX7_read_4 22 rfl rfl
theorem dksX7_read_6 : cX7_read.data.toList.drop 141 = dktX7_read_6 := dk_seg dksX7_read_5 24 rfl rfl
theorem dksX7_read_7 : cX7_read.data.toList.drop 165 = dktX7_read_7 := dk_seg dksX7_read_6 24 rfl rfl
theorem dksX7_read_8 : cX7_read.data.toList.drop 187 = dktX7_read_8 := dk_seg dksX7_read_7 22 rfl rfl
theorem dX7_read_0 : decode cX7_read 0 = .ok (.aload_n 0, 1) := dk_42 (dk_at dksX7_read_0 0 rfl rfl)
theorem dX7_read_1 : decode cX7_read 1 = .ok (.iconst 0, 1) := dk_3 (dk_at dksX7_read_0 1 rfl rfl)
theorem dX7_read_2 : decode cX7_read 2 = .ok (.putfield 191, 3) := dk_181 0 191 (dk_at dksX7_read_0 2 rfl rfl)
theorem dX7_read_5 : decode cX7_read 5 = .ok (.aload_n 0, 1) := dk_42 (dk_at dksX7_read_0 5 rfl rfl)
theorem dX7_read_6 : decode cX7_read 6 = .ok (.iconst 0, 1) := dk_3 (dk_at dksX7_read_0 6 rfl rfl)
theorem dX7_read_7 : decode cX7_read 7 = .ok (.putfield 187, 3) := dk_181 0 187 (dk_at dksX7_read_0 7 rfl rfl)
theorem dX7_read_10 : decode cX7_read 10 = .ok (.aload_n 0, 1) := dk_42 (dk_at dksX7_read_0 10 rfl rfl)
theorem dX7_read_11 : decode cX7_read 11 = .ok (.iconst 0, 1) := dk_3 (dk_at dksX7_read_0 11 rfl rfl)
theorem dX7_read_12 : decode cX7_read 12 = .ok (.putfield 207, 3) := dk_181 0 207 (dk_at dksX7_read_0 12 rfl rfl)
theorem dX7_read_15 : decode cX7_read 15 = .ok (.aload_n 0, 1) := dk_42 (dk_at dksX7_read_0 15 rfl rfl)
theorem dX7_read_16 : decode cX7_read 16 = .ok (.invokevirtual 221, 3) := dk_182 0 221 (dk_at dksX7_read_0 16 rfl rfl)
theorem dX7_read_19 : decode cX7_read 19 = .ok (.aload_n 0, 1) := dk_42 (dk_at dksX7_read_0 19 rfl rfl)
theorem dX7_read_20 : decode cX7_read 20 = .ok (.bipush 59, 2) := dk_16 59 (dk_at dksX7_read_0 20 rfl rfl)
theorem dX7_read_22 : decode cX7_read 22 = .ok (.bipush 59, 2) := dk_16 59 (dk_at dksX7_read_0 22 rfl rfl)
theorem dX7_read_24 : decode cX7_read 24 = .ok (.invokevirtual 194, 3) := dk_182 0 194 (dk_at dksX7_read_1 0 rfl rfl)
theorem dX7_read_27 : decode cX7_read 27 = .ok (.ifCond .eq 20, 3) := dk_153 0 20 (dk_at dksX7_read_1 3 rfl rfl)
theorem dX7_read_30 : decode cX7_read 30 = .ok (.aload_n 0, 1) := dk_42 (dk_at dksX7_read_1 6 rfl rfl)
theorem dX7_read_31 : decode cX7_read 31 = .ok (.dup, 1) := dk_89 (dk_at dksX7_read_1 7 rfl rfl)
theorem dX7_read_32 : decode cX7_read 32 = .ok (.getfield 191, 3) := dk_180 0 191 (dk_at dksX7_read_1 8 rfl rfl)
theorem dX7_read_35 : decode cX7_read 35 = .ok (.iconst 1, 1) := dk_4 (dk_at dksX7_read_1 11 rfl rfl)
theorem dX7_read_36 : decode cX7_read 36 = .ok (.iadd, 1) := dk_96 (dk_at dksX7_read_1 12 rfl rfl)
theorem dX7_read_37 : decode cX7_read 37 = .ok (.putfield 191, 3) := dk_181 0 191 (dk_at dksX7_read_1 13 rfl rfl)
theorem dX7_read_40 : decode cX7_read 40 = .ok (.aload_n 0, 1) := dk_42 (dk_at dksX7_read_1 16 rfl rfl)
theorem dX7_read_41 : decode cX7_read 41 = .ok (.invokevirtual 221, 3) := dk_182 0 221 (dk_at dksX7_read_1 17 rfl rfl)
theorem dX7_read_44 : decode cX7_read 44 = .ok (.goto (-25), 3) := dk_167 255 231 (dk_at dksX7_read_1 20 rfl rfl)
theorem dX7_read_47 : decode cX7_read 47 = .ok (.aload_n 0, 1) := dk_42 (dk_at dksX7_read_1 23 rfl rfl)
theorem dX7_read_48 : decode cX7_read 48 = .ok (.aload_n 0, 1) := dk_42 (dk_at dksX7_read_2 0 rfl rfl)
theorem dX7_read_49 : decode cX7_read 49 = .ok (.getfield 187, 3) := dk_180 0 187 (dk_at dksX7_read_2 1 rfl rfl)
theorem dX7_read_52 : decode cX7_read 52 = .ok (.ifCond .ne 14, 3) := dk_154 0 14 (dk_at dksX7_read_2 4 rfl rfl)
theorem dX7_read_55 : decode cX7_read 55 = .ok (.aload_n 0, 1) := dk_42 (dk_at dksX7_read_2 7 rfl rfl)
theorem dX7_read_56 : decode cX7_read 56 = .ok (.getfield 191, 3) := dk_180 0 191 (dk_at dksX7_read_2 8 rfl rfl)
theorem dX7_read_59 : decode cX7_read 59 = .ok (.aload_n 0, 1) := dk_42 (dk_at dksX7_read_2 11 rfl rfl)
theorem dX7_read_60 : decode cX7_read 60 = .ok (.getfield 184, 3) := dk_180 0 184 (dk_at dksX7_read_2 12 rfl rfl)
theorem dX7_read_63 : decode cX7_read 63 = .ok (.if_icmp .ge 7, 3) := dk_162 0 7 (dk_at dksX7_read_2 15 rfl rfl)
theorem dX7_read_66 : decode cX7_read 66 = .ok (.iconst 1, 1) := dk_4 (dk_at dksX7_read_2 18 rfl rfl)
theorem dX7_read_67 : decode cX7_read 67 = .ok (.goto 4, 3) := dk_167 0 4 (dk_at dksX7_read_2 19 rfl rfl)
theorem dX7_read_70 : decode cX7_read 70 = .ok (.iconst 0, 1) := dk_3 (dk_at dksX7_read_2 22 rfl rfl)
theorem dX7_read_71 : decode cX7_read 71 = .ok (.putfield 187, 3) := dk_181 0 187 (dk_at dksX7_read_3 0 rfl rfl)
theorem dX7_read_74 : decode cX7_read 74 = .ok (.aload_n 0, 1) := dk_42 (dk_at dksX7_read_3 3 rfl rfl)
theorem dX7_read_75 : decode cX7_read 75 = .ok (.iconst 0, 1) := dk_3 (dk_at dksX7_read_3 4 rfl rfl)
theorem dX7_read_76 : decode cX7_read 76 = .ok (.putfield 184, 3) := dk_181 0 184 (dk_at dksX7_read_3 5 rfl rfl)
theorem dX7_read_79 : decode cX7_read 79 = .ok (.aload_n 0, 1) := dk_42 (dk_at dksX7_read_3 8 rfl rfl)
theorem dX7_read_80 : decode cX7_read 80 = .ok (.getfield 187, 3) := dk_180 0 187 (dk_at dksX7_read_3 9 rfl rfl)
theorem dX7_read_83 : decode cX7_read 83 = .ok (.ifCond .eq 18, 3) := dk_153 0 18 (dk_at dksX7_read_3 12 rfl rfl)
theorem dX7_read_86 : decode cX7_read 86 = .ok (.aload_n 0, 1) := dk_42 (dk_at dksX7_read_3 15 rfl rfl)
theorem dX7_read_87 : decode cX7_read 87 = .ok (.aload_n 0, 1) := dk_42 (dk_at dksX7_read_3 16 rfl rfl)
theorem dX7_read_88 : decode cX7_read 88 = .ok (.getfield 191, 3) := dk_180 0 191 (dk_at dksX7_read_3 17 rfl rfl)
theorem dX7_read_91 : decode cX7_read 91 = .ok (.putfield 29, 3) := dk_181 0 29 (dk_at dksX7_read_3 20 rfl rfl)
theorem dX7_read_94 : decode cX7_read 94 = .ok (.aload_n 0, 1) := dk_42 (dk_at dksX7_read_3 23 rfl rfl)
theorem dX7_read_95 : decode cX7_read 95 = .ok (.iconst 1, 1) := dk_4 (dk_at dksX7_read_4 0 rfl rfl)
theorem dX7_read_96 : decode cX7_read 96 = .ok (.putfield 36, 3) := dk_181 0 36 (dk_at dksX7_read_4 1 rfl rfl)
theorem dX7_read_99 : decode cX7_read 99 = .ok (.iconst 0, 1) := dk_3 (dk_at dksX7_read_4 4 rfl rfl)
theorem dX7_read_100 : decode cX7_read 100 = .ok (.ireturn, 1) := dk_172 (dk_at dksX7_read_4 5 rfl rfl)
theorem dX7_read_101 : decode cX7_read 101 = .ok (.aload_n 0, 1) := dk_42 (dk_at dksX7_read_4 6 rfl rfl)
theorem dX7_read_102 : decode cX7_read 102 = .ok (.invokevirtual 78, 3) := dk_182 0 78 (dk_at dksX7_read_4 7 rfl rfl)
theorem dX7_read_105 : decode cX7_read 105 = .ok (.iconst 0, 1) := dk_3 (dk_at dksX7_read_4 10 rfl rfl)
theorem dX7_read_106 : decode cX7_read 106 = .ok (.istore_n 1, 1) := dk_60 (dk_at dksX7_read_4 11 rfl rfl)
theorem dX7_read_107 : decode cX7_read 107 = .ok (.iload_n 1, 1) := dk_27 (dk_at dksX7_read_4 12 rfl rfl)
theorem dX7_read_108 : decode cX7_read 108 = .ok (.aload_n 0, 1) := dk_42 (dk_at dksX7_read_4 13 rfl rfl)
theorem dX7_read_109 : decode cX7_read 109 = .ok (.getfield 207, 3) := dk_180 0 207 (dk_at dksX7_read_4 14 rfl rfl)
theorem dX7_read_112 : decode cX7_read 112 = .ok (.if_icmp .ge 70, 3) := dk_162 0 70 (dk_at dksX7_read_4 17 rfl rfl)
theorem dX7_read_115 : decode cX7_read 115 = .ok (.aload_n 0, 1) := dk_42 (dk_at dksX7_read_4 20 rfl rfl)
theorem dX7_read_116 : decode cX7_read 116 = .ok (.iconst 0, 1) := dk_3 (dk_at dksX7_read_4 21 rfl rfl)
theorem dX7_read_117 : decode cX7_read 117 = .ok (.putfield 36, 3) := dk_181 0 36 (dk_at dksX7_read_5 0 rfl rfl)
theorem dX7_read_120 : decode cX7_read 120 = .ok (.aload_n 0, 1) := dk_42 (dk_at dksX7_read_5 3 rfl rfl)
theorem dX7_read_121 : decode cX7_read 121 = .ok (.iload_n 1, 1) := dk_27 (dk_at dksX7_read_5 4 rfl rfl)
theorem dX7_read_122 : decode cX7_read 122 = .ok (.invokevirtual 224, 3) := dk_182 0 224 (dk_at dksX7_read_5 5 rfl rfl)
theorem dX7_read_125 : decode cX7_read 125 = .ok (.aload_n 0, 1) := dk_42 (dk_at dksX7_read_5 8 rfl rfl)
theorem dX7_read_126 : decode cX7_read 126 = .ok (.getfield 36, 3) := dk_180 0 36 (dk_at dksX7_read_5 9 rfl rfl)
theorem dX7_read_129 : decode cX7_read 129 = .ok (.ifCond .le 47, 3) := dk_158 0 47 (dk_at dksX7_read_5 12 rfl rfl)
theorem dX7_read_132 : decode cX7_read 132 = .ok (.aload_n 0, 1) := dk_42 (dk_at dksX7_read_5 15 rfl rfl)
theorem dX7_read_133 : decode cX7_read 133 = .ok (.aload_n 0, 1) := dk_42 (dk_at dksX7_read_5 16 rfl rfl)
theorem dX7_read_134 : decode cX7_read 134 = .ok (.aload_n 0, 1) := dk_42 (dk_at dksX7_read_5 17 rfl rfl)
theorem dX7_read_135 : decode cX7_read 135 = .ok (.getfield 33, 3) := dk_180 0 33 (dk_at dksX7_read_5 18 rfl rfl)
theorem dX7_read_138 : decode cX7_read 138 = .ok (.iconst 3, 1) := dk_6 (dk_at dksX7_read_5 21 rfl rfl)
theorem dX7_read_139 : decode cX7_read 139 = .ok (.iload_n 1, 1) := dk_27 (dk_at dksX7_read_5 22 rfl rfl)
theorem dX7_read_140 : decode cX7_read 140 = .ok (.imul, 1) := dk_104 (dk_at dksX7_read_5 23 rfl rfl)
theorem dX7_read_141 : decode cX7_read 141 = .ok (.iaload, 1) := dk_46 (dk_at dksX7_read_6 0 rfl rfl)
theorem dX7_read_142 : decode cX7_read 142 = .ok (.invokevirtual 227, 3) := dk_182 0 227 (dk_at dksX7_read_6 1 rfl rfl)
theorem dX7_read_145 : decode cX7_read 145 = .ok (.ifCond .eq 10, 3) := dk_153 0 10 (dk_at dksX7_read_6 4 rfl rfl)
theorem dX7_read_148 : decode cX7_read 148 = .ok (.aload_n 0, 1) := dk_42 (dk_at dksX7_read_6 7 rfl rfl)
theorem dX7_read_149 : decode cX7_read 149 = .ok (.getfield 48, 3) := dk_180 0 48 (dk_at dksX7_read_6 8 rfl rfl)
theorem dX7_read_152 : decode cX7_read 152 = .ok (.goto 5, 3) := dk_167 0 5 (dk_at dksX7_read_6 11 rfl rfl)
theorem dX7_read_155 : decode cX7_read 155 = .ok (.bipush 20, 2) := dk_16 20 (dk_at dksX7_read_6 14 rfl rfl)
theorem dX7_read_157 : decode cX7_read 157 = .ok (.putfield 48, 3) := dk_181 0 48 (dk_at dksX7_read_6 16 rfl rfl)
theorem dX7_read_160 : decode cX7_read 160 = .ok (.aload_n 0, 1) := dk_42 (dk_at dksX7_read_6 19 rfl rfl)
theorem dX7_read_161 : decode cX7_read 161 = .ok (.iload_n 1, 1) := dk_27 (dk_at dksX7_read_6 20 rfl rfl)
theorem dX7_read_162 : decode cX7_read 162 = .ok (.putfield 51, 3) := dk_181 0 51 (dk_at dksX7_read_6 21 rfl rfl)
theorem dX7_read_165 : decode cX7_read 165 = .ok (.aload_n 0, 1) := dk_42 (dk_at dksX7_read_7 0 rfl rfl)
theorem dX7_read_166 : decode cX7_read 166 = .ok (.iconst 2, 1) := dk_5 (dk_at dksX7_read_7 1 rfl rfl)
theorem dX7_read_167 : decode cX7_read 167 = .ok (.putfield 36, 3) := dk_181 0 36 (dk_at dksX7_read_7 2 rfl rfl)
theorem dX7_read_170 : decode cX7_read 170 = .ok (.aload_n 0, 1) := dk_42 (dk_at dksX7_read_7 5 rfl rfl)
theorem dX7_read_171 : decode cX7_read 171 = .ok (.iconst 0, 1) := dk_3 (dk_at dksX7_read_7 6 rfl rfl)
theorem dX7_read_172 : decode cX7_read 172 = .ok (.invokevirtual 81, 3) := dk_182 0 81 (dk_at dksX7_read_7 7 rfl rfl)
theorem dX7_read_175 : decode cX7_read 175 = .ok (.ireturn, 1) := dk_172 (dk_at dksX7_read_7 10 rfl rfl)
theorem dX7_read_176 : decode cX7_read 176 = .ok (.iinc 1 1, 3) := dk_132 1 1 (dk_at dksX7_read_7 11 rfl rfl)
theorem dX7_read_179 : decode cX7_read 179 = .ok (.goto (-72), 3) := dk_167 255 184 (dk_at dksX7_read_7 14 rfl rfl)
theorem dX7_read_182 : decode cX7_read 182 = .ok (.aload_n 0, 1) := dk_42 (dk_at dksX7_read_7 17 rfl rfl)
theorem dX7_read_183 : decode cX7_read 183 = .ok (.aload_n 0, 1) := dk_42 (dk_at dksX7_read_7 18 rfl rfl)
theorem dX7_read_184 : decode cX7_read 184 = .ok (.getfield 207, 3) := dk_180 0 207 (dk_at dksX7_read_7 19 rfl rfl)
theorem dX7_read_187 : decode cX7_read 187 = .ok (.invokevirtual 81, 3) := dk_182 0 81 (dk_at dksX7_read_8 0 rfl rfl)
theorem dX7_read_190 : decode cX7_read 190 = .ok (.ireturn, 1) := dk_172 (dk_at dksX7_read_8 3 rfl rfl)
def dkwX7_readItem_6 : List UInt8 := [42, 89, 180, 0, 207, 4, 96, 181, 0, 207, 177]
abbrev dktX7_readItem_6 : List UInt8 := dkwX7_readItem_6 ++ []
def dkwX7_readItem_5 : List UInt8 := [160, 0, 24, 42, 16, 58, 16, 58, 182, 0, 198, 62, 42, 180, 0, 33, 27, 5, 96, 42, 182, 0, 216, 79]
abbrev dktX7_readItem_5 : List UInt8 := dkwX7_readItem_5 ++ dktX7_readItem_6
def dkwX7_readItem_4 : List UInt8 := [159, 0, 8, 28, 7, 160, 0, 17, 42, 180, 0, 33, 27, 5, 96, 42, 18, 219, 182, 0, 212, 79, 28, 8]
abbrev dktX7_readItem_4 : List UInt8 := dkwX7_readItem_4 ++ dktX7_readItem_5
def dkwX7_readItem_3 : List UInt8 := [182, 0, 198, 62, 42, 180, 0, 33, 27, 5, 96, 42, 16, 48, 16, 57, 182, 0, 198, 79, 28, 6]
abbrev dktX7_readItem_3 : List UInt8 := dkwX7_readItem_3 ++ dktX7_readItem_4
def dkwX7_readItem_2 : List UInt8 := [16, 48, 16, 57, 182, 0, 198, 167, 0, 4, 3, 79, 28, 5, 160, 0, 28, 42, 16, 61, 16, 61]
abbrev dktX7_readItem_2 : List UInt8 := dkwX7_readItem_2 ++ dktX7_readItem_3
def dkwX7_readItem_1 : List UInt8 := [180, 0, 33, 27, 4, 96, 28, 154, 0, 10, 42, 182, 0, 216, 167, 0, 20, 28, 5, 161, 0, 14, 42]
abbrev dktX7_readItem_1 : List UInt8 := dkwX7_readItem_1 ++ dktX7_readItem_2
def dkwX7_readItem_0 : List UInt8 := [6, 42, 180, 0, 207, 104, 60, 42, 18, 210, 182, 0, 212, 61, 42, 180, 0, 33, 27, 28, 79, 42]
abbrev dktX7_readItem_0 : List UInt8 := dkwX7_readItem_0 ++ dktX7_readItem_1
theorem dksX7_readItem_0 : cX7_readItem.data.toList.drop 0 = dktX7_readItem_0 := by decide +kernel
theorem dksX7_readItem_1 : cX7_readItem.data.toList.drop 22 = dktX7_readItem_1 := dk_seg dksX7_readItem_0 22 rfl rfl
theorem dksX7_readItem_2 : cX7_readItem.data.toList.drop 45 = dktX7_readItem_2 := dk_seg dksX7_readItem_1 23 rfl rfl
theorem dksX7_readItem_3 : cX7_readItem.data.toList.drop 67 = dktX7_readItem_3 := dk_seg dksX7_readItem_2 22 rfl rfl
theorem dksX7_readItem_4 : cX7_readItem.data.toList.drop 89 = dktX7_readItem_4 := dk_seg dksX7_readItem_3 22 rfl rfl
theorem dksX7_readItem_5 : cX7_readItem.data.toList.drop 113 = dktX7_readItem_5 := dk_seg dksX7_readItem_4 24 rfl rfl
theorem dksX7_readItem_6 : cX7_readItem.data.toList.drop 137 = dktX7_readItem_6 := dk_seg dksX7_readItem_5 24 rfl rfl
theorem dX7_readItem_0 : decode cX7_readItem 0 = .ok (.iconst 3, 1) := dk_6 (dk_at dksX7_readItem_0 0 rfl rfl)
theorem dX7_readItem_1 : decode cX7_readItem 1 = .ok (.aload_n 0, 1) := dk_42 (dk_at dksX7_readItem_0 1 rfl rfl)
theorem dX7_readItem_2 : decode cX7_readItem 2 = .ok (.getfield 207, 3) := dk_180 0 207 (dk_at dksX7_readItem_0 2 rfl rfl)
theorem dX7_readItem_5 : decode cX7_readItem 5 = .ok (.imul, 1) := dk_104 (dk_at dksX7_readItem_0 5 rfl rfl)
theorem dX7_readItem_6 : decode cX7_readItem 6 = .ok (.istore_n 1, 1) := dk_60 (dk_at dksX7_readItem_0 6 rfl rfl)
theorem dX7_readItem_7 : decode cX7_readItem 7 = .ok (.aload_n 0, 1) := dk_42 (dk_at dksX7_readItem_0 7 rfl rfl)
theorem dX7_readItem_8 : decode cX7_readItem 8 = .ok (.ldc 210, 2) := dk_18 210 (dk_at dksX7_readItem_0 8 rfl rfl)
theorem dX7_readItem_10 : decode cX7_readItem 10 = .ok (.invokevirtual 212, 3) := dk_182 0 212 (dk_at dksX7_readItem_0 10 rfl rfl)
theorem dX7_readItem_13 : decode cX7_readItem 13 = .ok (.istore_n 2, 1) := dk_61 (dk_at dksX7_readItem_0 13 rfl rfl)
theorem dX7_readItem_14 : decode cX7_readItem 14 = .ok (.aload_n 0, 1) := dk_42 (dk_at dksX7_readItem_0 14 rfl rfl)
theorem dX7_readItem_15 : decode cX7_readItem 15 = .ok (.getfield 33, 3) := dk_180 0 33 (dk_at dksX7_readItem_0 15 rfl rfl)
theorem dX7_readItem_18 : decode cX7_readItem 18 = .ok (.iload_n 1, 1) := dk_27 (dk_at dksX7_readItem_0 18 rfl rfl)
theorem dX7_readItem_19 : decode cX7_readItem 19 = .ok (.iload_n 2, 1) := dk_28 (dk_at dksX7_readItem_0 19 rfl rfl)
theorem dX7_readItem_20 : decode cX7_readItem 20 = .ok (.iastore, 1) := dk_79 (dk_at dksX7_readItem_0 20 rfl rfl)
theorem dX7_readItem_21 : decode cX7_readItem 21 = .ok (.aload_n 0, 1) := dk_42 (dk_at dksX7_readItem_0 21 rfl rfl)
theorem dX7_readItem_22 : decode cX7_readItem 22 = .ok (.getfield 33, 3) := dk_180 0 33 (dk_at dksX7_readItem_1 0 rfl rfl)
theorem dX7_readItem_25 : decode cX7_readItem 25 = .ok (.iload_n 1, 1) := dk_27 (dk_at dksX7_readItem_1 3 rfl rfl)
theorem dX7_readItem_26 : decode cX7_readItem 26 = .ok (.iconst 1, 1) := dk_4 (dk_at dksX7_readItem_1 4 rfl rfl)
theorem dX7_readItem_27 : decode cX7_readItem 27 = .ok (.iadd, 1) := dk_96 (dk_at dksX7_readItem_1 5 rfl rfl)
theorem dX7_readItem_28 : decode cX7_readItem 28 = .ok (.iload_n 2, 1) := dk_28 (dk_at dksX7_readItem_1 6 rfl rfl)
theorem dX7_readItem_29 : decode cX7_readItem 29 = .ok (.ifCond .ne 10, 3) := dk_154 0 10 (dk_at dksX7_readItem_1 7 rfl rfl)
theorem dX7_readItem_32 : decode cX7_readItem 32 = .ok (.aload_n 0, 1) := dk_42 (dk_at dksX7_readItem_1 10 rfl rfl)
theorem dX7_readItem_33 : decode cX7_readItem 33 = .ok (.invokevirtual 216, 3) := dk_182 0 216 (dk_at dksX7_readItem_1 11 rfl rfl)
theorem dX7_readItem_36 : decode cX7_readItem 36 = .ok (.goto 20, 3) := dk_167 0 20 (dk_at dksX7_readItem_1 14 rfl rfl)
theorem dX7_readItem_39 : decode cX7_readItem 39 = .ok (.iload_n 2, 1) := dk_28 (dk_at dksX7_readItem_1 17 rfl rfl)
theorem dX7_readItem_40 : decode cX7_readItem 40 = .ok (.iconst 2, 1) := dk_5 (dk_at dksX7_readItem_1 18 rfl rfl)
theorem dX7_readItem_41 : decode cX7_readItem 41 = .ok (.if_icmp .lt 14, 3) := dk_161 0 14 (dk_at dksX7_readItem_1 19 rfl rfl)
theorem dX7_readItem_44 : decode cX7_readItem 44 = .ok (.aload_n 0, 1) := dk_42 (dk_at dksX7_readItem_1 22 rfl rfl)
theorem dX7_readItem_45 : decode cX7_readItem 45 = .ok (.bipush 48, 2) := dk_16 48 (dk_at dksX7_readItem_2 0 rfl rfl)
theorem dX7_readItem_47 : decode cX7_readItem 47 = .ok (.bipush 57, 2) := dk_16 57 (dk_at dksX7_readItem_2 2 rfl rfl)
theorem dX7_readItem_49 : decode cX7_readItem 49 = .ok (.invokevirtual 198, 3) := dk_182 0 198 (dk_at dksX7_readItem_2 4 rfl rfl)
theorem dX7_readItem_52 : decode cX7_readItem 52 = .ok (.goto 4, 3) := dk_167 0 4 (dk_at dksX7_readItem_2 7 rfl rfl)
theorem dX7_readItem_55 : decode cX7_readItem 55 = .ok (.iconst 0, 1) := dk_3 (dk_at dksX7_readItem_2 10 rfl rfl)
theorem dX7_readItem_56 : decode cX7_readItem 56 = .ok (.iastore, 1) := dk_79 (dk_at dksX7_readItem_2 11 rfl rfl)
theorem dX7_readItem_57 : decode cX7_readItem 57 = .ok (.iload_n 2, 1) := dk_28 (dk_at dksX7_readItem_2 12 rfl rfl)
theorem dX7_readItem_58 : decode cX7_readItem 58 = .ok (.iconst 2, 1) := dk_5 (dk_at dksX7_readItem_2 13 rfl rfl)
theorem dX7_readItem_59 : decode cX7_readItem 59 = .ok (.if_icmp .ne 28, 3) := dk_160 0 28 (dk_at dksX7_readItem_2 14 rfl rfl)
theorem dX7_readItem_62 : decode cX7_readItem 62 = .ok (.aload_n 0, 1) := dk_42 (dk_at dksX7_readItem_2 17 rfl rfl)
theorem dX7_readItem_63 : decode cX7_readItem 63 = .ok (.bipush 61, 2) := dk_16 61 (dk_at dksX7_readItem_2 18 rfl rfl)
theorem dX7_readItem_65 : decode cX7_readItem 65 = .ok (.bipush 61, 2) := dk_16 61 (dk_at dksX7_readItem_2 20 rfl rfl)
theorem dX7_readItem_67 : decode cX7_readItem 67 = .ok (.invokevirtual 198, 3) := dk_182 0 198 (dk_at dksX7_readItem_3 0 rfl rfl)
theorem dX7_readItem_70 : decode cX7_readItem 70 = .ok (.istore_n 3, 1) := dk_62 (dk_at dksX7_readItem_3 3 rfl rfl)
theorem dX7_readItem_71 : decode cX7_readItem 71 = .ok (.aload_n 0, 1) := dk_42 (dk_at dksX7_readItem_3 4 rfl rfl)
theorem dX7_readItem_72 : decode cX7_readItem 72 = .ok (.getfield 33, 3) := dk_180 0 33 (dk_at dksX7_readItem_3 5 rfl rfl)
theorem dX7_readItem_75 : decode cX7_readItem 75 = .ok (.iload_n 1, 1) := dk_27 (dk_at dksX7_readItem_3 8 rfl rfl)
theorem dX7_readItem_76 : decode cX7_readItem 76 = .ok (.iconst 2, 1) := dk_5 (dk_at dksX7_readItem_3 9 rfl rfl)
theorem dX7_readItem_77 : decode cX7_readItem 77 = .ok (.iadd, 1) := dk_96 (dk_at dksX7_readItem_3 10 rfl rfl)
theorem dX7_readItem_78 : decode cX7_readItem 78 = .ok (.aload_n 0, 1) := dk_42 (dk_at dksX7_readItem_3 11 rfl rfl)
theorem dX7_readItem_79 : decode cX7_readItem 79 = .ok (.bipush 48, 2) := dk_16 48 (dk_at dksX7_readItem_3 12 rfl rfl)
theorem dX7_readItem_81 : decode cX7_readItem 81 = .ok (.bipush 57, 2) := dk_16 57 (dk_at dksX7_readItem_3 14 rfl rfl)
theorem dX7_readItem_83 : decode cX7_readItem 83 = .ok (.invokevirtual 198, 3) := dk_182 0 198 (dk_at dksX7_readItem_3 16 rfl rfl)
theorem dX7_readItem_86 : decode cX7_readItem 86 = .ok (.iastore, 1) := dk_79 (dk_at dksX7_readItem_3 19 rfl rfl)
theorem dX7_readItem_87 : decode cX7_readItem 87 = .ok (.iload_n 2, 1) := dk_28 (dk_at dksX7_readItem_3 20 rfl rfl)
theorem dX7_readItem_88 : decode cX7_readItem 88 = .ok (.iconst 3, 1) := dk_6 (dk_at dksX7_readItem_3 21 rfl rfl)
theorem dX7_readItem_89 : decode cX7_readItem 89 = .ok (.if_icmp .eq 8, 3) := dk_159 0 8 (dk_at dksX7_readItem_4 0 rfl rfl)
theorem dX7_readItem_92 : decode cX7_readItem 92 = .ok (.iload_n 2, 1) := dk_28 (dk_at dksX7_readItem_4 3 rfl rfl)
theorem dX7_readItem_93 : decode cX7_readItem 93 = .ok (.iconst 4, 1) := dk_7 (dk_at dksX7_readItem_4 4 rfl rfl)
theorem dX7_readItem_94 : decode cX7_readItem 94 = .ok (.if_icmp .ne 17, 3) := dk_160 0 17 (dk_at dksX7_readItem_4 5 rfl rfl)
theorem dX7_readItem_97 : decode cX7_readItem 97 = .ok (.aload_n 0, 1) := dk_42 (dk_at dksX7_readItem_4 8 rfl rfl)
theorem dX7_readItem_98 : decode cX7_readItem 98 = .ok (.getfield 33, 3) := dk_180 0 33 (dk_at dksX7_readItem_4 9 rfl rfl)
theorem dX7_readItem_101 : decode cX7_readItem 101 = .ok (.iload_n 1, 1) := dk_27 (dk_at dksX7_readItem_4 12 rfl rfl)
theorem dX7_readItem_102 : decode cX7_readItem 102 = .ok (.iconst 2, 1) := dk_5 (dk_at dksX7_readItem_4 13 rfl rfl)
theorem dX7_readItem_103 : decode cX7_readItem 103 = .ok (.iadd, 1) := dk_96 (dk_at dksX7_readItem_4 14 rfl rfl)
theorem dX7_readItem_104 : decode cX7_readItem 104 = .ok (.aload_n 0, 1) := dk_42 (dk_at dksX7_readItem_4 15 rfl rfl)
theorem dX7_readItem_105 : decode cX7_readItem 105 = .ok (.ldc 219, 2) := dk_18 219 (dk_at dksX7_readItem_4 16 rfl rfl)
theorem dX7_readItem_107 : decode cX7_readItem 107 = .ok (.invokevirtual 212, 3) := dk_182 0 212 (dk_at dksX7_readItem_4 18 rfl rfl)
theorem dX7_readItem_110 : decode cX7_readItem 110 = .ok (.iastore, 1) := dk_79 (dk_at dksX7_readItem_4 21 rfl rfl)
theorem dX7_readItem_111 : decode cX7_readItem 111 = .ok (.iload_n 2, 1) := dk_28 (dk_at dksX7_readItem_4 22 rfl rfl)
theorem dX7_readItem_112 : decode cX7_readItem 112 = .ok (.iconst 5, 1) := dk_8 (dk_at dksX7_readItem_4 23 rfl rfl)
theorem dX7_readItem_113 : decode cX7_readItem 113 = .ok (.if_icmp .ne 24, 3) := dk_160 0 24 (dk_at dksX7_readItem_5 0 rfl rfl)
theorem dX7_readItem_116 : decode cX7_readItem 116 = .ok (.aload_n 0, 1) := dk_42 (dk_at dksX7_readItem_5 3 rfl rfl)
theorem dX7_readItem_117 : decode cX7_readItem 117 = .ok (.bipush 58, 2) := dk_16 58 (dk_at dksX7_readItem_5 4 rfl rfl)
theorem dX7_readItem_119 : decode cX7_readItem 119 = .ok (.bipush 58, 2) := dk_16 58 (dk_at dksX7_readItem_5 6 rfl rfl)
theorem dX7_readItem_121 : decode cX7_readItem 121 = .ok (.invokevirtual 198, 3) := dk_182 0 198 (dk_at dksX7_readItem_5 8 rfl rfl)
theorem dX7_readItem_124 : decode cX7_readItem 124 = .ok (.istore_n 3, 1) := dk_62 (dk_at dksX7_readItem_5 11 rfl rfl)
theorem dX7_readItem_125 : decode cX7_readItem 125 = .ok (.aload_n 0, 1) := dk_42 (dk_at dksX7_readItem_5 12 rfl rfl)
theorem dX7_readItem_126 : decode cX7_readItem 126 = .ok (.getfield 33, 3) := dk_180 0 33 (dk_at dksX7_readItem_5 13 rfl rfl)
theorem dX7_readItem_129 : decode cX7_readItem 129 = .ok (.iload_n 1, 1) := dk_27 (dk_at dksX7_readItem_5 16 rfl rfl)
theorem dX7_readItem_130 : decode cX7_readItem 130 = .ok (.iconst 2, 1) := dk_5 (dk_at dksX7_readItem_5 17 rfl rfl)
theorem dX7_readItem_131 : decode cX7_readItem 131 = .ok (.iadd, 1) := dk_96 (dk_at dksX7_readItem_5 18 rfl rfl)
theorem dX7_readItem_132 : decode cX7_readItem 132 = .ok (.aload_n 0, 1) := dk_42 (dk_at dksX7_readItem_5 19 rfl rfl)
theorem dX7_readItem_133 : decode cX7_readItem 133 = .ok (.invokevirtual 216, 3) := dk_182 0 216 (dk_at dksX7_readItem_5 20 rfl rfl)
theorem dX7_readItem_136 : decode cX7_readItem 136 = .ok (.iastore, 1) := dk_79 (dk_at dksX7_readItem_5 23 rfl rfl)
theorem dX7_readItem_137 : decode cX7_readItem 137 = .ok (.aload_n 0, 1) := dk_42 (dk_at dksX7_readItem_6 0 rfl rfl)
theorem dX7_readItem_138 : decode cX7_readItem 138 = .ok (.dup, 1) := dk_89 (dk_at dksX7_readItem_6 1 rfl rfl)
theorem dX7_readItem_139 : decode cX7_readItem 139 = .ok (.getfield 207, 3) := dk_180 0 207 (dk_at dksX7_readItem_6 2 rfl rfl)
theorem dX7_readItem_142 : decode cX7_readItem 142 = .ok (.iconst 1, 1) := dk_4 (dk_at dksX7_readItem_6 5 rfl rfl)
theorem dX7_readItem_143 : decode cX7_readItem 143 = .ok (.iadd, 1) := dk_96 (dk_at dksX7_readItem_6 6 rfl rfl)
theorem dX7_readItem_144 : decode cX7_readItem 144 = .ok (.putfield 207, 3) := dk_181 0 207 (dk_at dksX7_readItem_6 7 rfl rfl)
theorem dX7_readItem_147 : decode cX7_readItem 147 = .ok (.return_, 1) := dk_177 (dk_at dksX7_readItem_6 10 rfl rfl)
def dkwX7_oneOf_3 : List UInt8 := [28, 172]
abbrev dktX7_oneOf_3 : List UInt8 := dkwX7_oneOf_3 ++ []
def dkwX7_oneOf_2 : List UInt8 := [181, 0, 187, 42, 89, 180, 0, 191, 42, 180, 0, 187, 153, 0, 7, 3, 167, 0, 4, 4, 96, 181, 0, 191]
abbrev dktX7_oneOf_2 : List UInt8 := dkwX7_oneOf_2 ++ dktX7_oneOf_3
def dkwX7_oneOf_1 : List UInt8 := [180, 0, 191, 52, 182, 0, 202, 167, 0, 4, 2, 61, 42, 28, 156, 0, 7, 4, 167, 0, 4, 3]
abbrev dktX7_oneOf_1 : List UInt8 := dkwX7_oneOf_1 ++ dktX7_oneOf_2
def dkwX7_oneOf_0 : List UInt8 := [42, 180, 0, 187, 154, 0, 30, 42, 180, 0, 191, 42, 180, 0, 184, 162, 0, 19, 43, 42, 180, 0, 25, 42]
abbrev dktX7_oneOf_0 : List UInt8 := dkwX7_oneOf_0 ++ dktX7_oneOf_1
theorem dksX7_oneOf_0 : cX7_oneOf.data.toList.drop 0 = dktX7_oneOf_0 := by decide +kernel
theorem dksX7_oneOf_1 : cX7_oneOf.data.toList.drop 24 = dktX7_oneOf_1 := dk_seg dksX7_oneOf_0 24 rfl rfl
theorem dksX7_oneOf_2 : cX7_oneOf.data.toList.drop 46 = dktX7_oneOf_2 := dk_seg dksX7_oneOf_1 22 rfl rfl
theorem dksX7_oneOf_3 : cX7_oneOf.data.toList.drop 70 = dktX7_oneOf_3 := dk_seg dksX7_oneOf_2 24 rfl rfl
theorem dX7_oneOf_0 : decode cX7_oneOf 0 = .ok (.aload_n 0, 1) := dk_42 (dk_at dksX7_oneOf_0 0 rfl rfl)
theorem dX7_oneOf_1 : decode cX7_oneOf 1 = .ok (.getfield 187, 3) := dk_180 0 187 (dk_at dksX7_oneOf_0 1 rfl rfl)
theorem dX7_oneOf_4 : decode cX7_oneOf 4 = .ok (.ifCond .ne 30, 3) := dk_154 0 30 (dk_at dksX7_oneOf_0 4 rfl rfl)
theorem dX7_oneOf_7 : decode cX7_oneOf 7 = .ok (.aload_n 0, 1) := dk_42 (dk_at dksX7_oneOf_0 7 rfl rfl)
theorem dX7_oneOf_8 : decode cX7_oneOf 8 = .ok (.getfield 191, 3) := dk_180 0 191 (dk_at dksX7_oneOf_0 8 rfl rfl)
theorem dX7_oneOf_11 : decode cX7_oneOf 11 = .ok (.aload_n 0, 1) := dk_42 (dk_at dksX7_oneOf_0 11 rfl rfl)
theorem dX7_oneOf_12 : decode cX7_oneOf 12 = .ok (.getfield 184, 3) := dk_180 0 184 (dk_at dksX7_oneOf_0 12 rfl rfl)
theorem dX7_oneOf_15 : decode cX7_oneOf 15 = .ok (.if_icmp .ge 19, 3) := dk_162 0 19 (dk_at dksX7_oneOf_0 15 rfl rfl)
theorem dX7_oneOf_18 : decode cX7_oneOf 18 = .ok (.aload_n 1, 1) := dk_43 (dk_at dksX7_oneOf_0 18 rfl rfl)
theorem dX7_oneOf_19 : decode cX7_oneOf 19 = .ok (.aload_n 0, 1) := dk_42 (dk_at dksX7_oneOf_0 19 rfl rfl)
theorem dX7_oneOf_20 : decode cX7_oneOf 20 = .ok (.getfield 25, 3) := dk_180 0 25 (dk_at dksX7_oneOf_0 20 rfl rfl)
theorem dX7_oneOf_23 : decode cX7_oneOf 23 = .ok (.aload_n 0, 1) := dk_42 (dk_at dksX7_oneOf_0 23 rfl rfl)
theorem dX7_oneOf_24 : decode cX7_oneOf 24 = .ok (.getfield 191, 3) := dk_180 0 191 (dk_at dksX7_oneOf_1 0 rfl rfl)
theorem dX7_oneOf_27 : decode cX7_oneOf 27 = .ok (.caload, 1) := dk_52 (dk_at dksX7_oneOf_1 3 rfl rfl)
theorem dX7_oneOf_28 : decode cX7_oneOf 28 = .ok (.invokevirtual 202, 3) := dk_182 0 202 (dk_at dksX7_oneOf_1 4 rfl rfl)
theorem dX7_oneOf_31 : decode cX7_oneOf 31 = .ok (.goto 4, 3) := dk_167 0 4 (dk_at dksX7_oneOf_1 7 rfl rfl)
theorem dX7_oneOf_34 : decode cX7_oneOf 34 = .ok (.iconst (-1), 1) := dk_2 (dk_at dksX7_oneOf_1 10 rfl rfl)
theorem dX7_oneOf_35 : decode cX7_oneOf 35 = .ok (.istore_n 2, 1) := dk_61 (dk_at dksX7_oneOf_1 11 rfl rfl)
theorem dX7_oneOf_36 : decode cX7_oneOf 36 = .ok (.aload_n 0, 1) := dk_42 (dk_at dksX7_oneOf_1 12 rfl rfl)
theorem dX7_oneOf_37 : decode cX7_oneOf 37 = .ok (.iload_n 2, 1) := dk_28 (dk_at dksX7_oneOf_1 13 rfl rfl)
theorem dX7_oneOf_38 : decode cX7_oneOf 38 = .ok (.ifCond .ge 7, 3) := dk_156 0 7 (dk_at dksX7_oneOf_1 14 rfl rfl)
theorem dX7_oneOf_41 : decode cX7_oneOf 41 = .ok (.iconst 1, 1) := dk_4 (dk_at dksX7_oneOf_1 17 rfl rfl)
theorem dX7_oneOf_42 : decode cX7_oneOf 42 = .ok (.goto 4, 3) := dk_167 0 4 (dk_at dksX7_oneOf_1 18 rfl rfl)
theorem dX7_oneOf_45 : decode cX7_oneOf 45 = .ok (.iconst 0, 1) := dk_3 (dk_at dksX7_oneOf_1 21 rfl rfl)
theorem dX7_oneOf_46 : decode cX7_oneOf 46 = .ok (.putfield 187, 3) := dk_181 0 187 (dk_at dksX7_oneOf_2 0 rfl rfl)
theorem dX7_oneOf_49 : decode cX7_oneOf 49 = .ok (.aload_n 0, 1) := dk_42 (dk_at dksX7_oneOf_2 3 rfl rfl)
theorem dX7_oneOf_50 : decode cX7_oneOf 50 = .ok (.dup, 1) := dk_89 (dk_at dksX7_oneOf_2 4 rfl rfl)
theorem dX7_oneOf_51 : decode cX7_oneOf 51 = .ok (.getfield 191, 3) := dk_180 0 191 (dk_at dksX7_oneOf_2 5 rfl rfl)
theorem dX7_oneOf_54 : decode cX7_oneOf 54 = .ok (.aload_n 0, 1) := dk_42 (dk_at dksX7_oneOf_2 8 rfl rfl)
theorem dX7_oneOf_55 : decode cX7_oneOf 55 = .ok (.getfield 187, 3) := dk_180 0 187 (dk_at dksX7_oneOf_2 9 rfl rfl)
theorem dX7_oneOf_58 : decode cX7_oneOf 58 = .ok (.ifCond .eq 7, 3) := dk_153 0 7 (dk_at dksX7_oneOf_2 12 rfl rfl)
theorem dX7_oneOf_61 : decode cX7_oneOf 61 = .ok (.iconst 0, 1) := dk_3 (dk_at dksX7_oneOf_2 15 rfl rfl)
theorem dX7_oneOf_62 : decode cX7_oneOf 62 = .ok (.goto 4, 3) := dk_167 0 4 (dk_at dksX7_oneOf_2 16 rfl rfl)
theorem dX7_oneOf_65 : decode cX7_oneOf 65 = .ok (.iconst 1, 1) := dk_4 (dk_at dksX7_oneOf_2 19 rfl rfl)
theorem dX7_oneOf_66 : decode cX7_oneOf 66 = .ok (.iadd, 1) := dk_96 (dk_at dksX7_oneOf_2 20 rfl rfl)
theorem dX7_oneOf_67 : decode cX7_oneOf 67 = .ok (.putfield 191, 3) := dk_181 0 191 (dk_at dksX7_oneOf_2 21 rfl rfl)
theorem dX7_oneOf_70 : decode cX7_oneOf 70 = .ok (.iload_n 2, 1) := dk_28 (dk_at dksX7_oneOf_3 0 rfl rfl)
theorem dX7_oneOf_71 : decode cX7_oneOf 71 = .ok (.ireturn, 1) := dk_172 (dk_at dksX7_oneOf_3 1 rfl rfl)
def dkwX7_numberHere_1 : List UInt8 := [42, 16, 48, 16, 57, 182, 0, 198, 96, 167, 0, 4, 27, 172]
abbrev dktX7_numberHere_1 : List UInt8 := dkwX7_numberHere_1 ++ []
def dkwX7_numberHere_0 : List UInt8 := [42, 16, 48, 16, 57, 182, 0, 198, 60, 42, 16, 48, 16, 57, 182, 0, 194, 153, 0, 19, 16, 10, 27, 104]
abbrev dktX7_numberHere_0 : List UInt8 := dkwX7_numberHere_0 ++ dktX7_numberHere_1
theorem dksX7_numberHere_0 : cX7_numberHere.data.toList.drop 0 = dktX7_numberHere_0 := by decide +kernel
theorem dksX7_numberHere_1 : cX7_numberHere.data.toList.drop 24 = dktX7_numberHere_1 := dk_seg dksX7_numberHere_0 24 rfl rfl
theorem dX7_numberHere_0 : decode cX7_numberHere 0 = .ok (.aload_n 0, 1) := dk_42 (dk_at dksX7_numberHere_0 0 rfl rfl)
theorem dX7_numberHere_1 : decode cX7_numberHere 1 = .ok (.bipush 48, 2) := dk_16 48 (dk_at dksX7_numberHere_0 1 rfl rfl)
theorem dX7_numberHere_3 : decode cX7_numberHere 3 = .ok (.bipush 57, 2) := dk_16 57 (dk_at dksX7_numberHere_0 3 rfl rfl)
theorem dX7_numberHere_5 : decode cX7_numberHere 5 = .ok (.invokevirtual 198, 3) := dk_182 0 198 (dk_at dksX7_numberHere_0 5 rfl rfl)
theorem dX7_numberHere_8 : decode cX7_numberHere 8 = .ok (.istore_n 1, 1) := dk_60 (dk_at dksX7_numberHere_0 8 rfl rfl)
theorem dX7_numberHere_9 : decode cX7_numberHere 9 = .ok (.aload_n 0, 1) := dk_42 (dk_at dksX7_numberHere_0 9 rfl rfl)
theorem dX7_numberHere_10 : decode cX7_numberHere 10 = .ok (.bipush 48, 2) := dk_16 48 (dk_at dksX7_numberHere_0 10 rfl rfl)
theorem dX7_numberHere_12 : decode cX7_numberHere 12 = .ok (.bipush 57, 2) := dk_16 57 (dk_at dksX7_numberHere_0 12 rfl rfl)
theorem dX7_numberHere_14 : decode cX7_numberHere 14 = .ok (.invokevirtual 194, 3) := dk_182 0 194 (dk_at dksX7_numberHere_0 14 rfl rfl)
theorem dX7_numberHere_17 : decode cX7_numberHere 17 = .ok (.ifCond .eq 19, 3) := dk_153 0 19 (dk_at dksX7_numberHere_0 17 rfl rfl)
theorem dX7_numberHere_20 : decode cX7_numberHere 20 = .ok (.bipush 10, 2) := dk_16 10 (dk_at dksX7_numberHere_0 20 rfl rfl)
theorem dX7_numberHere_22 : decode cX7_numberHere 22 = .ok (.iload_n 1, 1) := dk_27 (dk_at dksX7_numberHere_0 22 rfl rfl)
theorem dX7_numberHere_23 : decode cX7_numberHere 23 = .ok (.imul, 1) := dk_104 (dk_at dksX7_numberHere_0 23 rfl rfl)
theorem dX7_numberHere_24 : decode cX7_numberHere 24 = .ok (.aload_n 0, 1) := dk_42 (dk_at dksX7_numberHere_1 0 rfl rfl)
theorem dX7_numberHere_25 : decode cX7_numberHere 25 = .ok (.bipush 48, 2) := dk_16 48 (dk_at dksX7_numberHere_1 1 rfl rfl)
theorem dX7_numberHere_27 : decode cX7_numberHere 27 = .ok (.bipush 57, 2) := dk_16 57 (dk_at dksX7_numberHere_1 3 rfl rfl)
theorem dX7_numberHere_29 : decode cX7_numberHere 29 = .ok (.invokevirtual 198, 3) := dk_182 0 198 (dk_at dksX7_numberHere_1 5 rfl rfl)
theorem dX7_numberHere_32 : decode cX7_numberHere 32 = .ok (.iadd, 1) := dk_96 (dk_at dksX7_numberHere_1 8 rfl rfl)
theorem dX7_numberHere_33 : decode cX7_numberHere 33 = .ok (.goto 4, 3) := dk_167 0 4 (dk_at dksX7_numberHere_1 9 rfl rfl)
theorem dX7_numberHere_36 : decode cX7_numberHere 36 = .ok (.iload_n 1, 1) := dk_27 (dk_at dksX7_numberHere_1 12 rfl rfl)
theorem dX7_numberHere_37 : decode cX7_numberHere 37 = .ok (.ireturn, 1) := dk_172 (dk_at dksX7_numberHere_1 13 rfl rfl)
def dkwX7_sign_2 : List UInt8 := [100, 52, 27, 100, 172]
abbrev dktX7_sign_2 : List UInt8 := dkwX7_sign_2 ++ []
def dkwX7_sign_1 : List UInt8 := [153, 0, 5, 3, 172, 42, 89, 180, 0, 191, 4, 96, 181, 0, 191, 42, 180, 0, 25, 42, 180, 0, 191, 4]
abbrev dktX7_sign_1 : List UInt8 := dkwX7_sign_1 ++ dktX7_sign_2
def dkwX7_sign_0 : List UInt8 := [42, 42, 27, 28, 182, 0, 194, 154, 0, 7, 4, 167, 0, 4, 3, 181, 0, 187, 42, 180, 0, 187]
abbrev dktX7_sign_0 : List UInt8 := dkwX7_sign_0 ++ dktX7_sign_1
theorem dksX7_sign_0 : cX7_sign.data.toList.drop 0 = dktX7_sign_0 := by decide +kernel
theorem dksX7_sign_1 : cX7_sign.data.toList.drop 22 = dktX7_sign_1 := dk_seg dksX7_sign_0 22 rfl rfl
theorem dksX7_sign_2 : cX7_sign.data.toList.drop 46 = dktX7_sign_2 := dk_seg dksX7_sign_1 24 rfl rfl
theorem dX7_sign_0 : decode cX7_sign 0 = .ok (.aload_n 0, 1) := dk_42 (dk_at dksX7_sign_0 0 rfl rfl)
theorem dX7_sign_1 : decode cX7_sign 1 = .ok (.aload_n 0, 1) := dk_42 (dk_at dksX7_sign_0 1 rfl rfl)
theorem dX7_sign_2 : decode cX7_sign 2 = .ok (.iload_n 1, 1) := dk_27 (dk_at dksX7_sign_0 2 rfl rfl)
theorem dX7_sign_3 : decode cX7_sign 3 = .ok (.iload_n 2, 1) := dk_28 (dk_at dksX7_sign_0 3 rfl rfl)
theorem dX7_sign_4 : decode cX7_sign 4 = .ok (.invokevirtual 194, 3) := dk_182 0 194 (dk_at dksX7_sign_0 4 rfl rfl)
theorem dX7_sign_7 : decode cX7_sign 7 = .ok (.ifCond .ne 7, 3) := dk_154 0 7 (dk_at dksX7_sign_0 7 rfl rfl)
theorem dX7_sign_10 : decode cX7_sign 10 = .ok (.iconst 1, 1) := dk_4 (dk_at dksX7_sign_0 10 rfl rfl)
theorem dX7_sign_11 : decode cX7_sign 11 = .ok (.goto 4, 3) := dk_167 0 4 (dk_at dksX7_sign_0 11 rfl rfl)
theorem dX7_sign_14 : decode cX7_sign 14 = .ok (.iconst 0, 1) := dk_3 (dk_at dksX7_sign_0 14 rfl rfl)
theorem dX7_sign_15 : decode cX7_sign 15 = .ok (.putfield 187, 3) := dk_181 0 187 (dk_at dksX7_sign_0 15 rfl rfl)
theorem dX7_sign_18 : decode cX7_sign 18 = .ok (.aload_n 0, 1) := dk_42 (dk_at dksX7_sign_0 18 rfl rfl)
theorem dX7_sign_19 : decode cX7_sign 19 = .ok (.getfield 187, 3) := dk_180 0 187 (dk_at dksX7_sign_0 19 rfl rfl)
theorem dX7_sign_22 : decode cX7_sign 22 = .ok (.ifCond .eq 5, 3) := dk_153 0 5 (dk_at dksX7_sign_1 0 rfl rfl)
theorem dX7_sign_25 : decode cX7_sign 25 = .ok (.iconst 0, 1) := dk_3 (dk_at dksX7_sign_1 3 rfl rfl)
theorem dX7_sign_26 : decode cX7_sign 26 = .ok (.ireturn, 1) := dk_172 (dk_at dksX7_sign_1 4 rfl rfl)
theorem dX7_sign_27 : decode cX7_sign 27 = .ok (.aload_n 0, 1) := dk_42 (dk_at dksX7_sign_1 5 rfl rfl)
theorem dX7_sign_28 : decode cX7_sign 28 = .ok (.dup, 1) := dk_89 (dk_at dksX7_sign_1 6 rfl rfl)
theorem dX7_sign_29 : decode cX7_sign 29 = .ok (.getfield 191, 3) := dk_180 0 191 (dk_at dksX7_sign_1 7 rfl rfl)
theorem dX7_sign_32 : decode cX7_sign 32 = .ok (.iconst 1, 1) := dk_4 (dk_at dksX7_sign_1 10 rfl rfl)
theorem dX7_sign_33 : decode cX7_sign 33 = .ok (.iadd, 1) := dk_96 (dk_at dksX7_sign_1 11 rfl rfl)
theorem dX7_sign_34 : decode cX7_sign 34 = .ok (.putfield 191, 3) := dk_181 0 191 (dk_at dksX7_sign_1 12 rfl rfl)
theorem dX7_sign_37 : decode cX7_sign 37 = .ok (.aload_n 0, 1) := dk_42 (dk_at dksX7_sign_1 15 rfl rfl)
theorem dX7_sign_38 : decode cX7_sign 38 = .ok (.getfield 25, 3) := dk_180 0 25 (dk_at dksX7_sign_1 16 rfl rfl)
theorem dX7_sign_41 : decode cX7_sign 41 = .ok (.aload_n 0, 1) := dk_42 (dk_at dksX7_sign_1 19 rfl rfl)
theorem dX7_sign_42 : decode cX7_sign 42 = .ok (.getfield 191, 3) := dk_180 0 191 (dk_at dksX7_sign_1 20 rfl rfl)
theorem dX7_sign_45 : decode cX7_sign 45 = .ok (.iconst 1, 1) := dk_4 (dk_at dksX7_sign_1 23 rfl rfl)
theorem dX7_sign_46 : decode cX7_sign 46 = .ok (.isub, 1) := dk_100 (dk_at dksX7_sign_2 0 rfl rfl)
theorem dX7_sign_47 : decode cX7_sign 47 = .ok (.caload, 1) := dk_52 (dk_at dksX7_sign_2 1 rfl rfl)
theorem dX7_sign_48 : decode cX7_sign 48 = .ok (.iload_n 1, 1) := dk_27 (dk_at dksX7_sign_2 2 rfl rfl)
theorem dX7_sign_49 : decode cX7_sign 49 = .ok (.isub, 1) := dk_100 (dk_at dksX7_sign_2 3 rfl rfl)
theorem dX7_sign_50 : decode cX7_sign 50 = .ok (.ireturn, 1) := dk_172 (dk_at dksX7_sign_2 4 rfl rfl)
def dkwX7_isHere_1 : List UInt8 := [180, 0, 191, 52, 27, 28, 184, 0, 54, 153, 0, 7, 4, 167, 0, 4, 3, 172]
abbrev dktX7_isHere_1 : List UInt8 := dkwX7_isHere_1 ++ []
def dkwX7_isHere_0 : List UInt8 := [42, 180, 0, 187, 154, 0, 35, 42, 180, 0, 191, 42, 180, 0, 184, 162, 0, 24, 42, 180, 0, 25, 42]
abbrev dktX7_isHere_0 : List UInt8 := dkwX7_isHere_0 ++ dktX7_isHere_1
theorem dksX7_isHere_0 : cX7_isHere.data.toList.drop 0 = dktX7_isHere_0 := by decide +kernel
theorem dksX7_isHere_1 : cX7_isHere.data.toList.drop 23 = dktX7_isHere_1 := dk_seg dksX7_isHere_0 23 rfl rfl
theorem dX7_isHere_0 : decode cX7_isHere 0 = .ok (.aload_n 0, 1) := dk_42 (dk_at dksX7_isHere_0 0 rfl rfl)
theorem dX7_isHere_1 : decode cX7_isHere 1 = .ok (.getfield 187, 3) := dk_180 0 187 (dk_at dksX7_isHere_0 1 rfl rfl)
theorem dX7_isHere_4 : decode cX7_isHere 4 = .ok (.ifCond .ne 35, 3) := dk_154 0 35 (dk_at dksX7_isHere_0 4 rfl rfl)
theorem dX7_isHere_7 : decode cX7_isHere 7 = .ok (.aload_n 0, 1) := dk_42 (dk_at dksX7_isHere_0 7 rfl rfl)
theorem dX7_isHere_8 : decode cX7_isHere 8 = .ok (.getfield 191, 3) := dk_180 0 191 (dk_at dksX7_isHere_0 8 rfl rfl)
theorem dX7_isHere_11 : decode cX7_isHere 11 = .ok (.aload_n 0, 1) := dk_42 (dk_at dksX7_isHere_0 11 rfl rfl)
theorem dX7_isHere_12 : decode cX7_isHere 12 = .ok (.getfield 184, 3) := dk_180 0 184 (dk_at dksX7_isHere_0 12 rfl rfl)
theorem dX7_isHere_15 : decode cX7_isHere 15 = .ok (.if_icmp .ge 24, 3) := dk_162 0 24 (dk_at dksX7_isHere_0 15 rfl rfl)
theorem dX7_isHere_18 : decode cX7_isHere 18 = .ok (.aload_n 0, 1) := dk_42 (dk_at dksX7_isHere_0 18 rfl rfl)
theorem dX7_isHere_19 : decode cX7_isHere 19 = .ok (.getfield 25, 3) := dk_180 0 25 (dk_at dksX7_isHere_0 19 rfl rfl)
theorem dX7_isHere_22 : decode cX7_isHere 22 = .ok (.aload_n 0, 1) := dk_42 (dk_at dksX7_isHere_0 22 rfl rfl)
theorem dX7_isHere_23 : decode cX7_isHere 23 = .ok (.getfield 191, 3) := dk_180 0 191 (dk_at dksX7_isHere_1 0 rfl rfl)
theorem dX7_isHere_26 : decode cX7_isHere 26 = .ok (.caload, 1) := dk_52 (dk_at dksX7_isHere_1 3 rfl rfl)
theorem dX7_isHere_27 : decode cX7_isHere 27 = .ok (.iload_n 1, 1) := dk_27 (dk_at dksX7_isHere_1 4 rfl rfl)
theorem dX7_isHere_28 : decode cX7_isHere 28 = .ok (.iload_n 2, 1) := dk_28 (dk_at dksX7_isHere_1 5 rfl rfl)
theorem dX7_isHere_29 : decode cX7_isHere 29 = .ok (.invokestatic 54, 3) := dk_184 0 54 (dk_at dksX7_isHere_1 6 rfl rfl)
theorem dX7_isHere_32 : decode cX7_isHere 32 = .ok (.ifCond .eq 7, 3) := dk_153 0 7 (dk_at dksX7_isHere_1 9 rfl rfl)
theorem dX7_isHere_35 : decode cX7_isHere 35 = .ok (.iconst 1, 1) := dk_4 (dk_at dksX7_isHere_1 12 rfl rfl)
theorem dX7_isHere_36 : decode cX7_isHere 36 = .ok (.goto 4, 3) := dk_167 0 4 (dk_at dksX7_isHere_1 13 rfl rfl)
theorem dX7_isHere_39 : decode cX7_isHere 39 = .ok (.iconst 0, 1) := dk_3 (dk_at dksX7_isHere_1 16 rfl rfl)
theorem dX7_isHere_40 : decode cX7_isHere 40 = .ok (.ireturn, 1) := dk_172 (dk_at dksX7_isHere_1 17 rfl rfl)
def dkwX7_carryOut_6 : List UInt8 := [167, 0, 4, 3, 182, 0, 90, 54, 4, 177]
abbrev dktX7_carryOut_6 : List UInt8 := dkwX7_carryOut_6 ++ []
def dkwX7_carryOut_5 : List UInt8 := [154, 0, 8, 16, 7, 167, 0, 5, 16, 8, 42, 180, 0, 33, 6, 27, 104, 46, 6, 160, 0, 7, 4]
abbrev dktX7_carryOut_5 : List UInt8 := dkwX7_carryOut_5 ++ dktX7_carryOut_6
def dkwX7_carryOut_4 : List UInt8 := [182, 0, 87, 54, 4, 167, 0, 49, 42, 28, 29, 182, 0, 100, 54, 4, 167, 0, 38, 42, 28, 29]
abbrev dktX7_carryOut_4 : List UInt8 := dkwX7_carryOut_4 ++ dktX7_carryOut_5
def dkwX7_carryOut_3 : List UInt8 := [42, 28, 182, 0, 139, 54, 4, 167, 0, 69, 42, 182, 0, 142, 54, 4, 167, 0, 60, 42, 28, 29]
abbrev dktX7_carryOut_3 : List UInt8 := dkwX7_carryOut_3 ++ dktX7_carryOut_4
def dkwX7_carryOut_2 : List UInt8 := [170, 0, 0, 0, 0, 79, 0, 0, 0, 0, 0, 0, 0, 5, 0, 0, 0, 38, 0, 0, 0, 48, 0, 0, 0, 57, 0, 0, 0, 79, 0, 0, 0, 79, 0, 0, 0, 68]
abbrev dktX7_carryOut_2 : List UInt8 := dkwX7_carryOut_2 ++ dktX7_carryOut_3
def dkwX7_carryOut_1 : List UInt8 := [180, 0, 33, 6, 27, 104, 46]
abbrev dktX7_carryOut_1 : List UInt8 := dkwX7_carryOut_1 ++ dktX7_carryOut_2
def dkwX7_carryOut_0 : List UInt8 := [42, 180, 0, 33, 6, 27, 104, 4, 96, 46, 61, 42, 180, 0, 33, 6, 27, 104, 5, 96, 46, 62, 42]
abbrev dktX7_carryOut_0 : List UInt8 := dkwX7_carryOut_0 ++ dktX7_carryOut_1
theorem dksX7_carryOut_0 : cX7_carryOut.data.toList.drop 0 = dktX7_carryOut_0 := by decide +kernel
theorem dksX7_carryOut_1 : cX7_carryOut.data.toList.drop 23 = dktX7_carryOut_1 := dk_seg dksX7_carryOut_0 23 rfl rfl
theorem dksX7_carryOut_2 : cX7_carryOut.data.toList.drop 30 = dktX7_carryOut_2 := dk_seg dksX7_carryOut_1 7 rfl rfl
theorem dksX7_carryOut_3 : cX7_carryOut.data.toList.drop 68 = dktX7_carryOut_3 := dk_seg dksX7_carryOut_2 38 rfl rfl
theorem dksX7_carryOut_4 : cX7_carryOut.data.toList.drop 90 = dktX7_carryOut_4 := dk_seg dksX7_carryOut_3 22 rfl rfl
theorem dksX7_carryOut_5 : cX7_carryOut.data.toList.drop 112 = dktX7_carryOut_5 := dk_seg dksX7_carryOut_4 22 rfl rfl
theorem dksX7_carryOut_6 : cX7_carryOut.data.toList.drop 135 = dktX7_carryOut_6 := dk_seg dksX7_carryOut_5 23 rfl rfl
theorem dX7_carryOut_0 : decode cX7_carryOut 0 = .ok (.aload_n 0, 1) := dk_42 (dk_at dksX7_carryOut_0 0 rfl rfl)
theorem dX7_carryOut_1 : decode cX7_carryOut 1 = .ok (.getfield 33, 3) := dk_180 0 33 (dk_at dksX7_carryOut_0 1 rfl rfl)
theorem dX7_carryOut_4 : decode cX7_carryOut 4 = .ok (.iconst 3, 1) := dk_6 (dk_at dksX7_carryOut_0 4 rfl rfl)
theorem dX7_carryOut_5 : decode cX7_carryOut 5 = .ok (.iload_n 1, 1) := dk_27 (dk_at dksX7_carryOut_0 5 rfl rfl)
theorem dX7_carryOut_6 : decode cX7_carryOut 6 = .ok (.imul, 1) := dk_104 (dk_at dksX7_carryOut_0 6 rfl rfl)
theorem dX7_carryOut_7 : decode cX7_carryOut 7 = .ok (.iconst 1, 1) := dk_4 (dk_at dksX7_carryOut_0 7 rfl rfl)
theorem dX7_carryOut_8 : decode cX7_carryOut 8 = .ok (.iadd, 1) := dk_96 (dk_at dksX7_carryOut_0 8 rfl rfl)
theorem dX7_carryOut_9 : decode cX7_carryOut 9 = .ok (.iaload, 1) := dk_46 (dk_at dksX7_carryOut_0 9 rfl rfl)
theorem dX7_carryOut_10 : decode cX7_carryOut 10 = .ok (.istore_n 2, 1) := dk_61 (dk_at dksX7_carryOut_0 10 rfl rfl)
theorem dX7_carryOut_11 : decode cX7_carryOut 11 = .ok (.aload_n 0, 1) := dk_42 (dk_at dksX7_carryOut_0 11 rfl rfl)
theorem dX7_carryOut_12 : decode cX7_carryOut 12 = .ok (.getfield 33, 3) := dk_180 0 33 (dk_at dksX7_carryOut_0 12 rfl rfl)
theorem dX7_carryOut_15 : decode cX7_carryOut 15 = .ok (.iconst 3, 1) := dk_6 (dk_at dksX7_carryOut_0 15 rfl rfl)
theorem dX7_carryOut_16 : decode cX7_carryOut 16 = .ok (.iload_n 1, 1) := dk_27 (dk_at dksX7_carryOut_0 16 rfl rfl)
theorem dX7_carryOut_17 : decode cX7_carryOut 17 = .ok (.imul, 1) := dk_104 (dk_at dksX7_carryOut_0 17 rfl rfl)
theorem dX7_carryOut_18 : decode cX7_carryOut 18 = .ok (.iconst 2, 1) := dk_5 (dk_at dksX7_carryOut_0 18 rfl rfl)
theorem dX7_carryOut_19 : decode cX7_carryOut 19 = .ok (.iadd, 1) := dk_96 (dk_at dksX7_carryOut_0 19 rfl rfl)
theorem dX7_carryOut_20 : decode cX7_carryOut 20 = .ok (.iaload, 1) := dk_46 (dk_at dksX7_carryOut_0 20 rfl rfl)
theorem dX7_carryOut_21 : decode cX7_carryOut 21 = .ok (.istore_n 3, 1) := dk_62 (dk_at dksX7_carryOut_0 21 rfl rfl)
theorem dX7_carryOut_22 : decode cX7_carryOut 22 = .ok (.aload_n 0, 1) := dk_42 (dk_at dksX7_carryOut_0 22 rfl rfl)
theorem dX7_carryOut_23 : decode cX7_carryOut 23 = .ok (.getfield 33, 3) := dk_180 0 33 (dk_at dksX7_carryOut_1 0 rfl rfl)
theorem dX7_carryOut_26 : decode cX7_carryOut 26 = .ok (.iconst 3, 1) := dk_6 (dk_at dksX7_carryOut_1 3 rfl rfl)
theorem dX7_carryOut_27 : decode cX7_carryOut 27 = .ok (.iload_n 1, 1) := dk_27 (dk_at dksX7_carryOut_1 4 rfl rfl)
theorem dX7_carryOut_28 : decode cX7_carryOut 28 = .ok (.imul, 1) := dk_104 (dk_at dksX7_carryOut_1 5 rfl rfl)
theorem dX7_carryOut_29 : decode cX7_carryOut 29 = .ok (.iaload, 1) := dk_46 (dk_at dksX7_carryOut_1 6 rfl rfl)
theorem dX7_carryOut_30 : decode cX7_carryOut 30 = .ok (.tableswitch 79 0 5 #[38, 48, 57, 79, 79, 68], 38) := by decide +kernel
theorem dX7_carryOut_68 : decode cX7_carryOut 68 = .ok (.aload_n 0, 1) := dk_42 (dk_at dksX7_carryOut_3 0 rfl rfl)
theorem dX7_carryOut_69 : decode cX7_carryOut 69 = .ok (.iload_n 2, 1) := dk_28 (dk_at dksX7_carryOut_3 1 rfl rfl)
theorem dX7_carryOut_70 : decode cX7_carryOut 70 = .ok (.invokevirtual 139, 3) := dk_182 0 139 (dk_at dksX7_carryOut_3 2 rfl rfl)
theorem dX7_carryOut_73 : decode cX7_carryOut 73 = .ok (.istore 4, 2) := dk_54 4 (dk_at dksX7_carryOut_3 5 rfl rfl)
theorem dX7_carryOut_75 : decode cX7_carryOut 75 = .ok (.goto 69, 3) := dk_167 0 69 (dk_at dksX7_carryOut_3 7 rfl rfl)
theorem dX7_carryOut_78 : decode cX7_carryOut 78 = .ok (.aload_n 0, 1) := dk_42 (dk_at dksX7_carryOut_3 10 rfl rfl)
theorem dX7_carryOut_79 : decode cX7_carryOut 79 = .ok (.invokevirtual 142, 3) := dk_182 0 142 (dk_at dksX7_carryOut_3 11 rfl rfl)
theorem dX7_carryOut_82 : decode cX7_carryOut 82 = .ok (.istore 4, 2) := dk_54 4 (dk_at dksX7_carryOut_3 14 rfl rfl)
theorem dX7_carryOut_84 : decode cX7_carryOut 84 = .ok (.goto 60, 3) := dk_167 0 60 (dk_at dksX7_carryOut_3 16 rfl rfl)
theorem dX7_carryOut_87 : decode cX7_carryOut 87 = .ok (.aload_n 0, 1) := dk_42 (dk_at dksX7_carryOut_3 19 rfl rfl)
theorem dX7_carryOut_88 : decode cX7_carryOut 88 = .ok (.iload_n 2, 1) := dk_28 (dk_at dksX7_carryOut_3 20 rfl rfl)
theorem dX7_carryOut_89 : decode cX7_carryOut 89 = .ok (.iload_n 3, 1) := dk_29 (dk_at dksX7_carryOut_3 21 rfl rfl)
theorem dX7_carryOut_90 : decode cX7_carryOut 90 = .ok (.invokevirtual 87, 3) := dk_182 0 87 (dk_at dksX7_carryOut_4 0 rfl rfl)
theorem dX7_carryOut_93 : decode cX7_carryOut 93 = .ok (.istore 4, 2) := dk_54 4 (dk_at dksX7_carryOut_4 3 rfl rfl)
theorem dX7_carryOut_95 : decode cX7_carryOut 95 = .ok (.goto 49, 3) := dk_167 0 49 (dk_at dksX7_carryOut_4 5 rfl rfl)
theorem dX7_carryOut_98 : decode cX7_carryOut 98 = .ok (.aload_n 0, 1) := dk_42 (dk_at dksX7_carryOut_4 8 rfl rfl)
theorem dX7_carryOut_99 : decode cX7_carryOut 99 = .ok (.iload_n 2, 1) := dk_28 (dk_at dksX7_carryOut_4 9 rfl rfl)
theorem dX7_carryOut_100 : decode cX7_carryOut 100 = .ok (.iload_n 3, 1) := dk_29 (dk_at dksX7_carryOut_4 10 rfl rfl)
theorem dX7_carryOut_101 : decode cX7_carryOut 101 = .ok (.invokevirtual 100, 3) := dk_182 0 100 (dk_at dksX7_carryOut_4 11 rfl rfl)
theorem dX7_carryOut_104 : decode cX7_carryOut 104 = .ok (.istore 4, 2) := dk_54 4 (dk_at dksX7_carryOut_4 14 rfl rfl)
theorem dX7_carryOut_106 : decode cX7_carryOut 106 = .ok (.goto 38, 3) := dk_167 0 38 (dk_at dksX7_carryOut_4 16 rfl rfl)
theorem dX7_carryOut_109 : decode cX7_carryOut 109 = .ok (.aload_n 0, 1) := dk_42 (dk_at dksX7_carryOut_4 19 rfl rfl)
theorem dX7_carryOut_110 : decode cX7_carryOut 110 = .ok (.iload_n 2, 1) := dk_28 (dk_at dksX7_carryOut_4 20 rfl rfl)
theorem dX7_carryOut_111 : decode cX7_carryOut 111 = .ok (.iload_n 3, 1) := dk_29 (dk_at dksX7_carryOut_4 21 rfl rfl)
theorem dX7_carryOut_112 : decode cX7_carryOut 112 = .ok (.ifCond .ne 8, 3) := dk_154 0 8 (dk_at dksX7_carryOut_5 0 rfl rfl)
theorem dX7_carryOut_115 : decode cX7_carryOut 115 = .ok (.bipush 7, 2) := dk_16 7 (dk_at dksX7_carryOut_5 3 rfl rfl)
theorem dX7_carryOut_117 : decode cX7_carryOut 117 = .ok (.goto 5, 3) := dk_167 0 5 (dk_at dksX7_carryOut_5 5 rfl rfl)
theorem dX7_carryOut_120 : decode cX7_carryOut 120 = .ok (.bipush 8, 2) := dk_16 8 (dk_at dksX7_carryOut_5 8 rfl rfl)
theorem dX7_carryOut_122 : decode cX7_carryOut 122 = .ok (.aload_n 0, 1) := dk_42 (dk_at dksX7_carryOut_5 10 rfl rfl)
theorem dX7_carryOut_123 : decode cX7_carryOut 123 = .ok (.getfield 33, 3) := dk_180 0 33 (dk_at dksX7_carryOut_5 11 rfl rfl)
theorem dX7_carryOut_126 : decode cX7_carryOut 126 = .ok (.iconst 3, 1) := dk_6 (dk_at dksX7_carryOut_5 14 rfl rfl)
theorem dX7_carryOut_127 : decode cX7_carryOut 127 = .ok (.iload_n 1, 1) := dk_27 (dk_at dksX7_carryOut_5 15 rfl rfl)
theorem dX7_carryOut_128 : decode cX7_carryOut 128 = .ok (.imul, 1) := dk_104 (dk_at dksX7_carryOut_5 16 rfl rfl)
theorem dX7_carryOut_129 : decode cX7_carryOut 129 = .ok (.iaload, 1) := dk_46 (dk_at dksX7_carryOut_5 17 rfl rfl)
theorem dX7_carryOut_130 : decode cX7_carryOut 130 = .ok (.iconst 3, 1) := dk_6 (dk_at dksX7_carryOut_5 18 rfl rfl)
theorem dX7_carryOut_131 : decode cX7_carryOut 131 = .ok (.if_icmp .ne 7, 3) := dk_160 0 7 (dk_at dksX7_carryOut_5 19 rfl rfl)
theorem dX7_carryOut_134 : decode cX7_carryOut 134 = .ok (.iconst 1, 1) := dk_4 (dk_at dksX7_carryOut_5 22 rfl rfl)
theorem dX7_carryOut_135 : decode cX7_carryOut 135 = .ok (.goto 4, 3) := dk_167 0 4 (dk_at dksX7_carryOut_6 0 rfl rfl)
theorem dX7_carryOut_138 : decode cX7_carryOut 138 = .ok (.iconst 0, 1) := dk_3 (dk_at dksX7_carryOut_6 3 rfl rfl)
theorem dX7_carryOut_139 : decode cX7_carryOut 139 = .ok (.invokevirtual 90, 3) := dk_182 0 90 (dk_at dksX7_carryOut_6 4 rfl rfl)
theorem dX7_carryOut_142 : decode cX7_carryOut 142 = .ok (.istore 4, 2) := dk_54 4 (dk_at dksX7_carryOut_6 7 rfl rfl)
theorem dX7_carryOut_144 : decode cX7_carryOut 144 = .ok (.return_, 1) := dk_177 (dk_at dksX7_carryOut_6 9 rfl rfl)
def dkwX7_isRefused_1 : List UInt8 := [180, 0, 36, 6, 160, 0, 7, 4, 167, 0, 4, 3, 172]
abbrev dktX7_isRefused_1 : List UInt8 := dkwX7_isRefused_1 ++ []
def dkwX7_isRefused_0 : List UInt8 := [27, 154, 0, 11, 42, 180, 0, 36, 5, 159, 0, 21, 27, 5, 159, 0, 8, 27, 8, 160, 0, 15, 42]
abbrev dktX7_isRefused_0 : List UInt8 := dkwX7_isRefused_0 ++ dktX7_isRefused_1
theorem dksX7_isRefused_0 : cX7_isRefused.data.toList.drop 0 = dktX7_isRefused_0 := by decide +kernel
theorem dksX7_isRefused_1 : cX7_isRefused.data.toList.drop 23 = dktX7_isRefused_1 := dk_seg dksX7_isRefused_0 23 rfl rfl
theorem dX7_isRefused_0 : decode cX7_isRefused 0 = .ok (.iload_n 1, 1) := dk_27 (dk_at dksX7_isRefused_0 0 rfl rfl)
theorem dX7_isRefused_1 : decode cX7_isRefused 1 = .ok (.ifCond .ne 11, 3) := dk_154 0 11 (dk_at dksX7_isRefused_0 1 rfl rfl)
theorem dX7_isRefused_4 : decode cX7_isRefused 4 = .ok (.aload_n 0, 1) := dk_42 (dk_at dksX7_isRefused_0 4 rfl rfl)
theorem dX7_isRefused_5 : decode cX7_isRefused 5 = .ok (.getfield 36, 3) := dk_180 0 36 (dk_at dksX7_isRefused_0 5 rfl rfl)
theorem dX7_isRefused_8 : decode cX7_isRefused 8 = .ok (.iconst 2, 1) := dk_5 (dk_at dksX7_isRefused_0 8 rfl rfl)
theorem dX7_isRefused_9 : decode cX7_isRefused 9 = .ok (.if_icmp .eq 21, 3) := dk_159 0 21 (dk_at dksX7_isRefused_0 9 rfl rfl)
theorem dX7_isRefused_12 : decode cX7_isRefused 12 = .ok (.iload_n 1, 1) := dk_27 (dk_at dksX7_isRefused_0 12 rfl rfl)
theorem dX7_isRefused_13 : decode cX7_isRefused 13 = .ok (.iconst 2, 1) := dk_5 (dk_at dksX7_isRefused_0 13 rfl rfl)
theorem dX7_isRefused_14 : decode cX7_isRefused 14 = .ok (.if_icmp .eq 8, 3) := dk_159 0 8 (dk_at dksX7_isRefused_0 14 rfl rfl)
theorem dX7_isRefused_17 : decode cX7_isRefused 17 = .ok (.iload_n 1, 1) := dk_27 (dk_at dksX7_isRefused_0 17 rfl rfl)
theorem dX7_isRefused_18 : decode cX7_isRefused 18 = .ok (.iconst 5, 1) := dk_8 (dk_at dksX7_isRefused_0 18 rfl rfl)
theorem dX7_isRefused_19 : decode cX7_isRefused 19 = .ok (.if_icmp .ne 15, 3) := dk_160 0 15 (dk_at dksX7_isRefused_0 19 rfl rfl)
theorem dX7_isRefused_22 : decode cX7_isRefused 22 = .ok (.aload_n 0, 1) := dk_42 (dk_at dksX7_isRefused_0 22 rfl rfl)
theorem dX7_isRefused_23 : decode cX7_isRefused 23 = .ok (.getfield 36, 3) := dk_180 0 36 (dk_at dksX7_isRefused_1 0 rfl rfl)
theorem dX7_isRefused_26 : decode cX7_isRefused 26 = .ok (.iconst 3, 1) := dk_6 (dk_at dksX7_isRefused_1 3 rfl rfl)
theorem dX7_isRefused_27 : decode cX7_isRefused 27 = .ok (.if_icmp .ne 7, 3) := dk_160 0 7 (dk_at dksX7_isRefused_1 4 rfl rfl)
theorem dX7_isRefused_30 : decode cX7_isRefused 30 = .ok (.iconst 1, 1) := dk_4 (dk_at dksX7_isRefused_1 7 rfl rfl)
theorem dX7_isRefused_31 : decode cX7_isRefused 31 = .ok (.goto 4, 3) := dk_167 0 4 (dk_at dksX7_isRefused_1 8 rfl rfl)
theorem dX7_isRefused_34 : decode cX7_isRefused 34 = .ok (.iconst 0, 1) := dk_3 (dk_at dksX7_isRefused_1 11 rfl rfl)
theorem dX7_isRefused_35 : decode cX7_isRefused 35 = .ok (.ireturn, 1) := dk_172 (dk_at dksX7_isRefused_1 12 rfl rfl)
def dkwX7_faultPosition_1 : List UInt8 := [167, 0, 7, 42, 180, 0, 29, 172]
abbrev dktX7_faultPosition_1 : List UInt8 := dkwX7_faultPosition_1 ++ []
def dkwX7_faultPosition_0 : List UInt8 := [42, 42, 180, 0, 29, 156, 0, 7, 4, 167, 0, 4, 3, 181, 0, 36, 42, 180, 0, 36, 158, 0, 7, 3]
abbrev dktX7_faultPosition_0 : List UInt8 := dkwX7_faultPosition_0 ++ dktX7_faultPosition_1
theorem dksX7_faultPosition_0 : cX7_faultPosition.data.toList.drop 0 = dktX7_faultPosition_0 := by decide +kernel
theorem dksX7_faultPosition_1 : cX7_faultPosition.data.toList.drop 24 = dktX7_faultPosition_1 := dk_seg dksX7_faultPosition_0 24 rfl rfl
theorem dX7_faultPosition_0 : decode cX7_faultPosition 0 = .ok (.aload_n 0, 1) := dk_42 (dk_at dksX7_faultPosition_0 0 rfl rfl)
theorem dX7_faultPosition_1 : decode cX7_faultPosition 1 = .ok (.aload_n 0, 1) := dk_42 (dk_at dksX7_faultPosition_0 1 rfl rfl)
theorem dX7_faultPosition_2 : decode cX7_faultPosition 2 = .ok (.getfield 29, 3) := dk_180 0 29 (dk_at dksX7_faultPosition_0 2 rfl rfl)
theorem dX7_faultPosition_5 : decode cX7_faultPosition 5 = .ok (.ifCond .ge 7, 3) := dk_156 0 7 (dk_at dksX7_faultPosition_0 5 rfl rfl)
theorem dX7_faultPosition_8 : decode cX7_faultPosition 8 = .ok (.iconst 1, 1) := dk_4 (dk_at dksX7_faultPosition_0 8 rfl rfl)
theorem dX7_faultPosition_9 : decode cX7_faultPosition 9 = .ok (.goto 4, 3) := dk_167 0 4 (dk_at dksX7_faultPosition_0 9 rfl rfl)
theorem dX7_faultPosition_12 : decode cX7_faultPosition 12 = .ok (.iconst 0, 1) := dk_3 (dk_at dksX7_faultPosition_0 12 rfl rfl)
theorem dX7_faultPosition_13 : decode cX7_faultPosition 13 = .ok (.putfield 36, 3) := dk_181 0 36 (dk_at dksX7_faultPosition_0 13 rfl rfl)
theorem dX7_faultPosition_16 : decode cX7_faultPosition 16 = .ok (.aload_n 0, 1) := dk_42 (dk_at dksX7_faultPosition_0 16 rfl rfl)
theorem dX7_faultPosition_17 : decode cX7_faultPosition 17 = .ok (.getfield 36, 3) := dk_180 0 36 (dk_at dksX7_faultPosition_0 17 rfl rfl)
theorem dX7_faultPosition_20 : decode cX7_faultPosition 20 = .ok (.ifCond .le 7, 3) := dk_158 0 7 (dk_at dksX7_faultPosition_0 20 rfl rfl)
theorem dX7_faultPosition_23 : decode cX7_faultPosition 23 = .ok (.iconst 0, 1) := dk_3 (dk_at dksX7_faultPosition_0 23 rfl rfl)
theorem dX7_faultPosition_24 : decode cX7_faultPosition 24 = .ok (.goto 7, 3) := dk_167 0 7 (dk_at dksX7_faultPosition_1 0 rfl rfl)
theorem dX7_faultPosition_27 : decode cX7_faultPosition 27 = .ok (.aload_n 0, 1) := dk_42 (dk_at dksX7_faultPosition_1 3 rfl rfl)
theorem dX7_faultPosition_28 : decode cX7_faultPosition 28 = .ok (.getfield 29, 3) := dk_180 0 29 (dk_at dksX7_faultPosition_1 4 rfl rfl)
theorem dX7_faultPosition_31 : decode cX7_faultPosition 31 = .ok (.ireturn, 1) := dk_172 (dk_at dksX7_faultPosition_1 7 rfl rfl)
def dkwX7_refusal_1 : List UInt8 := [167, 0, 18, 27, 153, 0, 10, 42, 180, 0, 48, 167, 0, 7, 42, 180, 0, 51, 172]
abbrev dktX7_refusal_1 : List UInt8 := dkwX7_refusal_1 ++ []
def dkwX7_refusal_0 : List UInt8 := [42, 42, 180, 0, 48, 154, 0, 7, 4, 167, 0, 4, 3, 181, 0, 36, 42, 180, 0, 36, 158, 0, 7, 3]
abbrev dktX7_refusal_0 : List UInt8 := dkwX7_refusal_0 ++ dktX7_refusal_1
theorem dksX7_refusal_0 : cX7_refusal.data.toList.drop 0 = dktX7_refusal_0 := by decide +kernel
theorem dksX7_refusal_1 : cX7_refusal.data.toList.drop 24 = dktX7_refusal_1 := dk_seg dksX7_refusal_0 24 rfl rfl
theorem dX7_refusal_0 : decode cX7_refusal 0 = .ok (.aload_n 0, 1) := dk_42 (dk_at dksX7_refusal_0 0 rfl rfl)
theorem dX7_refusal_1 : decode cX7_refusal 1 = .ok (.aload_n 0, 1) := dk_42 (dk_at dksX7_refusal_0 1 rfl rfl)
theorem dX7_refusal_2 : decode cX7_refusal 2 = .ok (.getfield 48, 3) := dk_180 0 48 (dk_at dksX7_refusal_0 2 rfl rfl)
theorem dX7_refusal_5 : decode cX7_refusal 5 = .ok (.ifCond .ne 7, 3) := dk_154 0 7 (dk_at dksX7_refusal_0 5 rfl rfl)
theorem dX7_refusal_8 : decode cX7_refusal 8 = .ok (.iconst 1, 1) := dk_4 (dk_at dksX7_refusal_0 8 rfl rfl)
theorem dX7_refusal_9 : decode cX7_refusal 9 = .ok (.goto 4, 3) := dk_167 0 4 (dk_at dksX7_refusal_0 9 rfl rfl)
theorem dX7_refusal_12 : decode cX7_refusal 12 = .ok (.iconst 0, 1) := dk_3 (dk_at dksX7_refusal_0 12 rfl rfl)
theorem dX7_refusal_13 : decode cX7_refusal 13 = .ok (.putfield 36, 3) := dk_181 0 36 (dk_at dksX7_refusal_0 13 rfl rfl)
theorem dX7_refusal_16 : decode cX7_refusal 16 = .ok (.aload_n 0, 1) := dk_42 (dk_at dksX7_refusal_0 16 rfl rfl)
theorem dX7_refusal_17 : decode cX7_refusal 17 = .ok (.getfield 36, 3) := dk_180 0 36 (dk_at dksX7_refusal_0 17 rfl rfl)
theorem dX7_refusal_20 : decode cX7_refusal 20 = .ok (.ifCond .le 7, 3) := dk_158 0 7 (dk_at dksX7_refusal_0 20 rfl rfl)
theorem dX7_refusal_23 : decode cX7_refusal 23 = .ok (.iconst 0, 1) := dk_3 (dk_at dksX7_refusal_0 23 rfl rfl)
theorem dX7_refusal_24 : decode cX7_refusal 24 = .ok (.goto 18, 3) := dk_167 0 18 (dk_at dksX7_refusal_1 0 rfl rfl)
theorem dX7_refusal_27 : decode cX7_refusal 27 = .ok (.iload_n 1, 1) := dk_27 (dk_at dksX7_refusal_1 3 rfl rfl)
theorem dX7_refusal_28 : decode cX7_refusal 28 = .ok (.ifCond .eq 10, 3) := dk_153 0 10 (dk_at dksX7_refusal_1 4 rfl rfl)
theorem dX7_refusal_31 : decode cX7_refusal 31 = .ok (.aload_n 0, 1) := dk_42 (dk_at dksX7_refusal_1 7 rfl rfl)
theorem dX7_refusal_32 : decode cX7_refusal 32 = .ok (.getfield 48, 3) := dk_180 0 48 (dk_at dksX7_refusal_1 8 rfl rfl)
theorem dX7_refusal_35 : decode cX7_refusal 35 = .ok (.goto 7, 3) := dk_167 0 7 (dk_at dksX7_refusal_1 11 rfl rfl)
theorem dX7_refusal_38 : decode cX7_refusal 38 = .ok (.aload_n 0, 1) := dk_42 (dk_at dksX7_refusal_1 14 rfl rfl)
theorem dX7_refusal_39 : decode cX7_refusal 39 = .ok (.getfield 51, 3) := dk_180 0 51 (dk_at dksX7_refusal_1 15 rfl rfl)
theorem dX7_refusal_42 : decode cX7_refusal 42 = .ok (.ireturn, 1) := dk_172 (dk_at dksX7_refusal_1 18 rfl rfl)
def dkwX7_undo_2 : List UInt8 := [180, 0, 9, 3, 17, 0, 156, 184, 0, 39, 42, 180, 0, 45, 172]
abbrev dktX7_undo_2 : List UInt8 := dkwX7_undo_2 ++ []
def dkwX7_undo_1 : List UInt8 := [172, 42, 89, 180, 0, 45, 4, 100, 181, 0, 45, 42, 180, 0, 22, 17, 0, 156, 42, 180, 0, 45, 104, 42]
abbrev dktX7_undo_1 : List UInt8 := dkwX7_undo_1 ++ dktX7_undo_2
def dkwX7_undo_0 : List UInt8 := [42, 42, 180, 0, 45, 154, 0, 7, 4, 167, 0, 4, 3, 181, 0, 36, 42, 180, 0, 36, 158, 0, 5, 3]
abbrev dktX7_undo_0 : List UInt8 := dkwX7_undo_0 ++ dktX7_undo_1
theorem dksX7_undo_0 : cX7_undo.data.toList.drop 0 = dktX7_undo_0 := by decide +kernel
theorem dksX7_undo_1 : cX7_undo.data.toList.drop 24 = dktX7_undo_1 := dk_seg dksX7_undo_0 24 rfl rfl
theorem dksX7_undo_2 : cX7_undo.data.toList.drop 48 = dktX7_undo_2 := dk_seg dksX7_undo_1 24 rfl rfl
theorem dX7_undo_0 : decode cX7_undo 0 = .ok (.aload_n 0, 1) := dk_42 (dk_at dksX7_undo_0 0 rfl rfl)
theorem dX7_undo_1 : decode cX7_undo 1 = .ok (.aload_n 0, 1) := dk_42 (dk_at dksX7_undo_0 1 rfl rfl)
theorem dX7_undo_2 : decode cX7_undo 2 = .ok (.getfield 45, 3) := dk_180 0 45 (dk_at dksX7_undo_0 2 rfl rfl)
theorem dX7_undo_5 : decode cX7_undo 5 = .ok (.ifCond .ne 7, 3) := dk_154 0 7 (dk_at dksX7_undo_0 5 rfl rfl)
theorem dX7_undo_8 : decode cX7_undo 8 = .ok (.iconst 1, 1) := dk_4 (dk_at dksX7_undo_0 8 rfl rfl)
theorem dX7_undo_9 : decode cX7_undo 9 = .ok (.goto 4, 3) := dk_167 0 4 (dk_at dksX7_undo_0 9 rfl rfl)
theorem dX7_undo_12 : decode cX7_undo 12 = .ok (.iconst 0, 1) := dk_3 (dk_at dksX7_undo_0 12 rfl rfl)
theorem dX7_undo_13 : decode cX7_undo 13 = .ok (.putfield 36, 3) := dk_181 0 36 (dk_at dksX7_undo_0 13 rfl rfl)
theorem dX7_undo_16 : decode cX7_undo 16 = .ok (.aload_n 0, 1) := dk_42 (dk_at dksX7_undo_0 16 rfl rfl)
theorem dX7_undo_17 : decode cX7_undo 17 = .ok (.getfield 36, 3) := dk_180 0 36 (dk_at dksX7_undo_0 17 rfl rfl)
theorem dX7_undo_20 : decode cX7_undo 20 = .ok (.ifCond .le 5, 3) := dk_158 0 5 (dk_at dksX7_undo_0 20 rfl rfl)
theorem dX7_undo_23 : decode cX7_undo 23 = .ok (.iconst 0, 1) := dk_3 (dk_at dksX7_undo_0 23 rfl rfl)
theorem dX7_undo_24 : decode cX7_undo 24 = .ok (.ireturn, 1) := dk_172 (dk_at dksX7_undo_1 0 rfl rfl)
theorem dX7_undo_25 : decode cX7_undo 25 = .ok (.aload_n 0, 1) := dk_42 (dk_at dksX7_undo_1 1 rfl rfl)
theorem dX7_undo_26 : decode cX7_undo 26 = .ok (.dup, 1) := dk_89 (dk_at dksX7_undo_1 2 rfl rfl)
theorem dX7_undo_27 : decode cX7_undo 27 = .ok (.getfield 45, 3) := dk_180 0 45 (dk_at dksX7_undo_1 3 rfl rfl)
theorem dX7_undo_30 : decode cX7_undo 30 = .ok (.iconst 1, 1) := dk_4 (dk_at dksX7_undo_1 6 rfl rfl)
theorem dX7_undo_31 : decode cX7_undo 31 = .ok (.isub, 1) := dk_100 (dk_at dksX7_undo_1 7 rfl rfl)
theorem dX7_undo_32 : decode cX7_undo 32 = .ok (.putfield 45, 3) := dk_181 0 45 (dk_at dksX7_undo_1 8 rfl rfl)
theorem dX7_undo_35 : decode cX7_undo 35 = .ok (.aload_n 0, 1) := dk_42 (dk_at dksX7_undo_1 11 rfl rfl)
theorem dX7_undo_36 : decode cX7_undo 36 = .ok (.getfield 22, 3) := dk_180 0 22 (dk_at dksX7_undo_1 12 rfl rfl)
theorem dX7_undo_39 : decode cX7_undo 39 = .ok (.sipush 156, 3) := dk_17 0 156 (dk_at dksX7_undo_1 15 rfl rfl)
theorem dX7_undo_42 : decode cX7_undo 42 = .ok (.aload_n 0, 1) := dk_42 (dk_at dksX7_undo_1 18 rfl rfl)
theorem dX7_undo_43 : decode cX7_undo 43 = .ok (.getfield 45, 3) := dk_180 0 45 (dk_at dksX7_undo_1 19 rfl rfl)
theorem dX7_undo_46 : decode cX7_undo 46 = .ok (.imul, 1) := dk_104 (dk_at dksX7_undo_1 22 rfl rfl)
theorem dX7_undo_47 : decode cX7_undo 47 = .ok (.aload_n 0, 1) := dk_42 (dk_at dksX7_undo_1 23 rfl rfl)
theorem dX7_undo_48 : decode cX7_undo 48 = .ok (.getfield 9, 3) := dk_180 0 9 (dk_at dksX7_undo_2 0 rfl rfl)
theorem dX7_undo_51 : decode cX7_undo 51 = .ok (.iconst 0, 1) := dk_3 (dk_at dksX7_undo_2 3 rfl rfl)
theorem dX7_undo_52 : decode cX7_undo 52 = .ok (.sipush 156, 3) := dk_17 0 156 (dk_at dksX7_undo_2 4 rfl rfl)
theorem dX7_undo_55 : decode cX7_undo 55 = .ok (.invokestatic 39, 3) := dk_184 0 39 (dk_at dksX7_undo_2 7 rfl rfl)
theorem dX7_undo_58 : decode cX7_undo 58 = .ok (.aload_n 0, 1) := dk_42 (dk_at dksX7_undo_2 10 rfl rfl)
theorem dX7_undo_59 : decode cX7_undo 59 = .ok (.getfield 45, 3) := dk_180 0 45 (dk_at dksX7_undo_2 11 rfl rfl)
theorem dX7_undo_62 : decode cX7_undo 62 = .ok (.ireturn, 1) := dk_172 (dk_at dksX7_undo_2 14 rfl rfl)
def dkwX7_saveSnapshot_1 : List UInt8 := [181, 0, 230, 42, 180, 0, 9, 3, 46, 172]
abbrev dktX7_saveSnapshot_1 : List UInt8 := dkwX7_saveSnapshot_1 ++ []
def dkwX7_saveSnapshot_0 : List UInt8 := [42, 3, 181, 0, 36, 42, 180, 0, 9, 3, 42, 180, 0, 19, 3, 17, 0, 156, 184, 0, 39, 42, 4]
abbrev dktX7_saveSnapshot_0 : List UInt8 := dkwX7_saveSnapshot_0 ++ dktX7_saveSnapshot_1
theorem dksX7_saveSnapshot_0 : cX7_saveSnapshot.data.toList.drop 0 = dktX7_saveSnapshot_0 := by decide +kernel
theorem dksX7_saveSnapshot_1 : cX7_saveSnapshot.data.toList.drop 23 = dktX7_saveSnapshot_1 := dk_seg dksX7_saveSnapshot_0 23 rfl rfl
theorem dX7_saveSnapshot_0 : decode cX7_saveSnapshot 0 = .ok (.aload_n 0, 1) := dk_42 (dk_at dksX7_saveSnapshot_0 0 rfl rfl)
theorem dX7_saveSnapshot_1 : decode cX7_saveSnapshot 1 = .ok (.iconst 0, 1) := dk_3 (dk_at dksX7_saveSnapshot_0 1 rfl rfl)
theorem dX7_saveSnapshot_2 : decode cX7_saveSnapshot 2 = .ok (.putfield 36, 3) := dk_181 0 36 (dk_at dksX7_saveSnapshot_0 2 rfl rfl)
theorem dX7_saveSnapshot_5 : decode cX7_saveSnapshot 5 = .ok (.aload_n 0, 1) := dk_42 (dk_at dksX7_saveSnapshot_0 5 rfl rfl)
theorem dX7_saveSnapshot_6 : decode cX7_saveSnapshot 6 = .ok (.getfield 9, 3) := dk_180 0 9 (dk_at dksX7_saveSnapshot_0 6 rfl rfl)
theorem dX7_saveSnapshot_9 : decode cX7_saveSnapshot 9 = .ok (.iconst 0, 1) := dk_3 (dk_at dksX7_saveSnapshot_0 9 rfl rfl)
theorem dX7_saveSnapshot_10 : decode cX7_saveSnapshot 10 = .ok (.aload_n 0, 1) := dk_42 (dk_at dksX7_saveSnapshot_0 10 rfl rfl)
theorem dX7_saveSnapshot_11 : decode cX7_saveSnapshot 11 = .ok (.getfield 19, 3) := dk_180 0 19 (dk_at dksX7_saveSnapshot_0 11 rfl rfl)
theorem dX7_saveSnapshot_14 : decode cX7_saveSnapshot 14 = .ok (.iconst 0, 1) := dk_3 (dk_at dksX7_saveSnapshot_0 14 rfl rfl)
theorem dX7_saveSnapshot_15 : decode cX7_saveSnapshot 15 = .ok (.sipush 156, 3) := dk_17 0 156 (dk_at dksX7_saveSnapshot_0 15 rfl rfl)
theorem dX7_saveSnapshot_18 : decode cX7_saveSnapshot 18 = .ok (.invokestatic 39, 3) := dk_184 0 39 (dk_at dksX7_saveSnapshot_0 18 rfl rfl)
theorem dX7_saveSnapshot_21 : decode cX7_saveSnapshot 21 = .ok (.aload_n 0, 1) := dk_42 (dk_at dksX7_saveSnapshot_0 21 rfl rfl)
theorem dX7_saveSnapshot_22 : decode cX7_saveSnapshot 22 = .ok (.iconst 1, 1) := dk_4 (dk_at dksX7_saveSnapshot_0 22 rfl rfl)
theorem dX7_saveSnapshot_23 : decode cX7_saveSnapshot 23 = .ok (.putfield 230, 3) := dk_181 0 230 (dk_at dksX7_saveSnapshot_1 0 rfl rfl)
theorem dX7_saveSnapshot_26 : decode cX7_saveSnapshot 26 = .ok (.aload_n 0, 1) := dk_42 (dk_at dksX7_saveSnapshot_1 3 rfl rfl)
theorem dX7_saveSnapshot_27 : decode cX7_saveSnapshot 27 = .ok (.getfield 9, 3) := dk_180 0 9 (dk_at dksX7_saveSnapshot_1 4 rfl rfl)
theorem dX7_saveSnapshot_30 : decode cX7_saveSnapshot 30 = .ok (.iconst 0, 1) := dk_3 (dk_at dksX7_saveSnapshot_1 7 rfl rfl)
theorem dX7_saveSnapshot_31 : decode cX7_saveSnapshot 31 = .ok (.iaload, 1) := dk_46 (dk_at dksX7_saveSnapshot_1 8 rfl rfl)
theorem dX7_saveSnapshot_32 : decode cX7_saveSnapshot 32 = .ok (.ireturn, 1) := dk_172 (dk_at dksX7_saveSnapshot_1 9 rfl rfl)
def dkwX7_restoreSnapshot_2 : List UInt8 := [180, 0, 9, 3, 46, 172]
abbrev dktX7_restoreSnapshot_2 : List UInt8 := dkwX7_restoreSnapshot_2 ++ []
def dkwX7_restoreSnapshot_1 : List UInt8 := [172, 42, 180, 0, 19, 3, 42, 180, 0, 9, 3, 17, 0, 156, 184, 0, 39, 42, 3, 181, 0, 45, 42]
abbrev dktX7_restoreSnapshot_1 : List UInt8 := dkwX7_restoreSnapshot_1 ++ dktX7_restoreSnapshot_2
def dkwX7_restoreSnapshot_0 : List UInt8 := [42, 42, 180, 0, 230, 153, 0, 7, 3, 167, 0, 4, 4, 181, 0, 36, 42, 180, 0, 36, 158, 0, 5, 3]
abbrev dktX7_restoreSnapshot_0 : List UInt8 := dkwX7_restoreSnapshot_0 ++ dktX7_restoreSnapshot_1
theorem dksX7_restoreSnapshot_0 : cX7_restoreSnapshot.data.toList.drop 0 = dktX7_restoreSnapshot_0 := by decide +kernel
theorem dksX7_restoreSnapshot_1 : cX7_restoreSnapshot.data.toList.drop 24 = dktX7_restoreSnapshot_1 := dk_seg dksX7_restoreSnapshot_0 24 rfl rfl
theorem dksX7_restoreSnapshot_2 : cX7_restoreSnapshot.data.toList.drop 47 = dktX7_restoreSnapshot_2 := dk_seg dksX7_restoreSnapshot_1 23 rfl rfl
theorem dX7_restoreSnapshot_0 : decode cX7_restoreSnapshot 0 = .ok (.aload_n 0, 1) := dk_42 (dk_at dksX7_restoreSnapshot_0 0 rfl rfl)
theorem dX7_restoreSnapshot_1 : decode cX7_restoreSnapshot 1 = .ok (.aload_n 0, 1) := dk_42 (dk_at dksX7_restoreSnapshot_0 1 rfl rfl)
theorem dX7_restoreSnapshot_2 : decode cX7_restoreSnapshot 2 = .ok (.getfield 230, 3) := dk_180 0 230 (dk_at dksX7_restoreSnapshot_0 2 rfl rfl)
theorem dX7_restoreSnapshot_5 : decode cX7_restoreSnapshot 5 = .ok (.ifCond .eq 7, 3) := dk_153 0 7 (dk_at dksX7_restoreSnapshot_0 5 rfl rfl)
theorem dX7_restoreSnapshot_8 : decode cX7_restoreSnapshot 8 = .ok (.iconst 0, 1) := dk_3 (dk_at dksX7_restoreSnapshot_0 8 rfl rfl)
theorem dX7_restoreSnapshot_9 : decode cX7_restoreSnapshot 9 = .ok (.goto 4, 3) := dk_167 0 4 (dk_at dksX7_restoreSnapshot_0 9 rfl rfl)
theorem dX7_restoreSnapshot_12 : decode cX7_restoreSnapshot 12 = .ok (.iconst 1, 1) := dk_4 (dk_at dksX7_restoreSnapshot_0 12 rfl rfl)
theorem dX7_restoreSnapshot_13 : decode cX7_restoreSnapshot 13 = .ok (.putfield 36, 3) := dk_181 0 36 (dk_at dksX7_restoreSnapshot_0 13 rfl rfl)
theorem dX7_restoreSnapshot_16 : decode cX7_restoreSnapshot 16 = .ok (.aload_n 0, 1) := dk_42 (dk_at dksX7_restoreSnapshot_0 16 rfl rfl)
theorem dX7_restoreSnapshot_17 : decode cX7_restoreSnapshot 17 = .ok (.getfield 36, 3) := dk_180 0 36 (dk_at dksX7_restoreSnapshot_0 17 rfl rfl)
theorem dX7_restoreSnapshot_20 : decode cX7_restoreSnapshot 20 = .ok (.ifCond .le 5, 3) := dk_158 0 5 (dk_at dksX7_restoreSnapshot_0 20 rfl rfl)
theorem dX7_restoreSnapshot_23 : decode cX7_restoreSnapshot 23 = .ok (.iconst 0, 1) := dk_3 (dk_at dksX7_restoreSnapshot_0 23 rfl rfl)
theorem dX7_restoreSnapshot_24 : decode cX7_restoreSnapshot 24 = .ok (.ireturn, 1) := dk_172 (dk_at dksX7_restoreSnapshot_1 0 rfl rfl)
theorem dX7_restoreSnapshot_25 : decode cX7_restoreSnapshot 25 = .ok (.aload_n 0, 1) := dk_42 (dk_at dksX7_restoreSnapshot_1 1 rfl rfl)
theorem dX7_restoreSnapshot_26 : decode cX7_restoreSnapshot 26 = .ok (.getfield 19, 3) := dk_180 0 19 (dk_at dksX7_restoreSnapshot_1 2 rfl rfl)
theorem dX7_restoreSnapshot_29 : decode cX7_restoreSnapshot 29 = .ok (.iconst 0, 1) := dk_3 (dk_at dksX7_restoreSnapshot_1 5 rfl rfl)
theorem dX7_restoreSnapshot_30 : decode cX7_restoreSnapshot 30 = .ok (.aload_n 0, 1) := dk_42 (dk_at dksX7_restoreSnapshot_1 6 rfl rfl)
theorem dX7_restoreSnapshot_31 : decode cX7_restoreSnapshot 31 = .ok (.getfield 9, 3) := dk_180 0 9 (dk_at dksX7_restoreSnapshot_1 7 rfl rfl)
theorem dX7_restoreSnapshot_34 : decode cX7_restoreSnapshot 34 = .ok (.iconst 0, 1) := dk_3 (dk_at dksX7_restoreSnapshot_1 10 rfl rfl)
theorem dX7_restoreSnapshot_35 : decode cX7_restoreSnapshot 35 = .ok (.sipush 156, 3) := dk_17 0 156 (dk_at dksX7_restoreSnapshot_1 11 rfl rfl)
theorem dX7_restoreSnapshot_38 : decode cX7_restoreSnapshot 38 = .ok (.invokestatic 39, 3) := dk_184 0 39 (dk_at dksX7_restoreSnapshot_1 14 rfl rfl)
theorem dX7_restoreSnapshot_41 : decode cX7_restoreSnapshot 41 = .ok (.aload_n 0, 1) := dk_42 (dk_at dksX7_restoreSnapshot_1 17 rfl rfl)
theorem dX7_restoreSnapshot_42 : decode cX7_restoreSnapshot 42 = .ok (.iconst 0, 1) := dk_3 (dk_at dksX7_restoreSnapshot_1 18 rfl rfl)
theorem dX7_restoreSnapshot_43 : decode cX7_restoreSnapshot 43 = .ok (.putfield 45, 3) := dk_181 0 45 (dk_at dksX7_restoreSnapshot_1 19 rfl rfl)
theorem dX7_restoreSnapshot_46 : decode cX7_restoreSnapshot 46 = .ok (.aload_n 0, 1) := dk_42 (dk_at dksX7_restoreSnapshot_1 22 rfl rfl)
theorem dX7_restoreSnapshot_47 : decode cX7_restoreSnapshot 47 = .ok (.getfield 9, 3) := dk_180 0 9 (dk_at dksX7_restoreSnapshot_2 0 rfl rfl)
theorem dX7_restoreSnapshot_50 : decode cX7_restoreSnapshot 50 = .ok (.iconst 0, 1) := dk_3 (dk_at dksX7_restoreSnapshot_2 3 rfl rfl)
theorem dX7_restoreSnapshot_51 : decode cX7_restoreSnapshot 51 = .ok (.iaload, 1) := dk_46 (dk_at dksX7_restoreSnapshot_2 4 rfl rfl)
theorem dX7_restoreSnapshot_52 : decode cX7_restoreSnapshot 52 = .ok (.ireturn, 1) := dk_172 (dk_at dksX7_restoreSnapshot_2 5 rfl rfl)
