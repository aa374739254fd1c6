set_option maxRecDepth 100000
def dkwX0_pool_1 : List UInt8 := [172]
abbrev dktX0_pool_1 : List UInt8 := dkwX0_pool_1 ++ []
def dkwX0_pool_0 : List UInt8 := [25, 4, 3, 42, 27, 28, 29, 182, 0, 7, 133, 80, 167, 0, 11, 58, 5, 4, 172, 58, 5, 5, 172, 3]
abbrev dktX0_pool_0 : List UInt8 := dkwX0_pool_0 ++ dktX0_pool_1
theorem dksX0_pool_0 : cX0_pool.data.toList.drop 0 = dktX0_pool_0 := by decide +kernel
theorem dksX0_pool_1 : cX0_pool.data.toList.drop 24 = dktX0_pool_1 := dk_seg dksX0_pool_0 24 rfl rfl
theorem dX0_pool_0 : decode cX0_pool 0 = .ok (.aload 4, 2) := dk_25 4 (dk_at dksX0_pool_0 0 rfl rfl)
theorem dX0_pool_2 : decode cX0_pool 2 = .ok (.iconst 0, 1) := dk_3 (dk_at dksX0_pool_0 2 rfl rfl)
theorem dX0_pool_3 : decode cX0_pool 3 = .ok (.aload_n 0, 1) := dk_42 (dk_at dksX0_pool_0 3 rfl rfl)
theorem dX0_pool_4 : decode cX0_pool 4 = .ok (.iload_n 1, 1) := dk_27 (dk_at dksX0_pool_0 4 rfl rfl)
theorem dX0_pool_5 : decode cX0_pool 5 = .ok (.iload_n 2, 1) := dk_28 (dk_at dksX0_pool_0 5 rfl rfl)
theorem dX0_pool_6 : decode cX0_pool 6 = .ok (.iload_n 3, 1) := dk_29 (dk_at dksX0_pool_0 6 rfl rfl)
theorem dX0_pool_7 : decode cX0_pool 7 = .ok (.invokevirtual 7, 3) := dk_182 0 7 (dk_at dksX0_pool_0 7 rfl rfl)
theorem dX0_pool_10 : decode cX0_pool 10 = .ok (.i2l, 1) := dk_133 (dk_at dksX0_pool_0 10 rfl rfl)
theorem dX0_pool_11 : decode cX0_pool 11 = .ok (.lastore, 1) := dk_80 (dk_at dksX0_pool_0 11 rfl rfl)
theorem dX0_pool_12 : decode cX0_pool 12 = .ok (.goto 11, 3) := dk_167 0 11 (dk_at dksX0_pool_0 12 rfl rfl)
theorem dX0_pool_15 : decode cX0_pool 15 = .ok (.astore 5, 2) := dk_58 5 (dk_at dksX0_pool_0 15 rfl rfl)
theorem dX0_pool_17 : decode cX0_pool 17 = .ok (.iconst 1, 1) := dk_4 (dk_at dksX0_pool_0 17 rfl rfl)
theorem dX0_pool_18 : decode cX0_pool 18 = .ok (.ireturn, 1) := dk_172 (dk_at dksX0_pool_0 18 rfl rfl)
theorem dX0_pool_19 : decode cX0_pool 19 = .ok (.astore 5, 2) := dk_58 5 (dk_at dksX0_pool_0 19 rfl rfl)
theorem dX0_pool_21 : decode cX0_pool 21 = .ok (.iconst 2, 1) := dk_5 (dk_at dksX0_pool_0 21 rfl rfl)
theorem dX0_pool_22 : decode cX0_pool 22 = .ok (.ireturn, 1) := dk_172 (dk_at dksX0_pool_0 22 rfl rfl)
theorem dX0_pool_23 : decode cX0_pool 23 = .ok (.iconst 0, 1) := dk_3 (dk_at dksX0_pool_0 23 rfl rfl)
theorem dX0_pool_24 : decode cX0_pool 24 = .ok (.ireturn, 1) := dk_172 (dk_at dksX0_pool_1 0 rfl rfl)
def dkwX0_boards_1 : List UInt8 := [172, 3, 172]
abbrev dktX0_boards_1 : List UInt8 := dkwX0_boards_1 ++ []
def dkwX0_boards_0 : List UInt8 := [45, 3, 42, 27, 28, 182, 0, 17, 133, 80, 167, 0, 15, 58, 4, 4, 172, 58, 4, 5, 172, 58, 4, 6]
abbrev dktX0_boards_0 : List UInt8 := dkwX0_boards_0 ++ dktX0_boards_1
theorem dksX0_boards_0 : cX0_boards.data.toList.drop 0 = dktX0_boards_0 := by decide +kernel
theorem dksX0_boards_1 : cX0_boards.data.toList.drop 24 = dktX0_boards_1 := dk_seg dksX0_boards_0 24 rfl rfl
theorem dX0_boards_0 : decode cX0_boards 0 = .ok (.aload_n 3, 1) := dk_45 (dk_at dksX0_boards_0 0 rfl rfl)
theorem dX0_boards_1 : decode cX0_boards 1 = .ok (.iconst 0, 1) := dk_3 (dk_at dksX0_boards_0 1 rfl rfl)
theorem dX0_boards_2 : decode cX0_boards 2 = .ok (.aload_n 0, 1) := dk_42 (dk_at dksX0_boards_0 2 rfl rfl)
theorem dX0_boards_3 : decode cX0_boards 3 = .ok (.iload_n 1, 1) := dk_27 (dk_at dksX0_boards_0 3 rfl rfl)
theorem dX0_boards_4 : decode cX0_boards 4 = .ok (.iload_n 2, 1) := dk_28 (dk_at dksX0_boards_0 4 rfl rfl)
theorem dX0_boards_5 : decode cX0_boards 5 = .ok (.invokevirtual 17, 3) := dk_182 0 17 (dk_at dksX0_boards_0 5 rfl rfl)
theorem dX0_boards_8 : decode cX0_boards 8 = .ok (.i2l, 1) := dk_133 (dk_at dksX0_boards_0 8 rfl rfl)
theorem dX0_boards_9 : decode cX0_boards 9 = .ok (.lastore, 1) := dk_80 (dk_at dksX0_boards_0 9 rfl rfl)
theorem dX0_boards_10 : decode cX0_boards 10 = .ok (.goto 15, 3) := dk_167 0 15 (dk_at dksX0_boards_0 10 rfl rfl)
theorem dX0_boards_13 : decode cX0_boards 13 = .ok (.astore 4, 2) := dk_58 4 (dk_at dksX0_boards_0 13 rfl rfl)
theorem dX0_boards_15 : decode cX0_boards 15 = .ok (.iconst 1, 1) := dk_4 (dk_at dksX0_boards_0 15 rfl rfl)
theorem dX0_boards_16 : decode cX0_boards 16 = .ok (.ireturn, 1) := dk_172 (dk_at dksX0_boards_0 16 rfl rfl)
theorem dX0_boards_17 : decode cX0_boards 17 = .ok (.astore 4, 2) := dk_58 4 (dk_at dksX0_boards_0 17 rfl rfl)
theorem dX0_boards_19 : decode cX0_boards 19 = .ok (.iconst 2, 1) := dk_5 (dk_at dksX0_boards_0 19 rfl rfl)
theorem dX0_boards_20 : decode cX0_boards 20 = .ok (.ireturn, 1) := dk_172 (dk_at dksX0_boards_0 20 rfl rfl)
theorem dX0_boards_21 : decode cX0_boards 21 = .ok (.astore 4, 2) := dk_58 4 (dk_at dksX0_boards_0 21 rfl rfl)
theorem dX0_boards_23 : decode cX0_boards 23 = .ok (.iconst 3, 1) := dk_6 (dk_at dksX0_boards_0 23 rfl rfl)
theorem dX0_boards_24 : decode cX0_boards 24 = .ok (.ireturn, 1) := dk_172 (dk_at dksX0_boards_1 0 rfl rfl)
theorem dX0_boards_25 : decode cX0_boards 25 = .ok (.iconst 0, 1) := dk_3 (dk_at dksX0_boards_1 1 rfl rfl)
theorem dX0_boards_26 : decode cX0_boards 26 = .ok (.ireturn, 1) := dk_172 (dk_at dksX0_boards_1 2 rfl rfl)
def dkwX0_weir_1 : List UInt8 := [3, 172]
abbrev dktX0_weir_1 : List UInt8 := dkwX0_weir_1 ++ []
def dkwX0_weir_0 : List UInt8 := [45, 3, 42, 27, 28, 182, 0, 23, 153, 0, 7, 10, 167, 0, 4, 9, 80, 167, 0, 7, 58, 4, 4, 172]
abbrev dktX0_weir_0 : List UInt8 := dkwX0_weir_0 ++ dktX0_weir_1
theorem dksX0_weir_0 : cX0_weir.data.toList.drop 0 = dktX0_weir_0 := by decide +kernel
theorem dksX0_weir_1 : cX0_weir.data.toList.drop 24 = dktX0_weir_1 := dk_seg dksX0_weir_0 24 rfl rfl
theorem dX0_weir_0 : decode cX0_weir 0 = .ok (.aload_n 3, 1) := dk_45 (dk_at dksX0_weir_0 0 rfl rfl)
theorem dX0_weir_1 : decode cX0_weir 1 = .ok (.iconst 0, 1) := dk_3 (dk_at dksX0_weir_0 1 rfl rfl)
theorem dX0_weir_2 : decode cX0_weir 2 = .ok (.aload_n 0, 1) := dk_42 (dk_at dksX0_weir_0 2 rfl rfl)
theorem dX0_weir_3 : decode cX0_weir 3 = .ok (.iload_n 1, 1) := dk_27 (dk_at dksX0_weir_0 3 rfl rfl)
theorem dX0_weir_4 : decode cX0_weir 4 = .ok (.iload_n 2, 1) := dk_28 (dk_at dksX0_weir_0 4 rfl rfl)
theorem dX0_weir_5 : decode cX0_weir 5 = .ok (.invokevirtual 23, 3) := dk_182 0 23 (dk_at dksX0_weir_0 5 rfl rfl)
theorem dX0_weir_8 : decode cX0_weir 8 = .ok (.ifCond .eq 7, 3) := dk_153 0 7 (dk_at dksX0_weir_0 8 rfl rfl)
theorem dX0_weir_11 : decode cX0_weir 11 = .ok (.lconst 1, 1) := dk_10 (dk_at dksX0_weir_0 11 rfl rfl)
theorem dX0_weir_12 : decode cX0_weir 12 = .ok (.goto 4, 3) := dk_167 0 4 (dk_at dksX0_weir_0 12 rfl rfl)
theorem dX0_weir_15 : decode cX0_weir 15 = .ok (.lconst 0, 1) := dk_9 (dk_at dksX0_weir_0 15 rfl rfl)
theorem dX0_weir_16 : decode cX0_weir 16 = .ok (.lastore, 1) := dk_80 (dk_at dksX0_weir_0 16 rfl rfl)
theorem dX0_weir_17 : decode cX0_weir 17 = .ok (.goto 7, 3) := dk_167 0 7 (dk_at dksX0_weir_0 17 rfl rfl)
theorem dX0_weir_20 : decode cX0_weir 20 = .ok (.astore 4, 2) := dk_58 4 (dk_at dksX0_weir_0 20 rfl rfl)
theorem dX0_weir_22 : decode cX0_weir 22 = .ok (.iconst 1, 1) := dk_4 (dk_at dksX0_weir_0 22 rfl rfl)
theorem dX0_weir_23 : decode cX0_weir 23 = .ok (.ireturn, 1) := dk_172 (dk_at dksX0_weir_0 23 rfl rfl)
theorem dX0_weir_24 : decode cX0_weir 24 = .ok (.iconst 0, 1) := dk_3 (dk_at dksX0_weir_1 0 rfl rfl)
theorem dX0_weir_25 : decode cX0_weir 25 = .ok (.ireturn, 1) := dk_172 (dk_at dksX0_weir_1 1 rfl rfl)
def dkwX0_latch_1 : List UInt8 := [4, 172, 3, 172]
abbrev dktX0_latch_1 : List UInt8 := dkwX0_latch_1 ++ []
def dkwX0_latch_0 : List UInt8 := [25, 4, 3, 42, 27, 28, 29, 182, 0, 27, 153, 0, 7, 10, 167, 0, 4, 9, 80, 167, 0, 7, 58, 5]
abbrev dktX0_latch_0 : List UInt8 := dkwX0_latch_0 ++ dktX0_latch_1
theorem dksX0_latch_0 : cX0_latch.data.toList.drop 0 = dktX0_latch_0 := by decide +kernel
theorem dksX0_latch_1 : cX0_latch.data.toList.drop 24 = dktX0_latch_1 := dk_seg dksX0_latch_0 24 rfl rfl
theorem dX0_latch_0 : decode cX0_latch 0 = .ok (.aload 4, 2) := dk_25 4 (dk_at dksX0_latch_0 0 rfl rfl)
theorem dX0_latch_2 : decode cX0_latch 2 = .ok (.iconst 0, 1) := dk_3 (dk_at dksX0_latch_0 2 rfl rfl)
theorem dX0_latch_3 : decode cX0_latch 3 = .ok (.aload_n 0, 1) := dk_42 (dk_at dksX0_latch_0 3 rfl rfl)
theorem dX0_latch_4 : decode cX0_latch 4 = .ok (.iload_n 1, 1) := dk_27 (dk_at dksX0_latch_0 4 rfl rfl)
theorem dX0_latch_5 : decode cX0_latch 5 = .ok (.iload_n 2, 1) := dk_28 (dk_at dksX0_latch_0 5 rfl rfl)
theorem dX0_latch_6 : decode cX0_latch 6 = .ok (.iload_n 3, 1) := dk_29 (dk_at dksX0_latch_0 6 rfl rfl)
theorem dX0_latch_7 : decode cX0_latch 7 = .ok (.invokevirtual 27, 3) := dk_182 0 27 (dk_at dksX0_latch_0 7 rfl rfl)
theorem dX0_latch_10 : decode cX0_latch 10 = .ok (.ifCond .eq 7, 3) := dk_153 0 7 (dk_at dksX0_latch_0 10 rfl rfl)
theorem dX0_latch_13 : decode cX0_latch 13 = .ok (.lconst 1, 1) := dk_10 (dk_at dksX0_latch_0 13 rfl rfl)
theorem dX0_latch_14 : decode cX0_latch 14 = .ok (.goto 4, 3) := dk_167 0 4 (dk_at dksX0_latch_0 14 rfl rfl)
theorem dX0_latch_17 : decode cX0_latch 17 = .ok (.lconst 0, 1) := dk_9 (dk_at dksX0_latch_0 17 rfl rfl)
theorem dX0_latch_18 : decode cX0_latch 18 = .ok (.lastore, 1) := dk_80 (dk_at dksX0_latch_0 18 rfl rfl)
theorem dX0_latch_19 : decode cX0_latch 19 = .ok (.goto 7, 3) := dk_167 0 7 (dk_at dksX0_latch_0 19 rfl rfl)
theorem dX0_latch_22 : decode cX0_latch 22 = .ok (.astore 5, 2) := dk_58 5 (dk_at dksX0_latch_0 22 rfl rfl)
theorem dX0_latch_24 : decode cX0_latch 24 = .ok (.iconst 1, 1) := dk_4 (dk_at dksX0_latch_1 0 rfl rfl)
theorem dX0_latch_25 : decode cX0_latch 25 = .ok (.ireturn, 1) := dk_172 (dk_at dksX0_latch_1 1 rfl rfl)
theorem dX0_latch_26 : decode cX0_latch 26 = .ok (.iconst 0, 1) := dk_3 (dk_at dksX0_latch_1 2 rfl rfl)
theorem dX0_latch_27 : decode cX0_latch 27 = .ok (.ireturn, 1) := dk_172 (dk_at dksX0_latch_1 3 rfl rfl)
def dkwX0_frogs_0 : List UInt8 := [45, 3, 42, 27, 28, 182, 0, 31, 133, 80, 167, 0, 11, 58, 4, 4, 172, 58, 4, 5, 172, 3, 172]
abbrev dktX0_frogs_0 : List UInt8 := dkwX0_frogs_0 ++ []
theorem dksX0_frogs_0 : cX0_frogs.data.toList.drop 0 = dktX0_frogs_0 := by decide +kernel
theorem dX0_frogs_0 : decode cX0_frogs 0 = .ok (.aload_n 3, 1) := dk_45 (dk_at dksX0_frogs_0 0 rfl rfl)
theorem dX0_frogs_1 : decode cX0_frogs 1 = .ok (.iconst 0, 1) := dk_3 (dk_at dksX0_frogs_0 1 rfl rfl)
theorem dX0_frogs_2 : decode cX0_frogs 2 = .ok (.aload_n 0, 1) := dk_42 (dk_at dksX0_frogs_0 2 rfl rfl)
theorem dX0_frogs_3 : decode cX0_frogs 3 = .ok (.iload_n 1, 1) := dk_27 (dk_at dksX0_frogs_0 3 rfl rfl)
theorem dX0_frogs_4 : decode cX0_frogs 4 = .ok (.iload_n 2, 1) := dk_28 (dk_at dksX0_frogs_0 4 rfl rfl)
theorem dX0_frogs_5 : decode cX0_frogs 5 = .ok (.invokevirtual 31, 3) := dk_182 0 31 (dk_at dksX0_frogs_0 5 rfl rfl)
theorem dX0_frogs_8 : decode cX0_frogs 8 = .ok (.i2l, 1) := dk_133 (dk_at dksX0_frogs_0 8 rfl rfl)
theorem dX0_frogs_9 : decode cX0_frogs 9 = .ok (.lastore, 1) := dk_80 (dk_at dksX0_frogs_0 9 rfl rfl)
theorem dX0_frogs_10 : decode cX0_frogs 10 = .ok (.goto 11, 3) := dk_167 0 11 (dk_at dksX0_frogs_0 10 rfl rfl)
theorem dX0_frogs_13 : decode cX0_frogs 13 = .ok (.astore 4, 2) := dk_58 4 (dk_at dksX0_frogs_0 13 rfl rfl)
theorem dX0_frogs_15 : decode cX0_frogs 15 = .ok (.iconst 1, 1) := dk_4 (dk_at dksX0_frogs_0 15 rfl rfl)
theorem dX0_frogs_16 : decode cX0_frogs 16 = .ok (.ireturn, 1) := dk_172 (dk_at dksX0_frogs_0 16 rfl rfl)
theorem dX0_frogs_17 : decode cX0_frogs 17 = .ok (.astore 4, 2) := dk_58 4 (dk_at dksX0_frogs_0 17 rfl rfl)
theorem dX0_frogs_19 : decode cX0_frogs 19 = .ok (.iconst 2, 1) := dk_5 (dk_at dksX0_frogs_0 19 rfl rfl)
theorem dX0_frogs_20 : decode cX0_frogs 20 = .ok (.ireturn, 1) := dk_172 (dk_at dksX0_frogs_0 20 rfl rfl)
theorem dX0_frogs_21 : decode cX0_frogs 21 = .ok (.iconst 0, 1) := dk_3 (dk_at dksX0_frogs_0 21 rfl rfl)
theorem dX0_frogs_22 : decode cX0_frogs 22 = .ok (.ireturn, 1) := dk_172 (dk_at dksX0_frogs_0 22 rfl rfl)
def dkwX0_lay_1 : List UInt8 := [172, 3, 172]
abbrev dktX0_lay_1 : List UInt8 := dkwX0_lay_1 ++ []
def dkwX0_lay_0 : List UInt8 := [45, 3, 42, 27, 28, 182, 0, 34, 133, 80, 167, 0, 15, 58, 4, 4, 172, 58, 4, 5, 172, 58, 4, 6]
abbrev dktX0_lay_0 : List UInt8 := dkwX0_lay_0 ++ dktX0_lay_1
theorem dksX0_lay_0 : cX0_lay.data.toList.drop 0 = dktX0_lay_0 := by decide +kernel
theorem dksX0_lay_1 : cX0_lay.data.toList.drop 24 = dktX0_lay_1 := dk_seg dksX0_lay_0 24 rfl rfl
theorem dX0_lay_0 : decode cX0_lay 0 = .ok (.aload_n 3, 1) := dk_45 (dk_at dksX0_lay_0 0 rfl rfl)
theorem dX0_lay_1 : decode cX0_lay 1 = .ok (.iconst 0, 1) := dk_3 (dk_at dksX0_lay_0 1 rfl rfl)
theorem dX0_lay_2 : decode cX0_lay 2 = .ok (.aload_n 0, 1) := dk_42 (dk_at dksX0_lay_0 2 rfl rfl)
theorem dX0_lay_3 : decode cX0_lay 3 = .ok (.iload_n 1, 1) := dk_27 (dk_at dksX0_lay_0 3 rfl rfl)
theorem dX0_lay_4 : decode cX0_lay 4 = .ok (.iload_n 2, 1) := dk_28 (dk_at dksX0_lay_0 4 rfl rfl)
theorem dX0_lay_5 : decode cX0_lay 5 = .ok (.invokevirtual 34, 3) := dk_182 0 34 (dk_at dksX0_lay_0 5 rfl rfl)
theorem dX0_lay_8 : decode cX0_lay 8 = .ok (.i2l, 1) := dk_133 (dk_at dksX0_lay_0 8 rfl rfl)
theorem dX0_lay_9 : decode cX0_lay 9 = .ok (.lastore, 1) := dk_80 (dk_at dksX0_lay_0 9 rfl rfl)
theorem dX0_lay_10 : decode cX0_lay 10 = .ok (.goto 15, 3) := dk_167 0 15 (dk_at dksX0_lay_0 10 rfl rfl)
theorem dX0_lay_13 : decode cX0_lay 13 = .ok (.astore 4, 2) := dk_58 4 (dk_at dksX0_lay_0 13 rfl rfl)
theorem dX0_lay_15 : decode cX0_lay 15 = .ok (.iconst 1, 1) := dk_4 (dk_at dksX0_lay_0 15 rfl rfl)
theorem dX0_lay_16 : decode cX0_lay 16 = .ok (.ireturn, 1) := dk_172 (dk_at dksX0_lay_0 16 rfl rfl)
theorem dX0_lay_17 : decode cX0_lay 17 = .ok (.astore 4, 2) := dk_58 4 (dk_at dksX0_lay_0 17 rfl rfl)
theorem dX0_lay_19 : decode cX0_lay 19 = .ok (.iconst 2, 1) := dk_5 (dk_at dksX0_lay_0 19 rfl rfl)
theorem dX0_lay_20 : decode cX0_lay 20 = .ok (.ireturn, 1) := dk_172 (dk_at dksX0_lay_0 20 rfl rfl)
theorem dX0_lay_21 : decode cX0_lay 21 = .ok (.astore 4, 2) := dk_58 4 (dk_at dksX0_lay_0 21 rfl rfl)
theorem dX0_lay_23 : decode cX0_lay 23 = .ok (.iconst 3, 1) := dk_6 (dk_at dksX0_lay_0 23 rfl rfl)
theorem dX0_lay_24 : decode cX0_lay 24 = .ok (.ireturn, 1) := dk_172 (dk_at dksX0_lay_1 0 rfl rfl)
theorem dX0_lay_25 : decode cX0_lay 25 = .ok (.iconst 0, 1) := dk_3 (dk_at dksX0_lay_1 1 rfl rfl)
theorem dX0_lay_26 : decode cX0_lay 26 = .ok (.ireturn, 1) := dk_172 (dk_at dksX0_lay_1 2 rfl rfl)
def dkwX0_of_0 : List UInt8 := [45, 3, 42, 27, 28, 182, 0, 37, 133, 80, 167, 0, 11, 58, 4, 4, 172, 58, 4, 5, 172, 3, 172]
abbrev dktX0_of_0 : List UInt8 := dkwX0_of_0 ++ []
theorem dksX0_of_0 : cX0_of.data.toList.drop 0 = dktX0_of_0 := by decide +kernel
theorem dX0_of_0 : decode cX0_of 0 = .ok (.aload_n 3, 1) := dk_45 (dk_at dksX0_of_0 0 rfl rfl)
theorem dX0_of_1 : decode cX0_of 1 = .ok (.iconst 0, 1) := dk_3 (dk_at dksX0_of_0 1 rfl rfl)
theorem dX0_of_2 : decode cX0_of 2 = .ok (.aload_n 0, 1) := dk_42 (dk_at dksX0_of_0 2 rfl rfl)
theorem dX0_of_3 : decode cX0_of 3 = .ok (.iload_n 1, 1) := dk_27 (dk_at dksX0_of_0 3 rfl rfl)
theorem dX0_of_4 : decode cX0_of 4 = .ok (.iload_n 2, 1) := dk_28 (dk_at dksX0_of_0 4 rfl rfl)
theorem dX0_of_5 : decode cX0_of 5 = .ok (.invokevirtual 37, 3) := dk_182 0 37 (dk_at dksX0_of_0 5 rfl rfl)
theorem dX0_of_8 : decode cX0_of 8 = .ok (.i2l, 1) := dk_133 (dk_at dksX0_of_0 8 rfl rfl)
theorem dX0_of_9 : decode cX0_of 9 = .ok (.lastore, 1) := dk_80 (dk_at dksX0_of_0 9 rfl rfl)
theorem dX0_of_10 : decode cX0_of 10 = .ok (.goto 11, 3) := dk_167 0 11 (dk_at dksX0_of_0 10 rfl rfl)
theorem dX0_of_13 : decode cX0_of 13 = .ok (.astore 4, 2) := dk_58 4 (dk_at dksX0_of_0 13 rfl rfl)
theorem dX0_of_15 : decode cX0_of 15 = .ok (.iconst 1, 1) := dk_4 (dk_at dksX0_of_0 15 rfl rfl)
theorem dX0_of_16 : decode cX0_of 16 = .ok (.ireturn, 1) := dk_172 (dk_at dksX0_of_0 16 rfl rfl)
theorem dX0_of_17 : decode cX0_of 17 = .ok (.astore 4, 2) := dk_58 4 (dk_at dksX0_of_0 17 rfl rfl)
theorem dX0_of_19 : decode cX0_of 19 = .ok (.iconst 2, 1) := dk_5 (dk_at dksX0_of_0 19 rfl rfl)
theorem dX0_of_20 : decode cX0_of 20 = .ok (.ireturn, 1) := dk_172 (dk_at dksX0_of_0 20 rfl rfl)
theorem dX0_of_21 : decode cX0_of 21 = .ok (.iconst 0, 1) := dk_3 (dk_at dksX0_of_0 21 rfl rfl)
theorem dX0_of_22 : decode cX0_of 22 = .ok (.ireturn, 1) := dk_172 (dk_at dksX0_of_0 22 rfl rfl)
def dkwX0_is_1 : List UInt8 := [58, 4, 5, 172, 3, 172]
abbrev dktX0_is_1 : List UInt8 := dkwX0_is_1 ++ []
def dkwX0_is_0 : List UInt8 := [45, 3, 42, 27, 28, 182, 0, 40, 153, 0, 7, 10, 167, 0, 4, 9, 80, 167, 0, 11, 58, 4, 4, 172]
abbrev dktX0_is_0 : List UInt8 := dkwX0_is_0 ++ dktX0_is_1
theorem dksX0_is_0 : cX0_is.data.toList.drop 0 = dktX0_is_0 := by decide +kernel
theorem dksX0_is_1 : cX0_is.data.toList.drop 24 = dktX0_is_1 := dk_seg dksX0_is_0 24 rfl rfl
theorem dX0_is_0 : decode cX0_is 0 = .ok (.aload_n 3, 1) := dk_45 (dk_at dksX0_is_0 0 rfl rfl)
theorem dX0_is_1 : decode cX0_is 1 = .ok (.iconst 0, 1) := dk_3 (dk_at dksX0_is_0 1 rfl rfl)
theorem dX0_is_2 : decode cX0_is 2 = .ok (.aload_n 0, 1) := dk_42 (dk_at dksX0_is_0 2 rfl rfl)
theorem dX0_is_3 : decode cX0_is 3 = .ok (.iload_n 1, 1) := dk_27 (dk_at dksX0_is_0 3 rfl rfl)
theorem dX0_is_4 : decode cX0_is 4 = .ok (.iload_n 2, 1) := dk_28 (dk_at dksX0_is_0 4 rfl rfl)
theorem dX0_is_5 : decode cX0_is 5 = .ok (.invokevirtual 40, 3) := dk_182 0 40 (dk_at dksX0_is_0 5 rfl rfl)
theorem dX0_is_8 : decode cX0_is 8 = .ok (.ifCond .eq 7, 3) := dk_153 0 7 (dk_at dksX0_is_0 8 rfl rfl)
theorem dX0_is_11 : decode cX0_is 11 = .ok (.lconst 1, 1) := dk_10 (dk_at dksX0_is_0 11 rfl rfl)
theorem dX0_is_12 : decode cX0_is 12 = .ok (.goto 4, 3) := dk_167 0 4 (dk_at dksX0_is_0 12 rfl rfl)
theorem dX0_is_15 : decode cX0_is 15 = .ok (.lconst 0, 1) := dk_9 (dk_at dksX0_is_0 15 rfl rfl)
theorem dX0_is_16 : decode cX0_is 16 = .ok (.lastore, 1) := dk_80 (dk_at dksX0_is_0 16 rfl rfl)
theorem dX0_is_17 : decode cX0_is 17 = .ok (.goto 11, 3) := dk_167 0 11 (dk_at dksX0_is_0 17 rfl rfl)
theorem dX0_is_20 : decode cX0_is 20 = .ok (.astore 4, 2) := dk_58 4 (dk_at dksX0_is_0 20 rfl rfl)
theorem dX0_is_22 : decode cX0_is 22 = .ok (.iconst 1, 1) := dk_4 (dk_at dksX0_is_0 22 rfl rfl)
theorem dX0_is_23 : decode cX0_is 23 = .ok (.ireturn, 1) := dk_172 (dk_at dksX0_is_0 23 rfl rfl)
theorem dX0_is_24 : decode cX0_is 24 = .ok (.astore 4, 2) := dk_58 4 (dk_at dksX0_is_1 0 rfl rfl)
theorem dX0_is_26 : decode cX0_is 26 = .ok (.iconst 2, 1) := dk_5 (dk_at dksX0_is_1 2 rfl rfl)
theorem dX0_is_27 : decode cX0_is 27 = .ok (.ireturn, 1) := dk_172 (dk_at dksX0_is_1 3 rfl rfl)
theorem dX0_is_28 : decode cX0_is 28 = .ok (.iconst 0, 1) := dk_3 (dk_at dksX0_is_1 4 rfl rfl)
theorem dX0_is_29 : decode cX0_is 29 = .ok (.ireturn, 1) := dk_172 (dk_at dksX0_is_1 5 rfl rfl)
def dkwX0_clutch_0 : List UInt8 := [45, 3, 42, 27, 28, 182, 0, 44, 133, 80, 167, 0, 11, 58, 4, 4, 172, 58, 4, 5, 172, 3, 172]
abbrev dktX0_clutch_0 : List UInt8 := dkwX0_clutch_0 ++ []
theorem dksX0_clutch_0 : cX0_clutch.data.toList.drop 0 = dktX0_clutch_0 := by decide +kernel
theorem dX0_clutch_0 : decode cX0_clutch 0 = .ok (.aload_n 3, 1) := dk_45 (dk_at dksX0_clutch_0 0 rfl rfl)
theorem dX0_clutch_1 : decode cX0_clutch 1 = .ok (.iconst 0, 1) := dk_3 (dk_at dksX0_clutch_0 1 rfl rfl)
theorem dX0_clutch_2 : decode cX0_clutch 2 = .ok (.aload_n 0, 1) := dk_42 (dk_at dksX0_clutch_0 2 rfl rfl)
theorem dX0_clutch_3 : decode cX0_clutch 3 = .ok (.iload_n 1, 1) := dk_27 (dk_at dksX0_clutch_0 3 rfl rfl)
theorem dX0_clutch_4 : decode cX0_clutch 4 = .ok (.iload_n 2, 1) := dk_28 (dk_at dksX0_clutch_0 4 rfl rfl)
theorem dX0_clutch_5 : decode cX0_clutch 5 = .ok (.invokevirtual 44, 3) := dk_182 0 44 (dk_at dksX0_clutch_0 5 rfl rfl)
theorem dX0_clutch_8 : decode cX0_clutch 8 = .ok (.i2l, 1) := dk_133 (dk_at dksX0_clutch_0 8 rfl rfl)
theorem dX0_clutch_9 : decode cX0_clutch 9 = .ok (.lastore, 1) := dk_80 (dk_at dksX0_clutch_0 9 rfl rfl)
theorem dX0_clutch_10 : decode cX0_clutch 10 = .ok (.goto 11, 3) := dk_167 0 11 (dk_at dksX0_clutch_0 10 rfl rfl)
theorem dX0_clutch_13 : decode cX0_clutch 13 = .ok (.astore 4, 2) := dk_58 4 (dk_at dksX0_clutch_0 13 rfl rfl)
theorem dX0_clutch_15 : decode cX0_clutch 15 = .ok (.iconst 1, 1) := dk_4 (dk_at dksX0_clutch_0 15 rfl rfl)
theorem dX0_clutch_16 : decode cX0_clutch 16 = .ok (.ireturn, 1) := dk_172 (dk_at dksX0_clutch_0 16 rfl rfl)
theorem dX0_clutch_17 : decode cX0_clutch 17 = .ok (.astore 4, 2) := dk_58 4 (dk_at dksX0_clutch_0 17 rfl rfl)
theorem dX0_clutch_19 : decode cX0_clutch 19 = .ok (.iconst 2, 1) := dk_5 (dk_at dksX0_clutch_0 19 rfl rfl)
theorem dX0_clutch_20 : decode cX0_clutch 20 = .ok (.ireturn, 1) := dk_172 (dk_at dksX0_clutch_0 20 rfl rfl)
theorem dX0_clutch_21 : decode cX0_clutch 21 = .ok (.iconst 0, 1) := dk_3 (dk_at dksX0_clutch_0 21 rfl rfl)
theorem dX0_clutch_22 : decode cX0_clutch 22 = .ok (.ireturn, 1) := dk_172 (dk_at dksX0_clutch_0 22 rfl rfl)
def dkwX0_tell_0 : List UInt8 := [44, 3, 42, 27, 182, 0, 49, 133, 80, 167, 0, 9, 78, 4, 172, 78, 5, 172, 3, 172]
abbrev dktX0_tell_0 : List UInt8 := dkwX0_tell_0 ++ []
theorem dksX0_tell_0 : cX0_tell.data.toList.drop 0 = dktX0_tell_0 := by decide +kernel
theorem dX0_tell_0 : decode cX0_tell 0 = .ok (.aload_n 2, 1) := dk_44 (dk_at dksX0_tell_0 0 rfl rfl)
theorem dX0_tell_1 : decode cX0_tell 1 = .ok (.iconst 0, 1) := dk_3 (dk_at dksX0_tell_0 1 rfl rfl)
theorem dX0_tell_2 : decode cX0_tell 2 = .ok (.aload_n 0, 1) := dk_42 (dk_at dksX0_tell_0 2 rfl rfl)
theorem dX0_tell_3 : decode cX0_tell 3 = .ok (.iload_n 1, 1) := dk_27 (dk_at dksX0_tell_0 3 rfl rfl)
theorem dX0_tell_4 : decode cX0_tell 4 = .ok (.invokevirtual 49, 3) := dk_182 0 49 (dk_at dksX0_tell_0 4 rfl rfl)
theorem dX0_tell_7 : decode cX0_tell 7 = .ok (.i2l, 1) := dk_133 (dk_at dksX0_tell_0 7 rfl rfl)
theorem dX0_tell_8 : decode cX0_tell 8 = .ok (.lastore, 1) := dk_80 (dk_at dksX0_tell_0 8 rfl rfl)
theorem dX0_tell_9 : decode cX0_tell 9 = .ok (.goto 9, 3) := dk_167 0 9 (dk_at dksX0_tell_0 9 rfl rfl)
theorem dX0_tell_12 : decode cX0_tell 12 = .ok (.astore_n 3, 1) := dk_78 (dk_at dksX0_tell_0 12 rfl rfl)
theorem dX0_tell_13 : decode cX0_tell 13 = .ok (.iconst 1, 1) := dk_4 (dk_at dksX0_tell_0 13 rfl rfl)
theorem dX0_tell_14 : decode cX0_tell 14 = .ok (.ireturn, 1) := dk_172 (dk_at dksX0_tell_0 14 rfl rfl)
theorem dX0_tell_15 : decode cX0_tell 15 = .ok (.astore_n 3, 1) := dk_78 (dk_at dksX0_tell_0 15 rfl rfl)
theorem dX0_tell_16 : decode cX0_tell 16 = .ok (.iconst 2, 1) := dk_5 (dk_at dksX0_tell_0 16 rfl rfl)
theorem dX0_tell_17 : decode cX0_tell 17 = .ok (.ireturn, 1) := dk_172 (dk_at dksX0_tell_0 17 rfl rfl)
theorem dX0_tell_18 : decode cX0_tell 18 = .ok (.iconst 0, 1) := dk_3 (dk_at dksX0_tell_0 18 rfl rfl)
theorem dX0_tell_19 : decode cX0_tell 19 = .ok (.ireturn, 1) := dk_172 (dk_at dksX0_tell_0 19 rfl rfl)
def dkwX0_rain_0 : List UInt8 := [44, 3, 42, 27, 182, 0, 53, 133, 80, 167, 0, 6, 78, 4, 172, 3, 172]
abbrev dktX0_rain_0 : List UInt8 := dkwX0_rain_0 ++ []
theorem dksX0_rain_0 : cX0_rain.data.toList.drop 0 = dktX0_rain_0 := by decide +kernel
theorem dX0_rain_0 : decode cX0_rain 0 = .ok (.aload_n 2, 1) := dk_44 (dk_at dksX0_rain_0 0 rfl rfl)
theorem dX0_rain_1 : decode cX0_rain 1 = .ok (.iconst 0, 1) := dk_3 (dk_at dksX0_rain_0 1 rfl rfl)
theorem dX0_rain_2 : decode cX0_rain 2 = .ok (.aload_n 0, 1) := dk_42 (dk_at dksX0_rain_0 2 rfl rfl)
theorem dX0_rain_3 : decode cX0_rain 3 = .ok (.iload_n 1, 1) := dk_27 (dk_at dksX0_rain_0 3 rfl rfl)
theorem dX0_rain_4 : decode cX0_rain 4 = .ok (.invokevirtual 53, 3) := dk_182 0 53 (dk_at dksX0_rain_0 4 rfl rfl)
theorem dX0_rain_7 : decode cX0_rain 7 = .ok (.i2l, 1) := dk_133 (dk_at dksX0_rain_0 7 rfl rfl)
theorem dX0_rain_8 : decode cX0_rain 8 = .ok (.lastore, 1) := dk_80 (dk_at dksX0_rain_0 8 rfl rfl)
theorem dX0_rain_9 : decode cX0_rain 9 = .ok (.goto 6, 3) := dk_167 0 6 (dk_at dksX0_rain_0 9 rfl rfl)
theorem dX0_rain_12 : decode cX0_rain 12 = .ok (.astore_n 3, 1) := dk_78 (dk_at dksX0_rain_0 12 rfl rfl)
theorem dX0_rain_13 : decode cX0_rain 13 = .ok (.iconst 1, 1) := dk_4 (dk_at dksX0_rain_0 13 rfl rfl)
theorem dX0_rain_14 : decode cX0_rain 14 = .ok (.ireturn, 1) := dk_172 (dk_at dksX0_rain_0 14 rfl rfl)
theorem dX0_rain_15 : decode cX0_rain 15 = .ok (.iconst 0, 1) := dk_3 (dk_at dksX0_rain_0 15 rfl rfl)
theorem dX0_rain_16 : decode cX0_rain 16 = .ok (.ireturn, 1) := dk_172 (dk_at dksX0_rain_0 16 rfl rfl)
def dkwX0_season_0 : List UInt8 := [43, 3, 42, 182, 0, 56, 133, 80, 167, 0, 6, 77, 4, 172, 3, 172]
abbrev dktX0_season_0 : List UInt8 := dkwX0_season_0 ++ []
theorem dksX0_season_0 : cX0_season.data.toList.drop 0 = dktX0_season_0 := by decide +kernel
theorem dX0_season_0 : decode cX0_season 0 = .ok (.aload_n 1, 1) := dk_43 (dk_at dksX0_season_0 0 rfl rfl)
theorem dX0_season_1 : decode cX0_season 1 = .ok (.iconst 0, 1) := dk_3 (dk_at dksX0_season_0 1 rfl rfl)
theorem dX0_season_2 : decode cX0_season 2 = .ok (.aload_n 0, 1) := dk_42 (dk_at dksX0_season_0 2 rfl rfl)
theorem dX0_season_3 : decode cX0_season 3 = .ok (.invokevirtual 56, 3) := dk_182 0 56 (dk_at dksX0_season_0 3 rfl rfl)
theorem dX0_season_6 : decode cX0_season 6 = .ok (.i2l, 1) := dk_133 (dk_at dksX0_season_0 6 rfl rfl)
theorem dX0_season_7 : decode cX0_season 7 = .ok (.lastore, 1) := dk_80 (dk_at dksX0_season_0 7 rfl rfl)
theorem dX0_season_8 : decode cX0_season 8 = .ok (.goto 6, 3) := dk_167 0 6 (dk_at dksX0_season_0 8 rfl rfl)
theorem dX0_season_11 : decode cX0_season 11 = .ok (.astore_n 2, 1) := dk_77 (dk_at dksX0_season_0 11 rfl rfl)
theorem dX0_season_12 : decode cX0_season 12 = .ok (.iconst 1, 1) := dk_4 (dk_at dksX0_season_0 12 rfl rfl)
theorem dX0_season_13 : decode cX0_season 13 = .ok (.ireturn, 1) := dk_172 (dk_at dksX0_season_0 13 rfl rfl)
theorem dX0_season_14 : decode cX0_season 14 = .ok (.iconst 0, 1) := dk_3 (dk_at dksX0_season_0 14 rfl rfl)
theorem dX0_season_15 : decode cX0_season 15 = .ok (.ireturn, 1) := dk_172 (dk_at dksX0_season_0 15 rfl rfl)
def dkwX0_foretold_1 : List UInt8 := [172]
abbrev dktX0_foretold_1 : List UInt8 := dkwX0_foretold_1 ++ []
def dkwX0_foretold_0 : List UInt8 := [25, 4, 3, 42, 27, 28, 29, 182, 0, 60, 133, 80, 167, 0, 11, 58, 5, 4, 172, 58, 5, 5, 172, 3]
abbrev dktX0_foretold_0 : List UInt8 := dkwX0_foretold_0 ++ dktX0_foretold_1
theorem dksX0_foretold_0 : cX0_foretold.data.toList.drop 0 = dktX0_foretold_0 := by decide +kernel
theorem dksX0_foretold_1 : cX0_foretold.data.toList.drop 24 = dktX0_foretold_1 := dk_seg dksX0_foretold_0 24 rfl rfl
theorem dX0_foretold_0 : decode cX0_foretold 0 = .ok (.aload 4, 2) := dk_25 4 (dk_at dksX0_foretold_0 0 rfl rfl)
theorem dX0_foretold_2 : decode cX0_foretold 2 = .ok (.iconst 0, 1) := dk_3 (dk_at dksX0_foretold_0 2 rfl rfl)
theorem dX0_foretold_3 : decode cX0_foretold 3 = .ok (.aload_n 0, 1) := dk_42 (dk_at dksX0_foretold_0 3 rfl rfl)
theorem dX0_foretold_4 : decode cX0_foretold 4 = .ok (.iload_n 1, 1) := dk_27 (dk_at dksX0_foretold_0 4 rfl rfl)
theorem dX0_foretold_5 : decode cX0_foretold 5 = .ok (.iload_n 2, 1) := dk_28 (dk_at dksX0_foretold_0 5 rfl rfl)
theorem dX0_foretold_6 : decode cX0_foretold 6 = .ok (.iload_n 3, 1) := dk_29 (dk_at dksX0_foretold_0 6 rfl rfl)
theorem dX0_foretold_7 : decode cX0_foretold 7 = .ok (.invokevirtual 60, 3) := dk_182 0 60 (dk_at dksX0_foretold_0 7 rfl rfl)
theorem dX0_foretold_10 : decode cX0_foretold 10 = .ok (.i2l, 1) := dk_133 (dk_at dksX0_foretold_0 10 rfl rfl)
theorem dX0_foretold_11 : decode cX0_foretold 11 = .ok (.lastore, 1) := dk_80 (dk_at dksX0_foretold_0 11 rfl rfl)
theorem dX0_foretold_12 : decode cX0_foretold 12 = .ok (.goto 11, 3) := dk_167 0 11 (dk_at dksX0_foretold_0 12 rfl rfl)
theorem dX0_foretold_15 : decode cX0_foretold 15 = .ok (.astore 5, 2) := dk_58 5 (dk_at dksX0_foretold_0 15 rfl rfl)
theorem dX0_foretold_17 : decode cX0_foretold 17 = .ok (.iconst 1, 1) := dk_4 (dk_at dksX0_foretold_0 17 rfl rfl)
theorem dX0_foretold_18 : decode cX0_foretold 18 = .ok (.ireturn, 1) := dk_172 (dk_at dksX0_foretold_0 18 rfl rfl)
theorem dX0_foretold_19 : decode cX0_foretold 19 = .ok (.astore 5, 2) := dk_58 5 (dk_at dksX0_foretold_0 19 rfl rfl)
theorem dX0_foretold_21 : decode cX0_foretold 21 = .ok (.iconst 2, 1) := dk_5 (dk_at dksX0_foretold_0 21 rfl rfl)
theorem dX0_foretold_22 : decode cX0_foretold 22 = .ok (.ireturn, 1) := dk_172 (dk_at dksX0_foretold_0 22 rfl rfl)
theorem dX0_foretold_23 : decode cX0_foretold 23 = .ok (.iconst 0, 1) := dk_3 (dk_at dksX0_foretold_0 23 rfl rfl)
theorem dX0_foretold_24 : decode cX0_foretold 24 = .ok (.ireturn, 1) := dk_172 (dk_at dksX0_foretold_1 0 rfl rfl)
def dkwX0_firstFlood_0 : List UInt8 := [44, 3, 42, 27, 182, 0, 63, 133, 80, 167, 0, 9, 78, 4, 172, 78, 5, 172, 3, 172]
abbrev dktX0_firstFlood_0 : List UInt8 := dkwX0_firstFlood_0 ++ []
theorem dksX0_firstFlood_0 : cX0_firstFlood.data.toList.drop 0 = dktX0_firstFlood_0 := by decide +kernel
theorem dX0_firstFlood_0 : decode cX0_firstFlood 0 = .ok (.aload_n 2, 1) := dk_44 (dk_at dksX0_firstFlood_0 0 rfl rfl)
theorem dX0_firstFlood_1 : decode cX0_firstFlood 1 = .ok (.iconst 0, 1) := dk_3 (dk_at dksX0_firstFlood_0 1 rfl rfl)
theorem dX0_firstFlood_2 : decode cX0_firstFlood 2 = .ok (.aload_n 0, 1) := dk_42 (dk_at dksX0_firstFlood_0 2 rfl rfl)
theorem dX0_firstFlood_3 : decode cX0_firstFlood 3 = .ok (.iload_n 1, 1) := dk_27 (dk_at dksX0_firstFlood_0 3 rfl rfl)
theorem dX0_firstFlood_4 : decode cX0_firstFlood 4 = .ok (.invokevirtual 63, 3) := dk_182 0 63 (dk_at dksX0_firstFlood_0 4 rfl rfl)
theorem dX0_firstFlood_7 : decode cX0_firstFlood 7 = .ok (.i2l, 1) := dk_133 (dk_at dksX0_firstFlood_0 7 rfl rfl)
theorem dX0_firstFlood_8 : decode cX0_firstFlood 8 = .ok (.lastore, 1) := dk_80 (dk_at dksX0_firstFlood_0 8 rfl rfl)
theorem dX0_firstFlood_9 : decode cX0_firstFlood 9 = .ok (.goto 9, 3) := dk_167 0 9 (dk_at dksX0_firstFlood_0 9 rfl rfl)
theorem dX0_firstFlood_12 : decode cX0_firstFlood 12 = .ok (.astore_n 3, 1) := dk_78 (dk_at dksX0_firstFlood_0 12 rfl rfl)
theorem dX0_firstFlood_13 : decode cX0_firstFlood 13 = .ok (.iconst 1, 1) := dk_4 (dk_at dksX0_firstFlood_0 13 rfl rfl)
theorem dX0_firstFlood_14 : decode cX0_firstFlood 14 = .ok (.ireturn, 1) := dk_172 (dk_at dksX0_firstFlood_0 14 rfl rfl)
theorem dX0_firstFlood_15 : decode cX0_firstFlood 15 = .ok (.astore_n 3, 1) := dk_78 (dk_at dksX0_firstFlood_0 15 rfl rfl)
theorem dX0_firstFlood_16 : decode cX0_firstFlood 16 = .ok (.iconst 2, 1) := dk_5 (dk_at dksX0_firstFlood_0 16 rfl rfl)
theorem dX0_firstFlood_17 : decode cX0_firstFlood 17 = .ok (.ireturn, 1) := dk_172 (dk_at dksX0_firstFlood_0 17 rfl rfl)
theorem dX0_firstFlood_18 : decode cX0_firstFlood 18 = .ok (.iconst 0, 1) := dk_3 (dk_at dksX0_firstFlood_0 18 rfl rfl)
theorem dX0_firstFlood_19 : decode cX0_firstFlood 19 = .ok (.ireturn, 1) := dk_172 (dk_at dksX0_firstFlood_0 19 rfl rfl)
def dkwX0_best_0 : List UInt8 := [25, 4, 3, 42, 27, 28, 29, 182, 0, 66, 133, 80, 167, 0, 7, 58, 5, 4, 172, 3, 172]
abbrev dktX0_best_0 : List UInt8 := dkwX0_best_0 ++ []
theorem dksX0_best_0 : cX0_best.data.toList.drop 0 = dktX0_best_0 := by decide +kernel
theorem dX0_best_0 : decode cX0_best 0 = .ok (.aload 4, 2) := dk_25 4 (dk_at dksX0_best_0 0 rfl rfl)
theorem dX0_best_2 : decode cX0_best 2 = .ok (.iconst 0, 1) := dk_3 (dk_at dksX0_best_0 2 rfl rfl)
theorem dX0_best_3 : decode cX0_best 3 = .ok (.aload_n 0, 1) := dk_42 (dk_at dksX0_best_0 3 rfl rfl)
theorem dX0_best_4 : decode cX0_best 4 = .ok (.iload_n 1, 1) := dk_27 (dk_at dksX0_best_0 4 rfl rfl)
theorem dX0_best_5 : decode cX0_best 5 = .ok (.iload_n 2, 1) := dk_28 (dk_at dksX0_best_0 5 rfl rfl)
theorem dX0_best_6 : decode cX0_best 6 = .ok (.iload_n 3, 1) := dk_29 (dk_at dksX0_best_0 6 rfl rfl)
theorem dX0_best_7 : decode cX0_best 7 = .ok (.invokevirtual 66, 3) := dk_182 0 66 (dk_at dksX0_best_0 7 rfl rfl)
theorem dX0_best_10 : decode cX0_best 10 = .ok (.i2l, 1) := dk_133 (dk_at dksX0_best_0 10 rfl rfl)
theorem dX0_best_11 : decode cX0_best 11 = .ok (.lastore, 1) := dk_80 (dk_at dksX0_best_0 11 rfl rfl)
theorem dX0_best_12 : decode cX0_best 12 = .ok (.goto 7, 3) := dk_167 0 7 (dk_at dksX0_best_0 12 rfl rfl)
theorem dX0_best_15 : decode cX0_best 15 = .ok (.astore 5, 2) := dk_58 5 (dk_at dksX0_best_0 15 rfl rfl)
theorem dX0_best_17 : decode cX0_best 17 = .ok (.iconst 1, 1) := dk_4 (dk_at dksX0_best_0 17 rfl rfl)
theorem dX0_best_18 : decode cX0_best 18 = .ok (.ireturn, 1) := dk_172 (dk_at dksX0_best_0 18 rfl rfl)
theorem dX0_best_19 : decode cX0_best 19 = .ok (.iconst 0, 1) := dk_3 (dk_at dksX0_best_0 19 rfl rfl)
theorem dX0_best_20 : decode cX0_best 20 = .ok (.ireturn, 1) := dk_172 (dk_at dksX0_best_0 20 rfl rfl)
def dkwX0_worth_1 : List UInt8 := [172]
abbrev dktX0_worth_1 : List UInt8 := dkwX0_worth_1 ++ []
def dkwX0_worth_0 : List UInt8 := [25, 4, 3, 42, 27, 28, 29, 182, 0, 70, 133, 80, 167, 0, 11, 58, 5, 4, 172, 58, 5, 5, 172, 3]
abbrev dktX0_worth_0 : List UInt8 := dkwX0_worth_0 ++ dktX0_worth_1
theorem dksX0_worth_0 : cX0_worth.data.toList.drop 0 = dktX0_worth_0 := by decide +kernel
theorem dksX0_worth_1 : cX0_worth.data.toList.drop 24 = dktX0_worth_1 := dk_seg dksX0_worth_0 24 rfl rfl
theorem dX0_worth_0 : decode cX0_worth 0 = .ok (.aload 4, 2) := dk_25 4 (dk_at dksX0_worth_0 0 rfl rfl)
theorem dX0_worth_2 : decode cX0_worth 2 = .ok (.iconst 0, 1) := dk_3 (dk_at dksX0_worth_0 2 rfl rfl)
theorem dX0_worth_3 : decode cX0_worth 3 = .ok (.aload_n 0, 1) := dk_42 (dk_at dksX0_worth_0 3 rfl rfl)
theorem dX0_worth_4 : decode cX0_worth 4 = .ok (.iload_n 1, 1) := dk_27 (dk_at dksX0_worth_0 4 rfl rfl)
theorem dX0_worth_5 : decode cX0_worth 5 = .ok (.iload_n 2, 1) := dk_28 (dk_at dksX0_worth_0 5 rfl rfl)
theorem dX0_worth_6 : decode cX0_worth 6 = .ok (.iload_n 3, 1) := dk_29 (dk_at dksX0_worth_0 6 rfl rfl)
theorem dX0_worth_7 : decode cX0_worth 7 = .ok (.invokevirtual 70, 3) := dk_182 0 70 (dk_at dksX0_worth_0 7 rfl rfl)
theorem dX0_worth_10 : decode cX0_worth 10 = .ok (.i2l, 1) := dk_133 (dk_at dksX0_worth_0 10 rfl rfl)
theorem dX0_worth_11 : decode cX0_worth 11 = .ok (.lastore, 1) := dk_80 (dk_at dksX0_worth_0 11 rfl rfl)
theorem dX0_worth_12 : decode cX0_worth 12 = .ok (.goto 11, 3) := dk_167 0 11 (dk_at dksX0_worth_0 12 rfl rfl)
theorem dX0_worth_15 : decode cX0_worth 15 = .ok (.astore 5, 2) := dk_58 5 (dk_at dksX0_worth_0 15 rfl rfl)
theorem dX0_worth_17 : decode cX0_worth 17 = .ok (.iconst 1, 1) := dk_4 (dk_at dksX0_worth_0 17 rfl rfl)
theorem dX0_worth_18 : decode cX0_worth 18 = .ok (.ireturn, 1) := dk_172 (dk_at dksX0_worth_0 18 rfl rfl)
theorem dX0_worth_19 : decode cX0_worth 19 = .ok (.astore 5, 2) := dk_58 5 (dk_at dksX0_worth_0 19 rfl rfl)
theorem dX0_worth_21 : decode cX0_worth 21 = .ok (.iconst 2, 1) := dk_5 (dk_at dksX0_worth_0 21 rfl rfl)
theorem dX0_worth_22 : decode cX0_worth 22 = .ok (.ireturn, 1) := dk_172 (dk_at dksX0_worth_0 22 rfl rfl)
theorem dX0_worth_23 : decode cX0_worth 23 = .ok (.iconst 0, 1) := dk_3 (dk_at dksX0_worth_0 23 rfl rfl)
theorem dX0_worth_24 : decode cX0_worth 24 = .ok (.ireturn, 1) := dk_172 (dk_at dksX0_worth_1 0 rfl rfl)
def dkwX0_choose_0 : List UInt8 := [45, 3, 42, 27, 28, 182, 0, 74, 133, 80, 167, 0, 7, 58, 4, 4, 172, 3, 172]
abbrev dktX0_choose_0 : List UInt8 := dkwX0_choose_0 ++ []
theorem dksX0_choose_0 : cX0_choose.data.toList.drop 0 = dktX0_choose_0 := by decide +kernel
theorem dX0_choose_0 : decode cX0_choose 0 = .ok (.aload_n 3, 1) := dk_45 (dk_at dksX0_choose_0 0 rfl rfl)
theorem dX0_choose_1 : decode cX0_choose 1 = .ok (.iconst 0, 1) := dk_3 (dk_at dksX0_choose_0 1 rfl rfl)
theorem dX0_choose_2 : decode cX0_choose 2 = .ok (.aload_n 0, 1) := dk_42 (dk_at dksX0_choose_0 2 rfl rfl)
theorem dX0_choose_3 : decode cX0_choose 3 = .ok (.iload_n 1, 1) := dk_27 (dk_at dksX0_choose_0 3 rfl rfl)
theorem dX0_choose_4 : decode cX0_choose 4 = .ok (.iload_n 2, 1) := dk_28 (dk_at dksX0_choose_0 4 rfl rfl)
theorem dX0_choose_5 : decode cX0_choose 5 = .ok (.invokevirtual 74, 3) := dk_182 0 74 (dk_at dksX0_choose_0 5 rfl rfl)
theorem dX0_choose_8 : decode cX0_choose 8 = .ok (.i2l, 1) := dk_133 (dk_at dksX0_choose_0 8 rfl rfl)
theorem dX0_choose_9 : decode cX0_choose 9 = .ok (.lastore, 1) := dk_80 (dk_at dksX0_choose_0 9 rfl rfl)
theorem dX0_choose_10 : decode cX0_choose 10 = .ok (.goto 7, 3) := dk_167 0 7 (dk_at dksX0_choose_0 10 rfl rfl)
theorem dX0_choose_13 : decode cX0_choose 13 = .ok (.astore 4, 2) := dk_58 4 (dk_at dksX0_choose_0 13 rfl rfl)
theorem dX0_choose_15 : decode cX0_choose 15 = .ok (.iconst 1, 1) := dk_4 (dk_at dksX0_choose_0 15 rfl rfl)
theorem dX0_choose_16 : decode cX0_choose 16 = .ok (.ireturn, 1) := dk_172 (dk_at dksX0_choose_0 16 rfl rfl)
theorem dX0_choose_17 : decode cX0_choose 17 = .ok (.iconst 0, 1) := dk_3 (dk_at dksX0_choose_0 17 rfl rfl)
theorem dX0_choose_18 : decode cX0_choose 18 = .ok (.ireturn, 1) := dk_172 (dk_at dksX0_choose_0 18 rfl rfl)
def dkwX0_rest_0 : List UInt8 := [44, 3, 42, 27, 182, 0, 78, 133, 80, 167, 0, 9, 78, 4, 172, 78, 5, 172, 3, 172]
abbrev dktX0_rest_0 : List UInt8 := dkwX0_rest_0 ++ []
theorem dksX0_rest_0 : cX0_rest.data.toList.drop 0 = dktX0_rest_0 := by decide +kernel
theorem dX0_rest_0 : decode cX0_rest 0 = .ok (.aload_n 2, 1) := dk_44 (dk_at dksX0_rest_0 0 rfl rfl)
theorem dX0_rest_1 : decode cX0_rest 1 = .ok (.iconst 0, 1) := dk_3 (dk_at dksX0_rest_0 1 rfl rfl)
theorem dX0_rest_2 : decode cX0_rest 2 = .ok (.aload_n 0, 1) := dk_42 (dk_at dksX0_rest_0 2 rfl rfl)
theorem dX0_rest_3 : decode cX0_rest 3 = .ok (.iload_n 1, 1) := dk_27 (dk_at dksX0_rest_0 3 rfl rfl)
theorem dX0_rest_4 : decode cX0_rest 4 = .ok (.invokevirtual 78, 3) := dk_182 0 78 (dk_at dksX0_rest_0 4 rfl rfl)
theorem dX0_rest_7 : decode cX0_rest 7 = .ok (.i2l, 1) := dk_133 (dk_at dksX0_rest_0 7 rfl rfl)
theorem dX0_rest_8 : decode cX0_rest 8 = .ok (.lastore, 1) := dk_80 (dk_at dksX0_rest_0 8 rfl rfl)
theorem dX0_rest_9 : decode cX0_rest 9 = .ok (.goto 9, 3) := dk_167 0 9 (dk_at dksX0_rest_0 9 rfl rfl)
theorem dX0_rest_12 : decode cX0_rest 12 = .ok (.astore_n 3, 1) := dk_78 (dk_at dksX0_rest_0 12 rfl rfl)
theorem dX0_rest_13 : decode cX0_rest 13 = .ok (.iconst 1, 1) := dk_4 (dk_at dksX0_rest_0 13 rfl rfl)
theorem dX0_rest_14 : decode cX0_rest 14 = .ok (.ireturn, 1) := dk_172 (dk_at dksX0_rest_0 14 rfl rfl)
theorem dX0_rest_15 : decode cX0_rest 15 = .ok (.astore_n 3, 1) := dk_78 (dk_at dksX0_rest_0 15 rfl rfl)
theorem dX0_rest_16 : decode cX0_rest 16 = .ok (.iconst 2, 1) := dk_5 (dk_at dksX0_rest_0 16 rfl rfl)
theorem dX0_rest_17 : decode cX0_rest 17 = .ok (.ireturn, 1) := dk_172 (dk_at dksX0_rest_0 17 rfl rfl)
theorem dX0_rest_18 : decode cX0_rest 18 = .ok (.iconst 0, 1) := dk_3 (dk_at dksX0_rest_0 18 rfl rfl)
theorem dX0_rest_19 : decode cX0_rest 19 = .ok (.ireturn, 1) := dk_172 (dk_at dksX0_rest_0 19 rfl rfl)
def dkwX0_number_0 : List UInt8 := [44, 3, 42, 27, 182, 0, 81, 133, 80, 167, 0, 6, 78, 4, 172, 3, 172]
abbrev dktX0_number_0 : List UInt8 := dkwX0_number_0 ++ []
theorem dksX0_number_0 : cX0_number.data.toList.drop 0 = dktX0_number_0 := by decide +kernel
theorem dX0_number_0 : decode cX0_number 0 = .ok (.aload_n 2, 1) := dk_44 (dk_at dksX0_number_0 0 rfl rfl)
theorem dX0_number_1 : decode cX0_number 1 = .ok (.iconst 0, 1) := dk_3 (dk_at dksX0_number_0 1 rfl rfl)
theorem dX0_number_2 : decode cX0_number 2 = .ok (.aload_n 0, 1) := dk_42 (dk_at dksX0_number_0 2 rfl rfl)
theorem dX0_number_3 : decode cX0_number 3 = .ok (.iload_n 1, 1) := dk_27 (dk_at dksX0_number_0 3 rfl rfl)
theorem dX0_number_4 : decode cX0_number 4 = .ok (.invokevirtual 81, 3) := dk_182 0 81 (dk_at dksX0_number_0 4 rfl rfl)
theorem dX0_number_7 : decode cX0_number 7 = .ok (.i2l, 1) := dk_133 (dk_at dksX0_number_0 7 rfl rfl)
theorem dX0_number_8 : decode cX0_number 8 = .ok (.lastore, 1) := dk_80 (dk_at dksX0_number_0 8 rfl rfl)
theorem dX0_number_9 : decode cX0_number 9 = .ok (.goto 6, 3) := dk_167 0 6 (dk_at dksX0_number_0 9 rfl rfl)
theorem dX0_number_12 : decode cX0_number 12 = .ok (.astore_n 3, 1) := dk_78 (dk_at dksX0_number_0 12 rfl rfl)
theorem dX0_number_13 : decode cX0_number 13 = .ok (.iconst 1, 1) := dk_4 (dk_at dksX0_number_0 13 rfl rfl)
theorem dX0_number_14 : decode cX0_number 14 = .ok (.ireturn, 1) := dk_172 (dk_at dksX0_number_0 14 rfl rfl)
theorem dX0_number_15 : decode cX0_number 15 = .ok (.iconst 0, 1) := dk_3 (dk_at dksX0_number_0 15 rfl rfl)
theorem dX0_number_16 : decode cX0_number 16 = .ok (.ireturn, 1) := dk_172 (dk_at dksX0_number_0 16 rfl rfl)
def dkwX0_meanLevel_0 : List UInt8 := [43, 3, 42, 182, 0, 84, 82, 167, 0, 6, 77, 4, 172, 3, 172]
abbrev dktX0_meanLevel_0 : List UInt8 := dkwX0_meanLevel_0 ++ []
theorem dksX0_meanLevel_0 : cX0_meanLevel.data.toList.drop 0 = dktX0_meanLevel_0 := by decide +kernel
theorem dX0_meanLevel_0 : decode cX0_meanLevel 0 = .ok (.aload_n 1, 1) := dk_43 (dk_at dksX0_meanLevel_0 0 rfl rfl)
theorem dX0_meanLevel_1 : decode cX0_meanLevel 1 = .ok (.iconst 0, 1) := dk_3 (dk_at dksX0_meanLevel_0 1 rfl rfl)
theorem dX0_meanLevel_2 : decode cX0_meanLevel 2 = .ok (.aload_n 0, 1) := dk_42 (dk_at dksX0_meanLevel_0 2 rfl rfl)
theorem dX0_meanLevel_3 : decode cX0_meanLevel 3 = .ok (.invokevirtual 84, 3) := dk_182 0 84 (dk_at dksX0_meanLevel_0 3 rfl rfl)
theorem dX0_meanLevel_6 : decode cX0_meanLevel 6 = .ok (.dastore, 1) := dk_82 (dk_at dksX0_meanLevel_0 6 rfl rfl)
theorem dX0_meanLevel_7 : decode cX0_meanLevel 7 = .ok (.goto 6, 3) := dk_167 0 6 (dk_at dksX0_meanLevel_0 7 rfl rfl)
theorem dX0_meanLevel_10 : decode cX0_meanLevel 10 = .ok (.astore_n 2, 1) := dk_77 (dk_at dksX0_meanLevel_0 10 rfl rfl)
theorem dX0_meanLevel_11 : decode cX0_meanLevel 11 = .ok (.iconst 1, 1) := dk_4 (dk_at dksX0_meanLevel_0 11 rfl rfl)
theorem dX0_meanLevel_12 : decode cX0_meanLevel 12 = .ok (.ireturn, 1) := dk_172 (dk_at dksX0_meanLevel_0 12 rfl rfl)
theorem dX0_meanLevel_13 : decode cX0_meanLevel 13 = .ok (.iconst 0, 1) := dk_3 (dk_at dksX0_meanLevel_0 13 rfl rfl)
theorem dX0_meanLevel_14 : decode cX0_meanLevel 14 = .ok (.ireturn, 1) := dk_172 (dk_at dksX0_meanLevel_0 14 rfl rfl)
def dkwX0_silence_0 : List UInt8 := [43, 3, 42, 182, 0, 90, 141, 82, 167, 0, 6, 77, 4, 172, 3, 172]
abbrev dktX0_silence_0 : List UInt8 := dkwX0_silence_0 ++ []
theorem dksX0_silence_0 : cX0_silence.data.toList.drop 0 = dktX0_silence_0 := by decide +kernel
theorem dX0_silence_0 : decode cX0_silence 0 = .ok (.aload_n 1, 1) := dk_43 (dk_at dksX0_silence_0 0 rfl rfl)
theorem dX0_silence_1 : decode cX0_silence 1 = .ok (.iconst 0, 1) := dk_3 (dk_at dksX0_silence_0 1 rfl rfl)
theorem dX0_silence_2 : decode cX0_silence 2 = .ok (.aload_n 0, 1) := dk_42 (dk_at dksX0_silence_0 2 rfl rfl)
theorem dX0_silence_3 : decode cX0_silence 3 = .ok (.invokevirtual 90, 3) := dk_182 0 90 (dk_at dksX0_silence_0 3 rfl rfl)
theorem dX0_silence_6 : decode cX0_silence 6 = .ok (.f2d, 1) := dk_141 (dk_at dksX0_silence_0 6 rfl rfl)
theorem dX0_silence_7 : decode cX0_silence 7 = .ok (.dastore, 1) := dk_82 (dk_at dksX0_silence_0 7 rfl rfl)
theorem dX0_silence_8 : decode cX0_silence 8 = .ok (.goto 6, 3) := dk_167 0 6 (dk_at dksX0_silence_0 8 rfl rfl)
theorem dX0_silence_11 : decode cX0_silence 11 = .ok (.astore_n 2, 1) := dk_77 (dk_at dksX0_silence_0 11 rfl rfl)
theorem dX0_silence_12 : decode cX0_silence 12 = .ok (.iconst 1, 1) := dk_4 (dk_at dksX0_silence_0 12 rfl rfl)
theorem dX0_silence_13 : decode cX0_silence 13 = .ok (.ireturn, 1) := dk_172 (dk_at dksX0_silence_0 13 rfl rfl)
theorem dX0_silence_14 : decode cX0_silence 14 = .ok (.iconst 0, 1) := dk_3 (dk_at dksX0_silence_0 14 rfl rfl)
theorem dX0_silence_15 : decode cX0_silence 15 = .ok (.ireturn, 1) := dk_172 (dk_at dksX0_silence_0 15 rfl rfl)
def dkwX0_feed_0 : List UInt8 := [44, 3, 42, 27, 182, 0, 94, 133, 80, 167, 0, 6, 78, 4, 172, 3, 172]
abbrev dktX0_feed_0 : List UInt8 := dkwX0_feed_0 ++ []
theorem dksX0_feed_0 : cX0_feed.data.toList.drop 0 = dktX0_feed_0 := by decide +kernel
theorem dX0_feed_0 : decode cX0_feed 0 = .ok (.aload_n 2, 1) := dk_44 (dk_at dksX0_feed_0 0 rfl rfl)
theorem dX0_feed_1 : decode cX0_feed 1 = .ok (.iconst 0, 1) := dk_3 (dk_at dksX0_feed_0 1 rfl rfl)
theorem dX0_feed_2 : decode cX0_feed 2 = .ok (.aload_n 0, 1) := dk_42 (dk_at dksX0_feed_0 2 rfl rfl)
theorem dX0_feed_3 : decode cX0_feed 3 = .ok (.iload_n 1, 1) := dk_27 (dk_at dksX0_feed_0 3 rfl rfl)
theorem dX0_feed_4 : decode cX0_feed 4 = .ok (.invokevirtual 94, 3) := dk_182 0 94 (dk_at dksX0_feed_0 4 rfl rfl)
theorem dX0_feed_7 : decode cX0_feed 7 = .ok (.i2l, 1) := dk_133 (dk_at dksX0_feed_0 7 rfl rfl)
theorem dX0_feed_8 : decode cX0_feed 8 = .ok (.lastore, 1) := dk_80 (dk_at dksX0_feed_0 8 rfl rfl)
theorem dX0_feed_9 : decode cX0_feed 9 = .ok (.goto 6, 3) := dk_167 0 6 (dk_at dksX0_feed_0 9 rfl rfl)
theorem dX0_feed_12 : decode cX0_feed 12 = .ok (.astore_n 3, 1) := dk_78 (dk_at dksX0_feed_0 12 rfl rfl)
theorem dX0_feed_13 : decode cX0_feed 13 = .ok (.iconst 1, 1) := dk_4 (dk_at dksX0_feed_0 13 rfl rfl)
theorem dX0_feed_14 : decode cX0_feed 14 = .ok (.ireturn, 1) := dk_172 (dk_at dksX0_feed_0 14 rfl rfl)
theorem dX0_feed_15 : decode cX0_feed 15 = .ok (.iconst 0, 1) := dk_3 (dk_at dksX0_feed_0 15 rfl rfl)
theorem dX0_feed_16 : decode cX0_feed 16 = .ok (.ireturn, 1) := dk_172 (dk_at dksX0_feed_0 16 rfl rfl)
def dkwX0_read_0 : List UInt8 := [43, 3, 42, 182, 0, 100, 133, 80, 167, 0, 9, 77, 4, 172, 77, 5, 172, 3, 172]
abbrev dktX0_read_0 : List UInt8 := dkwX0_read_0 ++ []
theorem dksX0_read_0 : cX0_read.data.toList.drop 0 = dktX0_read_0 := by decide +kernel
theorem dX0_read_0 : decode cX0_read 0 = .ok (.aload_n 1, 1) := dk_43 (dk_at dksX0_read_0 0 rfl rfl)
theorem dX0_read_1 : decode cX0_read 1 = .ok (.iconst 0, 1) := dk_3 (dk_at dksX0_read_0 1 rfl rfl)
theorem dX0_read_2 : decode cX0_read 2 = .ok (.aload_n 0, 1) := dk_42 (dk_at dksX0_read_0 2 rfl rfl)
theorem dX0_read_3 : decode cX0_read 3 = .ok (.invokevirtual 100, 3) := dk_182 0 100 (dk_at dksX0_read_0 3 rfl rfl)
theorem dX0_read_6 : decode cX0_read 6 = .ok (.i2l, 1) := dk_133 (dk_at dksX0_read_0 6 rfl rfl)
theorem dX0_read_7 : decode cX0_read 7 = .ok (.lastore, 1) := dk_80 (dk_at dksX0_read_0 7 rfl rfl)
theorem dX0_read_8 : decode cX0_read 8 = .ok (.goto 9, 3) := dk_167 0 9 (dk_at dksX0_read_0 8 rfl rfl)
theorem dX0_read_11 : decode cX0_read 11 = .ok (.astore_n 2, 1) := dk_77 (dk_at dksX0_read_0 11 rfl rfl)
theorem dX0_read_12 : decode cX0_read 12 = .ok (.iconst 1, 1) := dk_4 (dk_at dksX0_read_0 12 rfl rfl)
theorem dX0_read_13 : decode cX0_read 13 = .ok (.ireturn, 1) := dk_172 (dk_at dksX0_read_0 13 rfl rfl)
theorem dX0_read_14 : decode cX0_read 14 = .ok (.astore_n 2, 1) := dk_77 (dk_at dksX0_read_0 14 rfl rfl)
theorem dX0_read_15 : decode cX0_read 15 = .ok (.iconst 2, 1) := dk_5 (dk_at dksX0_read_0 15 rfl rfl)
theorem dX0_read_16 : decode cX0_read 16 = .ok (.ireturn, 1) := dk_172 (dk_at dksX0_read_0 16 rfl rfl)
theorem dX0_read_17 : decode cX0_read 17 = .ok (.iconst 0, 1) := dk_3 (dk_at dksX0_read_0 17 rfl rfl)
theorem dX0_read_18 : decode cX0_read 18 = .ok (.ireturn, 1) := dk_172 (dk_at dksX0_read_0 18 rfl rfl)
def dkwX0_faultPosition_0 : List UInt8 := [43, 3, 42, 182, 0, 103, 133, 80, 167, 0, 6, 77, 4, 172, 3, 172]
abbrev dktX0_faultPosition_0 : List UInt8 := dkwX0_faultPosition_0 ++ []
theorem dksX0_faultPosition_0 : cX0_faultPosition.data.toList.drop 0 = dktX0_faultPosition_0 := by decide +kernel
theorem dX0_faultPosition_0 : decode cX0_faultPosition 0 = .ok (.aload_n 1, 1) := dk_43 (dk_at dksX0_faultPosition_0 0 rfl rfl)
theorem dX0_faultPosition_1 : decode cX0_faultPosition 1 = .ok (.iconst 0, 1) := dk_3 (dk_at dksX0_faultPosition_0 1 rfl rfl)
theorem dX0_faultPosition_2 : decode cX0_faultPosition 2 = .ok (.aload_n 0, 1) := dk_42 (dk_at dksX0_faultPosition_0 2 rfl rfl)
theorem dX0_faultPosition_3 : decode cX0_faultPosition 3 = .ok (.invokevirtual 103, 3) := dk_182 0 103 (dk_at dksX0_faultPosition_0 3 rfl rfl)
theorem dX0_faultPosition_6 : decode cX0_faultPosition 6 = .ok (.i2l, 1) := dk_133 (dk_at dksX0_faultPosition_0 6 rfl rfl)
theorem dX0_faultPosition_7 : decode cX0_faultPosition 7 = .ok (.lastore, 1) := dk_80 (dk_at dksX0_faultPosition_0 7 rfl rfl)
theorem dX0_faultPosition_8 : decode cX0_faultPosition 8 = .ok (.goto 6, 3) := dk_167 0 6 (dk_at dksX0_faultPosition_0 8 rfl rfl)
theorem dX0_faultPosition_11 : decode cX0_faultPosition 11 = .ok (.astore_n 2, 1) := dk_77 (dk_at dksX0_faultPosition_0 11 rfl rfl)
theorem dX0_faultPosition_12 : decode cX0_faultPosition 12 = .ok (.iconst 1, 1) := dk_4 (dk_at dksX0_faultPosition_0 12 rfl rfl)
theorem dX0_faultPosition_13 : decode cX0_faultPosition 13 = .ok (.ireturn, 1) := dk_172 (dk_at dksX0_faultPosition_0 13 rfl rfl)
theorem dX0_faultPosition_14 : decode cX0_faultPosition 14 = .ok (.iconst 0, 1) := dk_3 (dk_at dksX0_faultPosition_0 14 rfl rfl)
theorem dX0_faultPosition_15 : decode cX0_faultPosition 15 = .ok (.ireturn, 1) := dk_172 (dk_at dksX0_faultPosition_0 15 rfl rfl)
def dkwX0_refusal_0 : List UInt8 := [44, 3, 42, 27, 182, 0, 106, 133, 80, 167, 0, 6, 78, 4, 172, 3, 172]
abbrev dktX0_refusal_0 : List UInt8 := dkwX0_refusal_0 ++ []
theorem dksX0_refusal_0 : cX0_refusal.data.toList.drop 0 = dktX0_refusal_0 := by decide +kernel
theorem dX0_refusal_0 : decode cX0_refusal 0 = .ok (.aload_n 2, 1) := dk_44 (dk_at dksX0_refusal_0 0 rfl rfl)
theorem dX0_refusal_1 : decode cX0_refusal 1 = .ok (.iconst 0, 1) := dk_3 (dk_at dksX0_refusal_0 1 rfl rfl)
theorem dX0_refusal_2 : decode cX0_refusal 2 = .ok (.aload_n 0, 1) := dk_42 (dk_at dksX0_refusal_0 2 rfl rfl)
theorem dX0_refusal_3 : decode cX0_refusal 3 = .ok (.iload_n 1, 1) := dk_27 (dk_at dksX0_refusal_0 3 rfl rfl)
theorem dX0_refusal_4 : decode cX0_refusal 4 = .ok (.invokevirtual 106, 3) := dk_182 0 106 (dk_at dksX0_refusal_0 4 rfl rfl)
theorem dX0_refusal_7 : decode cX0_refusal 7 = .ok (.i2l, 1) := dk_133 (dk_at dksX0_refusal_0 7 rfl rfl)
theorem dX0_refusal_8 : decode cX0_refusal 8 = .ok (.lastore, 1) := dk_80 (dk_at dksX0_refusal_0 8 rfl rfl)
theorem dX0_refusal_9 : decode cX0_refusal 9 = .ok (.goto 6, 3) := dk_167 0 6 (dk_at dksX0_refusal_0 9 rfl rfl)
theorem dX0_refusal_12 : decode cX0_refusal 12 = .ok (.astore_n 3, 1) := dk_78 (dk_at dksX0_refusal_0 12 rfl rfl)
theorem dX0_refusal_13 : decode cX0_refusal 13 = .ok (.iconst 1, 1) := dk_4 (dk_at dksX0_refusal_0 13 rfl rfl)
theorem dX0_refusal_14 : decode cX0_refusal 14 = .ok (.ireturn, 1) := dk_172 (dk_at dksX0_refusal_0 14 rfl rfl)
theorem dX0_refusal_15 : decode cX0_refusal 15 = .ok (.iconst 0, 1) := dk_3 (dk_at dksX0_refusal_0 15 rfl rfl)
theorem dX0_refusal_16 : decode cX0_refusal 16 = .ok (.ireturn, 1) := dk_172 (dk_at dksX0_refusal_0 16 rfl rfl)
def dkwX0_undo_0 : List UInt8 := [43, 3, 42, 182, 0, 110, 133, 80, 167, 0, 6, 77, 4, 172, 3, 172]
abbrev dktX0_undo_0 : List UInt8 := dkwX0_undo_0 ++ []
theorem dksX0_undo_0 : cX0_undo.data.toList.drop 0 = dktX0_undo_0 := by decide +kernel
theorem dX0_undo_0 : decode cX0_undo 0 = .ok (.aload_n 1, 1) := dk_43 (dk_at dksX0_undo_0 0 rfl rfl)
theorem dX0_undo_1 : decode cX0_undo 1 = .ok (.iconst 0, 1) := dk_3 (dk_at dksX0_undo_0 1 rfl rfl)
theorem dX0_undo_2 : decode cX0_undo 2 = .ok (.aload_n 0, 1) := dk_42 (dk_at dksX0_undo_0 2 rfl rfl)
theorem dX0_undo_3 : decode cX0_undo 3 = .ok (.invokevirtual 110, 3) := dk_182 0 110 (dk_at dksX0_undo_0 3 rfl rfl)
theorem dX0_undo_6 : decode cX0_undo 6 = .ok (.i2l, 1) := dk_133 (dk_at dksX0_undo_0 6 rfl rfl)
theorem dX0_undo_7 : decode cX0_undo 7 = .ok (.lastore, 1) := dk_80 (dk_at dksX0_undo_0 7 rfl rfl)
theorem dX0_undo_8 : decode cX0_undo 8 = .ok (.goto 6, 3) := dk_167 0 6 (dk_at dksX0_undo_0 8 rfl rfl)
theorem dX0_undo_11 : decode cX0_undo 11 = .ok (.astore_n 2, 1) := dk_77 (dk_at dksX0_undo_0 11 rfl rfl)
theorem dX0_undo_12 : decode cX0_undo 12 = .ok (.iconst 1, 1) := dk_4 (dk_at dksX0_undo_0 12 rfl rfl)
theorem dX0_undo_13 : decode cX0_undo 13 = .ok (.ireturn, 1) := dk_172 (dk_at dksX0_undo_0 13 rfl rfl)
theorem dX0_undo_14 : decode cX0_undo 14 = .ok (.iconst 0, 1) := dk_3 (dk_at dksX0_undo_0 14 rfl rfl)
theorem dX0_undo_15 : decode cX0_undo 15 = .ok (.ireturn, 1) := dk_172 (dk_at dksX0_undo_0 15 rfl rfl)
def dkwX0_restoreSnapshot_0 : List UInt8 := [43, 3, 42, 182, 0, 113, 133, 80, 167, 0, 6, 77, 4, 172, 3, 172]
abbrev dktX0_restoreSnapshot_0 : List UInt8 := dkwX0_restoreSnapshot_0 ++ []
theorem dksX0_restoreSnapshot_0 : cX0_restoreSnapshot.data.toList.drop 0 = dktX0_restoreSnapshot_0 := by decide +kernel
theorem dX0_restoreSnapshot_0 : decode cX0_restoreSnapshot 0 = .ok (.aload_n 1, 1) := dk_43 (dk_at dksX0_restoreSnapshot_0 0 rfl rfl)
theorem dX0_restoreSnapshot_1 : decode cX0_restoreSnapshot 1 = .ok (.iconst 0, 1) := dk_3 (dk_at dksX0_restoreSnapshot_0 1 rfl rfl)
theorem dX0_restoreSnapshot_2 : decode cX0_restoreSnapshot 2 = .ok (.aload_n 0, 1) := dk_42 (dk_at dksX0_restoreSnapshot_0 2 rfl rfl)
theorem dX0_restoreSnapshot_3 : decode cX0_restoreSnapshot 3 = .ok (.invokevirtual 113, 3) := dk_182 0 113 (dk_at dksX0_restoreSnapshot_0 3 rfl rfl)
theorem dX0_restoreSnapshot_6 : decode cX0_restoreSnapshot 6 = .ok (.i2l, 1) := dk_133 (dk_at dksX0_restoreSnapshot_0 6 rfl rfl)
theorem dX0_restoreSnapshot_7 : decode cX0_restoreSnapshot 7 = .ok (.lastore, 1) := dk_80 (dk_at dksX0_restoreSnapshot_0 7 rfl rfl)
theorem dX0_restoreSnapshot_8 : decode cX0_restoreSnapshot 8 = .ok (.goto 6, 3) := dk_167 0 6 (dk_at dksX0_restoreSnapshot_0 8 rfl rfl)
theorem dX0_restoreSnapshot_11 : decode cX0_restoreSnapshot 11 = .ok (.astore_n 2, 1) := dk_77 (dk_at dksX0_restoreSnapshot_0 11 rfl rfl)
theorem dX0_restoreSnapshot_12 : decode cX0_restoreSnapshot 12 = .ok (.iconst 1, 1) := dk_4 (dk_at dksX0_restoreSnapshot_0 12 rfl rfl)
theorem dX0_restoreSnapshot_13 : decode cX0_restoreSnapshot 13 = .ok (.ireturn, 1) := dk_172 (dk_at dksX0_restoreSnapshot_0 13 rfl rfl)
theorem dX0_restoreSnapshot_14 : decode cX0_restoreSnapshot 14 = .ok (.iconst 0, 1) := dk_3 (dk_at dksX0_restoreSnapshot_0 14 rfl rfl)
theorem dX0_restoreSnapshot_15 : decode cX0_restoreSnapshot 15 = .ok (.ireturn, 1) := dk_172 (dk_at dksX0_restoreSnapshot_0 15 rfl rfl)
