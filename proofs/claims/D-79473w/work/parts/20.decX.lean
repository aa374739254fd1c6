set_option maxRecDepth 100000
def dkwX1_init_3 : List UInt8 := [89, 42, 183, 0, 65, 181, 0, 66, 177]
abbrev dktX1_init_3 : List UInt8 := dkwX1_init_3 ++ []
def dkwX1_init_2 : List UInt8 := [181, 0, 46, 42, 2, 181, 0, 50, 42, 187, 0, 54, 89, 42, 183, 0, 56, 181, 0, 59, 42, 187, 0, 63]
abbrev dktX1_init_2 : List UInt8 := dkwX1_init_2 ++ dktX1_init_3
def dkwX1_init_1 : List UInt8 := [181, 0, 33, 42, 187, 0, 36, 89, 183, 0, 38, 181, 0, 39, 42, 187, 0, 43, 89, 183, 0, 45]
abbrev dktX1_init_1 : List UInt8 := dkwX1_init_1 ++ dktX1_init_2
def dkwX1_init_0 : List UInt8 := [42, 183, 0, 21, 42, 187, 0, 24, 89, 183, 0, 26, 181, 0, 27, 42, 187, 0, 24, 89, 183, 0, 26]
abbrev dktX1_init_0 : List UInt8 := dkwX1_init_0 ++ dktX1_init_1
theorem dksX1_init_0 : cX1_init.data.toList.drop 0 = dktX1_init_0 := by decide +kernel
theorem dksX1_init_1 : cX1_init.data.toList.drop 23 = dktX1_init_1 := dk_seg dksX1_init_0 23 rfl rfl
theorem dksX1_init_2 : cX1_init.data.toList.drop 45 = dktX1_init_2 := dk_seg dksX1_init_1 22 rfl rfl
theorem dksX1_init_3 : cX1_init.data.toList.drop 69 = dktX1_init_3 := dk_seg dksX1_init_2 24 rfl rfl
theorem dX1_init_0 : decode cX1_init 0 = .ok (.aload_n 0, 1) := dk_42 (dk_at dksX1_init_0 0 rfl rfl)
theorem dX1_init_1 : decode cX1_init 1 = .ok (.invokespecial 21, 3) := dk_183 0 21 (dk_at dksX1_init_0 1 rfl rfl)
theorem dX1_init_4 : decode cX1_init 4 = .ok (.aload_n 0, 1) := dk_42 (dk_at dksX1_init_0 4 rfl rfl)
theorem dX1_init_5 : decode cX1_init 5 = .ok (.new 24, 3) := dk_187 0 24 (dk_at dksX1_init_0 5 rfl rfl)
theorem dX1_init_8 : decode cX1_init 8 = .ok (.dup, 1) := dk_89 (dk_at dksX1_init_0 8 rfl rfl)
theorem dX1_init_9 : decode cX1_init 9 = .ok (.invokespecial 26, 3) := dk_183 0 26 (dk_at dksX1_init_0 9 rfl rfl)
theorem dX1_init_12 : decode cX1_init 12 = .ok (.putfield 27, 3) := dk_181 0 27 (dk_at dksX1_init_0 12 rfl rfl)
theorem dX1_init_15 : decode cX1_init 15 = .ok (.aload_n 0, 1) := dk_42 (dk_at dksX1_init_0 15 rfl rfl)
theorem dX1_init_16 : decode cX1_init 16 = .ok (.new 24, 3) := dk_187 0 24 (dk_at dksX1_init_0 16 rfl rfl)
theorem dX1_init_19 : decode cX1_init 19 = .ok (.dup, 1) := dk_89 (dk_at dksX1_init_0 19 rfl rfl)
theorem dX1_init_20 : decode cX1_init 20 = .ok (.invokespecial 26, 3) := dk_183 0 26 (dk_at dksX1_init_0 20 rfl rfl)
theorem dX1_init_23 : decode cX1_init 23 = .ok (.putfield 33, 3) := dk_181 0 33 (dk_at dksX1_init_1 0 rfl rfl)
theorem dX1_init_26 : decode cX1_init 26 = .ok (.aload_n 0, 1) := dk_42 (dk_at dksX1_init_1 3 rfl rfl)
theorem dX1_init_27 : decode cX1_init 27 = .ok (.new 36, 3) := dk_187 0 36 (dk_at dksX1_init_1 4 rfl rfl)
theorem dX1_init_30 : decode cX1_init 30 = .ok (.dup, 1) := dk_89 (dk_at dksX1_init_1 7 rfl rfl)
theorem dX1_init_31 : decode cX1_init 31 = .ok (.invokespecial 38, 3) := dk_183 0 38 (dk_at dksX1_init_1 8 rfl rfl)
theorem dX1_init_34 : decode cX1_init 34 = .ok (.putfield 39, 3) := dk_181 0 39 (dk_at dksX1_init_1 11 rfl rfl)
theorem dX1_init_37 : decode cX1_init 37 = .ok (.aload_n 0, 1) := dk_42 (dk_at dksX1_init_1 14 rfl rfl)
theorem dX1_init_38 : decode cX1_init 38 = .ok (.new 43, 3) := dk_187 0 43 (dk_at dksX1_init_1 15 rfl rfl)
theorem dX1_init_41 : decode cX1_init 41 = .ok (.dup, 1) := dk_89 (dk_at dksX1_init_1 18 rfl rfl)
theorem dX1_init_42 : decode cX1_init 42 = .ok (.invokespecial 45, 3) := dk_183 0 45 (dk_at dksX1_init_1 19 rfl rfl)
theorem dX1_init_45 : decode cX1_init 45 = .ok (.putfield 46, 3) := dk_181 0 46 (dk_at dksX1_init_2 0 rfl rfl)
theorem dX1_init_48 : decode cX1_init 48 = .ok (.aload_n 0, 1) := dk_42 (dk_at dksX1_init_2 3 rfl rfl)
theorem dX1_init_49 : decode cX1_init 49 = .ok (.iconst (-1), 1) := dk_2 (dk_at dksX1_init_2 4 rfl rfl)
theorem dX1_init_50 : decode cX1_init 50 = .ok (.putfield 50, 3) := dk_181 0 50 (dk_at dksX1_init_2 5 rfl rfl)
theorem dX1_init_53 : decode cX1_init 53 = .ok (.aload_n 0, 1) := dk_42 (dk_at dksX1_init_2 8 rfl rfl)
theorem dX1_init_54 : decode cX1_init 54 = .ok (.new 54, 3) := dk_187 0 54 (dk_at dksX1_init_2 9 rfl rfl)
theorem dX1_init_57 : decode cX1_init 57 = .ok (.dup, 1) := dk_89 (dk_at dksX1_init_2 12 rfl rfl)
theorem dX1_init_58 : decode cX1_init 58 = .ok (.aload_n 0, 1) := dk_42 (dk_at dksX1_init_2 13 rfl rfl)
theorem dX1_init_59 : decode cX1_init 59 = .ok (.invokespecial 56, 3) := dk_183 0 56 (dk_at dksX1_init_2 14 rfl rfl)
theorem dX1_init_62 : decode cX1_init 62 = .ok (.putfield 59, 3) := dk_181 0 59 (dk_at dksX1_init_2 17 rfl rfl)
theorem dX1_init_65 : decode cX1_init 65 = .ok (.aload_n 0, 1) := dk_42 (dk_at dksX1_init_2 20 rfl rfl)
theorem dX1_init_66 : decode cX1_init 66 = .ok (.new 63, 3) := dk_187 0 63 (dk_at dksX1_init_2 21 rfl rfl)
theorem dX1_init_69 : decode cX1_init 69 = .ok (.dup, 1) := dk_89 (dk_at dksX1_init_3 0 rfl rfl)
theorem dX1_init_70 : decode cX1_init 70 = .ok (.aload_n 0, 1) := dk_42 (dk_at dksX1_init_3 1 rfl rfl)
theorem dX1_init_71 : decode cX1_init 71 = .ok (.invokespecial 65, 3) := dk_183 0 65 (dk_at dksX1_init_3 2 rfl rfl)
theorem dX1_init_74 : decode cX1_init 74 = .ok (.putfield 66, 3) := dk_181 0 66 (dk_at dksX1_init_3 5 rfl rfl)
theorem dX1_init_77 : decode cX1_init 77 = .ok (.return_, 1) := dk_177 (dk_at dksX1_init_3 8 rfl rfl)
def dkwX1_day_0 : List UInt8 := [42, 186, 0, 249, 0, 0, 182, 0, 123, 172]
abbrev dktX1_day_0 : List UInt8 := dkwX1_day_0 ++ []
theorem dksX1_day_0 : cX1_day.data.toList.drop 0 = dktX1_day_0 := by decide +kernel
theorem dX1_day_0 : decode cX1_day 0 = .ok (.aload_n 0, 1) := dk_42 (dk_at dksX1_day_0 0 rfl rfl)
theorem dX1_day_1 : decode cX1_day 1 = .ok (.invokedynamic 249, 5) := by decide +kernel
theorem dX1_day_6 : decode cX1_day 6 = .ok (.invokevirtual 123, 3) := dk_182 0 123 (dk_at dksX1_day_0 6 rfl rfl)
theorem dX1_day_9 : decode cX1_day 9 = .ok (.ireturn, 1) := dk_172 (dk_at dksX1_day_0 9 rfl rfl)
theorem dX1_lambda_day_5_0 : decode cX1_lambda_day_5 0 = .ok (.aload_n 0, 1) := by decide +kernel
theorem dX1_lambda_day_5_1 : decode cX1_lambda_day_5 1 = .ok (.invokevirtual 257, 3) := by decide +kernel
theorem dX1_lambda_day_5_4 : decode cX1_lambda_day_5 4 = .ok (.ireturn, 1) := by decide +kernel
def dkwX1_change_1 : List UInt8 := [42, 45, 180, 0, 107, 3, 182, 0, 108, 191]
abbrev dktX1_change_1 : List UInt8 := dkwX1_change_1 ++ []
def dkwX1_change_0 : List UInt8 := [42, 180, 0, 27, 184, 0, 94, 77, 43, 44, 185, 0, 97, 2, 0, 62, 42, 44, 182, 0, 103, 29, 172, 78]
abbrev dktX1_change_0 : List UInt8 := dkwX1_change_0 ++ dktX1_change_1
theorem dksX1_change_0 : cX1_change.data.toList.drop 0 = dktX1_change_0 := by decide +kernel
theorem dksX1_change_1 : cX1_change.data.toList.drop 24 = dktX1_change_1 := dk_seg dksX1_change_0 24 rfl rfl
theorem dX1_change_0 : decode cX1_change 0 = .ok (.aload_n 0, 1) := dk_42 (dk_at dksX1_change_0 0 rfl rfl)
theorem dX1_change_1 : decode cX1_change 1 = .ok (.getfield 27, 3) := dk_180 0 27 (dk_at dksX1_change_0 1 rfl rfl)
theorem dX1_change_4 : decode cX1_change 4 = .ok (.invokestatic 94, 3) := dk_184 0 94 (dk_at dksX1_change_0 4 rfl rfl)
theorem dX1_change_7 : decode cX1_change 7 = .ok (.astore_n 2, 1) := dk_77 (dk_at dksX1_change_0 7 rfl rfl)
theorem dX1_change_8 : decode cX1_change 8 = .ok (.aload_n 1, 1) := dk_43 (dk_at dksX1_change_0 8 rfl rfl)
theorem dX1_change_9 : decode cX1_change 9 = .ok (.aload_n 2, 1) := dk_44 (dk_at dksX1_change_0 9 rfl rfl)
theorem dX1_change_10 : decode cX1_change 10 = .ok (.invokeinterface 97 2, 5) := by decide +kernel
theorem dX1_change_15 : decode cX1_change 15 = .ok (.istore_n 3, 1) := dk_62 (dk_at dksX1_change_0 15 rfl rfl)
theorem dX1_change_16 : decode cX1_change 16 = .ok (.aload_n 0, 1) := dk_42 (dk_at dksX1_change_0 16 rfl rfl)
theorem dX1_change_17 : decode cX1_change 17 = .ok (.aload_n 2, 1) := dk_44 (dk_at dksX1_change_0 17 rfl rfl)
theorem dX1_change_18 : decode cX1_change 18 = .ok (.invokevirtual 103, 3) := dk_182 0 103 (dk_at dksX1_change_0 18 rfl rfl)
theorem dX1_change_21 : decode cX1_change 21 = .ok (.iload_n 3, 1) := dk_29 (dk_at dksX1_change_0 21 rfl rfl)
theorem dX1_change_22 : decode cX1_change 22 = .ok (.ireturn, 1) := dk_172 (dk_at dksX1_change_0 22 rfl rfl)
theorem dX1_change_23 : decode cX1_change 23 = .ok (.astore_n 3, 1) := dk_78 (dk_at dksX1_change_0 23 rfl rfl)
theorem dX1_change_24 : decode cX1_change 24 = .ok (.aload_n 0, 1) := dk_42 (dk_at dksX1_change_1 0 rfl rfl)
theorem dX1_change_25 : decode cX1_change 25 = .ok (.aload_n 3, 1) := dk_45 (dk_at dksX1_change_1 1 rfl rfl)
theorem dX1_change_26 : decode cX1_change 26 = .ok (.getfield 107, 3) := dk_180 0 107 (dk_at dksX1_change_1 2 rfl rfl)
theorem dX1_change_29 : decode cX1_change 29 = .ok (.iconst 0, 1) := dk_3 (dk_at dksX1_change_1 5 rfl rfl)
theorem dX1_change_30 : decode cX1_change 30 = .ok (.invokevirtual 108, 3) := dk_182 0 108 (dk_at dksX1_change_1 6 rfl rfl)
theorem dX1_change_33 : decode cX1_change 33 = .ok (.athrow, 1) := dk_191 (dk_at dksX1_change_1 9 rfl rfl)
def dkwX1_replace_1 : List UInt8 := [180, 0, 39, 42, 180, 0, 27, 182, 0, 81, 42, 43, 181, 0, 27, 177]
abbrev dktX1_replace_1 : List UInt8 := dkwX1_replace_1 ++ []
def dkwX1_replace_0 : List UInt8 := [42, 180, 0, 39, 182, 0, 73, 16, 8, 160, 0, 14, 42, 180, 0, 39, 182, 0, 77, 192, 0, 24, 77, 42]
abbrev dktX1_replace_0 : List UInt8 := dkwX1_replace_0 ++ dktX1_replace_1
theorem dksX1_replace_0 : cX1_replace.data.toList.drop 0 = dktX1_replace_0 := by decide +kernel
theorem dksX1_replace_1 : cX1_replace.data.toList.drop 24 = dktX1_replace_1 := dk_seg dksX1_replace_0 24 rfl rfl
theorem dX1_replace_0 : decode cX1_replace 0 = .ok (.aload_n 0, 1) := dk_42 (dk_at dksX1_replace_0 0 rfl rfl)
theorem dX1_replace_1 : decode cX1_replace 1 = .ok (.getfield 39, 3) := dk_180 0 39 (dk_at dksX1_replace_0 1 rfl rfl)
theorem dX1_replace_4 : decode cX1_replace 4 = .ok (.invokevirtual 73, 3) := dk_182 0 73 (dk_at dksX1_replace_0 4 rfl rfl)
theorem dX1_replace_7 : decode cX1_replace 7 = .ok (.bipush 8, 2) := dk_16 8 (dk_at dksX1_replace_0 7 rfl rfl)
theorem dX1_replace_9 : decode cX1_replace 9 = .ok (.if_icmp .ne 14, 3) := dk_160 0 14 (dk_at dksX1_replace_0 9 rfl rfl)
theorem dX1_replace_12 : decode cX1_replace 12 = .ok (.aload_n 0, 1) := dk_42 (dk_at dksX1_replace_0 12 rfl rfl)
theorem dX1_replace_13 : decode cX1_replace 13 = .ok (.getfield 39, 3) := dk_180 0 39 (dk_at dksX1_replace_0 13 rfl rfl)
theorem dX1_replace_16 : decode cX1_replace 16 = .ok (.invokevirtual 77, 3) := dk_182 0 77 (dk_at dksX1_replace_0 16 rfl rfl)
theorem dX1_replace_19 : decode cX1_replace 19 = .ok (.checkcast 24, 3) := dk_192 0 24 (dk_at dksX1_replace_0 19 rfl rfl)
theorem dX1_replace_22 : decode cX1_replace 22 = .ok (.astore_n 2, 1) := dk_77 (dk_at dksX1_replace_0 22 rfl rfl)
theorem dX1_replace_23 : decode cX1_replace 23 = .ok (.aload_n 0, 1) := dk_42 (dk_at dksX1_replace_0 23 rfl rfl)
theorem dX1_replace_24 : decode cX1_replace 24 = .ok (.getfield 39, 3) := dk_180 0 39 (dk_at dksX1_replace_1 0 rfl rfl)
theorem dX1_replace_27 : decode cX1_replace 27 = .ok (.aload_n 0, 1) := dk_42 (dk_at dksX1_replace_1 3 rfl rfl)
theorem dX1_replace_28 : decode cX1_replace 28 = .ok (.getfield 27, 3) := dk_180 0 27 (dk_at dksX1_replace_1 4 rfl rfl)
theorem dX1_replace_31 : decode cX1_replace 31 = .ok (.invokevirtual 81, 3) := dk_182 0 81 (dk_at dksX1_replace_1 7 rfl rfl)
theorem dX1_replace_34 : decode cX1_replace 34 = .ok (.aload_n 0, 1) := dk_42 (dk_at dksX1_replace_1 10 rfl rfl)
theorem dX1_replace_35 : decode cX1_replace 35 = .ok (.aload_n 1, 1) := dk_43 (dk_at dksX1_replace_1 11 rfl rfl)
theorem dX1_replace_36 : decode cX1_replace 36 = .ok (.putfield 27, 3) := dk_181 0 27 (dk_at dksX1_replace_1 12 rfl rfl)
theorem dX1_replace_39 : decode cX1_replace 39 = .ok (.return_, 1) := dk_177 (dk_at dksX1_replace_1 15 rfl rfl)
def dkwX1_refuse_0 : List UInt8 := [42, 27, 181, 0, 85, 42, 28, 181, 0, 88, 187, 0, 91, 89, 183, 0, 93, 176]
abbrev dktX1_refuse_0 : List UInt8 := dkwX1_refuse_0 ++ []
theorem dksX1_refuse_0 : cX1_refuse.data.toList.drop 0 = dktX1_refuse_0 := by decide +kernel
theorem dX1_refuse_0 : decode cX1_refuse 0 = .ok (.aload_n 0, 1) := dk_42 (dk_at dksX1_refuse_0 0 rfl rfl)
theorem dX1_refuse_1 : decode cX1_refuse 1 = .ok (.iload_n 1, 1) := dk_27 (dk_at dksX1_refuse_0 1 rfl rfl)
theorem dX1_refuse_2 : decode cX1_refuse 2 = .ok (.putfield 85, 3) := dk_181 0 85 (dk_at dksX1_refuse_0 2 rfl rfl)
theorem dX1_refuse_5 : decode cX1_refuse 5 = .ok (.aload_n 0, 1) := dk_42 (dk_at dksX1_refuse_0 5 rfl rfl)
theorem dX1_refuse_6 : decode cX1_refuse 6 = .ok (.iload_n 2, 1) := dk_28 (dk_at dksX1_refuse_0 6 rfl rfl)
theorem dX1_refuse_7 : decode cX1_refuse 7 = .ok (.putfield 88, 3) := dk_181 0 88 (dk_at dksX1_refuse_0 7 rfl rfl)
theorem dX1_refuse_10 : decode cX1_refuse 10 = .ok (.new 91, 3) := dk_187 0 91 (dk_at dksX1_refuse_0 10 rfl rfl)
theorem dX1_refuse_13 : decode cX1_refuse 13 = .ok (.dup, 1) := dk_89 (dk_at dksX1_refuse_0 13 rfl rfl)
theorem dX1_refuse_14 : decode cX1_refuse 14 = .ok (.invokespecial 93, 3) := dk_183 0 93 (dk_at dksX1_refuse_0 14 rfl rfl)
theorem dX1_refuse_17 : decode cX1_refuse 17 = .ok (.areturn, 1) := dk_176 (dk_at dksX1_refuse_0 17 rfl rfl)
def dkwX1_water_0 : List UInt8 := [42, 180, 0, 27, 42, 180, 0, 27, 180, 0, 164, 182, 1, 51, 172]
abbrev dktX1_water_0 : List UInt8 := dkwX1_water_0 ++ []
theorem dksX1_water_0 : cX1_water.data.toList.drop 0 = dktX1_water_0 := by decide +kernel
theorem dX1_water_0 : decode cX1_water 0 = .ok (.aload_n 0, 1) := dk_42 (dk_at dksX1_water_0 0 rfl rfl)
theorem dX1_water_1 : decode cX1_water 1 = .ok (.getfield 27, 3) := dk_180 0 27 (dk_at dksX1_water_0 1 rfl rfl)
theorem dX1_water_4 : decode cX1_water 4 = .ok (.aload_n 0, 1) := dk_42 (dk_at dksX1_water_0 4 rfl rfl)
theorem dX1_water_5 : decode cX1_water 5 = .ok (.getfield 27, 3) := dk_180 0 27 (dk_at dksX1_water_0 5 rfl rfl)
theorem dX1_water_8 : decode cX1_water 8 = .ok (.getfield 164, 3) := dk_180 0 164 (dk_at dksX1_water_0 8 rfl rfl)
theorem dX1_water_11 : decode cX1_water 11 = .ok (.invokevirtual 307, 3) := dk_182 1 51 (dk_at dksX1_water_0 11 rfl rfl)
theorem dX1_water_14 : decode cX1_water 14 = .ok (.ireturn, 1) := dk_172 (dk_at dksX1_water_0 14 rfl rfl)
def dkwX1_waterAgain_0 : List UInt8 := [42, 180, 0, 27, 180, 1, 55, 42, 180, 0, 27, 180, 1, 58, 100, 42, 180, 0, 27, 180, 1, 61, 100, 172]
abbrev dktX1_waterAgain_0 : List UInt8 := dkwX1_waterAgain_0 ++ []
theorem dksX1_waterAgain_0 : cX1_waterAgain.data.toList.drop 0 = dktX1_waterAgain_0 := by decide +kernel
theorem dX1_waterAgain_0 : decode cX1_waterAgain 0 = .ok (.aload_n 0, 1) := dk_42 (dk_at dksX1_waterAgain_0 0 rfl rfl)
theorem dX1_waterAgain_1 : decode cX1_waterAgain 1 = .ok (.getfield 27, 3) := dk_180 0 27 (dk_at dksX1_waterAgain_0 1 rfl rfl)
theorem dX1_waterAgain_4 : decode cX1_waterAgain 4 = .ok (.getfield 311, 3) := dk_180 1 55 (dk_at dksX1_waterAgain_0 4 rfl rfl)
theorem dX1_waterAgain_7 : decode cX1_waterAgain 7 = .ok (.aload_n 0, 1) := dk_42 (dk_at dksX1_waterAgain_0 7 rfl rfl)
theorem dX1_waterAgain_8 : decode cX1_waterAgain 8 = .ok (.getfield 27, 3) := dk_180 0 27 (dk_at dksX1_waterAgain_0 8 rfl rfl)
theorem dX1_waterAgain_11 : decode cX1_waterAgain 11 = .ok (.getfield 314, 3) := dk_180 1 58 (dk_at dksX1_waterAgain_0 11 rfl rfl)
theorem dX1_waterAgain_14 : decode cX1_waterAgain 14 = .ok (.isub, 1) := dk_100 (dk_at dksX1_waterAgain_0 14 rfl rfl)
theorem dX1_waterAgain_15 : decode cX1_waterAgain 15 = .ok (.aload_n 0, 1) := dk_42 (dk_at dksX1_waterAgain_0 15 rfl rfl)
theorem dX1_waterAgain_16 : decode cX1_waterAgain 16 = .ok (.getfield 27, 3) := dk_180 0 27 (dk_at dksX1_waterAgain_0 16 rfl rfl)
theorem dX1_waterAgain_19 : decode cX1_waterAgain 19 = .ok (.getfield 317, 3) := dk_180 1 61 (dk_at dksX1_waterAgain_0 19 rfl rfl)
theorem dX1_waterAgain_22 : decode cX1_waterAgain 22 = .ok (.isub, 1) := dk_100 (dk_at dksX1_waterAgain_0 22 rfl rfl)
theorem dX1_waterAgain_23 : decode cX1_waterAgain 23 = .ok (.ireturn, 1) := dk_172 (dk_at dksX1_waterAgain_0 23 rfl rfl)
def dkwX1_saveSnapshot_0 : List UInt8 := [42, 42, 180, 0, 27, 184, 0, 94, 181, 1, 127, 42, 180, 1, 127, 180, 1, 20, 172]
abbrev dktX1_saveSnapshot_0 : List UInt8 := dkwX1_saveSnapshot_0 ++ []
theorem dksX1_saveSnapshot_0 : cX1_saveSnapshot.data.toList.drop 0 = dktX1_saveSnapshot_0 := by decide +kernel
theorem dX1_saveSnapshot_0 : decode cX1_saveSnapshot 0 = .ok (.aload_n 0, 1) := dk_42 (dk_at dksX1_saveSnapshot_0 0 rfl rfl)
theorem dX1_saveSnapshot_1 : decode cX1_saveSnapshot 1 = .ok (.aload_n 0, 1) := dk_42 (dk_at dksX1_saveSnapshot_0 1 rfl rfl)
theorem dX1_saveSnapshot_2 : decode cX1_saveSnapshot 2 = .ok (.getfield 27, 3) := dk_180 0 27 (dk_at dksX1_saveSnapshot_0 2 rfl rfl)
theorem dX1_saveSnapshot_5 : decode cX1_saveSnapshot 5 = .ok (.invokestatic 94, 3) := dk_184 0 94 (dk_at dksX1_saveSnapshot_0 5 rfl rfl)
theorem dX1_saveSnapshot_8 : decode cX1_saveSnapshot 8 = .ok (.putfield 383, 3) := dk_181 1 127 (dk_at dksX1_saveSnapshot_0 8 rfl rfl)
theorem dX1_saveSnapshot_11 : decode cX1_saveSnapshot 11 = .ok (.aload_n 0, 1) := dk_42 (dk_at dksX1_saveSnapshot_0 11 rfl rfl)
theorem dX1_saveSnapshot_12 : decode cX1_saveSnapshot 12 = .ok (.getfield 383, 3) := dk_180 1 127 (dk_at dksX1_saveSnapshot_0 12 rfl rfl)
theorem dX1_saveSnapshot_15 : decode cX1_saveSnapshot 15 = .ok (.getfield 276, 3) := dk_180 1 20 (dk_at dksX1_saveSnapshot_0 15 rfl rfl)
theorem dX1_saveSnapshot_18 : decode cX1_saveSnapshot 18 = .ok (.ireturn, 1) := dk_172 (dk_at dksX1_saveSnapshot_0 18 rfl rfl)
def dkwX1_pool_2 : List UInt8 := [182, 0, 123, 172]
abbrev dktX1_pool_2 : List UInt8 := dkwX1_pool_2 ++ []
def dkwX1_pool_1 : List UInt8 := [184, 0, 112, 153, 0, 7, 4, 167, 0, 4, 3, 184, 0, 116, 42, 27, 28, 29, 186, 0, 120, 0, 0]
abbrev dktX1_pool_1 : List UInt8 := dkwX1_pool_1 ++ dktX1_pool_2
def dkwX1_pool_0 : List UInt8 := [27, 4, 16, 9, 184, 0, 112, 153, 0, 27, 28, 5, 16, 20, 184, 0, 112, 153, 0, 17, 29, 3, 16, 9]
abbrev dktX1_pool_0 : List UInt8 := dkwX1_pool_0 ++ dktX1_pool_1
theorem dksX1_pool_0 : cX1_pool.data.toList.drop 0 = dktX1_pool_0 := by decide +kernel
theorem dksX1_pool_1 : cX1_pool.data.toList.drop 24 = dktX1_pool_1 := dk_seg dksX1_pool_0 24 rfl rfl
theorem dksX1_pool_2 : cX1_pool.data.toList.drop 47 = dktX1_pool_2 := dk_seg dksX1_pool_1 23 rfl rfl
theorem dX1_pool_0 : decode cX1_pool 0 = .ok (.iload_n 1, 1) := dk_27 (dk_at dksX1_pool_0 0 rfl rfl)
theorem dX1_pool_1 : decode cX1_pool 1 = .ok (.iconst 1, 1) := dk_4 (dk_at dksX1_pool_0 1 rfl rfl)
theorem dX1_pool_2 : decode cX1_pool 2 = .ok (.bipush 9, 2) := dk_16 9 (dk_at dksX1_pool_0 2 rfl rfl)
theorem dX1_pool_4 : decode cX1_pool 4 = .ok (.invokestatic 112, 3) := dk_184 0 112 (dk_at dksX1_pool_0 4 rfl rfl)
theorem dX1_pool_7 : decode cX1_pool 7 = .ok (.ifCond .eq 27, 3) := dk_153 0 27 (dk_at dksX1_pool_0 7 rfl rfl)
theorem dX1_pool_10 : decode cX1_pool 10 = .ok (.iload_n 2, 1) := dk_28 (dk_at dksX1_pool_0 10 rfl rfl)
theorem dX1_pool_11 : decode cX1_pool 11 = .ok (.iconst 2, 1) := dk_5 (dk_at dksX1_pool_0 11 rfl rfl)
theorem dX1_pool_12 : decode cX1_pool 12 = .ok (.bipush 20, 2) := dk_16 20 (dk_at dksX1_pool_0 12 rfl rfl)
theorem dX1_pool_14 : decode cX1_pool 14 = .ok (.invokestatic 112, 3) := dk_184 0 112 (dk_at dksX1_pool_0 14 rfl rfl)
theorem dX1_pool_17 : decode cX1_pool 17 = .ok (.ifCond .eq 17, 3) := dk_153 0 17 (dk_at dksX1_pool_0 17 rfl rfl)
theorem dX1_pool_20 : decode cX1_pool 20 = .ok (.iload_n 3, 1) := dk_29 (dk_at dksX1_pool_0 20 rfl rfl)
theorem dX1_pool_21 : decode cX1_pool 21 = .ok (.iconst 0, 1) := dk_3 (dk_at dksX1_pool_0 21 rfl rfl)
theorem dX1_pool_22 : decode cX1_pool 22 = .ok (.bipush 9, 2) := dk_16 9 (dk_at dksX1_pool_0 22 rfl rfl)
theorem dX1_pool_24 : decode cX1_pool 24 = .ok (.invokestatic 112, 3) := dk_184 0 112 (dk_at dksX1_pool_1 0 rfl rfl)
theorem dX1_pool_27 : decode cX1_pool 27 = .ok (.ifCond .eq 7, 3) := dk_153 0 7 (dk_at dksX1_pool_1 3 rfl rfl)
theorem dX1_pool_30 : decode cX1_pool 30 = .ok (.iconst 1, 1) := dk_4 (dk_at dksX1_pool_1 6 rfl rfl)
theorem dX1_pool_31 : decode cX1_pool 31 = .ok (.goto 4, 3) := dk_167 0 4 (dk_at dksX1_pool_1 7 rfl rfl)
theorem dX1_pool_34 : decode cX1_pool 34 = .ok (.iconst 0, 1) := dk_3 (dk_at dksX1_pool_1 10 rfl rfl)
theorem dX1_pool_35 : decode cX1_pool 35 = .ok (.invokestatic 116, 3) := dk_184 0 116 (dk_at dksX1_pool_1 11 rfl rfl)
theorem dX1_pool_38 : decode cX1_pool 38 = .ok (.aload_n 0, 1) := dk_42 (dk_at dksX1_pool_1 14 rfl rfl)
theorem dX1_pool_39 : decode cX1_pool 39 = .ok (.iload_n 1, 1) := dk_27 (dk_at dksX1_pool_1 15 rfl rfl)
theorem dX1_pool_40 : decode cX1_pool 40 = .ok (.iload_n 2, 1) := dk_28 (dk_at dksX1_pool_1 16 rfl rfl)
theorem dX1_pool_41 : decode cX1_pool 41 = .ok (.iload_n 3, 1) := dk_29 (dk_at dksX1_pool_1 17 rfl rfl)
theorem dX1_pool_42 : decode cX1_pool 42 = .ok (.invokedynamic 120, 5) := by decide +kernel
theorem dX1_pool_47 : decode cX1_pool 47 = .ok (.invokevirtual 123, 3) := dk_182 0 123 (dk_at dksX1_pool_2 0 rfl rfl)
theorem dX1_pool_50 : decode cX1_pool 50 = .ok (.ireturn, 1) := dk_172 (dk_at dksX1_pool_2 3 rfl rfl)
def dkwX1_lambda_pool_0_0 : List UInt8 := [45, 26, 27, 28, 182, 1, 163, 172]
abbrev dktX1_lambda_pool_0_0 : List UInt8 := dkwX1_lambda_pool_0_0 ++ []
theorem dksX1_lambda_pool_0_0 : cX1_lambda_pool_0.data.toList.drop 0 = dktX1_lambda_pool_0_0 := by decide +kernel
theorem dX1_lambda_pool_0_0 : decode cX1_lambda_pool_0 0 = .ok (.aload_n 3, 1) := dk_45 (dk_at dksX1_lambda_pool_0_0 0 rfl rfl)
theorem dX1_lambda_pool_0_1 : decode cX1_lambda_pool_0 1 = .ok (.iload_n 0, 1) := dk_26 (dk_at dksX1_lambda_pool_0_0 1 rfl rfl)
theorem dX1_lambda_pool_0_2 : decode cX1_lambda_pool_0 2 = .ok (.iload_n 1, 1) := dk_27 (dk_at dksX1_lambda_pool_0_0 2 rfl rfl)
theorem dX1_lambda_pool_0_3 : decode cX1_lambda_pool_0 3 = .ok (.iload_n 2, 1) := dk_28 (dk_at dksX1_lambda_pool_0_0 3 rfl rfl)
theorem dX1_lambda_pool_0_4 : decode cX1_lambda_pool_0 4 = .ok (.invokevirtual 419, 3) := dk_182 1 163 (dk_at dksX1_lambda_pool_0_0 4 rfl rfl)
theorem dX1_lambda_pool_0_7 : decode cX1_lambda_pool_0 7 = .ok (.ireturn, 1) := dk_172 (dk_at dksX1_lambda_pool_0_0 7 rfl rfl)
def dkwX1_boards_0 : List UInt8 := [42, 27, 28, 186, 0, 127, 0, 0, 182, 0, 123, 172]
abbrev dktX1_boards_0 : List UInt8 := dkwX1_boards_0 ++ []
theorem dksX1_boards_0 : cX1_boards.data.toList.drop 0 = dktX1_boards_0 := by decide +kernel
theorem dX1_boards_0 : decode cX1_boards 0 = .ok (.aload_n 0, 1) := dk_42 (dk_at dksX1_boards_0 0 rfl rfl)
theorem dX1_boards_1 : decode cX1_boards 1 = .ok (.iload_n 1, 1) := dk_27 (dk_at dksX1_boards_0 1 rfl rfl)
theorem dX1_boards_2 : decode cX1_boards 2 = .ok (.iload_n 2, 1) := dk_28 (dk_at dksX1_boards_0 2 rfl rfl)
theorem dX1_boards_3 : decode cX1_boards 3 = .ok (.invokedynamic 127, 5) := by decide +kernel
theorem dX1_boards_8 : decode cX1_boards 8 = .ok (.invokevirtual 123, 3) := dk_182 0 123 (dk_at dksX1_boards_0 8 rfl rfl)
theorem dX1_boards_11 : decode cX1_boards 11 = .ok (.ireturn, 1) := dk_172 (dk_at dksX1_boards_0 11 rfl rfl)
def dkwX1_lambda_boards_1_0 : List UInt8 := [44, 44, 26, 182, 0, 133, 27, 184, 1, 157, 182, 1, 160, 172]
abbrev dktX1_lambda_boards_1_0 : List UInt8 := dkwX1_lambda_boards_1_0 ++ []
theorem dksX1_lambda_boards_1_0 : cX1_lambda_boards_1.data.toList.drop 0 = dktX1_lambda_boards_1_0 := by decide +kernel
theorem dX1_lambda_boards_1_0 : decode cX1_lambda_boards_1 0 = .ok (.aload_n 2, 1) := dk_44 (dk_at dksX1_lambda_boards_1_0 0 rfl rfl)
theorem dX1_lambda_boards_1_1 : decode cX1_lambda_boards_1 1 = .ok (.aload_n 2, 1) := dk_44 (dk_at dksX1_lambda_boards_1_0 1 rfl rfl)
theorem dX1_lambda_boards_1_2 : decode cX1_lambda_boards_1 2 = .ok (.iload_n 0, 1) := dk_26 (dk_at dksX1_lambda_boards_1_0 2 rfl rfl)
theorem dX1_lambda_boards_1_3 : decode cX1_lambda_boards_1 3 = .ok (.invokevirtual 133, 3) := dk_182 0 133 (dk_at dksX1_lambda_boards_1_0 3 rfl rfl)
theorem dX1_lambda_boards_1_6 : decode cX1_lambda_boards_1 6 = .ok (.iload_n 1, 1) := dk_27 (dk_at dksX1_lambda_boards_1_0 6 rfl rfl)
theorem dX1_lambda_boards_1_7 : decode cX1_lambda_boards_1 7 = .ok (.invokestatic 413, 3) := dk_184 1 157 (dk_at dksX1_lambda_boards_1_0 7 rfl rfl)
theorem dX1_lambda_boards_1_10 : decode cX1_lambda_boards_1 10 = .ok (.invokevirtual 416, 3) := dk_182 1 160 (dk_at dksX1_lambda_boards_1_0 10 rfl rfl)
theorem dX1_lambda_boards_1_13 : decode cX1_lambda_boards_1 13 = .ok (.ireturn, 1) := dk_172 (dk_at dksX1_lambda_boards_1_0 13 rfl rfl)
def dkwX1_weir_2 : List UInt8 := [182, 0, 103, 29, 172]
abbrev dktX1_weir_2 : List UInt8 := dkwX1_weir_2 ++ []
def dkwX1_weir_1 : List UInt8 := [184, 0, 94, 58, 4, 25, 4, 25, 4, 180, 0, 130, 27, 28, 184, 0, 141, 181, 0, 130, 42, 25, 4]
abbrev dktX1_weir_1 : List UInt8 := dkwX1_weir_1 ++ dktX1_weir_2
def dkwX1_weir_0 : List UInt8 := [42, 180, 0, 27, 180, 0, 130, 42, 180, 0, 27, 27, 182, 0, 133, 184, 0, 137, 62, 42, 180, 0, 27]
abbrev dktX1_weir_0 : List UInt8 := dkwX1_weir_0 ++ dktX1_weir_1
theorem dksX1_weir_0 : cX1_weir.data.toList.drop 0 = dktX1_weir_0 := by decide +kernel
theorem dksX1_weir_1 : cX1_weir.data.toList.drop 23 = dktX1_weir_1 := dk_seg dksX1_weir_0 23 rfl rfl
theorem dksX1_weir_2 : cX1_weir.data.toList.drop 46 = dktX1_weir_2 := dk_seg dksX1_weir_1 23 rfl rfl
theorem dX1_weir_0 : decode cX1_weir 0 = .ok (.aload_n 0, 1) := dk_42 (dk_at dksX1_weir_0 0 rfl rfl)
theorem dX1_weir_1 : decode cX1_weir 1 = .ok (.getfield 27, 3) := dk_180 0 27 (dk_at dksX1_weir_0 1 rfl rfl)
theorem dX1_weir_4 : decode cX1_weir 4 = .ok (.getfield 130, 3) := dk_180 0 130 (dk_at dksX1_weir_0 4 rfl rfl)
theorem dX1_weir_7 : decode cX1_weir 7 = .ok (.aload_n 0, 1) := dk_42 (dk_at dksX1_weir_0 7 rfl rfl)
theorem dX1_weir_8 : decode cX1_weir 8 = .ok (.getfield 27, 3) := dk_180 0 27 (dk_at dksX1_weir_0 8 rfl rfl)
theorem dX1_weir_11 : decode cX1_weir 11 = .ok (.iload_n 1, 1) := dk_27 (dk_at dksX1_weir_0 11 rfl rfl)
theorem dX1_weir_12 : decode cX1_weir 12 = .ok (.invokevirtual 133, 3) := dk_182 0 133 (dk_at dksX1_weir_0 12 rfl rfl)
theorem dX1_weir_15 : decode cX1_weir 15 = .ok (.invokestatic 137, 3) := dk_184 0 137 (dk_at dksX1_weir_0 15 rfl rfl)
theorem dX1_weir_18 : decode cX1_weir 18 = .ok (.istore_n 3, 1) := dk_62 (dk_at dksX1_weir_0 18 rfl rfl)
theorem dX1_weir_19 : decode cX1_weir 19 = .ok (.aload_n 0, 1) := dk_42 (dk_at dksX1_weir_0 19 rfl rfl)
theorem dX1_weir_20 : decode cX1_weir 20 = .ok (.getfield 27, 3) := dk_180 0 27 (dk_at dksX1_weir_0 20 rfl rfl)
theorem dX1_weir_23 : decode cX1_weir 23 = .ok (.invokestatic 94, 3) := dk_184 0 94 (dk_at dksX1_weir_1 0 rfl rfl)
theorem dX1_weir_26 : decode cX1_weir 26 = .ok (.astore 4, 2) := dk_58 4 (dk_at dksX1_weir_1 3 rfl rfl)
theorem dX1_weir_28 : decode cX1_weir 28 = .ok (.aload 4, 2) := dk_25 4 (dk_at dksX1_weir_1 5 rfl rfl)
theorem dX1_weir_30 : decode cX1_weir 30 = .ok (.aload 4, 2) := dk_25 4 (dk_at dksX1_weir_1 7 rfl rfl)
theorem dX1_weir_32 : decode cX1_weir 32 = .ok (.getfield 130, 3) := dk_180 0 130 (dk_at dksX1_weir_1 9 rfl rfl)
theorem dX1_weir_35 : decode cX1_weir 35 = .ok (.iload_n 1, 1) := dk_27 (dk_at dksX1_weir_1 12 rfl rfl)
theorem dX1_weir_36 : decode cX1_weir 36 = .ok (.iload_n 2, 1) := dk_28 (dk_at dksX1_weir_1 13 rfl rfl)
theorem dX1_weir_37 : decode cX1_weir 37 = .ok (.invokestatic 141, 3) := dk_184 0 141 (dk_at dksX1_weir_1 14 rfl rfl)
theorem dX1_weir_40 : decode cX1_weir 40 = .ok (.putfield 130, 3) := dk_181 0 130 (dk_at dksX1_weir_1 17 rfl rfl)
theorem dX1_weir_43 : decode cX1_weir 43 = .ok (.aload_n 0, 1) := dk_42 (dk_at dksX1_weir_1 20 rfl rfl)
theorem dX1_weir_44 : decode cX1_weir 44 = .ok (.aload 4, 2) := dk_25 4 (dk_at dksX1_weir_1 21 rfl rfl)
theorem dX1_weir_46 : decode cX1_weir 46 = .ok (.invokevirtual 103, 3) := dk_182 0 103 (dk_at dksX1_weir_2 0 rfl rfl)
theorem dX1_weir_49 : decode cX1_weir 49 = .ok (.iload_n 3, 1) := dk_29 (dk_at dksX1_weir_2 3 rfl rfl)
theorem dX1_weir_50 : decode cX1_weir 50 = .ok (.ireturn, 1) := dk_172 (dk_at dksX1_weir_2 4 rfl rfl)
def dkwX1_latch_0 : List UInt8 := [42, 27, 28, 29, 186, 0, 145, 0, 0, 182, 0, 123, 4, 160, 0, 7, 4, 167, 0, 4, 3, 172]
abbrev dktX1_latch_0 : List UInt8 := dkwX1_latch_0 ++ []
theorem dksX1_latch_0 : cX1_latch.data.toList.drop 0 = dktX1_latch_0 := by decide +kernel
theorem dX1_latch_0 : decode cX1_latch 0 = .ok (.aload_n 0, 1) := dk_42 (dk_at dksX1_latch_0 0 rfl rfl)
theorem dX1_latch_1 : decode cX1_latch 1 = .ok (.iload_n 1, 1) := dk_27 (dk_at dksX1_latch_0 1 rfl rfl)
theorem dX1_latch_2 : decode cX1_latch 2 = .ok (.iload_n 2, 1) := dk_28 (dk_at dksX1_latch_0 2 rfl rfl)
theorem dX1_latch_3 : decode cX1_latch 3 = .ok (.iload_n 3, 1) := dk_29 (dk_at dksX1_latch_0 3 rfl rfl)
theorem dX1_latch_4 : decode cX1_latch 4 = .ok (.invokedynamic 145, 5) := by decide +kernel
theorem dX1_latch_9 : decode cX1_latch 9 = .ok (.invokevirtual 123, 3) := dk_182 0 123 (dk_at dksX1_latch_0 9 rfl rfl)
theorem dX1_latch_12 : decode cX1_latch 12 = .ok (.iconst 1, 1) := dk_4 (dk_at dksX1_latch_0 12 rfl rfl)
theorem dX1_latch_13 : decode cX1_latch 13 = .ok (.if_icmp .ne 7, 3) := dk_160 0 7 (dk_at dksX1_latch_0 13 rfl rfl)
theorem dX1_latch_16 : decode cX1_latch 16 = .ok (.iconst 1, 1) := dk_4 (dk_at dksX1_latch_0 16 rfl rfl)
theorem dX1_latch_17 : decode cX1_latch 17 = .ok (.goto 4, 3) := dk_167 0 4 (dk_at dksX1_latch_0 17 rfl rfl)
theorem dX1_latch_20 : decode cX1_latch 20 = .ok (.iconst 0, 1) := dk_3 (dk_at dksX1_latch_0 20 rfl rfl)
theorem dX1_latch_21 : decode cX1_latch 21 = .ok (.ireturn, 1) := dk_172 (dk_at dksX1_latch_0 21 rfl rfl)
def dkwX1_lambda_latch_2_0 : List UInt8 := [45, 45, 26, 182, 0, 133, 27, 28, 182, 1, 153, 153, 0, 7, 4, 167, 0, 4, 3, 172]
abbrev dktX1_lambda_latch_2_0 : List UInt8 := dkwX1_lambda_latch_2_0 ++ []
theorem dksX1_lambda_latch_2_0 : cX1_lambda_latch_2.data.toList.drop 0 = dktX1_lambda_latch_2_0 := by decide +kernel
theorem dX1_lambda_latch_2_0 : decode cX1_lambda_latch_2 0 = .ok (.aload_n 3, 1) := dk_45 (dk_at dksX1_lambda_latch_2_0 0 rfl rfl)
theorem dX1_lambda_latch_2_1 : decode cX1_lambda_latch_2 1 = .ok (.aload_n 3, 1) := dk_45 (dk_at dksX1_lambda_latch_2_0 1 rfl rfl)
theorem dX1_lambda_latch_2_2 : decode cX1_lambda_latch_2 2 = .ok (.iload_n 0, 1) := dk_26 (dk_at dksX1_lambda_latch_2_0 2 rfl rfl)
theorem dX1_lambda_latch_2_3 : decode cX1_lambda_latch_2 3 = .ok (.invokevirtual 133, 3) := dk_182 0 133 (dk_at dksX1_lambda_latch_2_0 3 rfl rfl)
theorem dX1_lambda_latch_2_6 : decode cX1_lambda_latch_2 6 = .ok (.iload_n 1, 1) := dk_27 (dk_at dksX1_lambda_latch_2_0 6 rfl rfl)
theorem dX1_lambda_latch_2_7 : decode cX1_lambda_latch_2 7 = .ok (.iload_n 2, 1) := dk_28 (dk_at dksX1_lambda_latch_2_0 7 rfl rfl)
theorem dX1_lambda_latch_2_8 : decode cX1_lambda_latch_2 8 = .ok (.invokevirtual 409, 3) := dk_182 1 153 (dk_at dksX1_lambda_latch_2_0 8 rfl rfl)
theorem dX1_lambda_latch_2_11 : decode cX1_lambda_latch_2 11 = .ok (.ifCond .eq 7, 3) := dk_153 0 7 (dk_at dksX1_lambda_latch_2_0 11 rfl rfl)
theorem dX1_lambda_latch_2_14 : decode cX1_lambda_latch_2 14 = .ok (.iconst 1, 1) := dk_4 (dk_at dksX1_lambda_latch_2_0 14 rfl rfl)
theorem dX1_lambda_latch_2_15 : decode cX1_lambda_latch_2 15 = .ok (.goto 4, 3) := dk_167 0 4 (dk_at dksX1_lambda_latch_2_0 15 rfl rfl)
theorem dX1_lambda_latch_2_18 : decode cX1_lambda_latch_2 18 = .ok (.iconst 0, 1) := dk_3 (dk_at dksX1_lambda_latch_2_0 18 rfl rfl)
theorem dX1_lambda_latch_2_19 : decode cX1_lambda_latch_2 19 = .ok (.ireturn, 1) := dk_172 (dk_at dksX1_lambda_latch_2_0 19 rfl rfl)
def dkwX1_frogs_2 : List UInt8 := [25, 4, 182, 0, 103, 29, 172]
abbrev dktX1_frogs_2 : List UInt8 := dkwX1_frogs_2 ++ []
def dkwX1_frogs_1 : List UInt8 := [184, 0, 112, 184, 0, 116, 42, 180, 0, 27, 184, 0, 94, 58, 4, 25, 4, 180, 0, 148, 27, 28, 79, 42]
abbrev dktX1_frogs_1 : List UInt8 := dkwX1_frogs_1 ++ dktX1_frogs_2
def dkwX1_frogs_0 : List UInt8 := [42, 180, 0, 27, 180, 0, 148, 42, 180, 0, 27, 27, 182, 0, 133, 46, 62, 28, 3, 17, 3, 231]
abbrev dktX1_frogs_0 : List UInt8 := dkwX1_frogs_0 ++ dktX1_frogs_1
theorem dksX1_frogs_0 : cX1_frogs.data.toList.drop 0 = dktX1_frogs_0 := by decide +kernel
theorem dksX1_frogs_1 : cX1_frogs.data.toList.drop 22 = dktX1_frogs_1 := dk_seg dksX1_frogs_0 22 rfl rfl
theorem dksX1_frogs_2 : cX1_frogs.data.toList.drop 46 = dktX1_frogs_2 := dk_seg dksX1_frogs_1 24 rfl rfl
theorem dX1_frogs_0 : decode cX1_frogs 0 = .ok (.aload_n 0, 1) := dk_42 (dk_at dksX1_frogs_0 0 rfl rfl)
theorem dX1_frogs_1 : decode cX1_frogs 1 = .ok (.getfield 27, 3) := dk_180 0 27 (dk_at dksX1_frogs_0 1 rfl rfl)
theorem dX1_frogs_4 : decode cX1_frogs 4 = .ok (.getfield 148, 3) := dk_180 0 148 (dk_at dksX1_frogs_0 4 rfl rfl)
theorem dX1_frogs_7 : decode cX1_frogs 7 = .ok (.aload_n 0, 1) := dk_42 (dk_at dksX1_frogs_0 7 rfl rfl)
theorem dX1_frogs_8 : decode cX1_frogs 8 = .ok (.getfield 27, 3) := dk_180 0 27 (dk_at dksX1_frogs_0 8 rfl rfl)
theorem dX1_frogs_11 : decode cX1_frogs 11 = .ok (.iload_n 1, 1) := dk_27 (dk_at dksX1_frogs_0 11 rfl rfl)
theorem dX1_frogs_12 : decode cX1_frogs 12 = .ok (.invokevirtual 133, 3) := dk_182 0 133 (dk_at dksX1_frogs_0 12 rfl rfl)
theorem dX1_frogs_15 : decode cX1_frogs 15 = .ok (.iaload, 1) := dk_46 (dk_at dksX1_frogs_0 15 rfl rfl)
theorem dX1_frogs_16 : decode cX1_frogs 16 = .ok (.istore_n 3, 1) := dk_62 (dk_at dksX1_frogs_0 16 rfl rfl)
theorem dX1_frogs_17 : decode cX1_frogs 17 = .ok (.iload_n 2, 1) := dk_28 (dk_at dksX1_frogs_0 17 rfl rfl)
theorem dX1_frogs_18 : decode cX1_frogs 18 = .ok (.iconst 0, 1) := dk_3 (dk_at dksX1_frogs_0 18 rfl rfl)
theorem dX1_frogs_19 : decode cX1_frogs 19 = .ok (.sipush 999, 3) := dk_17 3 231 (dk_at dksX1_frogs_0 19 rfl rfl)
theorem dX1_frogs_22 : decode cX1_frogs 22 = .ok (.invokestatic 112, 3) := dk_184 0 112 (dk_at dksX1_frogs_1 0 rfl rfl)
theorem dX1_frogs_25 : decode cX1_frogs 25 = .ok (.invokestatic 116, 3) := dk_184 0 116 (dk_at dksX1_frogs_1 3 rfl rfl)
theorem dX1_frogs_28 : decode cX1_frogs 28 = .ok (.aload_n 0, 1) := dk_42 (dk_at dksX1_frogs_1 6 rfl rfl)
theorem dX1_frogs_29 : decode cX1_frogs 29 = .ok (.getfield 27, 3) := dk_180 0 27 (dk_at dksX1_frogs_1 7 rfl rfl)
theorem dX1_frogs_32 : decode cX1_frogs 32 = .ok (.invokestatic 94, 3) := dk_184 0 94 (dk_at dksX1_frogs_1 10 rfl rfl)
theorem dX1_frogs_35 : decode cX1_frogs 35 = .ok (.astore 4, 2) := dk_58 4 (dk_at dksX1_frogs_1 13 rfl rfl)
theorem dX1_frogs_37 : decode cX1_frogs 37 = .ok (.aload 4, 2) := dk_25 4 (dk_at dksX1_frogs_1 15 rfl rfl)
theorem dX1_frogs_39 : decode cX1_frogs 39 = .ok (.getfield 148, 3) := dk_180 0 148 (dk_at dksX1_frogs_1 17 rfl rfl)
theorem dX1_frogs_42 : decode cX1_frogs 42 = .ok (.iload_n 1, 1) := dk_27 (dk_at dksX1_frogs_1 20 rfl rfl)
theorem dX1_frogs_43 : decode cX1_frogs 43 = .ok (.iload_n 2, 1) := dk_28 (dk_at dksX1_frogs_1 21 rfl rfl)
theorem dX1_frogs_44 : decode cX1_frogs 44 = .ok (.iastore, 1) := dk_79 (dk_at dksX1_frogs_1 22 rfl rfl)
theorem dX1_frogs_45 : decode cX1_frogs 45 = .ok (.aload_n 0, 1) := dk_42 (dk_at dksX1_frogs_1 23 rfl rfl)
theorem dX1_frogs_46 : decode cX1_frogs 46 = .ok (.aload 4, 2) := dk_25 4 (dk_at dksX1_frogs_2 0 rfl rfl)
theorem dX1_frogs_48 : decode cX1_frogs 48 = .ok (.invokevirtual 103, 3) := dk_182 0 103 (dk_at dksX1_frogs_2 2 rfl rfl)
theorem dX1_frogs_51 : decode cX1_frogs 51 = .ok (.iload_n 3, 1) := dk_29 (dk_at dksX1_frogs_2 5 rfl rfl)
theorem dX1_frogs_52 : decode cX1_frogs 52 = .ok (.ireturn, 1) := dk_172 (dk_at dksX1_frogs_2 6 rfl rfl)
def dkwX1_lay_0 : List UInt8 := [42, 27, 28, 186, 0, 151, 0, 0, 182, 0, 123, 172]
abbrev dktX1_lay_0 : List UInt8 := dkwX1_lay_0 ++ []
theorem dksX1_lay_0 : cX1_lay.data.toList.drop 0 = dktX1_lay_0 := by decide +kernel
theorem dX1_lay_0 : decode cX1_lay 0 = .ok (.aload_n 0, 1) := dk_42 (dk_at dksX1_lay_0 0 rfl rfl)
theorem dX1_lay_1 : decode cX1_lay 1 = .ok (.iload_n 1, 1) := dk_27 (dk_at dksX1_lay_0 1 rfl rfl)
theorem dX1_lay_2 : decode cX1_lay 2 = .ok (.iload_n 2, 1) := dk_28 (dk_at dksX1_lay_0 2 rfl rfl)
theorem dX1_lay_3 : decode cX1_lay 3 = .ok (.invokedynamic 151, 5) := by decide +kernel
theorem dX1_lay_8 : decode cX1_lay 8 = .ok (.invokevirtual 123, 3) := dk_182 0 123 (dk_at dksX1_lay_0 8 rfl rfl)
theorem dX1_lay_11 : decode cX1_lay 11 = .ok (.ireturn, 1) := dk_172 (dk_at dksX1_lay_0 11 rfl rfl)
def dkwX1_lambda_lay_3_0 : List UInt8 := [44, 44, 26, 182, 0, 133, 27, 184, 1, 146, 182, 1, 149, 172]
abbrev dktX1_lambda_lay_3_0 : List UInt8 := dkwX1_lambda_lay_3_0 ++ []
theorem dksX1_lambda_lay_3_0 : cX1_lambda_lay_3.data.toList.drop 0 = dktX1_lambda_lay_3_0 := by decide +kernel
theorem dX1_lambda_lay_3_0 : decode cX1_lambda_lay_3 0 = .ok (.aload_n 2, 1) := dk_44 (dk_at dksX1_lambda_lay_3_0 0 rfl rfl)
theorem dX1_lambda_lay_3_1 : decode cX1_lambda_lay_3 1 = .ok (.aload_n 2, 1) := dk_44 (dk_at dksX1_lambda_lay_3_0 1 rfl rfl)
theorem dX1_lambda_lay_3_2 : decode cX1_lambda_lay_3 2 = .ok (.iload_n 0, 1) := dk_26 (dk_at dksX1_lambda_lay_3_0 2 rfl rfl)
theorem dX1_lambda_lay_3_3 : decode cX1_lambda_lay_3 3 = .ok (.invokevirtual 133, 3) := dk_182 0 133 (dk_at dksX1_lambda_lay_3_0 3 rfl rfl)
theorem dX1_lambda_lay_3_6 : decode cX1_lambda_lay_3 6 = .ok (.iload_n 1, 1) := dk_27 (dk_at dksX1_lambda_lay_3_0 6 rfl rfl)
theorem dX1_lambda_lay_3_7 : decode cX1_lambda_lay_3 7 = .ok (.invokestatic 402, 3) := dk_184 1 146 (dk_at dksX1_lambda_lay_3_0 7 rfl rfl)
theorem dX1_lambda_lay_3_10 : decode cX1_lambda_lay_3 10 = .ok (.invokevirtual 405, 3) := dk_182 1 149 (dk_at dksX1_lambda_lay_3_0 10 rfl rfl)
theorem dX1_lambda_lay_3_13 : decode cX1_lambda_lay_3 13 = .ok (.ireturn, 1) := dk_172 (dk_at dksX1_lambda_lay_3_0 13 rfl rfl)
def dkwX1_of_1 : List UInt8 := [28, 184, 0, 203, 172]
abbrev dktX1_of_1 : List UInt8 := dkwX1_of_1 ++ []
def dkwX1_of_0 : List UInt8 := [42, 180, 0, 27, 27, 182, 0, 133, 62, 28, 3, 16, 8, 184, 0, 112, 184, 0, 116, 42, 180, 0, 27, 29]
abbrev dktX1_of_0 : List UInt8 := dkwX1_of_0 ++ dktX1_of_1
theorem dksX1_of_0 : cX1_of.data.toList.drop 0 = dktX1_of_0 := by decide +kernel
theorem dksX1_of_1 : cX1_of.data.toList.drop 24 = dktX1_of_1 := dk_seg dksX1_of_0 24 rfl rfl
theorem dX1_of_0 : decode cX1_of 0 = .ok (.aload_n 0, 1) := dk_42 (dk_at dksX1_of_0 0 rfl rfl)
theorem dX1_of_1 : decode cX1_of 1 = .ok (.getfield 27, 3) := dk_180 0 27 (dk_at dksX1_of_0 1 rfl rfl)
theorem dX1_of_4 : decode cX1_of 4 = .ok (.iload_n 1, 1) := dk_27 (dk_at dksX1_of_0 4 rfl rfl)
theorem dX1_of_5 : decode cX1_of 5 = .ok (.invokevirtual 133, 3) := dk_182 0 133 (dk_at dksX1_of_0 5 rfl rfl)
theorem dX1_of_8 : decode cX1_of 8 = .ok (.istore_n 3, 1) := dk_62 (dk_at dksX1_of_0 8 rfl rfl)
theorem dX1_of_9 : decode cX1_of 9 = .ok (.iload_n 2, 1) := dk_28 (dk_at dksX1_of_0 9 rfl rfl)
theorem dX1_of_10 : decode cX1_of 10 = .ok (.iconst 0, 1) := dk_3 (dk_at dksX1_of_0 10 rfl rfl)
theorem dX1_of_11 : decode cX1_of 11 = .ok (.bipush 8, 2) := dk_16 8 (dk_at dksX1_of_0 11 rfl rfl)
theorem dX1_of_13 : decode cX1_of 13 = .ok (.invokestatic 112, 3) := dk_184 0 112 (dk_at dksX1_of_0 13 rfl rfl)
theorem dX1_of_16 : decode cX1_of 16 = .ok (.invokestatic 116, 3) := dk_184 0 116 (dk_at dksX1_of_0 16 rfl rfl)
theorem dX1_of_19 : decode cX1_of 19 = .ok (.aload_n 0, 1) := dk_42 (dk_at dksX1_of_0 19 rfl rfl)
theorem dX1_of_20 : decode cX1_of 20 = .ok (.getfield 27, 3) := dk_180 0 27 (dk_at dksX1_of_0 20 rfl rfl)
theorem dX1_of_23 : decode cX1_of 23 = .ok (.iload_n 3, 1) := dk_29 (dk_at dksX1_of_0 23 rfl rfl)
theorem dX1_of_24 : decode cX1_of 24 = .ok (.iload_n 2, 1) := dk_28 (dk_at dksX1_of_1 0 rfl rfl)
theorem dX1_of_25 : decode cX1_of 25 = .ok (.invokestatic 203, 3) := dk_184 0 203 (dk_at dksX1_of_1 1 rfl rfl)
theorem dX1_of_28 : decode cX1_of 28 = .ok (.ireturn, 1) := dk_172 (dk_at dksX1_of_1 4 rfl rfl)
def dkwX1_of_2_6 : List UInt8 := [21, 5, 96, 62, 167, 255, 226, 29, 172, 42, 27, 182, 0, 200, 172]
abbrev dktX1_of_2_6 : List UInt8 := dkwX1_of_2_6 ++ []
def dkwX1_of_2_5 : List UInt8 := [185, 0, 186, 1, 0, 153, 0, 26, 25, 4, 185, 0, 192, 1, 0, 192, 0, 195, 182, 0, 197, 54, 5, 29]
abbrev dktX1_of_2_5 : List UInt8 := dkwX1_of_2_5 ++ dktX1_of_2_6
def dkwX1_of_2_4 : List UInt8 := [46, 172, 3, 62, 42, 180, 0, 170, 27, 182, 0, 174, 185, 0, 180, 1, 0, 58, 4, 25, 4]
abbrev dktX1_of_2_4 : List UInt8 := dkwX1_of_2_4 ++ dktX1_of_2_5
def dkwX1_of_2_3 : List UInt8 := [180, 0, 161, 27, 46, 172, 42, 180, 0, 164, 27, 46, 172, 42, 27, 182, 0, 167, 172, 42, 180, 0, 148, 27]
abbrev dktX1_of_2_3 : List UInt8 := dkwX1_of_2_3 ++ dktX1_of_2_4
def dkwX1_of_2_2 : List UInt8 := [42, 180, 0, 152, 27, 46, 172, 42, 180, 0, 155, 27, 46, 172, 42, 180, 0, 158, 27, 46, 172, 42]
abbrev dktX1_of_2_2 : List UInt8 := dkwX1_of_2_2 ++ dktX1_of_2_3
def dkwX1_of_2_1 : List UInt8 := [170, 0, 0, 0, 0, 0, 147, 0, 0, 0, 0, 0, 0, 0, 7, 0, 0, 0, 47, 0, 0, 0, 54, 0, 0, 0, 61, 0, 0, 0, 68, 0, 0, 0, 75, 0, 0, 0, 82, 0, 0, 0, 88, 0, 0, 0, 95]
abbrev dktX1_of_2_1 : List UInt8 := dkwX1_of_2_1 ++ dktX1_of_2_2
def dkwX1_of_2_0 : List UInt8 := [28]
abbrev dktX1_of_2_0 : List UInt8 := dkwX1_of_2_0 ++ dktX1_of_2_1
theorem dksX1_of_2_0 : cX1_of_2.data.toList.drop 0 = dktX1_of_2_0 := by decide +kernel
theorem dksX1_of_2_1 : cX1_of_2.data.toList.drop 1 = dktX1_of_2_1 := dk_seg dksX1_of_2_0 1 rfl rfl
theorem dksX1_of_2_2 : cX1_of_2.data.toList.drop 48 = dktX1_of_2_2 := dk_seg dksX1_of_2_1 47 rfl rfl
theorem dksX1_of_2_3 : cX1_of_2.data.toList.drop 70 = dktX1_of_2_3 := dk_seg dksX1_of_2_2 22 rfl rfl
theorem dksX1_of_2_4 : cX1_of_2.data.toList.drop 94 = dktX1_of_2_4 := dk_seg dksX1_of_2_3 24 rfl rfl
theorem dksX1_of_2_5 : cX1_of_2.data.toList.drop 115 = dktX1_of_2_5 := dk_seg dksX1_of_2_4 21 rfl rfl
theorem dksX1_of_2_6 : cX1_of_2.data.toList.drop 139 = dktX1_of_2_6 := dk_seg dksX1_of_2_5 24 rfl rfl
theorem dX1_of_2_0 : decode cX1_of_2 0 = .ok (.iload_n 2, 1) := dk_28 (dk_at dksX1_of_2_0 0 rfl rfl)
theorem dX1_of_2_1 : decode cX1_of_2 1 = .ok (.tableswitch 147 0 7 #[47, 54, 61, 68, 75, 82, 88, 95], 47) := by decide +kernel
theorem dX1_of_2_48 : decode cX1_of_2 48 = .ok (.aload_n 0, 1) := dk_42 (dk_at dksX1_of_2_2 0 rfl rfl)
theorem dX1_of_2_49 : decode cX1_of_2 49 = .ok (.getfield 152, 3) := dk_180 0 152 (dk_at dksX1_of_2_2 1 rfl rfl)
theorem dX1_of_2_52 : decode cX1_of_2 52 = .ok (.iload_n 1, 1) := dk_27 (dk_at dksX1_of_2_2 4 rfl rfl)
theorem dX1_of_2_53 : decode cX1_of_2 53 = .ok (.iaload, 1) := dk_46 (dk_at dksX1_of_2_2 5 rfl rfl)
theorem dX1_of_2_54 : decode cX1_of_2 54 = .ok (.ireturn, 1) := dk_172 (dk_at dksX1_of_2_2 6 rfl rfl)
theorem dX1_of_2_55 : decode cX1_of_2 55 = .ok (.aload_n 0, 1) := dk_42 (dk_at dksX1_of_2_2 7 rfl rfl)
theorem dX1_of_2_56 : decode cX1_of_2 56 = .ok (.getfield 155, 3) := dk_180 0 155 (dk_at dksX1_of_2_2 8 rfl rfl)
theorem dX1_of_2_59 : decode cX1_of_2 59 = .ok (.iload_n 1, 1) := dk_27 (dk_at dksX1_of_2_2 11 rfl rfl)
theorem dX1_of_2_60 : decode cX1_of_2 60 = .ok (.iaload, 1) := dk_46 (dk_at dksX1_of_2_2 12 rfl rfl)
theorem dX1_of_2_61 : decode cX1_of_2 61 = .ok (.ireturn, 1) := dk_172 (dk_at dksX1_of_2_2 13 rfl rfl)
theorem dX1_of_2_62 : decode cX1_of_2 62 = .ok (.aload_n 0, 1) := dk_42 (dk_at dksX1_of_2_2 14 rfl rfl)
theorem dX1_of_2_63 : decode cX1_of_2 63 = .ok (.getfield 158, 3) := dk_180 0 158 (dk_at dksX1_of_2_2 15 rfl rfl)
theorem dX1_of_2_66 : decode cX1_of_2 66 = .ok (.iload_n 1, 1) := dk_27 (dk_at dksX1_of_2_2 18 rfl rfl)
theorem dX1_of_2_67 : decode cX1_of_2 67 = .ok (.iaload, 1) := dk_46 (dk_at dksX1_of_2_2 19 rfl rfl)
theorem dX1_of_2_68 : decode cX1_of_2 68 = .ok (.ireturn, 1) := dk_172 (dk_at dksX1_of_2_2 20 rfl rfl)
theorem dX1_of_2_69 : decode cX1_of_2 69 = .ok (.aload_n 0, 1) := dk_42 (dk_at dksX1_of_2_2 21 rfl rfl)
theorem dX1_of_2_70 : decode cX1_of_2 70 = .ok (.getfield 161, 3) := dk_180 0 161 (dk_at dksX1_of_2_3 0 rfl rfl)
theorem dX1_of_2_73 : decode cX1_of_2 73 = .ok (.iload_n 1, 1) := dk_27 (dk_at dksX1_of_2_3 3 rfl rfl)
theorem dX1_of_2_74 : decode cX1_of_2 74 = .ok (.iaload, 1) := dk_46 (dk_at dksX1_of_2_3 4 rfl rfl)
theorem dX1_of_2_75 : decode cX1_of_2 75 = .ok (.ireturn, 1) := dk_172 (dk_at dksX1_of_2_3 5 rfl rfl)
theorem dX1_of_2_76 : decode cX1_of_2 76 = .ok (.aload_n 0, 1) := dk_42 (dk_at dksX1_of_2_3 6 rfl rfl)
theorem dX1_of_2_77 : decode cX1_of_2 77 = .ok (.getfield 164, 3) := dk_180 0 164 (dk_at dksX1_of_2_3 7 rfl rfl)
theorem dX1_of_2_80 : decode cX1_of_2 80 = .ok (.iload_n 1, 1) := dk_27 (dk_at dksX1_of_2_3 10 rfl rfl)
theorem dX1_of_2_81 : decode cX1_of_2 81 = .ok (.iaload, 1) := dk_46 (dk_at dksX1_of_2_3 11 rfl rfl)
theorem dX1_of_2_82 : decode cX1_of_2 82 = .ok (.ireturn, 1) := dk_172 (dk_at dksX1_of_2_3 12 rfl rfl)
theorem dX1_of_2_83 : decode cX1_of_2 83 = .ok (.aload_n 0, 1) := dk_42 (dk_at dksX1_of_2_3 13 rfl rfl)
theorem dX1_of_2_84 : decode cX1_of_2 84 = .ok (.iload_n 1, 1) := dk_27 (dk_at dksX1_of_2_3 14 rfl rfl)
theorem dX1_of_2_85 : decode cX1_of_2 85 = .ok (.invokevirtual 167, 3) := dk_182 0 167 (dk_at dksX1_of_2_3 15 rfl rfl)
theorem dX1_of_2_88 : decode cX1_of_2 88 = .ok (.ireturn, 1) := dk_172 (dk_at dksX1_of_2_3 18 rfl rfl)
theorem dX1_of_2_89 : decode cX1_of_2 89 = .ok (.aload_n 0, 1) := dk_42 (dk_at dksX1_of_2_3 19 rfl rfl)
theorem dX1_of_2_90 : decode cX1_of_2 90 = .ok (.getfield 148, 3) := dk_180 0 148 (dk_at dksX1_of_2_3 20 rfl rfl)
theorem dX1_of_2_93 : decode cX1_of_2 93 = .ok (.iload_n 1, 1) := dk_27 (dk_at dksX1_of_2_3 23 rfl rfl)
theorem dX1_of_2_94 : decode cX1_of_2 94 = .ok (.iaload, 1) := dk_46 (dk_at dksX1_of_2_4 0 rfl rfl)
theorem dX1_of_2_95 : decode cX1_of_2 95 = .ok (.ireturn, 1) := dk_172 (dk_at dksX1_of_2_4 1 rfl rfl)
theorem dX1_of_2_96 : decode cX1_of_2 96 = .ok (.iconst 0, 1) := dk_3 (dk_at dksX1_of_2_4 2 rfl rfl)
theorem dX1_of_2_97 : decode cX1_of_2 97 = .ok (.istore_n 3, 1) := dk_62 (dk_at dksX1_of_2_4 3 rfl rfl)
theorem dX1_of_2_98 : decode cX1_of_2 98 = .ok (.aload_n 0, 1) := dk_42 (dk_at dksX1_of_2_4 4 rfl rfl)
theorem dX1_of_2_99 : decode cX1_of_2 99 = .ok (.getfield 170, 3) := dk_180 0 170 (dk_at dksX1_of_2_4 5 rfl rfl)
theorem dX1_of_2_102 : decode cX1_of_2 102 = .ok (.iload_n 1, 1) := dk_27 (dk_at dksX1_of_2_4 8 rfl rfl)
theorem dX1_of_2_103 : decode cX1_of_2 103 = .ok (.invokevirtual 174, 3) := dk_182 0 174 (dk_at dksX1_of_2_4 9 rfl rfl)
theorem dX1_of_2_106 : decode cX1_of_2 106 = .ok (.invokeinterface 180 1, 5) := by decide +kernel
theorem dX1_of_2_111 : decode cX1_of_2 111 = .ok (.astore 4, 2) := dk_58 4 (dk_at dksX1_of_2_4 17 rfl rfl)
theorem dX1_of_2_113 : decode cX1_of_2 113 = .ok (.aload 4, 2) := dk_25 4 (dk_at dksX1_of_2_4 19 rfl rfl)
theorem dX1_of_2_115 : decode cX1_of_2 115 = .ok (.invokeinterface 186 1, 5) := by decide +kernel
theorem dX1_of_2_120 : decode cX1_of_2 120 = .ok (.ifCond .eq 26, 3) := dk_153 0 26 (dk_at dksX1_of_2_5 5 rfl rfl)
theorem dX1_of_2_123 : decode cX1_of_2 123 = .ok (.aload 4, 2) := dk_25 4 (dk_at dksX1_of_2_5 8 rfl rfl)
theorem dX1_of_2_125 : decode cX1_of_2 125 = .ok (.invokeinterface 192 1, 5) := by decide +kernel
theorem dX1_of_2_130 : decode cX1_of_2 130 = .ok (.checkcast 195, 3) := dk_192 0 195 (dk_at dksX1_of_2_5 15 rfl rfl)
theorem dX1_of_2_133 : decode cX1_of_2 133 = .ok (.invokevirtual 197, 3) := dk_182 0 197 (dk_at dksX1_of_2_5 18 rfl rfl)
theorem dX1_of_2_136 : decode cX1_of_2 136 = .ok (.istore 5, 2) := dk_54 5 (dk_at dksX1_of_2_5 21 rfl rfl)
theorem dX1_of_2_138 : decode cX1_of_2 138 = .ok (.iload_n 3, 1) := dk_29 (dk_at dksX1_of_2_5 23 rfl rfl)
theorem dX1_of_2_139 : decode cX1_of_2 139 = .ok (.iload 5, 2) := dk_21 5 (dk_at dksX1_of_2_6 0 rfl rfl)
theorem dX1_of_2_141 : decode cX1_of_2 141 = .ok (.iadd, 1) := dk_96 (dk_at dksX1_of_2_6 2 rfl rfl)
theorem dX1_of_2_142 : decode cX1_of_2 142 = .ok (.istore_n 3, 1) := dk_62 (dk_at dksX1_of_2_6 3 rfl rfl)
theorem dX1_of_2_143 : decode cX1_of_2 143 = .ok (.goto (-30), 3) := dk_167 255 226 (dk_at dksX1_of_2_6 4 rfl rfl)
theorem dX1_of_2_146 : decode cX1_of_2 146 = .ok (.iload_n 3, 1) := dk_29 (dk_at dksX1_of_2_6 7 rfl rfl)
theorem dX1_of_2_147 : decode cX1_of_2 147 = .ok (.ireturn, 1) := dk_172 (dk_at dksX1_of_2_6 8 rfl rfl)
theorem dX1_of_2_148 : decode cX1_of_2 148 = .ok (.aload_n 0, 1) := dk_42 (dk_at dksX1_of_2_6 9 rfl rfl)
theorem dX1_of_2_149 : decode cX1_of_2 149 = .ok (.iload_n 1, 1) := dk_27 (dk_at dksX1_of_2_6 10 rfl rfl)
theorem dX1_of_2_150 : decode cX1_of_2 150 = .ok (.invokevirtual 200, 3) := dk_182 0 200 (dk_at dksX1_of_2_6 11 rfl rfl)
theorem dX1_of_2_153 : decode cX1_of_2 153 = .ok (.ireturn, 1) := dk_172 (dk_at dksX1_of_2_6 14 rfl rfl)
def dkwX1_is_4 : List UInt8 := [180, 0, 27, 180, 0, 217, 29, 184, 0, 137, 172, 42, 180, 0, 27, 180, 0, 220, 29, 184, 0, 137, 172]
abbrev dktX1_is_4 : List UInt8 := dkwX1_is_4 ++ []
def dkwX1_is_3 : List UInt8 := [180, 0, 27, 180, 0, 211, 29, 184, 0, 137, 172, 42, 180, 0, 27, 180, 0, 214, 29, 184, 0, 137, 172, 42]
abbrev dktX1_is_3 : List UInt8 := dkwX1_is_3 ++ dktX1_is_4
def dkwX1_is_2 : List UInt8 := [42, 180, 0, 27, 29, 182, 0, 207, 172, 42, 180, 0, 27, 180, 0, 130, 29, 184, 0, 137, 172, 42]
abbrev dktX1_is_2 : List UInt8 := dkwX1_is_2 ++ dktX1_is_3
def dkwX1_is_1 : List UInt8 := [170, 0, 0, 0, 90, 0, 0, 0, 0, 0, 0, 0, 4, 0, 0, 0, 33, 0, 0, 0, 42, 0, 0, 0, 54, 0, 0, 0, 66, 0, 0, 0, 78]
abbrev dktX1_is_1 : List UInt8 := dkwX1_is_1 ++ dktX1_is_2
def dkwX1_is_0 : List UInt8 := [42, 180, 0, 27, 27, 182, 0, 133, 62, 28, 3, 8, 184, 0, 112, 184, 0, 116, 28]
abbrev dktX1_is_0 : List UInt8 := dkwX1_is_0 ++ dktX1_is_1
theorem dksX1_is_0 : cX1_is.data.toList.drop 0 = dktX1_is_0 := by decide +kernel
theorem dksX1_is_1 : cX1_is.data.toList.drop 19 = dktX1_is_1 := dk_seg dksX1_is_0 19 rfl rfl
theorem dksX1_is_2 : cX1_is.data.toList.drop 52 = dktX1_is_2 := dk_seg dksX1_is_1 33 rfl rfl
theorem dksX1_is_3 : cX1_is.data.toList.drop 74 = dktX1_is_3 := dk_seg dksX1_is_2 22 rfl rfl
theorem dksX1_is_4 : cX1_is.data.toList.drop 98 = dktX1_is_4 := dk_seg dksX1_is_3 24 rfl rfl
theorem dX1_is_0 : decode cX1_is 0 = .ok (.aload_n 0, 1) := dk_42 (dk_at dksX1_is_0 0 rfl rfl)
theorem dX1_is_1 : decode cX1_is 1 = .ok (.getfield 27, 3) := dk_180 0 27 (dk_at dksX1_is_0 1 rfl rfl)
theorem dX1_is_4 : decode cX1_is 4 = .ok (.iload_n 1, 1) := dk_27 (dk_at dksX1_is_0 4 rfl rfl)
theorem dX1_is_5 : decode cX1_is 5 = .ok (.invokevirtual 133, 3) := dk_182 0 133 (dk_at dksX1_is_0 5 rfl rfl)
theorem dX1_is_8 : decode cX1_is 8 = .ok (.istore_n 3, 1) := dk_62 (dk_at dksX1_is_0 8 rfl rfl)
theorem dX1_is_9 : decode cX1_is 9 = .ok (.iload_n 2, 1) := dk_28 (dk_at dksX1_is_0 9 rfl rfl)
theorem dX1_is_10 : decode cX1_is 10 = .ok (.iconst 0, 1) := dk_3 (dk_at dksX1_is_0 10 rfl rfl)
theorem dX1_is_11 : decode cX1_is 11 = .ok (.iconst 5, 1) := dk_8 (dk_at dksX1_is_0 11 rfl rfl)
theorem dX1_is_12 : decode cX1_is 12 = .ok (.invokestatic 112, 3) := dk_184 0 112 (dk_at dksX1_is_0 12 rfl rfl)
theorem dX1_is_15 : decode cX1_is 15 = .ok (.invokestatic 116, 3) := dk_184 0 116 (dk_at dksX1_is_0 15 rfl rfl)
theorem dX1_is_18 : decode cX1_is 18 = .ok (.iload_n 2, 1) := dk_28 (dk_at dksX1_is_0 18 rfl rfl)
theorem dX1_is_19 : decode cX1_is 19 = .ok (.tableswitch 90 0 4 #[33, 42, 54, 66, 78], 33) := by decide +kernel
theorem dX1_is_52 : decode cX1_is 52 = .ok (.aload_n 0, 1) := dk_42 (dk_at dksX1_is_2 0 rfl rfl)
theorem dX1_is_53 : decode cX1_is 53 = .ok (.getfield 27, 3) := dk_180 0 27 (dk_at dksX1_is_2 1 rfl rfl)
theorem dX1_is_56 : decode cX1_is 56 = .ok (.iload_n 3, 1) := dk_29 (dk_at dksX1_is_2 4 rfl rfl)
theorem dX1_is_57 : decode cX1_is 57 = .ok (.invokevirtual 207, 3) := dk_182 0 207 (dk_at dksX1_is_2 5 rfl rfl)
theorem dX1_is_60 : decode cX1_is 60 = .ok (.ireturn, 1) := dk_172 (dk_at dksX1_is_2 8 rfl rfl)
theorem dX1_is_61 : decode cX1_is 61 = .ok (.aload_n 0, 1) := dk_42 (dk_at dksX1_is_2 9 rfl rfl)
theorem dX1_is_62 : decode cX1_is 62 = .ok (.getfield 27, 3) := dk_180 0 27 (dk_at dksX1_is_2 10 rfl rfl)
theorem dX1_is_65 : decode cX1_is 65 = .ok (.getfield 130, 3) := dk_180 0 130 (dk_at dksX1_is_2 13 rfl rfl)
theorem dX1_is_68 : decode cX1_is 68 = .ok (.iload_n 3, 1) := dk_29 (dk_at dksX1_is_2 16 rfl rfl)
theorem dX1_is_69 : decode cX1_is 69 = .ok (.invokestatic 137, 3) := dk_184 0 137 (dk_at dksX1_is_2 17 rfl rfl)
theorem dX1_is_72 : decode cX1_is 72 = .ok (.ireturn, 1) := dk_172 (dk_at dksX1_is_2 20 rfl rfl)
theorem dX1_is_73 : decode cX1_is 73 = .ok (.aload_n 0, 1) := dk_42 (dk_at dksX1_is_2 21 rfl rfl)
theorem dX1_is_74 : decode cX1_is 74 = .ok (.getfield 27, 3) := dk_180 0 27 (dk_at dksX1_is_3 0 rfl rfl)
theorem dX1_is_77 : decode cX1_is 77 = .ok (.getfield 211, 3) := dk_180 0 211 (dk_at dksX1_is_3 3 rfl rfl)
theorem dX1_is_80 : decode cX1_is 80 = .ok (.iload_n 3, 1) := dk_29 (dk_at dksX1_is_3 6 rfl rfl)
theorem dX1_is_81 : decode cX1_is 81 = .ok (.invokestatic 137, 3) := dk_184 0 137 (dk_at dksX1_is_3 7 rfl rfl)
theorem dX1_is_84 : decode cX1_is 84 = .ok (.ireturn, 1) := dk_172 (dk_at dksX1_is_3 10 rfl rfl)
theorem dX1_is_85 : decode cX1_is 85 = .ok (.aload_n 0, 1) := dk_42 (dk_at dksX1_is_3 11 rfl rfl)
theorem dX1_is_86 : decode cX1_is 86 = .ok (.getfield 27, 3) := dk_180 0 27 (dk_at dksX1_is_3 12 rfl rfl)
theorem dX1_is_89 : decode cX1_is 89 = .ok (.getfield 214, 3) := dk_180 0 214 (dk_at dksX1_is_3 15 rfl rfl)
theorem dX1_is_92 : decode cX1_is 92 = .ok (.iload_n 3, 1) := dk_29 (dk_at dksX1_is_3 18 rfl rfl)
theorem dX1_is_93 : decode cX1_is 93 = .ok (.invokestatic 137, 3) := dk_184 0 137 (dk_at dksX1_is_3 19 rfl rfl)
theorem dX1_is_96 : decode cX1_is 96 = .ok (.ireturn, 1) := dk_172 (dk_at dksX1_is_3 22 rfl rfl)
theorem dX1_is_97 : decode cX1_is 97 = .ok (.aload_n 0, 1) := dk_42 (dk_at dksX1_is_3 23 rfl rfl)
theorem dX1_is_98 : decode cX1_is 98 = .ok (.getfield 27, 3) := dk_180 0 27 (dk_at dksX1_is_4 0 rfl rfl)
theorem dX1_is_101 : decode cX1_is 101 = .ok (.getfield 217, 3) := dk_180 0 217 (dk_at dksX1_is_4 3 rfl rfl)
theorem dX1_is_104 : decode cX1_is 104 = .ok (.iload_n 3, 1) := dk_29 (dk_at dksX1_is_4 6 rfl rfl)
theorem dX1_is_105 : decode cX1_is 105 = .ok (.invokestatic 137, 3) := dk_184 0 137 (dk_at dksX1_is_4 7 rfl rfl)
theorem dX1_is_108 : decode cX1_is 108 = .ok (.ireturn, 1) := dk_172 (dk_at dksX1_is_4 10 rfl rfl)
theorem dX1_is_109 : decode cX1_is 109 = .ok (.aload_n 0, 1) := dk_42 (dk_at dksX1_is_4 11 rfl rfl)
theorem dX1_is_110 : decode cX1_is 110 = .ok (.getfield 27, 3) := dk_180 0 27 (dk_at dksX1_is_4 12 rfl rfl)
theorem dX1_is_113 : decode cX1_is 113 = .ok (.getfield 220, 3) := dk_180 0 220 (dk_at dksX1_is_4 15 rfl rfl)
theorem dX1_is_116 : decode cX1_is 116 = .ok (.iload_n 3, 1) := dk_29 (dk_at dksX1_is_4 18 rfl rfl)
theorem dX1_is_117 : decode cX1_is 117 = .ok (.invokestatic 137, 3) := dk_184 0 137 (dk_at dksX1_is_4 19 rfl rfl)
theorem dX1_is_120 : decode cX1_is 120 = .ok (.ireturn, 1) := dk_172 (dk_at dksX1_is_4 22 rfl rfl)
def dkwX1_clutch_5 : List UInt8 := [180, 0, 238, 27, 46, 172]
abbrev dktX1_clutch_5 : List UInt8 := dkwX1_clutch_5 ++ []
def dkwX1_clutch_4 : List UInt8 := [46, 172, 42, 180, 0, 27, 180, 0, 170, 180, 0, 235, 27, 46, 172, 42, 180, 0, 27, 180, 0, 170]
abbrev dktX1_clutch_4 : List UInt8 := dkwX1_clutch_4 ++ dktX1_clutch_5
def dkwX1_clutch_3 : List UInt8 := [42, 180, 0, 27, 180, 0, 170, 180, 0, 229, 27, 46, 172, 42, 180, 0, 27, 180, 0, 170, 180, 0, 232, 27]
abbrev dktX1_clutch_3 : List UInt8 := dkwX1_clutch_3 ++ dktX1_clutch_4
def dkwX1_clutch_2 : List UInt8 := [170, 0, 0, 0, 0, 65, 0, 0, 0, 0, 0, 0, 0, 2, 0, 0, 0, 26, 0, 0, 0, 39, 0, 0, 0, 52]
abbrev dktX1_clutch_2 : List UInt8 := dkwX1_clutch_2 ++ dktX1_clutch_3
def dkwX1_clutch_1 : List UInt8 := [184, 0, 112, 184, 0, 116, 28]
abbrev dktX1_clutch_1 : List UInt8 := dkwX1_clutch_1 ++ dktX1_clutch_2
def dkwX1_clutch_0 : List UInt8 := [27, 3, 42, 180, 0, 27, 180, 0, 170, 180, 0, 223, 4, 100, 184, 0, 112, 184, 0, 226, 28, 3, 6]
abbrev dktX1_clutch_0 : List UInt8 := dkwX1_clutch_0 ++ dktX1_clutch_1
theorem dksX1_clutch_0 : cX1_clutch.data.toList.drop 0 = dktX1_clutch_0 := by decide +kernel
theorem dksX1_clutch_1 : cX1_clutch.data.toList.drop 23 = dktX1_clutch_1 := dk_seg dksX1_clutch_0 23 rfl rfl
theorem dksX1_clutch_2 : cX1_clutch.data.toList.drop 30 = dktX1_clutch_2 := dk_seg dksX1_clutch_1 7 rfl rfl
theorem dksX1_clutch_3 : cX1_clutch.data.toList.drop 56 = dktX1_clutch_3 := dk_seg dksX1_clutch_2 26 rfl rfl
theorem dksX1_clutch_4 : cX1_clutch.data.toList.drop 80 = dktX1_clutch_4 := dk_seg dksX1_clutch_3 24 rfl rfl
theorem dksX1_clutch_5 : cX1_clutch.data.toList.drop 102 = dktX1_clutch_5 := dk_seg dksX1_clutch_4 22 rfl rfl
theorem dX1_clutch_0 : decode cX1_clutch 0 = .ok (.iload_n 1, 1) := dk_27 (dk_at dksX1_clutch_0 0 rfl rfl)
theorem dX1_clutch_1 : decode cX1_clutch 1 = .ok (.iconst 0, 1) := dk_3 (dk_at dksX1_clutch_0 1 rfl rfl)
theorem dX1_clutch_2 : decode cX1_clutch 2 = .ok (.aload_n 0, 1) := dk_42 (dk_at dksX1_clutch_0 2 rfl rfl)
theorem dX1_clutch_3 : decode cX1_clutch 3 = .ok (.getfield 27, 3) := dk_180 0 27 (dk_at dksX1_clutch_0 3 rfl rfl)
theorem dX1_clutch_6 : decode cX1_clutch 6 = .ok (.getfield 170, 3) := dk_180 0 170 (dk_at dksX1_clutch_0 6 rfl rfl)
theorem dX1_clutch_9 : decode cX1_clutch 9 = .ok (.getfield 223, 3) := dk_180 0 223 (dk_at dksX1_clutch_0 9 rfl rfl)
theorem dX1_clutch_12 : decode cX1_clutch 12 = .ok (.iconst 1, 1) := dk_4 (dk_at dksX1_clutch_0 12 rfl rfl)
theorem dX1_clutch_13 : decode cX1_clutch 13 = .ok (.isub, 1) := dk_100 (dk_at dksX1_clutch_0 13 rfl rfl)
theorem dX1_clutch_14 : decode cX1_clutch 14 = .ok (.invokestatic 112, 3) := dk_184 0 112 (dk_at dksX1_clutch_0 14 rfl rfl)
theorem dX1_clutch_17 : decode cX1_clutch 17 = .ok (.invokestatic 226, 3) := dk_184 0 226 (dk_at dksX1_clutch_0 17 rfl rfl)
theorem dX1_clutch_20 : decode cX1_clutch 20 = .ok (.iload_n 2, 1) := dk_28 (dk_at dksX1_clutch_0 20 rfl rfl)
theorem dX1_clutch_21 : decode cX1_clutch 21 = .ok (.iconst 0, 1) := dk_3 (dk_at dksX1_clutch_0 21 rfl rfl)
theorem dX1_clutch_22 : decode cX1_clutch 22 = .ok (.iconst 3, 1) := dk_6 (dk_at dksX1_clutch_0 22 rfl rfl)
theorem dX1_clutch_23 : decode cX1_clutch 23 = .ok (.invokestatic 112, 3) := dk_184 0 112 (dk_at dksX1_clutch_1 0 rfl rfl)
theorem dX1_clutch_26 : decode cX1_clutch 26 = .ok (.invokestatic 116, 3) := dk_184 0 116 (dk_at dksX1_clutch_1 3 rfl rfl)
theorem dX1_clutch_29 : decode cX1_clutch 29 = .ok (.iload_n 2, 1) := dk_28 (dk_at dksX1_clutch_1 6 rfl rfl)
theorem dX1_clutch_30 : decode cX1_clutch 30 = .ok (.tableswitch 65 0 2 #[26, 39, 52], 26) := by decide +kernel
theorem dX1_clutch_56 : decode cX1_clutch 56 = .ok (.aload_n 0, 1) := dk_42 (dk_at dksX1_clutch_3 0 rfl rfl)
theorem dX1_clutch_57 : decode cX1_clutch 57 = .ok (.getfield 27, 3) := dk_180 0 27 (dk_at dksX1_clutch_3 1 rfl rfl)
theorem dX1_clutch_60 : decode cX1_clutch 60 = .ok (.getfield 170, 3) := dk_180 0 170 (dk_at dksX1_clutch_3 4 rfl rfl)
theorem dX1_clutch_63 : decode cX1_clutch 63 = .ok (.getfield 229, 3) := dk_180 0 229 (dk_at dksX1_clutch_3 7 rfl rfl)
theorem dX1_clutch_66 : decode cX1_clutch 66 = .ok (.iload_n 1, 1) := dk_27 (dk_at dksX1_clutch_3 10 rfl rfl)
theorem dX1_clutch_67 : decode cX1_clutch 67 = .ok (.iaload, 1) := dk_46 (dk_at dksX1_clutch_3 11 rfl rfl)
theorem dX1_clutch_68 : decode cX1_clutch 68 = .ok (.ireturn, 1) := dk_172 (dk_at dksX1_clutch_3 12 rfl rfl)
theorem dX1_clutch_69 : decode cX1_clutch 69 = .ok (.aload_n 0, 1) := dk_42 (dk_at dksX1_clutch_3 13 rfl rfl)
theorem dX1_clutch_70 : decode cX1_clutch 70 = .ok (.getfield 27, 3) := dk_180 0 27 (dk_at dksX1_clutch_3 14 rfl rfl)
theorem dX1_clutch_73 : decode cX1_clutch 73 = .ok (.getfield 170, 3) := dk_180 0 170 (dk_at dksX1_clutch_3 17 rfl rfl)
theorem dX1_clutch_76 : decode cX1_clutch 76 = .ok (.getfield 232, 3) := dk_180 0 232 (dk_at dksX1_clutch_3 20 rfl rfl)
theorem dX1_clutch_79 : decode cX1_clutch 79 = .ok (.iload_n 1, 1) := dk_27 (dk_at dksX1_clutch_3 23 rfl rfl)
theorem dX1_clutch_80 : decode cX1_clutch 80 = .ok (.iaload, 1) := dk_46 (dk_at dksX1_clutch_4 0 rfl rfl)
theorem dX1_clutch_81 : decode cX1_clutch 81 = .ok (.ireturn, 1) := dk_172 (dk_at dksX1_clutch_4 1 rfl rfl)
theorem dX1_clutch_82 : decode cX1_clutch 82 = .ok (.aload_n 0, 1) := dk_42 (dk_at dksX1_clutch_4 2 rfl rfl)
theorem dX1_clutch_83 : decode cX1_clutch 83 = .ok (.getfield 27, 3) := dk_180 0 27 (dk_at dksX1_clutch_4 3 rfl rfl)
theorem dX1_clutch_86 : decode cX1_clutch 86 = .ok (.getfield 170, 3) := dk_180 0 170 (dk_at dksX1_clutch_4 6 rfl rfl)
theorem dX1_clutch_89 : decode cX1_clutch 89 = .ok (.getfield 235, 3) := dk_180 0 235 (dk_at dksX1_clutch_4 9 rfl rfl)
theorem dX1_clutch_92 : decode cX1_clutch 92 = .ok (.iload_n 1, 1) := dk_27 (dk_at dksX1_clutch_4 12 rfl rfl)
theorem dX1_clutch_93 : decode cX1_clutch 93 = .ok (.iaload, 1) := dk_46 (dk_at dksX1_clutch_4 13 rfl rfl)
theorem dX1_clutch_94 : decode cX1_clutch 94 = .ok (.ireturn, 1) := dk_172 (dk_at dksX1_clutch_4 14 rfl rfl)
theorem dX1_clutch_95 : decode cX1_clutch 95 = .ok (.aload_n 0, 1) := dk_42 (dk_at dksX1_clutch_4 15 rfl rfl)
theorem dX1_clutch_96 : decode cX1_clutch 96 = .ok (.getfield 27, 3) := dk_180 0 27 (dk_at dksX1_clutch_4 16 rfl rfl)
theorem dX1_clutch_99 : decode cX1_clutch 99 = .ok (.getfield 170, 3) := dk_180 0 170 (dk_at dksX1_clutch_4 19 rfl rfl)
theorem dX1_clutch_102 : decode cX1_clutch 102 = .ok (.getfield 238, 3) := dk_180 0 238 (dk_at dksX1_clutch_5 0 rfl rfl)
theorem dX1_clutch_105 : decode cX1_clutch 105 = .ok (.iload_n 1, 1) := dk_27 (dk_at dksX1_clutch_5 3 rfl rfl)
theorem dX1_clutch_106 : decode cX1_clutch 106 = .ok (.iaload, 1) := dk_46 (dk_at dksX1_clutch_5 4 rfl rfl)
theorem dX1_clutch_107 : decode cX1_clutch 107 = .ok (.ireturn, 1) := dk_172 (dk_at dksX1_clutch_5 5 rfl rfl)
def dkwX1_tell_0 : List UInt8 := [42, 27, 186, 0, 240, 0, 0, 182, 0, 123, 172]
abbrev dktX1_tell_0 : List UInt8 := dkwX1_tell_0 ++ []
theorem dksX1_tell_0 : cX1_tell.data.toList.drop 0 = dktX1_tell_0 := by decide +kernel
theorem dX1_tell_0 : decode cX1_tell 0 = .ok (.aload_n 0, 1) := dk_42 (dk_at dksX1_tell_0 0 rfl rfl)
theorem dX1_tell_1 : decode cX1_tell 1 = .ok (.iload_n 1, 1) := dk_27 (dk_at dksX1_tell_0 1 rfl rfl)
theorem dX1_tell_2 : decode cX1_tell 2 = .ok (.invokedynamic 240, 5) := by decide +kernel
theorem dX1_tell_7 : decode cX1_tell 7 = .ok (.invokevirtual 123, 3) := dk_182 0 123 (dk_at dksX1_tell_0 7 rfl rfl)
theorem dX1_tell_10 : decode cX1_tell 10 = .ok (.ireturn, 1) := dk_172 (dk_at dksX1_tell_0 10 rfl rfl)
def dkwX1_lambda_tell_4_0 : List UInt8 := [43, 26, 184, 1, 140, 182, 1, 143, 172]
abbrev dktX1_lambda_tell_4_0 : List UInt8 := dkwX1_lambda_tell_4_0 ++ []
theorem dksX1_lambda_tell_4_0 : cX1_lambda_tell_4.data.toList.drop 0 = dktX1_lambda_tell_4_0 := by decide +kernel
theorem dX1_lambda_tell_4_0 : decode cX1_lambda_tell_4 0 = .ok (.aload_n 1, 1) := dk_43 (dk_at dksX1_lambda_tell_4_0 0 rfl rfl)
theorem dX1_lambda_tell_4_1 : decode cX1_lambda_tell_4 1 = .ok (.iload_n 0, 1) := dk_26 (dk_at dksX1_lambda_tell_4_0 1 rfl rfl)
theorem dX1_lambda_tell_4_2 : decode cX1_lambda_tell_4 2 = .ok (.invokestatic 396, 3) := dk_184 1 140 (dk_at dksX1_lambda_tell_4_0 2 rfl rfl)
theorem dX1_lambda_tell_4_5 : decode cX1_lambda_tell_4 5 = .ok (.invokevirtual 399, 3) := dk_182 1 143 (dk_at dksX1_lambda_tell_4_0 5 rfl rfl)
theorem dX1_lambda_tell_4_8 : decode cX1_lambda_tell_4 8 = .ok (.ireturn, 1) := dk_172 (dk_at dksX1_lambda_tell_4_0 8 rfl rfl)
def dkwX1_rain_1 : List UInt8 := [27, 46, 172]
abbrev dktX1_rain_1 : List UInt8 := dkwX1_rain_1 ++ []
def dkwX1_rain_0 : List UInt8 := [27, 3, 42, 180, 0, 27, 180, 0, 243, 4, 100, 184, 0, 112, 184, 0, 226, 42, 180, 0, 27, 180, 0, 246]
abbrev dktX1_rain_0 : List UInt8 := dkwX1_rain_0 ++ dktX1_rain_1
theorem dksX1_rain_0 : cX1_rain.data.toList.drop 0 = dktX1_rain_0 := by decide +kernel
theorem dksX1_rain_1 : cX1_rain.data.toList.drop 24 = dktX1_rain_1 := dk_seg dksX1_rain_0 24 rfl rfl
theorem dX1_rain_0 : decode cX1_rain 0 = .ok (.iload_n 1, 1) := dk_27 (dk_at dksX1_rain_0 0 rfl rfl)
theorem dX1_rain_1 : decode cX1_rain 1 = .ok (.iconst 0, 1) := dk_3 (dk_at dksX1_rain_0 1 rfl rfl)
theorem dX1_rain_2 : decode cX1_rain 2 = .ok (.aload_n 0, 1) := dk_42 (dk_at dksX1_rain_0 2 rfl rfl)
theorem dX1_rain_3 : decode cX1_rain 3 = .ok (.getfield 27, 3) := dk_180 0 27 (dk_at dksX1_rain_0 3 rfl rfl)
theorem dX1_rain_6 : decode cX1_rain 6 = .ok (.getfield 243, 3) := dk_180 0 243 (dk_at dksX1_rain_0 6 rfl rfl)
theorem dX1_rain_9 : decode cX1_rain 9 = .ok (.iconst 1, 1) := dk_4 (dk_at dksX1_rain_0 9 rfl rfl)
theorem dX1_rain_10 : decode cX1_rain 10 = .ok (.isub, 1) := dk_100 (dk_at dksX1_rain_0 10 rfl rfl)
theorem dX1_rain_11 : decode cX1_rain 11 = .ok (.invokestatic 112, 3) := dk_184 0 112 (dk_at dksX1_rain_0 11 rfl rfl)
theorem dX1_rain_14 : decode cX1_rain 14 = .ok (.invokestatic 226, 3) := dk_184 0 226 (dk_at dksX1_rain_0 14 rfl rfl)
theorem dX1_rain_17 : decode cX1_rain 17 = .ok (.aload_n 0, 1) := dk_42 (dk_at dksX1_rain_0 17 rfl rfl)
theorem dX1_rain_18 : decode cX1_rain 18 = .ok (.getfield 27, 3) := dk_180 0 27 (dk_at dksX1_rain_0 18 rfl rfl)
theorem dX1_rain_21 : decode cX1_rain 21 = .ok (.getfield 246, 3) := dk_180 0 246 (dk_at dksX1_rain_0 21 rfl rfl)
theorem dX1_rain_24 : decode cX1_rain 24 = .ok (.iload_n 1, 1) := dk_27 (dk_at dksX1_rain_1 0 rfl rfl)
theorem dX1_rain_25 : decode cX1_rain 25 = .ok (.iaload, 1) := dk_46 (dk_at dksX1_rain_1 1 rfl rfl)
theorem dX1_rain_26 : decode cX1_rain 26 = .ok (.ireturn, 1) := dk_172 (dk_at dksX1_rain_1 2 rfl rfl)
def dkwX1_season_0 : List UInt8 := [42, 186, 0, 252, 0, 0, 182, 0, 123, 172]
abbrev dktX1_season_0 : List UInt8 := dkwX1_season_0 ++ []
theorem dksX1_season_0 : cX1_season.data.toList.drop 0 = dktX1_season_0 := by decide +kernel
theorem dX1_season_0 : decode cX1_season 0 = .ok (.aload_n 0, 1) := dk_42 (dk_at dksX1_season_0 0 rfl rfl)
theorem dX1_season_1 : decode cX1_season 1 = .ok (.invokedynamic 252, 5) := by decide +kernel
theorem dX1_season_6 : decode cX1_season 6 = .ok (.invokevirtual 123, 3) := dk_182 0 123 (dk_at dksX1_season_0 6 rfl rfl)
theorem dX1_season_9 : decode cX1_season 9 = .ok (.ireturn, 1) := dk_172 (dk_at dksX1_season_0 9 rfl rfl)
theorem dX1_lambda_season_6_0 : decode cX1_lambda_season_6 0 = .ok (.aload_n 0, 1) := by decide +kernel
theorem dX1_lambda_season_6_1 : decode cX1_lambda_season_6 1 = .ok (.invokevirtual 393, 3) := by decide +kernel
theorem dX1_lambda_season_6_4 : decode cX1_lambda_season_6 4 = .ok (.ireturn, 1) := by decide +kernel
def dkwX1_foretold_2 : List UInt8 := [182, 0, 69, 27, 182, 0, 253, 21, 4, 29, 184, 0, 203, 172]
abbrev dktX1_foretold_2 : List UInt8 := dkwX1_foretold_2 ++ []
def dkwX1_foretold_1 : List UInt8 := [3, 184, 0, 116, 42, 180, 0, 27, 28, 182, 0, 133, 54, 4, 42, 180, 0, 33, 42, 180, 0, 27]
abbrev dktX1_foretold_1 : List UInt8 := dkwX1_foretold_1 ++ dktX1_foretold_2
def dkwX1_foretold_0 : List UInt8 := [27, 4, 16, 30, 184, 0, 112, 153, 0, 17, 29, 3, 16, 8, 184, 0, 112, 153, 0, 7, 4, 167, 0, 4]
abbrev dktX1_foretold_0 : List UInt8 := dkwX1_foretold_0 ++ dktX1_foretold_1
theorem dksX1_foretold_0 : cX1_foretold.data.toList.drop 0 = dktX1_foretold_0 := by decide +kernel
theorem dksX1_foretold_1 : cX1_foretold.data.toList.drop 24 = dktX1_foretold_1 := dk_seg dksX1_foretold_0 24 rfl rfl
theorem dksX1_foretold_2 : cX1_foretold.data.toList.drop 46 = dktX1_foretold_2 := dk_seg dksX1_foretold_1 22 rfl rfl
theorem dX1_foretold_0 : decode cX1_foretold 0 = .ok (.iload_n 1, 1) := dk_27 (dk_at dksX1_foretold_0 0 rfl rfl)
theorem dX1_foretold_1 : decode cX1_foretold 1 = .ok (.iconst 1, 1) := dk_4 (dk_at dksX1_foretold_0 1 rfl rfl)
theorem dX1_foretold_2 : decode cX1_foretold 2 = .ok (.bipush 30, 2) := dk_16 30 (dk_at dksX1_foretold_0 2 rfl rfl)
theorem dX1_foretold_4 : decode cX1_foretold 4 = .ok (.invokestatic 112, 3) := dk_184 0 112 (dk_at dksX1_foretold_0 4 rfl rfl)
theorem dX1_foretold_7 : decode cX1_foretold 7 = .ok (.ifCond .eq 17, 3) := dk_153 0 17 (dk_at dksX1_foretold_0 7 rfl rfl)
theorem dX1_foretold_10 : decode cX1_foretold 10 = .ok (.iload_n 3, 1) := dk_29 (dk_at dksX1_foretold_0 10 rfl rfl)
theorem dX1_foretold_11 : decode cX1_foretold 11 = .ok (.iconst 0, 1) := dk_3 (dk_at dksX1_foretold_0 11 rfl rfl)
theorem dX1_foretold_12 : decode cX1_foretold 12 = .ok (.bipush 8, 2) := dk_16 8 (dk_at dksX1_foretold_0 12 rfl rfl)
theorem dX1_foretold_14 : decode cX1_foretold 14 = .ok (.invokestatic 112, 3) := dk_184 0 112 (dk_at dksX1_foretold_0 14 rfl rfl)
theorem dX1_foretold_17 : decode cX1_foretold 17 = .ok (.ifCond .eq 7, 3) := dk_153 0 7 (dk_at dksX1_foretold_0 17 rfl rfl)
theorem dX1_foretold_20 : decode cX1_foretold 20 = .ok (.iconst 1, 1) := dk_4 (dk_at dksX1_foretold_0 20 rfl rfl)
theorem dX1_foretold_21 : decode cX1_foretold 21 = .ok (.goto 4, 3) := dk_167 0 4 (dk_at dksX1_foretold_0 21 rfl rfl)
theorem dX1_foretold_24 : decode cX1_foretold 24 = .ok (.iconst 0, 1) := dk_3 (dk_at dksX1_foretold_1 0 rfl rfl)
theorem dX1_foretold_25 : decode cX1_foretold 25 = .ok (.invokestatic 116, 3) := dk_184 0 116 (dk_at dksX1_foretold_1 1 rfl rfl)
theorem dX1_foretold_28 : decode cX1_foretold 28 = .ok (.aload_n 0, 1) := dk_42 (dk_at dksX1_foretold_1 4 rfl rfl)
theorem dX1_foretold_29 : decode cX1_foretold 29 = .ok (.getfield 27, 3) := dk_180 0 27 (dk_at dksX1_foretold_1 5 rfl rfl)
theorem dX1_foretold_32 : decode cX1_foretold 32 = .ok (.iload_n 2, 1) := dk_28 (dk_at dksX1_foretold_1 8 rfl rfl)
theorem dX1_foretold_33 : decode cX1_foretold 33 = .ok (.invokevirtual 133, 3) := dk_182 0 133 (dk_at dksX1_foretold_1 9 rfl rfl)
theorem dX1_foretold_36 : decode cX1_foretold 36 = .ok (.istore 4, 2) := dk_54 4 (dk_at dksX1_foretold_1 12 rfl rfl)
theorem dX1_foretold_38 : decode cX1_foretold 38 = .ok (.aload_n 0, 1) := dk_42 (dk_at dksX1_foretold_1 14 rfl rfl)
theorem dX1_foretold_39 : decode cX1_foretold 39 = .ok (.getfield 33, 3) := dk_180 0 33 (dk_at dksX1_foretold_1 15 rfl rfl)
theorem dX1_foretold_42 : decode cX1_foretold 42 = .ok (.aload_n 0, 1) := dk_42 (dk_at dksX1_foretold_1 18 rfl rfl)
theorem dX1_foretold_43 : decode cX1_foretold 43 = .ok (.getfield 27, 3) := dk_180 0 27 (dk_at dksX1_foretold_1 19 rfl rfl)
theorem dX1_foretold_46 : decode cX1_foretold 46 = .ok (.invokevirtual 69, 3) := dk_182 0 69 (dk_at dksX1_foretold_2 0 rfl rfl)
theorem dX1_foretold_49 : decode cX1_foretold 49 = .ok (.iload_n 1, 1) := dk_27 (dk_at dksX1_foretold_2 3 rfl rfl)
theorem dX1_foretold_50 : decode cX1_foretold 50 = .ok (.invokevirtual 253, 3) := dk_182 0 253 (dk_at dksX1_foretold_2 4 rfl rfl)
theorem dX1_foretold_53 : decode cX1_foretold 53 = .ok (.iload 4, 2) := dk_21 4 (dk_at dksX1_foretold_2 7 rfl rfl)
theorem dX1_foretold_55 : decode cX1_foretold 55 = .ok (.iload_n 3, 1) := dk_29 (dk_at dksX1_foretold_2 9 rfl rfl)
theorem dX1_foretold_56 : decode cX1_foretold 56 = .ok (.invokestatic 203, 3) := dk_184 0 203 (dk_at dksX1_foretold_2 10 rfl rfl)
theorem dX1_foretold_59 : decode cX1_foretold 59 = .ok (.ireturn, 1) := dk_172 (dk_at dksX1_foretold_2 13 rfl rfl)
def dkwX1_firstFlood_2 : List UInt8 := [184, 0, 137, 153, 0, 5, 29, 172, 132, 3, 1, 167, 255, 222, 187, 0, 13, 89, 183, 0, 15, 191]
abbrev dktX1_firstFlood_2 : List UInt8 := dkwX1_firstFlood_2 ++ []
def dkwX1_firstFlood_1 : List UInt8 := [16, 30, 163, 0, 34, 42, 180, 0, 33, 182, 1, 1, 54, 4, 42, 180, 0, 33, 180, 0, 217, 28]
abbrev dktX1_firstFlood_1 : List UInt8 := dkwX1_firstFlood_1 ++ dktX1_firstFlood_2
def dkwX1_firstFlood_0 : List UInt8 := [42, 180, 0, 27, 27, 182, 0, 133, 61, 42, 180, 0, 33, 42, 180, 0, 27, 182, 0, 69, 87, 4, 62, 29]
abbrev dktX1_firstFlood_0 : List UInt8 := dkwX1_firstFlood_0 ++ dktX1_firstFlood_1
theorem dksX1_firstFlood_0 : cX1_firstFlood.data.toList.drop 0 = dktX1_firstFlood_0 := by decide +kernel
theorem dksX1_firstFlood_1 : cX1_firstFlood.data.toList.drop 24 = dktX1_firstFlood_1 := dk_seg dksX1_firstFlood_0 24 rfl rfl
theorem dksX1_firstFlood_2 : cX1_firstFlood.data.toList.drop 46 = dktX1_firstFlood_2 := dk_seg dksX1_firstFlood_1 22 rfl rfl
theorem dX1_firstFlood_0 : decode cX1_firstFlood 0 = .ok (.aload_n 0, 1) := dk_42 (dk_at dksX1_firstFlood_0 0 rfl rfl)
theorem dX1_firstFlood_1 : decode cX1_firstFlood 1 = .ok (.getfield 27, 3) := dk_180 0 27 (dk_at dksX1_firstFlood_0 1 rfl rfl)
theorem dX1_firstFlood_4 : decode cX1_firstFlood 4 = .ok (.iload_n 1, 1) := dk_27 (dk_at dksX1_firstFlood_0 4 rfl rfl)
theorem dX1_firstFlood_5 : decode cX1_firstFlood 5 = .ok (.invokevirtual 133, 3) := dk_182 0 133 (dk_at dksX1_firstFlood_0 5 rfl rfl)
theorem dX1_firstFlood_8 : decode cX1_firstFlood 8 = .ok (.istore_n 2, 1) := dk_61 (dk_at dksX1_firstFlood_0 8 rfl rfl)
theorem dX1_firstFlood_9 : decode cX1_firstFlood 9 = .ok (.aload_n 0, 1) := dk_42 (dk_at dksX1_firstFlood_0 9 rfl rfl)
theorem dX1_firstFlood_10 : decode cX1_firstFlood 10 = .ok (.getfield 33, 3) := dk_180 0 33 (dk_at dksX1_firstFlood_0 10 rfl rfl)
theorem dX1_firstFlood_13 : decode cX1_firstFlood 13 = .ok (.aload_n 0, 1) := dk_42 (dk_at dksX1_firstFlood_0 13 rfl rfl)
theorem dX1_firstFlood_14 : decode cX1_firstFlood 14 = .ok (.getfield 27, 3) := dk_180 0 27 (dk_at dksX1_firstFlood_0 14 rfl rfl)
theorem dX1_firstFlood_17 : decode cX1_firstFlood 17 = .ok (.invokevirtual 69, 3) := dk_182 0 69 (dk_at dksX1_firstFlood_0 17 rfl rfl)
theorem dX1_firstFlood_20 : decode cX1_firstFlood 20 = .ok (.pop, 1) := dk_87 (dk_at dksX1_firstFlood_0 20 rfl rfl)
theorem dX1_firstFlood_21 : decode cX1_firstFlood 21 = .ok (.iconst 1, 1) := dk_4 (dk_at dksX1_firstFlood_0 21 rfl rfl)
theorem dX1_firstFlood_22 : decode cX1_firstFlood 22 = .ok (.istore_n 3, 1) := dk_62 (dk_at dksX1_firstFlood_0 22 rfl rfl)
theorem dX1_firstFlood_23 : decode cX1_firstFlood 23 = .ok (.iload_n 3, 1) := dk_29 (dk_at dksX1_firstFlood_0 23 rfl rfl)
theorem dX1_firstFlood_24 : decode cX1_firstFlood 24 = .ok (.bipush 30, 2) := dk_16 30 (dk_at dksX1_firstFlood_1 0 rfl rfl)
theorem dX1_firstFlood_26 : decode cX1_firstFlood 26 = .ok (.if_icmp .gt 34, 3) := dk_163 0 34 (dk_at dksX1_firstFlood_1 2 rfl rfl)
theorem dX1_firstFlood_29 : decode cX1_firstFlood 29 = .ok (.aload_n 0, 1) := dk_42 (dk_at dksX1_firstFlood_1 5 rfl rfl)
theorem dX1_firstFlood_30 : decode cX1_firstFlood 30 = .ok (.getfield 33, 3) := dk_180 0 33 (dk_at dksX1_firstFlood_1 6 rfl rfl)
theorem dX1_firstFlood_33 : decode cX1_firstFlood 33 = .ok (.invokevirtual 257, 3) := dk_182 1 1 (dk_at dksX1_firstFlood_1 9 rfl rfl)
theorem dX1_firstFlood_36 : decode cX1_firstFlood 36 = .ok (.istore 4, 2) := dk_54 4 (dk_at dksX1_firstFlood_1 12 rfl rfl)
theorem dX1_firstFlood_38 : decode cX1_firstFlood 38 = .ok (.aload_n 0, 1) := dk_42 (dk_at dksX1_firstFlood_1 14 rfl rfl)
theorem dX1_firstFlood_39 : decode cX1_firstFlood 39 = .ok (.getfield 33, 3) := dk_180 0 33 (dk_at dksX1_firstFlood_1 15 rfl rfl)
theorem dX1_firstFlood_42 : decode cX1_firstFlood 42 = .ok (.getfield 217, 3) := dk_180 0 217 (dk_at dksX1_firstFlood_1 18 rfl rfl)
theorem dX1_firstFlood_45 : decode cX1_firstFlood 45 = .ok (.iload_n 2, 1) := dk_28 (dk_at dksX1_firstFlood_1 21 rfl rfl)
theorem dX1_firstFlood_46 : decode cX1_firstFlood 46 = .ok (.invokestatic 137, 3) := dk_184 0 137 (dk_at dksX1_firstFlood_2 0 rfl rfl)
theorem dX1_firstFlood_49 : decode cX1_firstFlood 49 = .ok (.ifCond .eq 5, 3) := dk_153 0 5 (dk_at dksX1_firstFlood_2 3 rfl rfl)
theorem dX1_firstFlood_52 : decode cX1_firstFlood 52 = .ok (.iload_n 3, 1) := dk_29 (dk_at dksX1_firstFlood_2 6 rfl rfl)
theorem dX1_firstFlood_53 : decode cX1_firstFlood 53 = .ok (.ireturn, 1) := dk_172 (dk_at dksX1_firstFlood_2 7 rfl rfl)
theorem dX1_firstFlood_54 : decode cX1_firstFlood 54 = .ok (.iinc 3 1, 3) := dk_132 3 1 (dk_at dksX1_firstFlood_2 8 rfl rfl)
theorem dX1_firstFlood_57 : decode cX1_firstFlood 57 = .ok (.goto (-34), 3) := dk_167 255 222 (dk_at dksX1_firstFlood_2 11 rfl rfl)
theorem dX1_firstFlood_60 : decode cX1_firstFlood 60 = .ok (.new 13, 3) := dk_187 0 13 (dk_at dksX1_firstFlood_2 14 rfl rfl)
theorem dX1_firstFlood_63 : decode cX1_firstFlood 63 = .ok (.dup, 1) := dk_89 (dk_at dksX1_firstFlood_2 17 rfl rfl)
theorem dX1_firstFlood_64 : decode cX1_firstFlood 64 = .ok (.invokespecial 15, 3) := dk_183 0 15 (dk_at dksX1_firstFlood_2 18 rfl rfl)
theorem dX1_firstFlood_67 : decode cX1_firstFlood 67 = .ok (.athrow, 1) := dk_191 (dk_at dksX1_firstFlood_2 21 rfl rfl)
def dkwX1_best_1 : List UInt8 := [180, 1, 14, 167, 0, 8, 25, 4, 180, 1, 17, 172]
abbrev dktX1_best_1 : List UInt8 := dkwX1_best_1 ++ []
def dkwX1_best_0 : List UInt8 := [42, 27, 28, 182, 1, 4, 42, 180, 0, 27, 28, 182, 1, 8, 58, 4, 29, 153, 0, 11, 25, 4]
abbrev dktX1_best_0 : List UInt8 := dkwX1_best_0 ++ dktX1_best_1
theorem dksX1_best_0 : cX1_best.data.toList.drop 0 = dktX1_best_0 := by decide +kernel
theorem dksX1_best_1 : cX1_best.data.toList.drop 22 = dktX1_best_1 := dk_seg dksX1_best_0 22 rfl rfl
theorem dX1_best_0 : decode cX1_best 0 = .ok (.aload_n 0, 1) := dk_42 (dk_at dksX1_best_0 0 rfl rfl)
theorem dX1_best_1 : decode cX1_best 1 = .ok (.iload_n 1, 1) := dk_27 (dk_at dksX1_best_0 1 rfl rfl)
theorem dX1_best_2 : decode cX1_best 2 = .ok (.iload_n 2, 1) := dk_28 (dk_at dksX1_best_0 2 rfl rfl)
theorem dX1_best_3 : decode cX1_best 3 = .ok (.invokevirtual 260, 3) := dk_182 1 4 (dk_at dksX1_best_0 3 rfl rfl)
theorem dX1_best_6 : decode cX1_best 6 = .ok (.aload_n 0, 1) := dk_42 (dk_at dksX1_best_0 6 rfl rfl)
theorem dX1_best_7 : decode cX1_best 7 = .ok (.getfield 27, 3) := dk_180 0 27 (dk_at dksX1_best_0 7 rfl rfl)
theorem dX1_best_10 : decode cX1_best 10 = .ok (.iload_n 2, 1) := dk_28 (dk_at dksX1_best_0 10 rfl rfl)
theorem dX1_best_11 : decode cX1_best 11 = .ok (.invokevirtual 264, 3) := dk_182 1 8 (dk_at dksX1_best_0 11 rfl rfl)
theorem dX1_best_14 : decode cX1_best 14 = .ok (.astore 4, 2) := dk_58 4 (dk_at dksX1_best_0 14 rfl rfl)
theorem dX1_best_16 : decode cX1_best 16 = .ok (.iload_n 3, 1) := dk_29 (dk_at dksX1_best_0 16 rfl rfl)
theorem dX1_best_17 : decode cX1_best 17 = .ok (.ifCond .eq 11, 3) := dk_153 0 11 (dk_at dksX1_best_0 17 rfl rfl)
theorem dX1_best_20 : decode cX1_best 20 = .ok (.aload 4, 2) := dk_25 4 (dk_at dksX1_best_0 20 rfl rfl)
theorem dX1_best_22 : decode cX1_best 22 = .ok (.getfield 270, 3) := dk_180 1 14 (dk_at dksX1_best_1 0 rfl rfl)
theorem dX1_best_25 : decode cX1_best 25 = .ok (.goto 8, 3) := dk_167 0 8 (dk_at dksX1_best_1 3 rfl rfl)
theorem dX1_best_28 : decode cX1_best 28 = .ok (.aload 4, 2) := dk_25 4 (dk_at dksX1_best_1 6 rfl rfl)
theorem dX1_best_30 : decode cX1_best 30 = .ok (.getfield 273, 3) := dk_180 1 17 (dk_at dksX1_best_1 8 rfl rfl)
theorem dX1_best_33 : decode cX1_best 33 = .ok (.ireturn, 1) := dk_172 (dk_at dksX1_best_1 11 rfl rfl)
def dkwX1_side_1 : List UInt8 := [176]
abbrev dktX1_side_1 : List UInt8 := dkwX1_side_1 ++ []
def dkwX1_side_0 : List UInt8 := [28, 4, 8, 184, 0, 112, 184, 0, 116, 27, 153, 0, 10, 42, 180, 0, 59, 167, 0, 7, 42, 180, 0, 66]
abbrev dktX1_side_0 : List UInt8 := dkwX1_side_0 ++ dktX1_side_1
theorem dksX1_side_0 : cX1_side.data.toList.drop 0 = dktX1_side_0 := by decide +kernel
theorem dksX1_side_1 : cX1_side.data.toList.drop 24 = dktX1_side_1 := dk_seg dksX1_side_0 24 rfl rfl
theorem dX1_side_0 : decode cX1_side 0 = .ok (.iload_n 2, 1) := dk_28 (dk_at dksX1_side_0 0 rfl rfl)
theorem dX1_side_1 : decode cX1_side 1 = .ok (.iconst 1, 1) := dk_4 (dk_at dksX1_side_0 1 rfl rfl)
theorem dX1_side_2 : decode cX1_side 2 = .ok (.iconst 5, 1) := dk_8 (dk_at dksX1_side_0 2 rfl rfl)
theorem dX1_side_3 : decode cX1_side 3 = .ok (.invokestatic 112, 3) := dk_184 0 112 (dk_at dksX1_side_0 3 rfl rfl)
theorem dX1_side_6 : decode cX1_side 6 = .ok (.invokestatic 116, 3) := dk_184 0 116 (dk_at dksX1_side_0 6 rfl rfl)
theorem dX1_side_9 : decode cX1_side 9 = .ok (.iload_n 1, 1) := dk_27 (dk_at dksX1_side_0 9 rfl rfl)
theorem dX1_side_10 : decode cX1_side 10 = .ok (.ifCond .eq 10, 3) := dk_153 0 10 (dk_at dksX1_side_0 10 rfl rfl)
theorem dX1_side_13 : decode cX1_side 13 = .ok (.aload_n 0, 1) := dk_42 (dk_at dksX1_side_0 13 rfl rfl)
theorem dX1_side_14 : decode cX1_side 14 = .ok (.getfield 59, 3) := dk_180 0 59 (dk_at dksX1_side_0 14 rfl rfl)
theorem dX1_side_17 : decode cX1_side 17 = .ok (.goto 7, 3) := dk_167 0 7 (dk_at dksX1_side_0 17 rfl rfl)
theorem dX1_side_20 : decode cX1_side 20 = .ok (.aload_n 0, 1) := dk_42 (dk_at dksX1_side_0 20 rfl rfl)
theorem dX1_side_21 : decode cX1_side 21 = .ok (.getfield 66, 3) := dk_180 0 66 (dk_at dksX1_side_0 21 rfl rfl)
theorem dX1_side_24 : decode cX1_side 24 = .ok (.areturn, 1) := dk_176 (dk_at dksX1_side_1 0 rfl rfl)
def dkwX1_worth_1 : List UInt8 := [184, 1, 23, 25, 4, 42, 180, 0, 27, 28, 29, 182, 1, 26, 172]
abbrev dktX1_worth_1 : List UInt8 := dkwX1_worth_1 ++ []
def dkwX1_worth_0 : List UInt8 := [42, 27, 28, 182, 1, 4, 58, 4, 29, 3, 4, 42, 180, 0, 27, 180, 1, 20, 120, 4, 100, 184, 0, 112]
abbrev dktX1_worth_0 : List UInt8 := dkwX1_worth_0 ++ dktX1_worth_1
theorem dksX1_worth_0 : cX1_worth.data.toList.drop 0 = dktX1_worth_0 := by decide +kernel
theorem dksX1_worth_1 : cX1_worth.data.toList.drop 24 = dktX1_worth_1 := dk_seg dksX1_worth_0 24 rfl rfl
theorem dX1_worth_0 : decode cX1_worth 0 = .ok (.aload_n 0, 1) := dk_42 (dk_at dksX1_worth_0 0 rfl rfl)
theorem dX1_worth_1 : decode cX1_worth 1 = .ok (.iload_n 1, 1) := dk_27 (dk_at dksX1_worth_0 1 rfl rfl)
theorem dX1_worth_2 : decode cX1_worth 2 = .ok (.iload_n 2, 1) := dk_28 (dk_at dksX1_worth_0 2 rfl rfl)
theorem dX1_worth_3 : decode cX1_worth 3 = .ok (.invokevirtual 260, 3) := dk_182 1 4 (dk_at dksX1_worth_0 3 rfl rfl)
theorem dX1_worth_6 : decode cX1_worth 6 = .ok (.astore 4, 2) := dk_58 4 (dk_at dksX1_worth_0 6 rfl rfl)
theorem dX1_worth_8 : decode cX1_worth 8 = .ok (.iload_n 3, 1) := dk_29 (dk_at dksX1_worth_0 8 rfl rfl)
theorem dX1_worth_9 : decode cX1_worth 9 = .ok (.iconst 0, 1) := dk_3 (dk_at dksX1_worth_0 9 rfl rfl)
theorem dX1_worth_10 : decode cX1_worth 10 = .ok (.iconst 1, 1) := dk_4 (dk_at dksX1_worth_0 10 rfl rfl)
theorem dX1_worth_11 : decode cX1_worth 11 = .ok (.aload_n 0, 1) := dk_42 (dk_at dksX1_worth_0 11 rfl rfl)
theorem dX1_worth_12 : decode cX1_worth 12 = .ok (.getfield 27, 3) := dk_180 0 27 (dk_at dksX1_worth_0 12 rfl rfl)
theorem dX1_worth_15 : decode cX1_worth 15 = .ok (.getfield 276, 3) := dk_180 1 20 (dk_at dksX1_worth_0 15 rfl rfl)
theorem dX1_worth_18 : decode cX1_worth 18 = .ok (.ishl, 1) := dk_120 (dk_at dksX1_worth_0 18 rfl rfl)
theorem dX1_worth_19 : decode cX1_worth 19 = .ok (.iconst 1, 1) := dk_4 (dk_at dksX1_worth_0 19 rfl rfl)
theorem dX1_worth_20 : decode cX1_worth 20 = .ok (.isub, 1) := dk_100 (dk_at dksX1_worth_0 20 rfl rfl)
theorem dX1_worth_21 : decode cX1_worth 21 = .ok (.invokestatic 112, 3) := dk_184 0 112 (dk_at dksX1_worth_0 21 rfl rfl)
theorem dX1_worth_24 : decode cX1_worth 24 = .ok (.invokestatic 279, 3) := dk_184 1 23 (dk_at dksX1_worth_1 0 rfl rfl)
theorem dX1_worth_27 : decode cX1_worth 27 = .ok (.aload 4, 2) := dk_25 4 (dk_at dksX1_worth_1 3 rfl rfl)
theorem dX1_worth_29 : decode cX1_worth 29 = .ok (.aload_n 0, 1) := dk_42 (dk_at dksX1_worth_1 5 rfl rfl)
theorem dX1_worth_30 : decode cX1_worth 30 = .ok (.getfield 27, 3) := dk_180 0 27 (dk_at dksX1_worth_1 6 rfl rfl)
theorem dX1_worth_33 : decode cX1_worth 33 = .ok (.iload_n 2, 1) := dk_28 (dk_at dksX1_worth_1 9 rfl rfl)
theorem dX1_worth_34 : decode cX1_worth 34 = .ok (.iload_n 3, 1) := dk_29 (dk_at dksX1_worth_1 10 rfl rfl)
theorem dX1_worth_35 : decode cX1_worth 35 = .ok (.invokevirtual 282, 3) := dk_182 1 26 (dk_at dksX1_worth_1 11 rfl rfl)
theorem dX1_worth_38 : decode cX1_worth 38 = .ok (.ireturn, 1) := dk_172 (dk_at dksX1_worth_1 14 rfl rfl)
def dkwX1_choose_0 : List UInt8 := [42, 27, 28, 182, 1, 4, 78, 42, 45, 28, 186, 1, 29, 0, 0, 182, 0, 123, 172]
abbrev dktX1_choose_0 : List UInt8 := dkwX1_choose_0 ++ []
theorem dksX1_choose_0 : cX1_choose.data.toList.drop 0 = dktX1_choose_0 := by decide +kernel
theorem dX1_choose_0 : decode cX1_choose 0 = .ok (.aload_n 0, 1) := dk_42 (dk_at dksX1_choose_0 0 rfl rfl)
theorem dX1_choose_1 : decode cX1_choose 1 = .ok (.iload_n 1, 1) := dk_27 (dk_at dksX1_choose_0 1 rfl rfl)
theorem dX1_choose_2 : decode cX1_choose 2 = .ok (.iload_n 2, 1) := dk_28 (dk_at dksX1_choose_0 2 rfl rfl)
theorem dX1_choose_3 : decode cX1_choose 3 = .ok (.invokevirtual 260, 3) := dk_182 1 4 (dk_at dksX1_choose_0 3 rfl rfl)
theorem dX1_choose_6 : decode cX1_choose 6 = .ok (.astore_n 3, 1) := dk_78 (dk_at dksX1_choose_0 6 rfl rfl)
theorem dX1_choose_7 : decode cX1_choose 7 = .ok (.aload_n 0, 1) := dk_42 (dk_at dksX1_choose_0 7 rfl rfl)
theorem dX1_choose_8 : decode cX1_choose 8 = .ok (.aload_n 3, 1) := dk_45 (dk_at dksX1_choose_0 8 rfl rfl)
theorem dX1_choose_9 : decode cX1_choose 9 = .ok (.iload_n 2, 1) := dk_28 (dk_at dksX1_choose_0 9 rfl rfl)
theorem dX1_choose_10 : decode cX1_choose 10 = .ok (.invokedynamic 285, 5) := by decide +kernel
theorem dX1_choose_15 : decode cX1_choose 15 = .ok (.invokevirtual 123, 3) := dk_182 0 123 (dk_at dksX1_choose_0 15 rfl rfl)
theorem dX1_choose_18 : decode cX1_choose 18 = .ok (.ireturn, 1) := dk_172 (dk_at dksX1_choose_0 18 rfl rfl)
def dkwX1_lambda_choose_7_0 : List UInt8 := [42, 44, 27, 182, 1, 133, 172]
abbrev dktX1_lambda_choose_7_0 : List UInt8 := dkwX1_lambda_choose_7_0 ++ []
theorem dksX1_lambda_choose_7_0 : cX1_lambda_choose_7.data.toList.drop 0 = dktX1_lambda_choose_7_0 := by decide +kernel
theorem dX1_lambda_choose_7_0 : decode cX1_lambda_choose_7 0 = .ok (.aload_n 0, 1) := dk_42 (dk_at dksX1_lambda_choose_7_0 0 rfl rfl)
theorem dX1_lambda_choose_7_1 : decode cX1_lambda_choose_7 1 = .ok (.aload_n 2, 1) := dk_44 (dk_at dksX1_lambda_choose_7_0 1 rfl rfl)
theorem dX1_lambda_choose_7_2 : decode cX1_lambda_choose_7 2 = .ok (.iload_n 1, 1) := dk_27 (dk_at dksX1_lambda_choose_7_0 2 rfl rfl)
theorem dX1_lambda_choose_7_3 : decode cX1_lambda_choose_7 3 = .ok (.invokevirtual 389, 3) := dk_182 1 133 (dk_at dksX1_lambda_choose_7_0 3 rfl rfl)
theorem dX1_lambda_choose_7_6 : decode cX1_lambda_choose_7 6 = .ok (.ireturn, 1) := dk_172 (dk_at dksX1_lambda_choose_7_0 6 rfl rfl)
def dkwX1_rest_2 : List UInt8 := [180, 1, 45, 182, 0, 103, 44, 180, 1, 48, 172]
abbrev dktX1_rest_2 : List UInt8 := dkwX1_rest_2 ++ []
def dkwX1_rest_1 : List UInt8 := [153, 0, 14, 44, 182, 1, 38, 182, 0, 197, 62, 167, 255, 241, 44, 180, 1, 41, 184, 0, 226, 42, 44]
abbrev dktX1_rest_1 : List UInt8 := dkwX1_rest_1 ++ dktX1_rest_2
def dkwX1_rest_0 : List UInt8 := [27, 4, 8, 184, 0, 112, 184, 0, 116, 187, 1, 32, 89, 42, 27, 183, 1, 34, 77, 44, 182, 1, 37]
abbrev dktX1_rest_0 : List UInt8 := dkwX1_rest_0 ++ dktX1_rest_1
theorem dksX1_rest_0 : cX1_rest.data.toList.drop 0 = dktX1_rest_0 := by decide +kernel
theorem dksX1_rest_1 : cX1_rest.data.toList.drop 23 = dktX1_rest_1 := dk_seg dksX1_rest_0 23 rfl rfl
theorem dksX1_rest_2 : cX1_rest.data.toList.drop 46 = dktX1_rest_2 := dk_seg dksX1_rest_1 23 rfl rfl
theorem dX1_rest_0 : decode cX1_rest 0 = .ok (.iload_n 1, 1) := dk_27 (dk_at dksX1_rest_0 0 rfl rfl)
theorem dX1_rest_1 : decode cX1_rest 1 = .ok (.iconst 1, 1) := dk_4 (dk_at dksX1_rest_0 1 rfl rfl)
theorem dX1_rest_2 : decode cX1_rest 2 = .ok (.iconst 5, 1) := dk_8 (dk_at dksX1_rest_0 2 rfl rfl)
theorem dX1_rest_3 : decode cX1_rest 3 = .ok (.invokestatic 112, 3) := dk_184 0 112 (dk_at dksX1_rest_0 3 rfl rfl)
theorem dX1_rest_6 : decode cX1_rest 6 = .ok (.invokestatic 116, 3) := dk_184 0 116 (dk_at dksX1_rest_0 6 rfl rfl)
theorem dX1_rest_9 : decode cX1_rest 9 = .ok (.new 288, 3) := dk_187 1 32 (dk_at dksX1_rest_0 9 rfl rfl)
theorem dX1_rest_12 : decode cX1_rest 12 = .ok (.dup, 1) := dk_89 (dk_at dksX1_rest_0 12 rfl rfl)
theorem dX1_rest_13 : decode cX1_rest 13 = .ok (.aload_n 0, 1) := dk_42 (dk_at dksX1_rest_0 13 rfl rfl)
theorem dX1_rest_14 : decode cX1_rest 14 = .ok (.iload_n 1, 1) := dk_27 (dk_at dksX1_rest_0 14 rfl rfl)
theorem dX1_rest_15 : decode cX1_rest 15 = .ok (.invokespecial 290, 3) := dk_183 1 34 (dk_at dksX1_rest_0 15 rfl rfl)
theorem dX1_rest_18 : decode cX1_rest 18 = .ok (.astore_n 2, 1) := dk_77 (dk_at dksX1_rest_0 18 rfl rfl)
theorem dX1_rest_19 : decode cX1_rest 19 = .ok (.aload_n 2, 1) := dk_44 (dk_at dksX1_rest_0 19 rfl rfl)
theorem dX1_rest_20 : decode cX1_rest 20 = .ok (.invokevirtual 293, 3) := dk_182 1 37 (dk_at dksX1_rest_0 20 rfl rfl)
theorem dX1_rest_23 : decode cX1_rest 23 = .ok (.ifCond .eq 14, 3) := dk_153 0 14 (dk_at dksX1_rest_1 0 rfl rfl)
theorem dX1_rest_26 : decode cX1_rest 26 = .ok (.aload_n 2, 1) := dk_44 (dk_at dksX1_rest_1 3 rfl rfl)
theorem dX1_rest_27 : decode cX1_rest 27 = .ok (.invokevirtual 294, 3) := dk_182 1 38 (dk_at dksX1_rest_1 4 rfl rfl)
theorem dX1_rest_30 : decode cX1_rest 30 = .ok (.invokevirtual 197, 3) := dk_182 0 197 (dk_at dksX1_rest_1 7 rfl rfl)
theorem dX1_rest_33 : decode cX1_rest 33 = .ok (.istore_n 3, 1) := dk_62 (dk_at dksX1_rest_1 10 rfl rfl)
theorem dX1_rest_34 : decode cX1_rest 34 = .ok (.goto (-15), 3) := dk_167 255 241 (dk_at dksX1_rest_1 11 rfl rfl)
theorem dX1_rest_37 : decode cX1_rest 37 = .ok (.aload_n 2, 1) := dk_44 (dk_at dksX1_rest_1 14 rfl rfl)
theorem dX1_rest_38 : decode cX1_rest 38 = .ok (.getfield 297, 3) := dk_180 1 41 (dk_at dksX1_rest_1 15 rfl rfl)
theorem dX1_rest_41 : decode cX1_rest 41 = .ok (.invokestatic 226, 3) := dk_184 0 226 (dk_at dksX1_rest_1 18 rfl rfl)
theorem dX1_rest_44 : decode cX1_rest 44 = .ok (.aload_n 0, 1) := dk_42 (dk_at dksX1_rest_1 21 rfl rfl)
theorem dX1_rest_45 : decode cX1_rest 45 = .ok (.aload_n 2, 1) := dk_44 (dk_at dksX1_rest_1 22 rfl rfl)
theorem dX1_rest_46 : decode cX1_rest 46 = .ok (.getfield 301, 3) := dk_180 1 45 (dk_at dksX1_rest_2 0 rfl rfl)
theorem dX1_rest_49 : decode cX1_rest 49 = .ok (.invokevirtual 103, 3) := dk_182 0 103 (dk_at dksX1_rest_2 3 rfl rfl)
theorem dX1_rest_52 : decode cX1_rest 52 = .ok (.aload_n 2, 1) := dk_44 (dk_at dksX1_rest_2 6 rfl rfl)
theorem dX1_rest_53 : decode cX1_rest 53 = .ok (.getfield 304, 3) := dk_180 1 48 (dk_at dksX1_rest_2 7 rfl rfl)
theorem dX1_rest_56 : decode cX1_rest 56 = .ok (.ireturn, 1) := dk_172 (dk_at dksX1_rest_2 10 rfl rfl)
def dkwX1_number_7 : List UInt8 := [180, 0, 27, 180, 0, 243, 172, 42, 180, 0, 39, 182, 0, 73, 172, 42, 180, 0, 46, 182, 1, 84, 172]
abbrev dktX1_number_7 : List UInt8 := dkwX1_number_7 ++ []
def dkwX1_number_6 : List UInt8 := [180, 0, 27, 180, 1, 81, 172, 42, 180, 0, 27, 42, 180, 0, 27, 180, 0, 148, 182, 1, 51, 172, 42]
abbrev dktX1_number_6 : List UInt8 := dkwX1_number_6 ++ dktX1_number_7
def dkwX1_number_5 : List UInt8 := [180, 0, 170, 182, 1, 73, 172, 42, 180, 0, 27, 180, 1, 75, 172, 42, 180, 0, 27, 180, 1, 78, 172, 42]
abbrev dktX1_number_5 : List UInt8 := dkwX1_number_5 ++ dktX1_number_6
def dkwX1_number_4 : List UInt8 := [42, 180, 0, 27, 180, 1, 70, 172, 42, 180, 0, 27, 180, 0, 170, 180, 0, 223, 172, 42, 180, 0, 27]
abbrev dktX1_number_4 : List UInt8 := dkwX1_number_4 ++ dktX1_number_5
def dkwX1_number_3 : List UInt8 := [42, 180, 0, 27, 180, 1, 58, 172, 42, 180, 0, 27, 180, 1, 61, 172, 42, 180, 0, 27, 180, 1, 67, 172]
abbrev dktX1_number_3 : List UInt8 := dkwX1_number_3 ++ dktX1_number_4
def dkwX1_number_2 : List UInt8 := [42, 180, 0, 27, 180, 1, 20, 172, 42, 180, 0, 27, 180, 1, 64, 172, 42, 180, 0, 27, 180, 1, 55, 172]
abbrev dktX1_number_2 : List UInt8 := dkwX1_number_2 ++ dktX1_number_3
def dkwX1_number_1 : List UInt8 := [170, 0, 0, 0, 206, 0, 0, 0, 0, 0, 0, 0, 14, 0, 0, 0, 73, 0, 0, 0, 81, 0, 0, 0, 89, 0, 0, 0, 97, 0, 0, 0, 105, 0, 0, 0, 113, 0, 0, 0, 121, 0, 0, 0, 129, 0, 0, 0, 140, 0, 0, 0, 151, 0, 0, 0, 159, 0, 0, 0, 167, 0, 0, 0, 175, 0, 0, 0, 190, 0, 0, 0, 198]
abbrev dktX1_number_1 : List UInt8 := dkwX1_number_1 ++ dktX1_number_2
def dkwX1_number_0 : List UInt8 := [27, 3, 16, 15, 184, 0, 112, 184, 0, 116, 27]
abbrev dktX1_number_0 : List UInt8 := dkwX1_number_0 ++ dktX1_number_1
theorem dksX1_number_0 : cX1_number.data.toList.drop 0 = dktX1_number_0 := by decide +kernel
theorem dksX1_number_1 : cX1_number.data.toList.drop 11 = dktX1_number_1 := dk_seg dksX1_number_0 11 rfl rfl
theorem dksX1_number_2 : cX1_number.data.toList.drop 84 = dktX1_number_2 := dk_seg dksX1_number_1 73 rfl rfl
theorem dksX1_number_3 : cX1_number.data.toList.drop 108 = dktX1_number_3 := dk_seg dksX1_number_2 24 rfl rfl
theorem dksX1_number_4 : cX1_number.data.toList.drop 132 = dktX1_number_4 := dk_seg dksX1_number_3 24 rfl rfl
theorem dksX1_number_5 : cX1_number.data.toList.drop 155 = dktX1_number_5 := dk_seg dksX1_number_4 23 rfl rfl
theorem dksX1_number_6 : cX1_number.data.toList.drop 179 = dktX1_number_6 := dk_seg dksX1_number_5 24 rfl rfl
theorem dksX1_number_7 : cX1_number.data.toList.drop 202 = dktX1_number_7 := dk_seg dksX1_number_6 23 rfl rfl
theorem dX1_number_0 : decode cX1_number 0 = .ok (.iload_n 1, 1) := dk_27 (dk_at dksX1_number_0 0 rfl rfl)
theorem dX1_number_1 : decode cX1_number 1 = .ok (.iconst 0, 1) := dk_3 (dk_at dksX1_number_0 1 rfl rfl)
theorem dX1_number_2 : decode cX1_number 2 = .ok (.bipush 15, 2) := dk_16 15 (dk_at dksX1_number_0 2 rfl rfl)
theorem dX1_number_4 : decode cX1_number 4 = .ok (.invokestatic 112, 3) := dk_184 0 112 (dk_at dksX1_number_0 4 rfl rfl)
theorem dX1_number_7 : decode cX1_number 7 = .ok (.invokestatic 116, 3) := dk_184 0 116 (dk_at dksX1_number_0 7 rfl rfl)
theorem dX1_number_10 : decode cX1_number 10 = .ok (.iload_n 1, 1) := dk_27 (dk_at dksX1_number_0 10 rfl rfl)
theorem dX1_number_11 : decode cX1_number 11 = .ok (.tableswitch 206 0 14 #[73, 81, 89, 97, 105, 113, 121, 129, 140, 151, 159, 167, 175, 190, 198], 73) := by decide +kernel
theorem dX1_number_84 : decode cX1_number 84 = .ok (.aload_n 0, 1) := dk_42 (dk_at dksX1_number_2 0 rfl rfl)
theorem dX1_number_85 : decode cX1_number 85 = .ok (.getfield 27, 3) := dk_180 0 27 (dk_at dksX1_number_2 1 rfl rfl)
theorem dX1_number_88 : decode cX1_number 88 = .ok (.getfield 276, 3) := dk_180 1 20 (dk_at dksX1_number_2 4 rfl rfl)
theorem dX1_number_91 : decode cX1_number 91 = .ok (.ireturn, 1) := dk_172 (dk_at dksX1_number_2 7 rfl rfl)
theorem dX1_number_92 : decode cX1_number 92 = .ok (.aload_n 0, 1) := dk_42 (dk_at dksX1_number_2 8 rfl rfl)
theorem dX1_number_93 : decode cX1_number 93 = .ok (.getfield 27, 3) := dk_180 0 27 (dk_at dksX1_number_2 9 rfl rfl)
theorem dX1_number_96 : decode cX1_number 96 = .ok (.getfield 320, 3) := dk_180 1 64 (dk_at dksX1_number_2 12 rfl rfl)
theorem dX1_number_99 : decode cX1_number 99 = .ok (.ireturn, 1) := dk_172 (dk_at dksX1_number_2 15 rfl rfl)
theorem dX1_number_100 : decode cX1_number 100 = .ok (.aload_n 0, 1) := dk_42 (dk_at dksX1_number_2 16 rfl rfl)
theorem dX1_number_101 : decode cX1_number 101 = .ok (.getfield 27, 3) := dk_180 0 27 (dk_at dksX1_number_2 17 rfl rfl)
theorem dX1_number_104 : decode cX1_number 104 = .ok (.getfield 311, 3) := dk_180 1 55 (dk_at dksX1_number_2 20 rfl rfl)
theorem dX1_number_107 : decode cX1_number 107 = .ok (.ireturn, 1) := dk_172 (dk_at dksX1_number_2 23 rfl rfl)
theorem dX1_number_108 : decode cX1_number 108 = .ok (.aload_n 0, 1) := dk_42 (dk_at dksX1_number_3 0 rfl rfl)
theorem dX1_number_109 : decode cX1_number 109 = .ok (.getfield 27, 3) := dk_180 0 27 (dk_at dksX1_number_3 1 rfl rfl)
theorem dX1_number_112 : decode cX1_number 112 = .ok (.getfield 314, 3) := dk_180 1 58 (dk_at dksX1_number_3 4 rfl rfl)
theorem dX1_number_115 : decode cX1_number 115 = .ok (.ireturn, 1) := dk_172 (dk_at dksX1_number_3 7 rfl rfl)
theorem dX1_number_116 : decode cX1_number 116 = .ok (.aload_n 0, 1) := dk_42 (dk_at dksX1_number_3 8 rfl rfl)
theorem dX1_number_117 : decode cX1_number 117 = .ok (.getfield 27, 3) := dk_180 0 27 (dk_at dksX1_number_3 9 rfl rfl)
theorem dX1_number_120 : decode cX1_number 120 = .ok (.getfield 317, 3) := dk_180 1 61 (dk_at dksX1_number_3 12 rfl rfl)
theorem dX1_number_123 : decode cX1_number 123 = .ok (.ireturn, 1) := dk_172 (dk_at dksX1_number_3 15 rfl rfl)
theorem dX1_number_124 : decode cX1_number 124 = .ok (.aload_n 0, 1) := dk_42 (dk_at dksX1_number_3 16 rfl rfl)
theorem dX1_number_125 : decode cX1_number 125 = .ok (.getfield 27, 3) := dk_180 0 27 (dk_at dksX1_number_3 17 rfl rfl)
theorem dX1_number_128 : decode cX1_number 128 = .ok (.getfield 323, 3) := dk_180 1 67 (dk_at dksX1_number_3 20 rfl rfl)
theorem dX1_number_131 : decode cX1_number 131 = .ok (.ireturn, 1) := dk_172 (dk_at dksX1_number_3 23 rfl rfl)
theorem dX1_number_132 : decode cX1_number 132 = .ok (.aload_n 0, 1) := dk_42 (dk_at dksX1_number_4 0 rfl rfl)
theorem dX1_number_133 : decode cX1_number 133 = .ok (.getfield 27, 3) := dk_180 0 27 (dk_at dksX1_number_4 1 rfl rfl)
theorem dX1_number_136 : decode cX1_number 136 = .ok (.getfield 326, 3) := dk_180 1 70 (dk_at dksX1_number_4 4 rfl rfl)
theorem dX1_number_139 : decode cX1_number 139 = .ok (.ireturn, 1) := dk_172 (dk_at dksX1_number_4 7 rfl rfl)
theorem dX1_number_140 : decode cX1_number 140 = .ok (.aload_n 0, 1) := dk_42 (dk_at dksX1_number_4 8 rfl rfl)
theorem dX1_number_141 : decode cX1_number 141 = .ok (.getfield 27, 3) := dk_180 0 27 (dk_at dksX1_number_4 9 rfl rfl)
theorem dX1_number_144 : decode cX1_number 144 = .ok (.getfield 170, 3) := dk_180 0 170 (dk_at dksX1_number_4 12 rfl rfl)
theorem dX1_number_147 : decode cX1_number 147 = .ok (.getfield 223, 3) := dk_180 0 223 (dk_at dksX1_number_4 15 rfl rfl)
theorem dX1_number_150 : decode cX1_number 150 = .ok (.ireturn, 1) := dk_172 (dk_at dksX1_number_4 18 rfl rfl)
theorem dX1_number_151 : decode cX1_number 151 = .ok (.aload_n 0, 1) := dk_42 (dk_at dksX1_number_4 19 rfl rfl)
theorem dX1_number_152 : decode cX1_number 152 = .ok (.getfield 27, 3) := dk_180 0 27 (dk_at dksX1_number_4 20 rfl rfl)
theorem dX1_number_155 : decode cX1_number 155 = .ok (.getfield 170, 3) := dk_180 0 170 (dk_at dksX1_number_5 0 rfl rfl)
theorem dX1_number_158 : decode cX1_number 158 = .ok (.invokevirtual 329, 3) := dk_182 1 73 (dk_at dksX1_number_5 3 rfl rfl)
theorem dX1_number_161 : decode cX1_number 161 = .ok (.ireturn, 1) := dk_172 (dk_at dksX1_number_5 6 rfl rfl)
theorem dX1_number_162 : decode cX1_number 162 = .ok (.aload_n 0, 1) := dk_42 (dk_at dksX1_number_5 7 rfl rfl)
theorem dX1_number_163 : decode cX1_number 163 = .ok (.getfield 27, 3) := dk_180 0 27 (dk_at dksX1_number_5 8 rfl rfl)
theorem dX1_number_166 : decode cX1_number 166 = .ok (.getfield 331, 3) := dk_180 1 75 (dk_at dksX1_number_5 11 rfl rfl)
theorem dX1_number_169 : decode cX1_number 169 = .ok (.ireturn, 1) := dk_172 (dk_at dksX1_number_5 14 rfl rfl)
theorem dX1_number_170 : decode cX1_number 170 = .ok (.aload_n 0, 1) := dk_42 (dk_at dksX1_number_5 15 rfl rfl)
theorem dX1_number_171 : decode cX1_number 171 = .ok (.getfield 27, 3) := dk_180 0 27 (dk_at dksX1_number_5 16 rfl rfl)
theorem dX1_number_174 : decode cX1_number 174 = .ok (.getfield 334, 3) := dk_180 1 78 (dk_at dksX1_number_5 19 rfl rfl)
theorem dX1_number_177 : decode cX1_number 177 = .ok (.ireturn, 1) := dk_172 (dk_at dksX1_number_5 22 rfl rfl)
theorem dX1_number_178 : decode cX1_number 178 = .ok (.aload_n 0, 1) := dk_42 (dk_at dksX1_number_5 23 rfl rfl)
theorem dX1_number_179 : decode cX1_number 179 = .ok (.getfield 27, 3) := dk_180 0 27 (dk_at dksX1_number_6 0 rfl rfl)
theorem dX1_number_182 : decode cX1_number 182 = .ok (.getfield 337, 3) := dk_180 1 81 (dk_at dksX1_number_6 3 rfl rfl)
theorem dX1_number_185 : decode cX1_number 185 = .ok (.ireturn, 1) := dk_172 (dk_at dksX1_number_6 6 rfl rfl)
theorem dX1_number_186 : decode cX1_number 186 = .ok (.aload_n 0, 1) := dk_42 (dk_at dksX1_number_6 7 rfl rfl)
theorem dX1_number_187 : decode cX1_number 187 = .ok (.getfield 27, 3) := dk_180 0 27 (dk_at dksX1_number_6 8 rfl rfl)
theorem dX1_number_190 : decode cX1_number 190 = .ok (.aload_n 0, 1) := dk_42 (dk_at dksX1_number_6 11 rfl rfl)
theorem dX1_number_191 : decode cX1_number 191 = .ok (.getfield 27, 3) := dk_180 0 27 (dk_at dksX1_number_6 12 rfl rfl)
theorem dX1_number_194 : decode cX1_number 194 = .ok (.getfield 148, 3) := dk_180 0 148 (dk_at dksX1_number_6 15 rfl rfl)
theorem dX1_number_197 : decode cX1_number 197 = .ok (.invokevirtual 307, 3) := dk_182 1 51 (dk_at dksX1_number_6 18 rfl rfl)
theorem dX1_number_200 : decode cX1_number 200 = .ok (.ireturn, 1) := dk_172 (dk_at dksX1_number_6 21 rfl rfl)
theorem dX1_number_201 : decode cX1_number 201 = .ok (.aload_n 0, 1) := dk_42 (dk_at dksX1_number_6 22 rfl rfl)
theorem dX1_number_202 : decode cX1_number 202 = .ok (.getfield 27, 3) := dk_180 0 27 (dk_at dksX1_number_7 0 rfl rfl)
theorem dX1_number_205 : decode cX1_number 205 = .ok (.getfield 243, 3) := dk_180 0 243 (dk_at dksX1_number_7 3 rfl rfl)
theorem dX1_number_208 : decode cX1_number 208 = .ok (.ireturn, 1) := dk_172 (dk_at dksX1_number_7 6 rfl rfl)
theorem dX1_number_209 : decode cX1_number 209 = .ok (.aload_n 0, 1) := dk_42 (dk_at dksX1_number_7 7 rfl rfl)
theorem dX1_number_210 : decode cX1_number 210 = .ok (.getfield 39, 3) := dk_180 0 39 (dk_at dksX1_number_7 8 rfl rfl)
theorem dX1_number_213 : decode cX1_number 213 = .ok (.invokevirtual 73, 3) := dk_182 0 73 (dk_at dksX1_number_7 11 rfl rfl)
theorem dX1_number_216 : decode cX1_number 216 = .ok (.ireturn, 1) := dk_172 (dk_at dksX1_number_7 14 rfl rfl)
theorem dX1_number_217 : decode cX1_number 217 = .ok (.aload_n 0, 1) := dk_42 (dk_at dksX1_number_7 15 rfl rfl)
theorem dX1_number_218 : decode cX1_number 218 = .ok (.getfield 46, 3) := dk_180 0 46 (dk_at dksX1_number_7 16 rfl rfl)
theorem dX1_number_221 : decode cX1_number 221 = .ok (.invokevirtual 340, 3) := dk_182 1 84 (dk_at dksX1_number_7 19 rfl rfl)
theorem dX1_number_224 : decode cX1_number 224 = .ok (.ireturn, 1) := dk_172 (dk_at dksX1_number_7 22 rfl rfl)
def dkwX1_meanLevel_2 : List UInt8 := [167, 255, 231, 27, 135, 42, 180, 0, 27, 180, 1, 20, 135, 111, 175]
abbrev dktX1_meanLevel_2 : List UInt8 := dkwX1_meanLevel_2 ++ []
def dkwX1_meanLevel_1 : List UInt8 := [180, 0, 27, 180, 1, 20, 162, 0, 20, 27, 42, 180, 0, 27, 28, 182, 0, 167, 96, 60, 132, 2, 1]
abbrev dktX1_meanLevel_1 : List UInt8 := dkwX1_meanLevel_1 ++ dktX1_meanLevel_2
def dkwX1_meanLevel_0 : List UInt8 := [42, 180, 0, 27, 180, 1, 20, 154, 0, 11, 187, 1, 87, 89, 183, 1, 89, 191, 3, 60, 3, 61, 28, 42]
abbrev dktX1_meanLevel_0 : List UInt8 := dkwX1_meanLevel_0 ++ dktX1_meanLevel_1
theorem dksX1_meanLevel_0 : cX1_meanLevel.data.toList.drop 0 = dktX1_meanLevel_0 := by decide +kernel
theorem dksX1_meanLevel_1 : cX1_meanLevel.data.toList.drop 24 = dktX1_meanLevel_1 := dk_seg dksX1_meanLevel_0 24 rfl rfl
theorem dksX1_meanLevel_2 : cX1_meanLevel.data.toList.drop 47 = dktX1_meanLevel_2 := dk_seg dksX1_meanLevel_1 23 rfl rfl
theorem dX1_meanLevel_0 : decode cX1_meanLevel 0 = .ok (.aload_n 0, 1) := dk_42 (dk_at dksX1_meanLevel_0 0 rfl rfl)
theorem dX1_meanLevel_1 : decode cX1_meanLevel 1 = .ok (.getfield 27, 3) := dk_180 0 27 (dk_at dksX1_meanLevel_0 1 rfl rfl)
theorem dX1_meanLevel_4 : decode cX1_meanLevel 4 = .ok (.getfield 276, 3) := dk_180 1 20 (dk_at dksX1_meanLevel_0 4 rfl rfl)
theorem dX1_meanLevel_7 : decode cX1_meanLevel 7 = .ok (.ifCond .ne 11, 3) := dk_154 0 11 (dk_at dksX1_meanLevel_0 7 rfl rfl)
theorem dX1_meanLevel_10 : decode cX1_meanLevel 10 = .ok (.new 343, 3) := dk_187 1 87 (dk_at dksX1_meanLevel_0 10 rfl rfl)
theorem dX1_meanLevel_13 : decode cX1_meanLevel 13 = .ok (.dup, 1) := dk_89 (dk_at dksX1_meanLevel_0 13 rfl rfl)
theorem dX1_meanLevel_14 : decode cX1_meanLevel 14 = .ok (.invokespecial 345, 3) := dk_183 1 89 (dk_at dksX1_meanLevel_0 14 rfl rfl)
theorem dX1_meanLevel_17 : decode cX1_meanLevel 17 = .ok (.athrow, 1) := dk_191 (dk_at dksX1_meanLevel_0 17 rfl rfl)
theorem dX1_meanLevel_18 : decode cX1_meanLevel 18 = .ok (.iconst 0, 1) := dk_3 (dk_at dksX1_meanLevel_0 18 rfl rfl)
theorem dX1_meanLevel_19 : decode cX1_meanLevel 19 = .ok (.istore_n 1, 1) := dk_60 (dk_at dksX1_meanLevel_0 19 rfl rfl)
theorem dX1_meanLevel_20 : decode cX1_meanLevel 20 = .ok (.iconst 0, 1) := dk_3 (dk_at dksX1_meanLevel_0 20 rfl rfl)
theorem dX1_meanLevel_21 : decode cX1_meanLevel 21 = .ok (.istore_n 2, 1) := dk_61 (dk_at dksX1_meanLevel_0 21 rfl rfl)
theorem dX1_meanLevel_22 : decode cX1_meanLevel 22 = .ok (.iload_n 2, 1) := dk_28 (dk_at dksX1_meanLevel_0 22 rfl rfl)
theorem dX1_meanLevel_23 : decode cX1_meanLevel 23 = .ok (.aload_n 0, 1) := dk_42 (dk_at dksX1_meanLevel_0 23 rfl rfl)
theorem dX1_meanLevel_24 : decode cX1_meanLevel 24 = .ok (.getfield 27, 3) := dk_180 0 27 (dk_at dksX1_meanLevel_1 0 rfl rfl)
theorem dX1_meanLevel_27 : decode cX1_meanLevel 27 = .ok (.getfield 276, 3) := dk_180 1 20 (dk_at dksX1_meanLevel_1 3 rfl rfl)
theorem dX1_meanLevel_30 : decode cX1_meanLevel 30 = .ok (.if_icmp .ge 20, 3) := dk_162 0 20 (dk_at dksX1_meanLevel_1 6 rfl rfl)
theorem dX1_meanLevel_33 : decode cX1_meanLevel 33 = .ok (.iload_n 1, 1) := dk_27 (dk_at dksX1_meanLevel_1 9 rfl rfl)
theorem dX1_meanLevel_34 : decode cX1_meanLevel 34 = .ok (.aload_n 0, 1) := dk_42 (dk_at dksX1_meanLevel_1 10 rfl rfl)
theorem dX1_meanLevel_35 : decode cX1_meanLevel 35 = .ok (.getfield 27, 3) := dk_180 0 27 (dk_at dksX1_meanLevel_1 11 rfl rfl)
theorem dX1_meanLevel_38 : decode cX1_meanLevel 38 = .ok (.iload_n 2, 1) := dk_28 (dk_at dksX1_meanLevel_1 14 rfl rfl)
theorem dX1_meanLevel_39 : decode cX1_meanLevel 39 = .ok (.invokevirtual 167, 3) := dk_182 0 167 (dk_at dksX1_meanLevel_1 15 rfl rfl)
theorem dX1_meanLevel_42 : decode cX1_meanLevel 42 = .ok (.iadd, 1) := dk_96 (dk_at dksX1_meanLevel_1 18 rfl rfl)
theorem dX1_meanLevel_43 : decode cX1_meanLevel 43 = .ok (.istore_n 1, 1) := dk_60 (dk_at dksX1_meanLevel_1 19 rfl rfl)
theorem dX1_meanLevel_44 : decode cX1_meanLevel 44 = .ok (.iinc 2 1, 3) := dk_132 2 1 (dk_at dksX1_meanLevel_1 20 rfl rfl)
theorem dX1_meanLevel_47 : decode cX1_meanLevel 47 = .ok (.goto (-25), 3) := dk_167 255 231 (dk_at dksX1_meanLevel_2 0 rfl rfl)
theorem dX1_meanLevel_50 : decode cX1_meanLevel 50 = .ok (.iload_n 1, 1) := dk_27 (dk_at dksX1_meanLevel_2 3 rfl rfl)
theorem dX1_meanLevel_51 : decode cX1_meanLevel 51 = .ok (.i2d, 1) := dk_135 (dk_at dksX1_meanLevel_2 4 rfl rfl)
theorem dX1_meanLevel_52 : decode cX1_meanLevel 52 = .ok (.aload_n 0, 1) := dk_42 (dk_at dksX1_meanLevel_2 5 rfl rfl)
theorem dX1_meanLevel_53 : decode cX1_meanLevel 53 = .ok (.getfield 27, 3) := dk_180 0 27 (dk_at dksX1_meanLevel_2 6 rfl rfl)
theorem dX1_meanLevel_56 : decode cX1_meanLevel 56 = .ok (.getfield 276, 3) := dk_180 1 20 (dk_at dksX1_meanLevel_2 9 rfl rfl)
theorem dX1_meanLevel_59 : decode cX1_meanLevel 59 = .ok (.i2d, 1) := dk_135 (dk_at dksX1_meanLevel_2 12 rfl rfl)
theorem dX1_meanLevel_60 : decode cX1_meanLevel 60 = .ok (.ddiv, 1) := dk_111 (dk_at dksX1_meanLevel_2 13 rfl rfl)
theorem dX1_meanLevel_61 : decode cX1_meanLevel 61 = .ok (.dreturn, 1) := dk_175 (dk_at dksX1_meanLevel_2 14 rfl rfl)
def dkwX1_silence_1 : List UInt8 := [180, 1, 70, 134, 42, 180, 0, 27, 180, 1, 64, 134, 110, 174]
abbrev dktX1_silence_1 : List UInt8 := dkwX1_silence_1 ++ []
def dkwX1_silence_0 : List UInt8 := [42, 180, 0, 27, 180, 1, 64, 154, 0, 11, 187, 1, 87, 89, 183, 1, 89, 191, 42, 180, 0, 27]
abbrev dktX1_silence_0 : List UInt8 := dkwX1_silence_0 ++ dktX1_silence_1
theorem dksX1_silence_0 : cX1_silence.data.toList.drop 0 = dktX1_silence_0 := by decide +kernel
theorem dksX1_silence_1 : cX1_silence.data.toList.drop 22 = dktX1_silence_1 := dk_seg dksX1_silence_0 22 rfl rfl
theorem dX1_silence_0 : decode cX1_silence 0 = .ok (.aload_n 0, 1) := dk_42 (dk_at dksX1_silence_0 0 rfl rfl)
theorem dX1_silence_1 : decode cX1_silence 1 = .ok (.getfield 27, 3) := dk_180 0 27 (dk_at dksX1_silence_0 1 rfl rfl)
theorem dX1_silence_4 : decode cX1_silence 4 = .ok (.getfield 320, 3) := dk_180 1 64 (dk_at dksX1_silence_0 4 rfl rfl)
theorem dX1_silence_7 : decode cX1_silence 7 = .ok (.ifCond .ne 11, 3) := dk_154 0 11 (dk_at dksX1_silence_0 7 rfl rfl)
theorem dX1_silence_10 : decode cX1_silence 10 = .ok (.new 343, 3) := dk_187 1 87 (dk_at dksX1_silence_0 10 rfl rfl)
theorem dX1_silence_13 : decode cX1_silence 13 = .ok (.dup, 1) := dk_89 (dk_at dksX1_silence_0 13 rfl rfl)
theorem dX1_silence_14 : decode cX1_silence 14 = .ok (.invokespecial 345, 3) := dk_183 1 89 (dk_at dksX1_silence_0 14 rfl rfl)
theorem dX1_silence_17 : decode cX1_silence 17 = .ok (.athrow, 1) := dk_191 (dk_at dksX1_silence_0 17 rfl rfl)
theorem dX1_silence_18 : decode cX1_silence 18 = .ok (.aload_n 0, 1) := dk_42 (dk_at dksX1_silence_0 18 rfl rfl)
theorem dX1_silence_19 : decode cX1_silence 19 = .ok (.getfield 27, 3) := dk_180 0 27 (dk_at dksX1_silence_0 19 rfl rfl)
theorem dX1_silence_22 : decode cX1_silence 22 = .ok (.getfield 326, 3) := dk_180 1 70 (dk_at dksX1_silence_1 0 rfl rfl)
theorem dX1_silence_25 : decode cX1_silence 25 = .ok (.i2f, 1) := dk_134 (dk_at dksX1_silence_1 3 rfl rfl)
theorem dX1_silence_26 : decode cX1_silence 26 = .ok (.aload_n 0, 1) := dk_42 (dk_at dksX1_silence_1 4 rfl rfl)
theorem dX1_silence_27 : decode cX1_silence 27 = .ok (.getfield 27, 3) := dk_180 0 27 (dk_at dksX1_silence_1 5 rfl rfl)
theorem dX1_silence_30 : decode cX1_silence 30 = .ok (.getfield 320, 3) := dk_180 1 64 (dk_at dksX1_silence_1 8 rfl rfl)
theorem dX1_silence_33 : decode cX1_silence 33 = .ok (.i2f, 1) := dk_134 (dk_at dksX1_silence_1 11 rfl rfl)
theorem dX1_silence_34 : decode cX1_silence 34 = .ok (.fdiv, 1) := dk_110 (dk_at dksX1_silence_1 12 rfl rfl)
theorem dX1_silence_35 : decode cX1_silence 35 = .ok (.freturn, 1) := dk_174 (dk_at dksX1_silence_1 13 rfl rfl)
def dkwX1_feed_1 : List UInt8 := [27, 182, 1, 93, 87, 42, 180, 0, 46, 182, 1, 84, 172]
abbrev dktX1_feed_1 : List UInt8 := dkwX1_feed_1 ++ []
def dkwX1_feed_0 : List UInt8 := [42, 180, 0, 46, 182, 1, 84, 16, 60, 162, 0, 7, 4, 167, 0, 4, 3, 184, 1, 90, 42, 180, 0, 46]
abbrev dktX1_feed_0 : List UInt8 := dkwX1_feed_0 ++ dktX1_feed_1
theorem dksX1_feed_0 : cX1_feed.data.toList.drop 0 = dktX1_feed_0 := by decide +kernel
theorem dksX1_feed_1 : cX1_feed.data.toList.drop 24 = dktX1_feed_1 := dk_seg dksX1_feed_0 24 rfl rfl
theorem dX1_feed_0 : decode cX1_feed 0 = .ok (.aload_n 0, 1) := dk_42 (dk_at dksX1_feed_0 0 rfl rfl)
theorem dX1_feed_1 : decode cX1_feed 1 = .ok (.getfield 46, 3) := dk_180 0 46 (dk_at dksX1_feed_0 1 rfl rfl)
theorem dX1_feed_4 : decode cX1_feed 4 = .ok (.invokevirtual 340, 3) := dk_182 1 84 (dk_at dksX1_feed_0 4 rfl rfl)
theorem dX1_feed_7 : decode cX1_feed 7 = .ok (.bipush 60, 2) := dk_16 60 (dk_at dksX1_feed_0 7 rfl rfl)
theorem dX1_feed_9 : decode cX1_feed 9 = .ok (.if_icmp .ge 7, 3) := dk_162 0 7 (dk_at dksX1_feed_0 9 rfl rfl)
theorem dX1_feed_12 : decode cX1_feed 12 = .ok (.iconst 1, 1) := dk_4 (dk_at dksX1_feed_0 12 rfl rfl)
theorem dX1_feed_13 : decode cX1_feed 13 = .ok (.goto 4, 3) := dk_167 0 4 (dk_at dksX1_feed_0 13 rfl rfl)
theorem dX1_feed_16 : decode cX1_feed 16 = .ok (.iconst 0, 1) := dk_3 (dk_at dksX1_feed_0 16 rfl rfl)
theorem dX1_feed_17 : decode cX1_feed 17 = .ok (.invokestatic 346, 3) := dk_184 1 90 (dk_at dksX1_feed_0 17 rfl rfl)
theorem dX1_feed_20 : decode cX1_feed 20 = .ok (.aload_n 0, 1) := dk_42 (dk_at dksX1_feed_0 20 rfl rfl)
theorem dX1_feed_21 : decode cX1_feed 21 = .ok (.getfield 46, 3) := dk_180 0 46 (dk_at dksX1_feed_0 21 rfl rfl)
theorem dX1_feed_24 : decode cX1_feed 24 = .ok (.iload_n 1, 1) := dk_27 (dk_at dksX1_feed_1 0 rfl rfl)
theorem dX1_feed_25 : decode cX1_feed 25 = .ok (.invokevirtual 349, 3) := dk_182 1 93 (dk_at dksX1_feed_1 1 rfl rfl)
theorem dX1_feed_28 : decode cX1_feed 28 = .ok (.pop, 1) := dk_87 (dk_at dksX1_feed_1 4 rfl rfl)
theorem dX1_feed_29 : decode cX1_feed 29 = .ok (.aload_n 0, 1) := dk_42 (dk_at dksX1_feed_1 5 rfl rfl)
theorem dX1_feed_30 : decode cX1_feed 30 = .ok (.getfield 46, 3) := dk_180 0 46 (dk_at dksX1_feed_1 6 rfl rfl)
theorem dX1_feed_33 : decode cX1_feed 33 = .ok (.invokevirtual 340, 3) := dk_182 1 84 (dk_at dksX1_feed_1 9 rfl rfl)
theorem dX1_feed_36 : decode cX1_feed 36 = .ok (.ireturn, 1) := dk_172 (dk_at dksX1_feed_1 12 rfl rfl)
def dkwX1_read_3 : List UInt8 := [21, 6, 29, 182, 0, 108, 191, 132, 3, 1, 167, 255, 210, 42, 44, 182, 0, 103, 29, 172]
abbrev dktX1_read_3 : List UInt8 := dkwX1_read_3 ++ []
def dkwX1_read_2 : List UInt8 := [185, 0, 192, 1, 0, 192, 0, 98, 58, 5, 44, 25, 5, 184, 1, 117, 54, 6, 21, 6, 153, 0, 11, 42]
abbrev dktX1_read_2 : List UInt8 := dkwX1_read_2 ++ dktX1_read_3
def dkwX1_read_1 : List UInt8 := [77, 3, 62, 43, 185, 1, 114, 1, 0, 58, 4, 25, 4, 185, 0, 186, 1, 0, 153, 0, 42, 25, 4]
abbrev dktX1_read_1 : List UInt8 := dkwX1_read_1 ++ dktX1_read_2
def dkwX1_read_0 : List UInt8 := [42, 182, 1, 112, 76, 43, 198, 0, 7, 4, 167, 0, 4, 3, 184, 0, 116, 42, 180, 0, 27, 184, 0, 94]
abbrev dktX1_read_0 : List UInt8 := dkwX1_read_0 ++ dktX1_read_1
theorem dksX1_read_0 : cX1_read.data.toList.drop 0 = dktX1_read_0 := by decide +kernel
theorem dksX1_read_1 : cX1_read.data.toList.drop 24 = dktX1_read_1 := dk_seg dksX1_read_0 24 rfl rfl
theorem dksX1_read_2 : cX1_read.data.toList.drop 47 = dktX1_read_2 := dk_seg dksX1_read_1 23 rfl rfl
theorem dksX1_read_3 : cX1_read.data.toList.drop 71 = dktX1_read_3 := dk_seg dksX1_read_2 24 rfl rfl
theorem dX1_read_0 : decode cX1_read 0 = .ok (.aload_n 0, 1) := dk_42 (dk_at dksX1_read_0 0 rfl rfl)
theorem dX1_read_1 : decode cX1_read 1 = .ok (.invokevirtual 368, 3) := dk_182 1 112 (dk_at dksX1_read_0 1 rfl rfl)
theorem dX1_read_4 : decode cX1_read 4 = .ok (.astore_n 1, 1) := dk_76 (dk_at dksX1_read_0 4 rfl rfl)
theorem dX1_read_5 : decode cX1_read 5 = .ok (.aload_n 1, 1) := dk_43 (dk_at dksX1_read_0 5 rfl rfl)
theorem dX1_read_6 : decode cX1_read 6 = .ok (.ifnull 7, 3) := dk_198 0 7 (dk_at dksX1_read_0 6 rfl rfl)
theorem dX1_read_9 : decode cX1_read 9 = .ok (.iconst 1, 1) := dk_4 (dk_at dksX1_read_0 9 rfl rfl)
theorem dX1_read_10 : decode cX1_read 10 = .ok (.goto 4, 3) := dk_167 0 4 (dk_at dksX1_read_0 10 rfl rfl)
theorem dX1_read_13 : decode cX1_read 13 = .ok (.iconst 0, 1) := dk_3 (dk_at dksX1_read_0 13 rfl rfl)
theorem dX1_read_14 : decode cX1_read 14 = .ok (.invokestatic 116, 3) := dk_184 0 116 (dk_at dksX1_read_0 14 rfl rfl)
theorem dX1_read_17 : decode cX1_read 17 = .ok (.aload_n 0, 1) := dk_42 (dk_at dksX1_read_0 17 rfl rfl)
theorem dX1_read_18 : decode cX1_read 18 = .ok (.getfield 27, 3) := dk_180 0 27 (dk_at dksX1_read_0 18 rfl rfl)
theorem dX1_read_21 : decode cX1_read 21 = .ok (.invokestatic 94, 3) := dk_184 0 94 (dk_at dksX1_read_0 21 rfl rfl)
theorem dX1_read_24 : decode cX1_read 24 = .ok (.astore_n 2, 1) := dk_77 (dk_at dksX1_read_1 0 rfl rfl)
theorem dX1_read_25 : decode cX1_read 25 = .ok (.iconst 0, 1) := dk_3 (dk_at dksX1_read_1 1 rfl rfl)
theorem dX1_read_26 : decode cX1_read 26 = .ok (.istore_n 3, 1) := dk_62 (dk_at dksX1_read_1 2 rfl rfl)
theorem dX1_read_27 : decode cX1_read 27 = .ok (.aload_n 1, 1) := dk_43 (dk_at dksX1_read_1 3 rfl rfl)
theorem dX1_read_28 : decode cX1_read 28 = .ok (.invokeinterface 370 1, 5) := by decide +kernel
theorem dX1_read_33 : decode cX1_read 33 = .ok (.astore 4, 2) := dk_58 4 (dk_at dksX1_read_1 9 rfl rfl)
theorem dX1_read_35 : decode cX1_read 35 = .ok (.aload 4, 2) := dk_25 4 (dk_at dksX1_read_1 11 rfl rfl)
theorem dX1_read_37 : decode cX1_read 37 = .ok (.invokeinterface 186 1, 5) := by decide +kernel
theorem dX1_read_42 : decode cX1_read 42 = .ok (.ifCond .eq 42, 3) := dk_153 0 42 (dk_at dksX1_read_1 18 rfl rfl)
theorem dX1_read_45 : decode cX1_read 45 = .ok (.aload 4, 2) := dk_25 4 (dk_at dksX1_read_1 21 rfl rfl)
theorem dX1_read_47 : decode cX1_read 47 = .ok (.invokeinterface 192 1, 5) := by decide +kernel
theorem dX1_read_52 : decode cX1_read 52 = .ok (.checkcast 98, 3) := dk_192 0 98 (dk_at dksX1_read_2 5 rfl rfl)
theorem dX1_read_55 : decode cX1_read 55 = .ok (.astore 5, 2) := dk_58 5 (dk_at dksX1_read_2 8 rfl rfl)
theorem dX1_read_57 : decode cX1_read 57 = .ok (.aload_n 2, 1) := dk_44 (dk_at dksX1_read_2 10 rfl rfl)
theorem dX1_read_58 : decode cX1_read 58 = .ok (.aload 5, 2) := dk_25 5 (dk_at dksX1_read_2 11 rfl rfl)
theorem dX1_read_60 : decode cX1_read 60 = .ok (.invokestatic 373, 3) := dk_184 1 117 (dk_at dksX1_read_2 13 rfl rfl)
theorem dX1_read_63 : decode cX1_read 63 = .ok (.istore 6, 2) := dk_54 6 (dk_at dksX1_read_2 16 rfl rfl)
theorem dX1_read_65 : decode cX1_read 65 = .ok (.iload 6, 2) := dk_21 6 (dk_at dksX1_read_2 18 rfl rfl)
theorem dX1_read_67 : decode cX1_read 67 = .ok (.ifCond .eq 11, 3) := dk_153 0 11 (dk_at dksX1_read_2 20 rfl rfl)
theorem dX1_read_70 : decode cX1_read 70 = .ok (.aload_n 0, 1) := dk_42 (dk_at dksX1_read_2 23 rfl rfl)
theorem dX1_read_71 : decode cX1_read 71 = .ok (.iload 6, 2) := dk_21 6 (dk_at dksX1_read_3 0 rfl rfl)
theorem dX1_read_73 : decode cX1_read 73 = .ok (.iload_n 3, 1) := dk_29 (dk_at dksX1_read_3 2 rfl rfl)
theorem dX1_read_74 : decode cX1_read 74 = .ok (.invokevirtual 108, 3) := dk_182 0 108 (dk_at dksX1_read_3 3 rfl rfl)
theorem dX1_read_77 : decode cX1_read 77 = .ok (.athrow, 1) := dk_191 (dk_at dksX1_read_3 6 rfl rfl)
theorem dX1_read_78 : decode cX1_read 78 = .ok (.iinc 3 1, 3) := dk_132 3 1 (dk_at dksX1_read_3 7 rfl rfl)
theorem dX1_read_81 : decode cX1_read 81 = .ok (.goto (-46), 3) := dk_167 255 210 (dk_at dksX1_read_3 10 rfl rfl)
theorem dX1_read_84 : decode cX1_read 84 = .ok (.aload_n 0, 1) := dk_42 (dk_at dksX1_read_3 13 rfl rfl)
theorem dX1_read_85 : decode cX1_read 85 = .ok (.aload_n 2, 1) := dk_44 (dk_at dksX1_read_3 14 rfl rfl)
theorem dX1_read_86 : decode cX1_read 86 = .ok (.invokevirtual 103, 3) := dk_182 0 103 (dk_at dksX1_read_3 15 rfl rfl)
theorem dX1_read_89 : decode cX1_read 89 = .ok (.iload_n 3, 1) := dk_29 (dk_at dksX1_read_3 18 rfl rfl)
theorem dX1_read_90 : decode cX1_read 90 = .ok (.ireturn, 1) := dk_172 (dk_at dksX1_read_3 19 rfl rfl)
def dkwX1_taken_2 : List UInt8 := [3, 182, 1, 104, 45, 191]
abbrev dktX1_taken_2 : List UInt8 := dkwX1_taken_2 ++ []
def dkwX1_taken_1 : List UInt8 := [43, 180, 1, 109, 181, 0, 50, 1, 77, 42, 180, 0, 46, 3, 182, 1, 104, 44, 176, 78, 42, 180, 0, 46]
abbrev dktX1_taken_1 : List UInt8 := dkwX1_taken_1 ++ dktX1_taken_2
def dkwX1_taken_0 : List UInt8 := [187, 1, 97, 89, 42, 183, 1, 99, 182, 1, 100, 76, 42, 180, 0, 46, 3, 182, 1, 104, 43, 176, 76, 42]
abbrev dktX1_taken_0 : List UInt8 := dkwX1_taken_0 ++ dktX1_taken_1
theorem dksX1_taken_0 : cX1_taken.data.toList.drop 0 = dktX1_taken_0 := by decide +kernel
theorem dksX1_taken_1 : cX1_taken.data.toList.drop 24 = dktX1_taken_1 := dk_seg dksX1_taken_0 24 rfl rfl
theorem dksX1_taken_2 : cX1_taken.data.toList.drop 48 = dktX1_taken_2 := dk_seg dksX1_taken_1 24 rfl rfl
theorem dX1_taken_0 : decode cX1_taken 0 = .ok (.new 353, 3) := dk_187 1 97 (dk_at dksX1_taken_0 0 rfl rfl)
theorem dX1_taken_3 : decode cX1_taken 3 = .ok (.dup, 1) := dk_89 (dk_at dksX1_taken_0 3 rfl rfl)
theorem dX1_taken_4 : decode cX1_taken 4 = .ok (.aload_n 0, 1) := dk_42 (dk_at dksX1_taken_0 4 rfl rfl)
theorem dX1_taken_5 : decode cX1_taken 5 = .ok (.invokespecial 355, 3) := dk_183 1 99 (dk_at dksX1_taken_0 5 rfl rfl)
theorem dX1_taken_8 : decode cX1_taken 8 = .ok (.invokevirtual 356, 3) := dk_182 1 100 (dk_at dksX1_taken_0 8 rfl rfl)
theorem dX1_taken_11 : decode cX1_taken 11 = .ok (.astore_n 1, 1) := dk_76 (dk_at dksX1_taken_0 11 rfl rfl)
theorem dX1_taken_12 : decode cX1_taken 12 = .ok (.aload_n 0, 1) := dk_42 (dk_at dksX1_taken_0 12 rfl rfl)
theorem dX1_taken_13 : decode cX1_taken 13 = .ok (.getfield 46, 3) := dk_180 0 46 (dk_at dksX1_taken_0 13 rfl rfl)
theorem dX1_taken_16 : decode cX1_taken 16 = .ok (.iconst 0, 1) := dk_3 (dk_at dksX1_taken_0 16 rfl rfl)
theorem dX1_taken_17 : decode cX1_taken 17 = .ok (.invokevirtual 360, 3) := dk_182 1 104 (dk_at dksX1_taken_0 17 rfl rfl)
theorem dX1_taken_20 : decode cX1_taken 20 = .ok (.aload_n 1, 1) := dk_43 (dk_at dksX1_taken_0 20 rfl rfl)
theorem dX1_taken_21 : decode cX1_taken 21 = .ok (.areturn, 1) := dk_176 (dk_at dksX1_taken_0 21 rfl rfl)
theorem dX1_taken_22 : decode cX1_taken 22 = .ok (.astore_n 1, 1) := dk_76 (dk_at dksX1_taken_0 22 rfl rfl)
theorem dX1_taken_23 : decode cX1_taken 23 = .ok (.aload_n 0, 1) := dk_42 (dk_at dksX1_taken_0 23 rfl rfl)
theorem dX1_taken_24 : decode cX1_taken 24 = .ok (.aload_n 1, 1) := dk_43 (dk_at dksX1_taken_1 0 rfl rfl)
theorem dX1_taken_25 : decode cX1_taken 25 = .ok (.getfield 365, 3) := dk_180 1 109 (dk_at dksX1_taken_1 1 rfl rfl)
theorem dX1_taken_28 : decode cX1_taken 28 = .ok (.putfield 50, 3) := dk_181 0 50 (dk_at dksX1_taken_1 4 rfl rfl)
theorem dX1_taken_31 : decode cX1_taken 31 = .ok (.aconst_null, 1) := dk_1 (dk_at dksX1_taken_1 7 rfl rfl)
theorem dX1_taken_32 : decode cX1_taken 32 = .ok (.astore_n 2, 1) := dk_77 (dk_at dksX1_taken_1 8 rfl rfl)
theorem dX1_taken_33 : decode cX1_taken 33 = .ok (.aload_n 0, 1) := dk_42 (dk_at dksX1_taken_1 9 rfl rfl)
theorem dX1_taken_34 : decode cX1_taken 34 = .ok (.getfield 46, 3) := dk_180 0 46 (dk_at dksX1_taken_1 10 rfl rfl)
theorem dX1_taken_37 : decode cX1_taken 37 = .ok (.iconst 0, 1) := dk_3 (dk_at dksX1_taken_1 13 rfl rfl)
theorem dX1_taken_38 : decode cX1_taken 38 = .ok (.invokevirtual 360, 3) := dk_182 1 104 (dk_at dksX1_taken_1 14 rfl rfl)
theorem dX1_taken_41 : decode cX1_taken 41 = .ok (.aload_n 2, 1) := dk_44 (dk_at dksX1_taken_1 17 rfl rfl)
theorem dX1_taken_42 : decode cX1_taken 42 = .ok (.areturn, 1) := dk_176 (dk_at dksX1_taken_1 18 rfl rfl)
theorem dX1_taken_43 : decode cX1_taken 43 = .ok (.astore_n 3, 1) := dk_78 (dk_at dksX1_taken_1 19 rfl rfl)
theorem dX1_taken_44 : decode cX1_taken 44 = .ok (.aload_n 0, 1) := dk_42 (dk_at dksX1_taken_1 20 rfl rfl)
theorem dX1_taken_45 : decode cX1_taken 45 = .ok (.getfield 46, 3) := dk_180 0 46 (dk_at dksX1_taken_1 21 rfl rfl)
theorem dX1_taken_48 : decode cX1_taken 48 = .ok (.iconst 0, 1) := dk_3 (dk_at dksX1_taken_2 0 rfl rfl)
theorem dX1_taken_49 : decode cX1_taken 49 = .ok (.invokevirtual 360, 3) := dk_182 1 104 (dk_at dksX1_taken_2 1 rfl rfl)
theorem dX1_taken_52 : decode cX1_taken 52 = .ok (.aload_n 3, 1) := dk_45 (dk_at dksX1_taken_2 4 rfl rfl)
theorem dX1_taken_53 : decode cX1_taken 53 = .ok (.athrow, 1) := dk_191 (dk_at dksX1_taken_2 5 rfl rfl)
def dkwX1_why_0 : List UInt8 := [43, 42, 185, 0, 97, 2, 0, 61, 3, 172, 77, 44, 180, 0, 107, 172, 77, 16, 20, 172]
abbrev dktX1_why_0 : List UInt8 := dkwX1_why_0 ++ []
theorem dksX1_why_0 : cX1_why.data.toList.drop 0 = dktX1_why_0 := by decide +kernel
theorem dX1_why_0 : decode cX1_why 0 = .ok (.aload_n 1, 1) := dk_43 (dk_at dksX1_why_0 0 rfl rfl)
theorem dX1_why_1 : decode cX1_why 1 = .ok (.aload_n 0, 1) := dk_42 (dk_at dksX1_why_0 1 rfl rfl)
theorem dX1_why_2 : decode cX1_why 2 = .ok (.invokeinterface 97 2, 5) := by decide +kernel
theorem dX1_why_7 : decode cX1_why 7 = .ok (.istore_n 2, 1) := dk_61 (dk_at dksX1_why_0 7 rfl rfl)
theorem dX1_why_8 : decode cX1_why 8 = .ok (.iconst 0, 1) := dk_3 (dk_at dksX1_why_0 8 rfl rfl)
theorem dX1_why_9 : decode cX1_why 9 = .ok (.ireturn, 1) := dk_172 (dk_at dksX1_why_0 9 rfl rfl)
theorem dX1_why_10 : decode cX1_why 10 = .ok (.astore_n 2, 1) := dk_77 (dk_at dksX1_why_0 10 rfl rfl)
theorem dX1_why_11 : decode cX1_why 11 = .ok (.aload_n 2, 1) := dk_44 (dk_at dksX1_why_0 11 rfl rfl)
theorem dX1_why_12 : decode cX1_why 12 = .ok (.getfield 107, 3) := dk_180 0 107 (dk_at dksX1_why_0 12 rfl rfl)
theorem dX1_why_15 : decode cX1_why 15 = .ok (.ireturn, 1) := dk_172 (dk_at dksX1_why_0 15 rfl rfl)
theorem dX1_why_16 : decode cX1_why 16 = .ok (.astore_n 2, 1) := dk_77 (dk_at dksX1_why_0 16 rfl rfl)
theorem dX1_why_17 : decode cX1_why 17 = .ok (.bipush 20, 2) := dk_16 20 (dk_at dksX1_why_0 17 rfl rfl)
theorem dX1_why_19 : decode cX1_why 19 = .ok (.ireturn, 1) := dk_172 (dk_at dksX1_why_0 19 rfl rfl)
def dkwX1_faultPosition_0 : List UInt8 := [42, 180, 0, 50, 2, 159, 0, 7, 4, 167, 0, 4, 3, 184, 0, 226, 42, 180, 0, 50, 172]
abbrev dktX1_faultPosition_0 : List UInt8 := dkwX1_faultPosition_0 ++ []
theorem dksX1_faultPosition_0 : cX1_faultPosition.data.toList.drop 0 = dktX1_faultPosition_0 := by decide +kernel
theorem dX1_faultPosition_0 : decode cX1_faultPosition 0 = .ok (.aload_n 0, 1) := dk_42 (dk_at dksX1_faultPosition_0 0 rfl rfl)
theorem dX1_faultPosition_1 : decode cX1_faultPosition 1 = .ok (.getfield 50, 3) := dk_180 0 50 (dk_at dksX1_faultPosition_0 1 rfl rfl)
theorem dX1_faultPosition_4 : decode cX1_faultPosition 4 = .ok (.iconst (-1), 1) := dk_2 (dk_at dksX1_faultPosition_0 4 rfl rfl)
theorem dX1_faultPosition_5 : decode cX1_faultPosition 5 = .ok (.if_icmp .eq 7, 3) := dk_159 0 7 (dk_at dksX1_faultPosition_0 5 rfl rfl)
theorem dX1_faultPosition_8 : decode cX1_faultPosition 8 = .ok (.iconst 1, 1) := dk_4 (dk_at dksX1_faultPosition_0 8 rfl rfl)
theorem dX1_faultPosition_9 : decode cX1_faultPosition 9 = .ok (.goto 4, 3) := dk_167 0 4 (dk_at dksX1_faultPosition_0 9 rfl rfl)
theorem dX1_faultPosition_12 : decode cX1_faultPosition 12 = .ok (.iconst 0, 1) := dk_3 (dk_at dksX1_faultPosition_0 12 rfl rfl)
theorem dX1_faultPosition_13 : decode cX1_faultPosition 13 = .ok (.invokestatic 226, 3) := dk_184 0 226 (dk_at dksX1_faultPosition_0 13 rfl rfl)
theorem dX1_faultPosition_16 : decode cX1_faultPosition 16 = .ok (.aload_n 0, 1) := dk_42 (dk_at dksX1_faultPosition_0 16 rfl rfl)
theorem dX1_faultPosition_17 : decode cX1_faultPosition 17 = .ok (.getfield 50, 3) := dk_180 0 50 (dk_at dksX1_faultPosition_0 17 rfl rfl)
theorem dX1_faultPosition_20 : decode cX1_faultPosition 20 = .ok (.ireturn, 1) := dk_172 (dk_at dksX1_faultPosition_0 20 rfl rfl)
def dkwX1_refusal_1 : List UInt8 := [167, 0, 7, 42, 180, 0, 88, 172]
abbrev dktX1_refusal_1 : List UInt8 := dkwX1_refusal_1 ++ []
def dkwX1_refusal_0 : List UInt8 := [42, 180, 0, 85, 153, 0, 7, 4, 167, 0, 4, 3, 184, 0, 226, 27, 153, 0, 10, 42, 180, 0, 85]
abbrev dktX1_refusal_0 : List UInt8 := dkwX1_refusal_0 ++ dktX1_refusal_1
theorem dksX1_refusal_0 : cX1_refusal.data.toList.drop 0 = dktX1_refusal_0 := by decide +kernel
theorem dksX1_refusal_1 : cX1_refusal.data.toList.drop 23 = dktX1_refusal_1 := dk_seg dksX1_refusal_0 23 rfl rfl
theorem dX1_refusal_0 : decode cX1_refusal 0 = .ok (.aload_n 0, 1) := dk_42 (dk_at dksX1_refusal_0 0 rfl rfl)
theorem dX1_refusal_1 : decode cX1_refusal 1 = .ok (.getfield 85, 3) := dk_180 0 85 (dk_at dksX1_refusal_0 1 rfl rfl)
theorem dX1_refusal_4 : decode cX1_refusal 4 = .ok (.ifCond .eq 7, 3) := dk_153 0 7 (dk_at dksX1_refusal_0 4 rfl rfl)
theorem dX1_refusal_7 : decode cX1_refusal 7 = .ok (.iconst 1, 1) := dk_4 (dk_at dksX1_refusal_0 7 rfl rfl)
theorem dX1_refusal_8 : decode cX1_refusal 8 = .ok (.goto 4, 3) := dk_167 0 4 (dk_at dksX1_refusal_0 8 rfl rfl)
theorem dX1_refusal_11 : decode cX1_refusal 11 = .ok (.iconst 0, 1) := dk_3 (dk_at dksX1_refusal_0 11 rfl rfl)
theorem dX1_refusal_12 : decode cX1_refusal 12 = .ok (.invokestatic 226, 3) := dk_184 0 226 (dk_at dksX1_refusal_0 12 rfl rfl)
theorem dX1_refusal_15 : decode cX1_refusal 15 = .ok (.iload_n 1, 1) := dk_27 (dk_at dksX1_refusal_0 15 rfl rfl)
theorem dX1_refusal_16 : decode cX1_refusal 16 = .ok (.ifCond .eq 10, 3) := dk_153 0 10 (dk_at dksX1_refusal_0 16 rfl rfl)
theorem dX1_refusal_19 : decode cX1_refusal 19 = .ok (.aload_n 0, 1) := dk_42 (dk_at dksX1_refusal_0 19 rfl rfl)
theorem dX1_refusal_20 : decode cX1_refusal 20 = .ok (.getfield 85, 3) := dk_180 0 85 (dk_at dksX1_refusal_0 20 rfl rfl)
theorem dX1_refusal_23 : decode cX1_refusal 23 = .ok (.goto 7, 3) := dk_167 0 7 (dk_at dksX1_refusal_1 0 rfl rfl)
theorem dX1_refusal_26 : decode cX1_refusal 26 = .ok (.aload_n 0, 1) := dk_42 (dk_at dksX1_refusal_1 3 rfl rfl)
theorem dX1_refusal_27 : decode cX1_refusal 27 = .ok (.getfield 88, 3) := dk_180 0 88 (dk_at dksX1_refusal_1 4 rfl rfl)
theorem dX1_refusal_30 : decode cX1_refusal 30 = .ok (.ireturn, 1) := dk_172 (dk_at dksX1_refusal_1 7 rfl rfl)
def dkwX1_undo_1 : List UInt8 := [182, 1, 124, 192, 0, 24, 181, 0, 27, 42, 180, 0, 39, 182, 0, 73, 172]
abbrev dktX1_undo_1 : List UInt8 := dkwX1_undo_1 ++ []
def dkwX1_undo_0 : List UInt8 := [42, 180, 0, 39, 182, 1, 121, 154, 0, 7, 4, 167, 0, 4, 3, 184, 1, 90, 42, 42, 180, 0, 39]
abbrev dktX1_undo_0 : List UInt8 := dkwX1_undo_0 ++ dktX1_undo_1
theorem dksX1_undo_0 : cX1_undo.data.toList.drop 0 = dktX1_undo_0 := by decide +kernel
theorem dksX1_undo_1 : cX1_undo.data.toList.drop 23 = dktX1_undo_1 := dk_seg dksX1_undo_0 23 rfl rfl
theorem dX1_undo_0 : decode cX1_undo 0 = .ok (.aload_n 0, 1) := dk_42 (dk_at dksX1_undo_0 0 rfl rfl)
theorem dX1_undo_1 : decode cX1_undo 1 = .ok (.getfield 39, 3) := dk_180 0 39 (dk_at dksX1_undo_0 1 rfl rfl)
theorem dX1_undo_4 : decode cX1_undo 4 = .ok (.invokevirtual 377, 3) := dk_182 1 121 (dk_at dksX1_undo_0 4 rfl rfl)
theorem dX1_undo_7 : decode cX1_undo 7 = .ok (.ifCond .ne 7, 3) := dk_154 0 7 (dk_at dksX1_undo_0 7 rfl rfl)
theorem dX1_undo_10 : decode cX1_undo 10 = .ok (.iconst 1, 1) := dk_4 (dk_at dksX1_undo_0 10 rfl rfl)
theorem dX1_undo_11 : decode cX1_undo 11 = .ok (.goto 4, 3) := dk_167 0 4 (dk_at dksX1_undo_0 11 rfl rfl)
theorem dX1_undo_14 : decode cX1_undo 14 = .ok (.iconst 0, 1) := dk_3 (dk_at dksX1_undo_0 14 rfl rfl)
theorem dX1_undo_15 : decode cX1_undo 15 = .ok (.invokestatic 346, 3) := dk_184 1 90 (dk_at dksX1_undo_0 15 rfl rfl)
theorem dX1_undo_18 : decode cX1_undo 18 = .ok (.aload_n 0, 1) := dk_42 (dk_at dksX1_undo_0 18 rfl rfl)
theorem dX1_undo_19 : decode cX1_undo 19 = .ok (.aload_n 0, 1) := dk_42 (dk_at dksX1_undo_0 19 rfl rfl)
theorem dX1_undo_20 : decode cX1_undo 20 = .ok (.getfield 39, 3) := dk_180 0 39 (dk_at dksX1_undo_0 20 rfl rfl)
theorem dX1_undo_23 : decode cX1_undo 23 = .ok (.invokevirtual 380, 3) := dk_182 1 124 (dk_at dksX1_undo_1 0 rfl rfl)
theorem dX1_undo_26 : decode cX1_undo 26 = .ok (.checkcast 24, 3) := dk_192 0 24 (dk_at dksX1_undo_1 3 rfl rfl)
theorem dX1_undo_29 : decode cX1_undo 29 = .ok (.putfield 27, 3) := dk_181 0 27 (dk_at dksX1_undo_1 6 rfl rfl)
theorem dX1_undo_32 : decode cX1_undo 32 = .ok (.aload_n 0, 1) := dk_42 (dk_at dksX1_undo_1 9 rfl rfl)
theorem dX1_undo_33 : decode cX1_undo 33 = .ok (.getfield 39, 3) := dk_180 0 39 (dk_at dksX1_undo_1 10 rfl rfl)
theorem dX1_undo_36 : decode cX1_undo 36 = .ok (.invokevirtual 73, 3) := dk_182 0 73 (dk_at dksX1_undo_1 13 rfl rfl)
theorem dX1_undo_39 : decode cX1_undo 39 = .ok (.ireturn, 1) := dk_172 (dk_at dksX1_undo_1 16 rfl rfl)
def dkwX1_restoreSnapshot_1 : List UInt8 := [181, 0, 27, 42, 180, 0, 39, 182, 1, 130, 42, 180, 0, 27, 180, 1, 20, 172]
abbrev dktX1_restoreSnapshot_1 : List UInt8 := dkwX1_restoreSnapshot_1 ++ []
def dkwX1_restoreSnapshot_0 : List UInt8 := [42, 180, 1, 127, 198, 0, 7, 4, 167, 0, 4, 3, 184, 1, 90, 42, 42, 180, 1, 127, 184, 0, 94]
abbrev dktX1_restoreSnapshot_0 : List UInt8 := dkwX1_restoreSnapshot_0 ++ dktX1_restoreSnapshot_1
theorem dksX1_restoreSnapshot_0 : cX1_restoreSnapshot.data.toList.drop 0 = dktX1_restoreSnapshot_0 := by decide +kernel
theorem dksX1_restoreSnapshot_1 : cX1_restoreSnapshot.data.toList.drop 23 = dktX1_restoreSnapshot_1 := dk_seg dksX1_restoreSnapshot_0 23 rfl rfl
theorem dX1_restoreSnapshot_0 : decode cX1_restoreSnapshot 0 = .ok (.aload_n 0, 1) := dk_42 (dk_at dksX1_restoreSnapshot_0 0 rfl rfl)
theorem dX1_restoreSnapshot_1 : decode cX1_restoreSnapshot 1 = .ok (.getfield 383, 3) := dk_180 1 127 (dk_at dksX1_restoreSnapshot_0 1 rfl rfl)
theorem dX1_restoreSnapshot_4 : decode cX1_restoreSnapshot 4 = .ok (.ifnull 7, 3) := dk_198 0 7 (dk_at dksX1_restoreSnapshot_0 4 rfl rfl)
theorem dX1_restoreSnapshot_7 : decode cX1_restoreSnapshot 7 = .ok (.iconst 1, 1) := dk_4 (dk_at dksX1_restoreSnapshot_0 7 rfl rfl)
theorem dX1_restoreSnapshot_8 : decode cX1_restoreSnapshot 8 = .ok (.goto 4, 3) := dk_167 0 4 (dk_at dksX1_restoreSnapshot_0 8 rfl rfl)
theorem dX1_restoreSnapshot_11 : decode cX1_restoreSnapshot 11 = .ok (.iconst 0, 1) := dk_3 (dk_at dksX1_restoreSnapshot_0 11 rfl rfl)
theorem dX1_restoreSnapshot_12 : decode cX1_restoreSnapshot 12 = .ok (.invokestatic 346, 3) := dk_184 1 90 (dk_at dksX1_restoreSnapshot_0 12 rfl rfl)
theorem dX1_restoreSnapshot_15 : decode cX1_restoreSnapshot 15 = .ok (.aload_n 0, 1) := dk_42 (dk_at dksX1_restoreSnapshot_0 15 rfl rfl)
theorem dX1_restoreSnapshot_16 : decode cX1_restoreSnapshot 16 = .ok (.aload_n 0, 1) := dk_42 (dk_at dksX1_restoreSnapshot_0 16 rfl rfl)
theorem dX1_restoreSnapshot_17 : decode cX1_restoreSnapshot 17 = .ok (.getfield 383, 3) := dk_180 1 127 (dk_at dksX1_restoreSnapshot_0 17 rfl rfl)
theorem dX1_restoreSnapshot_20 : decode cX1_restoreSnapshot 20 = .ok (.invokestatic 94, 3) := dk_184 0 94 (dk_at dksX1_restoreSnapshot_0 20 rfl rfl)
theorem dX1_restoreSnapshot_23 : decode cX1_restoreSnapshot 23 = .ok (.putfield 27, 3) := dk_181 0 27 (dk_at dksX1_restoreSnapshot_1 0 rfl rfl)
theorem dX1_restoreSnapshot_26 : decode cX1_restoreSnapshot 26 = .ok (.aload_n 0, 1) := dk_42 (dk_at dksX1_restoreSnapshot_1 3 rfl rfl)
theorem dX1_restoreSnapshot_27 : decode cX1_restoreSnapshot 27 = .ok (.getfield 39, 3) := dk_180 0 39 (dk_at dksX1_restoreSnapshot_1 4 rfl rfl)
theorem dX1_restoreSnapshot_30 : decode cX1_restoreSnapshot 30 = .ok (.invokevirtual 386, 3) := dk_182 1 130 (dk_at dksX1_restoreSnapshot_1 7 rfl rfl)
theorem dX1_restoreSnapshot_33 : decode cX1_restoreSnapshot 33 = .ok (.aload_n 0, 1) := dk_42 (dk_at dksX1_restoreSnapshot_1 10 rfl rfl)
theorem dX1_restoreSnapshot_34 : decode cX1_restoreSnapshot 34 = .ok (.getfield 27, 3) := dk_180 0 27 (dk_at dksX1_restoreSnapshot_1 11 rfl rfl)
theorem dX1_restoreSnapshot_37 : decode cX1_restoreSnapshot 37 = .ok (.getfield 276, 3) := dk_180 1 20 (dk_at dksX1_restoreSnapshot_1 14 rfl rfl)
theorem dX1_restoreSnapshot_40 : decode cX1_restoreSnapshot 40 = .ok (.ireturn, 1) := dk_172 (dk_at dksX1_restoreSnapshot_1 17 rfl rfl)
def dkwX4_init_0 : List UInt8 := [42, 43, 181, 0, 1, 42, 183, 0, 7, 177]
abbrev dktX4_init_0 : List UInt8 := dkwX4_init_0 ++ []
theorem dksX4_init_0 : cX4_init.data.toList.drop 0 = dktX4_init_0 := by decide +kernel
theorem dX4_init_0 : decode cX4_init 0 = .ok (.aload_n 0, 1) := dk_42 (dk_at dksX4_init_0 0 rfl rfl)
theorem dX4_init_1 : decode cX4_init 1 = .ok (.aload_n 1, 1) := dk_43 (dk_at dksX4_init_0 1 rfl rfl)
theorem dX4_init_2 : decode cX4_init 2 = .ok (.putfield 1, 3) := dk_181 0 1 (dk_at dksX4_init_0 2 rfl rfl)
theorem dX4_init_5 : decode cX4_init 5 = .ok (.aload_n 0, 1) := dk_42 (dk_at dksX4_init_0 5 rfl rfl)
theorem dX4_init_6 : decode cX4_init 6 = .ok (.invokespecial 7, 3) := dk_183 0 7 (dk_at dksX4_init_0 6 rfl rfl)
theorem dX4_init_9 : decode cX4_init 9 = .ok (.return_, 1) := dk_177 (dk_at dksX4_init_0 9 rfl rfl)
def dkwX4_choose_1 : List UInt8 := [182, 0, 61, 130, 184, 0, 41, 172]
abbrev dktX4_choose_1 : List UInt8 := dkwX4_choose_1 ++ []
def dkwX4_choose_0 : List UInt8 := [42, 43, 182, 0, 61, 62, 42, 43, 42, 43, 28, 182, 0, 65, 180, 0, 47, 182, 0, 25, 29, 42, 43]
abbrev dktX4_choose_0 : List UInt8 := dkwX4_choose_0 ++ dktX4_choose_1
theorem dksX4_choose_0 : cX4_choose.data.toList.drop 0 = dktX4_choose_0 := by decide +kernel
theorem dksX4_choose_1 : cX4_choose.data.toList.drop 23 = dktX4_choose_1 := dk_seg dksX4_choose_0 23 rfl rfl
theorem dX4_choose_0 : decode cX4_choose 0 = .ok (.aload_n 0, 1) := dk_42 (dk_at dksX4_choose_0 0 rfl rfl)
theorem dX4_choose_1 : decode cX4_choose 1 = .ok (.aload_n 1, 1) := dk_43 (dk_at dksX4_choose_0 1 rfl rfl)
theorem dX4_choose_2 : decode cX4_choose 2 = .ok (.invokevirtual 61, 3) := dk_182 0 61 (dk_at dksX4_choose_0 2 rfl rfl)
theorem dX4_choose_5 : decode cX4_choose 5 = .ok (.istore_n 3, 1) := dk_62 (dk_at dksX4_choose_0 5 rfl rfl)
theorem dX4_choose_6 : decode cX4_choose 6 = .ok (.aload_n 0, 1) := dk_42 (dk_at dksX4_choose_0 6 rfl rfl)
theorem dX4_choose_7 : decode cX4_choose 7 = .ok (.aload_n 1, 1) := dk_43 (dk_at dksX4_choose_0 7 rfl rfl)
theorem dX4_choose_8 : decode cX4_choose 8 = .ok (.aload_n 0, 1) := dk_42 (dk_at dksX4_choose_0 8 rfl rfl)
theorem dX4_choose_9 : decode cX4_choose 9 = .ok (.aload_n 1, 1) := dk_43 (dk_at dksX4_choose_0 9 rfl rfl)
theorem dX4_choose_10 : decode cX4_choose 10 = .ok (.iload_n 2, 1) := dk_28 (dk_at dksX4_choose_0 10 rfl rfl)
theorem dX4_choose_11 : decode cX4_choose 11 = .ok (.invokevirtual 65, 3) := dk_182 0 65 (dk_at dksX4_choose_0 11 rfl rfl)
theorem dX4_choose_14 : decode cX4_choose 14 = .ok (.getfield 47, 3) := dk_180 0 47 (dk_at dksX4_choose_0 14 rfl rfl)
theorem dX4_choose_17 : decode cX4_choose 17 = .ok (.invokevirtual 25, 3) := dk_182 0 25 (dk_at dksX4_choose_0 17 rfl rfl)
theorem dX4_choose_20 : decode cX4_choose 20 = .ok (.iload_n 3, 1) := dk_29 (dk_at dksX4_choose_0 20 rfl rfl)
theorem dX4_choose_21 : decode cX4_choose 21 = .ok (.aload_n 0, 1) := dk_42 (dk_at dksX4_choose_0 21 rfl rfl)
theorem dX4_choose_22 : decode cX4_choose 22 = .ok (.aload_n 1, 1) := dk_43 (dk_at dksX4_choose_0 22 rfl rfl)
theorem dX4_choose_23 : decode cX4_choose 23 = .ok (.invokevirtual 61, 3) := dk_182 0 61 (dk_at dksX4_choose_1 0 rfl rfl)
theorem dX4_choose_26 : decode cX4_choose 26 = .ok (.ixor, 1) := dk_130 (dk_at dksX4_choose_1 3 rfl rfl)
theorem dX4_choose_27 : decode cX4_choose 27 = .ok (.invokestatic 41, 3) := dk_184 0 41 (dk_at dksX4_choose_1 4 rfl rfl)
theorem dX4_choose_30 : decode cX4_choose 30 = .ok (.ireturn, 1) := dk_172 (dk_at dksX4_choose_1 7 rfl rfl)
def dkwX4_search_1 : List UInt8 := [120, 162, 0, 21, 42, 29, 42, 43, 28, 29, 182, 0, 50, 182, 0, 57, 132, 3, 1, 167, 255, 231, 42, 176]
abbrev dktX4_search_1 : List UInt8 := dkwX4_search_1 ++ []
def dkwX4_search_0 : List UInt8 := [42, 3, 181, 0, 47, 42, 42, 43, 28, 3, 182, 0, 50, 181, 0, 37, 4, 62, 29, 4, 43, 180, 0, 54]
abbrev dktX4_search_0 : List UInt8 := dkwX4_search_0 ++ dktX4_search_1
theorem dksX4_search_0 : cX4_search.data.toList.drop 0 = dktX4_search_0 := by decide +kernel
theorem dksX4_search_1 : cX4_search.data.toList.drop 24 = dktX4_search_1 := dk_seg dksX4_search_0 24 rfl rfl
theorem dX4_search_0 : decode cX4_search 0 = .ok (.aload_n 0, 1) := dk_42 (dk_at dksX4_search_0 0 rfl rfl)
theorem dX4_search_1 : decode cX4_search 1 = .ok (.iconst 0, 1) := dk_3 (dk_at dksX4_search_0 1 rfl rfl)
theorem dX4_search_2 : decode cX4_search 2 = .ok (.putfield 47, 3) := dk_181 0 47 (dk_at dksX4_search_0 2 rfl rfl)
theorem dX4_search_5 : decode cX4_search 5 = .ok (.aload_n 0, 1) := dk_42 (dk_at dksX4_search_0 5 rfl rfl)
theorem dX4_search_6 : decode cX4_search 6 = .ok (.aload_n 0, 1) := dk_42 (dk_at dksX4_search_0 6 rfl rfl)
theorem dX4_search_7 : decode cX4_search 7 = .ok (.aload_n 1, 1) := dk_43 (dk_at dksX4_search_0 7 rfl rfl)
theorem dX4_search_8 : decode cX4_search 8 = .ok (.iload_n 2, 1) := dk_28 (dk_at dksX4_search_0 8 rfl rfl)
theorem dX4_search_9 : decode cX4_search 9 = .ok (.iconst 0, 1) := dk_3 (dk_at dksX4_search_0 9 rfl rfl)
theorem dX4_search_10 : decode cX4_search 10 = .ok (.invokevirtual 50, 3) := dk_182 0 50 (dk_at dksX4_search_0 10 rfl rfl)
theorem dX4_search_13 : decode cX4_search 13 = .ok (.putfield 37, 3) := dk_181 0 37 (dk_at dksX4_search_0 13 rfl rfl)
theorem dX4_search_16 : decode cX4_search 16 = .ok (.iconst 1, 1) := dk_4 (dk_at dksX4_search_0 16 rfl rfl)
theorem dX4_search_17 : decode cX4_search 17 = .ok (.istore_n 3, 1) := dk_62 (dk_at dksX4_search_0 17 rfl rfl)
theorem dX4_search_18 : decode cX4_search 18 = .ok (.iload_n 3, 1) := dk_29 (dk_at dksX4_search_0 18 rfl rfl)
theorem dX4_search_19 : decode cX4_search 19 = .ok (.iconst 1, 1) := dk_4 (dk_at dksX4_search_0 19 rfl rfl)
theorem dX4_search_20 : decode cX4_search 20 = .ok (.aload_n 1, 1) := dk_43 (dk_at dksX4_search_0 20 rfl rfl)
theorem dX4_search_21 : decode cX4_search 21 = .ok (.getfield 54, 3) := dk_180 0 54 (dk_at dksX4_search_0 21 rfl rfl)
theorem dX4_search_24 : decode cX4_search 24 = .ok (.ishl, 1) := dk_120 (dk_at dksX4_search_1 0 rfl rfl)
theorem dX4_search_25 : decode cX4_search 25 = .ok (.if_icmp .ge 21, 3) := dk_162 0 21 (dk_at dksX4_search_1 1 rfl rfl)
theorem dX4_search_28 : decode cX4_search 28 = .ok (.aload_n 0, 1) := dk_42 (dk_at dksX4_search_1 4 rfl rfl)
theorem dX4_search_29 : decode cX4_search 29 = .ok (.iload_n 3, 1) := dk_29 (dk_at dksX4_search_1 5 rfl rfl)
theorem dX4_search_30 : decode cX4_search 30 = .ok (.aload_n 0, 1) := dk_42 (dk_at dksX4_search_1 6 rfl rfl)
theorem dX4_search_31 : decode cX4_search 31 = .ok (.aload_n 1, 1) := dk_43 (dk_at dksX4_search_1 7 rfl rfl)
theorem dX4_search_32 : decode cX4_search 32 = .ok (.iload_n 2, 1) := dk_28 (dk_at dksX4_search_1 8 rfl rfl)
theorem dX4_search_33 : decode cX4_search 33 = .ok (.iload_n 3, 1) := dk_29 (dk_at dksX4_search_1 9 rfl rfl)
theorem dX4_search_34 : decode cX4_search 34 = .ok (.invokevirtual 50, 3) := dk_182 0 50 (dk_at dksX4_search_1 10 rfl rfl)
theorem dX4_search_37 : decode cX4_search 37 = .ok (.invokevirtual 57, 3) := dk_182 0 57 (dk_at dksX4_search_1 13 rfl rfl)
theorem dX4_search_40 : decode cX4_search 40 = .ok (.iinc 3 1, 3) := dk_132 3 1 (dk_at dksX4_search_1 16 rfl rfl)
theorem dX4_search_43 : decode cX4_search 43 = .ok (.goto (-25), 3) := dk_167 255 231 (dk_at dksX4_search_1 19 rfl rfl)
theorem dX4_search_46 : decode cX4_search 46 = .ok (.aload_n 0, 1) := dk_42 (dk_at dksX4_search_1 22 rfl rfl)
theorem dX4_search_47 : decode cX4_search 47 = .ok (.areturn, 1) := dk_176 (dk_at dksX4_search_1 23 rfl rfl)
def dkwX4_worth_1 : List UInt8 := [42, 43, 42, 180, 0, 1, 180, 0, 13, 28, 182, 0, 29, 182, 0, 33, 172]
abbrev dktX4_worth_1 : List UInt8 := dkwX4_worth_1 ++ []
def dkwX4_worth_0 : List UInt8 := [42, 180, 0, 1, 180, 0, 13, 43, 182, 0, 19, 87, 42, 42, 180, 0, 1, 180, 0, 13, 29, 182, 0, 25]
abbrev dktX4_worth_0 : List UInt8 := dkwX4_worth_0 ++ dktX4_worth_1
theorem dksX4_worth_0 : cX4_worth.data.toList.drop 0 = dktX4_worth_0 := by decide +kernel
theorem dksX4_worth_1 : cX4_worth.data.toList.drop 24 = dktX4_worth_1 := dk_seg dksX4_worth_0 24 rfl rfl
theorem dX4_worth_0 : decode cX4_worth 0 = .ok (.aload_n 0, 1) := dk_42 (dk_at dksX4_worth_0 0 rfl rfl)
theorem dX4_worth_1 : decode cX4_worth 1 = .ok (.getfield 1, 3) := dk_180 0 1 (dk_at dksX4_worth_0 1 rfl rfl)
theorem dX4_worth_4 : decode cX4_worth 4 = .ok (.getfield 13, 3) := dk_180 0 13 (dk_at dksX4_worth_0 4 rfl rfl)
theorem dX4_worth_7 : decode cX4_worth 7 = .ok (.aload_n 1, 1) := dk_43 (dk_at dksX4_worth_0 7 rfl rfl)
theorem dX4_worth_8 : decode cX4_worth 8 = .ok (.invokevirtual 19, 3) := dk_182 0 19 (dk_at dksX4_worth_0 8 rfl rfl)
theorem dX4_worth_11 : decode cX4_worth 11 = .ok (.pop, 1) := dk_87 (dk_at dksX4_worth_0 11 rfl rfl)
theorem dX4_worth_12 : decode cX4_worth 12 = .ok (.aload_n 0, 1) := dk_42 (dk_at dksX4_worth_0 12 rfl rfl)
theorem dX4_worth_13 : decode cX4_worth 13 = .ok (.aload_n 0, 1) := dk_42 (dk_at dksX4_worth_0 13 rfl rfl)
theorem dX4_worth_14 : decode cX4_worth 14 = .ok (.getfield 1, 3) := dk_180 0 1 (dk_at dksX4_worth_0 14 rfl rfl)
theorem dX4_worth_17 : decode cX4_worth 17 = .ok (.getfield 13, 3) := dk_180 0 13 (dk_at dksX4_worth_0 17 rfl rfl)
theorem dX4_worth_20 : decode cX4_worth 20 = .ok (.iload_n 3, 1) := dk_29 (dk_at dksX4_worth_0 20 rfl rfl)
theorem dX4_worth_21 : decode cX4_worth 21 = .ok (.invokevirtual 25, 3) := dk_182 0 25 (dk_at dksX4_worth_0 21 rfl rfl)
theorem dX4_worth_24 : decode cX4_worth 24 = .ok (.aload_n 0, 1) := dk_42 (dk_at dksX4_worth_1 0 rfl rfl)
theorem dX4_worth_25 : decode cX4_worth 25 = .ok (.aload_n 1, 1) := dk_43 (dk_at dksX4_worth_1 1 rfl rfl)
theorem dX4_worth_26 : decode cX4_worth 26 = .ok (.aload_n 0, 1) := dk_42 (dk_at dksX4_worth_1 2 rfl rfl)
theorem dX4_worth_27 : decode cX4_worth 27 = .ok (.getfield 1, 3) := dk_180 0 1 (dk_at dksX4_worth_1 3 rfl rfl)
theorem dX4_worth_30 : decode cX4_worth 30 = .ok (.getfield 13, 3) := dk_180 0 13 (dk_at dksX4_worth_1 6 rfl rfl)
theorem dX4_worth_33 : decode cX4_worth 33 = .ok (.iload_n 2, 1) := dk_28 (dk_at dksX4_worth_1 9 rfl rfl)
theorem dX4_worth_34 : decode cX4_worth 34 = .ok (.invokevirtual 29, 3) := dk_182 0 29 (dk_at dksX4_worth_1 10 rfl rfl)
theorem dX4_worth_37 : decode cX4_worth 37 = .ok (.invokevirtual 33, 3) := dk_182 0 33 (dk_at dksX4_worth_1 13 rfl rfl)
theorem dX4_worth_40 : decode cX4_worth 40 = .ok (.ireturn, 1) := dk_172 (dk_at dksX4_worth_1 16 rfl rfl)
def dkwX4_look_2 : List UInt8 := [180, 0, 37, 181, 0, 37, 42, 29, 153, 0, 7, 27, 167, 0, 7, 42, 180, 0, 47, 181, 0, 47, 177]
abbrev dktX4_look_2 : List UInt8 := dkwX4_look_2 ++ []
def dkwX4_look_1 : List UInt8 := [184, 0, 41, 162, 0, 7, 4, 167, 0, 4, 3, 62, 42, 29, 153, 0, 7, 28, 167, 0, 7, 42]
abbrev dktX4_look_1 : List UInt8 := dkwX4_look_1 ++ dktX4_look_2
def dkwX4_look_0 : List UInt8 := [28, 42, 180, 0, 37, 163, 0, 25, 28, 42, 180, 0, 37, 160, 0, 21, 27, 184, 0, 41, 42, 180, 0, 47]
abbrev dktX4_look_0 : List UInt8 := dkwX4_look_0 ++ dktX4_look_1
theorem dksX4_look_0 : cX4_look.data.toList.drop 0 = dktX4_look_0 := by decide +kernel
theorem dksX4_look_1 : cX4_look.data.toList.drop 24 = dktX4_look_1 := dk_seg dksX4_look_0 24 rfl rfl
theorem dksX4_look_2 : cX4_look.data.toList.drop 46 = dktX4_look_2 := dk_seg dksX4_look_1 22 rfl rfl
theorem dX4_look_0 : decode cX4_look 0 = .ok (.iload_n 2, 1) := dk_28 (dk_at dksX4_look_0 0 rfl rfl)
theorem dX4_look_1 : decode cX4_look 1 = .ok (.aload_n 0, 1) := dk_42 (dk_at dksX4_look_0 1 rfl rfl)
theorem dX4_look_2 : decode cX4_look 2 = .ok (.getfield 37, 3) := dk_180 0 37 (dk_at dksX4_look_0 2 rfl rfl)
theorem dX4_look_5 : decode cX4_look 5 = .ok (.if_icmp .gt 25, 3) := dk_163 0 25 (dk_at dksX4_look_0 5 rfl rfl)
theorem dX4_look_8 : decode cX4_look 8 = .ok (.iload_n 2, 1) := dk_28 (dk_at dksX4_look_0 8 rfl rfl)
theorem dX4_look_9 : decode cX4_look 9 = .ok (.aload_n 0, 1) := dk_42 (dk_at dksX4_look_0 9 rfl rfl)
theorem dX4_look_10 : decode cX4_look 10 = .ok (.getfield 37, 3) := dk_180 0 37 (dk_at dksX4_look_0 10 rfl rfl)
theorem dX4_look_13 : decode cX4_look 13 = .ok (.if_icmp .ne 21, 3) := dk_160 0 21 (dk_at dksX4_look_0 13 rfl rfl)
theorem dX4_look_16 : decode cX4_look 16 = .ok (.iload_n 1, 1) := dk_27 (dk_at dksX4_look_0 16 rfl rfl)
theorem dX4_look_17 : decode cX4_look 17 = .ok (.invokestatic 41, 3) := dk_184 0 41 (dk_at dksX4_look_0 17 rfl rfl)
theorem dX4_look_20 : decode cX4_look 20 = .ok (.aload_n 0, 1) := dk_42 (dk_at dksX4_look_0 20 rfl rfl)
theorem dX4_look_21 : decode cX4_look 21 = .ok (.getfield 47, 3) := dk_180 0 47 (dk_at dksX4_look_0 21 rfl rfl)
theorem dX4_look_24 : decode cX4_look 24 = .ok (.invokestatic 41, 3) := dk_184 0 41 (dk_at dksX4_look_1 0 rfl rfl)
theorem dX4_look_27 : decode cX4_look 27 = .ok (.if_icmp .ge 7, 3) := dk_162 0 7 (dk_at dksX4_look_1 3 rfl rfl)
theorem dX4_look_30 : decode cX4_look 30 = .ok (.iconst 1, 1) := dk_4 (dk_at dksX4_look_1 6 rfl rfl)
theorem dX4_look_31 : decode cX4_look 31 = .ok (.goto 4, 3) := dk_167 0 4 (dk_at dksX4_look_1 7 rfl rfl)
theorem dX4_look_34 : decode cX4_look 34 = .ok (.iconst 0, 1) := dk_3 (dk_at dksX4_look_1 10 rfl rfl)
theorem dX4_look_35 : decode cX4_look 35 = .ok (.istore_n 3, 1) := dk_62 (dk_at dksX4_look_1 11 rfl rfl)
theorem dX4_look_36 : decode cX4_look 36 = .ok (.aload_n 0, 1) := dk_42 (dk_at dksX4_look_1 12 rfl rfl)
theorem dX4_look_37 : decode cX4_look 37 = .ok (.iload_n 3, 1) := dk_29 (dk_at dksX4_look_1 13 rfl rfl)
theorem dX4_look_38 : decode cX4_look 38 = .ok (.ifCond .eq 7, 3) := dk_153 0 7 (dk_at dksX4_look_1 14 rfl rfl)
theorem dX4_look_41 : decode cX4_look 41 = .ok (.iload_n 2, 1) := dk_28 (dk_at dksX4_look_1 17 rfl rfl)
theorem dX4_look_42 : decode cX4_look 42 = .ok (.goto 7, 3) := dk_167 0 7 (dk_at dksX4_look_1 18 rfl rfl)
theorem dX4_look_45 : decode cX4_look 45 = .ok (.aload_n 0, 1) := dk_42 (dk_at dksX4_look_1 21 rfl rfl)
theorem dX4_look_46 : decode cX4_look 46 = .ok (.getfield 37, 3) := dk_180 0 37 (dk_at dksX4_look_2 0 rfl rfl)
theorem dX4_look_49 : decode cX4_look 49 = .ok (.putfield 37, 3) := dk_181 0 37 (dk_at dksX4_look_2 3 rfl rfl)
theorem dX4_look_52 : decode cX4_look 52 = .ok (.aload_n 0, 1) := dk_42 (dk_at dksX4_look_2 6 rfl rfl)
theorem dX4_look_53 : decode cX4_look 53 = .ok (.iload_n 3, 1) := dk_29 (dk_at dksX4_look_2 7 rfl rfl)
theorem dX4_look_54 : decode cX4_look 54 = .ok (.ifCond .eq 7, 3) := dk_153 0 7 (dk_at dksX4_look_2 8 rfl rfl)
theorem dX4_look_57 : decode cX4_look 57 = .ok (.iload_n 1, 1) := dk_27 (dk_at dksX4_look_2 11 rfl rfl)
theorem dX4_look_58 : decode cX4_look 58 = .ok (.goto 7, 3) := dk_167 0 7 (dk_at dksX4_look_2 12 rfl rfl)
theorem dX4_look_61 : decode cX4_look 61 = .ok (.aload_n 0, 1) := dk_42 (dk_at dksX4_look_2 15 rfl rfl)
theorem dX4_look_62 : decode cX4_look 62 = .ok (.getfield 47, 3) := dk_180 0 47 (dk_at dksX4_look_2 16 rfl rfl)
theorem dX4_look_65 : decode cX4_look 65 = .ok (.putfield 47, 3) := dk_181 0 47 (dk_at dksX4_look_2 19 rfl rfl)
theorem dX4_look_68 : decode cX4_look 68 = .ok (.return_, 1) := dk_177 (dk_at dksX4_look_2 22 rfl rfl)
def dkwX5_init_0 : List UInt8 := [42, 43, 181, 0, 1, 42, 43, 183, 0, 7, 177]
abbrev dktX5_init_0 : List UInt8 := dkwX5_init_0 ++ []
theorem dksX5_init_0 : cX5_init.data.toList.drop 0 = dktX5_init_0 := by decide +kernel
theorem dX5_init_0 : decode cX5_init 0 = .ok (.aload_n 0, 1) := dk_42 (dk_at dksX5_init_0 0 rfl rfl)
theorem dX5_init_1 : decode cX5_init 1 = .ok (.aload_n 1, 1) := dk_43 (dk_at dksX5_init_0 1 rfl rfl)
theorem dX5_init_2 : decode cX5_init 2 = .ok (.putfield 1, 3) := dk_181 0 1 (dk_at dksX5_init_0 2 rfl rfl)
theorem dX5_init_5 : decode cX5_init 5 = .ok (.aload_n 0, 1) := dk_42 (dk_at dksX5_init_0 5 rfl rfl)
theorem dX5_init_6 : decode cX5_init 6 = .ok (.aload_n 1, 1) := dk_43 (dk_at dksX5_init_0 6 rfl rfl)
theorem dX5_init_7 : decode cX5_init 7 = .ok (.invokespecial 7, 3) := dk_183 0 7 (dk_at dksX5_init_0 7 rfl rfl)
theorem dX5_init_10 : decode cX5_init 10 = .ok (.return_, 1) := dk_177 (dk_at dksX5_init_0 10 rfl rfl)
theorem dX5_latches_0 : decode cX5_latches 0 = .ok (.aload_n 1, 1) := by decide +kernel
theorem dX5_latches_1 : decode cX5_latches 1 = .ok (.getfield 13, 3) := by decide +kernel
theorem dX5_latches_4 : decode cX5_latches 4 = .ok (.ireturn, 1) := by decide +kernel
def dkwX5_open_0 : List UInt8 := [43, 28, 181, 0, 13, 177]
abbrev dktX5_open_0 : List UInt8 := dkwX5_open_0 ++ []
theorem dksX5_open_0 : cX5_open.data.toList.drop 0 = dktX5_open_0 := by decide +kernel
theorem dX5_open_0 : decode cX5_open 0 = .ok (.aload_n 1, 1) := dk_43 (dk_at dksX5_open_0 0 rfl rfl)
theorem dX5_open_1 : decode cX5_open 1 = .ok (.iload_n 2, 1) := dk_28 (dk_at dksX5_open_0 1 rfl rfl)
theorem dX5_open_2 : decode cX5_open 2 = .ok (.putfield 13, 3) := dk_181 0 13 (dk_at dksX5_open_0 2 rfl rfl)
theorem dX5_open_5 : decode cX5_open 5 = .ok (.return_, 1) := dk_177 (dk_at dksX5_open_0 5 rfl rfl)
def dkwX5_value_0 : List UInt8 := [44, 180, 0, 19, 182, 0, 23, 44, 44, 180, 0, 29, 182, 0, 33, 96, 172]
abbrev dktX5_value_0 : List UInt8 := dkwX5_value_0 ++ []
theorem dksX5_value_0 : cX5_value.data.toList.drop 0 = dktX5_value_0 := by decide +kernel
theorem dX5_value_0 : decode cX5_value 0 = .ok (.aload_n 2, 1) := dk_44 (dk_at dksX5_value_0 0 rfl rfl)
theorem dX5_value_1 : decode cX5_value 1 = .ok (.getfield 19, 3) := dk_180 0 19 (dk_at dksX5_value_0 1 rfl rfl)
theorem dX5_value_4 : decode cX5_value 4 = .ok (.invokevirtual 23, 3) := dk_182 0 23 (dk_at dksX5_value_0 4 rfl rfl)
theorem dX5_value_7 : decode cX5_value 7 = .ok (.aload_n 2, 1) := dk_44 (dk_at dksX5_value_0 7 rfl rfl)
theorem dX5_value_8 : decode cX5_value 8 = .ok (.aload_n 2, 1) := dk_44 (dk_at dksX5_value_0 8 rfl rfl)
theorem dX5_value_9 : decode cX5_value 9 = .ok (.getfield 29, 3) := dk_180 0 29 (dk_at dksX5_value_0 9 rfl rfl)
theorem dX5_value_12 : decode cX5_value 12 = .ok (.invokevirtual 33, 3) := dk_182 0 33 (dk_at dksX5_value_0 12 rfl rfl)
theorem dX5_value_15 : decode cX5_value 15 = .ok (.iadd, 1) := dk_96 (dk_at dksX5_value_0 15 rfl rfl)
theorem dX5_value_16 : decode cX5_value 16 = .ok (.ireturn, 1) := dk_172 (dk_at dksX5_value_0 16 rfl rfl)
def dkwX6_init_0 : List UInt8 := [42, 43, 181, 0, 1, 42, 43, 183, 0, 7, 177]
abbrev dktX6_init_0 : List UInt8 := dkwX6_init_0 ++ []
theorem dksX6_init_0 : cX6_init.data.toList.drop 0 = dktX6_init_0 := by decide +kernel
theorem dX6_init_0 : decode cX6_init 0 = .ok (.aload_n 0, 1) := dk_42 (dk_at dksX6_init_0 0 rfl rfl)
theorem dX6_init_1 : decode cX6_init 1 = .ok (.aload_n 1, 1) := dk_43 (dk_at dksX6_init_0 1 rfl rfl)
theorem dX6_init_2 : decode cX6_init 2 = .ok (.putfield 1, 3) := dk_181 0 1 (dk_at dksX6_init_0 2 rfl rfl)
theorem dX6_init_5 : decode cX6_init 5 = .ok (.aload_n 0, 1) := dk_42 (dk_at dksX6_init_0 5 rfl rfl)
theorem dX6_init_6 : decode cX6_init 6 = .ok (.aload_n 1, 1) := dk_43 (dk_at dksX6_init_0 6 rfl rfl)
theorem dX6_init_7 : decode cX6_init 7 = .ok (.invokespecial 7, 3) := dk_183 0 7 (dk_at dksX6_init_0 7 rfl rfl)
theorem dX6_init_10 : decode cX6_init 10 = .ok (.return_, 1) := dk_177 (dk_at dksX6_init_0 10 rfl rfl)
theorem dX6_latches_0 : decode cX6_latches 0 = .ok (.aload_n 1, 1) := by decide +kernel
theorem dX6_latches_1 : decode cX6_latches 1 = .ok (.getfield 13, 3) := by decide +kernel
theorem dX6_latches_4 : decode cX6_latches 4 = .ok (.ireturn, 1) := by decide +kernel
def dkwX6_open_0 : List UInt8 := [43, 28, 181, 0, 13, 177]
abbrev dktX6_open_0 : List UInt8 := dkwX6_open_0 ++ []
theorem dksX6_open_0 : cX6_open.data.toList.drop 0 = dktX6_open_0 := by decide +kernel
theorem dX6_open_0 : decode cX6_open 0 = .ok (.aload_n 1, 1) := dk_43 (dk_at dksX6_open_0 0 rfl rfl)
theorem dX6_open_1 : decode cX6_open 1 = .ok (.iload_n 2, 1) := dk_28 (dk_at dksX6_open_0 1 rfl rfl)
theorem dX6_open_2 : decode cX6_open 2 = .ok (.putfield 13, 3) := dk_181 0 13 (dk_at dksX6_open_0 2 rfl rfl)
theorem dX6_open_5 : decode cX6_open 5 = .ok (.return_, 1) := dk_177 (dk_at dksX6_open_0 5 rfl rfl)
def dkwX6_value_0 : List UInt8 := [44, 180, 0, 19, 43, 180, 0, 19, 100, 172]
abbrev dktX6_value_0 : List UInt8 := dkwX6_value_0 ++ []
theorem dksX6_value_0 : cX6_value.data.toList.drop 0 = dktX6_value_0 := by decide +kernel
theorem dX6_value_0 : decode cX6_value 0 = .ok (.aload_n 2, 1) := dk_44 (dk_at dksX6_value_0 0 rfl rfl)
theorem dX6_value_1 : decode cX6_value 1 = .ok (.getfield 19, 3) := dk_180 0 19 (dk_at dksX6_value_0 1 rfl rfl)
theorem dX6_value_4 : decode cX6_value 4 = .ok (.aload_n 1, 1) := dk_43 (dk_at dksX6_value_0 4 rfl rfl)
theorem dX6_value_5 : decode cX6_value 5 = .ok (.getfield 19, 3) := dk_180 0 19 (dk_at dksX6_value_0 5 rfl rfl)
theorem dX6_value_8 : decode cX6_value 8 = .ok (.isub, 1) := dk_100 (dk_at dksX6_value_0 8 rfl rfl)
theorem dX6_value_9 : decode cX6_value 9 = .ok (.ireturn, 1) := dk_172 (dk_at dksX6_value_0 9 rfl rfl)
def dkwX9_init_0 : List UInt8 := [42, 43, 181, 0, 1, 42, 28, 181, 0, 7, 42, 183, 0, 11, 177]
abbrev dktX9_init_0 : List UInt8 := dkwX9_init_0 ++ []
theorem dksX9_init_0 : cX9_init.data.toList.drop 0 = dktX9_init_0 := by decide +kernel
theorem dX9_init_0 : decode cX9_init 0 = .ok (.aload_n 0, 1) := dk_42 (dk_at dksX9_init_0 0 rfl rfl)
theorem dX9_init_1 : decode cX9_init 1 = .ok (.aload_n 1, 1) := dk_43 (dk_at dksX9_init_0 1 rfl rfl)
theorem dX9_init_2 : decode cX9_init 2 = .ok (.putfield 1, 3) := dk_181 0 1 (dk_at dksX9_init_0 2 rfl rfl)
theorem dX9_init_5 : decode cX9_init 5 = .ok (.aload_n 0, 1) := dk_42 (dk_at dksX9_init_0 5 rfl rfl)
theorem dX9_init_6 : decode cX9_init 6 = .ok (.iload_n 2, 1) := dk_28 (dk_at dksX9_init_0 6 rfl rfl)
theorem dX9_init_7 : decode cX9_init 7 = .ok (.putfield 7, 3) := dk_181 0 7 (dk_at dksX9_init_0 7 rfl rfl)
theorem dX9_init_10 : decode cX9_init 10 = .ok (.aload_n 0, 1) := dk_42 (dk_at dksX9_init_0 10 rfl rfl)
theorem dX9_init_11 : decode cX9_init 11 = .ok (.invokespecial 11, 3) := dk_183 0 11 (dk_at dksX9_init_0 11 rfl rfl)
theorem dX9_init_14 : decode cX9_init 14 = .ok (.return_, 1) := dk_177 (dk_at dksX9_init_0 14 rfl rfl)
def dkwX9_iterator_0 : List UInt8 := [187, 0, 17, 89, 42, 183, 0, 19, 176]
abbrev dktX9_iterator_0 : List UInt8 := dkwX9_iterator_0 ++ []
theorem dksX9_iterator_0 : cX9_iterator.data.toList.drop 0 = dktX9_iterator_0 := by decide +kernel
theorem dX9_iterator_0 : decode cX9_iterator 0 = .ok (.new 17, 3) := dk_187 0 17 (dk_at dksX9_iterator_0 0 rfl rfl)
theorem dX9_iterator_3 : decode cX9_iterator 3 = .ok (.dup, 1) := dk_89 (dk_at dksX9_iterator_0 3 rfl rfl)
theorem dX9_iterator_4 : decode cX9_iterator 4 = .ok (.aload_n 0, 1) := dk_42 (dk_at dksX9_iterator_0 4 rfl rfl)
theorem dX9_iterator_5 : decode cX9_iterator 5 = .ok (.invokespecial 19, 3) := dk_183 0 19 (dk_at dksX9_iterator_0 5 rfl rfl)
theorem dX9_iterator_8 : decode cX9_iterator 8 = .ok (.areturn, 1) := dk_176 (dk_at dksX9_iterator_0 8 rfl rfl)
def dkwX10_init_0 : List UInt8 := [42, 43, 181, 0, 1, 42, 183, 0, 7, 177]
abbrev dktX10_init_0 : List UInt8 := dkwX10_init_0 ++ []
theorem dksX10_init_0 : cX10_init.data.toList.drop 0 = dktX10_init_0 := by decide +kernel
theorem dX10_init_0 : decode cX10_init 0 = .ok (.aload_n 0, 1) := dk_42 (dk_at dksX10_init_0 0 rfl rfl)
theorem dX10_init_1 : decode cX10_init 1 = .ok (.aload_n 1, 1) := dk_43 (dk_at dksX10_init_0 1 rfl rfl)
theorem dX10_init_2 : decode cX10_init 2 = .ok (.putfield 1, 3) := dk_181 0 1 (dk_at dksX10_init_0 2 rfl rfl)
theorem dX10_init_5 : decode cX10_init 5 = .ok (.aload_n 0, 1) := dk_42 (dk_at dksX10_init_0 5 rfl rfl)
theorem dX10_init_6 : decode cX10_init 6 = .ok (.invokespecial 7, 3) := dk_183 0 7 (dk_at dksX10_init_0 6 rfl rfl)
theorem dX10_init_9 : decode cX10_init 9 = .ok (.return_, 1) := dk_177 (dk_at dksX10_init_0 9 rfl rfl)
def dkwX10_hasNext_1 : List UInt8 := [167, 0, 4, 3, 172]
abbrev dktX10_hasNext_1 : List UInt8 := dkwX10_hasNext_1 ++ []
def dkwX10_hasNext_0 : List UInt8 := [42, 182, 0, 35, 42, 180, 0, 13, 42, 180, 0, 1, 180, 0, 17, 180, 0, 23, 162, 0, 7, 4]
abbrev dktX10_hasNext_0 : List UInt8 := dkwX10_hasNext_0 ++ dktX10_hasNext_1
theorem dksX10_hasNext_0 : cX10_hasNext.data.toList.drop 0 = dktX10_hasNext_0 := by decide +kernel
theorem dksX10_hasNext_1 : cX10_hasNext.data.toList.drop 22 = dktX10_hasNext_1 := dk_seg dksX10_hasNext_0 22 rfl rfl
theorem dX10_hasNext_0 : decode cX10_hasNext 0 = .ok (.aload_n 0, 1) := dk_42 (dk_at dksX10_hasNext_0 0 rfl rfl)
theorem dX10_hasNext_1 : decode cX10_hasNext 1 = .ok (.invokevirtual 35, 3) := dk_182 0 35 (dk_at dksX10_hasNext_0 1 rfl rfl)
theorem dX10_hasNext_4 : decode cX10_hasNext 4 = .ok (.aload_n 0, 1) := dk_42 (dk_at dksX10_hasNext_0 4 rfl rfl)
theorem dX10_hasNext_5 : decode cX10_hasNext 5 = .ok (.getfield 13, 3) := dk_180 0 13 (dk_at dksX10_hasNext_0 5 rfl rfl)
theorem dX10_hasNext_8 : decode cX10_hasNext 8 = .ok (.aload_n 0, 1) := dk_42 (dk_at dksX10_hasNext_0 8 rfl rfl)
theorem dX10_hasNext_9 : decode cX10_hasNext 9 = .ok (.getfield 1, 3) := dk_180 0 1 (dk_at dksX10_hasNext_0 9 rfl rfl)
theorem dX10_hasNext_12 : decode cX10_hasNext 12 = .ok (.getfield 17, 3) := dk_180 0 17 (dk_at dksX10_hasNext_0 12 rfl rfl)
theorem dX10_hasNext_15 : decode cX10_hasNext 15 = .ok (.getfield 23, 3) := dk_180 0 23 (dk_at dksX10_hasNext_0 15 rfl rfl)
theorem dX10_hasNext_18 : decode cX10_hasNext 18 = .ok (.if_icmp .ge 7, 3) := dk_162 0 7 (dk_at dksX10_hasNext_0 18 rfl rfl)
theorem dX10_hasNext_21 : decode cX10_hasNext 21 = .ok (.iconst 1, 1) := dk_4 (dk_at dksX10_hasNext_0 21 rfl rfl)
theorem dX10_hasNext_22 : decode cX10_hasNext 22 = .ok (.goto 4, 3) := dk_167 0 4 (dk_at dksX10_hasNext_1 0 rfl rfl)
theorem dX10_hasNext_25 : decode cX10_hasNext 25 = .ok (.iconst 0, 1) := dk_3 (dk_at dksX10_hasNext_1 3 rfl rfl)
theorem dX10_hasNext_26 : decode cX10_hasNext 26 = .ok (.ireturn, 1) := dk_172 (dk_at dksX10_hasNext_1 4 rfl rfl)
def dkwX10_search_2 : List UInt8 := [96, 181, 0, 13, 167, 255, 204, 177]
abbrev dktX10_search_2 : List UInt8 := dkwX10_search_2 ++ []
def dkwX10_search_1 : List UInt8 := [180, 0, 28, 42, 180, 0, 13, 46, 42, 180, 0, 1, 180, 0, 32, 159, 0, 16, 42, 89, 180, 0, 13, 4]
abbrev dktX10_search_1 : List UInt8 := dkwX10_search_1 ++ dktX10_search_2
def dkwX10_search_0 : List UInt8 := [42, 180, 0, 13, 42, 180, 0, 1, 180, 0, 17, 180, 0, 23, 162, 0, 41, 42, 180, 0, 1, 180, 0, 17]
abbrev dktX10_search_0 : List UInt8 := dkwX10_search_0 ++ dktX10_search_1
theorem dksX10_search_0 : cX10_search.data.toList.drop 0 = dktX10_search_0 := by decide +kernel
theorem dksX10_search_1 : cX10_search.data.toList.drop 24 = dktX10_search_1 := dk_seg dksX10_search_0 24 rfl rfl
theorem dksX10_search_2 : cX10_search.data.toList.drop 48 = dktX10_search_2 := dk_seg dksX10_search_1 24 rfl rfl
theorem dX10_search_0 : decode cX10_search 0 = .ok (.aload_n 0, 1) := dk_42 (dk_at dksX10_search_0 0 rfl rfl)
theorem dX10_search_1 : decode cX10_search 1 = .ok (.getfield 13, 3) := dk_180 0 13 (dk_at dksX10_search_0 1 rfl rfl)
theorem dX10_search_4 : decode cX10_search 4 = .ok (.aload_n 0, 1) := dk_42 (dk_at dksX10_search_0 4 rfl rfl)
theorem dX10_search_5 : decode cX10_search 5 = .ok (.getfield 1, 3) := dk_180 0 1 (dk_at dksX10_search_0 5 rfl rfl)
theorem dX10_search_8 : decode cX10_search 8 = .ok (.getfield 17, 3) := dk_180 0 17 (dk_at dksX10_search_0 8 rfl rfl)
theorem dX10_search_11 : decode cX10_search 11 = .ok (.getfield 23, 3) := dk_180 0 23 (dk_at dksX10_search_0 11 rfl rfl)
theorem dX10_search_14 : decode cX10_search 14 = .ok (.if_icmp .ge 41, 3) := dk_162 0 41 (dk_at dksX10_search_0 14 rfl rfl)
theorem dX10_search_17 : decode cX10_search 17 = .ok (.aload_n 0, 1) := dk_42 (dk_at dksX10_search_0 17 rfl rfl)
theorem dX10_search_18 : decode cX10_search 18 = .ok (.getfield 1, 3) := dk_180 0 1 (dk_at dksX10_search_0 18 rfl rfl)
theorem dX10_search_21 : decode cX10_search 21 = .ok (.getfield 17, 3) := dk_180 0 17 (dk_at dksX10_search_0 21 rfl rfl)
theorem dX10_search_24 : decode cX10_search 24 = .ok (.getfield 28, 3) := dk_180 0 28 (dk_at dksX10_search_1 0 rfl rfl)
theorem dX10_search_27 : decode cX10_search 27 = .ok (.aload_n 0, 1) := dk_42 (dk_at dksX10_search_1 3 rfl rfl)
theorem dX10_search_28 : decode cX10_search 28 = .ok (.getfield 13, 3) := dk_180 0 13 (dk_at dksX10_search_1 4 rfl rfl)
theorem dX10_search_31 : decode cX10_search 31 = .ok (.iaload, 1) := dk_46 (dk_at dksX10_search_1 7 rfl rfl)
theorem dX10_search_32 : decode cX10_search 32 = .ok (.aload_n 0, 1) := dk_42 (dk_at dksX10_search_1 8 rfl rfl)
theorem dX10_search_33 : decode cX10_search 33 = .ok (.getfield 1, 3) := dk_180 0 1 (dk_at dksX10_search_1 9 rfl rfl)
theorem dX10_search_36 : decode cX10_search 36 = .ok (.getfield 32, 3) := dk_180 0 32 (dk_at dksX10_search_1 12 rfl rfl)
theorem dX10_search_39 : decode cX10_search 39 = .ok (.if_icmp .eq 16, 3) := dk_159 0 16 (dk_at dksX10_search_1 15 rfl rfl)
theorem dX10_search_42 : decode cX10_search 42 = .ok (.aload_n 0, 1) := dk_42 (dk_at dksX10_search_1 18 rfl rfl)
theorem dX10_search_43 : decode cX10_search 43 = .ok (.dup, 1) := dk_89 (dk_at dksX10_search_1 19 rfl rfl)
theorem dX10_search_44 : decode cX10_search 44 = .ok (.getfield 13, 3) := dk_180 0 13 (dk_at dksX10_search_1 20 rfl rfl)
theorem dX10_search_47 : decode cX10_search 47 = .ok (.iconst 1, 1) := dk_4 (dk_at dksX10_search_1 23 rfl rfl)
theorem dX10_search_48 : decode cX10_search 48 = .ok (.iadd, 1) := dk_96 (dk_at dksX10_search_2 0 rfl rfl)
theorem dX10_search_49 : decode cX10_search 49 = .ok (.putfield 13, 3) := dk_181 0 13 (dk_at dksX10_search_2 1 rfl rfl)
theorem dX10_search_52 : decode cX10_search 52 = .ok (.goto (-52), 3) := dk_167 255 204 (dk_at dksX10_search_2 4 rfl rfl)
theorem dX10_search_55 : decode cX10_search 55 = .ok (.return_, 1) := dk_177 (dk_at dksX10_search_2 7 rfl rfl)
theorem dX10_next_0 : decode cX10_next 0 = .ok (.aload_n 0, 1) := by decide +kernel
theorem dX10_next_1 : decode cX10_next 1 = .ok (.invokevirtual 57, 3) := by decide +kernel
theorem dX10_next_4 : decode cX10_next 4 = .ok (.areturn, 1) := by decide +kernel
def dkwX10_next_2_1 : List UInt8 := [180, 0, 48, 42, 180, 0, 13, 4, 100, 46, 184, 0, 51, 176]
abbrev dktX10_next_2_1 : List UInt8 := dkwX10_next_2_1 ++ []
def dkwX10_next_2_0 : List UInt8 := [42, 182, 0, 38, 184, 0, 42, 42, 89, 180, 0, 13, 4, 96, 181, 0, 13, 42, 180, 0, 1, 180, 0, 17]
abbrev dktX10_next_2_0 : List UInt8 := dkwX10_next_2_0 ++ dktX10_next_2_1
theorem dksX10_next_2_0 : cX10_next_2.data.toList.drop 0 = dktX10_next_2_0 := by decide +kernel
theorem dksX10_next_2_1 : cX10_next_2.data.toList.drop 24 = dktX10_next_2_1 := dk_seg dksX10_next_2_0 24 rfl rfl
theorem dX10_next_2_0 : decode cX10_next_2 0 = .ok (.aload_n 0, 1) := dk_42 (dk_at dksX10_next_2_0 0 rfl rfl)
theorem dX10_next_2_1 : decode cX10_next_2 1 = .ok (.invokevirtual 38, 3) := dk_182 0 38 (dk_at dksX10_next_2_0 1 rfl rfl)
theorem dX10_next_2_4 : decode cX10_next_2 4 = .ok (.invokestatic 42, 3) := dk_184 0 42 (dk_at dksX10_next_2_0 4 rfl rfl)
theorem dX10_next_2_7 : decode cX10_next_2 7 = .ok (.aload_n 0, 1) := dk_42 (dk_at dksX10_next_2_0 7 rfl rfl)
theorem dX10_next_2_8 : decode cX10_next_2 8 = .ok (.dup, 1) := dk_89 (dk_at dksX10_next_2_0 8 rfl rfl)
theorem dX10_next_2_9 : decode cX10_next_2 9 = .ok (.getfield 13, 3) := dk_180 0 13 (dk_at dksX10_next_2_0 9 rfl rfl)
theorem dX10_next_2_12 : decode cX10_next_2 12 = .ok (.iconst 1, 1) := dk_4 (dk_at dksX10_next_2_0 12 rfl rfl)
theorem dX10_next_2_13 : decode cX10_next_2 13 = .ok (.iadd, 1) := dk_96 (dk_at dksX10_next_2_0 13 rfl rfl)
theorem dX10_next_2_14 : decode cX10_next_2 14 = .ok (.putfield 13, 3) := dk_181 0 13 (dk_at dksX10_next_2_0 14 rfl rfl)
theorem dX10_next_2_17 : decode cX10_next_2 17 = .ok (.aload_n 0, 1) := dk_42 (dk_at dksX10_next_2_0 17 rfl rfl)
theorem dX10_next_2_18 : decode cX10_next_2 18 = .ok (.getfield 1, 3) := dk_180 0 1 (dk_at dksX10_next_2_0 18 rfl rfl)
theorem dX10_next_2_21 : decode cX10_next_2 21 = .ok (.getfield 17, 3) := dk_180 0 17 (dk_at dksX10_next_2_0 21 rfl rfl)
theorem dX10_next_2_24 : decode cX10_next_2 24 = .ok (.getfield 48, 3) := dk_180 0 48 (dk_at dksX10_next_2_1 0 rfl rfl)
theorem dX10_next_2_27 : decode cX10_next_2 27 = .ok (.aload_n 0, 1) := dk_42 (dk_at dksX10_next_2_1 3 rfl rfl)
theorem dX10_next_2_28 : decode cX10_next_2 28 = .ok (.getfield 13, 3) := dk_180 0 13 (dk_at dksX10_next_2_1 4 rfl rfl)
theorem dX10_next_2_31 : decode cX10_next_2 31 = .ok (.iconst 1, 1) := dk_4 (dk_at dksX10_next_2_1 7 rfl rfl)
theorem dX10_next_2_32 : decode cX10_next_2 32 = .ok (.isub, 1) := dk_100 (dk_at dksX10_next_2_1 8 rfl rfl)
theorem dX10_next_2_33 : decode cX10_next_2 33 = .ok (.iaload, 1) := dk_46 (dk_at dksX10_next_2_1 9 rfl rfl)
theorem dX10_next_2_34 : decode cX10_next_2 34 = .ok (.invokestatic 51, 3) := dk_184 0 51 (dk_at dksX10_next_2_1 10 rfl rfl)
theorem dX10_next_2_37 : decode cX10_next_2 37 = .ok (.areturn, 1) := dk_176 (dk_at dksX10_next_2_1 13 rfl rfl)
def dkwX11_hasNext_0 : List UInt8 := [42, 180, 0, 42, 154, 0, 16, 42, 180, 0, 46, 16, 10, 162, 0, 7, 4, 167, 0, 4, 3, 172]
abbrev dktX11_hasNext_0 : List UInt8 := dkwX11_hasNext_0 ++ []
theorem dksX11_hasNext_0 : cX11_hasNext.data.toList.drop 0 = dktX11_hasNext_0 := by decide +kernel
theorem dX11_hasNext_0 : decode cX11_hasNext 0 = .ok (.aload_n 0, 1) := dk_42 (dk_at dksX11_hasNext_0 0 rfl rfl)
theorem dX11_hasNext_1 : decode cX11_hasNext 1 = .ok (.getfield 42, 3) := dk_180 0 42 (dk_at dksX11_hasNext_0 1 rfl rfl)
theorem dX11_hasNext_4 : decode cX11_hasNext 4 = .ok (.ifCond .ne 16, 3) := dk_154 0 16 (dk_at dksX11_hasNext_0 4 rfl rfl)
theorem dX11_hasNext_7 : decode cX11_hasNext 7 = .ok (.aload_n 0, 1) := dk_42 (dk_at dksX11_hasNext_0 7 rfl rfl)
theorem dX11_hasNext_8 : decode cX11_hasNext 8 = .ok (.getfield 46, 3) := dk_180 0 46 (dk_at dksX11_hasNext_0 8 rfl rfl)
theorem dX11_hasNext_11 : decode cX11_hasNext 11 = .ok (.bipush 10, 2) := dk_16 10 (dk_at dksX11_hasNext_0 11 rfl rfl)
theorem dX11_hasNext_13 : decode cX11_hasNext 13 = .ok (.if_icmp .ge 7, 3) := dk_162 0 7 (dk_at dksX11_hasNext_0 13 rfl rfl)
theorem dX11_hasNext_16 : decode cX11_hasNext 16 = .ok (.iconst 1, 1) := dk_4 (dk_at dksX11_hasNext_0 16 rfl rfl)
theorem dX11_hasNext_17 : decode cX11_hasNext 17 = .ok (.goto 4, 3) := dk_167 0 4 (dk_at dksX11_hasNext_0 17 rfl rfl)
theorem dX11_hasNext_20 : decode cX11_hasNext 20 = .ok (.iconst 0, 1) := dk_3 (dk_at dksX11_hasNext_0 20 rfl rfl)
theorem dX11_hasNext_21 : decode cX11_hasNext 21 = .ok (.ireturn, 1) := dk_172 (dk_at dksX11_hasNext_0 21 rfl rfl)
theorem dX11_next_0 : decode cX11_next 0 = .ok (.aload_n 0, 1) := by decide +kernel
theorem dX11_next_1 : decode cX11_next 1 = .ok (.invokevirtual 69, 3) := by decide +kernel
theorem dX11_next_4 : decode cX11_next 4 = .ok (.areturn, 1) := by decide +kernel
def dkwX11_next_2_2 : List UInt8 := [180, 0, 46, 184, 0, 63, 176]
abbrev dktX11_next_2_2 : List UInt8 := dkwX11_next_2_2 ++ []
def dkwX11_next_2_1 : List UInt8 := [154, 0, 7, 4, 167, 0, 4, 3, 181, 0, 42, 42, 89, 180, 0, 46, 4, 96, 181, 0, 46, 42]
abbrev dktX11_next_2_1 : List UInt8 := dkwX11_next_2_1 ++ dktX11_next_2_2
def dkwX11_next_2_0 : List UInt8 := [42, 182, 0, 49, 184, 0, 53, 42, 42, 180, 0, 39, 42, 180, 0, 27, 42, 180, 0, 9, 182, 0, 57]
abbrev dktX11_next_2_0 : List UInt8 := dkwX11_next_2_0 ++ dktX11_next_2_1
theorem dksX11_next_2_0 : cX11_next_2.data.toList.drop 0 = dktX11_next_2_0 := by decide +kernel
theorem dksX11_next_2_1 : cX11_next_2.data.toList.drop 23 = dktX11_next_2_1 := dk_seg dksX11_next_2_0 23 rfl rfl
theorem dksX11_next_2_2 : cX11_next_2.data.toList.drop 45 = dktX11_next_2_2 := dk_seg dksX11_next_2_1 22 rfl rfl
theorem dX11_next_2_0 : decode cX11_next_2 0 = .ok (.aload_n 0, 1) := dk_42 (dk_at dksX11_next_2_0 0 rfl rfl)
theorem dX11_next_2_1 : decode cX11_next_2 1 = .ok (.invokevirtual 49, 3) := dk_182 0 49 (dk_at dksX11_next_2_0 1 rfl rfl)
theorem dX11_next_2_4 : decode cX11_next_2 4 = .ok (.invokestatic 53, 3) := dk_184 0 53 (dk_at dksX11_next_2_0 4 rfl rfl)
theorem dX11_next_2_7 : decode cX11_next_2 7 = .ok (.aload_n 0, 1) := dk_42 (dk_at dksX11_next_2_0 7 rfl rfl)
theorem dX11_next_2_8 : decode cX11_next_2 8 = .ok (.aload_n 0, 1) := dk_42 (dk_at dksX11_next_2_0 8 rfl rfl)
theorem dX11_next_2_9 : decode cX11_next_2 9 = .ok (.getfield 39, 3) := dk_180 0 39 (dk_at dksX11_next_2_0 9 rfl rfl)
theorem dX11_next_2_12 : decode cX11_next_2 12 = .ok (.aload_n 0, 1) := dk_42 (dk_at dksX11_next_2_0 12 rfl rfl)
theorem dX11_next_2_13 : decode cX11_next_2 13 = .ok (.getfield 27, 3) := dk_180 0 27 (dk_at dksX11_next_2_0 13 rfl rfl)
theorem dX11_next_2_16 : decode cX11_next_2 16 = .ok (.aload_n 0, 1) := dk_42 (dk_at dksX11_next_2_0 16 rfl rfl)
theorem dX11_next_2_17 : decode cX11_next_2 17 = .ok (.getfield 9, 3) := dk_180 0 9 (dk_at dksX11_next_2_0 17 rfl rfl)
theorem dX11_next_2_20 : decode cX11_next_2 20 = .ok (.invokevirtual 57, 3) := dk_182 0 57 (dk_at dksX11_next_2_0 20 rfl rfl)
theorem dX11_next_2_23 : decode cX11_next_2 23 = .ok (.ifCond .ne 7, 3) := dk_154 0 7 (dk_at dksX11_next_2_1 0 rfl rfl)
theorem dX11_next_2_26 : decode cX11_next_2 26 = .ok (.iconst 1, 1) := dk_4 (dk_at dksX11_next_2_1 3 rfl rfl)
theorem dX11_next_2_27 : decode cX11_next_2 27 = .ok (.goto 4, 3) := dk_167 0 4 (dk_at dksX11_next_2_1 4 rfl rfl)
theorem dX11_next_2_30 : decode cX11_next_2 30 = .ok (.iconst 0, 1) := dk_3 (dk_at dksX11_next_2_1 7 rfl rfl)
theorem dX11_next_2_31 : decode cX11_next_2 31 = .ok (.putfield 42, 3) := dk_181 0 42 (dk_at dksX11_next_2_1 8 rfl rfl)
theorem dX11_next_2_34 : decode cX11_next_2 34 = .ok (.aload_n 0, 1) := dk_42 (dk_at dksX11_next_2_1 11 rfl rfl)
theorem dX11_next_2_35 : decode cX11_next_2 35 = .ok (.dup, 1) := dk_89 (dk_at dksX11_next_2_1 12 rfl rfl)
theorem dX11_next_2_36 : decode cX11_next_2 36 = .ok (.getfield 46, 3) := dk_180 0 46 (dk_at dksX11_next_2_1 13 rfl rfl)
theorem dX11_next_2_39 : decode cX11_next_2 39 = .ok (.iconst 1, 1) := dk_4 (dk_at dksX11_next_2_1 16 rfl rfl)
theorem dX11_next_2_40 : decode cX11_next_2 40 = .ok (.iadd, 1) := dk_96 (dk_at dksX11_next_2_1 17 rfl rfl)
theorem dX11_next_2_41 : decode cX11_next_2 41 = .ok (.putfield 46, 3) := dk_181 0 46 (dk_at dksX11_next_2_1 18 rfl rfl)
theorem dX11_next_2_44 : decode cX11_next_2 44 = .ok (.aload_n 0, 1) := dk_42 (dk_at dksX11_next_2_1 21 rfl rfl)
theorem dX11_next_2_45 : decode cX11_next_2 45 = .ok (.getfield 46, 3) := dk_180 0 46 (dk_at dksX11_next_2_2 0 rfl rfl)
theorem dX11_next_2_48 : decode cX11_next_2 48 = .ok (.invokestatic 63, 3) := dk_184 0 63 (dk_at dksX11_next_2_2 3 rfl rfl)
theorem dX11_next_2_51 : decode cX11_next_2 51 = .ok (.areturn, 1) := dk_176 (dk_at dksX11_next_2_2 6 rfl rfl)
def dkwX11_init_2 : List UInt8 := [183, 0, 36, 181, 0, 39, 177]
abbrev dktX11_init_2 : List UInt8 := dkwX11_init_2 ++ []
def dkwX11_init_1 : List UInt8 := [184, 0, 23, 181, 0, 27, 42, 187, 0, 30, 89, 42, 180, 0, 3, 42, 180, 0, 3, 180, 0, 32]
abbrev dktX11_init_1 : List UInt8 := dkwX11_init_1 ++ dktX11_init_2
def dkwX11_init_0 : List UInt8 := [42, 43, 181, 0, 3, 42, 28, 181, 0, 9, 42, 183, 0, 13, 42, 42, 180, 0, 3, 180, 0, 19]
abbrev dktX11_init_0 : List UInt8 := dkwX11_init_0 ++ dktX11_init_1
theorem dksX11_init_0 : cX11_init.data.toList.drop 0 = dktX11_init_0 := by decide +kernel
theorem dksX11_init_1 : cX11_init.data.toList.drop 22 = dktX11_init_1 := dk_seg dksX11_init_0 22 rfl rfl
theorem dksX11_init_2 : cX11_init.data.toList.drop 44 = dktX11_init_2 := dk_seg dksX11_init_1 22 rfl rfl
theorem dX11_init_0 : decode cX11_init 0 = .ok (.aload_n 0, 1) := dk_42 (dk_at dksX11_init_0 0 rfl rfl)
theorem dX11_init_1 : decode cX11_init 1 = .ok (.aload_n 1, 1) := dk_43 (dk_at dksX11_init_0 1 rfl rfl)
theorem dX11_init_2 : decode cX11_init 2 = .ok (.putfield 3, 3) := dk_181 0 3 (dk_at dksX11_init_0 2 rfl rfl)
theorem dX11_init_5 : decode cX11_init 5 = .ok (.aload_n 0, 1) := dk_42 (dk_at dksX11_init_0 5 rfl rfl)
theorem dX11_init_6 : decode cX11_init 6 = .ok (.iload_n 2, 1) := dk_28 (dk_at dksX11_init_0 6 rfl rfl)
theorem dX11_init_7 : decode cX11_init 7 = .ok (.putfield 9, 3) := dk_181 0 9 (dk_at dksX11_init_0 7 rfl rfl)
theorem dX11_init_10 : decode cX11_init 10 = .ok (.aload_n 0, 1) := dk_42 (dk_at dksX11_init_0 10 rfl rfl)
theorem dX11_init_11 : decode cX11_init 11 = .ok (.invokespecial 13, 3) := dk_183 0 13 (dk_at dksX11_init_0 11 rfl rfl)
theorem dX11_init_14 : decode cX11_init 14 = .ok (.aload_n 0, 1) := dk_42 (dk_at dksX11_init_0 14 rfl rfl)
theorem dX11_init_15 : decode cX11_init 15 = .ok (.aload_n 0, 1) := dk_42 (dk_at dksX11_init_0 15 rfl rfl)
theorem dX11_init_16 : decode cX11_init 16 = .ok (.getfield 3, 3) := dk_180 0 3 (dk_at dksX11_init_0 16 rfl rfl)
theorem dX11_init_19 : decode cX11_init 19 = .ok (.getfield 19, 3) := dk_180 0 19 (dk_at dksX11_init_0 19 rfl rfl)
theorem dX11_init_22 : decode cX11_init 22 = .ok (.invokestatic 23, 3) := dk_184 0 23 (dk_at dksX11_init_1 0 rfl rfl)
theorem dX11_init_25 : decode cX11_init 25 = .ok (.putfield 27, 3) := dk_181 0 27 (dk_at dksX11_init_1 3 rfl rfl)
theorem dX11_init_28 : decode cX11_init 28 = .ok (.aload_n 0, 1) := dk_42 (dk_at dksX11_init_1 6 rfl rfl)
theorem dX11_init_29 : decode cX11_init 29 = .ok (.new 30, 3) := dk_187 0 30 (dk_at dksX11_init_1 7 rfl rfl)
theorem dX11_init_32 : decode cX11_init 32 = .ok (.dup, 1) := dk_89 (dk_at dksX11_init_1 10 rfl rfl)
theorem dX11_init_33 : decode cX11_init 33 = .ok (.aload_n 0, 1) := dk_42 (dk_at dksX11_init_1 11 rfl rfl)
theorem dX11_init_34 : decode cX11_init 34 = .ok (.getfield 3, 3) := dk_180 0 3 (dk_at dksX11_init_1 12 rfl rfl)
theorem dX11_init_37 : decode cX11_init 37 = .ok (.aload_n 0, 1) := dk_42 (dk_at dksX11_init_1 15 rfl rfl)
theorem dX11_init_38 : decode cX11_init 38 = .ok (.getfield 3, 3) := dk_180 0 3 (dk_at dksX11_init_1 16 rfl rfl)
theorem dX11_init_41 : decode cX11_init 41 = .ok (.getfield 32, 3) := dk_180 0 32 (dk_at dksX11_init_1 19 rfl rfl)
theorem dX11_init_44 : decode cX11_init 44 = .ok (.invokespecial 36, 3) := dk_183 0 36 (dk_at dksX11_init_2 0 rfl rfl)
theorem dX11_init_47 : decode cX11_init 47 = .ok (.putfield 39, 3) := dk_181 0 39 (dk_at dksX11_init_2 3 rfl rfl)
theorem dX11_init_50 : decode cX11_init 50 = .ok (.return_, 1) := dk_177 (dk_at dksX11_init_2 6 rfl rfl)
def dkwX12_choose_0 : List UInt8 := [42, 180, 0, 13, 43, 28, 182, 0, 17, 62, 29, 42, 43, 28, 183, 0, 23, 96, 172]
abbrev dktX12_choose_0 : List UInt8 := dkwX12_choose_0 ++ []
theorem dksX12_choose_0 : cX12_choose.data.toList.drop 0 = dktX12_choose_0 := by decide +kernel
theorem dX12_choose_0 : decode cX12_choose 0 = .ok (.aload_n 0, 1) := dk_42 (dk_at dksX12_choose_0 0 rfl rfl)
theorem dX12_choose_1 : decode cX12_choose 1 = .ok (.getfield 13, 3) := dk_180 0 13 (dk_at dksX12_choose_0 1 rfl rfl)
theorem dX12_choose_4 : decode cX12_choose 4 = .ok (.aload_n 1, 1) := dk_43 (dk_at dksX12_choose_0 4 rfl rfl)
theorem dX12_choose_5 : decode cX12_choose 5 = .ok (.iload_n 2, 1) := dk_28 (dk_at dksX12_choose_0 5 rfl rfl)
theorem dX12_choose_6 : decode cX12_choose 6 = .ok (.invokevirtual 17, 3) := dk_182 0 17 (dk_at dksX12_choose_0 6 rfl rfl)
theorem dX12_choose_9 : decode cX12_choose 9 = .ok (.istore_n 3, 1) := dk_62 (dk_at dksX12_choose_0 9 rfl rfl)
theorem dX12_choose_10 : decode cX12_choose 10 = .ok (.iload_n 3, 1) := dk_29 (dk_at dksX12_choose_0 10 rfl rfl)
theorem dX12_choose_11 : decode cX12_choose 11 = .ok (.aload_n 0, 1) := dk_42 (dk_at dksX12_choose_0 11 rfl rfl)
theorem dX12_choose_12 : decode cX12_choose 12 = .ok (.aload_n 1, 1) := dk_43 (dk_at dksX12_choose_0 12 rfl rfl)
theorem dX12_choose_13 : decode cX12_choose 13 = .ok (.iload_n 2, 1) := dk_28 (dk_at dksX12_choose_0 13 rfl rfl)
theorem dX12_choose_14 : decode cX12_choose 14 = .ok (.invokespecial 23, 3) := dk_183 0 23 (dk_at dksX12_choose_0 14 rfl rfl)
theorem dX12_choose_17 : decode cX12_choose 17 = .ok (.iadd, 1) := dk_96 (dk_at dksX12_choose_0 17 rfl rfl)
theorem dX12_choose_18 : decode cX12_choose 18 = .ok (.ireturn, 1) := dk_172 (dk_at dksX12_choose_0 18 rfl rfl)
def dkwX12_init_0 : List UInt8 := [42, 43, 181, 0, 1, 42, 43, 183, 0, 7, 42, 44, 181, 0, 13, 177]
abbrev dktX12_init_0 : List UInt8 := dkwX12_init_0 ++ []
theorem dksX12_init_0 : cX12_init.data.toList.drop 0 = dktX12_init_0 := by decide +kernel
theorem dX12_init_0 : decode cX12_init 0 = .ok (.aload_n 0, 1) := dk_42 (dk_at dksX12_init_0 0 rfl rfl)
theorem dX12_init_1 : decode cX12_init 1 = .ok (.aload_n 1, 1) := dk_43 (dk_at dksX12_init_0 1 rfl rfl)
theorem dX12_init_2 : decode cX12_init 2 = .ok (.putfield 1, 3) := dk_181 0 1 (dk_at dksX12_init_0 2 rfl rfl)
theorem dX12_init_5 : decode cX12_init 5 = .ok (.aload_n 0, 1) := dk_42 (dk_at dksX12_init_0 5 rfl rfl)
theorem dX12_init_6 : decode cX12_init 6 = .ok (.aload_n 1, 1) := dk_43 (dk_at dksX12_init_0 6 rfl rfl)
theorem dX12_init_7 : decode cX12_init 7 = .ok (.invokespecial 7, 3) := dk_183 0 7 (dk_at dksX12_init_0 7 rfl rfl)
theorem dX12_init_10 : decode cX12_init 10 = .ok (.aload_n 0, 1) := dk_42 (dk_at dksX12_init_0 10 rfl rfl)
theorem dX12_init_11 : decode cX12_init 11 = .ok (.aload_n 2, 1) := dk_44 (dk_at dksX12_init_0 11 rfl rfl)
theorem dX12_init_12 : decode cX12_init 12 = .ok (.putfield 13, 3) := dk_181 0 13 (dk_at dksX12_init_0 12 rfl rfl)
theorem dX12_init_15 : decode cX12_init 15 = .ok (.return_, 1) := dk_177 (dk_at dksX12_init_0 15 rfl rfl)
def dkwX13_init_0 : List UInt8 := [42, 43, 181, 0, 1, 42, 183, 0, 7, 177]
abbrev dktX13_init_0 : List UInt8 := dkwX13_init_0 ++ []
theorem dksX13_init_0 : cX13_init.data.toList.drop 0 = dktX13_init_0 := by decide +kernel
theorem dX13_init_0 : decode cX13_init 0 = .ok (.aload_n 0, 1) := dk_42 (dk_at dksX13_init_0 0 rfl rfl)
theorem dX13_init_1 : decode cX13_init 1 = .ok (.aload_n 1, 1) := dk_43 (dk_at dksX13_init_0 1 rfl rfl)
theorem dX13_init_2 : decode cX13_init 2 = .ok (.putfield 1, 3) := dk_181 0 1 (dk_at dksX13_init_0 2 rfl rfl)
theorem dX13_init_5 : decode cX13_init 5 = .ok (.aload_n 0, 1) := dk_42 (dk_at dksX13_init_0 5 rfl rfl)
theorem dX13_init_6 : decode cX13_init 6 = .ok (.invokespecial 7, 3) := dk_183 0 7 (dk_at dksX13_init_0 6 rfl rfl)
theorem dX13_init_9 : decode cX13_init 9 = .ok (.return_, 1) := dk_177 (dk_at dksX13_init_0 9 rfl rfl)
def dkwX13_text_2 : List UInt8 := [182, 0, 87, 185, 0, 90, 2, 0, 87, 167, 255, 219, 43, 176]
abbrev dktX13_text_2 : List UInt8 := dkwX13_text_2 ++ []
def dkwX13_text_1 : List UInt8 := [180, 0, 1, 180, 0, 17, 182, 0, 23, 162, 0, 26, 42, 16, 59, 16, 59, 182, 0, 46, 61, 43, 42]
abbrev dktX13_text_1 : List UInt8 := dkwX13_text_1 ++ dktX13_text_2
def dkwX13_text_0 : List UInt8 := [187, 0, 84, 89, 183, 0, 86, 76, 43, 42, 182, 0, 87, 185, 0, 90, 2, 0, 87, 42, 180, 0, 13, 42]
abbrev dktX13_text_0 : List UInt8 := dkwX13_text_0 ++ dktX13_text_1
theorem dksX13_text_0 : cX13_text.data.toList.drop 0 = dktX13_text_0 := by decide +kernel
theorem dksX13_text_1 : cX13_text.data.toList.drop 24 = dktX13_text_1 := dk_seg dksX13_text_0 24 rfl rfl
theorem dksX13_text_2 : cX13_text.data.toList.drop 47 = dktX13_text_2 := dk_seg dksX13_text_1 23 rfl rfl
theorem dX13_text_0 : decode cX13_text 0 = .ok (.new 84, 3) := dk_187 0 84 (dk_at dksX13_text_0 0 rfl rfl)
theorem dX13_text_3 : decode cX13_text 3 = .ok (.dup, 1) := dk_89 (dk_at dksX13_text_0 3 rfl rfl)
theorem dX13_text_4 : decode cX13_text 4 = .ok (.invokespecial 86, 3) := dk_183 0 86 (dk_at dksX13_text_0 4 rfl rfl)
theorem dX13_text_7 : decode cX13_text 7 = .ok (.astore_n 1, 1) := dk_76 (dk_at dksX13_text_0 7 rfl rfl)
theorem dX13_text_8 : decode cX13_text 8 = .ok (.aload_n 1, 1) := dk_43 (dk_at dksX13_text_0 8 rfl rfl)
theorem dX13_text_9 : decode cX13_text 9 = .ok (.aload_n 0, 1) := dk_42 (dk_at dksX13_text_0 9 rfl rfl)
theorem dX13_text_10 : decode cX13_text 10 = .ok (.invokevirtual 87, 3) := dk_182 0 87 (dk_at dksX13_text_0 10 rfl rfl)
theorem dX13_text_13 : decode cX13_text 13 = .ok (.invokeinterface 90 2, 5) := by decide +kernel
theorem dX13_text_18 : decode cX13_text 18 = .ok (.pop, 1) := dk_87 (dk_at dksX13_text_0 18 rfl rfl)
theorem dX13_text_19 : decode cX13_text 19 = .ok (.aload_n 0, 1) := dk_42 (dk_at dksX13_text_0 19 rfl rfl)
theorem dX13_text_20 : decode cX13_text 20 = .ok (.getfield 13, 3) := dk_180 0 13 (dk_at dksX13_text_0 20 rfl rfl)
theorem dX13_text_23 : decode cX13_text 23 = .ok (.aload_n 0, 1) := dk_42 (dk_at dksX13_text_0 23 rfl rfl)
theorem dX13_text_24 : decode cX13_text 24 = .ok (.getfield 1, 3) := dk_180 0 1 (dk_at dksX13_text_1 0 rfl rfl)
theorem dX13_text_27 : decode cX13_text 27 = .ok (.getfield 17, 3) := dk_180 0 17 (dk_at dksX13_text_1 3 rfl rfl)
theorem dX13_text_30 : decode cX13_text 30 = .ok (.invokevirtual 23, 3) := dk_182 0 23 (dk_at dksX13_text_1 6 rfl rfl)
theorem dX13_text_33 : decode cX13_text 33 = .ok (.if_icmp .ge 26, 3) := dk_162 0 26 (dk_at dksX13_text_1 9 rfl rfl)
theorem dX13_text_36 : decode cX13_text 36 = .ok (.aload_n 0, 1) := dk_42 (dk_at dksX13_text_1 12 rfl rfl)
theorem dX13_text_37 : decode cX13_text 37 = .ok (.bipush 59, 2) := dk_16 59 (dk_at dksX13_text_1 13 rfl rfl)
theorem dX13_text_39 : decode cX13_text 39 = .ok (.bipush 59, 2) := dk_16 59 (dk_at dksX13_text_1 15 rfl rfl)
theorem dX13_text_41 : decode cX13_text 41 = .ok (.invokevirtual 46, 3) := dk_182 0 46 (dk_at dksX13_text_1 17 rfl rfl)
theorem dX13_text_44 : decode cX13_text 44 = .ok (.istore_n 2, 1) := dk_61 (dk_at dksX13_text_1 20 rfl rfl)
theorem dX13_text_45 : decode cX13_text 45 = .ok (.aload_n 1, 1) := dk_43 (dk_at dksX13_text_1 21 rfl rfl)
theorem dX13_text_46 : decode cX13_text 46 = .ok (.aload_n 0, 1) := dk_42 (dk_at dksX13_text_1 22 rfl rfl)
theorem dX13_text_47 : decode cX13_text 47 = .ok (.invokevirtual 87, 3) := dk_182 0 87 (dk_at dksX13_text_2 0 rfl rfl)
theorem dX13_text_50 : decode cX13_text 50 = .ok (.invokeinterface 90 2, 5) := by decide +kernel
theorem dX13_text_55 : decode cX13_text 55 = .ok (.pop, 1) := dk_87 (dk_at dksX13_text_2 8 rfl rfl)
theorem dX13_text_56 : decode cX13_text 56 = .ok (.goto (-37), 3) := dk_167 255 219 (dk_at dksX13_text_2 9 rfl rfl)
theorem dX13_text_59 : decode cX13_text 59 = .ok (.aload_n 1, 1) := dk_43 (dk_at dksX13_text_2 12 rfl rfl)
theorem dX13_text_60 : decode cX13_text 60 = .ok (.areturn, 1) := dk_176 (dk_at dksX13_text_2 13 rfl rfl)
def dkwX13_item_3 : List UInt8 := [153, 0, 9, 42, 4, 182, 0, 80, 176, 42, 16, 115, 16, 115, 182, 0, 46, 60, 42, 3, 182, 0, 80, 176]
abbrev dktX13_item_3 : List UInt8 := dkwX13_item_3 ++ []
def dkwX13_item_2 : List UInt8 := [182, 0, 74, 176, 42, 16, 101, 182, 0, 64, 153, 0, 8, 42, 182, 0, 77, 176, 42, 16, 111, 182, 0, 64]
abbrev dktX13_item_2 : List UInt8 := dkwX13_item_2 ++ dktX13_item_3
def dkwX13_item_1 : List UInt8 := [182, 0, 64, 153, 0, 9, 186, 0, 71, 0, 0, 176, 42, 16, 98, 182, 0, 64, 153, 0, 8, 42]
abbrev dktX13_item_1 : List UInt8 := dkwX13_item_1 ++ dktX13_item_2
def dkwX13_item_0 : List UInt8 := [42, 16, 114, 182, 0, 64, 153, 0, 15, 42, 182, 0, 60, 60, 27, 186, 0, 68, 0, 0, 176, 42, 16, 110]
abbrev dktX13_item_0 : List UInt8 := dkwX13_item_0 ++ dktX13_item_1
theorem dksX13_item_0 : cX13_item.data.toList.drop 0 = dktX13_item_0 := by decide +kernel
theorem dksX13_item_1 : cX13_item.data.toList.drop 24 = dktX13_item_1 := dk_seg dksX13_item_0 24 rfl rfl
theorem dksX13_item_2 : cX13_item.data.toList.drop 46 = dktX13_item_2 := dk_seg dksX13_item_1 22 rfl rfl
theorem dksX13_item_3 : cX13_item.data.toList.drop 70 = dktX13_item_3 := dk_seg dksX13_item_2 24 rfl rfl
theorem dX13_item_0 : decode cX13_item 0 = .ok (.aload_n 0, 1) := dk_42 (dk_at dksX13_item_0 0 rfl rfl)
theorem dX13_item_1 : decode cX13_item 1 = .ok (.bipush 114, 2) := dk_16 114 (dk_at dksX13_item_0 1 rfl rfl)
theorem dX13_item_3 : decode cX13_item 3 = .ok (.invokevirtual 64, 3) := dk_182 0 64 (dk_at dksX13_item_0 3 rfl rfl)
theorem dX13_item_6 : decode cX13_item 6 = .ok (.ifCond .eq 15, 3) := dk_153 0 15 (dk_at dksX13_item_0 6 rfl rfl)
theorem dX13_item_9 : decode cX13_item 9 = .ok (.aload_n 0, 1) := dk_42 (dk_at dksX13_item_0 9 rfl rfl)
theorem dX13_item_10 : decode cX13_item 10 = .ok (.invokevirtual 60, 3) := dk_182 0 60 (dk_at dksX13_item_0 10 rfl rfl)
theorem dX13_item_13 : decode cX13_item 13 = .ok (.istore_n 1, 1) := dk_60 (dk_at dksX13_item_0 13 rfl rfl)
theorem dX13_item_14 : decode cX13_item 14 = .ok (.iload_n 1, 1) := dk_27 (dk_at dksX13_item_0 14 rfl rfl)
theorem dX13_item_15 : decode cX13_item 15 = .ok (.invokedynamic 68, 5) := by decide +kernel
theorem dX13_item_20 : decode cX13_item 20 = .ok (.areturn, 1) := dk_176 (dk_at dksX13_item_0 20 rfl rfl)
theorem dX13_item_21 : decode cX13_item 21 = .ok (.aload_n 0, 1) := dk_42 (dk_at dksX13_item_0 21 rfl rfl)
theorem dX13_item_22 : decode cX13_item 22 = .ok (.bipush 110, 2) := dk_16 110 (dk_at dksX13_item_0 22 rfl rfl)
theorem dX13_item_24 : decode cX13_item 24 = .ok (.invokevirtual 64, 3) := dk_182 0 64 (dk_at dksX13_item_1 0 rfl rfl)
theorem dX13_item_27 : decode cX13_item 27 = .ok (.ifCond .eq 9, 3) := dk_153 0 9 (dk_at dksX13_item_1 3 rfl rfl)
theorem dX13_item_30 : decode cX13_item 30 = .ok (.invokedynamic 71, 5) := by decide +kernel
theorem dX13_item_35 : decode cX13_item 35 = .ok (.areturn, 1) := dk_176 (dk_at dksX13_item_1 11 rfl rfl)
theorem dX13_item_36 : decode cX13_item 36 = .ok (.aload_n 0, 1) := dk_42 (dk_at dksX13_item_1 12 rfl rfl)
theorem dX13_item_37 : decode cX13_item 37 = .ok (.bipush 98, 2) := dk_16 98 (dk_at dksX13_item_1 13 rfl rfl)
theorem dX13_item_39 : decode cX13_item 39 = .ok (.invokevirtual 64, 3) := dk_182 0 64 (dk_at dksX13_item_1 15 rfl rfl)
theorem dX13_item_42 : decode cX13_item 42 = .ok (.ifCond .eq 8, 3) := dk_153 0 8 (dk_at dksX13_item_1 18 rfl rfl)
theorem dX13_item_45 : decode cX13_item 45 = .ok (.aload_n 0, 1) := dk_42 (dk_at dksX13_item_1 21 rfl rfl)
theorem dX13_item_46 : decode cX13_item 46 = .ok (.invokevirtual 74, 3) := dk_182 0 74 (dk_at dksX13_item_2 0 rfl rfl)
theorem dX13_item_49 : decode cX13_item 49 = .ok (.areturn, 1) := dk_176 (dk_at dksX13_item_2 3 rfl rfl)
theorem dX13_item_50 : decode cX13_item 50 = .ok (.aload_n 0, 1) := dk_42 (dk_at dksX13_item_2 4 rfl rfl)
theorem dX13_item_51 : decode cX13_item 51 = .ok (.bipush 101, 2) := dk_16 101 (dk_at dksX13_item_2 5 rfl rfl)
theorem dX13_item_53 : decode cX13_item 53 = .ok (.invokevirtual 64, 3) := dk_182 0 64 (dk_at dksX13_item_2 7 rfl rfl)
theorem dX13_item_56 : decode cX13_item 56 = .ok (.ifCond .eq 8, 3) := dk_153 0 8 (dk_at dksX13_item_2 10 rfl rfl)
theorem dX13_item_59 : decode cX13_item 59 = .ok (.aload_n 0, 1) := dk_42 (dk_at dksX13_item_2 13 rfl rfl)
theorem dX13_item_60 : decode cX13_item 60 = .ok (.invokevirtual 77, 3) := dk_182 0 77 (dk_at dksX13_item_2 14 rfl rfl)
theorem dX13_item_63 : decode cX13_item 63 = .ok (.areturn, 1) := dk_176 (dk_at dksX13_item_2 17 rfl rfl)
theorem dX13_item_64 : decode cX13_item 64 = .ok (.aload_n 0, 1) := dk_42 (dk_at dksX13_item_2 18 rfl rfl)
theorem dX13_item_65 : decode cX13_item 65 = .ok (.bipush 111, 2) := dk_16 111 (dk_at dksX13_item_2 19 rfl rfl)
theorem dX13_item_67 : decode cX13_item 67 = .ok (.invokevirtual 64, 3) := dk_182 0 64 (dk_at dksX13_item_2 21 rfl rfl)
theorem dX13_item_70 : decode cX13_item 70 = .ok (.ifCond .eq 9, 3) := dk_153 0 9 (dk_at dksX13_item_3 0 rfl rfl)
theorem dX13_item_73 : decode cX13_item 73 = .ok (.aload_n 0, 1) := dk_42 (dk_at dksX13_item_3 3 rfl rfl)
theorem dX13_item_74 : decode cX13_item 74 = .ok (.iconst 1, 1) := dk_4 (dk_at dksX13_item_3 4 rfl rfl)
theorem dX13_item_75 : decode cX13_item 75 = .ok (.invokevirtual 80, 3) := dk_182 0 80 (dk_at dksX13_item_3 5 rfl rfl)
theorem dX13_item_78 : decode cX13_item 78 = .ok (.areturn, 1) := dk_176 (dk_at dksX13_item_3 8 rfl rfl)
theorem dX13_item_79 : decode cX13_item 79 = .ok (.aload_n 0, 1) := dk_42 (dk_at dksX13_item_3 9 rfl rfl)
theorem dX13_item_80 : decode cX13_item 80 = .ok (.bipush 115, 2) := dk_16 115 (dk_at dksX13_item_3 10 rfl rfl)
theorem dX13_item_82 : decode cX13_item 82 = .ok (.bipush 115, 2) := dk_16 115 (dk_at dksX13_item_3 12 rfl rfl)
theorem dX13_item_84 : decode cX13_item 84 = .ok (.invokevirtual 46, 3) := dk_182 0 46 (dk_at dksX13_item_3 14 rfl rfl)
theorem dX13_item_87 : decode cX13_item 87 = .ok (.istore_n 1, 1) := dk_60 (dk_at dksX13_item_3 17 rfl rfl)
theorem dX13_item_88 : decode cX13_item 88 = .ok (.aload_n 0, 1) := dk_42 (dk_at dksX13_item_3 18 rfl rfl)
theorem dX13_item_89 : decode cX13_item 89 = .ok (.iconst 0, 1) := dk_3 (dk_at dksX13_item_3 19 rfl rfl)
theorem dX13_item_90 : decode cX13_item 90 = .ok (.invokevirtual 80, 3) := dk_182 0 80 (dk_at dksX13_item_3 20 rfl rfl)
theorem dX13_item_93 : decode cX13_item 93 = .ok (.areturn, 1) := dk_176 (dk_at dksX13_item_3 23 rfl rfl)
def dkwX13_isTaken_1 : List UInt8 := [181, 0, 13, 28, 172]
abbrev dktX13_isTaken_1 : List UInt8 := dkwX13_isTaken_1 ++ []
def dkwX13_isTaken_0 : List UInt8 := [42, 27, 27, 182, 0, 37, 61, 42, 89, 180, 0, 13, 28, 153, 0, 7, 4, 167, 0, 4, 3, 96]
abbrev dktX13_isTaken_0 : List UInt8 := dkwX13_isTaken_0 ++ dktX13_isTaken_1
theorem dksX13_isTaken_0 : cX13_isTaken.data.toList.drop 0 = dktX13_isTaken_0 := by decide +kernel
theorem dksX13_isTaken_1 : cX13_isTaken.data.toList.drop 22 = dktX13_isTaken_1 := dk_seg dksX13_isTaken_0 22 rfl rfl
theorem dX13_isTaken_0 : decode cX13_isTaken 0 = .ok (.aload_n 0, 1) := dk_42 (dk_at dksX13_isTaken_0 0 rfl rfl)
theorem dX13_isTaken_1 : decode cX13_isTaken 1 = .ok (.iload_n 1, 1) := dk_27 (dk_at dksX13_isTaken_0 1 rfl rfl)
theorem dX13_isTaken_2 : decode cX13_isTaken 2 = .ok (.iload_n 1, 1) := dk_27 (dk_at dksX13_isTaken_0 2 rfl rfl)
theorem dX13_isTaken_3 : decode cX13_isTaken 3 = .ok (.invokevirtual 37, 3) := dk_182 0 37 (dk_at dksX13_isTaken_0 3 rfl rfl)
theorem dX13_isTaken_6 : decode cX13_isTaken 6 = .ok (.istore_n 2, 1) := dk_61 (dk_at dksX13_isTaken_0 6 rfl rfl)
theorem dX13_isTaken_7 : decode cX13_isTaken 7 = .ok (.aload_n 0, 1) := dk_42 (dk_at dksX13_isTaken_0 7 rfl rfl)
theorem dX13_isTaken_8 : decode cX13_isTaken 8 = .ok (.dup, 1) := dk_89 (dk_at dksX13_isTaken_0 8 rfl rfl)
theorem dX13_isTaken_9 : decode cX13_isTaken 9 = .ok (.getfield 13, 3) := dk_180 0 13 (dk_at dksX13_isTaken_0 9 rfl rfl)
theorem dX13_isTaken_12 : decode cX13_isTaken 12 = .ok (.iload_n 2, 1) := dk_28 (dk_at dksX13_isTaken_0 12 rfl rfl)
theorem dX13_isTaken_13 : decode cX13_isTaken 13 = .ok (.ifCond .eq 7, 3) := dk_153 0 7 (dk_at dksX13_isTaken_0 13 rfl rfl)
theorem dX13_isTaken_16 : decode cX13_isTaken 16 = .ok (.iconst 1, 1) := dk_4 (dk_at dksX13_isTaken_0 16 rfl rfl)
theorem dX13_isTaken_17 : decode cX13_isTaken 17 = .ok (.goto 4, 3) := dk_167 0 4 (dk_at dksX13_isTaken_0 17 rfl rfl)
theorem dX13_isTaken_20 : decode cX13_isTaken 20 = .ok (.iconst 0, 1) := dk_3 (dk_at dksX13_isTaken_0 20 rfl rfl)
theorem dX13_isTaken_21 : decode cX13_isTaken 21 = .ok (.iadd, 1) := dk_96 (dk_at dksX13_isTaken_0 21 rfl rfl)
theorem dX13_isTaken_22 : decode cX13_isTaken 22 = .ok (.putfield 13, 3) := dk_181 0 13 (dk_at dksX13_isTaken_1 0 rfl rfl)
theorem dX13_isTaken_25 : decode cX13_isTaken 25 = .ok (.iload_n 2, 1) := dk_28 (dk_at dksX13_isTaken_1 3 rfl rfl)
theorem dX13_isTaken_26 : decode cX13_isTaken 26 = .ok (.ireturn, 1) := dk_172 (dk_at dksX13_isTaken_1 4 rfl rfl)
def dkwX13_isAt_1 : List UInt8 := [42, 180, 0, 13, 182, 0, 29, 27, 28, 184, 0, 33, 153, 0, 7, 4, 167, 0, 4, 3, 172]
abbrev dktX13_isAt_1 : List UInt8 := dkwX13_isAt_1 ++ []
def dkwX13_isAt_0 : List UInt8 := [42, 180, 0, 13, 42, 180, 0, 1, 180, 0, 17, 182, 0, 23, 162, 0, 29, 42, 180, 0, 1, 180, 0, 17]
abbrev dktX13_isAt_0 : List UInt8 := dkwX13_isAt_0 ++ dktX13_isAt_1
theorem dksX13_isAt_0 : cX13_isAt.data.toList.drop 0 = dktX13_isAt_0 := by decide +kernel
theorem dksX13_isAt_1 : cX13_isAt.data.toList.drop 24 = dktX13_isAt_1 := dk_seg dksX13_isAt_0 24 rfl rfl
theorem dX13_isAt_0 : decode cX13_isAt 0 = .ok (.aload_n 0, 1) := dk_42 (dk_at dksX13_isAt_0 0 rfl rfl)
theorem dX13_isAt_1 : decode cX13_isAt 1 = .ok (.getfield 13, 3) := dk_180 0 13 (dk_at dksX13_isAt_0 1 rfl rfl)
theorem dX13_isAt_4 : decode cX13_isAt 4 = .ok (.aload_n 0, 1) := dk_42 (dk_at dksX13_isAt_0 4 rfl rfl)
theorem dX13_isAt_5 : decode cX13_isAt 5 = .ok (.getfield 1, 3) := dk_180 0 1 (dk_at dksX13_isAt_0 5 rfl rfl)
theorem dX13_isAt_8 : decode cX13_isAt 8 = .ok (.getfield 17, 3) := dk_180 0 17 (dk_at dksX13_isAt_0 8 rfl rfl)
theorem dX13_isAt_11 : decode cX13_isAt 11 = .ok (.invokevirtual 23, 3) := dk_182 0 23 (dk_at dksX13_isAt_0 11 rfl rfl)
theorem dX13_isAt_14 : decode cX13_isAt 14 = .ok (.if_icmp .ge 29, 3) := dk_162 0 29 (dk_at dksX13_isAt_0 14 rfl rfl)
theorem dX13_isAt_17 : decode cX13_isAt 17 = .ok (.aload_n 0, 1) := dk_42 (dk_at dksX13_isAt_0 17 rfl rfl)
theorem dX13_isAt_18 : decode cX13_isAt 18 = .ok (.getfield 1, 3) := dk_180 0 1 (dk_at dksX13_isAt_0 18 rfl rfl)
theorem dX13_isAt_21 : decode cX13_isAt 21 = .ok (.getfield 17, 3) := dk_180 0 17 (dk_at dksX13_isAt_0 21 rfl rfl)
theorem dX13_isAt_24 : decode cX13_isAt 24 = .ok (.aload_n 0, 1) := dk_42 (dk_at dksX13_isAt_1 0 rfl rfl)
theorem dX13_isAt_25 : decode cX13_isAt 25 = .ok (.getfield 13, 3) := dk_180 0 13 (dk_at dksX13_isAt_1 1 rfl rfl)
theorem dX13_isAt_28 : decode cX13_isAt 28 = .ok (.invokevirtual 29, 3) := dk_182 0 29 (dk_at dksX13_isAt_1 4 rfl rfl)
theorem dX13_isAt_31 : decode cX13_isAt 31 = .ok (.iload_n 1, 1) := dk_27 (dk_at dksX13_isAt_1 7 rfl rfl)
theorem dX13_isAt_32 : decode cX13_isAt 32 = .ok (.iload_n 2, 1) := dk_28 (dk_at dksX13_isAt_1 8 rfl rfl)
theorem dX13_isAt_33 : decode cX13_isAt 33 = .ok (.invokestatic 33, 3) := dk_184 0 33 (dk_at dksX13_isAt_1 9 rfl rfl)
theorem dX13_isAt_36 : decode cX13_isAt 36 = .ok (.ifCond .eq 7, 3) := dk_153 0 7 (dk_at dksX13_isAt_1 12 rfl rfl)
theorem dX13_isAt_39 : decode cX13_isAt 39 = .ok (.iconst 1, 1) := dk_4 (dk_at dksX13_isAt_1 15 rfl rfl)
theorem dX13_isAt_40 : decode cX13_isAt 40 = .ok (.goto 4, 3) := dk_167 0 4 (dk_at dksX13_isAt_1 16 rfl rfl)
theorem dX13_isAt_43 : decode cX13_isAt 43 = .ok (.iconst 0, 1) := dk_3 (dk_at dksX13_isAt_1 19 rfl rfl)
theorem dX13_isAt_44 : decode cX13_isAt 44 = .ok (.ireturn, 1) := dk_172 (dk_at dksX13_isAt_1 20 rfl rfl)
def dkwX13_number_1 : List UInt8 := [96, 167, 0, 4, 27, 172]
abbrev dktX13_number_1 : List UInt8 := dkwX13_number_1 ++ []
def dkwX13_number_0 : List UInt8 := [42, 182, 0, 50, 60, 42, 16, 48, 16, 57, 182, 0, 37, 153, 0, 15, 16, 10, 27, 104, 42, 182, 0, 50]
abbrev dktX13_number_0 : List UInt8 := dkwX13_number_0 ++ dktX13_number_1
theorem dksX13_number_0 : cX13_number.data.toList.drop 0 = dktX13_number_0 := by decide +kernel
theorem dksX13_number_1 : cX13_number.data.toList.drop 24 = dktX13_number_1 := dk_seg dksX13_number_0 24 rfl rfl
theorem dX13_number_0 : decode cX13_number 0 = .ok (.aload_n 0, 1) := dk_42 (dk_at dksX13_number_0 0 rfl rfl)
theorem dX13_number_1 : decode cX13_number 1 = .ok (.invokevirtual 50, 3) := dk_182 0 50 (dk_at dksX13_number_0 1 rfl rfl)
theorem dX13_number_4 : decode cX13_number 4 = .ok (.istore_n 1, 1) := dk_60 (dk_at dksX13_number_0 4 rfl rfl)
theorem dX13_number_5 : decode cX13_number 5 = .ok (.aload_n 0, 1) := dk_42 (dk_at dksX13_number_0 5 rfl rfl)
theorem dX13_number_6 : decode cX13_number 6 = .ok (.bipush 48, 2) := dk_16 48 (dk_at dksX13_number_0 6 rfl rfl)
theorem dX13_number_8 : decode cX13_number 8 = .ok (.bipush 57, 2) := dk_16 57 (dk_at dksX13_number_0 8 rfl rfl)
theorem dX13_number_10 : decode cX13_number 10 = .ok (.invokevirtual 37, 3) := dk_182 0 37 (dk_at dksX13_number_0 10 rfl rfl)
theorem dX13_number_13 : decode cX13_number 13 = .ok (.ifCond .eq 15, 3) := dk_153 0 15 (dk_at dksX13_number_0 13 rfl rfl)
theorem dX13_number_16 : decode cX13_number 16 = .ok (.bipush 10, 2) := dk_16 10 (dk_at dksX13_number_0 16 rfl rfl)
theorem dX13_number_18 : decode cX13_number 18 = .ok (.iload_n 1, 1) := dk_27 (dk_at dksX13_number_0 18 rfl rfl)
theorem dX13_number_19 : decode cX13_number 19 = .ok (.imul, 1) := dk_104 (dk_at dksX13_number_0 19 rfl rfl)
theorem dX13_number_20 : decode cX13_number 20 = .ok (.aload_n 0, 1) := dk_42 (dk_at dksX13_number_0 20 rfl rfl)
theorem dX13_number_21 : decode cX13_number 21 = .ok (.invokevirtual 50, 3) := dk_182 0 50 (dk_at dksX13_number_0 21 rfl rfl)
theorem dX13_number_24 : decode cX13_number 24 = .ok (.iadd, 1) := dk_96 (dk_at dksX13_number_1 0 rfl rfl)
theorem dX13_number_25 : decode cX13_number 25 = .ok (.goto 4, 3) := dk_167 0 4 (dk_at dksX13_number_1 1 rfl rfl)
theorem dX13_number_28 : decode cX13_number 28 = .ok (.iload_n 1, 1) := dk_27 (dk_at dksX13_number_1 4 rfl rfl)
theorem dX13_number_29 : decode cX13_number 29 = .ok (.ireturn, 1) := dk_172 (dk_at dksX13_number_1 5 rfl rfl)
def dkwX13_digit_0 : List UInt8 := [42, 16, 48, 16, 57, 182, 0, 46, 16, 48, 100, 172]
abbrev dktX13_digit_0 : List UInt8 := dkwX13_digit_0 ++ []
theorem dksX13_digit_0 : cX13_digit.data.toList.drop 0 = dktX13_digit_0 := by decide +kernel
theorem dX13_digit_0 : decode cX13_digit 0 = .ok (.aload_n 0, 1) := dk_42 (dk_at dksX13_digit_0 0 rfl rfl)
theorem dX13_digit_1 : decode cX13_digit 1 = .ok (.bipush 48, 2) := dk_16 48 (dk_at dksX13_digit_0 1 rfl rfl)
theorem dX13_digit_3 : decode cX13_digit 3 = .ok (.bipush 57, 2) := dk_16 57 (dk_at dksX13_digit_0 3 rfl rfl)
theorem dX13_digit_5 : decode cX13_digit 5 = .ok (.invokevirtual 46, 3) := dk_182 0 46 (dk_at dksX13_digit_0 5 rfl rfl)
theorem dX13_digit_8 : decode cX13_digit 8 = .ok (.bipush 48, 2) := dk_16 48 (dk_at dksX13_digit_0 8 rfl rfl)
theorem dX13_digit_10 : decode cX13_digit 10 = .ok (.isub, 1) := dk_100 (dk_at dksX13_digit_0 10 rfl rfl)
theorem dX13_digit_11 : decode cX13_digit 11 = .ok (.ireturn, 1) := dk_172 (dk_at dksX13_digit_0 11 rfl rfl)
def dkwX13_take_2 : List UInt8 := [172]
abbrev dktX13_take_2 : List UInt8 := dkwX13_take_2 ++ []
def dkwX13_take_1 : List UInt8 := [180, 0, 13, 4, 96, 181, 0, 13, 42, 180, 0, 1, 180, 0, 17, 42, 180, 0, 13, 4, 100, 182, 0, 29]
abbrev dktX13_take_1 : List UInt8 := dkwX13_take_1 ++ dktX13_take_2
def dkwX13_take_0 : List UInt8 := [42, 27, 28, 182, 0, 37, 154, 0, 15, 187, 0, 41, 89, 42, 180, 0, 13, 183, 0, 43, 191, 42, 89]
abbrev dktX13_take_0 : List UInt8 := dkwX13_take_0 ++ dktX13_take_1
theorem dksX13_take_0 : cX13_take.data.toList.drop 0 = dktX13_take_0 := by decide +kernel
theorem dksX13_take_1 : cX13_take.data.toList.drop 23 = dktX13_take_1 := dk_seg dksX13_take_0 23 rfl rfl
theorem dksX13_take_2 : cX13_take.data.toList.drop 47 = dktX13_take_2 := dk_seg dksX13_take_1 24 rfl rfl
theorem dX13_take_0 : decode cX13_take 0 = .ok (.aload_n 0, 1) := dk_42 (dk_at dksX13_take_0 0 rfl rfl)
theorem dX13_take_1 : decode cX13_take 1 = .ok (.iload_n 1, 1) := dk_27 (dk_at dksX13_take_0 1 rfl rfl)
theorem dX13_take_2 : decode cX13_take 2 = .ok (.iload_n 2, 1) := dk_28 (dk_at dksX13_take_0 2 rfl rfl)
theorem dX13_take_3 : decode cX13_take 3 = .ok (.invokevirtual 37, 3) := dk_182 0 37 (dk_at dksX13_take_0 3 rfl rfl)
theorem dX13_take_6 : decode cX13_take 6 = .ok (.ifCond .ne 15, 3) := dk_154 0 15 (dk_at dksX13_take_0 6 rfl rfl)
theorem dX13_take_9 : decode cX13_take 9 = .ok (.new 41, 3) := dk_187 0 41 (dk_at dksX13_take_0 9 rfl rfl)
theorem dX13_take_12 : decode cX13_take 12 = .ok (.dup, 1) := dk_89 (dk_at dksX13_take_0 12 rfl rfl)
theorem dX13_take_13 : decode cX13_take 13 = .ok (.aload_n 0, 1) := dk_42 (dk_at dksX13_take_0 13 rfl rfl)
theorem dX13_take_14 : decode cX13_take 14 = .ok (.getfield 13, 3) := dk_180 0 13 (dk_at dksX13_take_0 14 rfl rfl)
theorem dX13_take_17 : decode cX13_take 17 = .ok (.invokespecial 43, 3) := dk_183 0 43 (dk_at dksX13_take_0 17 rfl rfl)
theorem dX13_take_20 : decode cX13_take 20 = .ok (.athrow, 1) := dk_191 (dk_at dksX13_take_0 20 rfl rfl)
theorem dX13_take_21 : decode cX13_take 21 = .ok (.aload_n 0, 1) := dk_42 (dk_at dksX13_take_0 21 rfl rfl)
theorem dX13_take_22 : decode cX13_take 22 = .ok (.dup, 1) := dk_89 (dk_at dksX13_take_0 22 rfl rfl)
theorem dX13_take_23 : decode cX13_take 23 = .ok (.getfield 13, 3) := dk_180 0 13 (dk_at dksX13_take_1 0 rfl rfl)
theorem dX13_take_26 : decode cX13_take 26 = .ok (.iconst 1, 1) := dk_4 (dk_at dksX13_take_1 3 rfl rfl)
theorem dX13_take_27 : decode cX13_take 27 = .ok (.iadd, 1) := dk_96 (dk_at dksX13_take_1 4 rfl rfl)
theorem dX13_take_28 : decode cX13_take 28 = .ok (.putfield 13, 3) := dk_181 0 13 (dk_at dksX13_take_1 5 rfl rfl)
theorem dX13_take_31 : decode cX13_take 31 = .ok (.aload_n 0, 1) := dk_42 (dk_at dksX13_take_1 8 rfl rfl)
theorem dX13_take_32 : decode cX13_take 32 = .ok (.getfield 1, 3) := dk_180 0 1 (dk_at dksX13_take_1 9 rfl rfl)
theorem dX13_take_35 : decode cX13_take 35 = .ok (.getfield 17, 3) := dk_180 0 17 (dk_at dksX13_take_1 12 rfl rfl)
theorem dX13_take_38 : decode cX13_take 38 = .ok (.aload_n 0, 1) := dk_42 (dk_at dksX13_take_1 15 rfl rfl)
theorem dX13_take_39 : decode cX13_take 39 = .ok (.getfield 13, 3) := dk_180 0 13 (dk_at dksX13_take_1 16 rfl rfl)
theorem dX13_take_42 : decode cX13_take 42 = .ok (.iconst 1, 1) := dk_4 (dk_at dksX13_take_1 19 rfl rfl)
theorem dX13_take_43 : decode cX13_take 43 = .ok (.isub, 1) := dk_100 (dk_at dksX13_take_1 20 rfl rfl)
theorem dX13_take_44 : decode cX13_take 44 = .ok (.invokevirtual 29, 3) := dk_182 0 29 (dk_at dksX13_take_1 21 rfl rfl)
theorem dX13_take_47 : decode cX13_take 47 = .ok (.ireturn, 1) := dk_172 (dk_at dksX13_take_2 0 rfl rfl)
def dkwX13_lambda_item_3_0 : List UInt8 := [43, 26, 184, 0, 101, 182, 0, 105, 172]
abbrev dktX13_lambda_item_3_0 : List UInt8 := dkwX13_lambda_item_3_0 ++ []
theorem dksX13_lambda_item_3_0 : cX13_lambda_item_3.data.toList.drop 0 = dktX13_lambda_item_3_0 := by decide +kernel
theorem dX13_lambda_item_3_0 : decode cX13_lambda_item_3 0 = .ok (.aload_n 1, 1) := dk_43 (dk_at dksX13_lambda_item_3_0 0 rfl rfl)
theorem dX13_lambda_item_3_1 : decode cX13_lambda_item_3 1 = .ok (.iload_n 0, 1) := dk_26 (dk_at dksX13_lambda_item_3_0 1 rfl rfl)
theorem dX13_lambda_item_3_2 : decode cX13_lambda_item_3 2 = .ok (.invokestatic 101, 3) := dk_184 0 101 (dk_at dksX13_lambda_item_3_0 2 rfl rfl)
theorem dX13_lambda_item_3_5 : decode cX13_lambda_item_3 5 = .ok (.invokevirtual 105, 3) := dk_182 0 105 (dk_at dksX13_lambda_item_3_0 5 rfl rfl)
theorem dX13_lambda_item_3_8 : decode cX13_lambda_item_3 8 = .ok (.ireturn, 1) := dk_172 (dk_at dksX13_lambda_item_3_0 8 rfl rfl)
theorem dX13_lambda_item_4_0 : decode cX13_lambda_item_4 0 = .ok (.aload_n 0, 1) := by decide +kernel
theorem dX13_lambda_item_4_1 : decode cX13_lambda_item_4 1 = .ok (.invokevirtual 96, 3) := by decide +kernel
theorem dX13_lambda_item_4_4 : decode cX13_lambda_item_4 4 = .ok (.ireturn, 1) := by decide +kernel
def dkwX13_boards_1 : List UInt8 := [186, 0, 57, 0, 0, 176]
abbrev dktX13_boards_1 : List UInt8 := dkwX13_boards_1 ++ []
def dkwX13_boards_0 : List UInt8 := [42, 182, 0, 50, 60, 42, 16, 61, 16, 61, 182, 0, 46, 61, 42, 182, 0, 50, 62, 27, 29]
abbrev dktX13_boards_0 : List UInt8 := dkwX13_boards_0 ++ dktX13_boards_1
theorem dksX13_boards_0 : cX13_boards.data.toList.drop 0 = dktX13_boards_0 := by decide +kernel
theorem dksX13_boards_1 : cX13_boards.data.toList.drop 21 = dktX13_boards_1 := dk_seg dksX13_boards_0 21 rfl rfl
theorem dX13_boards_0 : decode cX13_boards 0 = .ok (.aload_n 0, 1) := dk_42 (dk_at dksX13_boards_0 0 rfl rfl)
theorem dX13_boards_1 : decode cX13_boards 1 = .ok (.invokevirtual 50, 3) := dk_182 0 50 (dk_at dksX13_boards_0 1 rfl rfl)
theorem dX13_boards_4 : decode cX13_boards 4 = .ok (.istore_n 1, 1) := dk_60 (dk_at dksX13_boards_0 4 rfl rfl)
theorem dX13_boards_5 : decode cX13_boards 5 = .ok (.aload_n 0, 1) := dk_42 (dk_at dksX13_boards_0 5 rfl rfl)
theorem dX13_boards_6 : decode cX13_boards 6 = .ok (.bipush 61, 2) := dk_16 61 (dk_at dksX13_boards_0 6 rfl rfl)
theorem dX13_boards_8 : decode cX13_boards 8 = .ok (.bipush 61, 2) := dk_16 61 (dk_at dksX13_boards_0 8 rfl rfl)
theorem dX13_boards_10 : decode cX13_boards 10 = .ok (.invokevirtual 46, 3) := dk_182 0 46 (dk_at dksX13_boards_0 10 rfl rfl)
theorem dX13_boards_13 : decode cX13_boards 13 = .ok (.istore_n 2, 1) := dk_61 (dk_at dksX13_boards_0 13 rfl rfl)
theorem dX13_boards_14 : decode cX13_boards 14 = .ok (.aload_n 0, 1) := dk_42 (dk_at dksX13_boards_0 14 rfl rfl)
theorem dX13_boards_15 : decode cX13_boards 15 = .ok (.invokevirtual 50, 3) := dk_182 0 50 (dk_at dksX13_boards_0 15 rfl rfl)
theorem dX13_boards_18 : decode cX13_boards 18 = .ok (.istore_n 3, 1) := dk_62 (dk_at dksX13_boards_0 18 rfl rfl)
theorem dX13_boards_19 : decode cX13_boards 19 = .ok (.iload_n 1, 1) := dk_27 (dk_at dksX13_boards_0 19 rfl rfl)
theorem dX13_boards_20 : decode cX13_boards 20 = .ok (.iload_n 3, 1) := dk_29 (dk_at dksX13_boards_0 20 rfl rfl)
theorem dX13_boards_21 : decode cX13_boards 21 = .ok (.invokedynamic 57, 5) := by decide +kernel
theorem dX13_boards_26 : decode cX13_boards 26 = .ok (.areturn, 1) := dk_176 (dk_at dksX13_boards_1 5 rfl rfl)
def dkwX13_lambda_boards_1_0 : List UInt8 := [44, 44, 26, 182, 0, 108, 27, 184, 0, 118, 182, 0, 121, 172]
abbrev dktX13_lambda_boards_1_0 : List UInt8 := dkwX13_lambda_boards_1_0 ++ []
theorem dksX13_lambda_boards_1_0 : cX13_lambda_boards_1.data.toList.drop 0 = dktX13_lambda_boards_1_0 := by decide +kernel
theorem dX13_lambda_boards_1_0 : decode cX13_lambda_boards_1 0 = .ok (.aload_n 2, 1) := dk_44 (dk_at dksX13_lambda_boards_1_0 0 rfl rfl)
theorem dX13_lambda_boards_1_1 : decode cX13_lambda_boards_1 1 = .ok (.aload_n 2, 1) := dk_44 (dk_at dksX13_lambda_boards_1_0 1 rfl rfl)
theorem dX13_lambda_boards_1_2 : decode cX13_lambda_boards_1 2 = .ok (.iload_n 0, 1) := dk_26 (dk_at dksX13_lambda_boards_1_0 2 rfl rfl)
theorem dX13_lambda_boards_1_3 : decode cX13_lambda_boards_1 3 = .ok (.invokevirtual 108, 3) := dk_182 0 108 (dk_at dksX13_lambda_boards_1_0 3 rfl rfl)
theorem dX13_lambda_boards_1_6 : decode cX13_lambda_boards_1 6 = .ok (.iload_n 1, 1) := dk_27 (dk_at dksX13_lambda_boards_1_0 6 rfl rfl)
theorem dX13_lambda_boards_1_7 : decode cX13_lambda_boards_1 7 = .ok (.invokestatic 118, 3) := dk_184 0 118 (dk_at dksX13_lambda_boards_1_0 7 rfl rfl)
theorem dX13_lambda_boards_1_10 : decode cX13_lambda_boards_1 10 = .ok (.invokevirtual 121, 3) := dk_182 0 121 (dk_at dksX13_lambda_boards_1_0 10 rfl rfl)
theorem dX13_lambda_boards_1_13 : decode cX13_lambda_boards_1 13 = .ok (.ireturn, 1) := dk_172 (dk_at dksX13_lambda_boards_1_0 13 rfl rfl)
def dkwX13_eggs_1 : List UInt8 := [186, 0, 63, 0, 0, 176]
abbrev dktX13_eggs_1 : List UInt8 := dkwX13_eggs_1 ++ []
def dkwX13_eggs_0 : List UInt8 := [42, 182, 0, 50, 60, 42, 16, 58, 16, 58, 182, 0, 46, 61, 42, 182, 0, 60, 62, 27, 29]
abbrev dktX13_eggs_0 : List UInt8 := dkwX13_eggs_0 ++ dktX13_eggs_1
theorem dksX13_eggs_0 : cX13_eggs.data.toList.drop 0 = dktX13_eggs_0 := by decide +kernel
theorem dksX13_eggs_1 : cX13_eggs.data.toList.drop 21 = dktX13_eggs_1 := dk_seg dksX13_eggs_0 21 rfl rfl
theorem dX13_eggs_0 : decode cX13_eggs 0 = .ok (.aload_n 0, 1) := dk_42 (dk_at dksX13_eggs_0 0 rfl rfl)
theorem dX13_eggs_1 : decode cX13_eggs 1 = .ok (.invokevirtual 50, 3) := dk_182 0 50 (dk_at dksX13_eggs_0 1 rfl rfl)
theorem dX13_eggs_4 : decode cX13_eggs 4 = .ok (.istore_n 1, 1) := dk_60 (dk_at dksX13_eggs_0 4 rfl rfl)
theorem dX13_eggs_5 : decode cX13_eggs 5 = .ok (.aload_n 0, 1) := dk_42 (dk_at dksX13_eggs_0 5 rfl rfl)
theorem dX13_eggs_6 : decode cX13_eggs 6 = .ok (.bipush 58, 2) := dk_16 58 (dk_at dksX13_eggs_0 6 rfl rfl)
theorem dX13_eggs_8 : decode cX13_eggs 8 = .ok (.bipush 58, 2) := dk_16 58 (dk_at dksX13_eggs_0 8 rfl rfl)
theorem dX13_eggs_10 : decode cX13_eggs 10 = .ok (.invokevirtual 46, 3) := dk_182 0 46 (dk_at dksX13_eggs_0 10 rfl rfl)
theorem dX13_eggs_13 : decode cX13_eggs 13 = .ok (.istore_n 2, 1) := dk_61 (dk_at dksX13_eggs_0 13 rfl rfl)
theorem dX13_eggs_14 : decode cX13_eggs 14 = .ok (.aload_n 0, 1) := dk_42 (dk_at dksX13_eggs_0 14 rfl rfl)
theorem dX13_eggs_15 : decode cX13_eggs 15 = .ok (.invokevirtual 60, 3) := dk_182 0 60 (dk_at dksX13_eggs_0 15 rfl rfl)
theorem dX13_eggs_18 : decode cX13_eggs 18 = .ok (.istore_n 3, 1) := dk_62 (dk_at dksX13_eggs_0 18 rfl rfl)
theorem dX13_eggs_19 : decode cX13_eggs 19 = .ok (.iload_n 1, 1) := dk_27 (dk_at dksX13_eggs_0 19 rfl rfl)
theorem dX13_eggs_20 : decode cX13_eggs 20 = .ok (.iload_n 3, 1) := dk_29 (dk_at dksX13_eggs_0 20 rfl rfl)
theorem dX13_eggs_21 : decode cX13_eggs 21 = .ok (.invokedynamic 63, 5) := by decide +kernel
theorem dX13_eggs_26 : decode cX13_eggs 26 = .ok (.areturn, 1) := dk_176 (dk_at dksX13_eggs_1 5 rfl rfl)
def dkwX13_lambda_eggs_2_0 : List UInt8 := [44, 44, 26, 182, 0, 108, 27, 184, 0, 111, 182, 0, 114, 172]
abbrev dktX13_lambda_eggs_2_0 : List UInt8 := dkwX13_lambda_eggs_2_0 ++ []
theorem dksX13_lambda_eggs_2_0 : cX13_lambda_eggs_2.data.toList.drop 0 = dktX13_lambda_eggs_2_0 := by decide +kernel
theorem dX13_lambda_eggs_2_0 : decode cX13_lambda_eggs_2 0 = .ok (.aload_n 2, 1) := dk_44 (dk_at dksX13_lambda_eggs_2_0 0 rfl rfl)
theorem dX13_lambda_eggs_2_1 : decode cX13_lambda_eggs_2 1 = .ok (.aload_n 2, 1) := dk_44 (dk_at dksX13_lambda_eggs_2_0 1 rfl rfl)
theorem dX13_lambda_eggs_2_2 : decode cX13_lambda_eggs_2 2 = .ok (.iload_n 0, 1) := dk_26 (dk_at dksX13_lambda_eggs_2_0 2 rfl rfl)
theorem dX13_lambda_eggs_2_3 : decode cX13_lambda_eggs_2 3 = .ok (.invokevirtual 108, 3) := dk_182 0 108 (dk_at dksX13_lambda_eggs_2_0 3 rfl rfl)
theorem dX13_lambda_eggs_2_6 : decode cX13_lambda_eggs_2 6 = .ok (.iload_n 1, 1) := dk_27 (dk_at dksX13_lambda_eggs_2_0 6 rfl rfl)
theorem dX13_lambda_eggs_2_7 : decode cX13_lambda_eggs_2 7 = .ok (.invokestatic 111, 3) := dk_184 0 111 (dk_at dksX13_lambda_eggs_2_0 7 rfl rfl)
theorem dX13_lambda_eggs_2_10 : decode cX13_lambda_eggs_2 10 = .ok (.invokevirtual 114, 3) := dk_182 0 114 (dk_at dksX13_lambda_eggs_2_0 10 rfl rfl)
theorem dX13_lambda_eggs_2_13 : decode cX13_lambda_eggs_2 13 = .ok (.ireturn, 1) := dk_172 (dk_at dksX13_lambda_eggs_2_0 13 rfl rfl)
def dkwX13_latch_2 : List UInt8 := [176]
abbrev dktX13_latch_2 : List UInt8 := dkwX13_latch_2 ++ []
def dkwX13_latch_1 : List UInt8 := [182, 0, 46, 167, 0, 11, 42, 16, 109, 16, 109, 182, 0, 46, 54, 4, 28, 29, 27, 186, 0, 53, 0, 0]
abbrev dktX13_latch_1 : List UInt8 := dkwX13_latch_1 ++ dktX13_latch_2
def dkwX13_latch_0 : List UInt8 := [42, 182, 0, 50, 61, 42, 16, 102, 16, 102, 182, 0, 37, 62, 29, 153, 0, 14, 42, 16, 102, 16, 102]
abbrev dktX13_latch_0 : List UInt8 := dkwX13_latch_0 ++ dktX13_latch_1
theorem dksX13_latch_0 : cX13_latch.data.toList.drop 0 = dktX13_latch_0 := by decide +kernel
theorem dksX13_latch_1 : cX13_latch.data.toList.drop 23 = dktX13_latch_1 := dk_seg dksX13_latch_0 23 rfl rfl
theorem dksX13_latch_2 : cX13_latch.data.toList.drop 47 = dktX13_latch_2 := dk_seg dksX13_latch_1 24 rfl rfl
theorem dX13_latch_0 : decode cX13_latch 0 = .ok (.aload_n 0, 1) := dk_42 (dk_at dksX13_latch_0 0 rfl rfl)
theorem dX13_latch_1 : decode cX13_latch 1 = .ok (.invokevirtual 50, 3) := dk_182 0 50 (dk_at dksX13_latch_0 1 rfl rfl)
theorem dX13_latch_4 : decode cX13_latch 4 = .ok (.istore_n 2, 1) := dk_61 (dk_at dksX13_latch_0 4 rfl rfl)
theorem dX13_latch_5 : decode cX13_latch 5 = .ok (.aload_n 0, 1) := dk_42 (dk_at dksX13_latch_0 5 rfl rfl)
theorem dX13_latch_6 : decode cX13_latch 6 = .ok (.bipush 102, 2) := dk_16 102 (dk_at dksX13_latch_0 6 rfl rfl)
theorem dX13_latch_8 : decode cX13_latch 8 = .ok (.bipush 102, 2) := dk_16 102 (dk_at dksX13_latch_0 8 rfl rfl)
theorem dX13_latch_10 : decode cX13_latch 10 = .ok (.invokevirtual 37, 3) := dk_182 0 37 (dk_at dksX13_latch_0 10 rfl rfl)
theorem dX13_latch_13 : decode cX13_latch 13 = .ok (.istore_n 3, 1) := dk_62 (dk_at dksX13_latch_0 13 rfl rfl)
theorem dX13_latch_14 : decode cX13_latch 14 = .ok (.iload_n 3, 1) := dk_29 (dk_at dksX13_latch_0 14 rfl rfl)
theorem dX13_latch_15 : decode cX13_latch 15 = .ok (.ifCond .eq 14, 3) := dk_153 0 14 (dk_at dksX13_latch_0 15 rfl rfl)
theorem dX13_latch_18 : decode cX13_latch 18 = .ok (.aload_n 0, 1) := dk_42 (dk_at dksX13_latch_0 18 rfl rfl)
theorem dX13_latch_19 : decode cX13_latch 19 = .ok (.bipush 102, 2) := dk_16 102 (dk_at dksX13_latch_0 19 rfl rfl)
theorem dX13_latch_21 : decode cX13_latch 21 = .ok (.bipush 102, 2) := dk_16 102 (dk_at dksX13_latch_0 21 rfl rfl)
theorem dX13_latch_23 : decode cX13_latch 23 = .ok (.invokevirtual 46, 3) := dk_182 0 46 (dk_at dksX13_latch_1 0 rfl rfl)
theorem dX13_latch_26 : decode cX13_latch 26 = .ok (.goto 11, 3) := dk_167 0 11 (dk_at dksX13_latch_1 3 rfl rfl)
theorem dX13_latch_29 : decode cX13_latch 29 = .ok (.aload_n 0, 1) := dk_42 (dk_at dksX13_latch_1 6 rfl rfl)
theorem dX13_latch_30 : decode cX13_latch 30 = .ok (.bipush 109, 2) := dk_16 109 (dk_at dksX13_latch_1 7 rfl rfl)
theorem dX13_latch_32 : decode cX13_latch 32 = .ok (.bipush 109, 2) := dk_16 109 (dk_at dksX13_latch_1 9 rfl rfl)
theorem dX13_latch_34 : decode cX13_latch 34 = .ok (.invokevirtual 46, 3) := dk_182 0 46 (dk_at dksX13_latch_1 11 rfl rfl)
theorem dX13_latch_37 : decode cX13_latch 37 = .ok (.istore 4, 2) := dk_54 4 (dk_at dksX13_latch_1 14 rfl rfl)
theorem dX13_latch_39 : decode cX13_latch 39 = .ok (.iload_n 2, 1) := dk_28 (dk_at dksX13_latch_1 16 rfl rfl)
theorem dX13_latch_40 : decode cX13_latch 40 = .ok (.iload_n 3, 1) := dk_29 (dk_at dksX13_latch_1 17 rfl rfl)
theorem dX13_latch_41 : decode cX13_latch 41 = .ok (.iload_n 1, 1) := dk_27 (dk_at dksX13_latch_1 18 rfl rfl)
theorem dX13_latch_42 : decode cX13_latch 42 = .ok (.invokedynamic 53, 5) := by decide +kernel
theorem dX13_latch_47 : decode cX13_latch 47 = .ok (.areturn, 1) := dk_176 (dk_at dksX13_latch_2 0 rfl rfl)
def dkwX13_lambda_latch_0_0 : List UInt8 := [45, 45, 26, 182, 0, 108, 27, 28, 182, 0, 124, 153, 0, 7, 4, 167, 0, 4, 3, 172]
abbrev dktX13_lambda_latch_0_0 : List UInt8 := dkwX13_lambda_latch_0_0 ++ []
theorem dksX13_lambda_latch_0_0 : cX13_lambda_latch_0.data.toList.drop 0 = dktX13_lambda_latch_0_0 := by decide +kernel
theorem dX13_lambda_latch_0_0 : decode cX13_lambda_latch_0 0 = .ok (.aload_n 3, 1) := dk_45 (dk_at dksX13_lambda_latch_0_0 0 rfl rfl)
theorem dX13_lambda_latch_0_1 : decode cX13_lambda_latch_0 1 = .ok (.aload_n 3, 1) := dk_45 (dk_at dksX13_lambda_latch_0_0 1 rfl rfl)
theorem dX13_lambda_latch_0_2 : decode cX13_lambda_latch_0 2 = .ok (.iload_n 0, 1) := dk_26 (dk_at dksX13_lambda_latch_0_0 2 rfl rfl)
theorem dX13_lambda_latch_0_3 : decode cX13_lambda_latch_0 3 = .ok (.invokevirtual 108, 3) := dk_182 0 108 (dk_at dksX13_lambda_latch_0_0 3 rfl rfl)
theorem dX13_lambda_latch_0_6 : decode cX13_lambda_latch_0 6 = .ok (.iload_n 1, 1) := dk_27 (dk_at dksX13_lambda_latch_0_0 6 rfl rfl)
theorem dX13_lambda_latch_0_7 : decode cX13_lambda_latch_0 7 = .ok (.iload_n 2, 1) := dk_28 (dk_at dksX13_lambda_latch_0_0 7 rfl rfl)
theorem dX13_lambda_latch_0_8 : decode cX13_lambda_latch_0 8 = .ok (.invokevirtual 124, 3) := dk_182 0 124 (dk_at dksX13_lambda_latch_0_0 8 rfl rfl)
theorem dX13_lambda_latch_0_11 : decode cX13_lambda_latch_0 11 = .ok (.ifCond .eq 7, 3) := dk_153 0 7 (dk_at dksX13_lambda_latch_0_0 11 rfl rfl)
theorem dX13_lambda_latch_0_14 : decode cX13_lambda_latch_0 14 = .ok (.iconst 1, 1) := dk_4 (dk_at dksX13_lambda_latch_0_0 14 rfl rfl)
theorem dX13_lambda_latch_0_15 : decode cX13_lambda_latch_0 15 = .ok (.goto 4, 3) := dk_167 0 4 (dk_at dksX13_lambda_latch_0_0 15 rfl rfl)
theorem dX13_lambda_latch_0_18 : decode cX13_lambda_latch_0 18 = .ok (.iconst 0, 1) := dk_3 (dk_at dksX13_lambda_latch_0_0 18 rfl rfl)
theorem dX13_lambda_latch_0_19 : decode cX13_lambda_latch_0 19 = .ok (.ireturn, 1) := dk_172 (dk_at dksX13_lambda_latch_0_0 19 rfl rfl)
