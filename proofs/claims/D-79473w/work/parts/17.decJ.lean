set_option maxRecDepth 100000
def dkwJ1_init_0 : List UInt8 := [42, 183, 0, 42, 42, 16, 17, 189, 0, 47, 181, 0, 3, 177]
abbrev dktJ1_init_0 : List UInt8 := dkwJ1_init_0 ++ []
theorem dksJ1_init_0 : cJ1_init.data.toList.drop 0 = dktJ1_init_0 := by decide +kernel
theorem dJ1_init_0 : decode cJ1_init 0 = .ok (.aload_n 0, 1) := dk_42 (dk_at dksJ1_init_0 0 rfl rfl)
theorem dJ1_init_1 : decode cJ1_init 1 = .ok (.invokespecial 42, 3) := dk_183 0 42 (dk_at dksJ1_init_0 1 rfl rfl)
theorem dJ1_init_4 : decode cJ1_init 4 = .ok (.aload_n 0, 1) := dk_42 (dk_at dksJ1_init_0 4 rfl rfl)
theorem dJ1_init_5 : decode cJ1_init 5 = .ok (.bipush 17, 2) := dk_16 17 (dk_at dksJ1_init_0 5 rfl rfl)
theorem dJ1_init_7 : decode cJ1_init 7 = .ok (.anewarray 47, 3) := dk_189 0 47 (dk_at dksJ1_init_0 7 rfl rfl)
theorem dJ1_init_10 : decode cJ1_init 10 = .ok (.putfield 3, 3) := dk_181 0 3 (dk_at dksJ1_init_0 10 rfl rfl)
theorem dJ1_init_13 : decode cJ1_init 13 = .ok (.return_, 1) := dk_177 (dk_at dksJ1_init_0 13 rfl rfl)
def dkwJ1_size_0 : List UInt8 := [42, 180, 0, 20, 42, 180, 0, 24, 42, 180, 0, 3, 190, 184, 0, 127, 172]
abbrev dktJ1_size_0 : List UInt8 := dkwJ1_size_0 ++ []
theorem dksJ1_size_0 : cJ1_size.data.toList.drop 0 = dktJ1_size_0 := by decide +kernel
theorem dJ1_size_0 : decode cJ1_size 0 = .ok (.aload_n 0, 1) := dk_42 (dk_at dksJ1_size_0 0 rfl rfl)
theorem dJ1_size_1 : decode cJ1_size 1 = .ok (.getfield 20, 3) := dk_180 0 20 (dk_at dksJ1_size_0 1 rfl rfl)
theorem dJ1_size_4 : decode cJ1_size 4 = .ok (.aload_n 0, 1) := dk_42 (dk_at dksJ1_size_0 4 rfl rfl)
theorem dJ1_size_5 : decode cJ1_size 5 = .ok (.getfield 24, 3) := dk_180 0 24 (dk_at dksJ1_size_0 5 rfl rfl)
theorem dJ1_size_8 : decode cJ1_size 8 = .ok (.aload_n 0, 1) := dk_42 (dk_at dksJ1_size_0 8 rfl rfl)
theorem dJ1_size_9 : decode cJ1_size 9 = .ok (.getfield 3, 3) := dk_180 0 3 (dk_at dksJ1_size_0 9 rfl rfl)
theorem dJ1_size_12 : decode cJ1_size 12 = .ok (.arraylength, 1) := dk_190 (dk_at dksJ1_size_0 12 rfl rfl)
theorem dJ1_size_13 : decode cJ1_size 13 = .ok (.invokestatic 127, 3) := dk_184 0 127 (dk_at dksJ1_size_0 13 rfl rfl)
theorem dJ1_size_16 : decode cJ1_size 16 = .ok (.ireturn, 1) := dk_172 (dk_at dksJ1_size_0 16 rfl rfl)
def dkwJ1_sub_0 : List UInt8 := [26, 27, 100, 89, 59, 156, 0, 7, 26, 28, 96, 59, 26, 172]
abbrev dktJ1_sub_0 : List UInt8 := dkwJ1_sub_0 ++ []
theorem dksJ1_sub_0 : cJ1_sub.data.toList.drop 0 = dktJ1_sub_0 := by decide +kernel
theorem dJ1_sub_0 : decode cJ1_sub 0 = .ok (.iload_n 0, 1) := dk_26 (dk_at dksJ1_sub_0 0 rfl rfl)
theorem dJ1_sub_1 : decode cJ1_sub 1 = .ok (.iload_n 1, 1) := dk_27 (dk_at dksJ1_sub_0 1 rfl rfl)
theorem dJ1_sub_2 : decode cJ1_sub 2 = .ok (.isub, 1) := dk_100 (dk_at dksJ1_sub_0 2 rfl rfl)
theorem dJ1_sub_3 : decode cJ1_sub 3 = .ok (.dup, 1) := dk_89 (dk_at dksJ1_sub_0 3 rfl rfl)
theorem dJ1_sub_4 : decode cJ1_sub 4 = .ok (.istore_n 0, 1) := dk_59 (dk_at dksJ1_sub_0 4 rfl rfl)
theorem dJ1_sub_5 : decode cJ1_sub 5 = .ok (.ifCond .ge 7, 3) := dk_156 0 7 (dk_at dksJ1_sub_0 5 rfl rfl)
theorem dJ1_sub_8 : decode cJ1_sub 8 = .ok (.iload_n 0, 1) := dk_26 (dk_at dksJ1_sub_0 8 rfl rfl)
theorem dJ1_sub_9 : decode cJ1_sub 9 = .ok (.iload_n 2, 1) := dk_28 (dk_at dksJ1_sub_0 9 rfl rfl)
theorem dJ1_sub_10 : decode cJ1_sub 10 = .ok (.iadd, 1) := dk_96 (dk_at dksJ1_sub_0 10 rfl rfl)
theorem dJ1_sub_11 : decode cJ1_sub 11 = .ok (.istore_n 0, 1) := dk_59 (dk_at dksJ1_sub_0 11 rfl rfl)
theorem dJ1_sub_12 : decode cJ1_sub 12 = .ok (.iload_n 0, 1) := dk_26 (dk_at dksJ1_sub_0 12 rfl rfl)
theorem dJ1_sub_13 : decode cJ1_sub 13 = .ok (.ireturn, 1) := dk_172 (dk_at dksJ1_sub_0 13 rfl rfl)
def dkwJ1_removeLast_0 : List UInt8 := [42, 182, 0, 100, 76, 43, 199, 0, 11, 187, 0, 97, 89, 183, 0, 99, 191, 43, 176]
abbrev dktJ1_removeLast_0 : List UInt8 := dkwJ1_removeLast_0 ++ []
theorem dksJ1_removeLast_0 : cJ1_removeLast.data.toList.drop 0 = dktJ1_removeLast_0 := by decide +kernel
theorem dJ1_removeLast_0 : decode cJ1_removeLast 0 = .ok (.aload_n 0, 1) := dk_42 (dk_at dksJ1_removeLast_0 0 rfl rfl)
theorem dJ1_removeLast_1 : decode cJ1_removeLast 1 = .ok (.invokevirtual 100, 3) := dk_182 0 100 (dk_at dksJ1_removeLast_0 1 rfl rfl)
theorem dJ1_removeLast_4 : decode cJ1_removeLast 4 = .ok (.astore_n 1, 1) := dk_76 (dk_at dksJ1_removeLast_0 4 rfl rfl)
theorem dJ1_removeLast_5 : decode cJ1_removeLast 5 = .ok (.aload_n 1, 1) := dk_43 (dk_at dksJ1_removeLast_0 5 rfl rfl)
theorem dJ1_removeLast_6 : decode cJ1_removeLast 6 = .ok (.ifnonnull 11, 3) := dk_199 0 11 (dk_at dksJ1_removeLast_0 6 rfl rfl)
theorem dJ1_removeLast_9 : decode cJ1_removeLast 9 = .ok (.new 97, 3) := dk_187 0 97 (dk_at dksJ1_removeLast_0 9 rfl rfl)
theorem dJ1_removeLast_12 : decode cJ1_removeLast 12 = .ok (.dup, 1) := dk_89 (dk_at dksJ1_removeLast_0 12 rfl rfl)
theorem dJ1_removeLast_13 : decode cJ1_removeLast 13 = .ok (.invokespecial 99, 3) := dk_183 0 99 (dk_at dksJ1_removeLast_0 13 rfl rfl)
theorem dJ1_removeLast_16 : decode cJ1_removeLast 16 = .ok (.athrow, 1) := dk_191 (dk_at dksJ1_removeLast_0 16 rfl rfl)
theorem dJ1_removeLast_17 : decode cJ1_removeLast 17 = .ok (.aload_n 1, 1) := dk_43 (dk_at dksJ1_removeLast_0 17 rfl rfl)
theorem dJ1_removeLast_18 : decode cJ1_removeLast 18 = .ok (.areturn, 1) := dk_176 (dk_at dksJ1_removeLast_0 18 rfl rfl)
def dkwJ1_pollLast_1 : List UInt8 := [198, 0, 12, 43, 42, 28, 90, 181, 0, 20, 1, 83, 45, 176]
abbrev dktJ1_pollLast_1 : List UInt8 := dkwJ1_pollLast_1 ++ []
def dkwJ1_pollLast_0 : List UInt8 := [42, 180, 0, 3, 89, 76, 42, 180, 0, 20, 43, 190, 184, 0, 68, 89, 61, 184, 0, 103, 78, 45]
abbrev dktJ1_pollLast_0 : List UInt8 := dkwJ1_pollLast_0 ++ dktJ1_pollLast_1
theorem dksJ1_pollLast_0 : cJ1_pollLast.data.toList.drop 0 = dktJ1_pollLast_0 := by decide +kernel
theorem dksJ1_pollLast_1 : cJ1_pollLast.data.toList.drop 22 = dktJ1_pollLast_1 := dk_seg dksJ1_pollLast_0 22 rfl rfl
theorem dJ1_pollLast_0 : decode cJ1_pollLast 0 = .ok (.aload_n 0, 1) := dk_42 (dk_at dksJ1_pollLast_0 0 rfl rfl)
theorem dJ1_pollLast_1 : decode cJ1_pollLast 1 = .ok (.getfield 3, 3) := dk_180 0 3 (dk_at dksJ1_pollLast_0 1 rfl rfl)
theorem dJ1_pollLast_4 : decode cJ1_pollLast 4 = .ok (.dup, 1) := dk_89 (dk_at dksJ1_pollLast_0 4 rfl rfl)
theorem dJ1_pollLast_5 : decode cJ1_pollLast 5 = .ok (.astore_n 1, 1) := dk_76 (dk_at dksJ1_pollLast_0 5 rfl rfl)
theorem dJ1_pollLast_6 : decode cJ1_pollLast 6 = .ok (.aload_n 0, 1) := dk_42 (dk_at dksJ1_pollLast_0 6 rfl rfl)
theorem dJ1_pollLast_7 : decode cJ1_pollLast 7 = .ok (.getfield 20, 3) := dk_180 0 20 (dk_at dksJ1_pollLast_0 7 rfl rfl)
theorem dJ1_pollLast_10 : decode cJ1_pollLast 10 = .ok (.aload_n 1, 1) := dk_43 (dk_at dksJ1_pollLast_0 10 rfl rfl)
theorem dJ1_pollLast_11 : decode cJ1_pollLast 11 = .ok (.arraylength, 1) := dk_190 (dk_at dksJ1_pollLast_0 11 rfl rfl)
theorem dJ1_pollLast_12 : decode cJ1_pollLast 12 = .ok (.invokestatic 68, 3) := dk_184 0 68 (dk_at dksJ1_pollLast_0 12 rfl rfl)
theorem dJ1_pollLast_15 : decode cJ1_pollLast 15 = .ok (.dup, 1) := dk_89 (dk_at dksJ1_pollLast_0 15 rfl rfl)
theorem dJ1_pollLast_16 : decode cJ1_pollLast 16 = .ok (.istore_n 2, 1) := dk_61 (dk_at dksJ1_pollLast_0 16 rfl rfl)
theorem dJ1_pollLast_17 : decode cJ1_pollLast 17 = .ok (.invokestatic 103, 3) := dk_184 0 103 (dk_at dksJ1_pollLast_0 17 rfl rfl)
theorem dJ1_pollLast_20 : decode cJ1_pollLast 20 = .ok (.astore_n 3, 1) := dk_78 (dk_at dksJ1_pollLast_0 20 rfl rfl)
theorem dJ1_pollLast_21 : decode cJ1_pollLast 21 = .ok (.aload_n 3, 1) := dk_45 (dk_at dksJ1_pollLast_0 21 rfl rfl)
theorem dJ1_pollLast_22 : decode cJ1_pollLast 22 = .ok (.ifnull 12, 3) := dk_198 0 12 (dk_at dksJ1_pollLast_1 0 rfl rfl)
theorem dJ1_pollLast_25 : decode cJ1_pollLast 25 = .ok (.aload_n 1, 1) := dk_43 (dk_at dksJ1_pollLast_1 3 rfl rfl)
theorem dJ1_pollLast_26 : decode cJ1_pollLast 26 = .ok (.aload_n 0, 1) := dk_42 (dk_at dksJ1_pollLast_1 4 rfl rfl)
theorem dJ1_pollLast_27 : decode cJ1_pollLast 27 = .ok (.iload_n 2, 1) := dk_28 (dk_at dksJ1_pollLast_1 5 rfl rfl)
theorem dJ1_pollLast_28 : decode cJ1_pollLast 28 = .ok (.dup_x1, 1) := dk_90 (dk_at dksJ1_pollLast_1 6 rfl rfl)
theorem dJ1_pollLast_29 : decode cJ1_pollLast 29 = .ok (.putfield 20, 3) := dk_181 0 20 (dk_at dksJ1_pollLast_1 7 rfl rfl)
theorem dJ1_pollLast_32 : decode cJ1_pollLast 32 = .ok (.aconst_null, 1) := dk_1 (dk_at dksJ1_pollLast_1 10 rfl rfl)
theorem dJ1_pollLast_33 : decode cJ1_pollLast 33 = .ok (.aastore, 1) := dk_83 (dk_at dksJ1_pollLast_1 11 rfl rfl)
theorem dJ1_pollLast_34 : decode cJ1_pollLast 34 = .ok (.aload_n 3, 1) := dk_45 (dk_at dksJ1_pollLast_1 12 rfl rfl)
theorem dJ1_pollLast_35 : decode cJ1_pollLast 35 = .ok (.areturn, 1) := dk_176 (dk_at dksJ1_pollLast_1 13 rfl rfl)
def dkwJ1_dec_0 : List UInt8 := [132, 0, 255, 26, 156, 0, 7, 27, 4, 100, 59, 26, 172]
abbrev dktJ1_dec_0 : List UInt8 := dkwJ1_dec_0 ++ []
theorem dksJ1_dec_0 : cJ1_dec.data.toList.drop 0 = dktJ1_dec_0 := by decide +kernel
theorem dJ1_dec_0 : decode cJ1_dec 0 = .ok (.iinc 0 (-1), 3) := dk_132 0 255 (dk_at dksJ1_dec_0 0 rfl rfl)
theorem dJ1_dec_3 : decode cJ1_dec 3 = .ok (.iload_n 0, 1) := dk_26 (dk_at dksJ1_dec_0 3 rfl rfl)
theorem dJ1_dec_4 : decode cJ1_dec 4 = .ok (.ifCond .ge 7, 3) := dk_156 0 7 (dk_at dksJ1_dec_0 4 rfl rfl)
theorem dJ1_dec_7 : decode cJ1_dec 7 = .ok (.iload_n 1, 1) := dk_27 (dk_at dksJ1_dec_0 7 rfl rfl)
theorem dJ1_dec_8 : decode cJ1_dec 8 = .ok (.iconst 1, 1) := dk_4 (dk_at dksJ1_dec_0 8 rfl rfl)
theorem dJ1_dec_9 : decode cJ1_dec 9 = .ok (.isub, 1) := dk_100 (dk_at dksJ1_dec_0 9 rfl rfl)
theorem dJ1_dec_10 : decode cJ1_dec 10 = .ok (.istore_n 0, 1) := dk_59 (dk_at dksJ1_dec_0 10 rfl rfl)
theorem dJ1_dec_11 : decode cJ1_dec 11 = .ok (.iload_n 0, 1) := dk_26 (dk_at dksJ1_dec_0 11 rfl rfl)
theorem dJ1_dec_12 : decode cJ1_dec 12 = .ok (.ireturn, 1) := dk_172 (dk_at dksJ1_dec_0 12 rfl rfl)
def dkwJ1_elementAt_0 : List UInt8 := [42, 27, 50, 176]
abbrev dktJ1_elementAt_0 : List UInt8 := dkwJ1_elementAt_0 ++ []
theorem dksJ1_elementAt_0 : cJ1_elementAt.data.toList.drop 0 = dktJ1_elementAt_0 := by decide +kernel
theorem dJ1_elementAt_0 : decode cJ1_elementAt 0 = .ok (.aload_n 0, 1) := dk_42 (dk_at dksJ1_elementAt_0 0 rfl rfl)
theorem dJ1_elementAt_1 : decode cJ1_elementAt 1 = .ok (.iload_n 1, 1) := dk_27 (dk_at dksJ1_elementAt_0 1 rfl rfl)
theorem dJ1_elementAt_2 : decode cJ1_elementAt 2 = .ok (.aaload, 1) := dk_50 (dk_at dksJ1_elementAt_0 2 rfl rfl)
theorem dJ1_elementAt_3 : decode cJ1_elementAt 3 = .ok (.areturn, 1) := dk_176 (dk_at dksJ1_elementAt_0 3 rfl rfl)
def dkwJ1_push_0 : List UInt8 := [42, 43, 182, 0, 86, 177]
abbrev dktJ1_push_0 : List UInt8 := dkwJ1_push_0 ++ []
theorem dksJ1_push_0 : cJ1_push.data.toList.drop 0 = dktJ1_push_0 := by decide +kernel
theorem dJ1_push_0 : decode cJ1_push 0 = .ok (.aload_n 0, 1) := dk_42 (dk_at dksJ1_push_0 0 rfl rfl)
theorem dJ1_push_1 : decode cJ1_push 1 = .ok (.aload_n 1, 1) := dk_43 (dk_at dksJ1_push_0 1 rfl rfl)
theorem dJ1_push_2 : decode cJ1_push 2 = .ok (.invokevirtual 86, 3) := dk_182 0 86 (dk_at dksJ1_push_0 2 rfl rfl)
theorem dJ1_push_5 : decode cJ1_push 5 = .ok (.return_, 1) := dk_177 (dk_at dksJ1_push_0 5 rfl rfl)
def dkwJ1_addFirst_2 : List UInt8 := [182, 0, 71, 177]
abbrev dktJ1_addFirst_2 : List UInt8 := dkwJ1_addFirst_2 ++ []
def dkwJ1_addFirst_1 : List UInt8 := [190, 184, 0, 68, 90, 181, 0, 24, 43, 83, 42, 180, 0, 24, 42, 180, 0, 20, 160, 0, 8, 42, 4]
abbrev dktJ1_addFirst_1 : List UInt8 := dkwJ1_addFirst_1 ++ dktJ1_addFirst_2
def dkwJ1_addFirst_0 : List UInt8 := [43, 199, 0, 11, 187, 0, 65, 89, 183, 0, 67, 191, 42, 180, 0, 3, 77, 44, 42, 42, 180, 0, 24, 44]
abbrev dktJ1_addFirst_0 : List UInt8 := dkwJ1_addFirst_0 ++ dktJ1_addFirst_1
theorem dksJ1_addFirst_0 : cJ1_addFirst.data.toList.drop 0 = dktJ1_addFirst_0 := by decide +kernel
theorem dksJ1_addFirst_1 : cJ1_addFirst.data.toList.drop 24 = dktJ1_addFirst_1 := dk_seg dksJ1_addFirst_0 24 rfl rfl
theorem dksJ1_addFirst_2 : cJ1_addFirst.data.toList.drop 47 = dktJ1_addFirst_2 := dk_seg dksJ1_addFirst_1 23 rfl rfl
theorem dJ1_addFirst_0 : decode cJ1_addFirst 0 = .ok (.aload_n 1, 1) := dk_43 (dk_at dksJ1_addFirst_0 0 rfl rfl)
theorem dJ1_addFirst_1 : decode cJ1_addFirst 1 = .ok (.ifnonnull 11, 3) := dk_199 0 11 (dk_at dksJ1_addFirst_0 1 rfl rfl)
theorem dJ1_addFirst_4 : decode cJ1_addFirst 4 = .ok (.new 65, 3) := dk_187 0 65 (dk_at dksJ1_addFirst_0 4 rfl rfl)
theorem dJ1_addFirst_7 : decode cJ1_addFirst 7 = .ok (.dup, 1) := dk_89 (dk_at dksJ1_addFirst_0 7 rfl rfl)
theorem dJ1_addFirst_8 : decode cJ1_addFirst 8 = .ok (.invokespecial 67, 3) := dk_183 0 67 (dk_at dksJ1_addFirst_0 8 rfl rfl)
theorem dJ1_addFirst_11 : decode cJ1_addFirst 11 = .ok (.athrow, 1) := dk_191 (dk_at dksJ1_addFirst_0 11 rfl rfl)
theorem dJ1_addFirst_12 : decode cJ1_addFirst 12 = .ok (.aload_n 0, 1) := dk_42 (dk_at dksJ1_addFirst_0 12 rfl rfl)
theorem dJ1_addFirst_13 : decode cJ1_addFirst 13 = .ok (.getfield 3, 3) := dk_180 0 3 (dk_at dksJ1_addFirst_0 13 rfl rfl)
theorem dJ1_addFirst_16 : decode cJ1_addFirst 16 = .ok (.astore_n 2, 1) := dk_77 (dk_at dksJ1_addFirst_0 16 rfl rfl)
theorem dJ1_addFirst_17 : decode cJ1_addFirst 17 = .ok (.aload_n 2, 1) := dk_44 (dk_at dksJ1_addFirst_0 17 rfl rfl)
theorem dJ1_addFirst_18 : decode cJ1_addFirst 18 = .ok (.aload_n 0, 1) := dk_42 (dk_at dksJ1_addFirst_0 18 rfl rfl)
theorem dJ1_addFirst_19 : decode cJ1_addFirst 19 = .ok (.aload_n 0, 1) := dk_42 (dk_at dksJ1_addFirst_0 19 rfl rfl)
theorem dJ1_addFirst_20 : decode cJ1_addFirst 20 = .ok (.getfield 24, 3) := dk_180 0 24 (dk_at dksJ1_addFirst_0 20 rfl rfl)
theorem dJ1_addFirst_23 : decode cJ1_addFirst 23 = .ok (.aload_n 2, 1) := dk_44 (dk_at dksJ1_addFirst_0 23 rfl rfl)
theorem dJ1_addFirst_24 : decode cJ1_addFirst 24 = .ok (.arraylength, 1) := dk_190 (dk_at dksJ1_addFirst_1 0 rfl rfl)
theorem dJ1_addFirst_25 : decode cJ1_addFirst 25 = .ok (.invokestatic 68, 3) := dk_184 0 68 (dk_at dksJ1_addFirst_1 1 rfl rfl)
theorem dJ1_addFirst_28 : decode cJ1_addFirst 28 = .ok (.dup_x1, 1) := dk_90 (dk_at dksJ1_addFirst_1 4 rfl rfl)
theorem dJ1_addFirst_29 : decode cJ1_addFirst 29 = .ok (.putfield 24, 3) := dk_181 0 24 (dk_at dksJ1_addFirst_1 5 rfl rfl)
theorem dJ1_addFirst_32 : decode cJ1_addFirst 32 = .ok (.aload_n 1, 1) := dk_43 (dk_at dksJ1_addFirst_1 8 rfl rfl)
theorem dJ1_addFirst_33 : decode cJ1_addFirst 33 = .ok (.aastore, 1) := dk_83 (dk_at dksJ1_addFirst_1 9 rfl rfl)
theorem dJ1_addFirst_34 : decode cJ1_addFirst 34 = .ok (.aload_n 0, 1) := dk_42 (dk_at dksJ1_addFirst_1 10 rfl rfl)
theorem dJ1_addFirst_35 : decode cJ1_addFirst 35 = .ok (.getfield 24, 3) := dk_180 0 24 (dk_at dksJ1_addFirst_1 11 rfl rfl)
theorem dJ1_addFirst_38 : decode cJ1_addFirst 38 = .ok (.aload_n 0, 1) := dk_42 (dk_at dksJ1_addFirst_1 14 rfl rfl)
theorem dJ1_addFirst_39 : decode cJ1_addFirst 39 = .ok (.getfield 20, 3) := dk_180 0 20 (dk_at dksJ1_addFirst_1 15 rfl rfl)
theorem dJ1_addFirst_42 : decode cJ1_addFirst 42 = .ok (.if_icmp .ne 8, 3) := dk_160 0 8 (dk_at dksJ1_addFirst_1 18 rfl rfl)
theorem dJ1_addFirst_45 : decode cJ1_addFirst 45 = .ok (.aload_n 0, 1) := dk_42 (dk_at dksJ1_addFirst_1 21 rfl rfl)
theorem dJ1_addFirst_46 : decode cJ1_addFirst 46 = .ok (.iconst 1, 1) := dk_4 (dk_at dksJ1_addFirst_1 22 rfl rfl)
theorem dJ1_addFirst_47 : decode cJ1_addFirst 47 = .ok (.invokevirtual 71, 3) := dk_182 0 71 (dk_at dksJ1_addFirst_2 0 rfl rfl)
theorem dJ1_addFirst_50 : decode cJ1_addFirst 50 = .ok (.return_, 1) := dk_177 (dk_at dksJ1_addFirst_2 3 rfl rfl)
def dkwJ1_grow_7 : List UInt8 := [177]
abbrev dktJ1_grow_7 : List UInt8 := dkwJ1_grow_7 ++ []
def dkwJ1_grow_6 : List UInt8 := [181, 0, 24, 54, 8, 21, 7, 21, 8, 162, 0, 15, 25, 5, 21, 7, 1, 83, 132, 7, 1, 167, 255, 240]
abbrev dktJ1_grow_6 : List UInt8 := dkwJ1_grow_6 ++ dktJ1_grow_7
def dkwJ1_grow_5 : List UInt8 := [42, 180, 0, 24, 100, 184, 0, 27, 42, 180, 0, 24, 54, 7, 42, 89, 180, 0, 24, 21, 6, 96, 90]
abbrev dktJ1_grow_5 : List UInt8 := dkwJ1_grow_5 ++ dktJ1_grow_6
def dkwJ1_grow_4 : List UInt8 := [198, 0, 71, 29, 28, 100, 54, 6, 25, 5, 42, 180, 0, 24, 25, 5, 42, 180, 0, 24, 21, 6, 96, 28]
abbrev dktJ1_grow_4 : List UInt8 := dkwJ1_grow_4 ++ dktJ1_grow_5
def dkwJ1_grow_3 : List UInt8 := [180, 0, 24, 161, 0, 24, 42, 180, 0, 20, 42, 180, 0, 24, 160, 0, 81, 25, 5, 42, 180, 0, 24, 50]
abbrev dktJ1_grow_3 : List UInt8 := dkwJ1_grow_3 ++ dktJ1_grow_4
def dkwJ1_grow_2 : List UInt8 := [182, 0, 10, 62, 42, 42, 180, 0, 3, 29, 184, 0, 14, 90, 181, 0, 3, 58, 5, 42, 180, 0, 20, 42]
abbrev dktJ1_grow_2 : List UInt8 := dkwJ1_grow_2 ++ dktJ1_grow_3
def dkwJ1_grow_1 : List UInt8 := [21, 4, 27, 161, 0, 15, 28, 21, 4, 96, 89, 62, 18, 9, 100, 158, 0, 11, 42, 27, 21, 4]
abbrev dktJ1_grow_1 : List UInt8 := dkwJ1_grow_1 ++ dktJ1_grow_2
def dkwJ1_grow_0 : List UInt8 := [42, 180, 0, 3, 190, 61, 28, 16, 64, 162, 0, 9, 28, 5, 96, 167, 0, 6, 28, 4, 122, 54, 4]
abbrev dktJ1_grow_0 : List UInt8 := dkwJ1_grow_0 ++ dktJ1_grow_1
theorem dksJ1_grow_0 : cJ1_grow.data.toList.drop 0 = dktJ1_grow_0 := by decide +kernel
theorem dksJ1_grow_1 : cJ1_grow.data.toList.drop 23 = dktJ1_grow_1 := dk_seg dksJ1_grow_0 23 rfl rfl
theorem dksJ1_grow_2 : cJ1_grow.data.toList.drop 45 = dktJ1_grow_2 := dk_seg dksJ1_grow_1 22 rfl rfl
theorem dksJ1_grow_3 : cJ1_grow.data.toList.drop 69 = dktJ1_grow_3 := dk_seg dksJ1_grow_2 24 rfl rfl
theorem dksJ1_grow_4 : cJ1_grow.data.toList.drop 93 = dktJ1_grow_4 := dk_seg dksJ1_grow_3 24 rfl rfl
theorem dksJ1_grow_5 : cJ1_grow.data.toList.drop 117 = dktJ1_grow_5 := dk_seg dksJ1_grow_4 24 rfl rfl
theorem dksJ1_grow_6 : cJ1_grow.data.toList.drop 140 = dktJ1_grow_6 := dk_seg dksJ1_grow_5 23 rfl rfl
theorem dksJ1_grow_7 : cJ1_grow.data.toList.drop 164 = dktJ1_grow_7 := dk_seg dksJ1_grow_6 24 rfl rfl
theorem dJ1_grow_0 : decode cJ1_grow 0 = .ok (.aload_n 0, 1) := dk_42 (dk_at dksJ1_grow_0 0 rfl rfl)
theorem dJ1_grow_1 : decode cJ1_grow 1 = .ok (.getfield 3, 3) := dk_180 0 3 (dk_at dksJ1_grow_0 1 rfl rfl)
theorem dJ1_grow_4 : decode cJ1_grow 4 = .ok (.arraylength, 1) := dk_190 (dk_at dksJ1_grow_0 4 rfl rfl)
theorem dJ1_grow_5 : decode cJ1_grow 5 = .ok (.istore_n 2, 1) := dk_61 (dk_at dksJ1_grow_0 5 rfl rfl)
theorem dJ1_grow_6 : decode cJ1_grow 6 = .ok (.iload_n 2, 1) := dk_28 (dk_at dksJ1_grow_0 6 rfl rfl)
theorem dJ1_grow_7 : decode cJ1_grow 7 = .ok (.bipush 64, 2) := dk_16 64 (dk_at dksJ1_grow_0 7 rfl rfl)
theorem dJ1_grow_9 : decode cJ1_grow 9 = .ok (.if_icmp .ge 9, 3) := dk_162 0 9 (dk_at dksJ1_grow_0 9 rfl rfl)
theorem dJ1_grow_12 : decode cJ1_grow 12 = .ok (.iload_n 2, 1) := dk_28 (dk_at dksJ1_grow_0 12 rfl rfl)
theorem dJ1_grow_13 : decode cJ1_grow 13 = .ok (.iconst 2, 1) := dk_5 (dk_at dksJ1_grow_0 13 rfl rfl)
theorem dJ1_grow_14 : decode cJ1_grow 14 = .ok (.iadd, 1) := dk_96 (dk_at dksJ1_grow_0 14 rfl rfl)
theorem dJ1_grow_15 : decode cJ1_grow 15 = .ok (.goto 6, 3) := dk_167 0 6 (dk_at dksJ1_grow_0 15 rfl rfl)
theorem dJ1_grow_18 : decode cJ1_grow 18 = .ok (.iload_n 2, 1) := dk_28 (dk_at dksJ1_grow_0 18 rfl rfl)
theorem dJ1_grow_19 : decode cJ1_grow 19 = .ok (.iconst 1, 1) := dk_4 (dk_at dksJ1_grow_0 19 rfl rfl)
theorem dJ1_grow_20 : decode cJ1_grow 20 = .ok (.ishr, 1) := dk_122 (dk_at dksJ1_grow_0 20 rfl rfl)
theorem dJ1_grow_21 : decode cJ1_grow 21 = .ok (.istore 4, 2) := dk_54 4 (dk_at dksJ1_grow_0 21 rfl rfl)
theorem dJ1_grow_23 : decode cJ1_grow 23 = .ok (.iload 4, 2) := dk_21 4 (dk_at dksJ1_grow_1 0 rfl rfl)
theorem dJ1_grow_25 : decode cJ1_grow 25 = .ok (.iload_n 1, 1) := dk_27 (dk_at dksJ1_grow_1 2 rfl rfl)
theorem dJ1_grow_26 : decode cJ1_grow 26 = .ok (.if_icmp .lt 15, 3) := dk_161 0 15 (dk_at dksJ1_grow_1 3 rfl rfl)
theorem dJ1_grow_29 : decode cJ1_grow 29 = .ok (.iload_n 2, 1) := dk_28 (dk_at dksJ1_grow_1 6 rfl rfl)
theorem dJ1_grow_30 : decode cJ1_grow 30 = .ok (.iload 4, 2) := dk_21 4 (dk_at dksJ1_grow_1 7 rfl rfl)
theorem dJ1_grow_32 : decode cJ1_grow 32 = .ok (.iadd, 1) := dk_96 (dk_at dksJ1_grow_1 9 rfl rfl)
theorem dJ1_grow_33 : decode cJ1_grow 33 = .ok (.dup, 1) := dk_89 (dk_at dksJ1_grow_1 10 rfl rfl)
theorem dJ1_grow_34 : decode cJ1_grow 34 = .ok (.istore_n 3, 1) := dk_62 (dk_at dksJ1_grow_1 11 rfl rfl)
theorem dJ1_grow_35 : decode cJ1_grow 35 = .ok (.ldc 9, 2) := dk_18 9 (dk_at dksJ1_grow_1 12 rfl rfl)
theorem dJ1_grow_37 : decode cJ1_grow 37 = .ok (.isub, 1) := dk_100 (dk_at dksJ1_grow_1 14 rfl rfl)
theorem dJ1_grow_38 : decode cJ1_grow 38 = .ok (.ifCond .le 11, 3) := dk_158 0 11 (dk_at dksJ1_grow_1 15 rfl rfl)
theorem dJ1_grow_41 : decode cJ1_grow 41 = .ok (.aload_n 0, 1) := dk_42 (dk_at dksJ1_grow_1 18 rfl rfl)
theorem dJ1_grow_42 : decode cJ1_grow 42 = .ok (.iload_n 1, 1) := dk_27 (dk_at dksJ1_grow_1 19 rfl rfl)
theorem dJ1_grow_43 : decode cJ1_grow 43 = .ok (.iload 4, 2) := dk_21 4 (dk_at dksJ1_grow_1 20 rfl rfl)
theorem dJ1_grow_45 : decode cJ1_grow 45 = .ok (.invokevirtual 10, 3) := dk_182 0 10 (dk_at dksJ1_grow_2 0 rfl rfl)
theorem dJ1_grow_48 : decode cJ1_grow 48 = .ok (.istore_n 3, 1) := dk_62 (dk_at dksJ1_grow_2 3 rfl rfl)
theorem dJ1_grow_49 : decode cJ1_grow 49 = .ok (.aload_n 0, 1) := dk_42 (dk_at dksJ1_grow_2 4 rfl rfl)
theorem dJ1_grow_50 : decode cJ1_grow 50 = .ok (.aload_n 0, 1) := dk_42 (dk_at dksJ1_grow_2 5 rfl rfl)
theorem dJ1_grow_51 : decode cJ1_grow 51 = .ok (.getfield 3, 3) := dk_180 0 3 (dk_at dksJ1_grow_2 6 rfl rfl)
theorem dJ1_grow_54 : decode cJ1_grow 54 = .ok (.iload_n 3, 1) := dk_29 (dk_at dksJ1_grow_2 9 rfl rfl)
theorem dJ1_grow_55 : decode cJ1_grow 55 = .ok (.invokestatic 14, 3) := dk_184 0 14 (dk_at dksJ1_grow_2 10 rfl rfl)
theorem dJ1_grow_58 : decode cJ1_grow 58 = .ok (.dup_x1, 1) := dk_90 (dk_at dksJ1_grow_2 13 rfl rfl)
theorem dJ1_grow_59 : decode cJ1_grow 59 = .ok (.putfield 3, 3) := dk_181 0 3 (dk_at dksJ1_grow_2 14 rfl rfl)
theorem dJ1_grow_62 : decode cJ1_grow 62 = .ok (.astore 5, 2) := dk_58 5 (dk_at dksJ1_grow_2 17 rfl rfl)
theorem dJ1_grow_64 : decode cJ1_grow 64 = .ok (.aload_n 0, 1) := dk_42 (dk_at dksJ1_grow_2 19 rfl rfl)
theorem dJ1_grow_65 : decode cJ1_grow 65 = .ok (.getfield 20, 3) := dk_180 0 20 (dk_at dksJ1_grow_2 20 rfl rfl)
theorem dJ1_grow_68 : decode cJ1_grow 68 = .ok (.aload_n 0, 1) := dk_42 (dk_at dksJ1_grow_2 23 rfl rfl)
theorem dJ1_grow_69 : decode cJ1_grow 69 = .ok (.getfield 24, 3) := dk_180 0 24 (dk_at dksJ1_grow_3 0 rfl rfl)
theorem dJ1_grow_72 : decode cJ1_grow 72 = .ok (.if_icmp .lt 24, 3) := dk_161 0 24 (dk_at dksJ1_grow_3 3 rfl rfl)
theorem dJ1_grow_75 : decode cJ1_grow 75 = .ok (.aload_n 0, 1) := dk_42 (dk_at dksJ1_grow_3 6 rfl rfl)
theorem dJ1_grow_76 : decode cJ1_grow 76 = .ok (.getfield 20, 3) := dk_180 0 20 (dk_at dksJ1_grow_3 7 rfl rfl)
theorem dJ1_grow_79 : decode cJ1_grow 79 = .ok (.aload_n 0, 1) := dk_42 (dk_at dksJ1_grow_3 10 rfl rfl)
theorem dJ1_grow_80 : decode cJ1_grow 80 = .ok (.getfield 24, 3) := dk_180 0 24 (dk_at dksJ1_grow_3 11 rfl rfl)
theorem dJ1_grow_83 : decode cJ1_grow 83 = .ok (.if_icmp .ne 81, 3) := dk_160 0 81 (dk_at dksJ1_grow_3 14 rfl rfl)
theorem dJ1_grow_86 : decode cJ1_grow 86 = .ok (.aload 5, 2) := dk_25 5 (dk_at dksJ1_grow_3 17 rfl rfl)
theorem dJ1_grow_88 : decode cJ1_grow 88 = .ok (.aload_n 0, 1) := dk_42 (dk_at dksJ1_grow_3 19 rfl rfl)
theorem dJ1_grow_89 : decode cJ1_grow 89 = .ok (.getfield 24, 3) := dk_180 0 24 (dk_at dksJ1_grow_3 20 rfl rfl)
theorem dJ1_grow_92 : decode cJ1_grow 92 = .ok (.aaload, 1) := dk_50 (dk_at dksJ1_grow_3 23 rfl rfl)
theorem dJ1_grow_93 : decode cJ1_grow 93 = .ok (.ifnull 71, 3) := dk_198 0 71 (dk_at dksJ1_grow_4 0 rfl rfl)
theorem dJ1_grow_96 : decode cJ1_grow 96 = .ok (.iload_n 3, 1) := dk_29 (dk_at dksJ1_grow_4 3 rfl rfl)
theorem dJ1_grow_97 : decode cJ1_grow 97 = .ok (.iload_n 2, 1) := dk_28 (dk_at dksJ1_grow_4 4 rfl rfl)
theorem dJ1_grow_98 : decode cJ1_grow 98 = .ok (.isub, 1) := dk_100 (dk_at dksJ1_grow_4 5 rfl rfl)
theorem dJ1_grow_99 : decode cJ1_grow 99 = .ok (.istore 6, 2) := dk_54 6 (dk_at dksJ1_grow_4 6 rfl rfl)
theorem dJ1_grow_101 : decode cJ1_grow 101 = .ok (.aload 5, 2) := dk_25 5 (dk_at dksJ1_grow_4 8 rfl rfl)
theorem dJ1_grow_103 : decode cJ1_grow 103 = .ok (.aload_n 0, 1) := dk_42 (dk_at dksJ1_grow_4 10 rfl rfl)
theorem dJ1_grow_104 : decode cJ1_grow 104 = .ok (.getfield 24, 3) := dk_180 0 24 (dk_at dksJ1_grow_4 11 rfl rfl)
theorem dJ1_grow_107 : decode cJ1_grow 107 = .ok (.aload 5, 2) := dk_25 5 (dk_at dksJ1_grow_4 14 rfl rfl)
theorem dJ1_grow_109 : decode cJ1_grow 109 = .ok (.aload_n 0, 1) := dk_42 (dk_at dksJ1_grow_4 16 rfl rfl)
theorem dJ1_grow_110 : decode cJ1_grow 110 = .ok (.getfield 24, 3) := dk_180 0 24 (dk_at dksJ1_grow_4 17 rfl rfl)
theorem dJ1_grow_113 : decode cJ1_grow 113 = .ok (.iload 6, 2) := dk_21 6 (dk_at dksJ1_grow_4 20 rfl rfl)
theorem dJ1_grow_115 : decode cJ1_grow 115 = .ok (.iadd, 1) := dk_96 (dk_at dksJ1_grow_4 22 rfl rfl)
theorem dJ1_grow_116 : decode cJ1_grow 116 = .ok (.iload_n 2, 1) := dk_28 (dk_at dksJ1_grow_4 23 rfl rfl)
theorem dJ1_grow_117 : decode cJ1_grow 117 = .ok (.aload_n 0, 1) := dk_42 (dk_at dksJ1_grow_5 0 rfl rfl)
theorem dJ1_grow_118 : decode cJ1_grow 118 = .ok (.getfield 24, 3) := dk_180 0 24 (dk_at dksJ1_grow_5 1 rfl rfl)
theorem dJ1_grow_121 : decode cJ1_grow 121 = .ok (.isub, 1) := dk_100 (dk_at dksJ1_grow_5 4 rfl rfl)
theorem dJ1_grow_122 : decode cJ1_grow 122 = .ok (.invokestatic 27, 3) := dk_184 0 27 (dk_at dksJ1_grow_5 5 rfl rfl)
theorem dJ1_grow_125 : decode cJ1_grow 125 = .ok (.aload_n 0, 1) := dk_42 (dk_at dksJ1_grow_5 8 rfl rfl)
theorem dJ1_grow_126 : decode cJ1_grow 126 = .ok (.getfield 24, 3) := dk_180 0 24 (dk_at dksJ1_grow_5 9 rfl rfl)
theorem dJ1_grow_129 : decode cJ1_grow 129 = .ok (.istore 7, 2) := dk_54 7 (dk_at dksJ1_grow_5 12 rfl rfl)
theorem dJ1_grow_131 : decode cJ1_grow 131 = .ok (.aload_n 0, 1) := dk_42 (dk_at dksJ1_grow_5 14 rfl rfl)
theorem dJ1_grow_132 : decode cJ1_grow 132 = .ok (.dup, 1) := dk_89 (dk_at dksJ1_grow_5 15 rfl rfl)
theorem dJ1_grow_133 : decode cJ1_grow 133 = .ok (.getfield 24, 3) := dk_180 0 24 (dk_at dksJ1_grow_5 16 rfl rfl)
theorem dJ1_grow_136 : decode cJ1_grow 136 = .ok (.iload 6, 2) := dk_21 6 (dk_at dksJ1_grow_5 19 rfl rfl)
theorem dJ1_grow_138 : decode cJ1_grow 138 = .ok (.iadd, 1) := dk_96 (dk_at dksJ1_grow_5 21 rfl rfl)
theorem dJ1_grow_139 : decode cJ1_grow 139 = .ok (.dup_x1, 1) := dk_90 (dk_at dksJ1_grow_5 22 rfl rfl)
theorem dJ1_grow_140 : decode cJ1_grow 140 = .ok (.putfield 24, 3) := dk_181 0 24 (dk_at dksJ1_grow_6 0 rfl rfl)
theorem dJ1_grow_143 : decode cJ1_grow 143 = .ok (.istore 8, 2) := dk_54 8 (dk_at dksJ1_grow_6 3 rfl rfl)
theorem dJ1_grow_145 : decode cJ1_grow 145 = .ok (.iload 7, 2) := dk_21 7 (dk_at dksJ1_grow_6 5 rfl rfl)
theorem dJ1_grow_147 : decode cJ1_grow 147 = .ok (.iload 8, 2) := dk_21 8 (dk_at dksJ1_grow_6 7 rfl rfl)
theorem dJ1_grow_149 : decode cJ1_grow 149 = .ok (.if_icmp .ge 15, 3) := dk_162 0 15 (dk_at dksJ1_grow_6 9 rfl rfl)
theorem dJ1_grow_152 : decode cJ1_grow 152 = .ok (.aload 5, 2) := dk_25 5 (dk_at dksJ1_grow_6 12 rfl rfl)
theorem dJ1_grow_154 : decode cJ1_grow 154 = .ok (.iload 7, 2) := dk_21 7 (dk_at dksJ1_grow_6 14 rfl rfl)
theorem dJ1_grow_156 : decode cJ1_grow 156 = .ok (.aconst_null, 1) := dk_1 (dk_at dksJ1_grow_6 16 rfl rfl)
theorem dJ1_grow_157 : decode cJ1_grow 157 = .ok (.aastore, 1) := dk_83 (dk_at dksJ1_grow_6 17 rfl rfl)
theorem dJ1_grow_158 : decode cJ1_grow 158 = .ok (.iinc 7 1, 3) := dk_132 7 1 (dk_at dksJ1_grow_6 18 rfl rfl)
theorem dJ1_grow_161 : decode cJ1_grow 161 = .ok (.goto (-16), 3) := dk_167 255 240 (dk_at dksJ1_grow_6 21 rfl rfl)
theorem dJ1_grow_164 : decode cJ1_grow 164 = .ok (.return_, 1) := dk_177 (dk_at dksJ1_grow_7 0 rfl rfl)
def dkwJ1_newCapacity_2 : List UInt8 := [18, 9, 100, 156, 0, 9, 29, 28, 96, 167, 0, 5, 18, 9, 172]
abbrev dktJ1_newCapacity_2 : List UInt8 := dkwJ1_newCapacity_2 ++ []
def dkwJ1_newCapacity_1 : List UInt8 := [187, 0, 33, 89, 18, 35, 183, 0, 37, 191, 18, 41, 172, 27, 28, 164, 0, 6, 21, 4, 172, 29, 28, 96]
abbrev dktJ1_newCapacity_1 : List UInt8 := dkwJ1_newCapacity_1 ++ dktJ1_newCapacity_2
def dkwJ1_newCapacity_0 : List UInt8 := [42, 180, 0, 3, 190, 62, 29, 27, 96, 89, 54, 4, 18, 9, 100, 158, 0, 21, 21, 4, 156, 0, 13]
abbrev dktJ1_newCapacity_0 : List UInt8 := dkwJ1_newCapacity_0 ++ dktJ1_newCapacity_1
theorem dksJ1_newCapacity_0 : cJ1_newCapacity.data.toList.drop 0 = dktJ1_newCapacity_0 := by decide +kernel
theorem dksJ1_newCapacity_1 : cJ1_newCapacity.data.toList.drop 23 = dktJ1_newCapacity_1 := dk_seg dksJ1_newCapacity_0 23 rfl rfl
theorem dksJ1_newCapacity_2 : cJ1_newCapacity.data.toList.drop 47 = dktJ1_newCapacity_2 := dk_seg dksJ1_newCapacity_1 24 rfl rfl
theorem dJ1_newCapacity_0 : decode cJ1_newCapacity 0 = .ok (.aload_n 0, 1) := dk_42 (dk_at dksJ1_newCapacity_0 0 rfl rfl)
theorem dJ1_newCapacity_1 : decode cJ1_newCapacity 1 = .ok (.getfield 3, 3) := dk_180 0 3 (dk_at dksJ1_newCapacity_0 1 rfl rfl)
theorem dJ1_newCapacity_4 : decode cJ1_newCapacity 4 = .ok (.arraylength, 1) := dk_190 (dk_at dksJ1_newCapacity_0 4 rfl rfl)
theorem dJ1_newCapacity_5 : decode cJ1_newCapacity 5 = .ok (.istore_n 3, 1) := dk_62 (dk_at dksJ1_newCapacity_0 5 rfl rfl)
theorem dJ1_newCapacity_6 : decode cJ1_newCapacity 6 = .ok (.iload_n 3, 1) := dk_29 (dk_at dksJ1_newCapacity_0 6 rfl rfl)
theorem dJ1_newCapacity_7 : decode cJ1_newCapacity 7 = .ok (.iload_n 1, 1) := dk_27 (dk_at dksJ1_newCapacity_0 7 rfl rfl)
theorem dJ1_newCapacity_8 : decode cJ1_newCapacity 8 = .ok (.iadd, 1) := dk_96 (dk_at dksJ1_newCapacity_0 8 rfl rfl)
theorem dJ1_newCapacity_9 : decode cJ1_newCapacity 9 = .ok (.dup, 1) := dk_89 (dk_at dksJ1_newCapacity_0 9 rfl rfl)
theorem dJ1_newCapacity_10 : decode cJ1_newCapacity 10 = .ok (.istore 4, 2) := dk_54 4 (dk_at dksJ1_newCapacity_0 10 rfl rfl)
theorem dJ1_newCapacity_12 : decode cJ1_newCapacity 12 = .ok (.ldc 9, 2) := dk_18 9 (dk_at dksJ1_newCapacity_0 12 rfl rfl)
theorem dJ1_newCapacity_14 : decode cJ1_newCapacity 14 = .ok (.isub, 1) := dk_100 (dk_at dksJ1_newCapacity_0 14 rfl rfl)
theorem dJ1_newCapacity_15 : decode cJ1_newCapacity 15 = .ok (.ifCond .le 21, 3) := dk_158 0 21 (dk_at dksJ1_newCapacity_0 15 rfl rfl)
theorem dJ1_newCapacity_18 : decode cJ1_newCapacity 18 = .ok (.iload 4, 2) := dk_21 4 (dk_at dksJ1_newCapacity_0 18 rfl rfl)
theorem dJ1_newCapacity_20 : decode cJ1_newCapacity 20 = .ok (.ifCond .ge 13, 3) := dk_156 0 13 (dk_at dksJ1_newCapacity_0 20 rfl rfl)
theorem dJ1_newCapacity_23 : decode cJ1_newCapacity 23 = .ok (.new 33, 3) := dk_187 0 33 (dk_at dksJ1_newCapacity_1 0 rfl rfl)
theorem dJ1_newCapacity_26 : decode cJ1_newCapacity 26 = .ok (.dup, 1) := dk_89 (dk_at dksJ1_newCapacity_1 3 rfl rfl)
theorem dJ1_newCapacity_27 : decode cJ1_newCapacity 27 = .ok (.ldc 35, 2) := dk_18 35 (dk_at dksJ1_newCapacity_1 4 rfl rfl)
theorem dJ1_newCapacity_29 : decode cJ1_newCapacity 29 = .ok (.invokespecial 37, 3) := dk_183 0 37 (dk_at dksJ1_newCapacity_1 6 rfl rfl)
theorem dJ1_newCapacity_32 : decode cJ1_newCapacity 32 = .ok (.athrow, 1) := dk_191 (dk_at dksJ1_newCapacity_1 9 rfl rfl)
theorem dJ1_newCapacity_33 : decode cJ1_newCapacity 33 = .ok (.ldc 41, 2) := dk_18 41 (dk_at dksJ1_newCapacity_1 10 rfl rfl)
theorem dJ1_newCapacity_35 : decode cJ1_newCapacity 35 = .ok (.ireturn, 1) := dk_172 (dk_at dksJ1_newCapacity_1 12 rfl rfl)
theorem dJ1_newCapacity_36 : decode cJ1_newCapacity 36 = .ok (.iload_n 1, 1) := dk_27 (dk_at dksJ1_newCapacity_1 13 rfl rfl)
theorem dJ1_newCapacity_37 : decode cJ1_newCapacity 37 = .ok (.iload_n 2, 1) := dk_28 (dk_at dksJ1_newCapacity_1 14 rfl rfl)
theorem dJ1_newCapacity_38 : decode cJ1_newCapacity 38 = .ok (.if_icmp .le 6, 3) := dk_164 0 6 (dk_at dksJ1_newCapacity_1 15 rfl rfl)
theorem dJ1_newCapacity_41 : decode cJ1_newCapacity 41 = .ok (.iload 4, 2) := dk_21 4 (dk_at dksJ1_newCapacity_1 18 rfl rfl)
theorem dJ1_newCapacity_43 : decode cJ1_newCapacity 43 = .ok (.ireturn, 1) := dk_172 (dk_at dksJ1_newCapacity_1 20 rfl rfl)
theorem dJ1_newCapacity_44 : decode cJ1_newCapacity 44 = .ok (.iload_n 3, 1) := dk_29 (dk_at dksJ1_newCapacity_1 21 rfl rfl)
theorem dJ1_newCapacity_45 : decode cJ1_newCapacity 45 = .ok (.iload_n 2, 1) := dk_28 (dk_at dksJ1_newCapacity_1 22 rfl rfl)
theorem dJ1_newCapacity_46 : decode cJ1_newCapacity 46 = .ok (.iadd, 1) := dk_96 (dk_at dksJ1_newCapacity_1 23 rfl rfl)
theorem dJ1_newCapacity_47 : decode cJ1_newCapacity 47 = .ok (.ldc 9, 2) := dk_18 9 (dk_at dksJ1_newCapacity_2 0 rfl rfl)
theorem dJ1_newCapacity_49 : decode cJ1_newCapacity 49 = .ok (.isub, 1) := dk_100 (dk_at dksJ1_newCapacity_2 2 rfl rfl)
theorem dJ1_newCapacity_50 : decode cJ1_newCapacity 50 = .ok (.ifCond .ge 9, 3) := dk_156 0 9 (dk_at dksJ1_newCapacity_2 3 rfl rfl)
theorem dJ1_newCapacity_53 : decode cJ1_newCapacity 53 = .ok (.iload_n 3, 1) := dk_29 (dk_at dksJ1_newCapacity_2 6 rfl rfl)
theorem dJ1_newCapacity_54 : decode cJ1_newCapacity 54 = .ok (.iload_n 2, 1) := dk_28 (dk_at dksJ1_newCapacity_2 7 rfl rfl)
theorem dJ1_newCapacity_55 : decode cJ1_newCapacity 55 = .ok (.iadd, 1) := dk_96 (dk_at dksJ1_newCapacity_2 8 rfl rfl)
theorem dJ1_newCapacity_56 : decode cJ1_newCapacity 56 = .ok (.goto 5, 3) := dk_167 0 5 (dk_at dksJ1_newCapacity_2 9 rfl rfl)
theorem dJ1_newCapacity_59 : decode cJ1_newCapacity 59 = .ok (.ldc 9, 2) := dk_18 9 (dk_at dksJ1_newCapacity_2 12 rfl rfl)
theorem dJ1_newCapacity_61 : decode cJ1_newCapacity 61 = .ok (.ireturn, 1) := dk_172 (dk_at dksJ1_newCapacity_2 14 rfl rfl)
def dkwJ1_iterator_0 : List UInt8 := [187, 0, 131, 89, 42, 183, 0, 133, 176]
abbrev dktJ1_iterator_0 : List UInt8 := dkwJ1_iterator_0 ++ []
theorem dksJ1_iterator_0 : cJ1_iterator.data.toList.drop 0 = dktJ1_iterator_0 := by decide +kernel
theorem dJ1_iterator_0 : decode cJ1_iterator 0 = .ok (.new 131, 3) := dk_187 0 131 (dk_at dksJ1_iterator_0 0 rfl rfl)
theorem dJ1_iterator_3 : decode cJ1_iterator 3 = .ok (.dup, 1) := dk_89 (dk_at dksJ1_iterator_0 3 rfl rfl)
theorem dJ1_iterator_4 : decode cJ1_iterator 4 = .ok (.aload_n 0, 1) := dk_42 (dk_at dksJ1_iterator_0 4 rfl rfl)
theorem dJ1_iterator_5 : decode cJ1_iterator 5 = .ok (.invokespecial 133, 3) := dk_183 0 133 (dk_at dksJ1_iterator_0 5 rfl rfl)
theorem dJ1_iterator_8 : decode cJ1_iterator 8 = .ok (.areturn, 1) := dk_176 (dk_at dksJ1_iterator_0 8 rfl rfl)
def dkwJ1_nonNullElementAt_0 : List UInt8 := [42, 27, 50, 77, 44, 199, 0, 11, 187, 0, 62, 89, 183, 0, 64, 191, 44, 176]
abbrev dktJ1_nonNullElementAt_0 : List UInt8 := dkwJ1_nonNullElementAt_0 ++ []
theorem dksJ1_nonNullElementAt_0 : cJ1_nonNullElementAt.data.toList.drop 0 = dktJ1_nonNullElementAt_0 := by decide +kernel
theorem dJ1_nonNullElementAt_0 : decode cJ1_nonNullElementAt 0 = .ok (.aload_n 0, 1) := dk_42 (dk_at dksJ1_nonNullElementAt_0 0 rfl rfl)
theorem dJ1_nonNullElementAt_1 : decode cJ1_nonNullElementAt 1 = .ok (.iload_n 1, 1) := dk_27 (dk_at dksJ1_nonNullElementAt_0 1 rfl rfl)
theorem dJ1_nonNullElementAt_2 : decode cJ1_nonNullElementAt 2 = .ok (.aaload, 1) := dk_50 (dk_at dksJ1_nonNullElementAt_0 2 rfl rfl)
theorem dJ1_nonNullElementAt_3 : decode cJ1_nonNullElementAt 3 = .ok (.astore_n 2, 1) := dk_77 (dk_at dksJ1_nonNullElementAt_0 3 rfl rfl)
theorem dJ1_nonNullElementAt_4 : decode cJ1_nonNullElementAt 4 = .ok (.aload_n 2, 1) := dk_44 (dk_at dksJ1_nonNullElementAt_0 4 rfl rfl)
theorem dJ1_nonNullElementAt_5 : decode cJ1_nonNullElementAt 5 = .ok (.ifnonnull 11, 3) := dk_199 0 11 (dk_at dksJ1_nonNullElementAt_0 5 rfl rfl)
theorem dJ1_nonNullElementAt_8 : decode cJ1_nonNullElementAt 8 = .ok (.new 62, 3) := dk_187 0 62 (dk_at dksJ1_nonNullElementAt_0 8 rfl rfl)
theorem dJ1_nonNullElementAt_11 : decode cJ1_nonNullElementAt 11 = .ok (.dup, 1) := dk_89 (dk_at dksJ1_nonNullElementAt_0 11 rfl rfl)
theorem dJ1_nonNullElementAt_12 : decode cJ1_nonNullElementAt 12 = .ok (.invokespecial 64, 3) := dk_183 0 64 (dk_at dksJ1_nonNullElementAt_0 12 rfl rfl)
theorem dJ1_nonNullElementAt_15 : decode cJ1_nonNullElementAt 15 = .ok (.athrow, 1) := dk_191 (dk_at dksJ1_nonNullElementAt_0 15 rfl rfl)
theorem dJ1_nonNullElementAt_16 : decode cJ1_nonNullElementAt 16 = .ok (.aload_n 2, 1) := dk_44 (dk_at dksJ1_nonNullElementAt_0 16 rfl rfl)
theorem dJ1_nonNullElementAt_17 : decode cJ1_nonNullElementAt 17 = .ok (.areturn, 1) := dk_176 (dk_at dksJ1_nonNullElementAt_0 17 rfl rfl)
def dkwJ1_inc_0 : List UInt8 := [132, 0, 1, 26, 27, 161, 0, 5, 3, 59, 26, 172]
abbrev dktJ1_inc_0 : List UInt8 := dkwJ1_inc_0 ++ []
theorem dksJ1_inc_0 : cJ1_inc.data.toList.drop 0 = dktJ1_inc_0 := by decide +kernel
theorem dJ1_inc_0 : decode cJ1_inc 0 = .ok (.iinc 0 1, 3) := dk_132 0 1 (dk_at dksJ1_inc_0 0 rfl rfl)
theorem dJ1_inc_3 : decode cJ1_inc 3 = .ok (.iload_n 0, 1) := dk_26 (dk_at dksJ1_inc_0 3 rfl rfl)
theorem dJ1_inc_4 : decode cJ1_inc 4 = .ok (.iload_n 1, 1) := dk_27 (dk_at dksJ1_inc_0 4 rfl rfl)
theorem dJ1_inc_5 : decode cJ1_inc 5 = .ok (.if_icmp .lt 5, 3) := dk_161 0 5 (dk_at dksJ1_inc_0 5 rfl rfl)
theorem dJ1_inc_8 : decode cJ1_inc 8 = .ok (.iconst 0, 1) := dk_3 (dk_at dksJ1_inc_0 8 rfl rfl)
theorem dJ1_inc_9 : decode cJ1_inc 9 = .ok (.istore_n 0, 1) := dk_59 (dk_at dksJ1_inc_0 9 rfl rfl)
theorem dJ1_inc_10 : decode cJ1_inc 10 = .ok (.iload_n 0, 1) := dk_26 (dk_at dksJ1_inc_0 10 rfl rfl)
theorem dJ1_inc_11 : decode cJ1_inc 11 = .ok (.ireturn, 1) := dk_172 (dk_at dksJ1_inc_0 11 rfl rfl)
def dkwJ1_isEmpty_0 : List UInt8 := [42, 180, 0, 24, 42, 180, 0, 20, 160, 0, 7, 4, 167, 0, 4, 3, 172]
abbrev dktJ1_isEmpty_0 : List UInt8 := dkwJ1_isEmpty_0 ++ []
theorem dksJ1_isEmpty_0 : cJ1_isEmpty.data.toList.drop 0 = dktJ1_isEmpty_0 := by decide +kernel
theorem dJ1_isEmpty_0 : decode cJ1_isEmpty 0 = .ok (.aload_n 0, 1) := dk_42 (dk_at dksJ1_isEmpty_0 0 rfl rfl)
theorem dJ1_isEmpty_1 : decode cJ1_isEmpty 1 = .ok (.getfield 24, 3) := dk_180 0 24 (dk_at dksJ1_isEmpty_0 1 rfl rfl)
theorem dJ1_isEmpty_4 : decode cJ1_isEmpty 4 = .ok (.aload_n 0, 1) := dk_42 (dk_at dksJ1_isEmpty_0 4 rfl rfl)
theorem dJ1_isEmpty_5 : decode cJ1_isEmpty 5 = .ok (.getfield 20, 3) := dk_180 0 20 (dk_at dksJ1_isEmpty_0 5 rfl rfl)
theorem dJ1_isEmpty_8 : decode cJ1_isEmpty 8 = .ok (.if_icmp .ne 7, 3) := dk_160 0 7 (dk_at dksJ1_isEmpty_0 8 rfl rfl)
theorem dJ1_isEmpty_11 : decode cJ1_isEmpty 11 = .ok (.iconst 1, 1) := dk_4 (dk_at dksJ1_isEmpty_0 11 rfl rfl)
theorem dJ1_isEmpty_12 : decode cJ1_isEmpty 12 = .ok (.goto 4, 3) := dk_167 0 4 (dk_at dksJ1_isEmpty_0 12 rfl rfl)
theorem dJ1_isEmpty_15 : decode cJ1_isEmpty 15 = .ok (.iconst 0, 1) := dk_3 (dk_at dksJ1_isEmpty_0 15 rfl rfl)
theorem dJ1_isEmpty_16 : decode cJ1_isEmpty 16 = .ok (.ireturn, 1) := dk_172 (dk_at dksJ1_isEmpty_0 16 rfl rfl)
theorem dJ1_pop_0 : decode cJ1_pop 0 = .ok (.aload_n 0, 1) := by decide +kernel
theorem dJ1_pop_1 : decode cJ1_pop 1 = .ok (.invokevirtual 118, 3) := by decide +kernel
theorem dJ1_pop_4 : decode cJ1_pop 4 = .ok (.areturn, 1) := by decide +kernel
def dkwJ1_removeFirst_0 : List UInt8 := [42, 182, 0, 93, 76, 43, 199, 0, 11, 187, 0, 97, 89, 183, 0, 99, 191, 43, 176]
abbrev dktJ1_removeFirst_0 : List UInt8 := dkwJ1_removeFirst_0 ++ []
theorem dksJ1_removeFirst_0 : cJ1_removeFirst.data.toList.drop 0 = dktJ1_removeFirst_0 := by decide +kernel
theorem dJ1_removeFirst_0 : decode cJ1_removeFirst 0 = .ok (.aload_n 0, 1) := dk_42 (dk_at dksJ1_removeFirst_0 0 rfl rfl)
theorem dJ1_removeFirst_1 : decode cJ1_removeFirst 1 = .ok (.invokevirtual 93, 3) := dk_182 0 93 (dk_at dksJ1_removeFirst_0 1 rfl rfl)
theorem dJ1_removeFirst_4 : decode cJ1_removeFirst 4 = .ok (.astore_n 1, 1) := dk_76 (dk_at dksJ1_removeFirst_0 4 rfl rfl)
theorem dJ1_removeFirst_5 : decode cJ1_removeFirst 5 = .ok (.aload_n 1, 1) := dk_43 (dk_at dksJ1_removeFirst_0 5 rfl rfl)
theorem dJ1_removeFirst_6 : decode cJ1_removeFirst 6 = .ok (.ifnonnull 11, 3) := dk_199 0 11 (dk_at dksJ1_removeFirst_0 6 rfl rfl)
theorem dJ1_removeFirst_9 : decode cJ1_removeFirst 9 = .ok (.new 97, 3) := dk_187 0 97 (dk_at dksJ1_removeFirst_0 9 rfl rfl)
theorem dJ1_removeFirst_12 : decode cJ1_removeFirst 12 = .ok (.dup, 1) := dk_89 (dk_at dksJ1_removeFirst_0 12 rfl rfl)
theorem dJ1_removeFirst_13 : decode cJ1_removeFirst 13 = .ok (.invokespecial 99, 3) := dk_183 0 99 (dk_at dksJ1_removeFirst_0 13 rfl rfl)
theorem dJ1_removeFirst_16 : decode cJ1_removeFirst 16 = .ok (.athrow, 1) := dk_191 (dk_at dksJ1_removeFirst_0 16 rfl rfl)
theorem dJ1_removeFirst_17 : decode cJ1_removeFirst 17 = .ok (.aload_n 1, 1) := dk_43 (dk_at dksJ1_removeFirst_0 17 rfl rfl)
theorem dJ1_removeFirst_18 : decode cJ1_removeFirst 18 = .ok (.areturn, 1) := dk_176 (dk_at dksJ1_removeFirst_0 18 rfl rfl)
def dkwJ1_pollFirst_1 : List UInt8 := [42, 28, 43, 190, 184, 0, 74, 181, 0, 24, 45, 176]
abbrev dktJ1_pollFirst_1 : List UInt8 := dkwJ1_pollFirst_1 ++ []
def dkwJ1_pollFirst_0 : List UInt8 := [42, 180, 0, 3, 89, 76, 42, 180, 0, 24, 89, 61, 184, 0, 103, 78, 45, 198, 0, 17, 43, 28, 1, 83]
abbrev dktJ1_pollFirst_0 : List UInt8 := dkwJ1_pollFirst_0 ++ dktJ1_pollFirst_1
theorem dksJ1_pollFirst_0 : cJ1_pollFirst.data.toList.drop 0 = dktJ1_pollFirst_0 := by decide +kernel
theorem dksJ1_pollFirst_1 : cJ1_pollFirst.data.toList.drop 24 = dktJ1_pollFirst_1 := dk_seg dksJ1_pollFirst_0 24 rfl rfl
theorem dJ1_pollFirst_0 : decode cJ1_pollFirst 0 = .ok (.aload_n 0, 1) := dk_42 (dk_at dksJ1_pollFirst_0 0 rfl rfl)
theorem dJ1_pollFirst_1 : decode cJ1_pollFirst 1 = .ok (.getfield 3, 3) := dk_180 0 3 (dk_at dksJ1_pollFirst_0 1 rfl rfl)
theorem dJ1_pollFirst_4 : decode cJ1_pollFirst 4 = .ok (.dup, 1) := dk_89 (dk_at dksJ1_pollFirst_0 4 rfl rfl)
theorem dJ1_pollFirst_5 : decode cJ1_pollFirst 5 = .ok (.astore_n 1, 1) := dk_76 (dk_at dksJ1_pollFirst_0 5 rfl rfl)
theorem dJ1_pollFirst_6 : decode cJ1_pollFirst 6 = .ok (.aload_n 0, 1) := dk_42 (dk_at dksJ1_pollFirst_0 6 rfl rfl)
theorem dJ1_pollFirst_7 : decode cJ1_pollFirst 7 = .ok (.getfield 24, 3) := dk_180 0 24 (dk_at dksJ1_pollFirst_0 7 rfl rfl)
theorem dJ1_pollFirst_10 : decode cJ1_pollFirst 10 = .ok (.dup, 1) := dk_89 (dk_at dksJ1_pollFirst_0 10 rfl rfl)
theorem dJ1_pollFirst_11 : decode cJ1_pollFirst 11 = .ok (.istore_n 2, 1) := dk_61 (dk_at dksJ1_pollFirst_0 11 rfl rfl)
theorem dJ1_pollFirst_12 : decode cJ1_pollFirst 12 = .ok (.invokestatic 103, 3) := dk_184 0 103 (dk_at dksJ1_pollFirst_0 12 rfl rfl)
theorem dJ1_pollFirst_15 : decode cJ1_pollFirst 15 = .ok (.astore_n 3, 1) := dk_78 (dk_at dksJ1_pollFirst_0 15 rfl rfl)
theorem dJ1_pollFirst_16 : decode cJ1_pollFirst 16 = .ok (.aload_n 3, 1) := dk_45 (dk_at dksJ1_pollFirst_0 16 rfl rfl)
theorem dJ1_pollFirst_17 : decode cJ1_pollFirst 17 = .ok (.ifnull 17, 3) := dk_198 0 17 (dk_at dksJ1_pollFirst_0 17 rfl rfl)
theorem dJ1_pollFirst_20 : decode cJ1_pollFirst 20 = .ok (.aload_n 1, 1) := dk_43 (dk_at dksJ1_pollFirst_0 20 rfl rfl)
theorem dJ1_pollFirst_21 : decode cJ1_pollFirst 21 = .ok (.iload_n 2, 1) := dk_28 (dk_at dksJ1_pollFirst_0 21 rfl rfl)
theorem dJ1_pollFirst_22 : decode cJ1_pollFirst 22 = .ok (.aconst_null, 1) := dk_1 (dk_at dksJ1_pollFirst_0 22 rfl rfl)
theorem dJ1_pollFirst_23 : decode cJ1_pollFirst 23 = .ok (.aastore, 1) := dk_83 (dk_at dksJ1_pollFirst_0 23 rfl rfl)
theorem dJ1_pollFirst_24 : decode cJ1_pollFirst 24 = .ok (.aload_n 0, 1) := dk_42 (dk_at dksJ1_pollFirst_1 0 rfl rfl)
theorem dJ1_pollFirst_25 : decode cJ1_pollFirst 25 = .ok (.iload_n 2, 1) := dk_28 (dk_at dksJ1_pollFirst_1 1 rfl rfl)
theorem dJ1_pollFirst_26 : decode cJ1_pollFirst 26 = .ok (.aload_n 1, 1) := dk_43 (dk_at dksJ1_pollFirst_1 2 rfl rfl)
theorem dJ1_pollFirst_27 : decode cJ1_pollFirst 27 = .ok (.arraylength, 1) := dk_190 (dk_at dksJ1_pollFirst_1 3 rfl rfl)
theorem dJ1_pollFirst_28 : decode cJ1_pollFirst 28 = .ok (.invokestatic 74, 3) := dk_184 0 74 (dk_at dksJ1_pollFirst_1 4 rfl rfl)
theorem dJ1_pollFirst_31 : decode cJ1_pollFirst 31 = .ok (.putfield 24, 3) := dk_181 0 24 (dk_at dksJ1_pollFirst_1 7 rfl rfl)
theorem dJ1_pollFirst_34 : decode cJ1_pollFirst 34 = .ok (.aload_n 3, 1) := dk_45 (dk_at dksJ1_pollFirst_1 10 rfl rfl)
theorem dJ1_pollFirst_35 : decode cJ1_pollFirst 35 = .ok (.areturn, 1) := dk_176 (dk_at dksJ1_pollFirst_1 11 rfl rfl)
def dkwJ1_clear_1 : List UInt8 := [181, 0, 24, 177]
abbrev dktJ1_clear_1 : List UInt8 := dkwJ1_clear_1 ++ []
def dkwJ1_clear_0 : List UInt8 := [42, 180, 0, 3, 42, 180, 0, 24, 42, 180, 0, 20, 184, 0, 181, 42, 42, 3, 90, 181, 0, 20]
abbrev dktJ1_clear_0 : List UInt8 := dkwJ1_clear_0 ++ dktJ1_clear_1
theorem dksJ1_clear_0 : cJ1_clear.data.toList.drop 0 = dktJ1_clear_0 := by decide +kernel
theorem dksJ1_clear_1 : cJ1_clear.data.toList.drop 22 = dktJ1_clear_1 := dk_seg dksJ1_clear_0 22 rfl rfl
theorem dJ1_clear_0 : decode cJ1_clear 0 = .ok (.aload_n 0, 1) := dk_42 (dk_at dksJ1_clear_0 0 rfl rfl)
theorem dJ1_clear_1 : decode cJ1_clear 1 = .ok (.getfield 3, 3) := dk_180 0 3 (dk_at dksJ1_clear_0 1 rfl rfl)
theorem dJ1_clear_4 : decode cJ1_clear 4 = .ok (.aload_n 0, 1) := dk_42 (dk_at dksJ1_clear_0 4 rfl rfl)
theorem dJ1_clear_5 : decode cJ1_clear 5 = .ok (.getfield 24, 3) := dk_180 0 24 (dk_at dksJ1_clear_0 5 rfl rfl)
theorem dJ1_clear_8 : decode cJ1_clear 8 = .ok (.aload_n 0, 1) := dk_42 (dk_at dksJ1_clear_0 8 rfl rfl)
theorem dJ1_clear_9 : decode cJ1_clear 9 = .ok (.getfield 20, 3) := dk_180 0 20 (dk_at dksJ1_clear_0 9 rfl rfl)
theorem dJ1_clear_12 : decode cJ1_clear 12 = .ok (.invokestatic 181, 3) := dk_184 0 181 (dk_at dksJ1_clear_0 12 rfl rfl)
theorem dJ1_clear_15 : decode cJ1_clear 15 = .ok (.aload_n 0, 1) := dk_42 (dk_at dksJ1_clear_0 15 rfl rfl)
theorem dJ1_clear_16 : decode cJ1_clear 16 = .ok (.aload_n 0, 1) := dk_42 (dk_at dksJ1_clear_0 16 rfl rfl)
theorem dJ1_clear_17 : decode cJ1_clear 17 = .ok (.iconst 0, 1) := dk_3 (dk_at dksJ1_clear_0 17 rfl rfl)
theorem dJ1_clear_18 : decode cJ1_clear 18 = .ok (.dup_x1, 1) := dk_90 (dk_at dksJ1_clear_0 18 rfl rfl)
theorem dJ1_clear_19 : decode cJ1_clear 19 = .ok (.putfield 20, 3) := dk_181 0 20 (dk_at dksJ1_clear_0 19 rfl rfl)
theorem dJ1_clear_22 : decode cJ1_clear 22 = .ok (.putfield 24, 3) := dk_181 0 24 (dk_at dksJ1_clear_1 0 rfl rfl)
theorem dJ1_clear_25 : decode cJ1_clear 25 = .ok (.return_, 1) := dk_177 (dk_at dksJ1_clear_1 3 rfl rfl)
def dkwJ1_circularClear_1 : List UInt8 := [167, 255, 244, 29, 28, 160, 0, 6, 167, 0, 10, 3, 60, 28, 62, 167, 255, 229, 177]
abbrev dktJ1_circularClear_1 : List UInt8 := dkwJ1_circularClear_1 ++ []
def dkwJ1_circularClear_0 : List UInt8 := [27, 28, 163, 0, 7, 28, 167, 0, 5, 42, 190, 62, 27, 29, 162, 0, 13, 42, 27, 1, 83, 132, 1, 1]
abbrev dktJ1_circularClear_0 : List UInt8 := dkwJ1_circularClear_0 ++ dktJ1_circularClear_1
theorem dksJ1_circularClear_0 : cJ1_circularClear.data.toList.drop 0 = dktJ1_circularClear_0 := by decide +kernel
theorem dksJ1_circularClear_1 : cJ1_circularClear.data.toList.drop 24 = dktJ1_circularClear_1 := dk_seg dksJ1_circularClear_0 24 rfl rfl
theorem dJ1_circularClear_0 : decode cJ1_circularClear 0 = .ok (.iload_n 1, 1) := dk_27 (dk_at dksJ1_circularClear_0 0 rfl rfl)
theorem dJ1_circularClear_1 : decode cJ1_circularClear 1 = .ok (.iload_n 2, 1) := dk_28 (dk_at dksJ1_circularClear_0 1 rfl rfl)
theorem dJ1_circularClear_2 : decode cJ1_circularClear 2 = .ok (.if_icmp .gt 7, 3) := dk_163 0 7 (dk_at dksJ1_circularClear_0 2 rfl rfl)
theorem dJ1_circularClear_5 : decode cJ1_circularClear 5 = .ok (.iload_n 2, 1) := dk_28 (dk_at dksJ1_circularClear_0 5 rfl rfl)
theorem dJ1_circularClear_6 : decode cJ1_circularClear 6 = .ok (.goto 5, 3) := dk_167 0 5 (dk_at dksJ1_circularClear_0 6 rfl rfl)
theorem dJ1_circularClear_9 : decode cJ1_circularClear 9 = .ok (.aload_n 0, 1) := dk_42 (dk_at dksJ1_circularClear_0 9 rfl rfl)
theorem dJ1_circularClear_10 : decode cJ1_circularClear 10 = .ok (.arraylength, 1) := dk_190 (dk_at dksJ1_circularClear_0 10 rfl rfl)
theorem dJ1_circularClear_11 : decode cJ1_circularClear 11 = .ok (.istore_n 3, 1) := dk_62 (dk_at dksJ1_circularClear_0 11 rfl rfl)
theorem dJ1_circularClear_12 : decode cJ1_circularClear 12 = .ok (.iload_n 1, 1) := dk_27 (dk_at dksJ1_circularClear_0 12 rfl rfl)
theorem dJ1_circularClear_13 : decode cJ1_circularClear 13 = .ok (.iload_n 3, 1) := dk_29 (dk_at dksJ1_circularClear_0 13 rfl rfl)
theorem dJ1_circularClear_14 : decode cJ1_circularClear 14 = .ok (.if_icmp .ge 13, 3) := dk_162 0 13 (dk_at dksJ1_circularClear_0 14 rfl rfl)
theorem dJ1_circularClear_17 : decode cJ1_circularClear 17 = .ok (.aload_n 0, 1) := dk_42 (dk_at dksJ1_circularClear_0 17 rfl rfl)
theorem dJ1_circularClear_18 : decode cJ1_circularClear 18 = .ok (.iload_n 1, 1) := dk_27 (dk_at dksJ1_circularClear_0 18 rfl rfl)
theorem dJ1_circularClear_19 : decode cJ1_circularClear 19 = .ok (.aconst_null, 1) := dk_1 (dk_at dksJ1_circularClear_0 19 rfl rfl)
theorem dJ1_circularClear_20 : decode cJ1_circularClear 20 = .ok (.aastore, 1) := dk_83 (dk_at dksJ1_circularClear_0 20 rfl rfl)
theorem dJ1_circularClear_21 : decode cJ1_circularClear 21 = .ok (.iinc 1 1, 3) := dk_132 1 1 (dk_at dksJ1_circularClear_0 21 rfl rfl)
theorem dJ1_circularClear_24 : decode cJ1_circularClear 24 = .ok (.goto (-12), 3) := dk_167 255 244 (dk_at dksJ1_circularClear_1 0 rfl rfl)
theorem dJ1_circularClear_27 : decode cJ1_circularClear 27 = .ok (.iload_n 3, 1) := dk_29 (dk_at dksJ1_circularClear_1 3 rfl rfl)
theorem dJ1_circularClear_28 : decode cJ1_circularClear 28 = .ok (.iload_n 2, 1) := dk_28 (dk_at dksJ1_circularClear_1 4 rfl rfl)
theorem dJ1_circularClear_29 : decode cJ1_circularClear 29 = .ok (.if_icmp .ne 6, 3) := dk_160 0 6 (dk_at dksJ1_circularClear_1 5 rfl rfl)
theorem dJ1_circularClear_32 : decode cJ1_circularClear 32 = .ok (.goto 10, 3) := dk_167 0 10 (dk_at dksJ1_circularClear_1 8 rfl rfl)
theorem dJ1_circularClear_35 : decode cJ1_circularClear 35 = .ok (.iconst 0, 1) := dk_3 (dk_at dksJ1_circularClear_1 11 rfl rfl)
theorem dJ1_circularClear_36 : decode cJ1_circularClear 36 = .ok (.istore_n 1, 1) := dk_60 (dk_at dksJ1_circularClear_1 12 rfl rfl)
theorem dJ1_circularClear_37 : decode cJ1_circularClear 37 = .ok (.iload_n 2, 1) := dk_28 (dk_at dksJ1_circularClear_1 13 rfl rfl)
theorem dJ1_circularClear_38 : decode cJ1_circularClear 38 = .ok (.istore_n 3, 1) := dk_62 (dk_at dksJ1_circularClear_1 14 rfl rfl)
theorem dJ1_circularClear_39 : decode cJ1_circularClear 39 = .ok (.goto (-27), 3) := dk_167 255 229 (dk_at dksJ1_circularClear_1 15 rfl rfl)
theorem dJ1_circularClear_42 : decode cJ1_circularClear 42 = .ok (.return_, 1) := dk_177 (dk_at dksJ1_circularClear_1 18 rfl rfl)
