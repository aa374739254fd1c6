set_option maxRecDepth 100000
def dkwJ4_indexOf_0 : List UInt8 := [42, 27, 3, 182, 2, 121, 172]
abbrev dktJ4_indexOf_0 : List UInt8 := dkwJ4_indexOf_0 ++ []
theorem dksJ4_indexOf_0 : cJ4_indexOf.data.toList.drop 0 = dktJ4_indexOf_0 := by decide +kernel
theorem dJ4_indexOf_0 : decode cJ4_indexOf 0 = .ok (.aload_n 0, 1) := dk_42 (dk_at dksJ4_indexOf_0 0 rfl rfl)
theorem dJ4_indexOf_1 : decode cJ4_indexOf 1 = .ok (.iload_n 1, 1) := dk_27 (dk_at dksJ4_indexOf_0 1 rfl rfl)
theorem dJ4_indexOf_2 : decode cJ4_indexOf 2 = .ok (.iconst 0, 1) := dk_3 (dk_at dksJ4_indexOf_0 2 rfl rfl)
theorem dJ4_indexOf_3 : decode cJ4_indexOf 3 = .ok (.invokevirtual 633, 3) := dk_182 2 121 (dk_at dksJ4_indexOf_0 3 rfl rfl)
theorem dJ4_indexOf_6 : decode cJ4_indexOf 6 = .ok (.ireturn, 1) := dk_172 (dk_at dksJ4_indexOf_0 6 rfl rfl)
def dkwJ4_indexOf_2_1 : List UInt8 := [180, 0, 9, 27, 28, 42, 182, 1, 249, 184, 2, 128, 172]
abbrev dktJ4_indexOf_2_1 : List UInt8 := dkwJ4_indexOf_2_1 ++ []
def dkwJ4_indexOf_2_0 : List UInt8 := [42, 182, 1, 236, 153, 0, 19, 42, 180, 0, 9, 27, 28, 42, 182, 1, 249, 184, 2, 125, 167, 0, 16, 42]
abbrev dktJ4_indexOf_2_0 : List UInt8 := dkwJ4_indexOf_2_0 ++ dktJ4_indexOf_2_1
theorem dksJ4_indexOf_2_0 : cJ4_indexOf_2.data.toList.drop 0 = dktJ4_indexOf_2_0 := by decide +kernel
theorem dksJ4_indexOf_2_1 : cJ4_indexOf_2.data.toList.drop 24 = dktJ4_indexOf_2_1 := dk_seg dksJ4_indexOf_2_0 24 rfl rfl
theorem dJ4_indexOf_2_0 : decode cJ4_indexOf_2 0 = .ok (.aload_n 0, 1) := dk_42 (dk_at dksJ4_indexOf_2_0 0 rfl rfl)
theorem dJ4_indexOf_2_1 : decode cJ4_indexOf_2 1 = .ok (.invokevirtual 492, 3) := dk_182 1 236 (dk_at dksJ4_indexOf_2_0 1 rfl rfl)
theorem dJ4_indexOf_2_4 : decode cJ4_indexOf_2 4 = .ok (.ifCond .eq 19, 3) := dk_153 0 19 (dk_at dksJ4_indexOf_2_0 4 rfl rfl)
theorem dJ4_indexOf_2_7 : decode cJ4_indexOf_2 7 = .ok (.aload_n 0, 1) := dk_42 (dk_at dksJ4_indexOf_2_0 7 rfl rfl)
theorem dJ4_indexOf_2_8 : decode cJ4_indexOf_2 8 = .ok (.getfield 9, 3) := dk_180 0 9 (dk_at dksJ4_indexOf_2_0 8 rfl rfl)
theorem dJ4_indexOf_2_11 : decode cJ4_indexOf_2 11 = .ok (.iload_n 1, 1) := dk_27 (dk_at dksJ4_indexOf_2_0 11 rfl rfl)
theorem dJ4_indexOf_2_12 : decode cJ4_indexOf_2 12 = .ok (.iload_n 2, 1) := dk_28 (dk_at dksJ4_indexOf_2_0 12 rfl rfl)
theorem dJ4_indexOf_2_13 : decode cJ4_indexOf_2 13 = .ok (.aload_n 0, 1) := dk_42 (dk_at dksJ4_indexOf_2_0 13 rfl rfl)
theorem dJ4_indexOf_2_14 : decode cJ4_indexOf_2 14 = .ok (.invokevirtual 505, 3) := dk_182 1 249 (dk_at dksJ4_indexOf_2_0 14 rfl rfl)
theorem dJ4_indexOf_2_17 : decode cJ4_indexOf_2 17 = .ok (.invokestatic 637, 3) := dk_184 2 125 (dk_at dksJ4_indexOf_2_0 17 rfl rfl)
theorem dJ4_indexOf_2_20 : decode cJ4_indexOf_2 20 = .ok (.goto 16, 3) := dk_167 0 16 (dk_at dksJ4_indexOf_2_0 20 rfl rfl)
theorem dJ4_indexOf_2_23 : decode cJ4_indexOf_2 23 = .ok (.aload_n 0, 1) := dk_42 (dk_at dksJ4_indexOf_2_0 23 rfl rfl)
theorem dJ4_indexOf_2_24 : decode cJ4_indexOf_2 24 = .ok (.getfield 9, 3) := dk_180 0 9 (dk_at dksJ4_indexOf_2_1 0 rfl rfl)
theorem dJ4_indexOf_2_27 : decode cJ4_indexOf_2 27 = .ok (.iload_n 1, 1) := dk_27 (dk_at dksJ4_indexOf_2_1 3 rfl rfl)
theorem dJ4_indexOf_2_28 : decode cJ4_indexOf_2 28 = .ok (.iload_n 2, 1) := dk_28 (dk_at dksJ4_indexOf_2_1 4 rfl rfl)
theorem dJ4_indexOf_2_29 : decode cJ4_indexOf_2 29 = .ok (.aload_n 0, 1) := dk_42 (dk_at dksJ4_indexOf_2_1 5 rfl rfl)
theorem dJ4_indexOf_2_30 : decode cJ4_indexOf_2 30 = .ok (.invokevirtual 505, 3) := dk_182 1 249 (dk_at dksJ4_indexOf_2_1 6 rfl rfl)
theorem dJ4_indexOf_2_33 : decode cJ4_indexOf_2 33 = .ok (.invokestatic 640, 3) := dk_184 2 128 (dk_at dksJ4_indexOf_2_1 9 rfl rfl)
theorem dJ4_indexOf_2_36 : decode cJ4_indexOf_2 36 = .ok (.ireturn, 1) := dk_172 (dk_at dksJ4_indexOf_2_1 12 rfl rfl)
def dkwJ4_isLatin1_0 : List UInt8 := [178, 0, 38, 153, 0, 14, 42, 180, 0, 15, 154, 0, 7, 4, 167, 0, 4, 3, 172]
abbrev dktJ4_isLatin1_0 : List UInt8 := dkwJ4_isLatin1_0 ++ []
theorem dksJ4_isLatin1_0 : cJ4_isLatin1.data.toList.drop 0 = dktJ4_isLatin1_0 := by decide +kernel
theorem dJ4_isLatin1_0 : decode cJ4_isLatin1 0 = .ok (.getstatic 38, 3) := dk_178 0 38 (dk_at dksJ4_isLatin1_0 0 rfl rfl)
theorem dJ4_isLatin1_3 : decode cJ4_isLatin1 3 = .ok (.ifCond .eq 14, 3) := dk_153 0 14 (dk_at dksJ4_isLatin1_0 3 rfl rfl)
theorem dJ4_isLatin1_6 : decode cJ4_isLatin1 6 = .ok (.aload_n 0, 1) := dk_42 (dk_at dksJ4_isLatin1_0 6 rfl rfl)
theorem dJ4_isLatin1_7 : decode cJ4_isLatin1 7 = .ok (.getfield 15, 3) := dk_180 0 15 (dk_at dksJ4_isLatin1_0 7 rfl rfl)
theorem dJ4_isLatin1_10 : decode cJ4_isLatin1 10 = .ok (.ifCond .ne 7, 3) := dk_154 0 7 (dk_at dksJ4_isLatin1_0 10 rfl rfl)
theorem dJ4_isLatin1_13 : decode cJ4_isLatin1 13 = .ok (.iconst 1, 1) := dk_4 (dk_at dksJ4_isLatin1_0 13 rfl rfl)
theorem dJ4_isLatin1_14 : decode cJ4_isLatin1 14 = .ok (.goto 4, 3) := dk_167 0 4 (dk_at dksJ4_isLatin1_0 14 rfl rfl)
theorem dJ4_isLatin1_17 : decode cJ4_isLatin1 17 = .ok (.iconst 0, 1) := dk_3 (dk_at dksJ4_isLatin1_0 17 rfl rfl)
theorem dJ4_isLatin1_18 : decode cJ4_isLatin1 18 = .ok (.ireturn, 1) := dk_172 (dk_at dksJ4_isLatin1_0 18 rfl rfl)
def dkwJ4_length_0 : List UInt8 := [42, 180, 0, 9, 190, 42, 182, 1, 79, 122, 172]
abbrev dktJ4_length_0 : List UInt8 := dkwJ4_length_0 ++ []
theorem dksJ4_length_0 : cJ4_length.data.toList.drop 0 = dktJ4_length_0 := by decide +kernel
theorem dJ4_length_0 : decode cJ4_length 0 = .ok (.aload_n 0, 1) := dk_42 (dk_at dksJ4_length_0 0 rfl rfl)
theorem dJ4_length_1 : decode cJ4_length 1 = .ok (.getfield 9, 3) := dk_180 0 9 (dk_at dksJ4_length_0 1 rfl rfl)
theorem dJ4_length_4 : decode cJ4_length 4 = .ok (.arraylength, 1) := dk_190 (dk_at dksJ4_length_0 4 rfl rfl)
theorem dJ4_length_5 : decode cJ4_length 5 = .ok (.aload_n 0, 1) := dk_42 (dk_at dksJ4_length_0 5 rfl rfl)
theorem dJ4_length_6 : decode cJ4_length 6 = .ok (.invokevirtual 335, 3) := dk_182 1 79 (dk_at dksJ4_length_0 6 rfl rfl)
theorem dJ4_length_9 : decode cJ4_length 9 = .ok (.ishr, 1) := dk_122 (dk_at dksJ4_length_0 9 rfl rfl)
theorem dJ4_length_10 : decode cJ4_length 10 = .ok (.ireturn, 1) := dk_172 (dk_at dksJ4_length_0 10 rfl rfl)
def dkwJ4_coder_0 : List UInt8 := [178, 0, 38, 153, 0, 10, 42, 180, 0, 15, 167, 0, 4, 4, 172]
abbrev dktJ4_coder_0 : List UInt8 := dkwJ4_coder_0 ++ []
theorem dksJ4_coder_0 : cJ4_coder.data.toList.drop 0 = dktJ4_coder_0 := by decide +kernel
theorem dJ4_coder_0 : decode cJ4_coder 0 = .ok (.getstatic 38, 3) := dk_178 0 38 (dk_at dksJ4_coder_0 0 rfl rfl)
theorem dJ4_coder_3 : decode cJ4_coder 3 = .ok (.ifCond .eq 10, 3) := dk_153 0 10 (dk_at dksJ4_coder_0 3 rfl rfl)
theorem dJ4_coder_6 : decode cJ4_coder 6 = .ok (.aload_n 0, 1) := dk_42 (dk_at dksJ4_coder_0 6 rfl rfl)
theorem dJ4_coder_7 : decode cJ4_coder 7 = .ok (.getfield 15, 3) := dk_180 0 15 (dk_at dksJ4_coder_0 7 rfl rfl)
theorem dJ4_coder_10 : decode cJ4_coder 10 = .ok (.goto 4, 3) := dk_167 0 4 (dk_at dksJ4_coder_0 10 rfl rfl)
theorem dJ4_coder_13 : decode cJ4_coder 13 = .ok (.iconst 1, 1) := dk_4 (dk_at dksJ4_coder_0 13 rfl rfl)
theorem dJ4_coder_14 : decode cJ4_coder 14 = .ok (.ireturn, 1) := dk_172 (dk_at dksJ4_coder_0 14 rfl rfl)
def dkwJ23_indexOf_1 : List UInt8 := [161, 0, 5, 2, 172, 42, 27, 28, 29, 184, 0, 95, 172]
abbrev dktJ23_indexOf_1 : List UInt8 := dkwJ23_indexOf_1 ++ []
def dkwJ23_indexOf_0 : List UInt8 := [27, 184, 0, 88, 154, 0, 5, 2, 172, 28, 3, 184, 0, 92, 61, 29, 42, 190, 184, 0, 38, 62, 28, 29]
abbrev dktJ23_indexOf_0 : List UInt8 := dkwJ23_indexOf_0 ++ dktJ23_indexOf_1
theorem dksJ23_indexOf_0 : cJ23_indexOf.data.toList.drop 0 = dktJ23_indexOf_0 := by decide +kernel
theorem dksJ23_indexOf_1 : cJ23_indexOf.data.toList.drop 24 = dktJ23_indexOf_1 := dk_seg dksJ23_indexOf_0 24 rfl rfl
theorem dJ23_indexOf_0 : decode cJ23_indexOf 0 = .ok (.iload_n 1, 1) := dk_27 (dk_at dksJ23_indexOf_0 0 rfl rfl)
theorem dJ23_indexOf_1 : decode cJ23_indexOf 1 = .ok (.invokestatic 88, 3) := dk_184 0 88 (dk_at dksJ23_indexOf_0 1 rfl rfl)
theorem dJ23_indexOf_4 : decode cJ23_indexOf 4 = .ok (.ifCond .ne 5, 3) := dk_154 0 5 (dk_at dksJ23_indexOf_0 4 rfl rfl)
theorem dJ23_indexOf_7 : decode cJ23_indexOf 7 = .ok (.iconst (-1), 1) := dk_2 (dk_at dksJ23_indexOf_0 7 rfl rfl)
theorem dJ23_indexOf_8 : decode cJ23_indexOf 8 = .ok (.ireturn, 1) := dk_172 (dk_at dksJ23_indexOf_0 8 rfl rfl)
theorem dJ23_indexOf_9 : decode cJ23_indexOf 9 = .ok (.iload_n 2, 1) := dk_28 (dk_at dksJ23_indexOf_0 9 rfl rfl)
theorem dJ23_indexOf_10 : decode cJ23_indexOf 10 = .ok (.iconst 0, 1) := dk_3 (dk_at dksJ23_indexOf_0 10 rfl rfl)
theorem dJ23_indexOf_11 : decode cJ23_indexOf 11 = .ok (.invokestatic 92, 3) := dk_184 0 92 (dk_at dksJ23_indexOf_0 11 rfl rfl)
theorem dJ23_indexOf_14 : decode cJ23_indexOf 14 = .ok (.istore_n 2, 1) := dk_61 (dk_at dksJ23_indexOf_0 14 rfl rfl)
theorem dJ23_indexOf_15 : decode cJ23_indexOf 15 = .ok (.iload_n 3, 1) := dk_29 (dk_at dksJ23_indexOf_0 15 rfl rfl)
theorem dJ23_indexOf_16 : decode cJ23_indexOf 16 = .ok (.aload_n 0, 1) := dk_42 (dk_at dksJ23_indexOf_0 16 rfl rfl)
theorem dJ23_indexOf_17 : decode cJ23_indexOf 17 = .ok (.arraylength, 1) := dk_190 (dk_at dksJ23_indexOf_0 17 rfl rfl)
theorem dJ23_indexOf_18 : decode cJ23_indexOf 18 = .ok (.invokestatic 38, 3) := dk_184 0 38 (dk_at dksJ23_indexOf_0 18 rfl rfl)
theorem dJ23_indexOf_21 : decode cJ23_indexOf 21 = .ok (.istore_n 3, 1) := dk_62 (dk_at dksJ23_indexOf_0 21 rfl rfl)
theorem dJ23_indexOf_22 : decode cJ23_indexOf 22 = .ok (.iload_n 2, 1) := dk_28 (dk_at dksJ23_indexOf_0 22 rfl rfl)
theorem dJ23_indexOf_23 : decode cJ23_indexOf 23 = .ok (.iload_n 3, 1) := dk_29 (dk_at dksJ23_indexOf_0 23 rfl rfl)
theorem dJ23_indexOf_24 : decode cJ23_indexOf 24 = .ok (.if_icmp .lt 5, 3) := dk_161 0 5 (dk_at dksJ23_indexOf_1 0 rfl rfl)
theorem dJ23_indexOf_27 : decode cJ23_indexOf 27 = .ok (.iconst (-1), 1) := dk_2 (dk_at dksJ23_indexOf_1 3 rfl rfl)
theorem dJ23_indexOf_28 : decode cJ23_indexOf 28 = .ok (.ireturn, 1) := dk_172 (dk_at dksJ23_indexOf_1 4 rfl rfl)
theorem dJ23_indexOf_29 : decode cJ23_indexOf 29 = .ok (.aload_n 0, 1) := dk_42 (dk_at dksJ23_indexOf_1 5 rfl rfl)
theorem dJ23_indexOf_30 : decode cJ23_indexOf 30 = .ok (.iload_n 1, 1) := dk_27 (dk_at dksJ23_indexOf_1 6 rfl rfl)
theorem dJ23_indexOf_31 : decode cJ23_indexOf 31 = .ok (.iload_n 2, 1) := dk_28 (dk_at dksJ23_indexOf_1 7 rfl rfl)
theorem dJ23_indexOf_32 : decode cJ23_indexOf 32 = .ok (.iload_n 3, 1) := dk_29 (dk_at dksJ23_indexOf_1 8 rfl rfl)
theorem dJ23_indexOf_33 : decode cJ23_indexOf 33 = .ok (.invokestatic 95, 3) := dk_184 0 95 (dk_at dksJ23_indexOf_1 9 rfl rfl)
theorem dJ23_indexOf_36 : decode cJ23_indexOf 36 = .ok (.ireturn, 1) := dk_172 (dk_at dksJ23_indexOf_1 12 rfl rfl)
def dkwJ23_indexOfChar_1 : List UInt8 := [172, 132, 5, 1, 167, 255, 235, 2, 172]
abbrev dktJ23_indexOfChar_1 : List UInt8 := dkwJ23_indexOfChar_1 ++ []
def dkwJ23_indexOfChar_0 : List UInt8 := [27, 145, 54, 4, 28, 54, 5, 21, 5, 29, 162, 0, 21, 42, 21, 5, 51, 21, 4, 160, 0, 6, 21, 5]
abbrev dktJ23_indexOfChar_0 : List UInt8 := dkwJ23_indexOfChar_0 ++ dktJ23_indexOfChar_1
theorem dksJ23_indexOfChar_0 : cJ23_indexOfChar.data.toList.drop 0 = dktJ23_indexOfChar_0 := by decide +kernel
theorem dksJ23_indexOfChar_1 : cJ23_indexOfChar.data.toList.drop 24 = dktJ23_indexOfChar_1 := dk_seg dksJ23_indexOfChar_0 24 rfl rfl
theorem dJ23_indexOfChar_0 : decode cJ23_indexOfChar 0 = .ok (.iload_n 1, 1) := dk_27 (dk_at dksJ23_indexOfChar_0 0 rfl rfl)
theorem dJ23_indexOfChar_1 : decode cJ23_indexOfChar 1 = .ok (.i2b, 1) := dk_145 (dk_at dksJ23_indexOfChar_0 1 rfl rfl)
theorem dJ23_indexOfChar_2 : decode cJ23_indexOfChar 2 = .ok (.istore 4, 2) := dk_54 4 (dk_at dksJ23_indexOfChar_0 2 rfl rfl)
theorem dJ23_indexOfChar_4 : decode cJ23_indexOfChar 4 = .ok (.iload_n 2, 1) := dk_28 (dk_at dksJ23_indexOfChar_0 4 rfl rfl)
theorem dJ23_indexOfChar_5 : decode cJ23_indexOfChar 5 = .ok (.istore 5, 2) := dk_54 5 (dk_at dksJ23_indexOfChar_0 5 rfl rfl)
theorem dJ23_indexOfChar_7 : decode cJ23_indexOfChar 7 = .ok (.iload 5, 2) := dk_21 5 (dk_at dksJ23_indexOfChar_0 7 rfl rfl)
theorem dJ23_indexOfChar_9 : decode cJ23_indexOfChar 9 = .ok (.iload_n 3, 1) := dk_29 (dk_at dksJ23_indexOfChar_0 9 rfl rfl)
theorem dJ23_indexOfChar_10 : decode cJ23_indexOfChar 10 = .ok (.if_icmp .ge 21, 3) := dk_162 0 21 (dk_at dksJ23_indexOfChar_0 10 rfl rfl)
theorem dJ23_indexOfChar_13 : decode cJ23_indexOfChar 13 = .ok (.aload_n 0, 1) := dk_42 (dk_at dksJ23_indexOfChar_0 13 rfl rfl)
theorem dJ23_indexOfChar_14 : decode cJ23_indexOfChar 14 = .ok (.iload 5, 2) := dk_21 5 (dk_at dksJ23_indexOfChar_0 14 rfl rfl)
theorem dJ23_indexOfChar_16 : decode cJ23_indexOfChar 16 = .ok (.baload, 1) := dk_51 (dk_at dksJ23_indexOfChar_0 16 rfl rfl)
theorem dJ23_indexOfChar_17 : decode cJ23_indexOfChar 17 = .ok (.iload 4, 2) := dk_21 4 (dk_at dksJ23_indexOfChar_0 17 rfl rfl)
theorem dJ23_indexOfChar_19 : decode cJ23_indexOfChar 19 = .ok (.if_icmp .ne 6, 3) := dk_160 0 6 (dk_at dksJ23_indexOfChar_0 19 rfl rfl)
theorem dJ23_indexOfChar_22 : decode cJ23_indexOfChar 22 = .ok (.iload 5, 2) := dk_21 5 (dk_at dksJ23_indexOfChar_0 22 rfl rfl)
theorem dJ23_indexOfChar_24 : decode cJ23_indexOfChar 24 = .ok (.ireturn, 1) := dk_172 (dk_at dksJ23_indexOfChar_1 0 rfl rfl)
theorem dJ23_indexOfChar_25 : decode cJ23_indexOfChar 25 = .ok (.iinc 5 1, 3) := dk_132 5 1 (dk_at dksJ23_indexOfChar_1 1 rfl rfl)
theorem dJ23_indexOfChar_28 : decode cJ23_indexOfChar 28 = .ok (.goto (-21), 3) := dk_167 255 235 (dk_at dksJ23_indexOfChar_1 4 rfl rfl)
theorem dJ23_indexOfChar_31 : decode cJ23_indexOfChar 31 = .ok (.iconst (-1), 1) := dk_2 (dk_at dksJ23_indexOfChar_1 7 rfl rfl)
theorem dJ23_indexOfChar_32 : decode cJ23_indexOfChar 32 = .ok (.ireturn, 1) := dk_172 (dk_at dksJ23_indexOfChar_1 8 rfl rfl)
def dkwJ23_canEncode_2_0 : List UInt8 := [26, 155, 0, 14, 26, 17, 0, 255, 163, 0, 7, 4, 167, 0, 4, 3, 172]
abbrev dktJ23_canEncode_2_0 : List UInt8 := dkwJ23_canEncode_2_0 ++ []
theorem dksJ23_canEncode_2_0 : cJ23_canEncode_2.data.toList.drop 0 = dktJ23_canEncode_2_0 := by decide +kernel
theorem dJ23_canEncode_2_0 : decode cJ23_canEncode_2 0 = .ok (.iload_n 0, 1) := dk_26 (dk_at dksJ23_canEncode_2_0 0 rfl rfl)
theorem dJ23_canEncode_2_1 : decode cJ23_canEncode_2 1 = .ok (.ifCond .lt 14, 3) := dk_155 0 14 (dk_at dksJ23_canEncode_2_0 1 rfl rfl)
theorem dJ23_canEncode_2_4 : decode cJ23_canEncode_2 4 = .ok (.iload_n 0, 1) := dk_26 (dk_at dksJ23_canEncode_2_0 4 rfl rfl)
theorem dJ23_canEncode_2_5 : decode cJ23_canEncode_2 5 = .ok (.sipush 255, 3) := dk_17 0 255 (dk_at dksJ23_canEncode_2_0 5 rfl rfl)
theorem dJ23_canEncode_2_8 : decode cJ23_canEncode_2 8 = .ok (.if_icmp .gt 7, 3) := dk_163 0 7 (dk_at dksJ23_canEncode_2_0 8 rfl rfl)
theorem dJ23_canEncode_2_11 : decode cJ23_canEncode_2 11 = .ok (.iconst 1, 1) := dk_4 (dk_at dksJ23_canEncode_2_0 11 rfl rfl)
theorem dJ23_canEncode_2_12 : decode cJ23_canEncode_2 12 = .ok (.goto 4, 3) := dk_167 0 4 (dk_at dksJ23_canEncode_2_0 12 rfl rfl)
theorem dJ23_canEncode_2_15 : decode cJ23_canEncode_2 15 = .ok (.iconst 0, 1) := dk_3 (dk_at dksJ23_canEncode_2_0 15 rfl rfl)
theorem dJ23_canEncode_2_16 : decode cJ23_canEncode_2 16 = .ok (.ireturn, 1) := dk_172 (dk_at dksJ23_canEncode_2_0 16 rfl rfl)
