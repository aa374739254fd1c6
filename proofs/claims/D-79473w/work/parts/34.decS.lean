set_option maxRecDepth 100000
def dkwJ24_checkIndex_0 : List UInt8 := [26, 155, 0, 8, 26, 27, 161, 0, 10, 44, 26, 27, 184, 0, 95, 191, 26, 172]
abbrev dktJ24_checkIndex_0 : List UInt8 := dkwJ24_checkIndex_0 ++ []
theorem dksJ24_checkIndex_0 : cJ24_checkIndex.data.toList.drop 0 = dktJ24_checkIndex_0 := by decide +kernel
theorem dJ24_checkIndex_0 : decode cJ24_checkIndex 0 = .ok (.iload_n 0, 1) := dk_26 (dk_at dksJ24_checkIndex_0 0 rfl rfl)
theorem dJ24_checkIndex_1 : decode cJ24_checkIndex 1 = .ok (.ifCond .lt 8, 3) := dk_155 0 8 (dk_at dksJ24_checkIndex_0 1 rfl rfl)
theorem dJ24_checkIndex_4 : decode cJ24_checkIndex 4 = .ok (.iload_n 0, 1) := dk_26 (dk_at dksJ24_checkIndex_0 4 rfl rfl)
theorem dJ24_checkIndex_5 : decode cJ24_checkIndex 5 = .ok (.iload_n 1, 1) := dk_27 (dk_at dksJ24_checkIndex_0 5 rfl rfl)
theorem dJ24_checkIndex_6 : decode cJ24_checkIndex 6 = .ok (.if_icmp .lt 10, 3) := dk_161 0 10 (dk_at dksJ24_checkIndex_0 6 rfl rfl)
theorem dJ24_checkIndex_9 : decode cJ24_checkIndex 9 = .ok (.aload_n 2, 1) := dk_44 (dk_at dksJ24_checkIndex_0 9 rfl rfl)
theorem dJ24_checkIndex_10 : decode cJ24_checkIndex 10 = .ok (.iload_n 0, 1) := dk_26 (dk_at dksJ24_checkIndex_0 10 rfl rfl)
theorem dJ24_checkIndex_11 : decode cJ24_checkIndex 11 = .ok (.iload_n 1, 1) := dk_27 (dk_at dksJ24_checkIndex_0 11 rfl rfl)
theorem dJ24_checkIndex_12 : decode cJ24_checkIndex 12 = .ok (.invokestatic 95, 3) := dk_184 0 95 (dk_at dksJ24_checkIndex_0 12 rfl rfl)
theorem dJ24_checkIndex_15 : decode cJ24_checkIndex 15 = .ok (.athrow, 1) := dk_191 (dk_at dksJ24_checkIndex_0 15 rfl rfl)
theorem dJ24_checkIndex_16 : decode cJ24_checkIndex 16 = .ok (.iload_n 0, 1) := dk_26 (dk_at dksJ24_checkIndex_0 16 rfl rfl)
theorem dJ24_checkIndex_17 : decode cJ24_checkIndex 17 = .ok (.ireturn, 1) := dk_172 (dk_at dksJ24_checkIndex_0 17 rfl rfl)
def dkwJ24_checkFromIndexSize_1 : List UInt8 := [172]
abbrev dktJ24_checkFromIndexSize_1 : List UInt8 := dkwJ24_checkFromIndexSize_1 ++ []
def dkwJ24_checkFromIndexSize_0 : List UInt8 := [28, 26, 128, 27, 128, 155, 0, 10, 27, 28, 26, 100, 164, 0, 11, 45, 26, 27, 28, 184, 0, 103, 191, 26]
abbrev dktJ24_checkFromIndexSize_0 : List UInt8 := dkwJ24_checkFromIndexSize_0 ++ dktJ24_checkFromIndexSize_1
theorem dksJ24_checkFromIndexSize_0 : cJ24_checkFromIndexSize.data.toList.drop 0 = dktJ24_checkFromIndexSize_0 := by decide +kernel
theorem dksJ24_checkFromIndexSize_1 : cJ24_checkFromIndexSize.data.toList.drop 24 = dktJ24_checkFromIndexSize_1 := dk_seg dksJ24_checkFromIndexSize_0 24 rfl rfl
theorem dJ24_checkFromIndexSize_0 : decode cJ24_checkFromIndexSize 0 = .ok (.iload_n 2, 1) := dk_28 (dk_at dksJ24_checkFromIndexSize_0 0 rfl rfl)
theorem dJ24_checkFromIndexSize_1 : decode cJ24_checkFromIndexSize 1 = .ok (.iload_n 0, 1) := dk_26 (dk_at dksJ24_checkFromIndexSize_0 1 rfl rfl)
theorem dJ24_checkFromIndexSize_2 : decode cJ24_checkFromIndexSize 2 = .ok (.ior, 1) := dk_128 (dk_at dksJ24_checkFromIndexSize_0 2 rfl rfl)
theorem dJ24_checkFromIndexSize_3 : decode cJ24_checkFromIndexSize 3 = .ok (.iload_n 1, 1) := dk_27 (dk_at dksJ24_checkFromIndexSize_0 3 rfl rfl)
theorem dJ24_checkFromIndexSize_4 : decode cJ24_checkFromIndexSize 4 = .ok (.ior, 1) := dk_128 (dk_at dksJ24_checkFromIndexSize_0 4 rfl rfl)
theorem dJ24_checkFromIndexSize_5 : decode cJ24_checkFromIndexSize 5 = .ok (.ifCond .lt 10, 3) := dk_155 0 10 (dk_at dksJ24_checkFromIndexSize_0 5 rfl rfl)
theorem dJ24_checkFromIndexSize_8 : decode cJ24_checkFromIndexSize 8 = .ok (.iload_n 1, 1) := dk_27 (dk_at dksJ24_checkFromIndexSize_0 8 rfl rfl)
theorem dJ24_checkFromIndexSize_9 : decode cJ24_checkFromIndexSize 9 = .ok (.iload_n 2, 1) := dk_28 (dk_at dksJ24_checkFromIndexSize_0 9 rfl rfl)
theorem dJ24_checkFromIndexSize_10 : decode cJ24_checkFromIndexSize 10 = .ok (.iload_n 0, 1) := dk_26 (dk_at dksJ24_checkFromIndexSize_0 10 rfl rfl)
theorem dJ24_checkFromIndexSize_11 : decode cJ24_checkFromIndexSize 11 = .ok (.isub, 1) := dk_100 (dk_at dksJ24_checkFromIndexSize_0 11 rfl rfl)
theorem dJ24_checkFromIndexSize_12 : decode cJ24_checkFromIndexSize 12 = .ok (.if_icmp .le 11, 3) := dk_164 0 11 (dk_at dksJ24_checkFromIndexSize_0 12 rfl rfl)
theorem dJ24_checkFromIndexSize_15 : decode cJ24_checkFromIndexSize 15 = .ok (.aload_n 3, 1) := dk_45 (dk_at dksJ24_checkFromIndexSize_0 15 rfl rfl)
theorem dJ24_checkFromIndexSize_16 : decode cJ24_checkFromIndexSize 16 = .ok (.iload_n 0, 1) := dk_26 (dk_at dksJ24_checkFromIndexSize_0 16 rfl rfl)
theorem dJ24_checkFromIndexSize_17 : decode cJ24_checkFromIndexSize 17 = .ok (.iload_n 1, 1) := dk_27 (dk_at dksJ24_checkFromIndexSize_0 17 rfl rfl)
theorem dJ24_checkFromIndexSize_18 : decode cJ24_checkFromIndexSize 18 = .ok (.iload_n 2, 1) := dk_28 (dk_at dksJ24_checkFromIndexSize_0 18 rfl rfl)
theorem dJ24_checkFromIndexSize_19 : decode cJ24_checkFromIndexSize 19 = .ok (.invokestatic 103, 3) := dk_184 0 103 (dk_at dksJ24_checkFromIndexSize_0 19 rfl rfl)
theorem dJ24_checkFromIndexSize_22 : decode cJ24_checkFromIndexSize 22 = .ok (.athrow, 1) := dk_191 (dk_at dksJ24_checkFromIndexSize_0 22 rfl rfl)
theorem dJ24_checkFromIndexSize_23 : decode cJ24_checkFromIndexSize 23 = .ok (.iload_n 0, 1) := dk_26 (dk_at dksJ24_checkFromIndexSize_0 23 rfl rfl)
theorem dJ24_checkFromIndexSize_24 : decode cJ24_checkFromIndexSize 24 = .ok (.ireturn, 1) := dk_172 (dk_at dksJ24_checkFromIndexSize_1 0 rfl rfl)
def dkwJ4_checkIndex_0 : List UInt8 := [26, 27, 178, 4, 29, 184, 4, 35, 87, 177]
abbrev dktJ4_checkIndex_0 : List UInt8 := dkwJ4_checkIndex_0 ++ []
theorem dksJ4_checkIndex_0 : cJ4_checkIndex.data.toList.drop 0 = dktJ4_checkIndex_0 := by decide +kernel
theorem dJ4_checkIndex_0 : decode cJ4_checkIndex 0 = .ok (.iload_n 0, 1) := dk_26 (dk_at dksJ4_checkIndex_0 0 rfl rfl)
theorem dJ4_checkIndex_1 : decode cJ4_checkIndex 1 = .ok (.iload_n 1, 1) := dk_27 (dk_at dksJ4_checkIndex_0 1 rfl rfl)
theorem dJ4_checkIndex_2 : decode cJ4_checkIndex 2 = .ok (.getstatic 1053, 3) := dk_178 4 29 (dk_at dksJ4_checkIndex_0 2 rfl rfl)
theorem dJ4_checkIndex_5 : decode cJ4_checkIndex 5 = .ok (.invokestatic 1059, 3) := dk_184 4 35 (dk_at dksJ4_checkIndex_0 5 rfl rfl)
theorem dJ4_checkIndex_8 : decode cJ4_checkIndex 8 = .ok (.pop, 1) := dk_87 (dk_at dksJ4_checkIndex_0 8 rfl rfl)
theorem dJ4_checkIndex_9 : decode cJ4_checkIndex 9 = .ok (.return_, 1) := dk_177 (dk_at dksJ4_checkIndex_0 9 rfl rfl)
def dkwJ4_checkBoundsOffCount_0 : List UInt8 := [26, 27, 28, 178, 4, 29, 184, 4, 41, 172]
abbrev dktJ4_checkBoundsOffCount_0 : List UInt8 := dkwJ4_checkBoundsOffCount_0 ++ []
theorem dksJ4_checkBoundsOffCount_0 : cJ4_checkBoundsOffCount.data.toList.drop 0 = dktJ4_checkBoundsOffCount_0 := by decide +kernel
theorem dJ4_checkBoundsOffCount_0 : decode cJ4_checkBoundsOffCount 0 = .ok (.iload_n 0, 1) := dk_26 (dk_at dksJ4_checkBoundsOffCount_0 0 rfl rfl)
theorem dJ4_checkBoundsOffCount_1 : decode cJ4_checkBoundsOffCount 1 = .ok (.iload_n 1, 1) := dk_27 (dk_at dksJ4_checkBoundsOffCount_0 1 rfl rfl)
theorem dJ4_checkBoundsOffCount_2 : decode cJ4_checkBoundsOffCount 2 = .ok (.iload_n 2, 1) := dk_28 (dk_at dksJ4_checkBoundsOffCount_0 2 rfl rfl)
theorem dJ4_checkBoundsOffCount_3 : decode cJ4_checkBoundsOffCount 3 = .ok (.getstatic 1053, 3) := dk_178 4 29 (dk_at dksJ4_checkBoundsOffCount_0 3 rfl rfl)
theorem dJ4_checkBoundsOffCount_6 : decode cJ4_checkBoundsOffCount 6 = .ok (.invokestatic 1065, 3) := dk_184 4 41 (dk_at dksJ4_checkBoundsOffCount_0 6 rfl rfl)
theorem dJ4_checkBoundsOffCount_9 : decode cJ4_checkBoundsOffCount 9 = .ok (.ireturn, 1) := dk_172 (dk_at dksJ4_checkBoundsOffCount_0 9 rfl rfl)
def dkwJ23_canEncode_0 : List UInt8 := [26, 17, 0, 255, 163, 0, 7, 4, 167, 0, 4, 3, 172]
abbrev dktJ23_canEncode_0 : List UInt8 := dkwJ23_canEncode_0 ++ []
theorem dksJ23_canEncode_0 : cJ23_canEncode.data.toList.drop 0 = dktJ23_canEncode_0 := by decide +kernel
theorem dJ23_canEncode_0 : decode cJ23_canEncode 0 = .ok (.iload_n 0, 1) := dk_26 (dk_at dksJ23_canEncode_0 0 rfl rfl)
theorem dJ23_canEncode_1 : decode cJ23_canEncode 1 = .ok (.sipush 255, 3) := dk_17 0 255 (dk_at dksJ23_canEncode_0 1 rfl rfl)
theorem dJ23_canEncode_4 : decode cJ23_canEncode 4 = .ok (.if_icmp .gt 7, 3) := dk_163 0 7 (dk_at dksJ23_canEncode_0 4 rfl rfl)
theorem dJ23_canEncode_7 : decode cJ23_canEncode 7 = .ok (.iconst 1, 1) := dk_4 (dk_at dksJ23_canEncode_0 7 rfl rfl)
theorem dJ23_canEncode_8 : decode cJ23_canEncode 8 = .ok (.goto 4, 3) := dk_167 0 4 (dk_at dksJ23_canEncode_0 8 rfl rfl)
theorem dJ23_canEncode_11 : decode cJ23_canEncode 11 = .ok (.iconst 0, 1) := dk_3 (dk_at dksJ23_canEncode_0 11 rfl rfl)
theorem dJ23_canEncode_12 : decode cJ23_canEncode 12 = .ok (.ireturn, 1) := dk_172 (dk_at dksJ23_canEncode_0 12 rfl rfl)
def dkwJ23_inflate_0 : List UInt8 := [42, 27, 44, 29, 21, 4, 184, 0, 240, 177]
abbrev dktJ23_inflate_0 : List UInt8 := dkwJ23_inflate_0 ++ []
theorem dksJ23_inflate_0 : cJ23_inflate.data.toList.drop 0 = dktJ23_inflate_0 := by decide +kernel
theorem dJ23_inflate_0 : decode cJ23_inflate 0 = .ok (.aload_n 0, 1) := dk_42 (dk_at dksJ23_inflate_0 0 rfl rfl)
theorem dJ23_inflate_1 : decode cJ23_inflate 1 = .ok (.iload_n 1, 1) := dk_27 (dk_at dksJ23_inflate_0 1 rfl rfl)
theorem dJ23_inflate_2 : decode cJ23_inflate 2 = .ok (.aload_n 2, 1) := dk_44 (dk_at dksJ23_inflate_0 2 rfl rfl)
theorem dJ23_inflate_3 : decode cJ23_inflate 3 = .ok (.iload_n 3, 1) := dk_29 (dk_at dksJ23_inflate_0 3 rfl rfl)
theorem dJ23_inflate_4 : decode cJ23_inflate 4 = .ok (.iload 4, 2) := dk_21 4 (dk_at dksJ23_inflate_0 4 rfl rfl)
theorem dJ23_inflate_6 : decode cJ23_inflate 6 = .ok (.invokestatic 240, 3) := dk_184 0 240 (dk_at dksJ23_inflate_0 6 rfl rfl)
theorem dJ23_inflate_9 : decode cJ23_inflate 9 = .ok (.return_, 1) := dk_177 (dk_at dksJ23_inflate_0 9 rfl rfl)
def dkwJ22_newLength_1 : List UInt8 := [184, 0, 201, 172]
abbrev dktJ22_newLength_1 : List UInt8 := dkwJ22_newLength_1 ++ []
def dkwJ22_newLength_0 : List UInt8 := [26, 27, 28, 184, 0, 194, 96, 62, 3, 29, 162, 0, 11, 29, 18, 200, 163, 0, 5, 29, 172, 26, 27]
abbrev dktJ22_newLength_0 : List UInt8 := dkwJ22_newLength_0 ++ dktJ22_newLength_1
theorem dksJ22_newLength_0 : cJ22_newLength.data.toList.drop 0 = dktJ22_newLength_0 := by decide +kernel
theorem dksJ22_newLength_1 : cJ22_newLength.data.toList.drop 23 = dktJ22_newLength_1 := dk_seg dksJ22_newLength_0 23 rfl rfl
theorem dJ22_newLength_0 : decode cJ22_newLength 0 = .ok (.iload_n 0, 1) := dk_26 (dk_at dksJ22_newLength_0 0 rfl rfl)
theorem dJ22_newLength_1 : decode cJ22_newLength 1 = .ok (.iload_n 1, 1) := dk_27 (dk_at dksJ22_newLength_0 1 rfl rfl)
theorem dJ22_newLength_2 : decode cJ22_newLength 2 = .ok (.iload_n 2, 1) := dk_28 (dk_at dksJ22_newLength_0 2 rfl rfl)
theorem dJ22_newLength_3 : decode cJ22_newLength 3 = .ok (.invokestatic 194, 3) := dk_184 0 194 (dk_at dksJ22_newLength_0 3 rfl rfl)
theorem dJ22_newLength_6 : decode cJ22_newLength 6 = .ok (.iadd, 1) := dk_96 (dk_at dksJ22_newLength_0 6 rfl rfl)
theorem dJ22_newLength_7 : decode cJ22_newLength 7 = .ok (.istore_n 3, 1) := dk_62 (dk_at dksJ22_newLength_0 7 rfl rfl)
theorem dJ22_newLength_8 : decode cJ22_newLength 8 = .ok (.iconst 0, 1) := dk_3 (dk_at dksJ22_newLength_0 8 rfl rfl)
theorem dJ22_newLength_9 : decode cJ22_newLength 9 = .ok (.iload_n 3, 1) := dk_29 (dk_at dksJ22_newLength_0 9 rfl rfl)
theorem dJ22_newLength_10 : decode cJ22_newLength 10 = .ok (.if_icmp .ge 11, 3) := dk_162 0 11 (dk_at dksJ22_newLength_0 10 rfl rfl)
theorem dJ22_newLength_13 : decode cJ22_newLength 13 = .ok (.iload_n 3, 1) := dk_29 (dk_at dksJ22_newLength_0 13 rfl rfl)
theorem dJ22_newLength_14 : decode cJ22_newLength 14 = .ok (.ldc 200, 2) := dk_18 200 (dk_at dksJ22_newLength_0 14 rfl rfl)
theorem dJ22_newLength_16 : decode cJ22_newLength 16 = .ok (.if_icmp .gt 5, 3) := dk_163 0 5 (dk_at dksJ22_newLength_0 16 rfl rfl)
theorem dJ22_newLength_19 : decode cJ22_newLength 19 = .ok (.iload_n 3, 1) := dk_29 (dk_at dksJ22_newLength_0 19 rfl rfl)
theorem dJ22_newLength_20 : decode cJ22_newLength 20 = .ok (.ireturn, 1) := dk_172 (dk_at dksJ22_newLength_0 20 rfl rfl)
theorem dJ22_newLength_21 : decode cJ22_newLength 21 = .ok (.iload_n 0, 1) := dk_26 (dk_at dksJ22_newLength_0 21 rfl rfl)
theorem dJ22_newLength_22 : decode cJ22_newLength 22 = .ok (.iload_n 1, 1) := dk_27 (dk_at dksJ22_newLength_0 22 rfl rfl)
theorem dJ22_newLength_23 : decode cJ22_newLength 23 = .ok (.invokestatic 201, 3) := dk_184 0 201 (dk_at dksJ22_newLength_1 0 rfl rfl)
theorem dJ22_newLength_26 : decode cJ22_newLength 26 = .ok (.ireturn, 1) := dk_172 (dk_at dksJ22_newLength_1 3 rfl rfl)
def dkwJ5_newBytesLength_2 : List UInt8 := [182, 0, 32, 182, 0, 37, 183, 0, 41, 191, 26, 4, 120, 172]
abbrev dktJ5_newBytesLength_2 : List UInt8 := dkwJ5_newBytesLength_2 ++ []
def dkwJ5_newBytesLength_1 : List UInt8 := [187, 0, 23, 89, 183, 0, 25, 18, 26, 182, 0, 28, 26, 182, 0, 32, 18, 35, 182, 0, 28, 18, 20]
abbrev dktJ5_newBytesLength_1 : List UInt8 := dkwJ5_newBytesLength_1 ++ dktJ5_newBytesLength_2
def dkwJ5_newBytesLength_0 : List UInt8 := [26, 156, 0, 11, 187, 0, 17, 89, 183, 0, 19, 191, 26, 18, 20, 161, 0, 40, 187, 0, 21, 89]
abbrev dktJ5_newBytesLength_0 : List UInt8 := dkwJ5_newBytesLength_0 ++ dktJ5_newBytesLength_1
theorem dksJ5_newBytesLength_0 : cJ5_newBytesLength.data.toList.drop 0 = dktJ5_newBytesLength_0 := by decide +kernel
theorem dksJ5_newBytesLength_1 : cJ5_newBytesLength.data.toList.drop 22 = dktJ5_newBytesLength_1 := dk_seg dksJ5_newBytesLength_0 22 rfl rfl
theorem dksJ5_newBytesLength_2 : cJ5_newBytesLength.data.toList.drop 45 = dktJ5_newBytesLength_2 := dk_seg dksJ5_newBytesLength_1 23 rfl rfl
theorem dJ5_newBytesLength_0 : decode cJ5_newBytesLength 0 = .ok (.iload_n 0, 1) := dk_26 (dk_at dksJ5_newBytesLength_0 0 rfl rfl)
theorem dJ5_newBytesLength_1 : decode cJ5_newBytesLength 1 = .ok (.ifCond .ge 11, 3) := dk_156 0 11 (dk_at dksJ5_newBytesLength_0 1 rfl rfl)
theorem dJ5_newBytesLength_4 : decode cJ5_newBytesLength 4 = .ok (.new 17, 3) := dk_187 0 17 (dk_at dksJ5_newBytesLength_0 4 rfl rfl)
theorem dJ5_newBytesLength_7 : decode cJ5_newBytesLength 7 = .ok (.dup, 1) := dk_89 (dk_at dksJ5_newBytesLength_0 7 rfl rfl)
theorem dJ5_newBytesLength_8 : decode cJ5_newBytesLength 8 = .ok (.invokespecial 19, 3) := dk_183 0 19 (dk_at dksJ5_newBytesLength_0 8 rfl rfl)
theorem dJ5_newBytesLength_11 : decode cJ5_newBytesLength 11 = .ok (.athrow, 1) := dk_191 (dk_at dksJ5_newBytesLength_0 11 rfl rfl)
theorem dJ5_newBytesLength_12 : decode cJ5_newBytesLength 12 = .ok (.iload_n 0, 1) := dk_26 (dk_at dksJ5_newBytesLength_0 12 rfl rfl)
theorem dJ5_newBytesLength_13 : decode cJ5_newBytesLength 13 = .ok (.ldc 20, 2) := dk_18 20 (dk_at dksJ5_newBytesLength_0 13 rfl rfl)
theorem dJ5_newBytesLength_15 : decode cJ5_newBytesLength 15 = .ok (.if_icmp .lt 40, 3) := dk_161 0 40 (dk_at dksJ5_newBytesLength_0 15 rfl rfl)
theorem dJ5_newBytesLength_18 : decode cJ5_newBytesLength 18 = .ok (.new 21, 3) := dk_187 0 21 (dk_at dksJ5_newBytesLength_0 18 rfl rfl)
theorem dJ5_newBytesLength_21 : decode cJ5_newBytesLength 21 = .ok (.dup, 1) := dk_89 (dk_at dksJ5_newBytesLength_0 21 rfl rfl)
theorem dJ5_newBytesLength_22 : decode cJ5_newBytesLength 22 = .ok (.new 23, 3) := dk_187 0 23 (dk_at dksJ5_newBytesLength_1 0 rfl rfl)
theorem dJ5_newBytesLength_25 : decode cJ5_newBytesLength 25 = .ok (.dup, 1) := dk_89 (dk_at dksJ5_newBytesLength_1 3 rfl rfl)
theorem dJ5_newBytesLength_26 : decode cJ5_newBytesLength 26 = .ok (.invokespecial 25, 3) := dk_183 0 25 (dk_at dksJ5_newBytesLength_1 4 rfl rfl)
theorem dJ5_newBytesLength_29 : decode cJ5_newBytesLength 29 = .ok (.ldc 26, 2) := dk_18 26 (dk_at dksJ5_newBytesLength_1 7 rfl rfl)
theorem dJ5_newBytesLength_31 : decode cJ5_newBytesLength 31 = .ok (.invokevirtual 28, 3) := dk_182 0 28 (dk_at dksJ5_newBytesLength_1 9 rfl rfl)
theorem dJ5_newBytesLength_34 : decode cJ5_newBytesLength 34 = .ok (.iload_n 0, 1) := dk_26 (dk_at dksJ5_newBytesLength_1 12 rfl rfl)
theorem dJ5_newBytesLength_35 : decode cJ5_newBytesLength 35 = .ok (.invokevirtual 32, 3) := dk_182 0 32 (dk_at dksJ5_newBytesLength_1 13 rfl rfl)
theorem dJ5_newBytesLength_38 : decode cJ5_newBytesLength 38 = .ok (.ldc 35, 2) := dk_18 35 (dk_at dksJ5_newBytesLength_1 16 rfl rfl)
theorem dJ5_newBytesLength_40 : decode cJ5_newBytesLength 40 = .ok (.invokevirtual 28, 3) := dk_182 0 28 (dk_at dksJ5_newBytesLength_1 18 rfl rfl)
theorem dJ5_newBytesLength_43 : decode cJ5_newBytesLength 43 = .ok (.ldc 20, 2) := dk_18 20 (dk_at dksJ5_newBytesLength_1 21 rfl rfl)
theorem dJ5_newBytesLength_45 : decode cJ5_newBytesLength 45 = .ok (.invokevirtual 32, 3) := dk_182 0 32 (dk_at dksJ5_newBytesLength_2 0 rfl rfl)
theorem dJ5_newBytesLength_48 : decode cJ5_newBytesLength 48 = .ok (.invokevirtual 37, 3) := dk_182 0 37 (dk_at dksJ5_newBytesLength_2 3 rfl rfl)
theorem dJ5_newBytesLength_51 : decode cJ5_newBytesLength 51 = .ok (.invokespecial 41, 3) := dk_183 0 41 (dk_at dksJ5_newBytesLength_2 6 rfl rfl)
theorem dJ5_newBytesLength_54 : decode cJ5_newBytesLength 54 = .ok (.athrow, 1) := dk_191 (dk_at dksJ5_newBytesLength_2 9 rfl rfl)
theorem dJ5_newBytesLength_55 : decode cJ5_newBytesLength 55 = .ok (.iload_n 0, 1) := dk_26 (dk_at dksJ5_newBytesLength_2 10 rfl rfl)
theorem dJ5_newBytesLength_56 : decode cJ5_newBytesLength 56 = .ok (.iconst 1, 1) := dk_4 (dk_at dksJ5_newBytesLength_2 11 rfl rfl)
theorem dJ5_newBytesLength_57 : decode cJ5_newBytesLength 57 = .ok (.ishl, 1) := dk_120 (dk_at dksJ5_newBytesLength_2 12 rfl rfl)
theorem dJ5_newBytesLength_58 : decode cJ5_newBytesLength 58 = .ok (.ireturn, 1) := dk_172 (dk_at dksJ5_newBytesLength_2 13 rfl rfl)
def dkwJ5_newBytesFor_0 : List UInt8 := [26, 184, 0, 11, 188, 8, 176]
abbrev dktJ5_newBytesFor_0 : List UInt8 := dkwJ5_newBytesFor_0 ++ []
theorem dksJ5_newBytesFor_0 : cJ5_newBytesFor.data.toList.drop 0 = dktJ5_newBytesFor_0 := by decide +kernel
theorem dJ5_newBytesFor_0 : decode cJ5_newBytesFor 0 = .ok (.iload_n 0, 1) := dk_26 (dk_at dksJ5_newBytesFor_0 0 rfl rfl)
theorem dJ5_newBytesFor_1 : decode cJ5_newBytesFor 1 = .ok (.invokestatic 11, 3) := dk_184 0 11 (dk_at dksJ5_newBytesFor_0 1 rfl rfl)
theorem dJ5_newBytesFor_4 : decode cJ5_newBytesFor 4 = .ok (.newarray .byte, 2) := dk_188_8 (dk_at dksJ5_newBytesFor_0 4 rfl rfl)
theorem dJ5_newBytesFor_6 : decode cJ5_newBytesFor 6 = .ok (.areturn, 1) := dk_176 (dk_at dksJ5_newBytesFor_0 6 rfl rfl)
def dkwJ5_length_0 : List UInt8 := [42, 190, 4, 122, 172]
abbrev dktJ5_length_0 : List UInt8 := dkwJ5_length_0 ++ []
theorem dksJ5_length_0 : cJ5_length.data.toList.drop 0 = dktJ5_length_0 := by decide +kernel
theorem dJ5_length_0 : decode cJ5_length 0 = .ok (.aload_n 0, 1) := dk_42 (dk_at dksJ5_length_0 0 rfl rfl)
theorem dJ5_length_1 : decode cJ5_length 1 = .ok (.arraylength, 1) := dk_190 (dk_at dksJ5_length_0 1 rfl rfl)
theorem dJ5_length_2 : decode cJ5_length 2 = .ok (.iconst 1, 1) := dk_4 (dk_at dksJ5_length_0 2 rfl rfl)
theorem dJ5_length_3 : decode cJ5_length 3 = .ok (.ishr, 1) := dk_122 (dk_at dksJ5_length_0 3 rfl rfl)
theorem dJ5_length_4 : decode cJ5_length 4 = .ok (.ireturn, 1) := dk_172 (dk_at dksJ5_length_0 4 rfl rfl)
def dkwJ5_checkIndex_0 : List UInt8 := [26, 43, 184, 0, 48, 184, 1, 158, 177]
abbrev dktJ5_checkIndex_0 : List UInt8 := dkwJ5_checkIndex_0 ++ []
theorem dksJ5_checkIndex_0 : cJ5_checkIndex.data.toList.drop 0 = dktJ5_checkIndex_0 := by decide +kernel
theorem dJ5_checkIndex_0 : decode cJ5_checkIndex 0 = .ok (.iload_n 0, 1) := dk_26 (dk_at dksJ5_checkIndex_0 0 rfl rfl)
theorem dJ5_checkIndex_1 : decode cJ5_checkIndex 1 = .ok (.aload_n 1, 1) := dk_43 (dk_at dksJ5_checkIndex_0 1 rfl rfl)
theorem dJ5_checkIndex_2 : decode cJ5_checkIndex 2 = .ok (.invokestatic 48, 3) := dk_184 0 48 (dk_at dksJ5_checkIndex_0 2 rfl rfl)
theorem dJ5_checkIndex_5 : decode cJ5_checkIndex 5 = .ok (.invokestatic 414, 3) := dk_184 1 158 (dk_at dksJ5_checkIndex_0 5 rfl rfl)
theorem dJ5_checkIndex_8 : decode cJ5_checkIndex 8 = .ok (.return_, 1) := dk_177 (dk_at dksJ5_checkIndex_0 8 rfl rfl)
def dkwJ5_putChar_2 : List UInt8 := [178, 0, 63, 122, 145, 84, 177]
abbrev dktJ5_putChar_2 : List UInt8 := dkwJ5_putChar_2 ++ []
def dkwJ5_putChar_1 : List UInt8 := [183, 0, 56, 191, 27, 4, 120, 60, 42, 27, 132, 1, 1, 28, 178, 0, 59, 122, 145, 84, 42, 27, 28]
abbrev dktJ5_putChar_1 : List UInt8 := dkwJ5_putChar_1 ++ dktJ5_putChar_2
def dkwJ5_putChar_0 : List UInt8 := [178, 0, 44, 154, 0, 25, 27, 155, 0, 11, 27, 42, 184, 0, 48, 161, 0, 13, 187, 0, 52, 89, 18, 54]
abbrev dktJ5_putChar_0 : List UInt8 := dkwJ5_putChar_0 ++ dktJ5_putChar_1
theorem dksJ5_putChar_0 : cJ5_putChar.data.toList.drop 0 = dktJ5_putChar_0 := by decide +kernel
theorem dksJ5_putChar_1 : cJ5_putChar.data.toList.drop 24 = dktJ5_putChar_1 := dk_seg dksJ5_putChar_0 24 rfl rfl
theorem dksJ5_putChar_2 : cJ5_putChar.data.toList.drop 47 = dktJ5_putChar_2 := dk_seg dksJ5_putChar_1 23 rfl rfl
theorem dJ5_putChar_0 : decode cJ5_putChar 0 = .ok (.getstatic 44, 3) := dk_178 0 44 (dk_at dksJ5_putChar_0 0 rfl rfl)
theorem dJ5_putChar_3 : decode cJ5_putChar 3 = .ok (.ifCond .ne 25, 3) := dk_154 0 25 (dk_at dksJ5_putChar_0 3 rfl rfl)
theorem dJ5_putChar_6 : decode cJ5_putChar 6 = .ok (.iload_n 1, 1) := dk_27 (dk_at dksJ5_putChar_0 6 rfl rfl)
theorem dJ5_putChar_7 : decode cJ5_putChar 7 = .ok (.ifCond .lt 11, 3) := dk_155 0 11 (dk_at dksJ5_putChar_0 7 rfl rfl)
theorem dJ5_putChar_10 : decode cJ5_putChar 10 = .ok (.iload_n 1, 1) := dk_27 (dk_at dksJ5_putChar_0 10 rfl rfl)
theorem dJ5_putChar_11 : decode cJ5_putChar 11 = .ok (.aload_n 0, 1) := dk_42 (dk_at dksJ5_putChar_0 11 rfl rfl)
theorem dJ5_putChar_12 : decode cJ5_putChar 12 = .ok (.invokestatic 48, 3) := dk_184 0 48 (dk_at dksJ5_putChar_0 12 rfl rfl)
theorem dJ5_putChar_15 : decode cJ5_putChar 15 = .ok (.if_icmp .lt 13, 3) := dk_161 0 13 (dk_at dksJ5_putChar_0 15 rfl rfl)
theorem dJ5_putChar_18 : decode cJ5_putChar 18 = .ok (.new 52, 3) := dk_187 0 52 (dk_at dksJ5_putChar_0 18 rfl rfl)
theorem dJ5_putChar_21 : decode cJ5_putChar 21 = .ok (.dup, 1) := dk_89 (dk_at dksJ5_putChar_0 21 rfl rfl)
theorem dJ5_putChar_22 : decode cJ5_putChar 22 = .ok (.ldc 54, 2) := dk_18 54 (dk_at dksJ5_putChar_0 22 rfl rfl)
theorem dJ5_putChar_24 : decode cJ5_putChar 24 = .ok (.invokespecial 56, 3) := dk_183 0 56 (dk_at dksJ5_putChar_1 0 rfl rfl)
theorem dJ5_putChar_27 : decode cJ5_putChar 27 = .ok (.athrow, 1) := dk_191 (dk_at dksJ5_putChar_1 3 rfl rfl)
theorem dJ5_putChar_28 : decode cJ5_putChar 28 = .ok (.iload_n 1, 1) := dk_27 (dk_at dksJ5_putChar_1 4 rfl rfl)
theorem dJ5_putChar_29 : decode cJ5_putChar 29 = .ok (.iconst 1, 1) := dk_4 (dk_at dksJ5_putChar_1 5 rfl rfl)
theorem dJ5_putChar_30 : decode cJ5_putChar 30 = .ok (.ishl, 1) := dk_120 (dk_at dksJ5_putChar_1 6 rfl rfl)
theorem dJ5_putChar_31 : decode cJ5_putChar 31 = .ok (.istore_n 1, 1) := dk_60 (dk_at dksJ5_putChar_1 7 rfl rfl)
theorem dJ5_putChar_32 : decode cJ5_putChar 32 = .ok (.aload_n 0, 1) := dk_42 (dk_at dksJ5_putChar_1 8 rfl rfl)
theorem dJ5_putChar_33 : decode cJ5_putChar 33 = .ok (.iload_n 1, 1) := dk_27 (dk_at dksJ5_putChar_1 9 rfl rfl)
theorem dJ5_putChar_34 : decode cJ5_putChar 34 = .ok (.iinc 1 1, 3) := dk_132 1 1 (dk_at dksJ5_putChar_1 10 rfl rfl)
theorem dJ5_putChar_37 : decode cJ5_putChar 37 = .ok (.iload_n 2, 1) := dk_28 (dk_at dksJ5_putChar_1 13 rfl rfl)
theorem dJ5_putChar_38 : decode cJ5_putChar 38 = .ok (.getstatic 59, 3) := dk_178 0 59 (dk_at dksJ5_putChar_1 14 rfl rfl)
theorem dJ5_putChar_41 : decode cJ5_putChar 41 = .ok (.ishr, 1) := dk_122 (dk_at dksJ5_putChar_1 17 rfl rfl)
theorem dJ5_putChar_42 : decode cJ5_putChar 42 = .ok (.i2b, 1) := dk_145 (dk_at dksJ5_putChar_1 18 rfl rfl)
theorem dJ5_putChar_43 : decode cJ5_putChar 43 = .ok (.bastore, 1) := dk_84 (dk_at dksJ5_putChar_1 19 rfl rfl)
theorem dJ5_putChar_44 : decode cJ5_putChar 44 = .ok (.aload_n 0, 1) := dk_42 (dk_at dksJ5_putChar_1 20 rfl rfl)
theorem dJ5_putChar_45 : decode cJ5_putChar 45 = .ok (.iload_n 1, 1) := dk_27 (dk_at dksJ5_putChar_1 21 rfl rfl)
theorem dJ5_putChar_46 : decode cJ5_putChar 46 = .ok (.iload_n 2, 1) := dk_28 (dk_at dksJ5_putChar_1 22 rfl rfl)
theorem dJ5_putChar_47 : decode cJ5_putChar 47 = .ok (.getstatic 63, 3) := dk_178 0 63 (dk_at dksJ5_putChar_2 0 rfl rfl)
theorem dJ5_putChar_50 : decode cJ5_putChar 50 = .ok (.ishr, 1) := dk_122 (dk_at dksJ5_putChar_2 3 rfl rfl)
theorem dJ5_putChar_51 : decode cJ5_putChar 51 = .ok (.i2b, 1) := dk_145 (dk_at dksJ5_putChar_2 4 rfl rfl)
theorem dJ5_putChar_52 : decode cJ5_putChar 52 = .ok (.bastore, 1) := dk_84 (dk_at dksJ5_putChar_2 5 rfl rfl)
theorem dJ5_putChar_53 : decode cJ5_putChar 53 = .ok (.return_, 1) := dk_177 (dk_at dksJ5_putChar_2 6 rfl rfl)
def dkwJ5_getChar_2 : List UInt8 := [51, 17, 0, 255, 126, 178, 0, 63, 120, 128, 146, 172]
abbrev dktJ5_getChar_2 : List UInt8 := dkwJ5_getChar_2 ++ []
def dkwJ5_getChar_1 : List UInt8 := [183, 0, 56, 191, 27, 4, 120, 60, 42, 27, 132, 1, 1, 51, 17, 0, 255, 126, 178, 0, 59, 120, 42, 27]
abbrev dktJ5_getChar_1 : List UInt8 := dkwJ5_getChar_1 ++ dktJ5_getChar_2
def dkwJ5_getChar_0 : List UInt8 := [178, 0, 44, 154, 0, 25, 27, 155, 0, 11, 27, 42, 184, 0, 48, 161, 0, 13, 187, 0, 52, 89, 18, 54]
abbrev dktJ5_getChar_0 : List UInt8 := dkwJ5_getChar_0 ++ dktJ5_getChar_1
theorem dksJ5_getChar_0 : cJ5_getChar.data.toList.drop 0 = dktJ5_getChar_0 := by decide +kernel
theorem dksJ5_getChar_1 : cJ5_getChar.data.toList.drop 24 = dktJ5_getChar_1 := dk_seg dksJ5_getChar_0 24 rfl rfl
theorem dksJ5_getChar_2 : cJ5_getChar.data.toList.drop 48 = dktJ5_getChar_2 := dk_seg dksJ5_getChar_1 24 rfl rfl
theorem dJ5_getChar_0 : decode cJ5_getChar 0 = .ok (.getstatic 44, 3) := dk_178 0 44 (dk_at dksJ5_getChar_0 0 rfl rfl)
theorem dJ5_getChar_3 : decode cJ5_getChar 3 = .ok (.ifCond .ne 25, 3) := dk_154 0 25 (dk_at dksJ5_getChar_0 3 rfl rfl)
theorem dJ5_getChar_6 : decode cJ5_getChar 6 = .ok (.iload_n 1, 1) := dk_27 (dk_at dksJ5_getChar_0 6 rfl rfl)
theorem dJ5_getChar_7 : decode cJ5_getChar 7 = .ok (.ifCond .lt 11, 3) := dk_155 0 11 (dk_at dksJ5_getChar_0 7 rfl rfl)
theorem dJ5_getChar_10 : decode cJ5_getChar 10 = .ok (.iload_n 1, 1) := dk_27 (dk_at dksJ5_getChar_0 10 rfl rfl)
theorem dJ5_getChar_11 : decode cJ5_getChar 11 = .ok (.aload_n 0, 1) := dk_42 (dk_at dksJ5_getChar_0 11 rfl rfl)
theorem dJ5_getChar_12 : decode cJ5_getChar 12 = .ok (.invokestatic 48, 3) := dk_184 0 48 (dk_at dksJ5_getChar_0 12 rfl rfl)
theorem dJ5_getChar_15 : decode cJ5_getChar 15 = .ok (.if_icmp .lt 13, 3) := dk_161 0 13 (dk_at dksJ5_getChar_0 15 rfl rfl)
theorem dJ5_getChar_18 : decode cJ5_getChar 18 = .ok (.new 52, 3) := dk_187 0 52 (dk_at dksJ5_getChar_0 18 rfl rfl)
theorem dJ5_getChar_21 : decode cJ5_getChar 21 = .ok (.dup, 1) := dk_89 (dk_at dksJ5_getChar_0 21 rfl rfl)
theorem dJ5_getChar_22 : decode cJ5_getChar 22 = .ok (.ldc 54, 2) := dk_18 54 (dk_at dksJ5_getChar_0 22 rfl rfl)
theorem dJ5_getChar_24 : decode cJ5_getChar 24 = .ok (.invokespecial 56, 3) := dk_183 0 56 (dk_at dksJ5_getChar_1 0 rfl rfl)
theorem dJ5_getChar_27 : decode cJ5_getChar 27 = .ok (.athrow, 1) := dk_191 (dk_at dksJ5_getChar_1 3 rfl rfl)
theorem dJ5_getChar_28 : decode cJ5_getChar 28 = .ok (.iload_n 1, 1) := dk_27 (dk_at dksJ5_getChar_1 4 rfl rfl)
theorem dJ5_getChar_29 : decode cJ5_getChar 29 = .ok (.iconst 1, 1) := dk_4 (dk_at dksJ5_getChar_1 5 rfl rfl)
theorem dJ5_getChar_30 : decode cJ5_getChar 30 = .ok (.ishl, 1) := dk_120 (dk_at dksJ5_getChar_1 6 rfl rfl)
theorem dJ5_getChar_31 : decode cJ5_getChar 31 = .ok (.istore_n 1, 1) := dk_60 (dk_at dksJ5_getChar_1 7 rfl rfl)
theorem dJ5_getChar_32 : decode cJ5_getChar 32 = .ok (.aload_n 0, 1) := dk_42 (dk_at dksJ5_getChar_1 8 rfl rfl)
theorem dJ5_getChar_33 : decode cJ5_getChar 33 = .ok (.iload_n 1, 1) := dk_27 (dk_at dksJ5_getChar_1 9 rfl rfl)
theorem dJ5_getChar_34 : decode cJ5_getChar 34 = .ok (.iinc 1 1, 3) := dk_132 1 1 (dk_at dksJ5_getChar_1 10 rfl rfl)
theorem dJ5_getChar_37 : decode cJ5_getChar 37 = .ok (.baload, 1) := dk_51 (dk_at dksJ5_getChar_1 13 rfl rfl)
theorem dJ5_getChar_38 : decode cJ5_getChar 38 = .ok (.sipush 255, 3) := dk_17 0 255 (dk_at dksJ5_getChar_1 14 rfl rfl)
theorem dJ5_getChar_41 : decode cJ5_getChar 41 = .ok (.iand, 1) := dk_126 (dk_at dksJ5_getChar_1 17 rfl rfl)
theorem dJ5_getChar_42 : decode cJ5_getChar 42 = .ok (.getstatic 59, 3) := dk_178 0 59 (dk_at dksJ5_getChar_1 18 rfl rfl)
theorem dJ5_getChar_45 : decode cJ5_getChar 45 = .ok (.ishl, 1) := dk_120 (dk_at dksJ5_getChar_1 21 rfl rfl)
theorem dJ5_getChar_46 : decode cJ5_getChar 46 = .ok (.aload_n 0, 1) := dk_42 (dk_at dksJ5_getChar_1 22 rfl rfl)
theorem dJ5_getChar_47 : decode cJ5_getChar 47 = .ok (.iload_n 1, 1) := dk_27 (dk_at dksJ5_getChar_1 23 rfl rfl)
theorem dJ5_getChar_48 : decode cJ5_getChar 48 = .ok (.baload, 1) := dk_51 (dk_at dksJ5_getChar_2 0 rfl rfl)
theorem dJ5_getChar_49 : decode cJ5_getChar 49 = .ok (.sipush 255, 3) := dk_17 0 255 (dk_at dksJ5_getChar_2 1 rfl rfl)
theorem dJ5_getChar_52 : decode cJ5_getChar 52 = .ok (.iand, 1) := dk_126 (dk_at dksJ5_getChar_2 4 rfl rfl)
theorem dJ5_getChar_53 : decode cJ5_getChar 53 = .ok (.getstatic 63, 3) := dk_178 0 63 (dk_at dksJ5_getChar_2 5 rfl rfl)
theorem dJ5_getChar_56 : decode cJ5_getChar 56 = .ok (.ishl, 1) := dk_120 (dk_at dksJ5_getChar_2 8 rfl rfl)
theorem dJ5_getChar_57 : decode cJ5_getChar 57 = .ok (.ior, 1) := dk_128 (dk_at dksJ5_getChar_2 9 rfl rfl)
theorem dJ5_getChar_58 : decode cJ5_getChar 58 = .ok (.i2c, 1) := dk_146 (dk_at dksJ5_getChar_2 10 rfl rfl)
theorem dJ5_getChar_59 : decode cJ5_getChar 59 = .ok (.ireturn, 1) := dk_172 (dk_at dksJ5_getChar_2 11 rfl rfl)
def dkwJ5_putCharSB_0 : List UInt8 := [27, 42, 184, 0, 67, 42, 27, 28, 184, 0, 111, 177]
abbrev dktJ5_putCharSB_0 : List UInt8 := dkwJ5_putCharSB_0 ++ []
theorem dksJ5_putCharSB_0 : cJ5_putCharSB.data.toList.drop 0 = dktJ5_putCharSB_0 := by decide +kernel
theorem dJ5_putCharSB_0 : decode cJ5_putCharSB 0 = .ok (.iload_n 1, 1) := dk_27 (dk_at dksJ5_putCharSB_0 0 rfl rfl)
theorem dJ5_putCharSB_1 : decode cJ5_putCharSB 1 = .ok (.aload_n 0, 1) := dk_42 (dk_at dksJ5_putCharSB_0 1 rfl rfl)
theorem dJ5_putCharSB_2 : decode cJ5_putCharSB 2 = .ok (.invokestatic 67, 3) := dk_184 0 67 (dk_at dksJ5_putCharSB_0 2 rfl rfl)
theorem dJ5_putCharSB_5 : decode cJ5_putCharSB 5 = .ok (.aload_n 0, 1) := dk_42 (dk_at dksJ5_putCharSB_0 5 rfl rfl)
theorem dJ5_putCharSB_6 : decode cJ5_putCharSB 6 = .ok (.iload_n 1, 1) := dk_27 (dk_at dksJ5_putCharSB_0 6 rfl rfl)
theorem dJ5_putCharSB_7 : decode cJ5_putCharSB 7 = .ok (.iload_n 2, 1) := dk_28 (dk_at dksJ5_putCharSB_0 7 rfl rfl)
theorem dJ5_putCharSB_8 : decode cJ5_putCharSB 8 = .ok (.invokestatic 111, 3) := dk_184 0 111 (dk_at dksJ5_putCharSB_0 8 rfl rfl)
theorem dJ5_putCharSB_11 : decode cJ5_putCharSB 11 = .ok (.return_, 1) := dk_177 (dk_at dksJ5_putCharSB_0 11 rfl rfl)
def dkwJ5_checkBoundsOffCount_0 : List UInt8 := [26, 27, 44, 184, 0, 48, 184, 1, 163, 87, 177]
abbrev dktJ5_checkBoundsOffCount_0 : List UInt8 := dkwJ5_checkBoundsOffCount_0 ++ []
theorem dksJ5_checkBoundsOffCount_0 : cJ5_checkBoundsOffCount.data.toList.drop 0 = dktJ5_checkBoundsOffCount_0 := by decide +kernel
theorem dJ5_checkBoundsOffCount_0 : decode cJ5_checkBoundsOffCount 0 = .ok (.iload_n 0, 1) := dk_26 (dk_at dksJ5_checkBoundsOffCount_0 0 rfl rfl)
theorem dJ5_checkBoundsOffCount_1 : decode cJ5_checkBoundsOffCount 1 = .ok (.iload_n 1, 1) := dk_27 (dk_at dksJ5_checkBoundsOffCount_0 1 rfl rfl)
theorem dJ5_checkBoundsOffCount_2 : decode cJ5_checkBoundsOffCount 2 = .ok (.aload_n 2, 1) := dk_44 (dk_at dksJ5_checkBoundsOffCount_0 2 rfl rfl)
theorem dJ5_checkBoundsOffCount_3 : decode cJ5_checkBoundsOffCount 3 = .ok (.invokestatic 48, 3) := dk_184 0 48 (dk_at dksJ5_checkBoundsOffCount_0 3 rfl rfl)
theorem dJ5_checkBoundsOffCount_6 : decode cJ5_checkBoundsOffCount 6 = .ok (.invokestatic 419, 3) := dk_184 1 163 (dk_at dksJ5_checkBoundsOffCount_0 6 rfl rfl)
theorem dJ5_checkBoundsOffCount_9 : decode cJ5_checkBoundsOffCount 9 = .ok (.pop, 1) := dk_87 (dk_at dksJ5_checkBoundsOffCount_0 9 rfl rfl)
theorem dJ5_checkBoundsOffCount_10 : decode cJ5_checkBoundsOffCount 10 = .ok (.return_, 1) := dk_177 (dk_at dksJ5_checkBoundsOffCount_0 10 rfl rfl)
def dkwJ5_inflate_1 : List UInt8 := [132, 1, 1, 51, 17, 0, 255, 126, 184, 0, 111, 132, 5, 1, 167, 255, 228, 177]
abbrev dktJ5_inflate_1 : List UInt8 := dkwJ5_inflate_1 ++ []
def dkwJ5_inflate_0 : List UInt8 := [29, 21, 4, 44, 184, 0, 173, 3, 54, 5, 21, 5, 21, 4, 162, 0, 27, 44, 29, 132, 3, 1, 42, 27]
abbrev dktJ5_inflate_0 : List UInt8 := dkwJ5_inflate_0 ++ dktJ5_inflate_1
theorem dksJ5_inflate_0 : cJ5_inflate.data.toList.drop 0 = dktJ5_inflate_0 := by decide +kernel
theorem dksJ5_inflate_1 : cJ5_inflate.data.toList.drop 24 = dktJ5_inflate_1 := dk_seg dksJ5_inflate_0 24 rfl rfl
theorem dJ5_inflate_0 : decode cJ5_inflate 0 = .ok (.iload_n 3, 1) := dk_29 (dk_at dksJ5_inflate_0 0 rfl rfl)
theorem dJ5_inflate_1 : decode cJ5_inflate 1 = .ok (.iload 4, 2) := dk_21 4 (dk_at dksJ5_inflate_0 1 rfl rfl)
theorem dJ5_inflate_3 : decode cJ5_inflate 3 = .ok (.aload_n 2, 1) := dk_44 (dk_at dksJ5_inflate_0 3 rfl rfl)
theorem dJ5_inflate_4 : decode cJ5_inflate 4 = .ok (.invokestatic 173, 3) := dk_184 0 173 (dk_at dksJ5_inflate_0 4 rfl rfl)
theorem dJ5_inflate_7 : decode cJ5_inflate 7 = .ok (.iconst 0, 1) := dk_3 (dk_at dksJ5_inflate_0 7 rfl rfl)
theorem dJ5_inflate_8 : decode cJ5_inflate 8 = .ok (.istore 5, 2) := dk_54 5 (dk_at dksJ5_inflate_0 8 rfl rfl)
theorem dJ5_inflate_10 : decode cJ5_inflate 10 = .ok (.iload 5, 2) := dk_21 5 (dk_at dksJ5_inflate_0 10 rfl rfl)
theorem dJ5_inflate_12 : decode cJ5_inflate 12 = .ok (.iload 4, 2) := dk_21 4 (dk_at dksJ5_inflate_0 12 rfl rfl)
theorem dJ5_inflate_14 : decode cJ5_inflate 14 = .ok (.if_icmp .ge 27, 3) := dk_162 0 27 (dk_at dksJ5_inflate_0 14 rfl rfl)
theorem dJ5_inflate_17 : decode cJ5_inflate 17 = .ok (.aload_n 2, 1) := dk_44 (dk_at dksJ5_inflate_0 17 rfl rfl)
theorem dJ5_inflate_18 : decode cJ5_inflate 18 = .ok (.iload_n 3, 1) := dk_29 (dk_at dksJ5_inflate_0 18 rfl rfl)
theorem dJ5_inflate_19 : decode cJ5_inflate 19 = .ok (.iinc 3 1, 3) := dk_132 3 1 (dk_at dksJ5_inflate_0 19 rfl rfl)
theorem dJ5_inflate_22 : decode cJ5_inflate 22 = .ok (.aload_n 0, 1) := dk_42 (dk_at dksJ5_inflate_0 22 rfl rfl)
theorem dJ5_inflate_23 : decode cJ5_inflate 23 = .ok (.iload_n 1, 1) := dk_27 (dk_at dksJ5_inflate_0 23 rfl rfl)
theorem dJ5_inflate_24 : decode cJ5_inflate 24 = .ok (.iinc 1 1, 3) := dk_132 1 1 (dk_at dksJ5_inflate_1 0 rfl rfl)
theorem dJ5_inflate_27 : decode cJ5_inflate 27 = .ok (.baload, 1) := dk_51 (dk_at dksJ5_inflate_1 3 rfl rfl)
theorem dJ5_inflate_28 : decode cJ5_inflate 28 = .ok (.sipush 255, 3) := dk_17 0 255 (dk_at dksJ5_inflate_1 4 rfl rfl)
theorem dJ5_inflate_31 : decode cJ5_inflate 31 = .ok (.iand, 1) := dk_126 (dk_at dksJ5_inflate_1 7 rfl rfl)
theorem dJ5_inflate_32 : decode cJ5_inflate 32 = .ok (.invokestatic 111, 3) := dk_184 0 111 (dk_at dksJ5_inflate_1 8 rfl rfl)
theorem dJ5_inflate_35 : decode cJ5_inflate 35 = .ok (.iinc 5 1, 3) := dk_132 5 1 (dk_at dksJ5_inflate_1 11 rfl rfl)
theorem dJ5_inflate_38 : decode cJ5_inflate 38 = .ok (.goto (-28), 3) := dk_167 255 228 (dk_at dksJ5_inflate_1 14 rfl rfl)
theorem dJ5_inflate_41 : decode cJ5_inflate 41 = .ok (.return_, 1) := dk_177 (dk_at dksJ5_inflate_1 17 rfl rfl)
def dkwJ12_copyOf_3_1 : List UInt8 := [27, 184, 1, 48, 184, 0, 150, 44, 176]
abbrev dktJ12_copyOf_3_1 : List UInt8 := dkwJ12_copyOf_3_1 ++ []
def dkwJ12_copyOf_3_0 : List UInt8 := [27, 42, 190, 160, 0, 11, 42, 182, 1, 54, 192, 1, 55, 176, 27, 188, 8, 77, 42, 3, 44, 3, 42, 190]
abbrev dktJ12_copyOf_3_0 : List UInt8 := dkwJ12_copyOf_3_0 ++ dktJ12_copyOf_3_1
theorem dksJ12_copyOf_3_0 : cJ12_copyOf_3.data.toList.drop 0 = dktJ12_copyOf_3_0 := by decide +kernel
theorem dksJ12_copyOf_3_1 : cJ12_copyOf_3.data.toList.drop 24 = dktJ12_copyOf_3_1 := dk_seg dksJ12_copyOf_3_0 24 rfl rfl
theorem dJ12_copyOf_3_0 : decode cJ12_copyOf_3 0 = .ok (.iload_n 1, 1) := dk_27 (dk_at dksJ12_copyOf_3_0 0 rfl rfl)
theorem dJ12_copyOf_3_1 : decode cJ12_copyOf_3 1 = .ok (.aload_n 0, 1) := dk_42 (dk_at dksJ12_copyOf_3_0 1 rfl rfl)
theorem dJ12_copyOf_3_2 : decode cJ12_copyOf_3 2 = .ok (.arraylength, 1) := dk_190 (dk_at dksJ12_copyOf_3_0 2 rfl rfl)
theorem dJ12_copyOf_3_3 : decode cJ12_copyOf_3 3 = .ok (.if_icmp .ne 11, 3) := dk_160 0 11 (dk_at dksJ12_copyOf_3_0 3 rfl rfl)
theorem dJ12_copyOf_3_6 : decode cJ12_copyOf_3 6 = .ok (.aload_n 0, 1) := dk_42 (dk_at dksJ12_copyOf_3_0 6 rfl rfl)
theorem dJ12_copyOf_3_7 : decode cJ12_copyOf_3 7 = .ok (.invokevirtual 310, 3) := dk_182 1 54 (dk_at dksJ12_copyOf_3_0 7 rfl rfl)
theorem dJ12_copyOf_3_10 : decode cJ12_copyOf_3 10 = .ok (.checkcast 311, 3) := dk_192 1 55 (dk_at dksJ12_copyOf_3_0 10 rfl rfl)
theorem dJ12_copyOf_3_13 : decode cJ12_copyOf_3 13 = .ok (.areturn, 1) := dk_176 (dk_at dksJ12_copyOf_3_0 13 rfl rfl)
theorem dJ12_copyOf_3_14 : decode cJ12_copyOf_3 14 = .ok (.iload_n 1, 1) := dk_27 (dk_at dksJ12_copyOf_3_0 14 rfl rfl)
theorem dJ12_copyOf_3_15 : decode cJ12_copyOf_3 15 = .ok (.newarray .byte, 2) := dk_188_8 (dk_at dksJ12_copyOf_3_0 15 rfl rfl)
theorem dJ12_copyOf_3_17 : decode cJ12_copyOf_3 17 = .ok (.astore_n 2, 1) := dk_77 (dk_at dksJ12_copyOf_3_0 17 rfl rfl)
theorem dJ12_copyOf_3_18 : decode cJ12_copyOf_3 18 = .ok (.aload_n 0, 1) := dk_42 (dk_at dksJ12_copyOf_3_0 18 rfl rfl)
theorem dJ12_copyOf_3_19 : decode cJ12_copyOf_3 19 = .ok (.iconst 0, 1) := dk_3 (dk_at dksJ12_copyOf_3_0 19 rfl rfl)
theorem dJ12_copyOf_3_20 : decode cJ12_copyOf_3 20 = .ok (.aload_n 2, 1) := dk_44 (dk_at dksJ12_copyOf_3_0 20 rfl rfl)
theorem dJ12_copyOf_3_21 : decode cJ12_copyOf_3 21 = .ok (.iconst 0, 1) := dk_3 (dk_at dksJ12_copyOf_3_0 21 rfl rfl)
theorem dJ12_copyOf_3_22 : decode cJ12_copyOf_3 22 = .ok (.aload_n 0, 1) := dk_42 (dk_at dksJ12_copyOf_3_0 22 rfl rfl)
theorem dJ12_copyOf_3_23 : decode cJ12_copyOf_3 23 = .ok (.arraylength, 1) := dk_190 (dk_at dksJ12_copyOf_3_0 23 rfl rfl)
theorem dJ12_copyOf_3_24 : decode cJ12_copyOf_3 24 = .ok (.iload_n 1, 1) := dk_27 (dk_at dksJ12_copyOf_3_1 0 rfl rfl)
theorem dJ12_copyOf_3_25 : decode cJ12_copyOf_3 25 = .ok (.invokestatic 304, 3) := dk_184 1 48 (dk_at dksJ12_copyOf_3_1 1 rfl rfl)
theorem dJ12_copyOf_3_28 : decode cJ12_copyOf_3 28 = .ok (.invokestatic 150, 3) := dk_184 0 150 (dk_at dksJ12_copyOf_3_1 4 rfl rfl)
theorem dJ12_copyOf_3_31 : decode cJ12_copyOf_3 31 = .ok (.aload_n 2, 1) := dk_44 (dk_at dksJ12_copyOf_3_1 7 rfl rfl)
theorem dJ12_copyOf_3_32 : decode cJ12_copyOf_3 32 = .ok (.areturn, 1) := dk_176 (dk_at dksJ12_copyOf_3_1 8 rfl rfl)
def dkwJ12_copyOf_0 : List UInt8 := [42, 27, 42, 182, 0, 86, 184, 1, 44, 176]
abbrev dktJ12_copyOf_0 : List UInt8 := dkwJ12_copyOf_0 ++ []
theorem dksJ12_copyOf_0 : cJ12_copyOf.data.toList.drop 0 = dktJ12_copyOf_0 := by decide +kernel
theorem dJ12_copyOf_0 : decode cJ12_copyOf 0 = .ok (.aload_n 0, 1) := dk_42 (dk_at dksJ12_copyOf_0 0 rfl rfl)
theorem dJ12_copyOf_1 : decode cJ12_copyOf 1 = .ok (.iload_n 1, 1) := dk_27 (dk_at dksJ12_copyOf_0 1 rfl rfl)
theorem dJ12_copyOf_2 : decode cJ12_copyOf 2 = .ok (.aload_n 0, 1) := dk_42 (dk_at dksJ12_copyOf_0 2 rfl rfl)
theorem dJ12_copyOf_3 : decode cJ12_copyOf 3 = .ok (.invokevirtual 86, 3) := dk_182 0 86 (dk_at dksJ12_copyOf_0 3 rfl rfl)
theorem dJ12_copyOf_6 : decode cJ12_copyOf 6 = .ok (.invokestatic 300, 3) := dk_184 1 44 (dk_at dksJ12_copyOf_0 6 rfl rfl)
theorem dJ12_copyOf_9 : decode cJ12_copyOf 9 = .ok (.areturn, 1) := dk_176 (dk_at dksJ12_copyOf_0 9 rfl rfl)
def dkwJ12_copyOf_2_1 : List UInt8 := [78, 42, 3, 45, 3, 42, 190, 27, 184, 1, 48, 184, 0, 150, 45, 176]
abbrev dktJ12_copyOf_2_1 : List UInt8 := dkwJ12_copyOf_2_1 ++ []
def dkwJ12_copyOf_2_0 : List UInt8 := [44, 18, 110, 166, 0, 10, 27, 189, 0, 2, 167, 0, 14, 44, 182, 0, 90, 27, 184, 0, 95, 192, 0, 110]
abbrev dktJ12_copyOf_2_0 : List UInt8 := dkwJ12_copyOf_2_0 ++ dktJ12_copyOf_2_1
theorem dksJ12_copyOf_2_0 : cJ12_copyOf_2.data.toList.drop 0 = dktJ12_copyOf_2_0 := by decide +kernel
theorem dksJ12_copyOf_2_1 : cJ12_copyOf_2.data.toList.drop 24 = dktJ12_copyOf_2_1 := dk_seg dksJ12_copyOf_2_0 24 rfl rfl
theorem dJ12_copyOf_2_0 : decode cJ12_copyOf_2 0 = .ok (.aload_n 2, 1) := dk_44 (dk_at dksJ12_copyOf_2_0 0 rfl rfl)
theorem dJ12_copyOf_2_1 : decode cJ12_copyOf_2 1 = .ok (.ldc 110, 2) := dk_18 110 (dk_at dksJ12_copyOf_2_0 1 rfl rfl)
theorem dJ12_copyOf_2_3 : decode cJ12_copyOf_2 3 = .ok (.if_acmp .ne 10, 3) := dk_166 0 10 (dk_at dksJ12_copyOf_2_0 3 rfl rfl)
theorem dJ12_copyOf_2_6 : decode cJ12_copyOf_2 6 = .ok (.iload_n 1, 1) := dk_27 (dk_at dksJ12_copyOf_2_0 6 rfl rfl)
theorem dJ12_copyOf_2_7 : decode cJ12_copyOf_2 7 = .ok (.anewarray 2, 3) := dk_189 0 2 (dk_at dksJ12_copyOf_2_0 7 rfl rfl)
theorem dJ12_copyOf_2_10 : decode cJ12_copyOf_2 10 = .ok (.goto 14, 3) := dk_167 0 14 (dk_at dksJ12_copyOf_2_0 10 rfl rfl)
theorem dJ12_copyOf_2_13 : decode cJ12_copyOf_2 13 = .ok (.aload_n 2, 1) := dk_44 (dk_at dksJ12_copyOf_2_0 13 rfl rfl)
theorem dJ12_copyOf_2_14 : decode cJ12_copyOf_2 14 = .ok (.invokevirtual 90, 3) := dk_182 0 90 (dk_at dksJ12_copyOf_2_0 14 rfl rfl)
theorem dJ12_copyOf_2_17 : decode cJ12_copyOf_2 17 = .ok (.iload_n 1, 1) := dk_27 (dk_at dksJ12_copyOf_2_0 17 rfl rfl)
theorem dJ12_copyOf_2_18 : decode cJ12_copyOf_2 18 = .ok (.invokestatic 95, 3) := dk_184 0 95 (dk_at dksJ12_copyOf_2_0 18 rfl rfl)
theorem dJ12_copyOf_2_21 : decode cJ12_copyOf_2 21 = .ok (.checkcast 110, 3) := dk_192 0 110 (dk_at dksJ12_copyOf_2_0 21 rfl rfl)
theorem dJ12_copyOf_2_24 : decode cJ12_copyOf_2 24 = .ok (.astore_n 3, 1) := dk_78 (dk_at dksJ12_copyOf_2_1 0 rfl rfl)
theorem dJ12_copyOf_2_25 : decode cJ12_copyOf_2 25 = .ok (.aload_n 0, 1) := dk_42 (dk_at dksJ12_copyOf_2_1 1 rfl rfl)
theorem dJ12_copyOf_2_26 : decode cJ12_copyOf_2 26 = .ok (.iconst 0, 1) := dk_3 (dk_at dksJ12_copyOf_2_1 2 rfl rfl)
theorem dJ12_copyOf_2_27 : decode cJ12_copyOf_2 27 = .ok (.aload_n 3, 1) := dk_45 (dk_at dksJ12_copyOf_2_1 3 rfl rfl)
theorem dJ12_copyOf_2_28 : decode cJ12_copyOf_2 28 = .ok (.iconst 0, 1) := dk_3 (dk_at dksJ12_copyOf_2_1 4 rfl rfl)
theorem dJ12_copyOf_2_29 : decode cJ12_copyOf_2 29 = .ok (.aload_n 0, 1) := dk_42 (dk_at dksJ12_copyOf_2_1 5 rfl rfl)
theorem dJ12_copyOf_2_30 : decode cJ12_copyOf_2 30 = .ok (.arraylength, 1) := dk_190 (dk_at dksJ12_copyOf_2_1 6 rfl rfl)
theorem dJ12_copyOf_2_31 : decode cJ12_copyOf_2 31 = .ok (.iload_n 1, 1) := dk_27 (dk_at dksJ12_copyOf_2_1 7 rfl rfl)
theorem dJ12_copyOf_2_32 : decode cJ12_copyOf_2 32 = .ok (.invokestatic 304, 3) := dk_184 1 48 (dk_at dksJ12_copyOf_2_1 8 rfl rfl)
theorem dJ12_copyOf_2_35 : decode cJ12_copyOf_2 35 = .ok (.invokestatic 150, 3) := dk_184 0 150 (dk_at dksJ12_copyOf_2_1 11 rfl rfl)
theorem dJ12_copyOf_2_38 : decode cJ12_copyOf_2 38 = .ok (.aload_n 3, 1) := dk_45 (dk_at dksJ12_copyOf_2_1 14 rfl rfl)
theorem dJ12_copyOf_2_39 : decode cJ12_copyOf_2 39 = .ok (.areturn, 1) := dk_176 (dk_at dksJ12_copyOf_2_1 15 rfl rfl)
def dkwJ2_init_1 : List UInt8 := [167, 0, 16, 42, 27, 184, 0, 26, 181, 0, 15, 42, 4, 181, 0, 22, 177]
abbrev dktJ2_init_1 : List UInt8 := dkwJ2_init_1 ++ []
def dkwJ2_init_0 : List UInt8 := [42, 183, 0, 3, 178, 0, 18, 153, 0, 18, 42, 27, 188, 8, 181, 0, 15, 42, 3, 181, 0, 22]
abbrev dktJ2_init_0 : List UInt8 := dkwJ2_init_0 ++ dktJ2_init_1
theorem dksJ2_init_0 : cJ2_init.data.toList.drop 0 = dktJ2_init_0 := by decide +kernel
theorem dksJ2_init_1 : cJ2_init.data.toList.drop 22 = dktJ2_init_1 := dk_seg dksJ2_init_0 22 rfl rfl
theorem dJ2_init_0 : decode cJ2_init 0 = .ok (.aload_n 0, 1) := dk_42 (dk_at dksJ2_init_0 0 rfl rfl)
theorem dJ2_init_1 : decode cJ2_init 1 = .ok (.invokespecial 3, 3) := dk_183 0 3 (dk_at dksJ2_init_0 1 rfl rfl)
theorem dJ2_init_4 : decode cJ2_init 4 = .ok (.getstatic 18, 3) := dk_178 0 18 (dk_at dksJ2_init_0 4 rfl rfl)
theorem dJ2_init_7 : decode cJ2_init 7 = .ok (.ifCond .eq 18, 3) := dk_153 0 18 (dk_at dksJ2_init_0 7 rfl rfl)
theorem dJ2_init_10 : decode cJ2_init 10 = .ok (.aload_n 0, 1) := dk_42 (dk_at dksJ2_init_0 10 rfl rfl)
theorem dJ2_init_11 : decode cJ2_init 11 = .ok (.iload_n 1, 1) := dk_27 (dk_at dksJ2_init_0 11 rfl rfl)
theorem dJ2_init_12 : decode cJ2_init 12 = .ok (.newarray .byte, 2) := dk_188_8 (dk_at dksJ2_init_0 12 rfl rfl)
theorem dJ2_init_14 : decode cJ2_init 14 = .ok (.putfield 15, 3) := dk_181 0 15 (dk_at dksJ2_init_0 14 rfl rfl)
theorem dJ2_init_17 : decode cJ2_init 17 = .ok (.aload_n 0, 1) := dk_42 (dk_at dksJ2_init_0 17 rfl rfl)
theorem dJ2_init_18 : decode cJ2_init 18 = .ok (.iconst 0, 1) := dk_3 (dk_at dksJ2_init_0 18 rfl rfl)
theorem dJ2_init_19 : decode cJ2_init 19 = .ok (.putfield 22, 3) := dk_181 0 22 (dk_at dksJ2_init_0 19 rfl rfl)
theorem dJ2_init_22 : decode cJ2_init 22 = .ok (.goto 16, 3) := dk_167 0 16 (dk_at dksJ2_init_1 0 rfl rfl)
theorem dJ2_init_25 : decode cJ2_init 25 = .ok (.aload_n 0, 1) := dk_42 (dk_at dksJ2_init_1 3 rfl rfl)
theorem dJ2_init_26 : decode cJ2_init 26 = .ok (.iload_n 1, 1) := dk_27 (dk_at dksJ2_init_1 4 rfl rfl)
theorem dJ2_init_27 : decode cJ2_init 27 = .ok (.invokestatic 26, 3) := dk_184 0 26 (dk_at dksJ2_init_1 5 rfl rfl)
theorem dJ2_init_30 : decode cJ2_init 30 = .ok (.putfield 15, 3) := dk_181 0 15 (dk_at dksJ2_init_1 8 rfl rfl)
theorem dJ2_init_33 : decode cJ2_init 33 = .ok (.aload_n 0, 1) := dk_42 (dk_at dksJ2_init_1 11 rfl rfl)
theorem dJ2_init_34 : decode cJ2_init 34 = .ok (.iconst 1, 1) := dk_4 (dk_at dksJ2_init_1 12 rfl rfl)
theorem dJ2_init_35 : decode cJ2_init 35 = .ok (.putfield 22, 3) := dk_181 0 22 (dk_at dksJ2_init_1 13 rfl rfl)
theorem dJ2_init_38 : decode cJ2_init 38 = .ok (.return_, 1) := dk_177 (dk_at dksJ2_init_1 16 rfl rfl)
def dkwJ2_isLatin1_0 : List UInt8 := [178, 0, 18, 153, 0, 14, 42, 180, 0, 22, 154, 0, 7, 4, 167, 0, 4, 3, 172]
abbrev dktJ2_isLatin1_0 : List UInt8 := dkwJ2_isLatin1_0 ++ []
theorem dksJ2_isLatin1_0 : cJ2_isLatin1.data.toList.drop 0 = dktJ2_isLatin1_0 := by decide +kernel
theorem dJ2_isLatin1_0 : decode cJ2_isLatin1 0 = .ok (.getstatic 18, 3) := dk_178 0 18 (dk_at dksJ2_isLatin1_0 0 rfl rfl)
theorem dJ2_isLatin1_3 : decode cJ2_isLatin1 3 = .ok (.ifCond .eq 14, 3) := dk_153 0 14 (dk_at dksJ2_isLatin1_0 3 rfl rfl)
theorem dJ2_isLatin1_6 : decode cJ2_isLatin1 6 = .ok (.aload_n 0, 1) := dk_42 (dk_at dksJ2_isLatin1_0 6 rfl rfl)
theorem dJ2_isLatin1_7 : decode cJ2_isLatin1 7 = .ok (.getfield 22, 3) := dk_180 0 22 (dk_at dksJ2_isLatin1_0 7 rfl rfl)
theorem dJ2_isLatin1_10 : decode cJ2_isLatin1 10 = .ok (.ifCond .ne 7, 3) := dk_154 0 7 (dk_at dksJ2_isLatin1_0 10 rfl rfl)
theorem dJ2_isLatin1_13 : decode cJ2_isLatin1 13 = .ok (.iconst 1, 1) := dk_4 (dk_at dksJ2_isLatin1_0 13 rfl rfl)
theorem dJ2_isLatin1_14 : decode cJ2_isLatin1 14 = .ok (.goto 4, 3) := dk_167 0 4 (dk_at dksJ2_isLatin1_0 14 rfl rfl)
theorem dJ2_isLatin1_17 : decode cJ2_isLatin1 17 = .ok (.iconst 0, 1) := dk_3 (dk_at dksJ2_isLatin1_0 17 rfl rfl)
theorem dJ2_isLatin1_18 : decode cJ2_isLatin1 18 = .ok (.ireturn, 1) := dk_172 (dk_at dksJ2_isLatin1_0 18 rfl rfl)
def dkwJ2_newCapacity_2 : List UInt8 := [183, 0, 124, 191, 21, 5, 42, 180, 0, 22, 122, 172]
abbrev dktJ2_newCapacity_2 : List UInt8 := dkwJ2_newCapacity_2 ++ []
def dkwJ2_newCapacity_1 : List UInt8 := [180, 0, 22, 120, 96, 184, 0, 114, 54, 5, 21, 5, 18, 39, 160, 0, 13, 187, 0, 120, 89, 18, 122]
abbrev dktJ2_newCapacity_1 : List UInt8 := dkwJ2_newCapacity_1 ++ dktJ2_newCapacity_2
def dkwJ2_newCapacity_0 : List UInt8 := [42, 180, 0, 15, 190, 61, 27, 42, 180, 0, 22, 120, 62, 29, 28, 100, 54, 4, 28, 21, 4, 28, 5, 42]
abbrev dktJ2_newCapacity_0 : List UInt8 := dkwJ2_newCapacity_0 ++ dktJ2_newCapacity_1
theorem dksJ2_newCapacity_0 : cJ2_newCapacity.data.toList.drop 0 = dktJ2_newCapacity_0 := by decide +kernel
theorem dksJ2_newCapacity_1 : cJ2_newCapacity.data.toList.drop 24 = dktJ2_newCapacity_1 := dk_seg dksJ2_newCapacity_0 24 rfl rfl
theorem dksJ2_newCapacity_2 : cJ2_newCapacity.data.toList.drop 47 = dktJ2_newCapacity_2 := dk_seg dksJ2_newCapacity_1 23 rfl rfl
theorem dJ2_newCapacity_0 : decode cJ2_newCapacity 0 = .ok (.aload_n 0, 1) := dk_42 (dk_at dksJ2_newCapacity_0 0 rfl rfl)
theorem dJ2_newCapacity_1 : decode cJ2_newCapacity 1 = .ok (.getfield 15, 3) := dk_180 0 15 (dk_at dksJ2_newCapacity_0 1 rfl rfl)
theorem dJ2_newCapacity_4 : decode cJ2_newCapacity 4 = .ok (.arraylength, 1) := dk_190 (dk_at dksJ2_newCapacity_0 4 rfl rfl)
theorem dJ2_newCapacity_5 : decode cJ2_newCapacity 5 = .ok (.istore_n 2, 1) := dk_61 (dk_at dksJ2_newCapacity_0 5 rfl rfl)
theorem dJ2_newCapacity_6 : decode cJ2_newCapacity 6 = .ok (.iload_n 1, 1) := dk_27 (dk_at dksJ2_newCapacity_0 6 rfl rfl)
theorem dJ2_newCapacity_7 : decode cJ2_newCapacity 7 = .ok (.aload_n 0, 1) := dk_42 (dk_at dksJ2_newCapacity_0 7 rfl rfl)
theorem dJ2_newCapacity_8 : decode cJ2_newCapacity 8 = .ok (.getfield 22, 3) := dk_180 0 22 (dk_at dksJ2_newCapacity_0 8 rfl rfl)
theorem dJ2_newCapacity_11 : decode cJ2_newCapacity 11 = .ok (.ishl, 1) := dk_120 (dk_at dksJ2_newCapacity_0 11 rfl rfl)
theorem dJ2_newCapacity_12 : decode cJ2_newCapacity 12 = .ok (.istore_n 3, 1) := dk_62 (dk_at dksJ2_newCapacity_0 12 rfl rfl)
theorem dJ2_newCapacity_13 : decode cJ2_newCapacity 13 = .ok (.iload_n 3, 1) := dk_29 (dk_at dksJ2_newCapacity_0 13 rfl rfl)
theorem dJ2_newCapacity_14 : decode cJ2_newCapacity 14 = .ok (.iload_n 2, 1) := dk_28 (dk_at dksJ2_newCapacity_0 14 rfl rfl)
theorem dJ2_newCapacity_15 : decode cJ2_newCapacity 15 = .ok (.isub, 1) := dk_100 (dk_at dksJ2_newCapacity_0 15 rfl rfl)
theorem dJ2_newCapacity_16 : decode cJ2_newCapacity 16 = .ok (.istore 4, 2) := dk_54 4 (dk_at dksJ2_newCapacity_0 16 rfl rfl)
theorem dJ2_newCapacity_18 : decode cJ2_newCapacity 18 = .ok (.iload_n 2, 1) := dk_28 (dk_at dksJ2_newCapacity_0 18 rfl rfl)
theorem dJ2_newCapacity_19 : decode cJ2_newCapacity 19 = .ok (.iload 4, 2) := dk_21 4 (dk_at dksJ2_newCapacity_0 19 rfl rfl)
theorem dJ2_newCapacity_21 : decode cJ2_newCapacity 21 = .ok (.iload_n 2, 1) := dk_28 (dk_at dksJ2_newCapacity_0 21 rfl rfl)
theorem dJ2_newCapacity_22 : decode cJ2_newCapacity 22 = .ok (.iconst 2, 1) := dk_5 (dk_at dksJ2_newCapacity_0 22 rfl rfl)
theorem dJ2_newCapacity_23 : decode cJ2_newCapacity 23 = .ok (.aload_n 0, 1) := dk_42 (dk_at dksJ2_newCapacity_0 23 rfl rfl)
theorem dJ2_newCapacity_24 : decode cJ2_newCapacity 24 = .ok (.getfield 22, 3) := dk_180 0 22 (dk_at dksJ2_newCapacity_1 0 rfl rfl)
theorem dJ2_newCapacity_27 : decode cJ2_newCapacity 27 = .ok (.ishl, 1) := dk_120 (dk_at dksJ2_newCapacity_1 3 rfl rfl)
theorem dJ2_newCapacity_28 : decode cJ2_newCapacity 28 = .ok (.iadd, 1) := dk_96 (dk_at dksJ2_newCapacity_1 4 rfl rfl)
theorem dJ2_newCapacity_29 : decode cJ2_newCapacity 29 = .ok (.invokestatic 114, 3) := dk_184 0 114 (dk_at dksJ2_newCapacity_1 5 rfl rfl)
theorem dJ2_newCapacity_32 : decode cJ2_newCapacity 32 = .ok (.istore 5, 2) := dk_54 5 (dk_at dksJ2_newCapacity_1 8 rfl rfl)
theorem dJ2_newCapacity_34 : decode cJ2_newCapacity 34 = .ok (.iload 5, 2) := dk_21 5 (dk_at dksJ2_newCapacity_1 10 rfl rfl)
theorem dJ2_newCapacity_36 : decode cJ2_newCapacity 36 = .ok (.ldc 39, 2) := dk_18 39 (dk_at dksJ2_newCapacity_1 12 rfl rfl)
theorem dJ2_newCapacity_38 : decode cJ2_newCapacity 38 = .ok (.if_icmp .ne 13, 3) := dk_160 0 13 (dk_at dksJ2_newCapacity_1 14 rfl rfl)
theorem dJ2_newCapacity_41 : decode cJ2_newCapacity 41 = .ok (.new 120, 3) := dk_187 0 120 (dk_at dksJ2_newCapacity_1 17 rfl rfl)
theorem dJ2_newCapacity_44 : decode cJ2_newCapacity 44 = .ok (.dup, 1) := dk_89 (dk_at dksJ2_newCapacity_1 20 rfl rfl)
theorem dJ2_newCapacity_45 : decode cJ2_newCapacity 45 = .ok (.ldc 122, 2) := dk_18 122 (dk_at dksJ2_newCapacity_1 21 rfl rfl)
theorem dJ2_newCapacity_47 : decode cJ2_newCapacity 47 = .ok (.invokespecial 124, 3) := dk_183 0 124 (dk_at dksJ2_newCapacity_2 0 rfl rfl)
theorem dJ2_newCapacity_50 : decode cJ2_newCapacity 50 = .ok (.athrow, 1) := dk_191 (dk_at dksJ2_newCapacity_2 3 rfl rfl)
theorem dJ2_newCapacity_51 : decode cJ2_newCapacity 51 = .ok (.iload 5, 2) := dk_21 5 (dk_at dksJ2_newCapacity_2 4 rfl rfl)
theorem dJ2_newCapacity_53 : decode cJ2_newCapacity 53 = .ok (.aload_n 0, 1) := dk_42 (dk_at dksJ2_newCapacity_2 6 rfl rfl)
theorem dJ2_newCapacity_54 : decode cJ2_newCapacity 54 = .ok (.getfield 22, 3) := dk_180 0 22 (dk_at dksJ2_newCapacity_2 7 rfl rfl)
theorem dJ2_newCapacity_57 : decode cJ2_newCapacity 57 = .ok (.ishr, 1) := dk_122 (dk_at dksJ2_newCapacity_2 10 rfl rfl)
theorem dJ2_newCapacity_58 : decode cJ2_newCapacity 58 = .ok (.ireturn, 1) := dk_172 (dk_at dksJ2_newCapacity_2 11 rfl rfl)
def dkwJ2_ensureCapacityInternal_1 : List UInt8 := [182, 0, 104, 42, 180, 0, 22, 120, 184, 0, 108, 181, 0, 15, 177]
abbrev dktJ2_ensureCapacityInternal_1 : List UInt8 := dkwJ2_ensureCapacityInternal_1 ++ []
def dkwJ2_ensureCapacityInternal_0 : List UInt8 := [42, 180, 0, 15, 190, 42, 180, 0, 22, 122, 61, 27, 28, 100, 158, 0, 24, 42, 42, 180, 0, 15, 42, 27]
abbrev dktJ2_ensureCapacityInternal_0 : List UInt8 := dkwJ2_ensureCapacityInternal_0 ++ dktJ2_ensureCapacityInternal_1
theorem dksJ2_ensureCapacityInternal_0 : cJ2_ensureCapacityInternal.data.toList.drop 0 = dktJ2_ensureCapacityInternal_0 := by decide +kernel
theorem dksJ2_ensureCapacityInternal_1 : cJ2_ensureCapacityInternal.data.toList.drop 24 = dktJ2_ensureCapacityInternal_1 := dk_seg dksJ2_ensureCapacityInternal_0 24 rfl rfl
theorem dJ2_ensureCapacityInternal_0 : decode cJ2_ensureCapacityInternal 0 = .ok (.aload_n 0, 1) := dk_42 (dk_at dksJ2_ensureCapacityInternal_0 0 rfl rfl)
theorem dJ2_ensureCapacityInternal_1 : decode cJ2_ensureCapacityInternal 1 = .ok (.getfield 15, 3) := dk_180 0 15 (dk_at dksJ2_ensureCapacityInternal_0 1 rfl rfl)
theorem dJ2_ensureCapacityInternal_4 : decode cJ2_ensureCapacityInternal 4 = .ok (.arraylength, 1) := dk_190 (dk_at dksJ2_ensureCapacityInternal_0 4 rfl rfl)
theorem dJ2_ensureCapacityInternal_5 : decode cJ2_ensureCapacityInternal 5 = .ok (.aload_n 0, 1) := dk_42 (dk_at dksJ2_ensureCapacityInternal_0 5 rfl rfl)
theorem dJ2_ensureCapacityInternal_6 : decode cJ2_ensureCapacityInternal 6 = .ok (.getfield 22, 3) := dk_180 0 22 (dk_at dksJ2_ensureCapacityInternal_0 6 rfl rfl)
theorem dJ2_ensureCapacityInternal_9 : decode cJ2_ensureCapacityInternal 9 = .ok (.ishr, 1) := dk_122 (dk_at dksJ2_ensureCapacityInternal_0 9 rfl rfl)
theorem dJ2_ensureCapacityInternal_10 : decode cJ2_ensureCapacityInternal 10 = .ok (.istore_n 2, 1) := dk_61 (dk_at dksJ2_ensureCapacityInternal_0 10 rfl rfl)
theorem dJ2_ensureCapacityInternal_11 : decode cJ2_ensureCapacityInternal 11 = .ok (.iload_n 1, 1) := dk_27 (dk_at dksJ2_ensureCapacityInternal_0 11 rfl rfl)
theorem dJ2_ensureCapacityInternal_12 : decode cJ2_ensureCapacityInternal 12 = .ok (.iload_n 2, 1) := dk_28 (dk_at dksJ2_ensureCapacityInternal_0 12 rfl rfl)
theorem dJ2_ensureCapacityInternal_13 : decode cJ2_ensureCapacityInternal 13 = .ok (.isub, 1) := dk_100 (dk_at dksJ2_ensureCapacityInternal_0 13 rfl rfl)
theorem dJ2_ensureCapacityInternal_14 : decode cJ2_ensureCapacityInternal 14 = .ok (.ifCond .le 24, 3) := dk_158 0 24 (dk_at dksJ2_ensureCapacityInternal_0 14 rfl rfl)
theorem dJ2_ensureCapacityInternal_17 : decode cJ2_ensureCapacityInternal 17 = .ok (.aload_n 0, 1) := dk_42 (dk_at dksJ2_ensureCapacityInternal_0 17 rfl rfl)
theorem dJ2_ensureCapacityInternal_18 : decode cJ2_ensureCapacityInternal 18 = .ok (.aload_n 0, 1) := dk_42 (dk_at dksJ2_ensureCapacityInternal_0 18 rfl rfl)
theorem dJ2_ensureCapacityInternal_19 : decode cJ2_ensureCapacityInternal 19 = .ok (.getfield 15, 3) := dk_180 0 15 (dk_at dksJ2_ensureCapacityInternal_0 19 rfl rfl)
theorem dJ2_ensureCapacityInternal_22 : decode cJ2_ensureCapacityInternal 22 = .ok (.aload_n 0, 1) := dk_42 (dk_at dksJ2_ensureCapacityInternal_0 22 rfl rfl)
theorem dJ2_ensureCapacityInternal_23 : decode cJ2_ensureCapacityInternal 23 = .ok (.iload_n 1, 1) := dk_27 (dk_at dksJ2_ensureCapacityInternal_0 23 rfl rfl)
theorem dJ2_ensureCapacityInternal_24 : decode cJ2_ensureCapacityInternal 24 = .ok (.invokevirtual 104, 3) := dk_182 0 104 (dk_at dksJ2_ensureCapacityInternal_1 0 rfl rfl)
theorem dJ2_ensureCapacityInternal_27 : decode cJ2_ensureCapacityInternal 27 = .ok (.aload_n 0, 1) := dk_42 (dk_at dksJ2_ensureCapacityInternal_1 3 rfl rfl)
theorem dJ2_ensureCapacityInternal_28 : decode cJ2_ensureCapacityInternal 28 = .ok (.getfield 22, 3) := dk_180 0 22 (dk_at dksJ2_ensureCapacityInternal_1 4 rfl rfl)
theorem dJ2_ensureCapacityInternal_31 : decode cJ2_ensureCapacityInternal 31 = .ok (.ishl, 1) := dk_120 (dk_at dksJ2_ensureCapacityInternal_1 7 rfl rfl)
theorem dJ2_ensureCapacityInternal_32 : decode cJ2_ensureCapacityInternal 32 = .ok (.invokestatic 108, 3) := dk_184 0 108 (dk_at dksJ2_ensureCapacityInternal_1 8 rfl rfl)
theorem dJ2_ensureCapacityInternal_35 : decode cJ2_ensureCapacityInternal 35 = .ok (.putfield 15, 3) := dk_181 0 15 (dk_at dksJ2_ensureCapacityInternal_1 11 rfl rfl)
theorem dJ2_ensureCapacityInternal_38 : decode cJ2_ensureCapacityInternal 38 = .ok (.return_, 1) := dk_177 (dk_at dksJ2_ensureCapacityInternal_1 14 rfl rfl)
def dkwJ2_inflate_1 : List UInt8 := [42, 180, 0, 79, 184, 0, 125, 42, 43, 181, 0, 15, 42, 4, 181, 0, 22, 177]
abbrev dktJ2_inflate_1 : List UInt8 := dkwJ2_inflate_1 ++ []
def dkwJ2_inflate_0 : List UInt8 := [42, 182, 0, 83, 154, 0, 4, 177, 42, 180, 0, 15, 190, 184, 0, 26, 76, 42, 180, 0, 15, 3, 43, 3]
abbrev dktJ2_inflate_0 : List UInt8 := dkwJ2_inflate_0 ++ dktJ2_inflate_1
theorem dksJ2_inflate_0 : cJ2_inflate.data.toList.drop 0 = dktJ2_inflate_0 := by decide +kernel
theorem dksJ2_inflate_1 : cJ2_inflate.data.toList.drop 24 = dktJ2_inflate_1 := dk_seg dksJ2_inflate_0 24 rfl rfl
theorem dJ2_inflate_0 : decode cJ2_inflate 0 = .ok (.aload_n 0, 1) := dk_42 (dk_at dksJ2_inflate_0 0 rfl rfl)
theorem dJ2_inflate_1 : decode cJ2_inflate 1 = .ok (.invokevirtual 83, 3) := dk_182 0 83 (dk_at dksJ2_inflate_0 1 rfl rfl)
theorem dJ2_inflate_4 : decode cJ2_inflate 4 = .ok (.ifCond .ne 4, 3) := dk_154 0 4 (dk_at dksJ2_inflate_0 4 rfl rfl)
theorem dJ2_inflate_7 : decode cJ2_inflate 7 = .ok (.return_, 1) := dk_177 (dk_at dksJ2_inflate_0 7 rfl rfl)
theorem dJ2_inflate_8 : decode cJ2_inflate 8 = .ok (.aload_n 0, 1) := dk_42 (dk_at dksJ2_inflate_0 8 rfl rfl)
theorem dJ2_inflate_9 : decode cJ2_inflate 9 = .ok (.getfield 15, 3) := dk_180 0 15 (dk_at dksJ2_inflate_0 9 rfl rfl)
theorem dJ2_inflate_12 : decode cJ2_inflate 12 = .ok (.arraylength, 1) := dk_190 (dk_at dksJ2_inflate_0 12 rfl rfl)
theorem dJ2_inflate_13 : decode cJ2_inflate 13 = .ok (.invokestatic 26, 3) := dk_184 0 26 (dk_at dksJ2_inflate_0 13 rfl rfl)
theorem dJ2_inflate_16 : decode cJ2_inflate 16 = .ok (.astore_n 1, 1) := dk_76 (dk_at dksJ2_inflate_0 16 rfl rfl)
theorem dJ2_inflate_17 : decode cJ2_inflate 17 = .ok (.aload_n 0, 1) := dk_42 (dk_at dksJ2_inflate_0 17 rfl rfl)
theorem dJ2_inflate_18 : decode cJ2_inflate 18 = .ok (.getfield 15, 3) := dk_180 0 15 (dk_at dksJ2_inflate_0 18 rfl rfl)
theorem dJ2_inflate_21 : decode cJ2_inflate 21 = .ok (.iconst 0, 1) := dk_3 (dk_at dksJ2_inflate_0 21 rfl rfl)
theorem dJ2_inflate_22 : decode cJ2_inflate 22 = .ok (.aload_n 1, 1) := dk_43 (dk_at dksJ2_inflate_0 22 rfl rfl)
theorem dJ2_inflate_23 : decode cJ2_inflate 23 = .ok (.iconst 0, 1) := dk_3 (dk_at dksJ2_inflate_0 23 rfl rfl)
theorem dJ2_inflate_24 : decode cJ2_inflate 24 = .ok (.aload_n 0, 1) := dk_42 (dk_at dksJ2_inflate_1 0 rfl rfl)
theorem dJ2_inflate_25 : decode cJ2_inflate 25 = .ok (.getfield 79, 3) := dk_180 0 79 (dk_at dksJ2_inflate_1 1 rfl rfl)
theorem dJ2_inflate_28 : decode cJ2_inflate 28 = .ok (.invokestatic 125, 3) := dk_184 0 125 (dk_at dksJ2_inflate_1 4 rfl rfl)
theorem dJ2_inflate_31 : decode cJ2_inflate 31 = .ok (.aload_n 0, 1) := dk_42 (dk_at dksJ2_inflate_1 7 rfl rfl)
theorem dJ2_inflate_32 : decode cJ2_inflate 32 = .ok (.aload_n 1, 1) := dk_43 (dk_at dksJ2_inflate_1 8 rfl rfl)
theorem dJ2_inflate_33 : decode cJ2_inflate 33 = .ok (.putfield 15, 3) := dk_181 0 15 (dk_at dksJ2_inflate_1 9 rfl rfl)
theorem dJ2_inflate_36 : decode cJ2_inflate 36 = .ok (.aload_n 0, 1) := dk_42 (dk_at dksJ2_inflate_1 12 rfl rfl)
theorem dJ2_inflate_37 : decode cJ2_inflate 37 = .ok (.iconst 1, 1) := dk_4 (dk_at dksJ2_inflate_1 13 rfl rfl)
theorem dJ2_inflate_38 : decode cJ2_inflate 38 = .ok (.putfield 22, 3) := dk_181 0 22 (dk_at dksJ2_inflate_1 14 rfl rfl)
theorem dJ2_inflate_41 : decode cJ2_inflate 41 = .ok (.return_, 1) := dk_177 (dk_at dksJ2_inflate_1 17 rfl rfl)
def dkwJ2_append_3 : List UInt8 := [181, 0, 79, 27, 184, 0, 197, 42, 176]
abbrev dktJ2_append_3 : List UInt8 := dkwJ2_append_3 ++ []
def dkwJ2_append_2 : List UInt8 := [182, 0, 83, 153, 0, 7, 42, 182, 0, 195, 42, 180, 0, 15, 42, 89, 180, 0, 79, 90, 4, 96]
abbrev dktJ2_append_2 : List UInt8 := dkwJ2_append_2 ++ dktJ2_append_3
def dkwJ2_append_1 : List UInt8 := [42, 180, 0, 15, 42, 89, 180, 0, 79, 90, 4, 96, 181, 0, 79, 27, 145, 84, 167, 0, 33, 42]
abbrev dktJ2_append_1 : List UInt8 := dkwJ2_append_1 ++ dktJ2_append_2
def dkwJ2_append_0 : List UInt8 := [42, 42, 180, 0, 79, 4, 96, 182, 0, 100, 42, 182, 0, 83, 153, 0, 31, 27, 184, 0, 191, 153, 0, 24]
abbrev dktJ2_append_0 : List UInt8 := dkwJ2_append_0 ++ dktJ2_append_1
theorem dksJ2_append_0 : cJ2_append.data.toList.drop 0 = dktJ2_append_0 := by decide +kernel
theorem dksJ2_append_1 : cJ2_append.data.toList.drop 24 = dktJ2_append_1 := dk_seg dksJ2_append_0 24 rfl rfl
theorem dksJ2_append_2 : cJ2_append.data.toList.drop 46 = dktJ2_append_2 := dk_seg dksJ2_append_1 22 rfl rfl
theorem dksJ2_append_3 : cJ2_append.data.toList.drop 68 = dktJ2_append_3 := dk_seg dksJ2_append_2 22 rfl rfl
theorem dJ2_append_0 : decode cJ2_append 0 = .ok (.aload_n 0, 1) := dk_42 (dk_at dksJ2_append_0 0 rfl rfl)
theorem dJ2_append_1 : decode cJ2_append 1 = .ok (.aload_n 0, 1) := dk_42 (dk_at dksJ2_append_0 1 rfl rfl)
theorem dJ2_append_2 : decode cJ2_append 2 = .ok (.getfield 79, 3) := dk_180 0 79 (dk_at dksJ2_append_0 2 rfl rfl)
theorem dJ2_append_5 : decode cJ2_append 5 = .ok (.iconst 1, 1) := dk_4 (dk_at dksJ2_append_0 5 rfl rfl)
theorem dJ2_append_6 : decode cJ2_append 6 = .ok (.iadd, 1) := dk_96 (dk_at dksJ2_append_0 6 rfl rfl)
theorem dJ2_append_7 : decode cJ2_append 7 = .ok (.invokevirtual 100, 3) := dk_182 0 100 (dk_at dksJ2_append_0 7 rfl rfl)
theorem dJ2_append_10 : decode cJ2_append 10 = .ok (.aload_n 0, 1) := dk_42 (dk_at dksJ2_append_0 10 rfl rfl)
theorem dJ2_append_11 : decode cJ2_append 11 = .ok (.invokevirtual 83, 3) := dk_182 0 83 (dk_at dksJ2_append_0 11 rfl rfl)
theorem dJ2_append_14 : decode cJ2_append 14 = .ok (.ifCond .eq 31, 3) := dk_153 0 31 (dk_at dksJ2_append_0 14 rfl rfl)
theorem dJ2_append_17 : decode cJ2_append 17 = .ok (.iload_n 1, 1) := dk_27 (dk_at dksJ2_append_0 17 rfl rfl)
theorem dJ2_append_18 : decode cJ2_append 18 = .ok (.invokestatic 191, 3) := dk_184 0 191 (dk_at dksJ2_append_0 18 rfl rfl)
theorem dJ2_append_21 : decode cJ2_append 21 = .ok (.ifCond .eq 24, 3) := dk_153 0 24 (dk_at dksJ2_append_0 21 rfl rfl)
theorem dJ2_append_24 : decode cJ2_append 24 = .ok (.aload_n 0, 1) := dk_42 (dk_at dksJ2_append_1 0 rfl rfl)
theorem dJ2_append_25 : decode cJ2_append 25 = .ok (.getfield 15, 3) := dk_180 0 15 (dk_at dksJ2_append_1 1 rfl rfl)
theorem dJ2_append_28 : decode cJ2_append 28 = .ok (.aload_n 0, 1) := dk_42 (dk_at dksJ2_append_1 4 rfl rfl)
theorem dJ2_append_29 : decode cJ2_append 29 = .ok (.dup, 1) := dk_89 (dk_at dksJ2_append_1 5 rfl rfl)
theorem dJ2_append_30 : decode cJ2_append 30 = .ok (.getfield 79, 3) := dk_180 0 79 (dk_at dksJ2_append_1 6 rfl rfl)
theorem dJ2_append_33 : decode cJ2_append 33 = .ok (.dup_x1, 1) := dk_90 (dk_at dksJ2_append_1 9 rfl rfl)
theorem dJ2_append_34 : decode cJ2_append 34 = .ok (.iconst 1, 1) := dk_4 (dk_at dksJ2_append_1 10 rfl rfl)
theorem dJ2_append_35 : decode cJ2_append 35 = .ok (.iadd, 1) := dk_96 (dk_at dksJ2_append_1 11 rfl rfl)
theorem dJ2_append_36 : decode cJ2_append 36 = .ok (.putfield 79, 3) := dk_181 0 79 (dk_at dksJ2_append_1 12 rfl rfl)
theorem dJ2_append_39 : decode cJ2_append 39 = .ok (.iload_n 1, 1) := dk_27 (dk_at dksJ2_append_1 15 rfl rfl)
theorem dJ2_append_40 : decode cJ2_append 40 = .ok (.i2b, 1) := dk_145 (dk_at dksJ2_append_1 16 rfl rfl)
theorem dJ2_append_41 : decode cJ2_append 41 = .ok (.bastore, 1) := dk_84 (dk_at dksJ2_append_1 17 rfl rfl)
theorem dJ2_append_42 : decode cJ2_append 42 = .ok (.goto 33, 3) := dk_167 0 33 (dk_at dksJ2_append_1 18 rfl rfl)
theorem dJ2_append_45 : decode cJ2_append 45 = .ok (.aload_n 0, 1) := dk_42 (dk_at dksJ2_append_1 21 rfl rfl)
theorem dJ2_append_46 : decode cJ2_append 46 = .ok (.invokevirtual 83, 3) := dk_182 0 83 (dk_at dksJ2_append_2 0 rfl rfl)
theorem dJ2_append_49 : decode cJ2_append 49 = .ok (.ifCond .eq 7, 3) := dk_153 0 7 (dk_at dksJ2_append_2 3 rfl rfl)
theorem dJ2_append_52 : decode cJ2_append 52 = .ok (.aload_n 0, 1) := dk_42 (dk_at dksJ2_append_2 6 rfl rfl)
theorem dJ2_append_53 : decode cJ2_append 53 = .ok (.invokevirtual 195, 3) := dk_182 0 195 (dk_at dksJ2_append_2 7 rfl rfl)
theorem dJ2_append_56 : decode cJ2_append 56 = .ok (.aload_n 0, 1) := dk_42 (dk_at dksJ2_append_2 10 rfl rfl)
theorem dJ2_append_57 : decode cJ2_append 57 = .ok (.getfield 15, 3) := dk_180 0 15 (dk_at dksJ2_append_2 11 rfl rfl)
theorem dJ2_append_60 : decode cJ2_append 60 = .ok (.aload_n 0, 1) := dk_42 (dk_at dksJ2_append_2 14 rfl rfl)
theorem dJ2_append_61 : decode cJ2_append 61 = .ok (.dup, 1) := dk_89 (dk_at dksJ2_append_2 15 rfl rfl)
theorem dJ2_append_62 : decode cJ2_append 62 = .ok (.getfield 79, 3) := dk_180 0 79 (dk_at dksJ2_append_2 16 rfl rfl)
theorem dJ2_append_65 : decode cJ2_append 65 = .ok (.dup_x1, 1) := dk_90 (dk_at dksJ2_append_2 19 rfl rfl)
theorem dJ2_append_66 : decode cJ2_append 66 = .ok (.iconst 1, 1) := dk_4 (dk_at dksJ2_append_2 20 rfl rfl)
theorem dJ2_append_67 : decode cJ2_append 67 = .ok (.iadd, 1) := dk_96 (dk_at dksJ2_append_2 21 rfl rfl)
theorem dJ2_append_68 : decode cJ2_append 68 = .ok (.putfield 79, 3) := dk_181 0 79 (dk_at dksJ2_append_3 0 rfl rfl)
theorem dJ2_append_71 : decode cJ2_append 71 = .ok (.iload_n 1, 1) := dk_27 (dk_at dksJ2_append_3 3 rfl rfl)
theorem dJ2_append_72 : decode cJ2_append 72 = .ok (.invokestatic 197, 3) := dk_184 0 197 (dk_at dksJ2_append_3 4 rfl rfl)
theorem dJ2_append_75 : decode cJ2_append 75 = .ok (.aload_n 0, 1) := dk_42 (dk_at dksJ2_append_3 7 rfl rfl)
theorem dJ2_append_76 : decode cJ2_append 76 = .ok (.areturn, 1) := dk_176 (dk_at dksJ2_append_3 8 rfl rfl)
theorem dJ2_length_0 : decode cJ2_length 0 = .ok (.aload_n 0, 1) := by decide +kernel
theorem dJ2_length_1 : decode cJ2_length 1 = .ok (.getfield 79, 3) := by decide +kernel
theorem dJ2_length_4 : decode cJ2_length 4 = .ok (.ireturn, 1) := by decide +kernel
def dkwJ2_charAt_1 : List UInt8 := [21, 4, 184, 0, 144, 28, 154, 0, 12, 45, 27, 51, 17, 0, 255, 126, 146, 172, 45, 27, 184, 0, 148, 172]
abbrev dktJ2_charAt_1 : List UInt8 := dkwJ2_charAt_1 ++ []
def dkwJ2_charAt_0 : List UInt8 := [42, 180, 0, 22, 61, 42, 180, 0, 15, 78, 42, 180, 0, 79, 45, 190, 28, 122, 184, 0, 138, 54, 4, 27]
abbrev dktJ2_charAt_0 : List UInt8 := dkwJ2_charAt_0 ++ dktJ2_charAt_1
theorem dksJ2_charAt_0 : cJ2_charAt.data.toList.drop 0 = dktJ2_charAt_0 := by decide +kernel
theorem dksJ2_charAt_1 : cJ2_charAt.data.toList.drop 24 = dktJ2_charAt_1 := dk_seg dksJ2_charAt_0 24 rfl rfl
theorem dJ2_charAt_0 : decode cJ2_charAt 0 = .ok (.aload_n 0, 1) := dk_42 (dk_at dksJ2_charAt_0 0 rfl rfl)
theorem dJ2_charAt_1 : decode cJ2_charAt 1 = .ok (.getfield 22, 3) := dk_180 0 22 (dk_at dksJ2_charAt_0 1 rfl rfl)
theorem dJ2_charAt_4 : decode cJ2_charAt 4 = .ok (.istore_n 2, 1) := dk_61 (dk_at dksJ2_charAt_0 4 rfl rfl)
theorem dJ2_charAt_5 : decode cJ2_charAt 5 = .ok (.aload_n 0, 1) := dk_42 (dk_at dksJ2_charAt_0 5 rfl rfl)
theorem dJ2_charAt_6 : decode cJ2_charAt 6 = .ok (.getfield 15, 3) := dk_180 0 15 (dk_at dksJ2_charAt_0 6 rfl rfl)
theorem dJ2_charAt_9 : decode cJ2_charAt 9 = .ok (.astore_n 3, 1) := dk_78 (dk_at dksJ2_charAt_0 9 rfl rfl)
theorem dJ2_charAt_10 : decode cJ2_charAt 10 = .ok (.aload_n 0, 1) := dk_42 (dk_at dksJ2_charAt_0 10 rfl rfl)
theorem dJ2_charAt_11 : decode cJ2_charAt 11 = .ok (.getfield 79, 3) := dk_180 0 79 (dk_at dksJ2_charAt_0 11 rfl rfl)
theorem dJ2_charAt_14 : decode cJ2_charAt 14 = .ok (.aload_n 3, 1) := dk_45 (dk_at dksJ2_charAt_0 14 rfl rfl)
theorem dJ2_charAt_15 : decode cJ2_charAt 15 = .ok (.arraylength, 1) := dk_190 (dk_at dksJ2_charAt_0 15 rfl rfl)
theorem dJ2_charAt_16 : decode cJ2_charAt 16 = .ok (.iload_n 2, 1) := dk_28 (dk_at dksJ2_charAt_0 16 rfl rfl)
theorem dJ2_charAt_17 : decode cJ2_charAt 17 = .ok (.ishr, 1) := dk_122 (dk_at dksJ2_charAt_0 17 rfl rfl)
theorem dJ2_charAt_18 : decode cJ2_charAt 18 = .ok (.invokestatic 138, 3) := dk_184 0 138 (dk_at dksJ2_charAt_0 18 rfl rfl)
theorem dJ2_charAt_21 : decode cJ2_charAt 21 = .ok (.istore 4, 2) := dk_54 4 (dk_at dksJ2_charAt_0 21 rfl rfl)
theorem dJ2_charAt_23 : decode cJ2_charAt 23 = .ok (.iload_n 1, 1) := dk_27 (dk_at dksJ2_charAt_0 23 rfl rfl)
theorem dJ2_charAt_24 : decode cJ2_charAt 24 = .ok (.iload 4, 2) := dk_21 4 (dk_at dksJ2_charAt_1 0 rfl rfl)
theorem dJ2_charAt_26 : decode cJ2_charAt 26 = .ok (.invokestatic 144, 3) := dk_184 0 144 (dk_at dksJ2_charAt_1 2 rfl rfl)
theorem dJ2_charAt_29 : decode cJ2_charAt 29 = .ok (.iload_n 2, 1) := dk_28 (dk_at dksJ2_charAt_1 5 rfl rfl)
theorem dJ2_charAt_30 : decode cJ2_charAt 30 = .ok (.ifCond .ne 12, 3) := dk_154 0 12 (dk_at dksJ2_charAt_1 6 rfl rfl)
theorem dJ2_charAt_33 : decode cJ2_charAt 33 = .ok (.aload_n 3, 1) := dk_45 (dk_at dksJ2_charAt_1 9 rfl rfl)
theorem dJ2_charAt_34 : decode cJ2_charAt 34 = .ok (.iload_n 1, 1) := dk_27 (dk_at dksJ2_charAt_1 10 rfl rfl)
theorem dJ2_charAt_35 : decode cJ2_charAt 35 = .ok (.baload, 1) := dk_51 (dk_at dksJ2_charAt_1 11 rfl rfl)
theorem dJ2_charAt_36 : decode cJ2_charAt 36 = .ok (.sipush 255, 3) := dk_17 0 255 (dk_at dksJ2_charAt_1 12 rfl rfl)
theorem dJ2_charAt_39 : decode cJ2_charAt 39 = .ok (.iand, 1) := dk_126 (dk_at dksJ2_charAt_1 15 rfl rfl)
theorem dJ2_charAt_40 : decode cJ2_charAt 40 = .ok (.i2c, 1) := dk_146 (dk_at dksJ2_charAt_1 16 rfl rfl)
theorem dJ2_charAt_41 : decode cJ2_charAt 41 = .ok (.ireturn, 1) := dk_172 (dk_at dksJ2_charAt_1 17 rfl rfl)
theorem dJ2_charAt_42 : decode cJ2_charAt 42 = .ok (.aload_n 3, 1) := dk_45 (dk_at dksJ2_charAt_1 18 rfl rfl)
theorem dJ2_charAt_43 : decode cJ2_charAt 43 = .ok (.iload_n 1, 1) := dk_27 (dk_at dksJ2_charAt_1 19 rfl rfl)
theorem dJ2_charAt_44 : decode cJ2_charAt 44 = .ok (.invokestatic 148, 3) := dk_184 0 148 (dk_at dksJ2_charAt_1 20 rfl rfl)
theorem dJ2_charAt_47 : decode cJ2_charAt 47 = .ok (.ireturn, 1) := dk_172 (dk_at dksJ2_charAt_1 23 rfl rfl)
def dkwJ2_setLength_3 : List UInt8 := [164, 0, 8, 42, 4, 181, 0, 73, 42, 27, 181, 0, 79, 177]
abbrev dktJ2_setLength_3 : List UInt8 := dkwJ2_setLength_3 ++ []
def dkwJ2_setLength_2 : List UInt8 := [167, 0, 31, 42, 180, 0, 15, 42, 180, 0, 79, 27, 184, 0, 137, 167, 0, 16, 42, 180, 0, 79, 27]
abbrev dktJ2_setLength_2 : List UInt8 := dkwJ2_setLength_2 ++ dktJ2_setLength_3
def dkwJ2_setLength_1 : List UInt8 := [162, 0, 40, 42, 182, 0, 83, 153, 0, 18, 42, 180, 0, 15, 42, 180, 0, 79, 27, 184, 0, 133]
abbrev dktJ2_setLength_1 : List UInt8 := dkwJ2_setLength_1 ++ dktJ2_setLength_2
def dkwJ2_setLength_0 : List UInt8 := [27, 156, 0, 12, 187, 0, 129, 89, 27, 183, 0, 131, 191, 42, 27, 182, 0, 100, 42, 180, 0, 79, 27]
abbrev dktJ2_setLength_0 : List UInt8 := dkwJ2_setLength_0 ++ dktJ2_setLength_1
theorem dksJ2_setLength_0 : cJ2_setLength.data.toList.drop 0 = dktJ2_setLength_0 := by decide +kernel
theorem dksJ2_setLength_1 : cJ2_setLength.data.toList.drop 23 = dktJ2_setLength_1 := dk_seg dksJ2_setLength_0 23 rfl rfl
theorem dksJ2_setLength_2 : cJ2_setLength.data.toList.drop 45 = dktJ2_setLength_2 := dk_seg dksJ2_setLength_1 22 rfl rfl
theorem dksJ2_setLength_3 : cJ2_setLength.data.toList.drop 68 = dktJ2_setLength_3 := dk_seg dksJ2_setLength_2 23 rfl rfl
theorem dJ2_setLength_0 : decode cJ2_setLength 0 = .ok (.iload_n 1, 1) := dk_27 (dk_at dksJ2_setLength_0 0 rfl rfl)
theorem dJ2_setLength_1 : decode cJ2_setLength 1 = .ok (.ifCond .ge 12, 3) := dk_156 0 12 (dk_at dksJ2_setLength_0 1 rfl rfl)
theorem dJ2_setLength_4 : decode cJ2_setLength 4 = .ok (.new 129, 3) := dk_187 0 129 (dk_at dksJ2_setLength_0 4 rfl rfl)
theorem dJ2_setLength_7 : decode cJ2_setLength 7 = .ok (.dup, 1) := dk_89 (dk_at dksJ2_setLength_0 7 rfl rfl)
theorem dJ2_setLength_8 : decode cJ2_setLength 8 = .ok (.iload_n 1, 1) := dk_27 (dk_at dksJ2_setLength_0 8 rfl rfl)
theorem dJ2_setLength_9 : decode cJ2_setLength 9 = .ok (.invokespecial 131, 3) := dk_183 0 131 (dk_at dksJ2_setLength_0 9 rfl rfl)
theorem dJ2_setLength_12 : decode cJ2_setLength 12 = .ok (.athrow, 1) := dk_191 (dk_at dksJ2_setLength_0 12 rfl rfl)
theorem dJ2_setLength_13 : decode cJ2_setLength 13 = .ok (.aload_n 0, 1) := dk_42 (dk_at dksJ2_setLength_0 13 rfl rfl)
theorem dJ2_setLength_14 : decode cJ2_setLength 14 = .ok (.iload_n 1, 1) := dk_27 (dk_at dksJ2_setLength_0 14 rfl rfl)
theorem dJ2_setLength_15 : decode cJ2_setLength 15 = .ok (.invokevirtual 100, 3) := dk_182 0 100 (dk_at dksJ2_setLength_0 15 rfl rfl)
theorem dJ2_setLength_18 : decode cJ2_setLength 18 = .ok (.aload_n 0, 1) := dk_42 (dk_at dksJ2_setLength_0 18 rfl rfl)
theorem dJ2_setLength_19 : decode cJ2_setLength 19 = .ok (.getfield 79, 3) := dk_180 0 79 (dk_at dksJ2_setLength_0 19 rfl rfl)
theorem dJ2_setLength_22 : decode cJ2_setLength 22 = .ok (.iload_n 1, 1) := dk_27 (dk_at dksJ2_setLength_0 22 rfl rfl)
theorem dJ2_setLength_23 : decode cJ2_setLength 23 = .ok (.if_icmp .ge 40, 3) := dk_162 0 40 (dk_at dksJ2_setLength_1 0 rfl rfl)
theorem dJ2_setLength_26 : decode cJ2_setLength 26 = .ok (.aload_n 0, 1) := dk_42 (dk_at dksJ2_setLength_1 3 rfl rfl)
theorem dJ2_setLength_27 : decode cJ2_setLength 27 = .ok (.invokevirtual 83, 3) := dk_182 0 83 (dk_at dksJ2_setLength_1 4 rfl rfl)
theorem dJ2_setLength_30 : decode cJ2_setLength 30 = .ok (.ifCond .eq 18, 3) := dk_153 0 18 (dk_at dksJ2_setLength_1 7 rfl rfl)
theorem dJ2_setLength_33 : decode cJ2_setLength 33 = .ok (.aload_n 0, 1) := dk_42 (dk_at dksJ2_setLength_1 10 rfl rfl)
theorem dJ2_setLength_34 : decode cJ2_setLength 34 = .ok (.getfield 15, 3) := dk_180 0 15 (dk_at dksJ2_setLength_1 11 rfl rfl)
theorem dJ2_setLength_37 : decode cJ2_setLength 37 = .ok (.aload_n 0, 1) := dk_42 (dk_at dksJ2_setLength_1 14 rfl rfl)
theorem dJ2_setLength_38 : decode cJ2_setLength 38 = .ok (.getfield 79, 3) := dk_180 0 79 (dk_at dksJ2_setLength_1 15 rfl rfl)
theorem dJ2_setLength_41 : decode cJ2_setLength 41 = .ok (.iload_n 1, 1) := dk_27 (dk_at dksJ2_setLength_1 18 rfl rfl)
theorem dJ2_setLength_42 : decode cJ2_setLength 42 = .ok (.invokestatic 133, 3) := dk_184 0 133 (dk_at dksJ2_setLength_1 19 rfl rfl)
theorem dJ2_setLength_45 : decode cJ2_setLength 45 = .ok (.goto 31, 3) := dk_167 0 31 (dk_at dksJ2_setLength_2 0 rfl rfl)
theorem dJ2_setLength_48 : decode cJ2_setLength 48 = .ok (.aload_n 0, 1) := dk_42 (dk_at dksJ2_setLength_2 3 rfl rfl)
theorem dJ2_setLength_49 : decode cJ2_setLength 49 = .ok (.getfield 15, 3) := dk_180 0 15 (dk_at dksJ2_setLength_2 4 rfl rfl)
theorem dJ2_setLength_52 : decode cJ2_setLength 52 = .ok (.aload_n 0, 1) := dk_42 (dk_at dksJ2_setLength_2 7 rfl rfl)
theorem dJ2_setLength_53 : decode cJ2_setLength 53 = .ok (.getfield 79, 3) := dk_180 0 79 (dk_at dksJ2_setLength_2 8 rfl rfl)
theorem dJ2_setLength_56 : decode cJ2_setLength 56 = .ok (.iload_n 1, 1) := dk_27 (dk_at dksJ2_setLength_2 11 rfl rfl)
theorem dJ2_setLength_57 : decode cJ2_setLength 57 = .ok (.invokestatic 137, 3) := dk_184 0 137 (dk_at dksJ2_setLength_2 12 rfl rfl)
theorem dJ2_setLength_60 : decode cJ2_setLength 60 = .ok (.goto 16, 3) := dk_167 0 16 (dk_at dksJ2_setLength_2 15 rfl rfl)
theorem dJ2_setLength_63 : decode cJ2_setLength 63 = .ok (.aload_n 0, 1) := dk_42 (dk_at dksJ2_setLength_2 18 rfl rfl)
theorem dJ2_setLength_64 : decode cJ2_setLength 64 = .ok (.getfield 79, 3) := dk_180 0 79 (dk_at dksJ2_setLength_2 19 rfl rfl)
theorem dJ2_setLength_67 : decode cJ2_setLength 67 = .ok (.iload_n 1, 1) := dk_27 (dk_at dksJ2_setLength_2 22 rfl rfl)
theorem dJ2_setLength_68 : decode cJ2_setLength 68 = .ok (.if_icmp .le 8, 3) := dk_164 0 8 (dk_at dksJ2_setLength_3 0 rfl rfl)
theorem dJ2_setLength_71 : decode cJ2_setLength 71 = .ok (.aload_n 0, 1) := dk_42 (dk_at dksJ2_setLength_3 3 rfl rfl)
theorem dJ2_setLength_72 : decode cJ2_setLength 72 = .ok (.iconst 1, 1) := dk_4 (dk_at dksJ2_setLength_3 4 rfl rfl)
theorem dJ2_setLength_73 : decode cJ2_setLength 73 = .ok (.putfield 73, 3) := dk_181 0 73 (dk_at dksJ2_setLength_3 5 rfl rfl)
theorem dJ2_setLength_76 : decode cJ2_setLength 76 = .ok (.aload_n 0, 1) := dk_42 (dk_at dksJ2_setLength_3 8 rfl rfl)
theorem dJ2_setLength_77 : decode cJ2_setLength 77 = .ok (.iload_n 1, 1) := dk_27 (dk_at dksJ2_setLength_3 9 rfl rfl)
theorem dJ2_setLength_78 : decode cJ2_setLength 78 = .ok (.putfield 79, 3) := dk_181 0 79 (dk_at dksJ2_setLength_3 10 rfl rfl)
theorem dJ2_setLength_81 : decode cJ2_setLength 81 = .ok (.return_, 1) := dk_177 (dk_at dksJ2_setLength_3 13 rfl rfl)
def dkwJ3_init_0 : List UInt8 := [42, 16, 16, 183, 0, 1, 177]
abbrev dktJ3_init_0 : List UInt8 := dkwJ3_init_0 ++ []
theorem dksJ3_init_0 : cJ3_init.data.toList.drop 0 = dktJ3_init_0 := by decide +kernel
theorem dJ3_init_0 : decode cJ3_init 0 = .ok (.aload_n 0, 1) := dk_42 (dk_at dksJ3_init_0 0 rfl rfl)
theorem dJ3_init_1 : decode cJ3_init 1 = .ok (.bipush 16, 2) := dk_16 16 (dk_at dksJ3_init_0 1 rfl rfl)
theorem dJ3_init_3 : decode cJ3_init 3 = .ok (.invokespecial 1, 3) := dk_183 0 1 (dk_at dksJ3_init_0 3 rfl rfl)
theorem dJ3_init_6 : decode cJ3_init 6 = .ok (.return_, 1) := dk_177 (dk_at dksJ3_init_0 6 rfl rfl)
def dkwJ3_append_0 : List UInt8 := [42, 27, 183, 0, 50, 87, 42, 176]
abbrev dktJ3_append_0 : List UInt8 := dkwJ3_append_0 ++ []
theorem dksJ3_append_0 : cJ3_append.data.toList.drop 0 = dktJ3_append_0 := by decide +kernel
theorem dJ3_append_0 : decode cJ3_append 0 = .ok (.aload_n 0, 1) := dk_42 (dk_at dksJ3_append_0 0 rfl rfl)
theorem dJ3_append_1 : decode cJ3_append 1 = .ok (.iload_n 1, 1) := dk_27 (dk_at dksJ3_append_0 1 rfl rfl)
theorem dJ3_append_2 : decode cJ3_append 2 = .ok (.invokespecial 50, 3) := dk_183 0 50 (dk_at dksJ3_append_0 2 rfl rfl)
theorem dJ3_append_5 : decode cJ3_append 5 = .ok (.pop, 1) := dk_87 (dk_at dksJ3_append_0 5 rfl rfl)
theorem dJ3_append_6 : decode cJ3_append 6 = .ok (.aload_n 0, 1) := dk_42 (dk_at dksJ3_append_0 6 rfl rfl)
theorem dJ3_append_7 : decode cJ3_append 7 = .ok (.areturn, 1) := dk_176 (dk_at dksJ3_append_0 7 rfl rfl)
theorem dJ3_length_0 : decode cJ3_length 0 = .ok (.aload_n 0, 1) := by decide +kernel
theorem dJ3_length_1 : decode cJ3_length 1 = .ok (.invokespecial 343, 3) := by decide +kernel
theorem dJ3_length_4 : decode cJ3_length 4 = .ok (.ireturn, 1) := by decide +kernel
def dkwJ3_charAt_0 : List UInt8 := [42, 27, 183, 1, 73, 172]
abbrev dktJ3_charAt_0 : List UInt8 := dkwJ3_charAt_0 ++ []
theorem dksJ3_charAt_0 : cJ3_charAt.data.toList.drop 0 = dktJ3_charAt_0 := by decide +kernel
theorem dJ3_charAt_0 : decode cJ3_charAt 0 = .ok (.aload_n 0, 1) := dk_42 (dk_at dksJ3_charAt_0 0 rfl rfl)
theorem dJ3_charAt_1 : decode cJ3_charAt 1 = .ok (.iload_n 1, 1) := dk_27 (dk_at dksJ3_charAt_0 1 rfl rfl)
theorem dJ3_charAt_2 : decode cJ3_charAt 2 = .ok (.invokespecial 329, 3) := dk_183 1 73 (dk_at dksJ3_charAt_0 2 rfl rfl)
theorem dJ3_charAt_5 : decode cJ3_charAt 5 = .ok (.ireturn, 1) := dk_172 (dk_at dksJ3_charAt_0 5 rfl rfl)
def dkwJ3_setLength_0 : List UInt8 := [42, 27, 183, 1, 77, 177]
abbrev dktJ3_setLength_0 : List UInt8 := dkwJ3_setLength_0 ++ []
theorem dksJ3_setLength_0 : cJ3_setLength.data.toList.drop 0 = dktJ3_setLength_0 := by decide +kernel
theorem dJ3_setLength_0 : decode cJ3_setLength 0 = .ok (.aload_n 0, 1) := dk_42 (dk_at dksJ3_setLength_0 0 rfl rfl)
theorem dJ3_setLength_1 : decode cJ3_setLength 1 = .ok (.iload_n 1, 1) := dk_27 (dk_at dksJ3_setLength_0 1 rfl rfl)
theorem dJ3_setLength_2 : decode cJ3_setLength 2 = .ok (.invokespecial 333, 3) := dk_183 1 77 (dk_at dksJ3_setLength_0 2 rfl rfl)
theorem dJ3_setLength_5 : decode cJ3_setLength 5 = .ok (.return_, 1) := dk_177 (dk_at dksJ3_setLength_0 5 rfl rfl)
def dkwJ25_init_0 : List UInt8 := [42, 183, 0, 1, 42, 3, 181, 0, 7, 177]
abbrev dktJ25_init_0 : List UInt8 := dkwJ25_init_0 ++ []
theorem dksJ25_init_0 : cJ25_init.data.toList.drop 0 = dktJ25_init_0 := by decide +kernel
theorem dJ25_init_0 : decode cJ25_init 0 = .ok (.aload_n 0, 1) := dk_42 (dk_at dksJ25_init_0 0 rfl rfl)
theorem dJ25_init_1 : decode cJ25_init 1 = .ok (.invokespecial 1, 3) := dk_183 0 1 (dk_at dksJ25_init_0 1 rfl rfl)
theorem dJ25_init_4 : decode cJ25_init 4 = .ok (.aload_n 0, 1) := dk_42 (dk_at dksJ25_init_0 4 rfl rfl)
theorem dJ25_init_5 : decode cJ25_init 5 = .ok (.iconst 0, 1) := dk_3 (dk_at dksJ25_init_0 5 rfl rfl)
theorem dJ25_init_6 : decode cJ25_init 6 = .ok (.putfield 7, 3) := dk_181 0 7 (dk_at dksJ25_init_0 6 rfl rfl)
theorem dJ25_init_9 : decode cJ25_init 9 = .ok (.return_, 1) := dk_177 (dk_at dksJ25_init_0 9 rfl rfl)
def dkwJ26_init_0 : List UInt8 := [42, 183, 0, 1, 42, 178, 0, 39, 181, 0, 9, 177]
abbrev dktJ26_init_0 : List UInt8 := dkwJ26_init_0 ++ []
theorem dksJ26_init_0 : cJ26_init.data.toList.drop 0 = dktJ26_init_0 := by decide +kernel
theorem dJ26_init_0 : decode cJ26_init 0 = .ok (.aload_n 0, 1) := dk_42 (dk_at dksJ26_init_0 0 rfl rfl)
theorem dJ26_init_1 : decode cJ26_init 1 = .ok (.invokespecial 1, 3) := dk_183 0 1 (dk_at dksJ26_init_0 1 rfl rfl)
theorem dJ26_init_4 : decode cJ26_init 4 = .ok (.aload_n 0, 1) := dk_42 (dk_at dksJ26_init_0 4 rfl rfl)
theorem dJ26_init_5 : decode cJ26_init 5 = .ok (.getstatic 39, 3) := dk_178 0 39 (dk_at dksJ26_init_0 5 rfl rfl)
theorem dJ26_init_8 : decode cJ26_init 8 = .ok (.putfield 9, 3) := dk_181 0 9 (dk_at dksJ26_init_0 8 rfl rfl)
theorem dJ26_init_11 : decode cJ26_init 11 = .ok (.return_, 1) := dk_177 (dk_at dksJ26_init_0 11 rfl rfl)
def dkwJ26_add_1 : List UInt8 := [172]
abbrev dktJ26_add_1 : List UInt8 := dkwJ26_add_1 ++ []
def dkwJ26_add_0 : List UInt8 := [42, 89, 180, 0, 63, 4, 96, 181, 0, 63, 42, 43, 42, 180, 0, 9, 42, 180, 0, 48, 182, 0, 131, 4]
abbrev dktJ26_add_0 : List UInt8 := dkwJ26_add_0 ++ dktJ26_add_1
theorem dksJ26_add_0 : cJ26_add.data.toList.drop 0 = dktJ26_add_0 := by decide +kernel
theorem dksJ26_add_1 : cJ26_add.data.toList.drop 24 = dktJ26_add_1 := dk_seg dksJ26_add_0 24 rfl rfl
theorem dJ26_add_0 : decode cJ26_add 0 = .ok (.aload_n 0, 1) := dk_42 (dk_at dksJ26_add_0 0 rfl rfl)
theorem dJ26_add_1 : decode cJ26_add 1 = .ok (.dup, 1) := dk_89 (dk_at dksJ26_add_0 1 rfl rfl)
theorem dJ26_add_2 : decode cJ26_add 2 = .ok (.getfield 63, 3) := dk_180 0 63 (dk_at dksJ26_add_0 2 rfl rfl)
theorem dJ26_add_5 : decode cJ26_add 5 = .ok (.iconst 1, 1) := dk_4 (dk_at dksJ26_add_0 5 rfl rfl)
theorem dJ26_add_6 : decode cJ26_add 6 = .ok (.iadd, 1) := dk_96 (dk_at dksJ26_add_0 6 rfl rfl)
theorem dJ26_add_7 : decode cJ26_add 7 = .ok (.putfield 63, 3) := dk_181 0 63 (dk_at dksJ26_add_0 7 rfl rfl)
theorem dJ26_add_10 : decode cJ26_add 10 = .ok (.aload_n 0, 1) := dk_42 (dk_at dksJ26_add_0 10 rfl rfl)
theorem dJ26_add_11 : decode cJ26_add 11 = .ok (.aload_n 1, 1) := dk_43 (dk_at dksJ26_add_0 11 rfl rfl)
theorem dJ26_add_12 : decode cJ26_add 12 = .ok (.aload_n 0, 1) := dk_42 (dk_at dksJ26_add_0 12 rfl rfl)
theorem dJ26_add_13 : decode cJ26_add 13 = .ok (.getfield 9, 3) := dk_180 0 9 (dk_at dksJ26_add_0 13 rfl rfl)
theorem dJ26_add_16 : decode cJ26_add 16 = .ok (.aload_n 0, 1) := dk_42 (dk_at dksJ26_add_0 16 rfl rfl)
theorem dJ26_add_17 : decode cJ26_add 17 = .ok (.getfield 48, 3) := dk_180 0 48 (dk_at dksJ26_add_0 17 rfl rfl)
theorem dJ26_add_20 : decode cJ26_add 20 = .ok (.invokevirtual 131, 3) := dk_182 0 131 (dk_at dksJ26_add_0 20 rfl rfl)
theorem dJ26_add_23 : decode cJ26_add 23 = .ok (.iconst 1, 1) := dk_4 (dk_at dksJ26_add_0 23 rfl rfl)
theorem dJ26_add_24 : decode cJ26_add 24 = .ok (.ireturn, 1) := dk_172 (dk_at dksJ26_add_1 0 rfl rfl)
def dkwJ26_add_2_0 : List UInt8 := [29, 44, 190, 160, 0, 8, 42, 182, 0, 129, 77, 44, 29, 43, 83, 42, 29, 4, 96, 181, 0, 48, 177]
abbrev dktJ26_add_2_0 : List UInt8 := dkwJ26_add_2_0 ++ []
theorem dksJ26_add_2_0 : cJ26_add_2.data.toList.drop 0 = dktJ26_add_2_0 := by decide +kernel
theorem dJ26_add_2_0 : decode cJ26_add_2 0 = .ok (.iload_n 3, 1) := dk_29 (dk_at dksJ26_add_2_0 0 rfl rfl)
theorem dJ26_add_2_1 : decode cJ26_add_2 1 = .ok (.aload_n 2, 1) := dk_44 (dk_at dksJ26_add_2_0 1 rfl rfl)
theorem dJ26_add_2_2 : decode cJ26_add_2 2 = .ok (.arraylength, 1) := dk_190 (dk_at dksJ26_add_2_0 2 rfl rfl)
theorem dJ26_add_2_3 : decode cJ26_add_2 3 = .ok (.if_icmp .ne 8, 3) := dk_160 0 8 (dk_at dksJ26_add_2_0 3 rfl rfl)
theorem dJ26_add_2_6 : decode cJ26_add_2 6 = .ok (.aload_n 0, 1) := dk_42 (dk_at dksJ26_add_2_0 6 rfl rfl)
theorem dJ26_add_2_7 : decode cJ26_add_2 7 = .ok (.invokevirtual 129, 3) := dk_182 0 129 (dk_at dksJ26_add_2_0 7 rfl rfl)
theorem dJ26_add_2_10 : decode cJ26_add_2 10 = .ok (.astore_n 2, 1) := dk_77 (dk_at dksJ26_add_2_0 10 rfl rfl)
theorem dJ26_add_2_11 : decode cJ26_add_2 11 = .ok (.aload_n 2, 1) := dk_44 (dk_at dksJ26_add_2_0 11 rfl rfl)
theorem dJ26_add_2_12 : decode cJ26_add_2 12 = .ok (.iload_n 3, 1) := dk_29 (dk_at dksJ26_add_2_0 12 rfl rfl)
theorem dJ26_add_2_13 : decode cJ26_add_2 13 = .ok (.aload_n 1, 1) := dk_43 (dk_at dksJ26_add_2_0 13 rfl rfl)
theorem dJ26_add_2_14 : decode cJ26_add_2 14 = .ok (.aastore, 1) := dk_83 (dk_at dksJ26_add_2_0 14 rfl rfl)
theorem dJ26_add_2_15 : decode cJ26_add_2 15 = .ok (.aload_n 0, 1) := dk_42 (dk_at dksJ26_add_2_0 15 rfl rfl)
theorem dJ26_add_2_16 : decode cJ26_add_2 16 = .ok (.iload_n 3, 1) := dk_29 (dk_at dksJ26_add_2_0 16 rfl rfl)
theorem dJ26_add_2_17 : decode cJ26_add_2 17 = .ok (.iconst 1, 1) := dk_4 (dk_at dksJ26_add_2_0 17 rfl rfl)
theorem dJ26_add_2_18 : decode cJ26_add_2 18 = .ok (.iadd, 1) := dk_96 (dk_at dksJ26_add_2_0 18 rfl rfl)
theorem dJ26_add_2_19 : decode cJ26_add_2 19 = .ok (.putfield 48, 3) := dk_181 0 48 (dk_at dksJ26_add_2_0 19 rfl rfl)
theorem dJ26_add_2_22 : decode cJ26_add_2 22 = .ok (.return_, 1) := dk_177 (dk_at dksJ26_add_2_0 22 rfl rfl)
def dkwJ26_grow_0 : List UInt8 := [42, 42, 180, 0, 48, 4, 96, 182, 0, 69, 176]
abbrev dktJ26_grow_0 : List UInt8 := dkwJ26_grow_0 ++ []
theorem dksJ26_grow_0 : cJ26_grow.data.toList.drop 0 = dktJ26_grow_0 := by decide +kernel
theorem dJ26_grow_0 : decode cJ26_grow 0 = .ok (.aload_n 0, 1) := dk_42 (dk_at dksJ26_grow_0 0 rfl rfl)
theorem dJ26_grow_1 : decode cJ26_grow 1 = .ok (.aload_n 0, 1) := dk_42 (dk_at dksJ26_grow_0 1 rfl rfl)
theorem dJ26_grow_2 : decode cJ26_grow 2 = .ok (.getfield 48, 3) := dk_180 0 48 (dk_at dksJ26_grow_0 2 rfl rfl)
theorem dJ26_grow_5 : decode cJ26_grow 5 = .ok (.iconst 1, 1) := dk_4 (dk_at dksJ26_grow_0 5 rfl rfl)
theorem dJ26_grow_6 : decode cJ26_grow 6 = .ok (.iadd, 1) := dk_96 (dk_at dksJ26_grow_0 6 rfl rfl)
theorem dJ26_grow_7 : decode cJ26_grow 7 = .ok (.invokevirtual 69, 3) := dk_182 0 69 (dk_at dksJ26_grow_0 7 rfl rfl)
theorem dJ26_grow_10 : decode cJ26_grow 10 = .ok (.areturn, 1) := dk_176 (dk_at dksJ26_grow_0 10 rfl rfl)
def dkwJ26_grow_2_2 : List UInt8 := [27, 184, 0, 79, 189, 0, 7, 90, 181, 0, 9, 176]
abbrev dktJ26_grow_2_2 : List UInt8 := dkwJ26_grow_2_2 ++ []
def dkwJ26_grow_2_1 : List UInt8 := [28, 4, 122, 184, 0, 73, 62, 42, 42, 180, 0, 9, 29, 184, 0, 66, 90, 181, 0, 9, 176, 42, 16, 10]
abbrev dktJ26_grow_2_1 : List UInt8 := dkwJ26_grow_2_1 ++ dktJ26_grow_2_2
def dkwJ26_grow_2_0 : List UInt8 := [42, 180, 0, 9, 190, 61, 28, 157, 0, 13, 42, 180, 0, 9, 178, 0, 39, 165, 0, 28, 28, 27, 28, 100]
abbrev dktJ26_grow_2_0 : List UInt8 := dkwJ26_grow_2_0 ++ dktJ26_grow_2_1
theorem dksJ26_grow_2_0 : cJ26_grow_2.data.toList.drop 0 = dktJ26_grow_2_0 := by decide +kernel
theorem dksJ26_grow_2_1 : cJ26_grow_2.data.toList.drop 24 = dktJ26_grow_2_1 := dk_seg dksJ26_grow_2_0 24 rfl rfl
theorem dksJ26_grow_2_2 : cJ26_grow_2.data.toList.drop 48 = dktJ26_grow_2_2 := dk_seg dksJ26_grow_2_1 24 rfl rfl
theorem dJ26_grow_2_0 : decode cJ26_grow_2 0 = .ok (.aload_n 0, 1) := dk_42 (dk_at dksJ26_grow_2_0 0 rfl rfl)
theorem dJ26_grow_2_1 : decode cJ26_grow_2 1 = .ok (.getfield 9, 3) := dk_180 0 9 (dk_at dksJ26_grow_2_0 1 rfl rfl)
theorem dJ26_grow_2_4 : decode cJ26_grow_2 4 = .ok (.arraylength, 1) := dk_190 (dk_at dksJ26_grow_2_0 4 rfl rfl)
theorem dJ26_grow_2_5 : decode cJ26_grow_2 5 = .ok (.istore_n 2, 1) := dk_61 (dk_at dksJ26_grow_2_0 5 rfl rfl)
theorem dJ26_grow_2_6 : decode cJ26_grow_2 6 = .ok (.iload_n 2, 1) := dk_28 (dk_at dksJ26_grow_2_0 6 rfl rfl)
theorem dJ26_grow_2_7 : decode cJ26_grow_2 7 = .ok (.ifCond .gt 13, 3) := dk_157 0 13 (dk_at dksJ26_grow_2_0 7 rfl rfl)
theorem dJ26_grow_2_10 : decode cJ26_grow_2 10 = .ok (.aload_n 0, 1) := dk_42 (dk_at dksJ26_grow_2_0 10 rfl rfl)
theorem dJ26_grow_2_11 : decode cJ26_grow_2 11 = .ok (.getfield 9, 3) := dk_180 0 9 (dk_at dksJ26_grow_2_0 11 rfl rfl)
theorem dJ26_grow_2_14 : decode cJ26_grow_2 14 = .ok (.getstatic 39, 3) := dk_178 0 39 (dk_at dksJ26_grow_2_0 14 rfl rfl)
theorem dJ26_grow_2_17 : decode cJ26_grow_2 17 = .ok (.if_acmp .eq 28, 3) := dk_165 0 28 (dk_at dksJ26_grow_2_0 17 rfl rfl)
theorem dJ26_grow_2_20 : decode cJ26_grow_2 20 = .ok (.iload_n 2, 1) := dk_28 (dk_at dksJ26_grow_2_0 20 rfl rfl)
theorem dJ26_grow_2_21 : decode cJ26_grow_2 21 = .ok (.iload_n 1, 1) := dk_27 (dk_at dksJ26_grow_2_0 21 rfl rfl)
theorem dJ26_grow_2_22 : decode cJ26_grow_2 22 = .ok (.iload_n 2, 1) := dk_28 (dk_at dksJ26_grow_2_0 22 rfl rfl)
theorem dJ26_grow_2_23 : decode cJ26_grow_2 23 = .ok (.isub, 1) := dk_100 (dk_at dksJ26_grow_2_0 23 rfl rfl)
theorem dJ26_grow_2_24 : decode cJ26_grow_2 24 = .ok (.iload_n 2, 1) := dk_28 (dk_at dksJ26_grow_2_1 0 rfl rfl)
theorem dJ26_grow_2_25 : decode cJ26_grow_2 25 = .ok (.iconst 1, 1) := dk_4 (dk_at dksJ26_grow_2_1 1 rfl rfl)
theorem dJ26_grow_2_26 : decode cJ26_grow_2 26 = .ok (.ishr, 1) := dk_122 (dk_at dksJ26_grow_2_1 2 rfl rfl)
theorem dJ26_grow_2_27 : decode cJ26_grow_2 27 = .ok (.invokestatic 73, 3) := dk_184 0 73 (dk_at dksJ26_grow_2_1 3 rfl rfl)
theorem dJ26_grow_2_30 : decode cJ26_grow_2 30 = .ok (.istore_n 3, 1) := dk_62 (dk_at dksJ26_grow_2_1 6 rfl rfl)
theorem dJ26_grow_2_31 : decode cJ26_grow_2 31 = .ok (.aload_n 0, 1) := dk_42 (dk_at dksJ26_grow_2_1 7 rfl rfl)
theorem dJ26_grow_2_32 : decode cJ26_grow_2 32 = .ok (.aload_n 0, 1) := dk_42 (dk_at dksJ26_grow_2_1 8 rfl rfl)
theorem dJ26_grow_2_33 : decode cJ26_grow_2 33 = .ok (.getfield 9, 3) := dk_180 0 9 (dk_at dksJ26_grow_2_1 9 rfl rfl)
theorem dJ26_grow_2_36 : decode cJ26_grow_2 36 = .ok (.iload_n 3, 1) := dk_29 (dk_at dksJ26_grow_2_1 12 rfl rfl)
theorem dJ26_grow_2_37 : decode cJ26_grow_2 37 = .ok (.invokestatic 66, 3) := dk_184 0 66 (dk_at dksJ26_grow_2_1 13 rfl rfl)
theorem dJ26_grow_2_40 : decode cJ26_grow_2 40 = .ok (.dup_x1, 1) := dk_90 (dk_at dksJ26_grow_2_1 16 rfl rfl)
theorem dJ26_grow_2_41 : decode cJ26_grow_2 41 = .ok (.putfield 9, 3) := dk_181 0 9 (dk_at dksJ26_grow_2_1 17 rfl rfl)
theorem dJ26_grow_2_44 : decode cJ26_grow_2 44 = .ok (.areturn, 1) := dk_176 (dk_at dksJ26_grow_2_1 20 rfl rfl)
theorem dJ26_grow_2_45 : decode cJ26_grow_2 45 = .ok (.aload_n 0, 1) := dk_42 (dk_at dksJ26_grow_2_1 21 rfl rfl)
theorem dJ26_grow_2_46 : decode cJ26_grow_2 46 = .ok (.bipush 10, 2) := dk_16 10 (dk_at dksJ26_grow_2_1 22 rfl rfl)
theorem dJ26_grow_2_48 : decode cJ26_grow_2 48 = .ok (.iload_n 1, 1) := dk_27 (dk_at dksJ26_grow_2_2 0 rfl rfl)
theorem dJ26_grow_2_49 : decode cJ26_grow_2 49 = .ok (.invokestatic 79, 3) := dk_184 0 79 (dk_at dksJ26_grow_2_2 1 rfl rfl)
theorem dJ26_grow_2_52 : decode cJ26_grow_2 52 = .ok (.anewarray 7, 3) := dk_189 0 7 (dk_at dksJ26_grow_2_2 4 rfl rfl)
theorem dJ26_grow_2_55 : decode cJ26_grow_2 55 = .ok (.dup_x1, 1) := dk_90 (dk_at dksJ26_grow_2_2 7 rfl rfl)
theorem dJ26_grow_2_56 : decode cJ26_grow_2 56 = .ok (.putfield 9, 3) := dk_181 0 9 (dk_at dksJ26_grow_2_2 8 rfl rfl)
theorem dJ26_grow_2_59 : decode cJ26_grow_2 59 = .ok (.areturn, 1) := dk_176 (dk_at dksJ26_grow_2_2 11 rfl rfl)
def dkwJ26_iterator_0 : List UInt8 := [187, 1, 11, 89, 42, 183, 1, 13, 176]
abbrev dktJ26_iterator_0 : List UInt8 := dkwJ26_iterator_0 ++ []
theorem dksJ26_iterator_0 : cJ26_iterator.data.toList.drop 0 = dktJ26_iterator_0 := by decide +kernel
theorem dJ26_iterator_0 : decode cJ26_iterator 0 = .ok (.new 267, 3) := dk_187 1 11 (dk_at dksJ26_iterator_0 0 rfl rfl)
theorem dJ26_iterator_3 : decode cJ26_iterator 3 = .ok (.dup, 1) := dk_89 (dk_at dksJ26_iterator_0 3 rfl rfl)
theorem dJ26_iterator_4 : decode cJ26_iterator 4 = .ok (.aload_n 0, 1) := dk_42 (dk_at dksJ26_iterator_0 4 rfl rfl)
theorem dJ26_iterator_5 : decode cJ26_iterator 5 = .ok (.invokespecial 269, 3) := dk_183 1 13 (dk_at dksJ26_iterator_0 5 rfl rfl)
theorem dJ26_iterator_8 : decode cJ26_iterator 8 = .ok (.areturn, 1) := dk_176 (dk_at dksJ26_iterator_0 8 rfl rfl)
def dkwJ18_init_1 : List UInt8 := [181, 0, 22, 177]
abbrev dktJ18_init_1 : List UInt8 := dkwJ18_init_1 ++ []
def dkwJ18_init_0 : List UInt8 := [42, 43, 181, 0, 1, 42, 183, 0, 7, 42, 2, 181, 0, 13, 42, 42, 180, 0, 1, 180, 0, 17]
abbrev dktJ18_init_0 : List UInt8 := dkwJ18_init_0 ++ dktJ18_init_1
theorem dksJ18_init_0 : cJ18_init.data.toList.drop 0 = dktJ18_init_0 := by decide +kernel
theorem dksJ18_init_1 : cJ18_init.data.toList.drop 22 = dktJ18_init_1 := dk_seg dksJ18_init_0 22 rfl rfl
theorem dJ18_init_0 : decode cJ18_init 0 = .ok (.aload_n 0, 1) := dk_42 (dk_at dksJ18_init_0 0 rfl rfl)
theorem dJ18_init_1 : decode cJ18_init 1 = .ok (.aload_n 1, 1) := dk_43 (dk_at dksJ18_init_0 1 rfl rfl)
theorem dJ18_init_2 : decode cJ18_init 2 = .ok (.putfield 1, 3) := dk_181 0 1 (dk_at dksJ18_init_0 2 rfl rfl)
theorem dJ18_init_5 : decode cJ18_init 5 = .ok (.aload_n 0, 1) := dk_42 (dk_at dksJ18_init_0 5 rfl rfl)
theorem dJ18_init_6 : decode cJ18_init 6 = .ok (.invokespecial 7, 3) := dk_183 0 7 (dk_at dksJ18_init_0 6 rfl rfl)
theorem dJ18_init_9 : decode cJ18_init 9 = .ok (.aload_n 0, 1) := dk_42 (dk_at dksJ18_init_0 9 rfl rfl)
theorem dJ18_init_10 : decode cJ18_init 10 = .ok (.iconst (-1), 1) := dk_2 (dk_at dksJ18_init_0 10 rfl rfl)
theorem dJ18_init_11 : decode cJ18_init 11 = .ok (.putfield 13, 3) := dk_181 0 13 (dk_at dksJ18_init_0 11 rfl rfl)
theorem dJ18_init_14 : decode cJ18_init 14 = .ok (.aload_n 0, 1) := dk_42 (dk_at dksJ18_init_0 14 rfl rfl)
theorem dJ18_init_15 : decode cJ18_init 15 = .ok (.aload_n 0, 1) := dk_42 (dk_at dksJ18_init_0 15 rfl rfl)
theorem dJ18_init_16 : decode cJ18_init 16 = .ok (.getfield 1, 3) := dk_180 0 1 (dk_at dksJ18_init_0 16 rfl rfl)
theorem dJ18_init_19 : decode cJ18_init 19 = .ok (.getfield 17, 3) := dk_180 0 17 (dk_at dksJ18_init_0 19 rfl rfl)
theorem dJ18_init_22 : decode cJ18_init 22 = .ok (.putfield 22, 3) := dk_181 0 22 (dk_at dksJ18_init_1 0 rfl rfl)
theorem dJ18_init_25 : decode cJ18_init 25 = .ok (.return_, 1) := dk_177 (dk_at dksJ18_init_1 3 rfl rfl)
def dkwJ18_hasNext_0 : List UInt8 := [42, 180, 0, 25, 42, 180, 0, 1, 180, 0, 28, 159, 0, 7, 4, 167, 0, 4, 3, 172]
abbrev dktJ18_hasNext_0 : List UInt8 := dkwJ18_hasNext_0 ++ []
theorem dksJ18_hasNext_0 : cJ18_hasNext.data.toList.drop 0 = dktJ18_hasNext_0 := by decide +kernel
theorem dJ18_hasNext_0 : decode cJ18_hasNext 0 = .ok (.aload_n 0, 1) := dk_42 (dk_at dksJ18_hasNext_0 0 rfl rfl)
theorem dJ18_hasNext_1 : decode cJ18_hasNext 1 = .ok (.getfield 25, 3) := dk_180 0 25 (dk_at dksJ18_hasNext_0 1 rfl rfl)
theorem dJ18_hasNext_4 : decode cJ18_hasNext 4 = .ok (.aload_n 0, 1) := dk_42 (dk_at dksJ18_hasNext_0 4 rfl rfl)
theorem dJ18_hasNext_5 : decode cJ18_hasNext 5 = .ok (.getfield 1, 3) := dk_180 0 1 (dk_at dksJ18_hasNext_0 5 rfl rfl)
theorem dJ18_hasNext_8 : decode cJ18_hasNext 8 = .ok (.getfield 28, 3) := dk_180 0 28 (dk_at dksJ18_hasNext_0 8 rfl rfl)
theorem dJ18_hasNext_11 : decode cJ18_hasNext 11 = .ok (.if_icmp .eq 7, 3) := dk_159 0 7 (dk_at dksJ18_hasNext_0 11 rfl rfl)
theorem dJ18_hasNext_14 : decode cJ18_hasNext 14 = .ok (.iconst 1, 1) := dk_4 (dk_at dksJ18_hasNext_0 14 rfl rfl)
theorem dJ18_hasNext_15 : decode cJ18_hasNext 15 = .ok (.goto 4, 3) := dk_167 0 4 (dk_at dksJ18_hasNext_0 15 rfl rfl)
theorem dJ18_hasNext_18 : decode cJ18_hasNext 18 = .ok (.iconst 0, 1) := dk_3 (dk_at dksJ18_hasNext_0 18 rfl rfl)
theorem dJ18_hasNext_19 : decode cJ18_hasNext 19 = .ok (.ireturn, 1) := dk_172 (dk_at dksJ18_hasNext_0 19 rfl rfl)
def dkwJ18_next_2 : List UInt8 := [183, 0, 43, 191, 42, 27, 4, 96, 181, 0, 25, 44, 42, 27, 90, 181, 0, 13, 50, 176]
abbrev dktJ18_next_2 : List UInt8 := dkwJ18_next_2 ++ []
def dkwJ18_next_1 : List UInt8 := [183, 0, 36, 191, 42, 180, 0, 1, 180, 0, 37, 77, 27, 44, 190, 161, 0, 11, 187, 0, 41, 89]
abbrev dktJ18_next_1 : List UInt8 := dkwJ18_next_1 ++ dktJ18_next_2
def dkwJ18_next_0 : List UInt8 := [42, 182, 0, 31, 42, 180, 0, 25, 60, 27, 42, 180, 0, 1, 180, 0, 28, 161, 0, 11, 187, 0, 34, 89]
abbrev dktJ18_next_0 : List UInt8 := dkwJ18_next_0 ++ dktJ18_next_1
theorem dksJ18_next_0 : cJ18_next.data.toList.drop 0 = dktJ18_next_0 := by decide +kernel
theorem dksJ18_next_1 : cJ18_next.data.toList.drop 24 = dktJ18_next_1 := dk_seg dksJ18_next_0 24 rfl rfl
theorem dksJ18_next_2 : cJ18_next.data.toList.drop 46 = dktJ18_next_2 := dk_seg dksJ18_next_1 22 rfl rfl
theorem dJ18_next_0 : decode cJ18_next 0 = .ok (.aload_n 0, 1) := dk_42 (dk_at dksJ18_next_0 0 rfl rfl)
theorem dJ18_next_1 : decode cJ18_next 1 = .ok (.invokevirtual 31, 3) := dk_182 0 31 (dk_at dksJ18_next_0 1 rfl rfl)
theorem dJ18_next_4 : decode cJ18_next 4 = .ok (.aload_n 0, 1) := dk_42 (dk_at dksJ18_next_0 4 rfl rfl)
theorem dJ18_next_5 : decode cJ18_next 5 = .ok (.getfield 25, 3) := dk_180 0 25 (dk_at dksJ18_next_0 5 rfl rfl)
theorem dJ18_next_8 : decode cJ18_next 8 = .ok (.istore_n 1, 1) := dk_60 (dk_at dksJ18_next_0 8 rfl rfl)
theorem dJ18_next_9 : decode cJ18_next 9 = .ok (.iload_n 1, 1) := dk_27 (dk_at dksJ18_next_0 9 rfl rfl)
theorem dJ18_next_10 : decode cJ18_next 10 = .ok (.aload_n 0, 1) := dk_42 (dk_at dksJ18_next_0 10 rfl rfl)
theorem dJ18_next_11 : decode cJ18_next 11 = .ok (.getfield 1, 3) := dk_180 0 1 (dk_at dksJ18_next_0 11 rfl rfl)
theorem dJ18_next_14 : decode cJ18_next 14 = .ok (.getfield 28, 3) := dk_180 0 28 (dk_at dksJ18_next_0 14 rfl rfl)
theorem dJ18_next_17 : decode cJ18_next 17 = .ok (.if_icmp .lt 11, 3) := dk_161 0 11 (dk_at dksJ18_next_0 17 rfl rfl)
theorem dJ18_next_20 : decode cJ18_next 20 = .ok (.new 34, 3) := dk_187 0 34 (dk_at dksJ18_next_0 20 rfl rfl)
theorem dJ18_next_23 : decode cJ18_next 23 = .ok (.dup, 1) := dk_89 (dk_at dksJ18_next_0 23 rfl rfl)
theorem dJ18_next_24 : decode cJ18_next 24 = .ok (.invokespecial 36, 3) := dk_183 0 36 (dk_at dksJ18_next_1 0 rfl rfl)
theorem dJ18_next_27 : decode cJ18_next 27 = .ok (.athrow, 1) := dk_191 (dk_at dksJ18_next_1 3 rfl rfl)
theorem dJ18_next_28 : decode cJ18_next 28 = .ok (.aload_n 0, 1) := dk_42 (dk_at dksJ18_next_1 4 rfl rfl)
theorem dJ18_next_29 : decode cJ18_next 29 = .ok (.getfield 1, 3) := dk_180 0 1 (dk_at dksJ18_next_1 5 rfl rfl)
theorem dJ18_next_32 : decode cJ18_next 32 = .ok (.getfield 37, 3) := dk_180 0 37 (dk_at dksJ18_next_1 8 rfl rfl)
theorem dJ18_next_35 : decode cJ18_next 35 = .ok (.astore_n 2, 1) := dk_77 (dk_at dksJ18_next_1 11 rfl rfl)
theorem dJ18_next_36 : decode cJ18_next 36 = .ok (.iload_n 1, 1) := dk_27 (dk_at dksJ18_next_1 12 rfl rfl)
theorem dJ18_next_37 : decode cJ18_next 37 = .ok (.aload_n 2, 1) := dk_44 (dk_at dksJ18_next_1 13 rfl rfl)
theorem dJ18_next_38 : decode cJ18_next 38 = .ok (.arraylength, 1) := dk_190 (dk_at dksJ18_next_1 14 rfl rfl)
theorem dJ18_next_39 : decode cJ18_next 39 = .ok (.if_icmp .lt 11, 3) := dk_161 0 11 (dk_at dksJ18_next_1 15 rfl rfl)
theorem dJ18_next_42 : decode cJ18_next 42 = .ok (.new 41, 3) := dk_187 0 41 (dk_at dksJ18_next_1 18 rfl rfl)
theorem dJ18_next_45 : decode cJ18_next 45 = .ok (.dup, 1) := dk_89 (dk_at dksJ18_next_1 21 rfl rfl)
theorem dJ18_next_46 : decode cJ18_next 46 = .ok (.invokespecial 43, 3) := dk_183 0 43 (dk_at dksJ18_next_2 0 rfl rfl)
theorem dJ18_next_49 : decode cJ18_next 49 = .ok (.athrow, 1) := dk_191 (dk_at dksJ18_next_2 3 rfl rfl)
theorem dJ18_next_50 : decode cJ18_next 50 = .ok (.aload_n 0, 1) := dk_42 (dk_at dksJ18_next_2 4 rfl rfl)
theorem dJ18_next_51 : decode cJ18_next 51 = .ok (.iload_n 1, 1) := dk_27 (dk_at dksJ18_next_2 5 rfl rfl)
theorem dJ18_next_52 : decode cJ18_next 52 = .ok (.iconst 1, 1) := dk_4 (dk_at dksJ18_next_2 6 rfl rfl)
theorem dJ18_next_53 : decode cJ18_next 53 = .ok (.iadd, 1) := dk_96 (dk_at dksJ18_next_2 7 rfl rfl)
theorem dJ18_next_54 : decode cJ18_next 54 = .ok (.putfield 25, 3) := dk_181 0 25 (dk_at dksJ18_next_2 8 rfl rfl)
theorem dJ18_next_57 : decode cJ18_next 57 = .ok (.aload_n 2, 1) := dk_44 (dk_at dksJ18_next_2 11 rfl rfl)
theorem dJ18_next_58 : decode cJ18_next 58 = .ok (.aload_n 0, 1) := dk_42 (dk_at dksJ18_next_2 12 rfl rfl)
theorem dJ18_next_59 : decode cJ18_next 59 = .ok (.iload_n 1, 1) := dk_27 (dk_at dksJ18_next_2 13 rfl rfl)
theorem dJ18_next_60 : decode cJ18_next 60 = .ok (.dup_x1, 1) := dk_90 (dk_at dksJ18_next_2 14 rfl rfl)
theorem dJ18_next_61 : decode cJ18_next 61 = .ok (.putfield 13, 3) := dk_181 0 13 (dk_at dksJ18_next_2 15 rfl rfl)
theorem dJ18_next_64 : decode cJ18_next 64 = .ok (.aaload, 1) := dk_50 (dk_at dksJ18_next_2 18 rfl rfl)
theorem dJ18_next_65 : decode cJ18_next 65 = .ok (.areturn, 1) := dk_176 (dk_at dksJ18_next_2 19 rfl rfl)
def dkwJ18_checkForComodification_0 : List UInt8 := [42, 180, 0, 1, 180, 0, 17, 42, 180, 0, 22, 159, 0, 11, 187, 0, 41, 89, 183, 0, 43, 191, 177]
abbrev dktJ18_checkForComodification_0 : List UInt8 := dkwJ18_checkForComodification_0 ++ []
theorem dksJ18_checkForComodification_0 : cJ18_checkForComodification.data.toList.drop 0 = dktJ18_checkForComodification_0 := by decide +kernel
theorem dJ18_checkForComodification_0 : decode cJ18_checkForComodification 0 = .ok (.aload_n 0, 1) := dk_42 (dk_at dksJ18_checkForComodification_0 0 rfl rfl)
theorem dJ18_checkForComodification_1 : decode cJ18_checkForComodification 1 = .ok (.getfield 1, 3) := dk_180 0 1 (dk_at dksJ18_checkForComodification_0 1 rfl rfl)
theorem dJ18_checkForComodification_4 : decode cJ18_checkForComodification 4 = .ok (.getfield 17, 3) := dk_180 0 17 (dk_at dksJ18_checkForComodification_0 4 rfl rfl)
theorem dJ18_checkForComodification_7 : decode cJ18_checkForComodification 7 = .ok (.aload_n 0, 1) := dk_42 (dk_at dksJ18_checkForComodification_0 7 rfl rfl)
theorem dJ18_checkForComodification_8 : decode cJ18_checkForComodification 8 = .ok (.getfield 22, 3) := dk_180 0 22 (dk_at dksJ18_checkForComodification_0 8 rfl rfl)
theorem dJ18_checkForComodification_11 : decode cJ18_checkForComodification 11 = .ok (.if_icmp .eq 11, 3) := dk_159 0 11 (dk_at dksJ18_checkForComodification_0 11 rfl rfl)
theorem dJ18_checkForComodification_14 : decode cJ18_checkForComodification 14 = .ok (.new 41, 3) := dk_187 0 41 (dk_at dksJ18_checkForComodification_0 14 rfl rfl)
theorem dJ18_checkForComodification_17 : decode cJ18_checkForComodification 17 = .ok (.dup, 1) := dk_89 (dk_at dksJ18_checkForComodification_0 17 rfl rfl)
theorem dJ18_checkForComodification_18 : decode cJ18_checkForComodification 18 = .ok (.invokespecial 43, 3) := dk_183 0 43 (dk_at dksJ18_checkForComodification_0 18 rfl rfl)
theorem dJ18_checkForComodification_21 : decode cJ18_checkForComodification 21 = .ok (.athrow, 1) := dk_191 (dk_at dksJ18_checkForComodification_0 21 rfl rfl)
theorem dJ18_checkForComodification_22 : decode cJ18_checkForComodification 22 = .ok (.return_, 1) := dk_177 (dk_at dksJ18_checkForComodification_0 22 rfl rfl)
theorem dJ0_init_0 : decode cJ0_init 0 = .ok (.aload_n 0, 1) := by decide +kernel
theorem dJ0_init_1 : decode cJ0_init 1 = .ok (.invokespecial 1, 3) := by decide +kernel
theorem dJ0_init_4 : decode cJ0_init 4 = .ok (.return_, 1) := by decide +kernel
