set_option maxRecDepth 100000
/-! BrookWeirsLaw -/
def RX0 : String := "BrookWeirsLaw"
abbrev cX0_pool : ByteArray := method_3_code
def yX0_pool : MethodName := ⟨RX0, "pool", "(LBrookWeirs;III[J)I"⟩
abbrev cX0_boards : ByteArray := method_4_code
def yX0_boards : MethodName := ⟨RX0, "boards", "(LBrookWeirs;II[J)I"⟩
abbrev cX0_weir : ByteArray := method_5_code
def yX0_weir : MethodName := ⟨RX0, "weir", "(LBrookWeirs;IZ[J)I"⟩
abbrev cX0_latch : ByteArray := method_6_code
def yX0_latch : MethodName := ⟨RX0, "latch", "(LBrookWeirs;IZZ[J)I"⟩
abbrev cX0_frogs : ByteArray := method_7_code
def yX0_frogs : MethodName := ⟨RX0, "frogs", "(LBrookWeirs;II[J)I"⟩
abbrev cX0_lay : ByteArray := method_8_code
def yX0_lay : MethodName := ⟨RX0, "lay", "(LBrookWeirs;II[J)I"⟩
abbrev cX0_of : ByteArray := method_9_code
def yX0_of : MethodName := ⟨RX0, "of", "(LBrookWeirs;II[J)I"⟩
abbrev cX0_is : ByteArray := method_10_code
def yX0_is : MethodName := ⟨RX0, "is", "(LBrookWeirs;II[J)I"⟩
abbrev cX0_clutch : ByteArray := method_11_code
def yX0_clutch : MethodName := ⟨RX0, "clutch", "(LBrookWeirs;II[J)I"⟩
abbrev cX0_tell : ByteArray := method_12_code
def yX0_tell : MethodName := ⟨RX0, "tell", "(LBrookWeirs;I[J)I"⟩
abbrev cX0_rain : ByteArray := method_13_code
def yX0_rain : MethodName := ⟨RX0, "rain", "(LBrookWeirs;I[J)I"⟩
abbrev cX0_season : ByteArray := method_14_code
def yX0_season : MethodName := ⟨RX0, "season", "(LBrookWeirs;[J)I"⟩
abbrev cX0_foretold : ByteArray := method_15_code
def yX0_foretold : MethodName := ⟨RX0, "foretold", "(LBrookWeirs;III[J)I"⟩
abbrev cX0_firstFlood : ByteArray := method_16_code
def yX0_firstFlood : MethodName := ⟨RX0, "firstFlood", "(LBrookWeirs;I[J)I"⟩
abbrev cX0_best : ByteArray := method_17_code
def yX0_best : MethodName := ⟨RX0, "best", "(LBrookWeirs;ZIZ[J)I"⟩
abbrev cX0_worth : ByteArray := method_18_code
def yX0_worth : MethodName := ⟨RX0, "worth", "(LBrookWeirs;ZII[J)I"⟩
abbrev cX0_choose : ByteArray := method_19_code
def yX0_choose : MethodName := ⟨RX0, "choose", "(LBrookWeirs;ZI[J)I"⟩
abbrev cX0_rest : ByteArray := method_20_code
def yX0_rest : MethodName := ⟨RX0, "rest", "(LBrookWeirs;I[J)I"⟩
abbrev cX0_number : ByteArray := method_21_code
def yX0_number : MethodName := ⟨RX0, "number", "(LBrookWeirs;I[J)I"⟩
abbrev cX0_meanLevel : ByteArray := method_22_code
def yX0_meanLevel : MethodName := ⟨RX0, "meanLevel", "(LBrookWeirs;[D)I"⟩
abbrev cX0_silence : ByteArray := method_23_code
def yX0_silence : MethodName := ⟨RX0, "silence", "(LBrookWeirs;[D)I"⟩
abbrev cX0_feed : ByteArray := method_24_code
def yX0_feed : MethodName := ⟨RX0, "feed", "(LBrookWeirs;C[J)I"⟩
abbrev cX0_read : ByteArray := method_25_code
def yX0_read : MethodName := ⟨RX0, "read", "(LBrookWeirs;[J)I"⟩
abbrev cX0_faultPosition : ByteArray := method_26_code
def yX0_faultPosition : MethodName := ⟨RX0, "faultPosition", "(LBrookWeirs;[J)I"⟩
abbrev cX0_refusal : ByteArray := method_27_code
def yX0_refusal : MethodName := ⟨RX0, "refusal", "(LBrookWeirs;Z[J)I"⟩
abbrev cX0_undo : ByteArray := method_28_code
def yX0_undo : MethodName := ⟨RX0, "undo", "(LBrookWeirs;[J)I"⟩
abbrev cX0_restoreSnapshot : ByteArray := method_29_code
def yX0_restoreSnapshot : MethodName := ⟨RX0, "restoreSnapshot", "(LBrookWeirs;[J)I"⟩
theorem q69 : (Jvm.Cond.initialized "BrookWeirsLaw") ∈ lw_all := lw_g (lw_at lw_m1 0 rfl) rfl
theorem q115 : (Jvm.Cond.classLink "BrookWeirsLaw" (8 : Nat) "BrookWeirs") ∈ lw_all := lw_g (lw_at lw_m1 46 rfl) rfl
theorem q117 : (Jvm.Cond.methodLink "BrookWeirsLaw" (116 : Nat) ({ cls := "BrookWeirs", name := "<init>", desc := "()V" } : Jvm.MethodName)) ∈ lw_all := lw_g (lw_at lw_m1 48 rfl) rfl
theorem q396 : (Jvm.Cond.methodLink "BrookWeirsLaw" (163 : Nat) ({ cls := "BrookWeirs", name := "day", desc := "()I" } : Jvm.MethodName)) ∈ lw_all := lw_g (lw_at lw_m2 87 rfl) rfl
theorem q704 : (Jvm.Cond.methodLink "BrookWeirsLaw" (192 : Nat) ({ cls := "BrookWeirs", name := "water", desc := "()I" } : Jvm.MethodName)) ∈ lw_all := lw_g (lw_at lw_m3 155 rfl) rfl
theorem q712 : (Jvm.Cond.methodLink "BrookWeirsLaw" (196 : Nat) ({ cls := "BrookWeirs", name := "waterAgain", desc := "()I" } : Jvm.MethodName)) ∈ lw_all := lw_g (lw_at lw_m3 163 rfl) rfl
theorem q716 : (Jvm.Cond.methodLink "BrookWeirsLaw" (227 : Nat) ({ cls := "BrookWeirs", name := "saveSnapshot", desc := "()I" } : Jvm.MethodName)) ∈ lw_all := lw_g (lw_at lw_m3 167 rfl) rfl
theorem q720 : (Jvm.Cond.methodLink "BrookWeirsLaw" (120 : Nat) ({ cls := "BrookWeirsLaw", name := "pool", desc := "(LBrookWeirs;III[J)I" } : Jvm.MethodName)) ∈ lw_all := lw_g (lw_at lw_m3 171 rfl) rfl
theorem q721 : (Jvm.Cond.static ({ cls := "BrookWeirsLaw", name := "pool", desc := "(LBrookWeirs;III[J)I" } : Jvm.MethodName)) ∈ lw_all := lw_g (lw_at lw_m3 172 rfl) rfl
theorem q722 : (Jvm.Cond.codeWith ({ cls := "BrookWeirsLaw", name := "pool", desc := "(LBrookWeirs;III[J)I" } : Jvm.MethodName) method_3_code (6 : Nat) (Option.some Jvm.ClassFile.FieldType.int) [((0 : Nat), (12 : Nat), (15 : Nat), (13 : Nat)), ((0 : Nat), (12 : Nat), (19 : Nat), (15 : Nat))]) ∈ lw_all := lw_g (lw_at lw_m3 173 rfl) rfl
theorem q723 : (Jvm.Cond.classLink "BrookWeirsLaw" (13 : Nat) "java/lang/IllegalArgumentException") ∈ lw_all := lw_g (lw_at lw_m3 174 rfl) rfl
theorem q724 : (Jvm.Cond.classLink "BrookWeirsLaw" (15 : Nat) "java/lang/UnsupportedOperationException") ∈ lw_all := lw_g (lw_at lw_m3 175 rfl) rfl
theorem q725 : (Jvm.Cond.methodLink "BrookWeirsLaw" (7 : Nat) ({ cls := "BrookWeirs", name := "pool", desc := "(III)I" } : Jvm.MethodName)) ∈ lw_all := lw_g (lw_at lw_m3 176 rfl) rfl
theorem q780 : (Jvm.Cond.methodLink "BrookWeirsLaw" (129 : Nat) ({ cls := "BrookWeirsLaw", name := "boards", desc := "(LBrookWeirs;II[J)I" } : Jvm.MethodName)) ∈ lw_all := lw_g (lw_at lw_m3 231 rfl) rfl
theorem q781 : (Jvm.Cond.static ({ cls := "BrookWeirsLaw", name := "boards", desc := "(LBrookWeirs;II[J)I" } : Jvm.MethodName)) ∈ lw_all := lw_g (lw_at lw_m3 232 rfl) rfl
theorem q782 : (Jvm.Cond.codeWith ({ cls := "BrookWeirsLaw", name := "boards", desc := "(LBrookWeirs;II[J)I" } : Jvm.MethodName) method_4_code (5 : Nat) (Option.some Jvm.ClassFile.FieldType.int) [((0 : Nat), (10 : Nat), (13 : Nat), (21 : Nat)), ((0 : Nat), (10 : Nat), (17 : Nat), (13 : Nat)), ((0 : Nat), (10 : Nat), (21 : Nat), (15 : Nat))]) ∈ lw_all := lw_g (lw_at lw_m3 233 rfl) rfl
theorem q783 : (Jvm.Cond.classLink "BrookWeirsLaw" (21 : Nat) "java/lang/IndexOutOfBoundsException") ∈ lw_all := lw_g (lw_at lw_m3 234 rfl) rfl
theorem q807 : (Jvm.Cond.methodLink "BrookWeirsLaw" (17 : Nat) ({ cls := "BrookWeirs", name := "boards", desc := "(II)I" } : Jvm.MethodName)) ∈ lw_all := lw_g (lw_at lw_m4 18 rfl) rfl
theorem q842 : (Jvm.Cond.methodLink "BrookWeirsLaw" (133 : Nat) ({ cls := "BrookWeirsLaw", name := "weir", desc := "(LBrookWeirs;IZ[J)I" } : Jvm.MethodName)) ∈ lw_all := lw_g (lw_at lw_m4 53 rfl) rfl
theorem q843 : (Jvm.Cond.static ({ cls := "BrookWeirsLaw", name := "weir", desc := "(LBrookWeirs;IZ[J)I" } : Jvm.MethodName)) ∈ lw_all := lw_g (lw_at lw_m4 54 rfl) rfl
theorem q844 : (Jvm.Cond.codeWith ({ cls := "BrookWeirsLaw", name := "weir", desc := "(LBrookWeirs;IZ[J)I" } : Jvm.MethodName) method_5_code (5 : Nat) (Option.some Jvm.ClassFile.FieldType.int) [((0 : Nat), (17 : Nat), (20 : Nat), (21 : Nat))]) ∈ lw_all := lw_g (lw_at lw_m4 55 rfl) rfl
theorem q845 : (Jvm.Cond.methodLink "BrookWeirsLaw" (23 : Nat) ({ cls := "BrookWeirs", name := "weir", desc := "(IZ)Z" } : Jvm.MethodName)) ∈ lw_all := lw_g (lw_at lw_m4 56 rfl) rfl
theorem q853 : (Jvm.Cond.methodLink "BrookWeirsLaw" (137 : Nat) ({ cls := "BrookWeirsLaw", name := "latch", desc := "(LBrookWeirs;IZZ[J)I" } : Jvm.MethodName)) ∈ lw_all := lw_g (lw_at lw_m4 64 rfl) rfl
theorem q854 : (Jvm.Cond.static ({ cls := "BrookWeirsLaw", name := "latch", desc := "(LBrookWeirs;IZZ[J)I" } : Jvm.MethodName)) ∈ lw_all := lw_g (lw_at lw_m4 65 rfl) rfl
theorem q855 : (Jvm.Cond.codeWith ({ cls := "BrookWeirsLaw", name := "latch", desc := "(LBrookWeirs;IZZ[J)I" } : Jvm.MethodName) method_6_code (6 : Nat) (Option.some Jvm.ClassFile.FieldType.int) [((0 : Nat), (19 : Nat), (22 : Nat), (21 : Nat))]) ∈ lw_all := lw_g (lw_at lw_m4 66 rfl) rfl
theorem q856 : (Jvm.Cond.methodLink "BrookWeirsLaw" (27 : Nat) ({ cls := "BrookWeirs", name := "latch", desc := "(IZZ)Z" } : Jvm.MethodName)) ∈ lw_all := lw_g (lw_at lw_m4 67 rfl) rfl
theorem q867 : (Jvm.Cond.methodLink "BrookWeirsLaw" (141 : Nat) ({ cls := "BrookWeirsLaw", name := "frogs", desc := "(LBrookWeirs;II[J)I" } : Jvm.MethodName)) ∈ lw_all := lw_g (lw_at lw_m4 78 rfl) rfl
theorem q868 : (Jvm.Cond.static ({ cls := "BrookWeirsLaw", name := "frogs", desc := "(LBrookWeirs;II[J)I" } : Jvm.MethodName)) ∈ lw_all := lw_g (lw_at lw_m4 79 rfl) rfl
theorem q869 : (Jvm.Cond.codeWith ({ cls := "BrookWeirsLaw", name := "frogs", desc := "(LBrookWeirs;II[J)I" } : Jvm.MethodName) method_7_code (5 : Nat) (Option.some Jvm.ClassFile.FieldType.int) [((0 : Nat), (10 : Nat), (13 : Nat), (21 : Nat)), ((0 : Nat), (10 : Nat), (17 : Nat), (13 : Nat))]) ∈ lw_all := lw_g (lw_at lw_m4 80 rfl) rfl
theorem q870 : (Jvm.Cond.methodLink "BrookWeirsLaw" (31 : Nat) ({ cls := "BrookWeirs", name := "frogs", desc := "(II)I" } : Jvm.MethodName)) ∈ lw_all := lw_g (lw_at lw_m4 81 rfl) rfl
theorem q874 : (Jvm.Cond.methodLink "BrookWeirsLaw" (144 : Nat) ({ cls := "BrookWeirsLaw", name := "lay", desc := "(LBrookWeirs;II[J)I" } : Jvm.MethodName)) ∈ lw_all := lw_g (lw_at lw_m4 85 rfl) rfl
theorem q875 : (Jvm.Cond.static ({ cls := "BrookWeirsLaw", name := "lay", desc := "(LBrookWeirs;II[J)I" } : Jvm.MethodName)) ∈ lw_all := lw_g (lw_at lw_m4 86 rfl) rfl
theorem q876 : (Jvm.Cond.codeWith ({ cls := "BrookWeirsLaw", name := "lay", desc := "(LBrookWeirs;II[J)I" } : Jvm.MethodName) method_8_code (5 : Nat) (Option.some Jvm.ClassFile.FieldType.int) [((0 : Nat), (10 : Nat), (13 : Nat), (21 : Nat)), ((0 : Nat), (10 : Nat), (17 : Nat), (13 : Nat)), ((0 : Nat), (10 : Nat), (21 : Nat), (15 : Nat))]) ∈ lw_all := lw_g (lw_at lw_m4 87 rfl) rfl
theorem q877 : (Jvm.Cond.methodLink "BrookWeirsLaw" (34 : Nat) ({ cls := "BrookWeirs", name := "lay", desc := "(II)I" } : Jvm.MethodName)) ∈ lw_all := lw_g (lw_at lw_m4 88 rfl) rfl
theorem q894 : (Jvm.Cond.methodLink "BrookWeirsLaw" (147 : Nat) ({ cls := "BrookWeirsLaw", name := "of", desc := "(LBrookWeirs;II[J)I" } : Jvm.MethodName)) ∈ lw_all := lw_g (lw_at lw_m4 105 rfl) rfl
theorem q895 : (Jvm.Cond.static ({ cls := "BrookWeirsLaw", name := "of", desc := "(LBrookWeirs;II[J)I" } : Jvm.MethodName)) ∈ lw_all := lw_g (lw_at lw_m4 106 rfl) rfl
theorem q896 : (Jvm.Cond.codeWith ({ cls := "BrookWeirsLaw", name := "of", desc := "(LBrookWeirs;II[J)I" } : Jvm.MethodName) method_9_code (5 : Nat) (Option.some Jvm.ClassFile.FieldType.int) [((0 : Nat), (10 : Nat), (13 : Nat), (21 : Nat)), ((0 : Nat), (10 : Nat), (17 : Nat), (13 : Nat))]) ∈ lw_all := lw_g (lw_at lw_m4 107 rfl) rfl
theorem q897 : (Jvm.Cond.methodLink "BrookWeirsLaw" (37 : Nat) ({ cls := "BrookWeirs", name := "of", desc := "(II)I" } : Jvm.MethodName)) ∈ lw_all := lw_g (lw_at lw_m4 108 rfl) rfl
theorem q1185 : (Jvm.Cond.methodLink "BrookWeirsLaw" (150 : Nat) ({ cls := "BrookWeirsLaw", name := "is", desc := "(LBrookWeirs;II[J)I" } : Jvm.MethodName)) ∈ lw_all := lw_g (lw_at lw_m5 156 rfl) rfl
theorem q1186 : (Jvm.Cond.static ({ cls := "BrookWeirsLaw", name := "is", desc := "(LBrookWeirs;II[J)I" } : Jvm.MethodName)) ∈ lw_all := lw_g (lw_at lw_m5 157 rfl) rfl
theorem q1187 : (Jvm.Cond.codeWith ({ cls := "BrookWeirsLaw", name := "is", desc := "(LBrookWeirs;II[J)I" } : Jvm.MethodName) method_10_code (5 : Nat) (Option.some Jvm.ClassFile.FieldType.int) [((0 : Nat), (17 : Nat), (20 : Nat), (21 : Nat)), ((0 : Nat), (17 : Nat), (24 : Nat), (13 : Nat))]) ∈ lw_all := lw_g (lw_at lw_m5 158 rfl) rfl
theorem q1188 : (Jvm.Cond.methodLink "BrookWeirsLaw" (40 : Nat) ({ cls := "BrookWeirs", name := "is", desc := "(II)Z" } : Jvm.MethodName)) ∈ lw_all := lw_g (lw_at lw_m5 159 rfl) rfl
theorem q1193 : (Jvm.Cond.methodLink "BrookWeirsLaw" (153 : Nat) ({ cls := "BrookWeirsLaw", name := "clutch", desc := "(LBrookWeirs;II[J)I" } : Jvm.MethodName)) ∈ lw_all := lw_g (lw_at lw_m5 164 rfl) rfl
theorem q1194 : (Jvm.Cond.static ({ cls := "BrookWeirsLaw", name := "clutch", desc := "(LBrookWeirs;II[J)I" } : Jvm.MethodName)) ∈ lw_all := lw_g (lw_at lw_m5 165 rfl) rfl
theorem q1195 : (Jvm.Cond.codeWith ({ cls := "BrookWeirsLaw", name := "clutch", desc := "(LBrookWeirs;II[J)I" } : Jvm.MethodName) method_11_code (5 : Nat) (Option.some Jvm.ClassFile.FieldType.int) [((0 : Nat), (10 : Nat), (13 : Nat), (47 : Nat)), ((0 : Nat), (10 : Nat), (17 : Nat), (13 : Nat))]) ∈ lw_all := lw_g (lw_at lw_m5 166 rfl) rfl
theorem q1196 : (Jvm.Cond.classLink "BrookWeirsLaw" (47 : Nat) "java/util/NoSuchElementException") ∈ lw_all := lw_g (lw_at lw_m5 167 rfl) rfl
theorem q1197 : (Jvm.Cond.methodLink "BrookWeirsLaw" (44 : Nat) ({ cls := "BrookWeirs", name := "clutch", desc := "(II)I" } : Jvm.MethodName)) ∈ lw_all := lw_g (lw_at lw_m5 168 rfl) rfl
theorem q1202 : (Jvm.Cond.methodLink "BrookWeirsLaw" (156 : Nat) ({ cls := "BrookWeirsLaw", name := "tell", desc := "(LBrookWeirs;I[J)I" } : Jvm.MethodName)) ∈ lw_all := lw_g (lw_at lw_m5 173 rfl) rfl
theorem q1203 : (Jvm.Cond.static ({ cls := "BrookWeirsLaw", name := "tell", desc := "(LBrookWeirs;I[J)I" } : Jvm.MethodName)) ∈ lw_all := lw_g (lw_at lw_m5 174 rfl) rfl
theorem q1204 : (Jvm.Cond.codeWith ({ cls := "BrookWeirsLaw", name := "tell", desc := "(LBrookWeirs;I[J)I" } : Jvm.MethodName) method_12_code (4 : Nat) (Option.some Jvm.ClassFile.FieldType.int) [((0 : Nat), (9 : Nat), (12 : Nat), (13 : Nat)), ((0 : Nat), (9 : Nat), (15 : Nat), (15 : Nat))]) ∈ lw_all := lw_g (lw_at lw_m5 175 rfl) rfl
theorem q1205 : (Jvm.Cond.methodLink "BrookWeirsLaw" (49 : Nat) ({ cls := "BrookWeirs", name := "tell", desc := "(I)I" } : Jvm.MethodName)) ∈ lw_all := lw_g (lw_at lw_m5 176 rfl) rfl
theorem q1218 : (Jvm.Cond.methodLink "BrookWeirsLaw" (160 : Nat) ({ cls := "BrookWeirsLaw", name := "rain", desc := "(LBrookWeirs;I[J)I" } : Jvm.MethodName)) ∈ lw_all := lw_g (lw_at lw_m5 189 rfl) rfl
theorem q1219 : (Jvm.Cond.static ({ cls := "BrookWeirsLaw", name := "rain", desc := "(LBrookWeirs;I[J)I" } : Jvm.MethodName)) ∈ lw_all := lw_g (lw_at lw_m5 190 rfl) rfl
theorem q1220 : (Jvm.Cond.codeWith ({ cls := "BrookWeirsLaw", name := "rain", desc := "(LBrookWeirs;I[J)I" } : Jvm.MethodName) method_13_code (4 : Nat) (Option.some Jvm.ClassFile.FieldType.int) [((0 : Nat), (9 : Nat), (12 : Nat), (47 : Nat))]) ∈ lw_all := lw_g (lw_at lw_m5 191 rfl) rfl
theorem q1221 : (Jvm.Cond.methodLink "BrookWeirsLaw" (53 : Nat) ({ cls := "BrookWeirs", name := "rain", desc := "(I)I" } : Jvm.MethodName)) ∈ lw_all := lw_g (lw_at lw_m5 192 rfl) rfl
theorem q1225 : (Jvm.Cond.methodLink "BrookWeirsLaw" (167 : Nat) ({ cls := "BrookWeirsLaw", name := "season", desc := "(LBrookWeirs;[J)I" } : Jvm.MethodName)) ∈ lw_all := lw_g (lw_at lw_m5 196 rfl) rfl
theorem q1226 : (Jvm.Cond.static ({ cls := "BrookWeirsLaw", name := "season", desc := "(LBrookWeirs;[J)I" } : Jvm.MethodName)) ∈ lw_all := lw_g (lw_at lw_m5 197 rfl) rfl
theorem q1227 : (Jvm.Cond.codeWith ({ cls := "BrookWeirsLaw", name := "season", desc := "(LBrookWeirs;[J)I" } : Jvm.MethodName) method_14_code (3 : Nat) (Option.some Jvm.ClassFile.FieldType.int) [((0 : Nat), (8 : Nat), (11 : Nat), (15 : Nat))]) ∈ lw_all := lw_g (lw_at lw_m5 198 rfl) rfl
theorem q1228 : (Jvm.Cond.methodLink "BrookWeirsLaw" (56 : Nat) ({ cls := "BrookWeirs", name := "season", desc := "()I" } : Jvm.MethodName)) ∈ lw_all := lw_g (lw_at lw_m5 199 rfl) rfl
theorem q1239 : (Jvm.Cond.methodLink "BrookWeirsLaw" (171 : Nat) ({ cls := "BrookWeirsLaw", name := "foretold", desc := "(LBrookWeirs;III[J)I" } : Jvm.MethodName)) ∈ lw_all := lw_g (lw_at lw_m5 210 rfl) rfl
theorem q1240 : (Jvm.Cond.static ({ cls := "BrookWeirsLaw", name := "foretold", desc := "(LBrookWeirs;III[J)I" } : Jvm.MethodName)) ∈ lw_all := lw_g (lw_at lw_m5 211 rfl) rfl
theorem q1241 : (Jvm.Cond.codeWith ({ cls := "BrookWeirsLaw", name := "foretold", desc := "(LBrookWeirs;III[J)I" } : Jvm.MethodName) method_15_code (6 : Nat) (Option.some Jvm.ClassFile.FieldType.int) [((0 : Nat), (12 : Nat), (15 : Nat), (13 : Nat)), ((0 : Nat), (12 : Nat), (19 : Nat), (21 : Nat))]) ∈ lw_all := lw_g (lw_at lw_m5 212 rfl) rfl
theorem q1242 : (Jvm.Cond.methodLink "BrookWeirsLaw" (60 : Nat) ({ cls := "BrookWeirs", name := "foretold", desc := "(III)I" } : Jvm.MethodName)) ∈ lw_all := lw_g (lw_at lw_m5 213 rfl) rfl
theorem q1247 : (Jvm.Cond.methodLink "BrookWeirsLaw" (174 : Nat) ({ cls := "BrookWeirsLaw", name := "firstFlood", desc := "(LBrookWeirs;I[J)I" } : Jvm.MethodName)) ∈ lw_all := lw_g (lw_at lw_m5 218 rfl) rfl
theorem q1248 : (Jvm.Cond.static ({ cls := "BrookWeirsLaw", name := "firstFlood", desc := "(LBrookWeirs;I[J)I" } : Jvm.MethodName)) ∈ lw_all := lw_g (lw_at lw_m5 219 rfl) rfl
theorem q1249 : (Jvm.Cond.codeWith ({ cls := "BrookWeirsLaw", name := "firstFlood", desc := "(LBrookWeirs;I[J)I" } : Jvm.MethodName) method_16_code (4 : Nat) (Option.some Jvm.ClassFile.FieldType.int) [((0 : Nat), (9 : Nat), (12 : Nat), (21 : Nat)), ((0 : Nat), (9 : Nat), (15 : Nat), (47 : Nat))]) ∈ lw_all := lw_g (lw_at lw_m5 220 rfl) rfl
theorem q1250 : (Jvm.Cond.methodLink "BrookWeirsLaw" (63 : Nat) ({ cls := "BrookWeirs", name := "firstFlood", desc := "(I)I" } : Jvm.MethodName)) ∈ lw_all := lw_g (lw_at lw_m5 221 rfl) rfl
theorem q1254 : (Jvm.Cond.methodLink "BrookWeirsLaw" (177 : Nat) ({ cls := "BrookWeirsLaw", name := "best", desc := "(LBrookWeirs;ZIZ[J)I" } : Jvm.MethodName)) ∈ lw_all := lw_g (lw_at lw_m5 225 rfl) rfl
theorem q1255 : (Jvm.Cond.static ({ cls := "BrookWeirsLaw", name := "best", desc := "(LBrookWeirs;ZIZ[J)I" } : Jvm.MethodName)) ∈ lw_all := lw_g (lw_at lw_m5 226 rfl) rfl
theorem q1256 : (Jvm.Cond.codeWith ({ cls := "BrookWeirsLaw", name := "best", desc := "(LBrookWeirs;ZIZ[J)I" } : Jvm.MethodName) method_17_code (6 : Nat) (Option.some Jvm.ClassFile.FieldType.int) [((0 : Nat), (12 : Nat), (15 : Nat), (13 : Nat))]) ∈ lw_all := lw_g (lw_at lw_m5 227 rfl) rfl
theorem q1257 : (Jvm.Cond.methodLink "BrookWeirsLaw" (66 : Nat) ({ cls := "BrookWeirs", name := "best", desc := "(ZIZ)I" } : Jvm.MethodName)) ∈ lw_all := lw_g (lw_at lw_m5 228 rfl) rfl
theorem q1266 : (Jvm.Cond.methodLink "BrookWeirsLaw" (181 : Nat) ({ cls := "BrookWeirsLaw", name := "worth", desc := "(LBrookWeirs;ZII[J)I" } : Jvm.MethodName)) ∈ lw_all := lw_g (lw_at lw_m5 237 rfl) rfl
theorem q1267 : (Jvm.Cond.static ({ cls := "BrookWeirsLaw", name := "worth", desc := "(LBrookWeirs;ZII[J)I" } : Jvm.MethodName)) ∈ lw_all := lw_g (lw_at lw_m5 238 rfl) rfl
theorem q1268 : (Jvm.Cond.codeWith ({ cls := "BrookWeirsLaw", name := "worth", desc := "(LBrookWeirs;ZII[J)I" } : Jvm.MethodName) method_18_code (6 : Nat) (Option.some Jvm.ClassFile.FieldType.int) [((0 : Nat), (12 : Nat), (15 : Nat), (13 : Nat)), ((0 : Nat), (12 : Nat), (19 : Nat), (21 : Nat))]) ∈ lw_all := lw_g (lw_at lw_m5 239 rfl) rfl
theorem q1269 : (Jvm.Cond.methodLink "BrookWeirsLaw" (70 : Nat) ({ cls := "BrookWeirs", name := "worth", desc := "(ZII)I" } : Jvm.MethodName)) ∈ lw_all := lw_g (lw_at lw_m6 0 rfl) rfl
theorem q1275 : (Jvm.Cond.methodLink "BrookWeirsLaw" (185 : Nat) ({ cls := "BrookWeirsLaw", name := "choose", desc := "(LBrookWeirs;ZI[J)I" } : Jvm.MethodName)) ∈ lw_all := lw_g (lw_at lw_m6 6 rfl) rfl
theorem q1276 : (Jvm.Cond.static ({ cls := "BrookWeirsLaw", name := "choose", desc := "(LBrookWeirs;ZI[J)I" } : Jvm.MethodName)) ∈ lw_all := lw_g (lw_at lw_m6 7 rfl) rfl
theorem q1277 : (Jvm.Cond.codeWith ({ cls := "BrookWeirsLaw", name := "choose", desc := "(LBrookWeirs;ZI[J)I" } : Jvm.MethodName) method_19_code (5 : Nat) (Option.some Jvm.ClassFile.FieldType.int) [((0 : Nat), (10 : Nat), (13 : Nat), (13 : Nat))]) ∈ lw_all := lw_g (lw_at lw_m6 8 rfl) rfl
theorem q1278 : (Jvm.Cond.methodLink "BrookWeirsLaw" (74 : Nat) ({ cls := "BrookWeirs", name := "choose", desc := "(ZI)I" } : Jvm.MethodName)) ∈ lw_all := lw_g (lw_at lw_m6 9 rfl) rfl
theorem q1285 : (Jvm.Cond.methodLink "BrookWeirsLaw" (189 : Nat) ({ cls := "BrookWeirsLaw", name := "rest", desc := "(LBrookWeirs;I[J)I" } : Jvm.MethodName)) ∈ lw_all := lw_g (lw_at lw_m6 16 rfl) rfl
theorem q1286 : (Jvm.Cond.static ({ cls := "BrookWeirsLaw", name := "rest", desc := "(LBrookWeirs;I[J)I" } : Jvm.MethodName)) ∈ lw_all := lw_g (lw_at lw_m6 17 rfl) rfl
theorem q1287 : (Jvm.Cond.codeWith ({ cls := "BrookWeirsLaw", name := "rest", desc := "(LBrookWeirs;I[J)I" } : Jvm.MethodName) method_20_code (4 : Nat) (Option.some Jvm.ClassFile.FieldType.int) [((0 : Nat), (9 : Nat), (12 : Nat), (13 : Nat)), ((0 : Nat), (9 : Nat), (15 : Nat), (47 : Nat))]) ∈ lw_all := lw_g (lw_at lw_m6 18 rfl) rfl
theorem q1288 : (Jvm.Cond.methodLink "BrookWeirsLaw" (78 : Nat) ({ cls := "BrookWeirs", name := "rest", desc := "(I)I" } : Jvm.MethodName)) ∈ lw_all := lw_g (lw_at lw_m6 19 rfl) rfl
theorem q1339 : (Jvm.Cond.methodLink "BrookWeirsLaw" (200 : Nat) ({ cls := "BrookWeirsLaw", name := "number", desc := "(LBrookWeirs;I[J)I" } : Jvm.MethodName)) ∈ lw_all := lw_g (lw_at lw_m6 70 rfl) rfl
theorem q1340 : (Jvm.Cond.static ({ cls := "BrookWeirsLaw", name := "number", desc := "(LBrookWeirs;I[J)I" } : Jvm.MethodName)) ∈ lw_all := lw_g (lw_at lw_m6 71 rfl) rfl
theorem q1341 : (Jvm.Cond.codeWith ({ cls := "BrookWeirsLaw", name := "number", desc := "(LBrookWeirs;I[J)I" } : Jvm.MethodName) method_21_code (4 : Nat) (Option.some Jvm.ClassFile.FieldType.int) [((0 : Nat), (9 : Nat), (12 : Nat), (13 : Nat))]) ∈ lw_all := lw_g (lw_at lw_m6 72 rfl) rfl
theorem q1342 : (Jvm.Cond.methodLink "BrookWeirsLaw" (81 : Nat) ({ cls := "BrookWeirs", name := "number", desc := "(I)I" } : Jvm.MethodName)) ∈ lw_all := lw_g (lw_at lw_m6 73 rfl) rfl
theorem q1354 : (Jvm.Cond.methodLink "BrookWeirsLaw" (203 : Nat) ({ cls := "BrookWeirsLaw", name := "meanLevel", desc := "(LBrookWeirs;[D)I" } : Jvm.MethodName)) ∈ lw_all := lw_g (lw_at lw_m6 85 rfl) rfl
theorem q1355 : (Jvm.Cond.static ({ cls := "BrookWeirsLaw", name := "meanLevel", desc := "(LBrookWeirs;[D)I" } : Jvm.MethodName)) ∈ lw_all := lw_g (lw_at lw_m6 86 rfl) rfl
theorem q1356 : (Jvm.Cond.codeWith ({ cls := "BrookWeirsLaw", name := "meanLevel", desc := "(LBrookWeirs;[D)I" } : Jvm.MethodName) method_22_code (3 : Nat) (Option.some Jvm.ClassFile.FieldType.int) [((0 : Nat), (7 : Nat), (10 : Nat), (88 : Nat))]) ∈ lw_all := lw_g (lw_at lw_m6 87 rfl) rfl
theorem q1357 : (Jvm.Cond.classLink "BrookWeirsLaw" (88 : Nat) "java/lang/ArithmeticException") ∈ lw_all := lw_g (lw_at lw_m6 88 rfl) rfl
theorem q1371 : (Jvm.Cond.methodLink "BrookWeirsLaw" (84 : Nat) ({ cls := "BrookWeirs", name := "meanLevel", desc := "()D" } : Jvm.MethodName)) ∈ lw_all := lw_g (lw_at lw_m6 102 rfl) rfl
theorem q1380 : (Jvm.Cond.methodLink "BrookWeirsLaw" (207 : Nat) ({ cls := "BrookWeirsLaw", name := "silence", desc := "(LBrookWeirs;[D)I" } : Jvm.MethodName)) ∈ lw_all := lw_g (lw_at lw_m6 111 rfl) rfl
theorem q1381 : (Jvm.Cond.static ({ cls := "BrookWeirsLaw", name := "silence", desc := "(LBrookWeirs;[D)I" } : Jvm.MethodName)) ∈ lw_all := lw_g (lw_at lw_m6 112 rfl) rfl
theorem q1382 : (Jvm.Cond.codeWith ({ cls := "BrookWeirsLaw", name := "silence", desc := "(LBrookWeirs;[D)I" } : Jvm.MethodName) method_23_code (3 : Nat) (Option.some Jvm.ClassFile.FieldType.int) [((0 : Nat), (8 : Nat), (11 : Nat), (88 : Nat))]) ∈ lw_all := lw_g (lw_at lw_m6 113 rfl) rfl
theorem q1383 : (Jvm.Cond.methodLink "BrookWeirsLaw" (90 : Nat) ({ cls := "BrookWeirs", name := "silence", desc := "()F" } : Jvm.MethodName)) ∈ lw_all := lw_g (lw_at lw_m6 114 rfl) rfl
theorem q1387 : (Jvm.Cond.methodLink "BrookWeirsLaw" (210 : Nat) ({ cls := "BrookWeirsLaw", name := "feed", desc := "(LBrookWeirs;C[J)I" } : Jvm.MethodName)) ∈ lw_all := lw_g (lw_at lw_m6 118 rfl) rfl
theorem q1388 : (Jvm.Cond.static ({ cls := "BrookWeirsLaw", name := "feed", desc := "(LBrookWeirs;C[J)I" } : Jvm.MethodName)) ∈ lw_all := lw_g (lw_at lw_m6 119 rfl) rfl
theorem q1389 : (Jvm.Cond.codeWith ({ cls := "BrookWeirsLaw", name := "feed", desc := "(LBrookWeirs;C[J)I" } : Jvm.MethodName) method_24_code (4 : Nat) (Option.some Jvm.ClassFile.FieldType.int) [((0 : Nat), (9 : Nat), (12 : Nat), (98 : Nat))]) ∈ lw_all := lw_g (lw_at lw_m6 120 rfl) rfl
theorem q1390 : (Jvm.Cond.classLink "BrookWeirsLaw" (98 : Nat) "java/lang/IllegalStateException") ∈ lw_all := lw_g (lw_at lw_m6 121 rfl) rfl
theorem q1391 : (Jvm.Cond.methodLink "BrookWeirsLaw" (94 : Nat) ({ cls := "BrookWeirs", name := "feed", desc := "(C)I" } : Jvm.MethodName)) ∈ lw_all := lw_g (lw_at lw_m6 122 rfl) rfl
theorem q1490 : (Jvm.Cond.methodLink "BrookWeirsLaw" (214 : Nat) ({ cls := "BrookWeirsLaw", name := "read", desc := "(LBrookWeirs;[J)I" } : Jvm.MethodName)) ∈ lw_all := lw_g (lw_at lw_m6 221 rfl) rfl
theorem q1491 : (Jvm.Cond.static ({ cls := "BrookWeirsLaw", name := "read", desc := "(LBrookWeirs;[J)I" } : Jvm.MethodName)) ∈ lw_all := lw_g (lw_at lw_m6 222 rfl) rfl
theorem q1492 : (Jvm.Cond.codeWith ({ cls := "BrookWeirsLaw", name := "read", desc := "(LBrookWeirs;[J)I" } : Jvm.MethodName) method_25_code (3 : Nat) (Option.some Jvm.ClassFile.FieldType.int) [((0 : Nat), (8 : Nat), (11 : Nat), (13 : Nat)), ((0 : Nat), (8 : Nat), (14 : Nat), (15 : Nat))]) ∈ lw_all := lw_g (lw_at lw_m6 223 rfl) rfl
theorem q1493 : (Jvm.Cond.methodLink "BrookWeirsLaw" (100 : Nat) ({ cls := "BrookWeirs", name := "read", desc := "()I" } : Jvm.MethodName)) ∈ lw_all := lw_g (lw_at lw_m6 224 rfl) rfl
theorem q1846 : (Jvm.Cond.methodLink "BrookWeirsLaw" (217 : Nat) ({ cls := "BrookWeirsLaw", name := "faultPosition", desc := "(LBrookWeirs;[J)I" } : Jvm.MethodName)) ∈ lw_all := lw_g (lw_at lw_m8 97 rfl) rfl
theorem q1847 : (Jvm.Cond.static ({ cls := "BrookWeirsLaw", name := "faultPosition", desc := "(LBrookWeirs;[J)I" } : Jvm.MethodName)) ∈ lw_all := lw_g (lw_at lw_m8 98 rfl) rfl
theorem q1848 : (Jvm.Cond.codeWith ({ cls := "BrookWeirsLaw", name := "faultPosition", desc := "(LBrookWeirs;[J)I" } : Jvm.MethodName) method_26_code (3 : Nat) (Option.some Jvm.ClassFile.FieldType.int) [((0 : Nat), (8 : Nat), (11 : Nat), (47 : Nat))]) ∈ lw_all := lw_g (lw_at lw_m8 99 rfl) rfl
theorem q1849 : (Jvm.Cond.methodLink "BrookWeirsLaw" (103 : Nat) ({ cls := "BrookWeirs", name := "faultPosition", desc := "()I" } : Jvm.MethodName)) ∈ lw_all := lw_g (lw_at lw_m8 100 rfl) rfl
theorem q1853 : (Jvm.Cond.methodLink "BrookWeirsLaw" (220 : Nat) ({ cls := "BrookWeirsLaw", name := "refusal", desc := "(LBrookWeirs;Z[J)I" } : Jvm.MethodName)) ∈ lw_all := lw_g (lw_at lw_m8 104 rfl) rfl
theorem q1854 : (Jvm.Cond.static ({ cls := "BrookWeirsLaw", name := "refusal", desc := "(LBrookWeirs;Z[J)I" } : Jvm.MethodName)) ∈ lw_all := lw_g (lw_at lw_m8 105 rfl) rfl
theorem q1855 : (Jvm.Cond.codeWith ({ cls := "BrookWeirsLaw", name := "refusal", desc := "(LBrookWeirs;Z[J)I" } : Jvm.MethodName) method_27_code (4 : Nat) (Option.some Jvm.ClassFile.FieldType.int) [((0 : Nat), (9 : Nat), (12 : Nat), (47 : Nat))]) ∈ lw_all := lw_g (lw_at lw_m8 106 rfl) rfl
theorem q1856 : (Jvm.Cond.methodLink "BrookWeirsLaw" (106 : Nat) ({ cls := "BrookWeirs", name := "refusal", desc := "(Z)I" } : Jvm.MethodName)) ∈ lw_all := lw_g (lw_at lw_m8 107 rfl) rfl
theorem q1860 : (Jvm.Cond.methodLink "BrookWeirsLaw" (224 : Nat) ({ cls := "BrookWeirsLaw", name := "undo", desc := "(LBrookWeirs;[J)I" } : Jvm.MethodName)) ∈ lw_all := lw_g (lw_at lw_m8 111 rfl) rfl
theorem q1861 : (Jvm.Cond.static ({ cls := "BrookWeirsLaw", name := "undo", desc := "(LBrookWeirs;[J)I" } : Jvm.MethodName)) ∈ lw_all := lw_g (lw_at lw_m8 112 rfl) rfl
theorem q1862 : (Jvm.Cond.codeWith ({ cls := "BrookWeirsLaw", name := "undo", desc := "(LBrookWeirs;[J)I" } : Jvm.MethodName) method_28_code (3 : Nat) (Option.some Jvm.ClassFile.FieldType.int) [((0 : Nat), (8 : Nat), (11 : Nat), (98 : Nat))]) ∈ lw_all := lw_g (lw_at lw_m8 113 rfl) rfl
theorem q1863 : (Jvm.Cond.methodLink "BrookWeirsLaw" (110 : Nat) ({ cls := "BrookWeirs", name := "undo", desc := "()I" } : Jvm.MethodName)) ∈ lw_all := lw_g (lw_at lw_m8 114 rfl) rfl
theorem q1884 : (Jvm.Cond.methodLink "BrookWeirsLaw" (231 : Nat) ({ cls := "BrookWeirsLaw", name := "restoreSnapshot", desc := "(LBrookWeirs;[J)I" } : Jvm.MethodName)) ∈ lw_all := lw_g (lw_at lw_m8 135 rfl) rfl
theorem q1885 : (Jvm.Cond.static ({ cls := "BrookWeirsLaw", name := "restoreSnapshot", desc := "(LBrookWeirs;[J)I" } : Jvm.MethodName)) ∈ lw_all := lw_g (lw_at lw_m8 136 rfl) rfl
theorem q1886 : (Jvm.Cond.codeWith ({ cls := "BrookWeirsLaw", name := "restoreSnapshot", desc := "(LBrookWeirs;[J)I" } : Jvm.MethodName) method_29_code (3 : Nat) (Option.some Jvm.ClassFile.FieldType.int) [((0 : Nat), (8 : Nat), (11 : Nat), (98 : Nat))]) ∈ lw_all := lw_g (lw_at lw_m8 137 rfl) rfl
theorem q1887 : (Jvm.Cond.methodLink "BrookWeirsLaw" (113 : Nat) ({ cls := "BrookWeirs", name := "restoreSnapshot", desc := "()I" } : Jvm.MethodName)) ∈ lw_all := lw_g (lw_at lw_m8 138 rfl) rfl
theorem q1898 : (Jvm.Cond.classLink "BrookWeirsLaw" (117 : Nat) "BrookWeirsModel") ∈ lw_all := lw_g (lw_at lw_m8 149 rfl) rfl
theorem q1900 : (Jvm.Cond.methodLink "BrookWeirsLaw" (119 : Nat) ({ cls := "BrookWeirsModel", name := "<init>", desc := "()V" } : Jvm.MethodName)) ∈ lw_all := lw_g (lw_at lw_m8 151 rfl) rfl
theorem q1960 : (Jvm.Cond.methodLink "BrookWeirsLaw" (126 : Nat) ({ cls := "BrookWeirsModel", name := "thrown", desc := "()I" } : Jvm.MethodName)) ∈ lw_all := lw_g (lw_at lw_m8 211 rfl) rfl
theorem q1964 : (Jvm.Cond.methodLink "BrookWeirsLaw" (125 : Nat) ({ cls := "BrookWeirsModel", name := "pool", desc := "(III)I" } : Jvm.MethodName)) ∈ lw_all := lw_g (lw_at lw_m8 215 rfl) rfl
theorem q1987 : (Jvm.Cond.methodLink "BrookWeirsLaw" (132 : Nat) ({ cls := "BrookWeirsModel", name := "boards", desc := "(II)I" } : Jvm.MethodName)) ∈ lw_all := lw_g (lw_at lw_m8 238 rfl) rfl
theorem q2007 : (Jvm.Cond.methodLink "BrookWeirsLaw" (136 : Nat) ({ cls := "BrookWeirsModel", name := "weir", desc := "(IZ)Z" } : Jvm.MethodName)) ∈ lw_all := lw_g (lw_at lw_m9 18 rfl) rfl
theorem q2015 : (Jvm.Cond.methodLink "BrookWeirsLaw" (140 : Nat) ({ cls := "BrookWeirsModel", name := "latch", desc := "(IZZ)Z" } : Jvm.MethodName)) ∈ lw_all := lw_g (lw_at lw_m9 26 rfl) rfl
theorem q2019 : (Jvm.Cond.methodLink "BrookWeirsLaw" (143 : Nat) ({ cls := "BrookWeirsModel", name := "frogs", desc := "(II)I" } : Jvm.MethodName)) ∈ lw_all := lw_g (lw_at lw_m9 30 rfl) rfl
theorem q2023 : (Jvm.Cond.methodLink "BrookWeirsLaw" (146 : Nat) ({ cls := "BrookWeirsModel", name := "lay", desc := "(II)I" } : Jvm.MethodName)) ∈ lw_all := lw_g (lw_at lw_m9 34 rfl) rfl
theorem q2038 : (Jvm.Cond.methodLink "BrookWeirsLaw" (149 : Nat) ({ cls := "BrookWeirsModel", name := "of", desc := "(II)I" } : Jvm.MethodName)) ∈ lw_all := lw_g (lw_at lw_m9 49 rfl) rfl
theorem q2055 : (Jvm.Cond.methodLink "BrookWeirsLaw" (152 : Nat) ({ cls := "BrookWeirsModel", name := "is", desc := "(II)Z" } : Jvm.MethodName)) ∈ lw_all := lw_g (lw_at lw_m9 66 rfl) rfl
theorem q2059 : (Jvm.Cond.methodLink "BrookWeirsLaw" (155 : Nat) ({ cls := "BrookWeirsModel", name := "clutch", desc := "(II)I" } : Jvm.MethodName)) ∈ lw_all := lw_g (lw_at lw_m9 70 rfl) rfl
theorem q2063 : (Jvm.Cond.methodLink "BrookWeirsLaw" (159 : Nat) ({ cls := "BrookWeirsModel", name := "tell", desc := "(I)I" } : Jvm.MethodName)) ∈ lw_all := lw_g (lw_at lw_m9 74 rfl) rfl
theorem q2071 : (Jvm.Cond.methodLink "BrookWeirsLaw" (162 : Nat) ({ cls := "BrookWeirsModel", name := "rain", desc := "(I)I" } : Jvm.MethodName)) ∈ lw_all := lw_g (lw_at lw_m9 82 rfl) rfl
theorem q2075 : (Jvm.Cond.methodLink "BrookWeirsLaw" (166 : Nat) ({ cls := "BrookWeirsModel", name := "day", desc := "()I" } : Jvm.MethodName)) ∈ lw_all := lw_g (lw_at lw_m9 86 rfl) rfl
theorem q2115 : (Jvm.Cond.methodLink "BrookWeirsLaw" (170 : Nat) ({ cls := "BrookWeirsModel", name := "season", desc := "()I" } : Jvm.MethodName)) ∈ lw_all := lw_g (lw_at lw_m9 126 rfl) rfl
theorem q2119 : (Jvm.Cond.methodLink "BrookWeirsLaw" (173 : Nat) ({ cls := "BrookWeirsModel", name := "foretold", desc := "(III)I" } : Jvm.MethodName)) ∈ lw_all := lw_g (lw_at lw_m9 130 rfl) rfl
theorem q2131 : (Jvm.Cond.methodLink "BrookWeirsLaw" (176 : Nat) ({ cls := "BrookWeirsModel", name := "firstFlood", desc := "(I)I" } : Jvm.MethodName)) ∈ lw_all := lw_g (lw_at lw_m9 142 rfl) rfl
theorem q2135 : (Jvm.Cond.methodLink "BrookWeirsLaw" (180 : Nat) ({ cls := "BrookWeirsModel", name := "best", desc := "(ZIZ)I" } : Jvm.MethodName)) ∈ lw_all := lw_g (lw_at lw_m9 146 rfl) rfl
theorem q2156 : (Jvm.Cond.methodLink "BrookWeirsLaw" (184 : Nat) ({ cls := "BrookWeirsModel", name := "worth", desc := "(ZII)I" } : Jvm.MethodName)) ∈ lw_all := lw_g (lw_at lw_m9 167 rfl) rfl
theorem q2160 : (Jvm.Cond.methodLink "BrookWeirsLaw" (188 : Nat) ({ cls := "BrookWeirsModel", name := "choose", desc := "(ZI)I" } : Jvm.MethodName)) ∈ lw_all := lw_g (lw_at lw_m9 171 rfl) rfl
theorem q2172 : (Jvm.Cond.methodLink "BrookWeirsLaw" (191 : Nat) ({ cls := "BrookWeirsModel", name := "rest", desc := "(I)I" } : Jvm.MethodName)) ∈ lw_all := lw_g (lw_at lw_m9 183 rfl) rfl
theorem q2176 : (Jvm.Cond.methodLink "BrookWeirsLaw" (195 : Nat) ({ cls := "BrookWeirsModel", name := "water", desc := "()I" } : Jvm.MethodName)) ∈ lw_all := lw_g (lw_at lw_m9 187 rfl) rfl
theorem q2184 : (Jvm.Cond.methodLink "BrookWeirsLaw" (199 : Nat) ({ cls := "BrookWeirsModel", name := "waterAgain", desc := "()I" } : Jvm.MethodName)) ∈ lw_all := lw_g (lw_at lw_m9 195 rfl) rfl
theorem q2188 : (Jvm.Cond.methodLink "BrookWeirsLaw" (202 : Nat) ({ cls := "BrookWeirsModel", name := "number", desc := "(I)I" } : Jvm.MethodName)) ∈ lw_all := lw_g (lw_at lw_m9 199 rfl) rfl
theorem q2192 : (Jvm.Cond.methodLink "BrookWeirsLaw" (206 : Nat) ({ cls := "BrookWeirsModel", name := "meanLevel", desc := "()D" } : Jvm.MethodName)) ∈ lw_all := lw_g (lw_at lw_m9 203 rfl) rfl
theorem q2196 : (Jvm.Cond.methodLink "BrookWeirsLaw" (209 : Nat) ({ cls := "BrookWeirsModel", name := "silence", desc := "()F" } : Jvm.MethodName)) ∈ lw_all := lw_g (lw_at lw_m9 207 rfl) rfl
theorem q2200 : (Jvm.Cond.methodLink "BrookWeirsLaw" (213 : Nat) ({ cls := "BrookWeirsModel", name := "feed", desc := "(C)I" } : Jvm.MethodName)) ∈ lw_all := lw_g (lw_at lw_m9 211 rfl) rfl
theorem q2204 : (Jvm.Cond.methodLink "BrookWeirsLaw" (216 : Nat) ({ cls := "BrookWeirsModel", name := "read", desc := "()I" } : Jvm.MethodName)) ∈ lw_all := lw_g (lw_at lw_m9 215 rfl) rfl
theorem q2288 : (Jvm.Cond.methodLink "BrookWeirsLaw" (219 : Nat) ({ cls := "BrookWeirsModel", name := "faultPosition", desc := "()I" } : Jvm.MethodName)) ∈ lw_all := lw_g (lw_at lw_m10 59 rfl) rfl
theorem q2292 : (Jvm.Cond.methodLink "BrookWeirsLaw" (223 : Nat) ({ cls := "BrookWeirsModel", name := "refusal", desc := "(Z)I" } : Jvm.MethodName)) ∈ lw_all := lw_g (lw_at lw_m10 63 rfl) rfl
theorem q2296 : (Jvm.Cond.methodLink "BrookWeirsLaw" (226 : Nat) ({ cls := "BrookWeirsModel", name := "undo", desc := "()I" } : Jvm.MethodName)) ∈ lw_all := lw_g (lw_at lw_m10 67 rfl) rfl
theorem q2300 : (Jvm.Cond.methodLink "BrookWeirsLaw" (230 : Nat) ({ cls := "BrookWeirsModel", name := "saveSnapshot", desc := "()I" } : Jvm.MethodName)) ∈ lw_all := lw_g (lw_at lw_m10 71 rfl) rfl
theorem q2304 : (Jvm.Cond.methodLink "BrookWeirsLaw" (233 : Nat) ({ cls := "BrookWeirsModel", name := "restoreSnapshot", desc := "()I" } : Jvm.MethodName)) ∈ lw_all := lw_g (lw_at lw_m10 75 rfl) rfl

/-! BrookWeirs -/
def RX1 : String := "BrookWeirs"
def TX1 : u_T := fun k => match k with
  | 0 => ("BrookWeirs", "brook", "LBrookWeirs$Brook;", false)
  | 1 => ("BrookWeirs", "tried", "LBrookWeirs$Brook;", true)
  | 2 => ("BrookWeirs", "past", "Ljava/util/ArrayDeque;", true)
  | 3 => ("BrookWeirs", "input", "Ljava/lang/StringBuilder;", true)
  | 4 => ("BrookWeirs", "fault", "I", false)
  | 5 => ("BrookWeirs", "reason", "I", false)
  | 6 => ("BrookWeirs", "refused", "I", false)
  | 7 => ("BrookWeirs", "frogs", "LBrookWeirs$Side;", true)
  | 8 => ("BrookWeirs", "farmers", "LBrookWeirs$Side;", true)
  | _ => ("BrookWeirs", "saved", "LBrookWeirs$Brook;", false)
def tyX1 : Nat → FieldType := fun k => match k with
  | 0 => .object "BrookWeirs$Brook"
  | 1 => .object "BrookWeirs$Brook"
  | 2 => .object "java/util/ArrayDeque"
  | 3 => .object "java/lang/StringBuilder"
  | 4 => .int
  | 5 => .int
  | 6 => .int
  | 7 => .object "BrookWeirs$Side"
  | 8 => .object "BrookWeirs$Side"
  | _ => .object "BrookWeirs$Brook"
abbrev wsX10 : List Cond := u_ws RX1 TX1 10
theorem nmX1 : ∀ a, a < 10 → ∀ b, b < 10 → a ≠ b → (TX1 a).2.1 ≠ (TX1 b).2.1 := by decide +kernel
theorem tyX1_ok : ∀ k, k < 10 → parseFieldDescriptor (TX1 k).2.2.1 = some (tyX1 k) := by decide +kernel
abbrev cX1_init : ByteArray := prog_1_method_9_code
def yX1_init : MethodName := ⟨RX1, "<init>", "()V"⟩
abbrev cX1_day : ByteArray := prog_1_method_29_code
def yX1_day : MethodName := ⟨RX1, "day", "()I"⟩
abbrev cX1_lambda_day_5 : ByteArray := prog_1_method_54_code
def yX1_lambda_day_5 : MethodName := ⟨RX1, "lambda$day$5", "(LBrookWeirs$Brook;)I"⟩
abbrev cX1_has : ByteArray := prog_1_method_6_code
def yX1_has : MethodName := ⟨RX1, "has", "(II)Z"⟩
abbrev cX1_inRange : ByteArray := prog_1_method_1_code
def yX1_inRange : MethodName := ⟨RX1, "inRange", "(III)Z"⟩
abbrev cX1_change : ByteArray := prog_1_method_13_code
def yX1_change : MethodName := ⟨RX1, "change", "(LBrookWeirs$Deed;)I"⟩
abbrev cX1_copy : ByteArray := prog_1_method_10_code
def yX1_copy : MethodName := ⟨RX1, "copy", "(LBrookWeirs$Brook;)LBrookWeirs$Brook;"⟩
abbrev cX1_replace : ByteArray := prog_1_method_11_code
def yX1_replace : MethodName := ⟨RX1, "replace", "(LBrookWeirs$Brook;)V"⟩
abbrev cX1_refuse : ByteArray := prog_1_method_12_code
def yX1_refuse : MethodName := ⟨RX1, "refuse", "(II)Ljava/lang/UnsupportedOperationException;"⟩
abbrev cX1_water : ByteArray := prog_1_method_38_code
def yX1_water : MethodName := ⟨RX1, "water", "()I"⟩
abbrev cX1_waterAgain : ByteArray := prog_1_method_39_code
def yX1_waterAgain : MethodName := ⟨RX1, "waterAgain", "()I"⟩
abbrev cX1_saveSnapshot : ByteArray := prog_1_method_50_code
def yX1_saveSnapshot : MethodName := ⟨RX1, "saveSnapshot", "()I"⟩
abbrev cX1_pool : ByteArray := prog_1_method_14_code
def yX1_pool : MethodName := ⟨RX1, "pool", "(III)I"⟩
abbrev cX1_require : ByteArray := prog_1_method_2_code
def yX1_require : MethodName := ⟨RX1, "require", "(Z)V"⟩
abbrev cX1_lambda_pool_0 : ByteArray := prog_1_method_59_code
def yX1_lambda_pool_0 : MethodName := ⟨RX1, "lambda$pool$0", "(IIILBrookWeirs$Brook;)I"⟩
abbrev cX1_allow : ByteArray := prog_1_method_8_code
def yX1_allow : MethodName := ⟨RX1, "allow", "(ZI)V"⟩
abbrev cX1_boards : ByteArray := prog_1_method_16_code
def yX1_boards : MethodName := ⟨RX1, "boards", "(II)I"⟩
abbrev cX1_lambda_boards_1 : ByteArray := prog_1_method_58_code
def yX1_lambda_boards_1 : MethodName := ⟨RX1, "lambda$boards$1", "(IILBrookWeirs$Brook;)I"⟩
abbrev cX1_requireIndex : ByteArray := prog_1_method_3_code
def yX1_requireIndex : MethodName := ⟨RX1, "requireIndex", "(Z)V"⟩
abbrev cX1_boardsOf : ByteArray := prog_1_method_15_code
def yX1_boardsOf : MethodName := ⟨RX1, "boardsOf", "(I)I"⟩
abbrev cX1_weir : ByteArray := prog_1_method_17_code
def yX1_weir : MethodName := ⟨RX1, "weir", "(IZ)Z"⟩
abbrev cX1_with : ByteArray := prog_1_method_7_code
def yX1_with : MethodName := ⟨RX1, "with", "(IIZ)I"⟩
abbrev cX1_latch : ByteArray := prog_1_method_18_code
def yX1_latch : MethodName := ⟨RX1, "latch", "(IZZ)Z"⟩
abbrev cX1_lambda_latch_2 : ByteArray := prog_1_method_57_code
def yX1_lambda_latch_2 : MethodName := ⟨RX1, "lambda$latch$2", "(IZZLBrookWeirs$Brook;)I"⟩
abbrev cX1_frogs : ByteArray := prog_1_method_19_code
def yX1_frogs : MethodName := ⟨RX1, "frogs", "(II)I"⟩
abbrev cX1_lay : ByteArray := prog_1_method_21_code
def yX1_lay : MethodName := ⟨RX1, "lay", "(II)I"⟩
abbrev cX1_lambda_lay_3 : ByteArray := prog_1_method_56_code
def yX1_lambda_lay_3 : MethodName := ⟨RX1, "lambda$lay$3", "(IILBrookWeirs$Brook;)I"⟩
abbrev cX1_eggsOf : ByteArray := prog_1_method_20_code
def yX1_eggsOf : MethodName := ⟨RX1, "eggsOf", "(I)I"⟩
abbrev cX1_of : ByteArray := prog_1_method_23_code
def yX1_of : MethodName := ⟨RX1, "of", "(II)I"⟩
abbrev cX1_of_2 : ByteArray := prog_1_method_22_code
def yX1_of_2 : MethodName := ⟨RX1, "of", "(LBrookWeirs$Brook;II)I"⟩
abbrev cX1_requireElement : ByteArray := prog_1_method_5_code
def yX1_requireElement : MethodName := ⟨RX1, "requireElement", "(Z)V"⟩
abbrev cX1_is : ByteArray := prog_1_method_24_code
def yX1_is : MethodName := ⟨RX1, "is", "(II)Z"⟩
abbrev cX1_clutch : ByteArray := prog_1_method_25_code
def yX1_clutch : MethodName := ⟨RX1, "clutch", "(II)I"⟩
abbrev cX1_tell : ByteArray := prog_1_method_27_code
def yX1_tell : MethodName := ⟨RX1, "tell", "(I)I"⟩
abbrev cX1_lambda_tell_4 : ByteArray := prog_1_method_55_code
def yX1_lambda_tell_4 : MethodName := ⟨RX1, "lambda$tell$4", "(ILBrookWeirs$Brook;)I"⟩
abbrev cX1_rainOf : ByteArray := prog_1_method_26_code
def yX1_rainOf : MethodName := ⟨RX1, "rainOf", "(I)I"⟩
abbrev cX1_rain : ByteArray := prog_1_method_28_code
def yX1_rain : MethodName := ⟨RX1, "rain", "(I)I"⟩
abbrev cX1_season : ByteArray := prog_1_method_30_code
def yX1_season : MethodName := ⟨RX1, "season", "()I"⟩
abbrev cX1_lambda_season_6 : ByteArray := prog_1_method_53_code
def yX1_lambda_season_6 : MethodName := ⟨RX1, "lambda$season$6", "(LBrookWeirs$Brook;)I"⟩
abbrev cX1_foretold : ByteArray := prog_1_method_31_code
def yX1_foretold : MethodName := ⟨RX1, "foretold", "(III)I"⟩
abbrev cX1_firstFlood : ByteArray := prog_1_method_32_code
def yX1_firstFlood : MethodName := ⟨RX1, "firstFlood", "(I)I"⟩
abbrev cX1_best : ByteArray := prog_1_method_34_code
def yX1_best : MethodName := ⟨RX1, "best", "(ZIZ)I"⟩
abbrev cX1_side : ByteArray := prog_1_method_33_code
def yX1_side : MethodName := ⟨RX1, "side", "(ZI)LBrookWeirs$Side;"⟩
abbrev cX1_worth : ByteArray := prog_1_method_35_code
def yX1_worth : MethodName := ⟨RX1, "worth", "(ZII)I"⟩
abbrev cX1_choose : ByteArray := prog_1_method_36_code
def yX1_choose : MethodName := ⟨RX1, "choose", "(ZI)I"⟩
abbrev cX1_lambda_choose_7 : ByteArray := prog_1_method_52_code
def yX1_lambda_choose_7 : MethodName := ⟨RX1, "lambda$choose$7", "(LBrookWeirs$Side;ILBrookWeirs$Brook;)I"⟩
abbrev cX1_rest : ByteArray := prog_1_method_37_code
def yX1_rest : MethodName := ⟨RX1, "rest", "(I)I"⟩
abbrev cX1_number : ByteArray := prog_1_method_40_code
def yX1_number : MethodName := ⟨RX1, "number", "(I)I"⟩
abbrev cX1_meanLevel : ByteArray := prog_1_method_41_code
def yX1_meanLevel : MethodName := ⟨RX1, "meanLevel", "()D"⟩
abbrev cX1_silence : ByteArray := prog_1_method_42_code
def yX1_silence : MethodName := ⟨RX1, "silence", "()F"⟩
abbrev cX1_feed : ByteArray := prog_1_method_43_code
def yX1_feed : MethodName := ⟨RX1, "feed", "(C)I"⟩
abbrev cX1_requireState : ByteArray := prog_1_method_4_code
def yX1_requireState : MethodName := ⟨RX1, "requireState", "(Z)V"⟩
abbrev cX1_read : ByteArray := prog_1_method_46_code
def yX1_read : MethodName := ⟨RX1, "read", "()I"⟩
abbrev cX1_taken : ByteArray := prog_1_method_44_code
def yX1_taken : MethodName := ⟨RX1, "taken", "()Ljava/util/List;"⟩
abbrev cX1_why : ByteArray := prog_1_method_45_code
def yX1_why : MethodName := ⟨RX1, "why", "(LBrookWeirs$Brook;LBrookWeirs$Deed;)I"⟩
abbrev cX1_faultPosition : ByteArray := prog_1_method_47_code
def yX1_faultPosition : MethodName := ⟨RX1, "faultPosition", "()I"⟩
abbrev cX1_refusal : ByteArray := prog_1_method_48_code
def yX1_refusal : MethodName := ⟨RX1, "refusal", "(Z)I"⟩
abbrev cX1_undo : ByteArray := prog_1_method_49_code
def yX1_undo : MethodName := ⟨RX1, "undo", "()I"⟩
abbrev cX1_restoreSnapshot : ByteArray := prog_1_method_51_code
def yX1_restoreSnapshot : MethodName := ⟨RX1, "restoreSnapshot", "()I"⟩
theorem q70 : (Jvm.Cond.initialized "BrookWeirs") ∈ lw_all := lw_g (lw_at lw_m1 1 rfl) rfl
theorem q116 : (Jvm.Cond.instantiable "BrookWeirs" (10 : Nat)) ∈ lw_all := lw_g (lw_at lw_m1 47 rfl) rfl
theorem q118 : (Jvm.Cond.instanceMethod ({ cls := "BrookWeirs", name := "<init>", desc := "()V" } : Jvm.MethodName)) ∈ lw_all := lw_g (lw_at lw_m1 49 rfl) rfl
theorem q119 : (Jvm.Cond.code ({ cls := "BrookWeirs", name := "<init>", desc := "()V" } : Jvm.MethodName) prog_1_method_9_code (1 : Nat) (Option.none : Option Jvm.ClassFile.FieldType)) ∈ lw_all := lw_g (lw_at lw_m1 50 rfl) rfl
theorem q120 : (Jvm.Cond.methodLink "BrookWeirs" (21 : Nat) ({ cls := "java/lang/Object", name := "<init>", desc := "()V" } : Jvm.MethodName)) ∈ lw_all := lw_g (lw_at lw_m1 51 rfl) rfl
theorem q123 : (Jvm.Cond.classLink "BrookWeirs" (24 : Nat) "BrookWeirs$Brook") ∈ lw_all := lw_g (lw_at lw_m1 54 rfl) rfl
theorem q125 : (Jvm.Cond.methodLinkNest "BrookWeirs" (26 : Nat) ({ cls := "BrookWeirs$Brook", name := "<init>", desc := "()V" } : Jvm.MethodName) "BrookWeirs") ∈ lw_tbl := lw_at lw_m1 56 rfl
theorem q138 : (Jvm.Cond.fieldLinkNest "BrookWeirs" (229 : Nat) "BrookWeirs$Clutches" "pool" "[I" "BrookWeirs") ∈ lw_tbl := lw_at lw_m1 69 rfl
theorem q142 : (Jvm.Cond.fieldLinkNest "BrookWeirs" (232 : Nat) "BrookWeirs$Clutches" "eggs" "[I" "BrookWeirs") ∈ lw_tbl := lw_at lw_m1 73 rfl
theorem q145 : (Jvm.Cond.fieldLinkNest "BrookWeirs" (235 : Nat) "BrookWeirs$Clutches" "age" "[I" "BrookWeirs") ∈ lw_tbl := lw_at lw_m1 76 rfl
theorem q148 : (Jvm.Cond.fieldLinkNest "BrookWeirs" (238 : Nat) "BrookWeirs$Clutches" "level" "[I" "BrookWeirs") ∈ lw_tbl := lw_at lw_m1 79 rfl
theorem q152 : (Jvm.Cond.fieldLinkNest "BrookWeirs" (223 : Nat) "BrookWeirs$Clutches" "many" "I" "BrookWeirs") ∈ lw_tbl := lw_at lw_m1 83 rfl
theorem q166 : (Jvm.Cond.fieldLinkNest "BrookWeirs" (152 : Nat) "BrookWeirs$Brook" "area" "[I" "BrookWeirs") ∈ lw_tbl := lw_at lw_m1 97 rfl
theorem q168 : (Jvm.Cond.fieldLinkNest "BrookWeirs" (155 : Nat) "BrookWeirs$Brook" "brim" "[I" "BrookWeirs") ∈ lw_tbl := lw_at lw_m1 99 rfl
theorem q170 : (Jvm.Cond.fieldLinkNest "BrookWeirs" (158 : Nat) "BrookWeirs$Brook" "need" "[I" "BrookWeirs") ∈ lw_tbl := lw_at lw_m1 101 rfl
theorem q172 : (Jvm.Cond.fieldLinkNest "BrookWeirs" (161 : Nat) "BrookWeirs$Brook" "boards" "[I" "BrookWeirs") ∈ lw_tbl := lw_at lw_m1 103 rfl
theorem q174 : (Jvm.Cond.fieldLinkNest "BrookWeirs" (164 : Nat) "BrookWeirs$Brook" "water" "[I" "BrookWeirs") ∈ lw_tbl := lw_at lw_m1 105 rfl
theorem q177 : (Jvm.Cond.fieldLinkNest "BrookWeirs" (148 : Nat) "BrookWeirs$Brook" "frogs" "[I" "BrookWeirs") ∈ lw_tbl := lw_at lw_m1 108 rfl
theorem q179 : (Jvm.Cond.fieldLinkNest "BrookWeirs" (246 : Nat) "BrookWeirs$Brook" "rains" "[I" "BrookWeirs") ∈ lw_tbl := lw_at lw_m1 110 rfl
theorem q182 : (Jvm.Cond.fieldLinkNest "BrookWeirs" (170 : Nat) "BrookWeirs$Brook" "clutches" "LBrookWeirs$Clutches;" "BrookWeirs") ∈ lw_tbl := lw_at lw_m1 113 rfl
theorem q185 : (Jvm.Cond.fieldLinkNest "BrookWeirs" (276 : Nat) "BrookWeirs$Brook" "pools" "I" "BrookWeirs") ∈ lw_tbl := lw_at lw_m1 116 rfl
theorem q187 : (Jvm.Cond.fieldLinkNest "BrookWeirs" (243 : Nat) "BrookWeirs$Brook" "told" "I" "BrookWeirs") ∈ lw_tbl := lw_at lw_m1 118 rfl
theorem q190 : (Jvm.Cond.fieldLinkNest "BrookWeirs" (211 : Nat) "BrookWeirs$Brook" "frogLatches" "I" "BrookWeirs") ∈ lw_tbl := lw_at lw_m1 121 rfl
theorem q193 : (Jvm.Cond.fieldLinkNest "BrookWeirs" (214 : Nat) "BrookWeirs$Brook" "farmLatches" "I" "BrookWeirs") ∈ lw_tbl := lw_at lw_m1 124 rfl
theorem q195 : (Jvm.Cond.fieldLinkNest "BrookWeirs" (130 : Nat) "BrookWeirs$Brook" "free" "I" "BrookWeirs") ∈ lw_tbl := lw_at lw_m1 126 rfl
theorem q197 : (Jvm.Cond.fieldLinkNest "BrookWeirs" (217 : Nat) "BrookWeirs$Brook" "flooded" "I" "BrookWeirs") ∈ lw_tbl := lw_at lw_m1 128 rfl
theorem q199 : (Jvm.Cond.fieldLinkNest "BrookWeirs" (220 : Nat) "BrookWeirs$Brook" "called" "I" "BrookWeirs") ∈ lw_tbl := lw_at lw_m1 130 rfl
theorem q201 : (Jvm.Cond.fieldLinkNest "BrookWeirs" (320 : Nat) "BrookWeirs$Brook" "days" "I" "BrookWeirs") ∈ lw_tbl := lw_at lw_m1 132 rfl
theorem q203 : (Jvm.Cond.fieldLinkNest "BrookWeirs" (311 : Nat) "BrookWeirs$Brook" "rained" "I" "BrookWeirs") ∈ lw_tbl := lw_at lw_m1 134 rfl
theorem q205 : (Jvm.Cond.fieldLinkNest "BrookWeirs" (314 : Nat) "BrookWeirs$Brook" "left" "I" "BrookWeirs") ∈ lw_tbl := lw_at lw_m1 136 rfl
theorem q208 : (Jvm.Cond.fieldLinkNest "BrookWeirs" (317 : Nat) "BrookWeirs$Brook" "taken" "I" "BrookWeirs") ∈ lw_tbl := lw_at lw_m1 139 rfl
theorem q210 : (Jvm.Cond.fieldLinkNest "BrookWeirs" (323 : Nat) "BrookWeirs$Brook" "floods" "I" "BrookWeirs") ∈ lw_tbl := lw_at lw_m1 141 rfl
theorem q212 : (Jvm.Cond.fieldLinkNest "BrookWeirs" (326 : Nat) "BrookWeirs$Brook" "silent" "I" "BrookWeirs") ∈ lw_tbl := lw_at lw_m1 143 rfl
theorem q214 : (Jvm.Cond.fieldLinkNest "BrookWeirs" (331 : Nat) "BrookWeirs$Brook" "laid" "I" "BrookWeirs") ∈ lw_tbl := lw_at lw_m1 145 rfl
theorem q216 : (Jvm.Cond.fieldLinkNest "BrookWeirs" (334 : Nat) "BrookWeirs$Brook" "hatched" "I" "BrookWeirs") ∈ lw_tbl := lw_at lw_m1 147 rfl
theorem q218 : (Jvm.Cond.fieldLinkNest "BrookWeirs" (337 : Nat) "BrookWeirs$Brook" "lost" "I" "BrookWeirs") ∈ lw_tbl := lw_at lw_m1 149 rfl
theorem q268 : (Jvm.Cond.classLink "BrookWeirs" (36 : Nat) "java/util/ArrayDeque") ∈ lw_all := lw_g (lw_at lw_m1 199 rfl) rfl
theorem q270 : (Jvm.Cond.methodLink "BrookWeirs" (38 : Nat) ({ cls := "java/util/ArrayDeque", name := "<init>", desc := "()V" } : Jvm.MethodName)) ∈ lw_all := lw_g (lw_at lw_m1 201 rfl) rfl
theorem q291 : (Jvm.Cond.classLink "BrookWeirs" (43 : Nat) "java/lang/StringBuilder") ∈ lw_all := lw_g (lw_at lw_m1 222 rfl) rfl
theorem q293 : (Jvm.Cond.methodLink "BrookWeirs" (45 : Nat) ({ cls := "java/lang/StringBuilder", name := "<init>", desc := "()V" } : Jvm.MethodName)) ∈ lw_all := lw_g (lw_at lw_m1 224 rfl) rfl
theorem q324 : (Jvm.Cond.classLink "BrookWeirs" (54 : Nat) "BrookWeirs$Frogs") ∈ lw_all := lw_g (lw_at lw_m2 15 rfl) rfl
theorem q326 : (Jvm.Cond.methodLinkNest "BrookWeirs" (56 : Nat) ({ cls := "BrookWeirs$Frogs", name := "<init>", desc := "(LBrookWeirs;)V" } : Jvm.MethodName) "BrookWeirs") ∈ lw_tbl := lw_at lw_m2 17 rfl
theorem q335 : (Jvm.Cond.fieldLinkNest "BrookWeirs" (273 : Nat) "BrookWeirs$Side" "best" "I" "BrookWeirs") ∈ lw_tbl := lw_at lw_m2 26 rfl
theorem q337 : (Jvm.Cond.fieldLinkNest "BrookWeirs" (270 : Nat) "BrookWeirs$Side" "most" "I" "BrookWeirs") ∈ lw_tbl := lw_at lw_m2 28 rfl
theorem q348 : (Jvm.Cond.classLink "BrookWeirs" (63 : Nat) "BrookWeirs$Farmers") ∈ lw_all := lw_g (lw_at lw_m2 39 rfl) rfl
theorem q350 : (Jvm.Cond.methodLinkNest "BrookWeirs" (65 : Nat) ({ cls := "BrookWeirs$Farmers", name := "<init>", desc := "(LBrookWeirs;)V" } : Jvm.MethodName) "BrookWeirs") ∈ lw_tbl := lw_at lw_m2 41 rfl
theorem q362 : (Jvm.Cond.fieldLink "BrookWeirs" (27 : Nat) "BrookWeirs" "brook" "LBrookWeirs$Brook;") ∈ lw_all := lw_g (lw_at lw_m2 53 rfl) rfl
theorem q364 : (Jvm.Cond.fieldLink "BrookWeirs" (33 : Nat) "BrookWeirs" "tried" "LBrookWeirs$Brook;") ∈ lw_all := lw_g (lw_at lw_m2 55 rfl) rfl
theorem q365 : (Jvm.Cond.fieldLink "BrookWeirs" (39 : Nat) "BrookWeirs" "past" "Ljava/util/ArrayDeque;") ∈ lw_all := lw_g (lw_at lw_m2 56 rfl) rfl
theorem q367 : (Jvm.Cond.fieldLink "BrookWeirs" (46 : Nat) "BrookWeirs" "input" "Ljava/lang/StringBuilder;") ∈ lw_all := lw_g (lw_at lw_m2 58 rfl) rfl
theorem q368 : (Jvm.Cond.fieldLink "BrookWeirs" (50 : Nat) "BrookWeirs" "fault" "I") ∈ lw_all := lw_g (lw_at lw_m2 59 rfl) rfl
theorem q369 : (Jvm.Cond.fieldLink "BrookWeirs" (85 : Nat) "BrookWeirs" "reason" "I") ∈ lw_all := lw_g (lw_at lw_m2 60 rfl) rfl
theorem q370 : (Jvm.Cond.fieldLink "BrookWeirs" (88 : Nat) "BrookWeirs" "refused" "I") ∈ lw_all := lw_g (lw_at lw_m2 61 rfl) rfl
theorem q372 : (Jvm.Cond.fieldLink "BrookWeirs" (59 : Nat) "BrookWeirs" "frogs" "LBrookWeirs$Side;") ∈ lw_all := lw_g (lw_at lw_m2 63 rfl) rfl
theorem q373 : (Jvm.Cond.fieldLink "BrookWeirs" (66 : Nat) "BrookWeirs" "farmers" "LBrookWeirs$Side;") ∈ lw_all := lw_g (lw_at lw_m2 64 rfl) rfl
theorem q374 : (Jvm.Cond.fieldLink "BrookWeirs" (383 : Nat) "BrookWeirs" "saved" "LBrookWeirs$Brook;") ∈ lw_all := lw_g (lw_at lw_m2 65 rfl) rfl
theorem q375 : (Jvm.Cond.lays "BrookWeirs" "BrookWeirs" "brook" "LBrookWeirs$Brook;") ∈ lw_all := lw_g (lw_at lw_m2 66 rfl) rfl
theorem q376 : (Jvm.Cond.soleField "BrookWeirs" "brook") ∈ lw_all := lw_g (lw_at lw_m2 67 rfl) rfl
theorem q377 : (Jvm.Cond.laysFinal "BrookWeirs" "BrookWeirs" "tried" "LBrookWeirs$Brook;") ∈ lw_all := lw_g (lw_at lw_m2 68 rfl) rfl
theorem q378 : (Jvm.Cond.soleField "BrookWeirs" "tried") ∈ lw_all := lw_g (lw_at lw_m2 69 rfl) rfl
theorem q379 : (Jvm.Cond.laysFinal "BrookWeirs" "BrookWeirs" "past" "Ljava/util/ArrayDeque;") ∈ lw_all := lw_g (lw_at lw_m2 70 rfl) rfl
theorem q380 : (Jvm.Cond.soleField "BrookWeirs" "past") ∈ lw_all := lw_g (lw_at lw_m2 71 rfl) rfl
theorem q381 : (Jvm.Cond.laysFinal "BrookWeirs" "BrookWeirs" "input" "Ljava/lang/StringBuilder;") ∈ lw_all := lw_g (lw_at lw_m2 72 rfl) rfl
theorem q382 : (Jvm.Cond.soleField "BrookWeirs" "input") ∈ lw_all := lw_g (lw_at lw_m2 73 rfl) rfl
theorem q383 : (Jvm.Cond.lays "BrookWeirs" "BrookWeirs" "fault" "I") ∈ lw_all := lw_g (lw_at lw_m2 74 rfl) rfl
theorem q384 : (Jvm.Cond.soleField "BrookWeirs" "fault") ∈ lw_all := lw_g (lw_at lw_m2 75 rfl) rfl
theorem q385 : (Jvm.Cond.lays "BrookWeirs" "BrookWeirs" "reason" "I") ∈ lw_all := lw_g (lw_at lw_m2 76 rfl) rfl
theorem q386 : (Jvm.Cond.soleField "BrookWeirs" "reason") ∈ lw_all := lw_g (lw_at lw_m2 77 rfl) rfl
theorem q387 : (Jvm.Cond.lays "BrookWeirs" "BrookWeirs" "refused" "I") ∈ lw_all := lw_g (lw_at lw_m2 78 rfl) rfl
theorem q388 : (Jvm.Cond.soleField "BrookWeirs" "refused") ∈ lw_all := lw_g (lw_at lw_m2 79 rfl) rfl
theorem q389 : (Jvm.Cond.laysFinal "BrookWeirs" "BrookWeirs" "frogs" "LBrookWeirs$Side;") ∈ lw_all := lw_g (lw_at lw_m2 80 rfl) rfl
theorem q390 : (Jvm.Cond.soleField "BrookWeirs" "frogs") ∈ lw_all := lw_g (lw_at lw_m2 81 rfl) rfl
theorem q391 : (Jvm.Cond.laysFinal "BrookWeirs" "BrookWeirs" "farmers" "LBrookWeirs$Side;") ∈ lw_all := lw_g (lw_at lw_m2 82 rfl) rfl
theorem q392 : (Jvm.Cond.soleField "BrookWeirs" "farmers") ∈ lw_all := lw_g (lw_at lw_m2 83 rfl) rfl
theorem q393 : (Jvm.Cond.lays "BrookWeirs" "BrookWeirs" "saved" "LBrookWeirs$Brook;") ∈ lw_all := lw_g (lw_at lw_m2 84 rfl) rfl
theorem q394 : (Jvm.Cond.soleField "BrookWeirs" "saved") ∈ lw_all := lw_g (lw_at lw_m2 85 rfl) rfl
theorem q395 : (Jvm.Cond.superclass "BrookWeirs" "java/lang/Object") ∈ lw_all := lw_g (lw_at lw_m2 86 rfl) rfl
theorem q397 : (Jvm.Cond.instanceMethod ({ cls := "BrookWeirs", name := "day", desc := "()I" } : Jvm.MethodName)) ∈ lw_all := lw_g (lw_at lw_m2 88 rfl) rfl
theorem q398 : (Jvm.Cond.selects "BrookWeirs" ({ cls := "BrookWeirs", name := "day", desc := "()I" } : Jvm.MethodName) ({ cls := "BrookWeirs", name := "day", desc := "()I" } : Jvm.MethodName)) ∈ lw_all := lw_g (lw_at lw_m2 89 rfl) rfl
theorem q399 : (Jvm.Cond.code ({ cls := "BrookWeirs", name := "day", desc := "()I" } : Jvm.MethodName) prog_1_method_29_code (1 : Nat) (Option.some Jvm.ClassFile.FieldType.int)) ∈ lw_all := lw_g (lw_at lw_m2 90 rfl) rfl
theorem q400 : (Jvm.Cond.static ({ cls := "BrookWeirs", name := "lambda$day$5", desc := "(LBrookWeirs$Brook;)I" } : Jvm.MethodName)) ∈ lw_all := lw_g (lw_at lw_m2 91 rfl) rfl
theorem q401 : (Jvm.Cond.code ({ cls := "BrookWeirs", name := "lambda$day$5", desc := "(LBrookWeirs$Brook;)I" } : Jvm.MethodName) prog_1_method_54_code (1 : Nat) (Option.some Jvm.ClassFile.FieldType.int)) ∈ lw_all := lw_g (lw_at lw_m2 92 rfl) rfl
theorem q402 : (Jvm.Cond.methodLink "BrookWeirs" (257 : Nat) ({ cls := "BrookWeirs$Brook", name := "day", desc := "()I" } : Jvm.MethodName)) ∈ lw_all := lw_g (lw_at lw_m2 93 rfl) rfl
theorem q426 : (Jvm.Cond.static ({ cls := "BrookWeirs", name := "has", desc := "(II)Z" } : Jvm.MethodName)) ∈ lw_all := lw_g (lw_at lw_m2 117 rfl) rfl
theorem q427 : (Jvm.Cond.code ({ cls := "BrookWeirs", name := "has", desc := "(II)Z" } : Jvm.MethodName) prog_1_method_6_code (2 : Nat) (Option.some Jvm.ClassFile.FieldType.boolean)) ∈ lw_all := lw_g (lw_at lw_m2 118 rfl) rfl
theorem q475 : (Jvm.Cond.static ({ cls := "BrookWeirs", name := "inRange", desc := "(III)Z" } : Jvm.MethodName)) ∈ lw_all := lw_g (lw_at lw_m2 166 rfl) rfl
theorem q476 : (Jvm.Cond.code ({ cls := "BrookWeirs", name := "inRange", desc := "(III)Z" } : Jvm.MethodName) prog_1_method_1_code (3 : Nat) (Option.some Jvm.ClassFile.FieldType.boolean)) ∈ lw_all := lw_g (lw_at lw_m2 167 rfl) rfl
theorem q483 : (Jvm.Cond.methodLink "BrookWeirs" (123 : Nat) ({ cls := "BrookWeirs", name := "change", desc := "(LBrookWeirs$Deed;)I" } : Jvm.MethodName)) ∈ lw_all := lw_g (lw_at lw_m2 174 rfl) rfl
theorem q484 : (Jvm.Cond.privateMethod ({ cls := "BrookWeirs", name := "change", desc := "(LBrookWeirs$Deed;)I" } : Jvm.MethodName)) ∈ lw_tbl := lw_at lw_m2 175 rfl
theorem q485 : (Jvm.Cond.instanceMethod ({ cls := "BrookWeirs", name := "change", desc := "(LBrookWeirs$Deed;)I" } : Jvm.MethodName)) ∈ lw_all := lw_g (lw_at lw_m2 176 rfl) rfl
theorem q486 : (Jvm.Cond.codeWith ({ cls := "BrookWeirs", name := "change", desc := "(LBrookWeirs$Deed;)I" } : Jvm.MethodName) prog_1_method_13_code (4 : Nat) (Option.some Jvm.ClassFile.FieldType.int) [((8 : Nat), (22 : Nat), (23 : Nat), (16 : Nat))]) ∈ lw_all := lw_g (lw_at lw_m2 177 rfl) rfl
theorem q487 : (Jvm.Cond.classLink "BrookWeirs" (16 : Nat) "BrookWeirs$Refusal") ∈ lw_all := lw_g (lw_at lw_m2 178 rfl) rfl
theorem q488 : (Jvm.Cond.methodLink "BrookWeirs" (94 : Nat) ({ cls := "BrookWeirs", name := "copy", desc := "(LBrookWeirs$Brook;)LBrookWeirs$Brook;" } : Jvm.MethodName)) ∈ lw_all := lw_g (lw_at lw_m2 179 rfl) rfl
theorem q489 : (Jvm.Cond.static ({ cls := "BrookWeirs", name := "copy", desc := "(LBrookWeirs$Brook;)LBrookWeirs$Brook;" } : Jvm.MethodName)) ∈ lw_all := lw_g (lw_at lw_m2 180 rfl) rfl
theorem q490 : (Jvm.Cond.code ({ cls := "BrookWeirs", name := "copy", desc := "(LBrookWeirs$Brook;)LBrookWeirs$Brook;" } : Jvm.MethodName) prog_1_method_10_code (1 : Nat) (Option.some (Jvm.ClassFile.FieldType.object "BrookWeirs$Brook"))) ∈ lw_all := lw_g (lw_at lw_m2 181 rfl) rfl
theorem q491 : (Jvm.Cond.methodLink "BrookWeirs" (69 : Nat) ({ cls := "BrookWeirs$Brook", name := "become", desc := "(LBrookWeirs$Brook;)LBrookWeirs$Brook;" } : Jvm.MethodName)) ∈ lw_all := lw_g (lw_at lw_m2 182 rfl) rfl
theorem q500 : (Jvm.Cond.interfaceEntry "BrookWeirs" (97 : Nat)) ∈ lw_tbl := lw_at lw_m2 191 rfl
theorem q501 : (Jvm.Cond.methodLink "BrookWeirs" (97 : Nat) ({ cls := "BrookWeirs$Deed", name := "done", desc := "(LBrookWeirs$Brook;)I" } : Jvm.MethodName)) ∈ lw_all := lw_g (lw_at lw_m2 192 rfl) rfl
theorem q504 : (Jvm.Cond.methodLink "BrookWeirs" (103 : Nat) ({ cls := "BrookWeirs", name := "replace", desc := "(LBrookWeirs$Brook;)V" } : Jvm.MethodName)) ∈ lw_all := lw_g (lw_at lw_m2 195 rfl) rfl
theorem q505 : (Jvm.Cond.privateMethod ({ cls := "BrookWeirs", name := "replace", desc := "(LBrookWeirs$Brook;)V" } : Jvm.MethodName)) ∈ lw_tbl := lw_at lw_m2 196 rfl
theorem q506 : (Jvm.Cond.instanceMethod ({ cls := "BrookWeirs", name := "replace", desc := "(LBrookWeirs$Brook;)V" } : Jvm.MethodName)) ∈ lw_all := lw_g (lw_at lw_m2 197 rfl) rfl
theorem q507 : (Jvm.Cond.code ({ cls := "BrookWeirs", name := "replace", desc := "(LBrookWeirs$Brook;)V" } : Jvm.MethodName) prog_1_method_11_code (3 : Nat) (Option.none : Option Jvm.ClassFile.FieldType)) ∈ lw_all := lw_g (lw_at lw_m2 198 rfl) rfl
theorem q508 : (Jvm.Cond.methodLink "BrookWeirs" (73 : Nat) ({ cls := "java/util/ArrayDeque", name := "size", desc := "()I" } : Jvm.MethodName)) ∈ lw_all := lw_g (lw_at lw_m2 199 rfl) rfl
theorem q515 : (Jvm.Cond.methodLink "BrookWeirs" (77 : Nat) ({ cls := "java/util/ArrayDeque", name := "removeLast", desc := "()Ljava/lang/Object;" } : Jvm.MethodName)) ∈ lw_all := lw_g (lw_at lw_m2 206 rfl) rfl
theorem q600 : (Jvm.Cond.methodLink "BrookWeirs" (81 : Nat) ({ cls := "java/util/ArrayDeque", name := "push", desc := "(Ljava/lang/Object;)V" } : Jvm.MethodName)) ∈ lw_all := lw_g (lw_at lw_m3 51 rfl) rfl
theorem q648 : (Jvm.Cond.selects "BrookWeirs" ({ cls := "java/lang/Object", name := "getClass", desc := "()Ljava/lang/Class;" } : Jvm.MethodName) ({ cls := "java/lang/Object", name := "getClass", desc := "()Ljava/lang/Class;" } : Jvm.MethodName)) ∈ lw_all := lw_g (lw_at lw_m3 99 rfl) rfl
theorem q685 : (Jvm.Cond.methodLink "BrookWeirs" (108 : Nat) ({ cls := "BrookWeirs", name := "refuse", desc := "(II)Ljava/lang/UnsupportedOperationException;" } : Jvm.MethodName)) ∈ lw_all := lw_g (lw_at lw_m3 136 rfl) rfl
theorem q686 : (Jvm.Cond.privateMethod ({ cls := "BrookWeirs", name := "refuse", desc := "(II)Ljava/lang/UnsupportedOperationException;" } : Jvm.MethodName)) ∈ lw_tbl := lw_at lw_m3 137 rfl
theorem q687 : (Jvm.Cond.instanceMethod ({ cls := "BrookWeirs", name := "refuse", desc := "(II)Ljava/lang/UnsupportedOperationException;" } : Jvm.MethodName)) ∈ lw_all := lw_g (lw_at lw_m3 138 rfl) rfl
theorem q688 : (Jvm.Cond.code ({ cls := "BrookWeirs", name := "refuse", desc := "(II)Ljava/lang/UnsupportedOperationException;" } : Jvm.MethodName) prog_1_method_12_code (3 : Nat) (Option.some (Jvm.ClassFile.FieldType.object "java/lang/UnsupportedOperationException"))) ∈ lw_all := lw_g (lw_at lw_m3 139 rfl) rfl
theorem q689 : (Jvm.Cond.classLink "BrookWeirs" (91 : Nat) "java/lang/UnsupportedOperationException") ∈ lw_all := lw_g (lw_at lw_m3 140 rfl) rfl
theorem q698 : (Jvm.Cond.methodLink "BrookWeirs" (93 : Nat) ({ cls := "java/lang/UnsupportedOperationException", name := "<init>", desc := "()V" } : Jvm.MethodName)) ∈ lw_all := lw_g (lw_at lw_m3 149 rfl) rfl
theorem q705 : (Jvm.Cond.instanceMethod ({ cls := "BrookWeirs", name := "water", desc := "()I" } : Jvm.MethodName)) ∈ lw_all := lw_g (lw_at lw_m3 156 rfl) rfl
theorem q706 : (Jvm.Cond.selects "BrookWeirs" ({ cls := "BrookWeirs", name := "water", desc := "()I" } : Jvm.MethodName) ({ cls := "BrookWeirs", name := "water", desc := "()I" } : Jvm.MethodName)) ∈ lw_all := lw_g (lw_at lw_m3 157 rfl) rfl
theorem q707 : (Jvm.Cond.code ({ cls := "BrookWeirs", name := "water", desc := "()I" } : Jvm.MethodName) prog_1_method_38_code (1 : Nat) (Option.some Jvm.ClassFile.FieldType.int)) ∈ lw_all := lw_g (lw_at lw_m3 158 rfl) rfl
theorem q708 : (Jvm.Cond.methodLink "BrookWeirs" (307 : Nat) ({ cls := "BrookWeirs$Brook", name := "sum", desc := "([I)I" } : Jvm.MethodName)) ∈ lw_all := lw_g (lw_at lw_m3 159 rfl) rfl
theorem q713 : (Jvm.Cond.instanceMethod ({ cls := "BrookWeirs", name := "waterAgain", desc := "()I" } : Jvm.MethodName)) ∈ lw_all := lw_g (lw_at lw_m3 164 rfl) rfl
theorem q714 : (Jvm.Cond.selects "BrookWeirs" ({ cls := "BrookWeirs", name := "waterAgain", desc := "()I" } : Jvm.MethodName) ({ cls := "BrookWeirs", name := "waterAgain", desc := "()I" } : Jvm.MethodName)) ∈ lw_all := lw_g (lw_at lw_m3 165 rfl) rfl
theorem q715 : (Jvm.Cond.code ({ cls := "BrookWeirs", name := "waterAgain", desc := "()I" } : Jvm.MethodName) prog_1_method_39_code (1 : Nat) (Option.some Jvm.ClassFile.FieldType.int)) ∈ lw_all := lw_g (lw_at lw_m3 166 rfl) rfl
theorem q717 : (Jvm.Cond.instanceMethod ({ cls := "BrookWeirs", name := "saveSnapshot", desc := "()I" } : Jvm.MethodName)) ∈ lw_all := lw_g (lw_at lw_m3 168 rfl) rfl
theorem q718 : (Jvm.Cond.selects "BrookWeirs" ({ cls := "BrookWeirs", name := "saveSnapshot", desc := "()I" } : Jvm.MethodName) ({ cls := "BrookWeirs", name := "saveSnapshot", desc := "()I" } : Jvm.MethodName)) ∈ lw_all := lw_g (lw_at lw_m3 169 rfl) rfl
theorem q719 : (Jvm.Cond.code ({ cls := "BrookWeirs", name := "saveSnapshot", desc := "()I" } : Jvm.MethodName) prog_1_method_50_code (1 : Nat) (Option.some Jvm.ClassFile.FieldType.int)) ∈ lw_all := lw_g (lw_at lw_m3 170 rfl) rfl
theorem q726 : (Jvm.Cond.instanceMethod ({ cls := "BrookWeirs", name := "pool", desc := "(III)I" } : Jvm.MethodName)) ∈ lw_all := lw_g (lw_at lw_m3 177 rfl) rfl
theorem q727 : (Jvm.Cond.selects "BrookWeirs" ({ cls := "BrookWeirs", name := "pool", desc := "(III)I" } : Jvm.MethodName) ({ cls := "BrookWeirs", name := "pool", desc := "(III)I" } : Jvm.MethodName)) ∈ lw_all := lw_g (lw_at lw_m3 178 rfl) rfl
theorem q728 : (Jvm.Cond.code ({ cls := "BrookWeirs", name := "pool", desc := "(III)I" } : Jvm.MethodName) prog_1_method_14_code (4 : Nat) (Option.some Jvm.ClassFile.FieldType.int)) ∈ lw_all := lw_g (lw_at lw_m3 179 rfl) rfl
theorem q729 : (Jvm.Cond.methodLink "BrookWeirs" (112 : Nat) ({ cls := "BrookWeirs", name := "inRange", desc := "(III)Z" } : Jvm.MethodName)) ∈ lw_all := lw_g (lw_at lw_m3 180 rfl) rfl
theorem q730 : (Jvm.Cond.methodLink "BrookWeirs" (116 : Nat) ({ cls := "BrookWeirs", name := "require", desc := "(Z)V" } : Jvm.MethodName)) ∈ lw_all := lw_g (lw_at lw_m3 181 rfl) rfl
theorem q731 : (Jvm.Cond.static ({ cls := "BrookWeirs", name := "require", desc := "(Z)V" } : Jvm.MethodName)) ∈ lw_all := lw_g (lw_at lw_m3 182 rfl) rfl
theorem q732 : (Jvm.Cond.code ({ cls := "BrookWeirs", name := "require", desc := "(Z)V" } : Jvm.MethodName) prog_1_method_2_code (1 : Nat) (Option.none : Option Jvm.ClassFile.FieldType)) ∈ lw_all := lw_g (lw_at lw_m3 183 rfl) rfl
theorem q733 : (Jvm.Cond.classLink "BrookWeirs" (1 : Nat) "java/lang/IllegalArgumentException") ∈ lw_all := lw_g (lw_at lw_m3 184 rfl) rfl
theorem q742 : (Jvm.Cond.methodLink "BrookWeirs" (3 : Nat) ({ cls := "java/lang/IllegalArgumentException", name := "<init>", desc := "()V" } : Jvm.MethodName)) ∈ lw_all := lw_g (lw_at lw_m3 193 rfl) rfl
theorem q748 : (Jvm.Cond.static ({ cls := "BrookWeirs", name := "lambda$pool$0", desc := "(IIILBrookWeirs$Brook;)I" } : Jvm.MethodName)) ∈ lw_all := lw_g (lw_at lw_m3 199 rfl) rfl
theorem q749 : (Jvm.Cond.code ({ cls := "BrookWeirs", name := "lambda$pool$0", desc := "(IIILBrookWeirs$Brook;)I" } : Jvm.MethodName) prog_1_method_59_code (4 : Nat) (Option.some Jvm.ClassFile.FieldType.int)) ∈ lw_all := lw_g (lw_at lw_m3 200 rfl) rfl
theorem q750 : (Jvm.Cond.methodLink "BrookWeirs" (419 : Nat) ({ cls := "BrookWeirs$Brook", name := "addPool", desc := "(III)I" } : Jvm.MethodName)) ∈ lw_all := lw_g (lw_at lw_m3 201 rfl) rfl
theorem q755 : (Jvm.Cond.static ({ cls := "BrookWeirs", name := "allow", desc := "(ZI)V" } : Jvm.MethodName)) ∈ lw_all := lw_g (lw_at lw_m3 206 rfl) rfl
theorem q756 : (Jvm.Cond.code ({ cls := "BrookWeirs", name := "allow", desc := "(ZI)V" } : Jvm.MethodName) prog_1_method_8_code (2 : Nat) (Option.none : Option Jvm.ClassFile.FieldType)) ∈ lw_all := lw_g (lw_at lw_m3 207 rfl) rfl
theorem q765 : (Jvm.Cond.methodLink "BrookWeirs" (18 : Nat) ({ cls := "BrookWeirs$Refusal", name := "<init>", desc := "(I)V" } : Jvm.MethodName)) ∈ lw_all := lw_g (lw_at lw_m3 216 rfl) rfl
theorem q775 : (Jvm.Cond.fieldLinkNest "BrookWeirs" (107 : Nat) "BrookWeirs$Refusal" "reason" "I" "BrookWeirs") ∈ lw_tbl := lw_at lw_m3 226 rfl
theorem q808 : (Jvm.Cond.instanceMethod ({ cls := "BrookWeirs", name := "boards", desc := "(II)I" } : Jvm.MethodName)) ∈ lw_all := lw_g (lw_at lw_m4 19 rfl) rfl
theorem q809 : (Jvm.Cond.selects "BrookWeirs" ({ cls := "BrookWeirs", name := "boards", desc := "(II)I" } : Jvm.MethodName) ({ cls := "BrookWeirs", name := "boards", desc := "(II)I" } : Jvm.MethodName)) ∈ lw_all := lw_g (lw_at lw_m4 20 rfl) rfl
theorem q810 : (Jvm.Cond.code ({ cls := "BrookWeirs", name := "boards", desc := "(II)I" } : Jvm.MethodName) prog_1_method_16_code (3 : Nat) (Option.some Jvm.ClassFile.FieldType.int)) ∈ lw_all := lw_g (lw_at lw_m4 21 rfl) rfl
theorem q811 : (Jvm.Cond.static ({ cls := "BrookWeirs", name := "lambda$boards$1", desc := "(IILBrookWeirs$Brook;)I" } : Jvm.MethodName)) ∈ lw_all := lw_g (lw_at lw_m4 22 rfl) rfl
theorem q812 : (Jvm.Cond.code ({ cls := "BrookWeirs", name := "lambda$boards$1", desc := "(IILBrookWeirs$Brook;)I" } : Jvm.MethodName) prog_1_method_58_code (3 : Nat) (Option.some Jvm.ClassFile.FieldType.int)) ∈ lw_all := lw_g (lw_at lw_m4 23 rfl) rfl
theorem q813 : (Jvm.Cond.methodLink "BrookWeirs" (133 : Nat) ({ cls := "BrookWeirs$Brook", name := "at", desc := "(I)I" } : Jvm.MethodName)) ∈ lw_all := lw_g (lw_at lw_m4 24 rfl) rfl
theorem q818 : (Jvm.Cond.static ({ cls := "BrookWeirs", name := "requireIndex", desc := "(Z)V" } : Jvm.MethodName)) ∈ lw_all := lw_g (lw_at lw_m4 29 rfl) rfl
theorem q819 : (Jvm.Cond.code ({ cls := "BrookWeirs", name := "requireIndex", desc := "(Z)V" } : Jvm.MethodName) prog_1_method_3_code (1 : Nat) (Option.none : Option Jvm.ClassFile.FieldType)) ∈ lw_all := lw_g (lw_at lw_m4 30 rfl) rfl
theorem q820 : (Jvm.Cond.classLink "BrookWeirs" (7 : Nat) "java/lang/IndexOutOfBoundsException") ∈ lw_all := lw_g (lw_at lw_m4 31 rfl) rfl
theorem q829 : (Jvm.Cond.methodLink "BrookWeirs" (9 : Nat) ({ cls := "java/lang/IndexOutOfBoundsException", name := "<init>", desc := "()V" } : Jvm.MethodName)) ∈ lw_all := lw_g (lw_at lw_m4 40 rfl) rfl
theorem q835 : (Jvm.Cond.methodLink "BrookWeirs" (413 : Nat) ({ cls := "BrookWeirs", name := "boardsOf", desc := "(I)I" } : Jvm.MethodName)) ∈ lw_all := lw_g (lw_at lw_m4 46 rfl) rfl
theorem q836 : (Jvm.Cond.static ({ cls := "BrookWeirs", name := "boardsOf", desc := "(I)I" } : Jvm.MethodName)) ∈ lw_all := lw_g (lw_at lw_m4 47 rfl) rfl
theorem q837 : (Jvm.Cond.code ({ cls := "BrookWeirs", name := "boardsOf", desc := "(I)I" } : Jvm.MethodName) prog_1_method_15_code (1 : Nat) (Option.some Jvm.ClassFile.FieldType.int)) ∈ lw_all := lw_g (lw_at lw_m4 48 rfl) rfl
theorem q838 : (Jvm.Cond.methodLink "BrookWeirs" (416 : Nat) ({ cls := "BrookWeirs$Brook", name := "setBoards", desc := "(II)I" } : Jvm.MethodName)) ∈ lw_all := lw_g (lw_at lw_m4 49 rfl) rfl
theorem q846 : (Jvm.Cond.instanceMethod ({ cls := "BrookWeirs", name := "weir", desc := "(IZ)Z" } : Jvm.MethodName)) ∈ lw_all := lw_g (lw_at lw_m4 57 rfl) rfl
theorem q847 : (Jvm.Cond.selects "BrookWeirs" ({ cls := "BrookWeirs", name := "weir", desc := "(IZ)Z" } : Jvm.MethodName) ({ cls := "BrookWeirs", name := "weir", desc := "(IZ)Z" } : Jvm.MethodName)) ∈ lw_all := lw_g (lw_at lw_m4 58 rfl) rfl
theorem q848 : (Jvm.Cond.code ({ cls := "BrookWeirs", name := "weir", desc := "(IZ)Z" } : Jvm.MethodName) prog_1_method_17_code (5 : Nat) (Option.some Jvm.ClassFile.FieldType.boolean)) ∈ lw_all := lw_g (lw_at lw_m4 59 rfl) rfl
theorem q849 : (Jvm.Cond.methodLink "BrookWeirs" (137 : Nat) ({ cls := "BrookWeirs", name := "has", desc := "(II)Z" } : Jvm.MethodName)) ∈ lw_all := lw_g (lw_at lw_m4 60 rfl) rfl
theorem q850 : (Jvm.Cond.methodLink "BrookWeirs" (141 : Nat) ({ cls := "BrookWeirs", name := "with", desc := "(IIZ)I" } : Jvm.MethodName)) ∈ lw_all := lw_g (lw_at lw_m4 61 rfl) rfl
theorem q851 : (Jvm.Cond.static ({ cls := "BrookWeirs", name := "with", desc := "(IIZ)I" } : Jvm.MethodName)) ∈ lw_all := lw_g (lw_at lw_m4 62 rfl) rfl
theorem q852 : (Jvm.Cond.code ({ cls := "BrookWeirs", name := "with", desc := "(IIZ)I" } : Jvm.MethodName) prog_1_method_7_code (3 : Nat) (Option.some Jvm.ClassFile.FieldType.int)) ∈ lw_all := lw_g (lw_at lw_m4 63 rfl) rfl
theorem q857 : (Jvm.Cond.instanceMethod ({ cls := "BrookWeirs", name := "latch", desc := "(IZZ)Z" } : Jvm.MethodName)) ∈ lw_all := lw_g (lw_at lw_m4 68 rfl) rfl
theorem q858 : (Jvm.Cond.selects "BrookWeirs" ({ cls := "BrookWeirs", name := "latch", desc := "(IZZ)Z" } : Jvm.MethodName) ({ cls := "BrookWeirs", name := "latch", desc := "(IZZ)Z" } : Jvm.MethodName)) ∈ lw_all := lw_g (lw_at lw_m4 69 rfl) rfl
theorem q859 : (Jvm.Cond.code ({ cls := "BrookWeirs", name := "latch", desc := "(IZZ)Z" } : Jvm.MethodName) prog_1_method_18_code (4 : Nat) (Option.some Jvm.ClassFile.FieldType.boolean)) ∈ lw_all := lw_g (lw_at lw_m4 70 rfl) rfl
theorem q860 : (Jvm.Cond.static ({ cls := "BrookWeirs", name := "lambda$latch$2", desc := "(IZZLBrookWeirs$Brook;)I" } : Jvm.MethodName)) ∈ lw_all := lw_g (lw_at lw_m4 71 rfl) rfl
theorem q861 : (Jvm.Cond.code ({ cls := "BrookWeirs", name := "lambda$latch$2", desc := "(IZZLBrookWeirs$Brook;)I" } : Jvm.MethodName) prog_1_method_57_code (4 : Nat) (Option.some Jvm.ClassFile.FieldType.int)) ∈ lw_all := lw_g (lw_at lw_m4 72 rfl) rfl
theorem q862 : (Jvm.Cond.methodLink "BrookWeirs" (409 : Nat) ({ cls := "BrookWeirs$Brook", name := "setLatch", desc := "(IZZ)Z" } : Jvm.MethodName)) ∈ lw_all := lw_g (lw_at lw_m4 73 rfl) rfl
theorem q871 : (Jvm.Cond.instanceMethod ({ cls := "BrookWeirs", name := "frogs", desc := "(II)I" } : Jvm.MethodName)) ∈ lw_all := lw_g (lw_at lw_m4 82 rfl) rfl
theorem q872 : (Jvm.Cond.selects "BrookWeirs" ({ cls := "BrookWeirs", name := "frogs", desc := "(II)I" } : Jvm.MethodName) ({ cls := "BrookWeirs", name := "frogs", desc := "(II)I" } : Jvm.MethodName)) ∈ lw_all := lw_g (lw_at lw_m4 83 rfl) rfl
theorem q873 : (Jvm.Cond.code ({ cls := "BrookWeirs", name := "frogs", desc := "(II)I" } : Jvm.MethodName) prog_1_method_19_code (5 : Nat) (Option.some Jvm.ClassFile.FieldType.int)) ∈ lw_all := lw_g (lw_at lw_m4 84 rfl) rfl
theorem q878 : (Jvm.Cond.instanceMethod ({ cls := "BrookWeirs", name := "lay", desc := "(II)I" } : Jvm.MethodName)) ∈ lw_all := lw_g (lw_at lw_m4 89 rfl) rfl
theorem q879 : (Jvm.Cond.selects "BrookWeirs" ({ cls := "BrookWeirs", name := "lay", desc := "(II)I" } : Jvm.MethodName) ({ cls := "BrookWeirs", name := "lay", desc := "(II)I" } : Jvm.MethodName)) ∈ lw_all := lw_g (lw_at lw_m4 90 rfl) rfl
theorem q880 : (Jvm.Cond.code ({ cls := "BrookWeirs", name := "lay", desc := "(II)I" } : Jvm.MethodName) prog_1_method_21_code (3 : Nat) (Option.some Jvm.ClassFile.FieldType.int)) ∈ lw_all := lw_g (lw_at lw_m4 91 rfl) rfl
theorem q881 : (Jvm.Cond.static ({ cls := "BrookWeirs", name := "lambda$lay$3", desc := "(IILBrookWeirs$Brook;)I" } : Jvm.MethodName)) ∈ lw_all := lw_g (lw_at lw_m4 92 rfl) rfl
theorem q882 : (Jvm.Cond.code ({ cls := "BrookWeirs", name := "lambda$lay$3", desc := "(IILBrookWeirs$Brook;)I" } : Jvm.MethodName) prog_1_method_56_code (3 : Nat) (Option.some Jvm.ClassFile.FieldType.int)) ∈ lw_all := lw_g (lw_at lw_m4 93 rfl) rfl
theorem q883 : (Jvm.Cond.methodLink "BrookWeirs" (402 : Nat) ({ cls := "BrookWeirs", name := "eggsOf", desc := "(I)I" } : Jvm.MethodName)) ∈ lw_all := lw_g (lw_at lw_m4 94 rfl) rfl
theorem q884 : (Jvm.Cond.static ({ cls := "BrookWeirs", name := "eggsOf", desc := "(I)I" } : Jvm.MethodName)) ∈ lw_all := lw_g (lw_at lw_m4 95 rfl) rfl
theorem q885 : (Jvm.Cond.code ({ cls := "BrookWeirs", name := "eggsOf", desc := "(I)I" } : Jvm.MethodName) prog_1_method_20_code (1 : Nat) (Option.some Jvm.ClassFile.FieldType.int)) ∈ lw_all := lw_g (lw_at lw_m4 96 rfl) rfl
theorem q886 : (Jvm.Cond.methodLink "BrookWeirs" (405 : Nat) ({ cls := "BrookWeirs$Brook", name := "lay", desc := "(II)I" } : Jvm.MethodName)) ∈ lw_all := lw_g (lw_at lw_m4 97 rfl) rfl
theorem q898 : (Jvm.Cond.instanceMethod ({ cls := "BrookWeirs", name := "of", desc := "(II)I" } : Jvm.MethodName)) ∈ lw_all := lw_g (lw_at lw_m4 109 rfl) rfl
theorem q899 : (Jvm.Cond.selects "BrookWeirs" ({ cls := "BrookWeirs", name := "of", desc := "(II)I" } : Jvm.MethodName) ({ cls := "BrookWeirs", name := "of", desc := "(II)I" } : Jvm.MethodName)) ∈ lw_all := lw_g (lw_at lw_m4 110 rfl) rfl
theorem q900 : (Jvm.Cond.code ({ cls := "BrookWeirs", name := "of", desc := "(II)I" } : Jvm.MethodName) prog_1_method_23_code (4 : Nat) (Option.some Jvm.ClassFile.FieldType.int)) ∈ lw_all := lw_g (lw_at lw_m4 111 rfl) rfl
theorem q901 : (Jvm.Cond.methodLink "BrookWeirs" (203 : Nat) ({ cls := "BrookWeirs", name := "of", desc := "(LBrookWeirs$Brook;II)I" } : Jvm.MethodName)) ∈ lw_all := lw_g (lw_at lw_m4 112 rfl) rfl
theorem q902 : (Jvm.Cond.static ({ cls := "BrookWeirs", name := "of", desc := "(LBrookWeirs$Brook;II)I" } : Jvm.MethodName)) ∈ lw_all := lw_g (lw_at lw_m4 113 rfl) rfl
theorem q903 : (Jvm.Cond.code ({ cls := "BrookWeirs", name := "of", desc := "(LBrookWeirs$Brook;II)I" } : Jvm.MethodName) prog_1_method_22_code (6 : Nat) (Option.some Jvm.ClassFile.FieldType.int)) ∈ lw_all := lw_g (lw_at lw_m4 114 rfl) rfl
theorem q904 : (Jvm.Cond.methodLink "BrookWeirs" (167 : Nat) ({ cls := "BrookWeirs$Brook", name := "level", desc := "(I)I" } : Jvm.MethodName)) ∈ lw_all := lw_g (lw_at lw_m4 115 rfl) rfl
theorem q905 : (Jvm.Cond.methodLink "BrookWeirs" (174 : Nat) ({ cls := "BrookWeirs$Clutches", name := "in", desc := "(I)Ljava/lang/Iterable;" } : Jvm.MethodName)) ∈ lw_all := lw_g (lw_at lw_m4 116 rfl) rfl
theorem q924 : (Jvm.Cond.interfaceEntry "BrookWeirs" (180 : Nat)) ∈ lw_tbl := lw_at lw_m4 135 rfl
theorem q925 : (Jvm.Cond.methodLink "BrookWeirs" (180 : Nat) ({ cls := "java/lang/Iterable", name := "iterator", desc := "()Ljava/util/Iterator;" } : Jvm.MethodName)) ∈ lw_all := lw_g (lw_at lw_m4 136 rfl) rfl
theorem q998 : (Jvm.Cond.interfaceEntry "BrookWeirs" (186 : Nat)) ∈ lw_tbl := lw_at lw_m4 209 rfl
theorem q999 : (Jvm.Cond.methodLink "BrookWeirs" (186 : Nat) ({ cls := "java/util/Iterator", name := "hasNext", desc := "()Z" } : Jvm.MethodName)) ∈ lw_all := lw_g (lw_at lw_m4 210 rfl) rfl
theorem q1030 : (Jvm.Cond.interfaceEntry "BrookWeirs" (192 : Nat)) ∈ lw_tbl := lw_at lw_m5 1 rfl
theorem q1031 : (Jvm.Cond.methodLink "BrookWeirs" (192 : Nat) ({ cls := "java/util/Iterator", name := "next", desc := "()Ljava/lang/Object;" } : Jvm.MethodName)) ∈ lw_all := lw_g (lw_at lw_m5 2 rfl) rfl
theorem q1045 : (Jvm.Cond.static ({ cls := "BrookWeirs", name := "requireElement", desc := "(Z)V" } : Jvm.MethodName)) ∈ lw_all := lw_g (lw_at lw_m5 16 rfl) rfl
theorem q1046 : (Jvm.Cond.code ({ cls := "BrookWeirs", name := "requireElement", desc := "(Z)V" } : Jvm.MethodName) prog_1_method_5_code (1 : Nat) (Option.none : Option Jvm.ClassFile.FieldType)) ∈ lw_all := lw_g (lw_at lw_m5 17 rfl) rfl
theorem q1047 : (Jvm.Cond.classLink "BrookWeirs" (13 : Nat) "java/util/NoSuchElementException") ∈ lw_all := lw_g (lw_at lw_m5 18 rfl) rfl
theorem q1048 : (Jvm.Cond.methodLink "BrookWeirs" (15 : Nat) ({ cls := "java/util/NoSuchElementException", name := "<init>", desc := "()V" } : Jvm.MethodName)) ∈ lw_all := lw_g (lw_at lw_m5 19 rfl) rfl
theorem q1179 : (Jvm.Cond.classLink "BrookWeirs" (195 : Nat) "java/lang/Integer") ∈ lw_all := lw_g (lw_at lw_m5 150 rfl) rfl
theorem q1180 : (Jvm.Cond.methodLink "BrookWeirs" (197 : Nat) ({ cls := "java/lang/Integer", name := "intValue", desc := "()I" } : Jvm.MethodName)) ∈ lw_all := lw_g (lw_at lw_m5 151 rfl) rfl
theorem q1184 : (Jvm.Cond.methodLink "BrookWeirs" (200 : Nat) ({ cls := "BrookWeirs$Brook", name := "down", desc := "(I)I" } : Jvm.MethodName)) ∈ lw_all := lw_g (lw_at lw_m5 155 rfl) rfl
theorem q1189 : (Jvm.Cond.instanceMethod ({ cls := "BrookWeirs", name := "is", desc := "(II)Z" } : Jvm.MethodName)) ∈ lw_all := lw_g (lw_at lw_m5 160 rfl) rfl
theorem q1190 : (Jvm.Cond.selects "BrookWeirs" ({ cls := "BrookWeirs", name := "is", desc := "(II)Z" } : Jvm.MethodName) ({ cls := "BrookWeirs", name := "is", desc := "(II)Z" } : Jvm.MethodName)) ∈ lw_all := lw_g (lw_at lw_m5 161 rfl) rfl
theorem q1191 : (Jvm.Cond.code ({ cls := "BrookWeirs", name := "is", desc := "(II)Z" } : Jvm.MethodName) prog_1_method_24_code (4 : Nat) (Option.some Jvm.ClassFile.FieldType.boolean)) ∈ lw_all := lw_g (lw_at lw_m5 162 rfl) rfl
theorem q1192 : (Jvm.Cond.methodLink "BrookWeirs" (207 : Nat) ({ cls := "BrookWeirs$Brook", name := "isOpen", desc := "(I)Z" } : Jvm.MethodName)) ∈ lw_all := lw_g (lw_at lw_m5 163 rfl) rfl
theorem q1198 : (Jvm.Cond.instanceMethod ({ cls := "BrookWeirs", name := "clutch", desc := "(II)I" } : Jvm.MethodName)) ∈ lw_all := lw_g (lw_at lw_m5 169 rfl) rfl
theorem q1199 : (Jvm.Cond.selects "BrookWeirs" ({ cls := "BrookWeirs", name := "clutch", desc := "(II)I" } : Jvm.MethodName) ({ cls := "BrookWeirs", name := "clutch", desc := "(II)I" } : Jvm.MethodName)) ∈ lw_all := lw_g (lw_at lw_m5 170 rfl) rfl
theorem q1200 : (Jvm.Cond.code ({ cls := "BrookWeirs", name := "clutch", desc := "(II)I" } : Jvm.MethodName) prog_1_method_25_code (3 : Nat) (Option.some Jvm.ClassFile.FieldType.int)) ∈ lw_all := lw_g (lw_at lw_m5 171 rfl) rfl
theorem q1201 : (Jvm.Cond.methodLink "BrookWeirs" (226 : Nat) ({ cls := "BrookWeirs", name := "requireElement", desc := "(Z)V" } : Jvm.MethodName)) ∈ lw_all := lw_g (lw_at lw_m5 172 rfl) rfl
theorem q1206 : (Jvm.Cond.instanceMethod ({ cls := "BrookWeirs", name := "tell", desc := "(I)I" } : Jvm.MethodName)) ∈ lw_all := lw_g (lw_at lw_m5 177 rfl) rfl
theorem q1207 : (Jvm.Cond.selects "BrookWeirs" ({ cls := "BrookWeirs", name := "tell", desc := "(I)I" } : Jvm.MethodName) ({ cls := "BrookWeirs", name := "tell", desc := "(I)I" } : Jvm.MethodName)) ∈ lw_all := lw_g (lw_at lw_m5 178 rfl) rfl
theorem q1208 : (Jvm.Cond.code ({ cls := "BrookWeirs", name := "tell", desc := "(I)I" } : Jvm.MethodName) prog_1_method_27_code (2 : Nat) (Option.some Jvm.ClassFile.FieldType.int)) ∈ lw_all := lw_g (lw_at lw_m5 179 rfl) rfl
theorem q1209 : (Jvm.Cond.static ({ cls := "BrookWeirs", name := "lambda$tell$4", desc := "(ILBrookWeirs$Brook;)I" } : Jvm.MethodName)) ∈ lw_all := lw_g (lw_at lw_m5 180 rfl) rfl
theorem q1210 : (Jvm.Cond.code ({ cls := "BrookWeirs", name := "lambda$tell$4", desc := "(ILBrookWeirs$Brook;)I" } : Jvm.MethodName) prog_1_method_55_code (2 : Nat) (Option.some Jvm.ClassFile.FieldType.int)) ∈ lw_all := lw_g (lw_at lw_m5 181 rfl) rfl
theorem q1211 : (Jvm.Cond.methodLink "BrookWeirs" (396 : Nat) ({ cls := "BrookWeirs", name := "rainOf", desc := "(I)I" } : Jvm.MethodName)) ∈ lw_all := lw_g (lw_at lw_m5 182 rfl) rfl
theorem q1212 : (Jvm.Cond.static ({ cls := "BrookWeirs", name := "rainOf", desc := "(I)I" } : Jvm.MethodName)) ∈ lw_all := lw_g (lw_at lw_m5 183 rfl) rfl
theorem q1213 : (Jvm.Cond.code ({ cls := "BrookWeirs", name := "rainOf", desc := "(I)I" } : Jvm.MethodName) prog_1_method_26_code (1 : Nat) (Option.some Jvm.ClassFile.FieldType.int)) ∈ lw_all := lw_g (lw_at lw_m5 184 rfl) rfl
theorem q1214 : (Jvm.Cond.methodLink "BrookWeirs" (399 : Nat) ({ cls := "BrookWeirs$Brook", name := "tell", desc := "(I)I" } : Jvm.MethodName)) ∈ lw_all := lw_g (lw_at lw_m5 185 rfl) rfl
theorem q1222 : (Jvm.Cond.instanceMethod ({ cls := "BrookWeirs", name := "rain", desc := "(I)I" } : Jvm.MethodName)) ∈ lw_all := lw_g (lw_at lw_m5 193 rfl) rfl
theorem q1223 : (Jvm.Cond.selects "BrookWeirs" ({ cls := "BrookWeirs", name := "rain", desc := "(I)I" } : Jvm.MethodName) ({ cls := "BrookWeirs", name := "rain", desc := "(I)I" } : Jvm.MethodName)) ∈ lw_all := lw_g (lw_at lw_m5 194 rfl) rfl
theorem q1224 : (Jvm.Cond.code ({ cls := "BrookWeirs", name := "rain", desc := "(I)I" } : Jvm.MethodName) prog_1_method_28_code (2 : Nat) (Option.some Jvm.ClassFile.FieldType.int)) ∈ lw_all := lw_g (lw_at lw_m5 195 rfl) rfl
theorem q1229 : (Jvm.Cond.instanceMethod ({ cls := "BrookWeirs", name := "season", desc := "()I" } : Jvm.MethodName)) ∈ lw_all := lw_g (lw_at lw_m5 200 rfl) rfl
theorem q1230 : (Jvm.Cond.selects "BrookWeirs" ({ cls := "BrookWeirs", name := "season", desc := "()I" } : Jvm.MethodName) ({ cls := "BrookWeirs", name := "season", desc := "()I" } : Jvm.MethodName)) ∈ lw_all := lw_g (lw_at lw_m5 201 rfl) rfl
theorem q1231 : (Jvm.Cond.code ({ cls := "BrookWeirs", name := "season", desc := "()I" } : Jvm.MethodName) prog_1_method_30_code (1 : Nat) (Option.some Jvm.ClassFile.FieldType.int)) ∈ lw_all := lw_g (lw_at lw_m5 202 rfl) rfl
theorem q1232 : (Jvm.Cond.static ({ cls := "BrookWeirs", name := "lambda$season$6", desc := "(LBrookWeirs$Brook;)I" } : Jvm.MethodName)) ∈ lw_all := lw_g (lw_at lw_m5 203 rfl) rfl
theorem q1233 : (Jvm.Cond.code ({ cls := "BrookWeirs", name := "lambda$season$6", desc := "(LBrookWeirs$Brook;)I" } : Jvm.MethodName) prog_1_method_53_code (1 : Nat) (Option.some Jvm.ClassFile.FieldType.int)) ∈ lw_all := lw_g (lw_at lw_m5 204 rfl) rfl
theorem q1234 : (Jvm.Cond.methodLink "BrookWeirs" (393 : Nat) ({ cls := "BrookWeirs$Brook", name := "season", desc := "()I" } : Jvm.MethodName)) ∈ lw_all := lw_g (lw_at lw_m5 205 rfl) rfl
theorem q1243 : (Jvm.Cond.instanceMethod ({ cls := "BrookWeirs", name := "foretold", desc := "(III)I" } : Jvm.MethodName)) ∈ lw_all := lw_g (lw_at lw_m5 214 rfl) rfl
theorem q1244 : (Jvm.Cond.selects "BrookWeirs" ({ cls := "BrookWeirs", name := "foretold", desc := "(III)I" } : Jvm.MethodName) ({ cls := "BrookWeirs", name := "foretold", desc := "(III)I" } : Jvm.MethodName)) ∈ lw_all := lw_g (lw_at lw_m5 215 rfl) rfl
theorem q1245 : (Jvm.Cond.code ({ cls := "BrookWeirs", name := "foretold", desc := "(III)I" } : Jvm.MethodName) prog_1_method_31_code (5 : Nat) (Option.some Jvm.ClassFile.FieldType.int)) ∈ lw_all := lw_g (lw_at lw_m5 216 rfl) rfl
theorem q1246 : (Jvm.Cond.methodLink "BrookWeirs" (253 : Nat) ({ cls := "BrookWeirs$Brook", name := "pass", desc := "(I)LBrookWeirs$Brook;" } : Jvm.MethodName)) ∈ lw_all := lw_g (lw_at lw_m5 217 rfl) rfl
theorem q1251 : (Jvm.Cond.instanceMethod ({ cls := "BrookWeirs", name := "firstFlood", desc := "(I)I" } : Jvm.MethodName)) ∈ lw_all := lw_g (lw_at lw_m5 222 rfl) rfl
theorem q1252 : (Jvm.Cond.selects "BrookWeirs" ({ cls := "BrookWeirs", name := "firstFlood", desc := "(I)I" } : Jvm.MethodName) ({ cls := "BrookWeirs", name := "firstFlood", desc := "(I)I" } : Jvm.MethodName)) ∈ lw_all := lw_g (lw_at lw_m5 223 rfl) rfl
theorem q1253 : (Jvm.Cond.code ({ cls := "BrookWeirs", name := "firstFlood", desc := "(I)I" } : Jvm.MethodName) prog_1_method_32_code (5 : Nat) (Option.some Jvm.ClassFile.FieldType.int)) ∈ lw_all := lw_g (lw_at lw_m5 224 rfl) rfl
theorem q1258 : (Jvm.Cond.instanceMethod ({ cls := "BrookWeirs", name := "best", desc := "(ZIZ)I" } : Jvm.MethodName)) ∈ lw_all := lw_g (lw_at lw_m5 229 rfl) rfl
theorem q1259 : (Jvm.Cond.selects "BrookWeirs" ({ cls := "BrookWeirs", name := "best", desc := "(ZIZ)I" } : Jvm.MethodName) ({ cls := "BrookWeirs", name := "best", desc := "(ZIZ)I" } : Jvm.MethodName)) ∈ lw_all := lw_g (lw_at lw_m5 230 rfl) rfl
theorem q1260 : (Jvm.Cond.code ({ cls := "BrookWeirs", name := "best", desc := "(ZIZ)I" } : Jvm.MethodName) prog_1_method_34_code (5 : Nat) (Option.some Jvm.ClassFile.FieldType.int)) ∈ lw_all := lw_g (lw_at lw_m5 231 rfl) rfl
theorem q1261 : (Jvm.Cond.methodLink "BrookWeirs" (260 : Nat) ({ cls := "BrookWeirs", name := "side", desc := "(ZI)LBrookWeirs$Side;" } : Jvm.MethodName)) ∈ lw_all := lw_g (lw_at lw_m5 232 rfl) rfl
theorem q1262 : (Jvm.Cond.privateMethod ({ cls := "BrookWeirs", name := "side", desc := "(ZI)LBrookWeirs$Side;" } : Jvm.MethodName)) ∈ lw_tbl := lw_at lw_m5 233 rfl
theorem q1263 : (Jvm.Cond.instanceMethod ({ cls := "BrookWeirs", name := "side", desc := "(ZI)LBrookWeirs$Side;" } : Jvm.MethodName)) ∈ lw_all := lw_g (lw_at lw_m5 234 rfl) rfl
theorem q1264 : (Jvm.Cond.code ({ cls := "BrookWeirs", name := "side", desc := "(ZI)LBrookWeirs$Side;" } : Jvm.MethodName) prog_1_method_33_code (3 : Nat) (Option.some (Jvm.ClassFile.FieldType.object "BrookWeirs$Side"))) ∈ lw_all := lw_g (lw_at lw_m5 235 rfl) rfl
theorem q1265 : (Jvm.Cond.methodLink "BrookWeirs" (264 : Nat) ({ cls := "BrookWeirs$Side", name := "search", desc := "(LBrookWeirs$Brook;I)LBrookWeirs$Side;" } : Jvm.MethodName)) ∈ lw_all := lw_g (lw_at lw_m5 236 rfl) rfl
theorem q1270 : (Jvm.Cond.instanceMethod ({ cls := "BrookWeirs", name := "worth", desc := "(ZII)I" } : Jvm.MethodName)) ∈ lw_all := lw_g (lw_at lw_m6 1 rfl) rfl
theorem q1271 : (Jvm.Cond.selects "BrookWeirs" ({ cls := "BrookWeirs", name := "worth", desc := "(ZII)I" } : Jvm.MethodName) ({ cls := "BrookWeirs", name := "worth", desc := "(ZII)I" } : Jvm.MethodName)) ∈ lw_all := lw_g (lw_at lw_m6 2 rfl) rfl
theorem q1272 : (Jvm.Cond.code ({ cls := "BrookWeirs", name := "worth", desc := "(ZII)I" } : Jvm.MethodName) prog_1_method_35_code (5 : Nat) (Option.some Jvm.ClassFile.FieldType.int)) ∈ lw_all := lw_g (lw_at lw_m6 3 rfl) rfl
theorem q1273 : (Jvm.Cond.methodLink "BrookWeirs" (279 : Nat) ({ cls := "BrookWeirs", name := "requireIndex", desc := "(Z)V" } : Jvm.MethodName)) ∈ lw_all := lw_g (lw_at lw_m6 4 rfl) rfl
theorem q1274 : (Jvm.Cond.methodLink "BrookWeirs" (282 : Nat) ({ cls := "BrookWeirs$Side", name := "worth", desc := "(LBrookWeirs$Brook;II)I" } : Jvm.MethodName)) ∈ lw_all := lw_g (lw_at lw_m6 5 rfl) rfl
theorem q1279 : (Jvm.Cond.instanceMethod ({ cls := "BrookWeirs", name := "choose", desc := "(ZI)I" } : Jvm.MethodName)) ∈ lw_all := lw_g (lw_at lw_m6 10 rfl) rfl
theorem q1280 : (Jvm.Cond.selects "BrookWeirs" ({ cls := "BrookWeirs", name := "choose", desc := "(ZI)I" } : Jvm.MethodName) ({ cls := "BrookWeirs", name := "choose", desc := "(ZI)I" } : Jvm.MethodName)) ∈ lw_all := lw_g (lw_at lw_m6 11 rfl) rfl
theorem q1281 : (Jvm.Cond.code ({ cls := "BrookWeirs", name := "choose", desc := "(ZI)I" } : Jvm.MethodName) prog_1_method_36_code (4 : Nat) (Option.some Jvm.ClassFile.FieldType.int)) ∈ lw_all := lw_g (lw_at lw_m6 12 rfl) rfl
theorem q1282 : (Jvm.Cond.static ({ cls := "BrookWeirs", name := "lambda$choose$7", desc := "(LBrookWeirs$Side;ILBrookWeirs$Brook;)I" } : Jvm.MethodName)) ∈ lw_all := lw_g (lw_at lw_m6 13 rfl) rfl
theorem q1283 : (Jvm.Cond.code ({ cls := "BrookWeirs", name := "lambda$choose$7", desc := "(LBrookWeirs$Side;ILBrookWeirs$Brook;)I" } : Jvm.MethodName) prog_1_method_52_code (3 : Nat) (Option.some Jvm.ClassFile.FieldType.int)) ∈ lw_all := lw_g (lw_at lw_m6 14 rfl) rfl
theorem q1284 : (Jvm.Cond.methodLink "BrookWeirs" (389 : Nat) ({ cls := "BrookWeirs$Side", name := "choose", desc := "(LBrookWeirs$Brook;I)I" } : Jvm.MethodName)) ∈ lw_all := lw_g (lw_at lw_m6 15 rfl) rfl
theorem q1289 : (Jvm.Cond.instanceMethod ({ cls := "BrookWeirs", name := "rest", desc := "(I)I" } : Jvm.MethodName)) ∈ lw_all := lw_g (lw_at lw_m6 20 rfl) rfl
theorem q1290 : (Jvm.Cond.selects "BrookWeirs" ({ cls := "BrookWeirs", name := "rest", desc := "(I)I" } : Jvm.MethodName) ({ cls := "BrookWeirs", name := "rest", desc := "(I)I" } : Jvm.MethodName)) ∈ lw_all := lw_g (lw_at lw_m6 21 rfl) rfl
theorem q1291 : (Jvm.Cond.code ({ cls := "BrookWeirs", name := "rest", desc := "(I)I" } : Jvm.MethodName) prog_1_method_37_code (4 : Nat) (Option.some Jvm.ClassFile.FieldType.int)) ∈ lw_all := lw_g (lw_at lw_m6 22 rfl) rfl
theorem q1292 : (Jvm.Cond.classLink "BrookWeirs" (288 : Nat) "BrookWeirs$1Rounds") ∈ lw_all := lw_g (lw_at lw_m6 23 rfl) rfl
theorem q1294 : (Jvm.Cond.methodLink "BrookWeirs" (290 : Nat) ({ cls := "BrookWeirs$1Rounds", name := "<init>", desc := "(LBrookWeirs;I)V" } : Jvm.MethodName)) ∈ lw_all := lw_g (lw_at lw_m6 25 rfl) rfl
theorem q1316 : (Jvm.Cond.fieldLinkNest "BrookWeirs" (301 : Nat) "BrookWeirs$1Rounds" "draft" "LBrookWeirs$Brook;" "BrookWeirs") ∈ lw_tbl := lw_at lw_m6 47 rfl
theorem q1319 : (Jvm.Cond.fieldLinkNest "BrookWeirs" (304 : Nat) "BrookWeirs$1Rounds" "round" "I" "BrookWeirs") ∈ lw_tbl := lw_at lw_m6 50 rfl
theorem q1321 : (Jvm.Cond.fieldLinkNest "BrookWeirs" (297 : Nat) "BrookWeirs$1Rounds" "isAtRest" "Z" "BrookWeirs") ∈ lw_tbl := lw_at lw_m6 52 rfl
theorem q1337 : (Jvm.Cond.methodLink "BrookWeirs" (293 : Nat) ({ cls := "BrookWeirs$1Rounds", name := "hasNext", desc := "()Z" } : Jvm.MethodName)) ∈ lw_all := lw_g (lw_at lw_m6 68 rfl) rfl
theorem q1338 : (Jvm.Cond.methodLink "BrookWeirs" (294 : Nat) ({ cls := "BrookWeirs$1Rounds", name := "next", desc := "()Ljava/lang/Integer;" } : Jvm.MethodName)) ∈ lw_all := lw_g (lw_at lw_m6 69 rfl) rfl
theorem q1343 : (Jvm.Cond.instanceMethod ({ cls := "BrookWeirs", name := "number", desc := "(I)I" } : Jvm.MethodName)) ∈ lw_all := lw_g (lw_at lw_m6 74 rfl) rfl
theorem q1344 : (Jvm.Cond.selects "BrookWeirs" ({ cls := "BrookWeirs", name := "number", desc := "(I)I" } : Jvm.MethodName) ({ cls := "BrookWeirs", name := "number", desc := "(I)I" } : Jvm.MethodName)) ∈ lw_all := lw_g (lw_at lw_m6 75 rfl) rfl
theorem q1345 : (Jvm.Cond.code ({ cls := "BrookWeirs", name := "number", desc := "(I)I" } : Jvm.MethodName) prog_1_method_40_code (2 : Nat) (Option.some Jvm.ClassFile.FieldType.int)) ∈ lw_all := lw_g (lw_at lw_m6 76 rfl) rfl
theorem q1346 : (Jvm.Cond.methodLink "BrookWeirs" (329 : Nat) ({ cls := "BrookWeirs$Clutches", name := "eggs", desc := "()I" } : Jvm.MethodName)) ∈ lw_all := lw_g (lw_at lw_m6 77 rfl) rfl
theorem q1347 : (Jvm.Cond.methodLink "BrookWeirs" (340 : Nat) ({ cls := "java/lang/StringBuilder", name := "length", desc := "()I" } : Jvm.MethodName)) ∈ lw_all := lw_g (lw_at lw_m6 78 rfl) rfl
theorem q1372 : (Jvm.Cond.instanceMethod ({ cls := "BrookWeirs", name := "meanLevel", desc := "()D" } : Jvm.MethodName)) ∈ lw_all := lw_g (lw_at lw_m6 103 rfl) rfl
theorem q1373 : (Jvm.Cond.selects "BrookWeirs" ({ cls := "BrookWeirs", name := "meanLevel", desc := "()D" } : Jvm.MethodName) ({ cls := "BrookWeirs", name := "meanLevel", desc := "()D" } : Jvm.MethodName)) ∈ lw_all := lw_g (lw_at lw_m6 104 rfl) rfl
theorem q1374 : (Jvm.Cond.code ({ cls := "BrookWeirs", name := "meanLevel", desc := "()D" } : Jvm.MethodName) prog_1_method_41_code (3 : Nat) (Option.some Jvm.ClassFile.FieldType.double)) ∈ lw_all := lw_g (lw_at lw_m6 105 rfl) rfl
theorem q1375 : (Jvm.Cond.classLink "BrookWeirs" (343 : Nat) "java/lang/ArithmeticException") ∈ lw_all := lw_g (lw_at lw_m6 106 rfl) rfl
theorem q1376 : (Jvm.Cond.methodLink "BrookWeirs" (345 : Nat) ({ cls := "java/lang/ArithmeticException", name := "<init>", desc := "()V" } : Jvm.MethodName)) ∈ lw_all := lw_g (lw_at lw_m6 107 rfl) rfl
theorem q1384 : (Jvm.Cond.instanceMethod ({ cls := "BrookWeirs", name := "silence", desc := "()F" } : Jvm.MethodName)) ∈ lw_all := lw_g (lw_at lw_m6 115 rfl) rfl
theorem q1385 : (Jvm.Cond.selects "BrookWeirs" ({ cls := "BrookWeirs", name := "silence", desc := "()F" } : Jvm.MethodName) ({ cls := "BrookWeirs", name := "silence", desc := "()F" } : Jvm.MethodName)) ∈ lw_all := lw_g (lw_at lw_m6 116 rfl) rfl
theorem q1386 : (Jvm.Cond.code ({ cls := "BrookWeirs", name := "silence", desc := "()F" } : Jvm.MethodName) prog_1_method_42_code (1 : Nat) (Option.some Jvm.ClassFile.FieldType.float)) ∈ lw_all := lw_g (lw_at lw_m6 117 rfl) rfl
theorem q1392 : (Jvm.Cond.instanceMethod ({ cls := "BrookWeirs", name := "feed", desc := "(C)I" } : Jvm.MethodName)) ∈ lw_all := lw_g (lw_at lw_m6 123 rfl) rfl
theorem q1393 : (Jvm.Cond.selects "BrookWeirs" ({ cls := "BrookWeirs", name := "feed", desc := "(C)I" } : Jvm.MethodName) ({ cls := "BrookWeirs", name := "feed", desc := "(C)I" } : Jvm.MethodName)) ∈ lw_all := lw_g (lw_at lw_m6 124 rfl) rfl
theorem q1394 : (Jvm.Cond.code ({ cls := "BrookWeirs", name := "feed", desc := "(C)I" } : Jvm.MethodName) prog_1_method_43_code (2 : Nat) (Option.some Jvm.ClassFile.FieldType.int)) ∈ lw_all := lw_g (lw_at lw_m6 125 rfl) rfl
theorem q1395 : (Jvm.Cond.methodLink "BrookWeirs" (346 : Nat) ({ cls := "BrookWeirs", name := "requireState", desc := "(Z)V" } : Jvm.MethodName)) ∈ lw_all := lw_g (lw_at lw_m6 126 rfl) rfl
theorem q1396 : (Jvm.Cond.static ({ cls := "BrookWeirs", name := "requireState", desc := "(Z)V" } : Jvm.MethodName)) ∈ lw_all := lw_g (lw_at lw_m6 127 rfl) rfl
theorem q1397 : (Jvm.Cond.code ({ cls := "BrookWeirs", name := "requireState", desc := "(Z)V" } : Jvm.MethodName) prog_1_method_4_code (1 : Nat) (Option.none : Option Jvm.ClassFile.FieldType)) ∈ lw_all := lw_g (lw_at lw_m6 128 rfl) rfl
theorem q1398 : (Jvm.Cond.classLink "BrookWeirs" (10 : Nat) "java/lang/IllegalStateException") ∈ lw_all := lw_g (lw_at lw_m6 129 rfl) rfl
theorem q1399 : (Jvm.Cond.methodLink "BrookWeirs" (12 : Nat) ({ cls := "java/lang/IllegalStateException", name := "<init>", desc := "()V" } : Jvm.MethodName)) ∈ lw_all := lw_g (lw_at lw_m6 130 rfl) rfl
theorem q1403 : (Jvm.Cond.methodLink "BrookWeirs" (349 : Nat) ({ cls := "java/lang/StringBuilder", name := "append", desc := "(C)Ljava/lang/StringBuilder;" } : Jvm.MethodName)) ∈ lw_all := lw_g (lw_at lw_m6 134 rfl) rfl
theorem q1494 : (Jvm.Cond.instanceMethod ({ cls := "BrookWeirs", name := "read", desc := "()I" } : Jvm.MethodName)) ∈ lw_all := lw_g (lw_at lw_m6 225 rfl) rfl
theorem q1495 : (Jvm.Cond.selects "BrookWeirs" ({ cls := "BrookWeirs", name := "read", desc := "()I" } : Jvm.MethodName) ({ cls := "BrookWeirs", name := "read", desc := "()I" } : Jvm.MethodName)) ∈ lw_all := lw_g (lw_at lw_m6 226 rfl) rfl
theorem q1496 : (Jvm.Cond.code ({ cls := "BrookWeirs", name := "read", desc := "()I" } : Jvm.MethodName) prog_1_method_46_code (7 : Nat) (Option.some Jvm.ClassFile.FieldType.int)) ∈ lw_all := lw_g (lw_at lw_m6 227 rfl) rfl
theorem q1497 : (Jvm.Cond.methodLink "BrookWeirs" (368 : Nat) ({ cls := "BrookWeirs", name := "taken", desc := "()Ljava/util/List;" } : Jvm.MethodName)) ∈ lw_all := lw_g (lw_at lw_m6 228 rfl) rfl
theorem q1498 : (Jvm.Cond.privateMethod ({ cls := "BrookWeirs", name := "taken", desc := "()Ljava/util/List;" } : Jvm.MethodName)) ∈ lw_tbl := lw_at lw_m6 229 rfl
theorem q1499 : (Jvm.Cond.instanceMethod ({ cls := "BrookWeirs", name := "taken", desc := "()Ljava/util/List;" } : Jvm.MethodName)) ∈ lw_all := lw_g (lw_at lw_m6 230 rfl) rfl
theorem q1500 : (Jvm.Cond.codeWith ({ cls := "BrookWeirs", name := "taken", desc := "()Ljava/util/List;" } : Jvm.MethodName) prog_1_method_44_code (4 : Nat) (Option.some (Jvm.ClassFile.FieldType.object "java/util/List")) [((0 : Nat), (12 : Nat), (22 : Nat), (363 : Nat)), ((0 : Nat), (12 : Nat), (43 : Nat), (0 : Nat)), ((22 : Nat), (33 : Nat), (43 : Nat), (0 : Nat))]) ∈ lw_all := lw_g (lw_at lw_m6 231 rfl) rfl
theorem q1501 : (Jvm.Cond.classLink "BrookWeirs" (363 : Nat) "BrookWeirs$FaultException") ∈ lw_all := lw_g (lw_at lw_m6 232 rfl) rfl
theorem q1502 : (Jvm.Cond.classLink "BrookWeirs" (353 : Nat) "BrookWeirs$Parser") ∈ lw_all := lw_g (lw_at lw_m6 233 rfl) rfl
theorem q1504 : (Jvm.Cond.methodLinkNest "BrookWeirs" (355 : Nat) ({ cls := "BrookWeirs$Parser", name := "<init>", desc := "(LBrookWeirs;)V" } : Jvm.MethodName) "BrookWeirs") ∈ lw_tbl := lw_at lw_m6 235 rfl
theorem q1515 : (Jvm.Cond.methodLink "BrookWeirs" (356 : Nat) ({ cls := "BrookWeirs$Parser", name := "text", desc := "()Ljava/util/List;" } : Jvm.MethodName)) ∈ lw_all := lw_g (lw_at lw_m7 6 rfl) rfl
theorem q1597 : (Jvm.Cond.fieldLinkNest "BrookWeirs" (365 : Nat) "BrookWeirs$FaultException" "position" "I" "BrookWeirs") ∈ lw_tbl := lw_at lw_m7 88 rfl
theorem q1659 : (Jvm.Cond.methodLink "BrookWeirs" (360 : Nat) ({ cls := "java/lang/StringBuilder", name := "setLength", desc := "(I)V" } : Jvm.MethodName)) ∈ lw_all := lw_g (lw_at lw_m7 150 rfl) rfl
theorem q1837 : (Jvm.Cond.interfaceEntry "BrookWeirs" (370 : Nat)) ∈ lw_tbl := lw_at lw_m8 88 rfl
theorem q1838 : (Jvm.Cond.methodLink "BrookWeirs" (370 : Nat) ({ cls := "java/util/List", name := "iterator", desc := "()Ljava/util/Iterator;" } : Jvm.MethodName)) ∈ lw_all := lw_g (lw_at lw_m8 89 rfl) rfl
theorem q1842 : (Jvm.Cond.classLink "BrookWeirs" (98 : Nat) "BrookWeirs$Deed") ∈ lw_all := lw_g (lw_at lw_m8 93 rfl) rfl
theorem q1843 : (Jvm.Cond.methodLink "BrookWeirs" (373 : Nat) ({ cls := "BrookWeirs", name := "why", desc := "(LBrookWeirs$Brook;LBrookWeirs$Deed;)I" } : Jvm.MethodName)) ∈ lw_all := lw_g (lw_at lw_m8 94 rfl) rfl
theorem q1844 : (Jvm.Cond.static ({ cls := "BrookWeirs", name := "why", desc := "(LBrookWeirs$Brook;LBrookWeirs$Deed;)I" } : Jvm.MethodName)) ∈ lw_all := lw_g (lw_at lw_m8 95 rfl) rfl
theorem q1845 : (Jvm.Cond.codeWith ({ cls := "BrookWeirs", name := "why", desc := "(LBrookWeirs$Brook;LBrookWeirs$Deed;)I" } : Jvm.MethodName) prog_1_method_45_code (3 : Nat) (Option.some Jvm.ClassFile.FieldType.int) [((0 : Nat), (9 : Nat), (10 : Nat), (16 : Nat)), ((0 : Nat), (9 : Nat), (16 : Nat), (7 : Nat)), ((0 : Nat), (9 : Nat), (16 : Nat), (1 : Nat))]) ∈ lw_all := lw_g (lw_at lw_m8 96 rfl) rfl
theorem q1850 : (Jvm.Cond.instanceMethod ({ cls := "BrookWeirs", name := "faultPosition", desc := "()I" } : Jvm.MethodName)) ∈ lw_all := lw_g (lw_at lw_m8 101 rfl) rfl
theorem q1851 : (Jvm.Cond.selects "BrookWeirs" ({ cls := "BrookWeirs", name := "faultPosition", desc := "()I" } : Jvm.MethodName) ({ cls := "BrookWeirs", name := "faultPosition", desc := "()I" } : Jvm.MethodName)) ∈ lw_all := lw_g (lw_at lw_m8 102 rfl) rfl
theorem q1852 : (Jvm.Cond.code ({ cls := "BrookWeirs", name := "faultPosition", desc := "()I" } : Jvm.MethodName) prog_1_method_47_code (1 : Nat) (Option.some Jvm.ClassFile.FieldType.int)) ∈ lw_all := lw_g (lw_at lw_m8 103 rfl) rfl
theorem q1857 : (Jvm.Cond.instanceMethod ({ cls := "BrookWeirs", name := "refusal", desc := "(Z)I" } : Jvm.MethodName)) ∈ lw_all := lw_g (lw_at lw_m8 108 rfl) rfl
theorem q1858 : (Jvm.Cond.selects "BrookWeirs" ({ cls := "BrookWeirs", name := "refusal", desc := "(Z)I" } : Jvm.MethodName) ({ cls := "BrookWeirs", name := "refusal", desc := "(Z)I" } : Jvm.MethodName)) ∈ lw_all := lw_g (lw_at lw_m8 109 rfl) rfl
theorem q1859 : (Jvm.Cond.code ({ cls := "BrookWeirs", name := "refusal", desc := "(Z)I" } : Jvm.MethodName) prog_1_method_48_code (2 : Nat) (Option.some Jvm.ClassFile.FieldType.int)) ∈ lw_all := lw_g (lw_at lw_m8 110 rfl) rfl
theorem q1864 : (Jvm.Cond.instanceMethod ({ cls := "BrookWeirs", name := "undo", desc := "()I" } : Jvm.MethodName)) ∈ lw_all := lw_g (lw_at lw_m8 115 rfl) rfl
theorem q1865 : (Jvm.Cond.selects "BrookWeirs" ({ cls := "BrookWeirs", name := "undo", desc := "()I" } : Jvm.MethodName) ({ cls := "BrookWeirs", name := "undo", desc := "()I" } : Jvm.MethodName)) ∈ lw_all := lw_g (lw_at lw_m8 116 rfl) rfl
theorem q1866 : (Jvm.Cond.code ({ cls := "BrookWeirs", name := "undo", desc := "()I" } : Jvm.MethodName) prog_1_method_49_code (1 : Nat) (Option.some Jvm.ClassFile.FieldType.int)) ∈ lw_all := lw_g (lw_at lw_m8 117 rfl) rfl
theorem q1867 : (Jvm.Cond.methodLink "BrookWeirs" (377 : Nat) ({ cls := "java/util/ArrayDeque", name := "isEmpty", desc := "()Z" } : Jvm.MethodName)) ∈ lw_all := lw_g (lw_at lw_m8 118 rfl) rfl
theorem q1871 : (Jvm.Cond.methodLink "BrookWeirs" (380 : Nat) ({ cls := "java/util/ArrayDeque", name := "pop", desc := "()Ljava/lang/Object;" } : Jvm.MethodName)) ∈ lw_all := lw_g (lw_at lw_m8 122 rfl) rfl
theorem q1888 : (Jvm.Cond.instanceMethod ({ cls := "BrookWeirs", name := "restoreSnapshot", desc := "()I" } : Jvm.MethodName)) ∈ lw_all := lw_g (lw_at lw_m8 139 rfl) rfl
theorem q1889 : (Jvm.Cond.selects "BrookWeirs" ({ cls := "BrookWeirs", name := "restoreSnapshot", desc := "()I" } : Jvm.MethodName) ({ cls := "BrookWeirs", name := "restoreSnapshot", desc := "()I" } : Jvm.MethodName)) ∈ lw_all := lw_g (lw_at lw_m8 140 rfl) rfl
theorem q1890 : (Jvm.Cond.code ({ cls := "BrookWeirs", name := "restoreSnapshot", desc := "()I" } : Jvm.MethodName) prog_1_method_51_code (1 : Nat) (Option.some Jvm.ClassFile.FieldType.int)) ∈ lw_all := lw_g (lw_at lw_m8 141 rfl) rfl
theorem q1891 : (Jvm.Cond.methodLink "BrookWeirs" (386 : Nat) ({ cls := "java/util/ArrayDeque", name := "clear", desc := "()V" } : Jvm.MethodName)) ∈ lw_all := lw_g (lw_at lw_m8 142 rfl) rfl
theorem q2330 : (Jvm.Cond.castable "BrookWeirs" "java/lang/Object") ∈ lw_tbl := lw_at lw_m10 101 rfl
theorem in_X1 : ∀ w ∈ wsX10, w ∈ lw_all := lw_in wsX10 [375, 377, 379, 381, 383, 385, 387, 389, 391, 393] (by decide +kernel) (by decide +kernel)

/-! BrookWeirs$Clutches$1$1 -/
def RX10 : String := "BrookWeirs$Clutches$1$1"
def TX10 : u_T := fun k => match k with
  | 0 => ("BrookWeirs$Clutches$1$1", "next", "I", false)
  | _ => ("BrookWeirs$Clutches$1$1", "this$1", "LBrookWeirs$Clutches$1;", true)
def tyX10 : Nat → FieldType := fun k => match k with
  | 0 => .int
  | _ => .object "BrookWeirs$Clutches$1"
abbrev wsX100 : List Cond := u_ws RX10 TX10 2
theorem nmX10 : ∀ a, a < 2 → ∀ b, b < 2 → a ≠ b → (TX10 a).2.1 ≠ (TX10 b).2.1 := by decide +kernel
theorem tyX10_ok : ∀ k, k < 2 → parseFieldDescriptor (TX10 k).2.2.1 = some (tyX10 k) := by decide +kernel
abbrev cX10_init : ByteArray := prog_6_method_1_code
def yX10_init : MethodName := ⟨RX10, "<init>", "(LBrookWeirs$Clutches$1;)V"⟩
abbrev cX10_hasNext : ByteArray := prog_6_method_3_code
def yX10_hasNext : MethodName := ⟨RX10, "hasNext", "()Z"⟩
abbrev cX10_search : ByteArray := prog_6_method_2_code
def yX10_search : MethodName := ⟨RX10, "search", "()V"⟩
abbrev cX10_next : ByteArray := prog_6_method_5_code
def yX10_next : MethodName := ⟨RX10, "next", "()Ljava/lang/Object;"⟩
abbrev cX10_next_2 : ByteArray := prog_6_method_4_code
def yX10_next_2 : MethodName := ⟨RX10, "next", "()Ljava/lang/Integer;"⟩
theorem q97 : (Jvm.Cond.initialized "BrookWeirs$Clutches$1$1") ∈ lw_all := lw_g (lw_at lw_m1 28 rfl) rfl
theorem q136 : (Jvm.Cond.fieldLinkNest "BrookWeirs$Clutches$1$1" (28 : Nat) "BrookWeirs$Clutches" "pool" "[I" "BrookWeirs") ∈ lw_tbl := lw_at lw_m1 67 rfl
theorem q140 : (Jvm.Cond.fieldLinkNest "BrookWeirs$Clutches$1$1" (48 : Nat) "BrookWeirs$Clutches" "eggs" "[I" "BrookWeirs") ∈ lw_tbl := lw_at lw_m1 71 rfl
theorem q149 : (Jvm.Cond.fieldLinkNest "BrookWeirs$Clutches$1$1" (23 : Nat) "BrookWeirs$Clutches" "many" "I" "BrookWeirs") ∈ lw_tbl := lw_at lw_m1 80 rfl
theorem q653 : (Jvm.Cond.selects "BrookWeirs$Clutches$1$1" ({ cls := "java/lang/Object", name := "getClass", desc := "()Ljava/lang/Class;" } : Jvm.MethodName) ({ cls := "java/lang/Object", name := "getClass", desc := "()Ljava/lang/Class;" } : Jvm.MethodName)) ∈ lw_all := lw_g (lw_at lw_m3 104 rfl) rfl
theorem q916 : (Jvm.Cond.fieldLink "BrookWeirs$Clutches$1$1" (32 : Nat) "BrookWeirs$Clutches$1" "val$at" "I") ∈ lw_all := lw_g (lw_at lw_m4 127 rfl) rfl
theorem q918 : (Jvm.Cond.fieldLink "BrookWeirs$Clutches$1$1" (17 : Nat) "BrookWeirs$Clutches$1" "this$0" "LBrookWeirs$Clutches;") ∈ lw_all := lw_g (lw_at lw_m4 129 rfl) rfl
theorem q935 : (Jvm.Cond.instantiable "BrookWeirs$Clutches$1$1" (2 : Nat)) ∈ lw_all := lw_g (lw_at lw_m4 146 rfl) rfl
theorem q937 : (Jvm.Cond.instanceMethod ({ cls := "BrookWeirs$Clutches$1$1", name := "<init>", desc := "(LBrookWeirs$Clutches$1;)V" } : Jvm.MethodName)) ∈ lw_all := lw_g (lw_at lw_m4 148 rfl) rfl
theorem q938 : (Jvm.Cond.code ({ cls := "BrookWeirs$Clutches$1$1", name := "<init>", desc := "(LBrookWeirs$Clutches$1;)V" } : Jvm.MethodName) prog_6_method_1_code (2 : Nat) (Option.none : Option Jvm.ClassFile.FieldType)) ∈ lw_all := lw_g (lw_at lw_m4 149 rfl) rfl
theorem q939 : (Jvm.Cond.methodLink "BrookWeirs$Clutches$1$1" (7 : Nat) ({ cls := "java/lang/Object", name := "<init>", desc := "()V" } : Jvm.MethodName)) ∈ lw_all := lw_g (lw_at lw_m4 150 rfl) rfl
theorem q940 : (Jvm.Cond.fieldLink "BrookWeirs$Clutches$1$1" (13 : Nat) "BrookWeirs$Clutches$1$1" "next" "I") ∈ lw_all := lw_g (lw_at lw_m4 151 rfl) rfl
theorem q941 : (Jvm.Cond.fieldLink "BrookWeirs$Clutches$1$1" (1 : Nat) "BrookWeirs$Clutches$1$1" "this$1" "LBrookWeirs$Clutches$1;") ∈ lw_all := lw_g (lw_at lw_m4 152 rfl) rfl
theorem q942 : (Jvm.Cond.lays "BrookWeirs$Clutches$1$1" "BrookWeirs$Clutches$1$1" "next" "I") ∈ lw_all := lw_g (lw_at lw_m4 153 rfl) rfl
theorem q943 : (Jvm.Cond.soleField "BrookWeirs$Clutches$1$1" "next") ∈ lw_all := lw_g (lw_at lw_m4 154 rfl) rfl
theorem q944 : (Jvm.Cond.laysFinal "BrookWeirs$Clutches$1$1" "BrookWeirs$Clutches$1$1" "this$1" "LBrookWeirs$Clutches$1;") ∈ lw_all := lw_g (lw_at lw_m4 155 rfl) rfl
theorem q945 : (Jvm.Cond.soleField "BrookWeirs$Clutches$1$1" "this$1") ∈ lw_all := lw_g (lw_at lw_m4 156 rfl) rfl
theorem q946 : (Jvm.Cond.superclass "BrookWeirs$Clutches$1$1" "java/lang/Object") ∈ lw_all := lw_g (lw_at lw_m4 157 rfl) rfl
theorem q1008 : (Jvm.Cond.castable "BrookWeirs$Clutches$1$1" "java/util/Iterator") ∈ lw_tbl := lw_at lw_m4 219 rfl
theorem q1009 : (Jvm.Cond.selects "BrookWeirs$Clutches$1$1" ({ cls := "java/util/Iterator", name := "hasNext", desc := "()Z" } : Jvm.MethodName) ({ cls := "BrookWeirs$Clutches$1$1", name := "hasNext", desc := "()Z" } : Jvm.MethodName)) ∈ lw_all := lw_g (lw_at lw_m4 220 rfl) rfl
theorem q1010 : (Jvm.Cond.unhidden "BrookWeirs$Clutches$1$1" "hasNext" "()Z") ∈ lw_tbl := lw_at lw_m4 221 rfl
theorem q1011 : (Jvm.Cond.instanceMethod ({ cls := "BrookWeirs$Clutches$1$1", name := "hasNext", desc := "()Z" } : Jvm.MethodName)) ∈ lw_all := lw_g (lw_at lw_m4 222 rfl) rfl
theorem q1012 : (Jvm.Cond.publicMethod ({ cls := "BrookWeirs$Clutches$1$1", name := "hasNext", desc := "()Z" } : Jvm.MethodName)) ∈ lw_tbl := lw_at lw_m4 223 rfl
theorem q1013 : (Jvm.Cond.code ({ cls := "BrookWeirs$Clutches$1$1", name := "hasNext", desc := "()Z" } : Jvm.MethodName) prog_6_method_3_code (1 : Nat) (Option.some Jvm.ClassFile.FieldType.boolean)) ∈ lw_all := lw_g (lw_at lw_m4 224 rfl) rfl
theorem q1014 : (Jvm.Cond.methodLink "BrookWeirs$Clutches$1$1" (35 : Nat) ({ cls := "BrookWeirs$Clutches$1$1", name := "search", desc := "()V" } : Jvm.MethodName)) ∈ lw_all := lw_g (lw_at lw_m4 225 rfl) rfl
theorem q1015 : (Jvm.Cond.privateMethod ({ cls := "BrookWeirs$Clutches$1$1", name := "search", desc := "()V" } : Jvm.MethodName)) ∈ lw_tbl := lw_at lw_m4 226 rfl
theorem q1016 : (Jvm.Cond.instanceMethod ({ cls := "BrookWeirs$Clutches$1$1", name := "search", desc := "()V" } : Jvm.MethodName)) ∈ lw_all := lw_g (lw_at lw_m4 227 rfl) rfl
theorem q1017 : (Jvm.Cond.code ({ cls := "BrookWeirs$Clutches$1$1", name := "search", desc := "()V" } : Jvm.MethodName) prog_6_method_2_code (1 : Nat) (Option.none : Option Jvm.ClassFile.FieldType)) ∈ lw_all := lw_g (lw_at lw_m4 228 rfl) rfl
theorem q1143 : (Jvm.Cond.selects "BrookWeirs$Clutches$1$1" ({ cls := "java/util/Iterator", name := "next", desc := "()Ljava/lang/Object;" } : Jvm.MethodName) ({ cls := "BrookWeirs$Clutches$1$1", name := "next", desc := "()Ljava/lang/Object;" } : Jvm.MethodName)) ∈ lw_all := lw_g (lw_at lw_m5 114 rfl) rfl
theorem q1144 : (Jvm.Cond.unhidden "BrookWeirs$Clutches$1$1" "next" "()Ljava/lang/Object;") ∈ lw_tbl := lw_at lw_m5 115 rfl
theorem q1145 : (Jvm.Cond.instanceMethod ({ cls := "BrookWeirs$Clutches$1$1", name := "next", desc := "()Ljava/lang/Object;" } : Jvm.MethodName)) ∈ lw_all := lw_g (lw_at lw_m5 116 rfl) rfl
theorem q1146 : (Jvm.Cond.publicMethod ({ cls := "BrookWeirs$Clutches$1$1", name := "next", desc := "()Ljava/lang/Object;" } : Jvm.MethodName)) ∈ lw_tbl := lw_at lw_m5 117 rfl
theorem q1147 : (Jvm.Cond.code ({ cls := "BrookWeirs$Clutches$1$1", name := "next", desc := "()Ljava/lang/Object;" } : Jvm.MethodName) prog_6_method_5_code (1 : Nat) (Option.some (Jvm.ClassFile.FieldType.object "java/lang/Object"))) ∈ lw_all := lw_g (lw_at lw_m5 118 rfl) rfl
theorem q1148 : (Jvm.Cond.methodLink "BrookWeirs$Clutches$1$1" (57 : Nat) ({ cls := "BrookWeirs$Clutches$1$1", name := "next", desc := "()Ljava/lang/Integer;" } : Jvm.MethodName)) ∈ lw_all := lw_g (lw_at lw_m5 119 rfl) rfl
theorem q1149 : (Jvm.Cond.instanceMethod ({ cls := "BrookWeirs$Clutches$1$1", name := "next", desc := "()Ljava/lang/Integer;" } : Jvm.MethodName)) ∈ lw_all := lw_g (lw_at lw_m5 120 rfl) rfl
theorem q1150 : (Jvm.Cond.selects "BrookWeirs$Clutches$1$1" ({ cls := "BrookWeirs$Clutches$1$1", name := "next", desc := "()Ljava/lang/Integer;" } : Jvm.MethodName) ({ cls := "BrookWeirs$Clutches$1$1", name := "next", desc := "()Ljava/lang/Integer;" } : Jvm.MethodName)) ∈ lw_all := lw_g (lw_at lw_m5 121 rfl) rfl
theorem q1151 : (Jvm.Cond.code ({ cls := "BrookWeirs$Clutches$1$1", name := "next", desc := "()Ljava/lang/Integer;" } : Jvm.MethodName) prog_6_method_4_code (1 : Nat) (Option.some (Jvm.ClassFile.FieldType.object "java/lang/Integer"))) ∈ lw_all := lw_g (lw_at lw_m5 122 rfl) rfl
theorem q1152 : (Jvm.Cond.methodLink "BrookWeirs$Clutches$1$1" (38 : Nat) ({ cls := "BrookWeirs$Clutches$1$1", name := "hasNext", desc := "()Z" } : Jvm.MethodName)) ∈ lw_all := lw_g (lw_at lw_m5 123 rfl) rfl
theorem q1153 : (Jvm.Cond.methodLinkNest "BrookWeirs$Clutches$1$1" (42 : Nat) ({ cls := "BrookWeirs", name := "requireElement", desc := "(Z)V" } : Jvm.MethodName) "BrookWeirs") ∈ lw_tbl := lw_at lw_m5 124 rfl
theorem q1154 : (Jvm.Cond.methodLink "BrookWeirs$Clutches$1$1" (51 : Nat) ({ cls := "java/lang/Integer", name := "valueOf", desc := "(I)Ljava/lang/Integer;" } : Jvm.MethodName)) ∈ lw_all := lw_g (lw_at lw_m5 125 rfl) rfl
theorem q2313 : (Jvm.Cond.selects "BrookWeirs$Clutches$1$1" ({ cls := "BrookWeirs$Clutches$1$1", name := "hasNext", desc := "()Z" } : Jvm.MethodName) ({ cls := "BrookWeirs$Clutches$1$1", name := "hasNext", desc := "()Z" } : Jvm.MethodName)) ∈ lw_all := lw_g (lw_at lw_m10 84 rfl) rfl
theorem q2346 : (Jvm.Cond.castable "BrookWeirs$Clutches$1$1" "java/lang/Object") ∈ lw_tbl := lw_at lw_m10 117 rfl
theorem in_X10 : ∀ w ∈ wsX100, w ∈ lw_all := lw_in wsX100 [942, 944] (by decide +kernel) (by decide +kernel)

/-! BrookWeirs$1Rounds -/
def RX11 : String := "BrookWeirs$1Rounds"
def TX11 : u_T := fun k => match k with
  | 0 => ("BrookWeirs$1Rounds", "draft", "LBrookWeirs$Brook;", true)
  | 1 => ("BrookWeirs$1Rounds", "both", "LBrookWeirs$Side;", true)
  | 2 => ("BrookWeirs$1Rounds", "round", "I", false)
  | 3 => ("BrookWeirs$1Rounds", "isAtRest", "Z", false)
  | 4 => ("BrookWeirs$1Rounds", "val$days", "I", true)
  | _ => ("BrookWeirs$1Rounds", "this$0", "LBrookWeirs;", true)
def tyX11 : Nat → FieldType := fun k => match k with
  | 0 => .object "BrookWeirs$Brook"
  | 1 => .object "BrookWeirs$Side"
  | 2 => .int
  | 3 => .boolean
  | 4 => .int
  | _ => .object "BrookWeirs"
abbrev wsX110 : List Cond := u_ws RX11 TX11 6
theorem nmX11 : ∀ a, a < 6 → ∀ b, b < 6 → a ≠ b → (TX11 a).2.1 ≠ (TX11 b).2.1 := by decide +kernel
theorem tyX11_ok : ∀ k, k < 6 → parseFieldDescriptor (TX11 k).2.2.1 = some (tyX11 k) := by decide +kernel
abbrev cX11_hasNext : ByteArray := prog_2_method_2_code
def yX11_hasNext : MethodName := ⟨RX11, "hasNext", "()Z"⟩
abbrev cX11_next : ByteArray := prog_2_method_4_code
def yX11_next : MethodName := ⟨RX11, "next", "()Ljava/lang/Object;"⟩
abbrev cX11_next_2 : ByteArray := prog_2_method_3_code
def yX11_next_2 : MethodName := ⟨RX11, "next", "()Ljava/lang/Integer;"⟩
abbrev cX11_init : ByteArray := prog_2_method_1_code
def yX11_init : MethodName := ⟨RX11, "<init>", "(LBrookWeirs;I)V"⟩
theorem q103 : (Jvm.Cond.initialized "BrookWeirs$1Rounds") ∈ lw_all := lw_g (lw_at lw_m1 34 rfl) rfl
theorem q361 : (Jvm.Cond.fieldLinkNest "BrookWeirs$1Rounds" (19 : Nat) "BrookWeirs" "brook" "LBrookWeirs$Brook;" "BrookWeirs") ∈ lw_tbl := lw_at lw_m2 52 rfl
theorem q371 : (Jvm.Cond.fieldLinkNest "BrookWeirs$1Rounds" (32 : Nat) "BrookWeirs" "frogs" "LBrookWeirs$Side;" "BrookWeirs") ∈ lw_tbl := lw_at lw_m2 62 rfl
theorem q649 : (Jvm.Cond.selects "BrookWeirs$1Rounds" ({ cls := "java/lang/Object", name := "getClass", desc := "()Ljava/lang/Class;" } : Jvm.MethodName) ({ cls := "java/lang/Object", name := "getClass", desc := "()Ljava/lang/Class;" } : Jvm.MethodName)) ∈ lw_all := lw_g (lw_at lw_m3 100 rfl) rfl
theorem q1002 : (Jvm.Cond.castable "BrookWeirs$1Rounds" "java/util/Iterator") ∈ lw_tbl := lw_at lw_m4 213 rfl
theorem q1003 : (Jvm.Cond.selects "BrookWeirs$1Rounds" ({ cls := "java/util/Iterator", name := "hasNext", desc := "()Z" } : Jvm.MethodName) ({ cls := "BrookWeirs$1Rounds", name := "hasNext", desc := "()Z" } : Jvm.MethodName)) ∈ lw_all := lw_g (lw_at lw_m4 214 rfl) rfl
theorem q1004 : (Jvm.Cond.unhidden "BrookWeirs$1Rounds" "hasNext" "()Z") ∈ lw_tbl := lw_at lw_m4 215 rfl
theorem q1005 : (Jvm.Cond.instanceMethod ({ cls := "BrookWeirs$1Rounds", name := "hasNext", desc := "()Z" } : Jvm.MethodName)) ∈ lw_all := lw_g (lw_at lw_m4 216 rfl) rfl
theorem q1006 : (Jvm.Cond.publicMethod ({ cls := "BrookWeirs$1Rounds", name := "hasNext", desc := "()Z" } : Jvm.MethodName)) ∈ lw_tbl := lw_at lw_m4 217 rfl
theorem q1007 : (Jvm.Cond.code ({ cls := "BrookWeirs$1Rounds", name := "hasNext", desc := "()Z" } : Jvm.MethodName) prog_2_method_2_code (1 : Nat) (Option.some Jvm.ClassFile.FieldType.boolean)) ∈ lw_all := lw_g (lw_at lw_m4 218 rfl) rfl
theorem q1034 : (Jvm.Cond.selects "BrookWeirs$1Rounds" ({ cls := "java/util/Iterator", name := "next", desc := "()Ljava/lang/Object;" } : Jvm.MethodName) ({ cls := "BrookWeirs$1Rounds", name := "next", desc := "()Ljava/lang/Object;" } : Jvm.MethodName)) ∈ lw_all := lw_g (lw_at lw_m5 5 rfl) rfl
theorem q1035 : (Jvm.Cond.unhidden "BrookWeirs$1Rounds" "next" "()Ljava/lang/Object;") ∈ lw_tbl := lw_at lw_m5 6 rfl
theorem q1036 : (Jvm.Cond.instanceMethod ({ cls := "BrookWeirs$1Rounds", name := "next", desc := "()Ljava/lang/Object;" } : Jvm.MethodName)) ∈ lw_all := lw_g (lw_at lw_m5 7 rfl) rfl
theorem q1037 : (Jvm.Cond.publicMethod ({ cls := "BrookWeirs$1Rounds", name := "next", desc := "()Ljava/lang/Object;" } : Jvm.MethodName)) ∈ lw_tbl := lw_at lw_m5 8 rfl
theorem q1038 : (Jvm.Cond.code ({ cls := "BrookWeirs$1Rounds", name := "next", desc := "()Ljava/lang/Object;" } : Jvm.MethodName) prog_2_method_4_code (1 : Nat) (Option.some (Jvm.ClassFile.FieldType.object "java/lang/Object"))) ∈ lw_all := lw_g (lw_at lw_m5 9 rfl) rfl
theorem q1039 : (Jvm.Cond.methodLink "BrookWeirs$1Rounds" (69 : Nat) ({ cls := "BrookWeirs$1Rounds", name := "next", desc := "()Ljava/lang/Integer;" } : Jvm.MethodName)) ∈ lw_all := lw_g (lw_at lw_m5 10 rfl) rfl
theorem q1040 : (Jvm.Cond.instanceMethod ({ cls := "BrookWeirs$1Rounds", name := "next", desc := "()Ljava/lang/Integer;" } : Jvm.MethodName)) ∈ lw_all := lw_g (lw_at lw_m5 11 rfl) rfl
theorem q1041 : (Jvm.Cond.selects "BrookWeirs$1Rounds" ({ cls := "BrookWeirs$1Rounds", name := "next", desc := "()Ljava/lang/Integer;" } : Jvm.MethodName) ({ cls := "BrookWeirs$1Rounds", name := "next", desc := "()Ljava/lang/Integer;" } : Jvm.MethodName)) ∈ lw_all := lw_g (lw_at lw_m5 12 rfl) rfl
theorem q1042 : (Jvm.Cond.code ({ cls := "BrookWeirs$1Rounds", name := "next", desc := "()Ljava/lang/Integer;" } : Jvm.MethodName) prog_2_method_3_code (1 : Nat) (Option.some (Jvm.ClassFile.FieldType.object "java/lang/Integer"))) ∈ lw_all := lw_g (lw_at lw_m5 13 rfl) rfl
theorem q1043 : (Jvm.Cond.methodLink "BrookWeirs$1Rounds" (49 : Nat) ({ cls := "BrookWeirs$1Rounds", name := "hasNext", desc := "()Z" } : Jvm.MethodName)) ∈ lw_all := lw_g (lw_at lw_m5 14 rfl) rfl
theorem q1044 : (Jvm.Cond.methodLinkNest "BrookWeirs$1Rounds" (53 : Nat) ({ cls := "BrookWeirs", name := "requireElement", desc := "(Z)V" } : Jvm.MethodName) "BrookWeirs") ∈ lw_tbl := lw_at lw_m5 15 rfl
theorem q1049 : (Jvm.Cond.methodLink "BrookWeirs$1Rounds" (57 : Nat) ({ cls := "BrookWeirs$Side", name := "choose", desc := "(LBrookWeirs$Brook;I)I" } : Jvm.MethodName)) ∈ lw_all := lw_g (lw_at lw_m5 20 rfl) rfl
theorem q1123 : (Jvm.Cond.methodLink "BrookWeirs$1Rounds" (63 : Nat) ({ cls := "java/lang/Integer", name := "valueOf", desc := "(I)Ljava/lang/Integer;" } : Jvm.MethodName)) ∈ lw_all := lw_g (lw_at lw_m5 94 rfl) rfl
theorem q1293 : (Jvm.Cond.instantiable "BrookWeirs$1Rounds" (6 : Nat)) ∈ lw_all := lw_g (lw_at lw_m6 24 rfl) rfl
theorem q1295 : (Jvm.Cond.instanceMethod ({ cls := "BrookWeirs$1Rounds", name := "<init>", desc := "(LBrookWeirs;I)V" } : Jvm.MethodName)) ∈ lw_all := lw_g (lw_at lw_m6 26 rfl) rfl
theorem q1296 : (Jvm.Cond.code ({ cls := "BrookWeirs$1Rounds", name := "<init>", desc := "(LBrookWeirs;I)V" } : Jvm.MethodName) prog_2_method_1_code (3 : Nat) (Option.none : Option Jvm.ClassFile.FieldType)) ∈ lw_all := lw_g (lw_at lw_m6 27 rfl) rfl
theorem q1297 : (Jvm.Cond.methodLink "BrookWeirs$1Rounds" (13 : Nat) ({ cls := "java/lang/Object", name := "<init>", desc := "()V" } : Jvm.MethodName)) ∈ lw_all := lw_g (lw_at lw_m6 28 rfl) rfl
theorem q1298 : (Jvm.Cond.methodLinkNest "BrookWeirs$1Rounds" (23 : Nat) ({ cls := "BrookWeirs", name := "copy", desc := "(LBrookWeirs$Brook;)LBrookWeirs$Brook;" } : Jvm.MethodName) "BrookWeirs") ∈ lw_tbl := lw_at lw_m6 29 rfl
theorem q1299 : (Jvm.Cond.classLink "BrookWeirs$1Rounds" (30 : Nat) "BrookWeirs$Together") ∈ lw_all := lw_g (lw_at lw_m6 30 rfl) rfl
theorem q1301 : (Jvm.Cond.methodLink "BrookWeirs$1Rounds" (36 : Nat) ({ cls := "BrookWeirs$Together", name := "<init>", desc := "(LBrookWeirs;LBrookWeirs$Side;)V" } : Jvm.MethodName)) ∈ lw_all := lw_g (lw_at lw_m6 32 rfl) rfl
theorem q1315 : (Jvm.Cond.fieldLink "BrookWeirs$1Rounds" (27 : Nat) "BrookWeirs$1Rounds" "draft" "LBrookWeirs$Brook;") ∈ lw_all := lw_g (lw_at lw_m6 46 rfl) rfl
theorem q1317 : (Jvm.Cond.fieldLink "BrookWeirs$1Rounds" (39 : Nat) "BrookWeirs$1Rounds" "both" "LBrookWeirs$Side;") ∈ lw_all := lw_g (lw_at lw_m6 48 rfl) rfl
theorem q1318 : (Jvm.Cond.fieldLink "BrookWeirs$1Rounds" (46 : Nat) "BrookWeirs$1Rounds" "round" "I") ∈ lw_all := lw_g (lw_at lw_m6 49 rfl) rfl
theorem q1320 : (Jvm.Cond.fieldLink "BrookWeirs$1Rounds" (42 : Nat) "BrookWeirs$1Rounds" "isAtRest" "Z") ∈ lw_all := lw_g (lw_at lw_m6 51 rfl) rfl
theorem q1322 : (Jvm.Cond.fieldLink "BrookWeirs$1Rounds" (9 : Nat) "BrookWeirs$1Rounds" "val$days" "I") ∈ lw_all := lw_g (lw_at lw_m6 53 rfl) rfl
theorem q1323 : (Jvm.Cond.fieldLink "BrookWeirs$1Rounds" (3 : Nat) "BrookWeirs$1Rounds" "this$0" "LBrookWeirs;") ∈ lw_all := lw_g (lw_at lw_m6 54 rfl) rfl
theorem q1324 : (Jvm.Cond.laysFinal "BrookWeirs$1Rounds" "BrookWeirs$1Rounds" "draft" "LBrookWeirs$Brook;") ∈ lw_all := lw_g (lw_at lw_m6 55 rfl) rfl
theorem q1325 : (Jvm.Cond.soleField "BrookWeirs$1Rounds" "draft") ∈ lw_all := lw_g (lw_at lw_m6 56 rfl) rfl
theorem q1326 : (Jvm.Cond.laysFinal "BrookWeirs$1Rounds" "BrookWeirs$1Rounds" "both" "LBrookWeirs$Side;") ∈ lw_all := lw_g (lw_at lw_m6 57 rfl) rfl
theorem q1327 : (Jvm.Cond.soleField "BrookWeirs$1Rounds" "both") ∈ lw_all := lw_g (lw_at lw_m6 58 rfl) rfl
theorem q1328 : (Jvm.Cond.lays "BrookWeirs$1Rounds" "BrookWeirs$1Rounds" "round" "I") ∈ lw_all := lw_g (lw_at lw_m6 59 rfl) rfl
theorem q1329 : (Jvm.Cond.soleField "BrookWeirs$1Rounds" "round") ∈ lw_all := lw_g (lw_at lw_m6 60 rfl) rfl
theorem q1330 : (Jvm.Cond.lays "BrookWeirs$1Rounds" "BrookWeirs$1Rounds" "isAtRest" "Z") ∈ lw_all := lw_g (lw_at lw_m6 61 rfl) rfl
theorem q1331 : (Jvm.Cond.soleField "BrookWeirs$1Rounds" "isAtRest") ∈ lw_all := lw_g (lw_at lw_m6 62 rfl) rfl
theorem q1332 : (Jvm.Cond.laysFinal "BrookWeirs$1Rounds" "BrookWeirs$1Rounds" "val$days" "I") ∈ lw_all := lw_g (lw_at lw_m6 63 rfl) rfl
theorem q1333 : (Jvm.Cond.soleField "BrookWeirs$1Rounds" "val$days") ∈ lw_all := lw_g (lw_at lw_m6 64 rfl) rfl
theorem q1334 : (Jvm.Cond.laysFinal "BrookWeirs$1Rounds" "BrookWeirs$1Rounds" "this$0" "LBrookWeirs;") ∈ lw_all := lw_g (lw_at lw_m6 65 rfl) rfl
theorem q1335 : (Jvm.Cond.soleField "BrookWeirs$1Rounds" "this$0") ∈ lw_all := lw_g (lw_at lw_m6 66 rfl) rfl
theorem q1336 : (Jvm.Cond.superclass "BrookWeirs$1Rounds" "java/lang/Object") ∈ lw_all := lw_g (lw_at lw_m6 67 rfl) rfl
theorem q2311 : (Jvm.Cond.selects "BrookWeirs$1Rounds" ({ cls := "BrookWeirs$1Rounds", name := "hasNext", desc := "()Z" } : Jvm.MethodName) ({ cls := "BrookWeirs$1Rounds", name := "hasNext", desc := "()Z" } : Jvm.MethodName)) ∈ lw_all := lw_g (lw_at lw_m10 82 rfl) rfl
theorem q2349 : (Jvm.Cond.castable "BrookWeirs$1Rounds" "java/lang/Object") ∈ lw_tbl := lw_at lw_m10 120 rfl
theorem in_X11 : ∀ w ∈ wsX110, w ∈ lw_all := lw_in wsX110 [1324, 1326, 1328, 1330, 1332, 1334] (by decide +kernel) (by decide +kernel)

/-! BrookWeirs$Together -/
def RX12 : String := "BrookWeirs$Together"
def TX12 : u_T := fun k => match k with
  | 0 => ("BrookWeirs$Side", "best", "I", false)
  | 1 => ("BrookWeirs$Side", "most", "I", false)
  | 2 => ("BrookWeirs$Side", "this$0", "LBrookWeirs;", true)
  | 3 => ("BrookWeirs$Farmers", "this$0", "LBrookWeirs;", true)
  | 4 => ("BrookWeirs$Together", "first", "LBrookWeirs$Side;", true)
  | _ => ("BrookWeirs$Together", "this$0", "LBrookWeirs;", true)
def tyX12 : Nat → FieldType := fun k => match k with
  | 0 => .int
  | 1 => .int
  | 2 => .object "BrookWeirs"
  | 3 => .object "BrookWeirs"
  | 4 => .object "BrookWeirs$Side"
  | _ => .object "BrookWeirs"
abbrev wsX120 : List Cond := u_ws RX12 TX12 6
-- two fields of one name: no nmX12
theorem tyX12_ok : ∀ k, k < 6 → parseFieldDescriptor (TX12 k).2.2.1 = some (tyX12 k) := by decide +kernel
abbrev cX12_choose : ByteArray := prog_14_method_2_code
def yX12_choose : MethodName := ⟨RX12, "choose", "(LBrookWeirs$Brook;I)I"⟩
abbrev cX12_init : ByteArray := prog_14_method_1_code
def yX12_init : MethodName := ⟨RX12, "<init>", "(LBrookWeirs;LBrookWeirs$Side;)V"⟩
theorem q104 : (Jvm.Cond.initialized "BrookWeirs$Together") ∈ lw_all := lw_g (lw_at lw_m1 35 rfl) rfl
theorem q659 : (Jvm.Cond.selects "BrookWeirs$Together" ({ cls := "java/lang/Object", name := "getClass", desc := "()Ljava/lang/Class;" } : Jvm.MethodName) ({ cls := "java/lang/Object", name := "getClass", desc := "()Ljava/lang/Class;" } : Jvm.MethodName)) ∈ lw_all := lw_g (lw_at lw_m3 110 rfl) rfl
theorem q1054 : (Jvm.Cond.selects "BrookWeirs$Together" ({ cls := "BrookWeirs$Side", name := "choose", desc := "(LBrookWeirs$Brook;I)I" } : Jvm.MethodName) ({ cls := "BrookWeirs$Together", name := "choose", desc := "(LBrookWeirs$Brook;I)I" } : Jvm.MethodName)) ∈ lw_all := lw_g (lw_at lw_m5 25 rfl) rfl
theorem q1055 : (Jvm.Cond.instanceMethod ({ cls := "BrookWeirs$Together", name := "choose", desc := "(LBrookWeirs$Brook;I)I" } : Jvm.MethodName)) ∈ lw_all := lw_g (lw_at lw_m5 26 rfl) rfl
theorem q1056 : (Jvm.Cond.code ({ cls := "BrookWeirs$Together", name := "choose", desc := "(LBrookWeirs$Brook;I)I" } : Jvm.MethodName) prog_14_method_2_code (4 : Nat) (Option.some Jvm.ClassFile.FieldType.int)) ∈ lw_all := lw_g (lw_at lw_m5 27 rfl) rfl
theorem q1057 : (Jvm.Cond.methodLink "BrookWeirs$Together" (17 : Nat) ({ cls := "BrookWeirs$Side", name := "choose", desc := "(LBrookWeirs$Brook;I)I" } : Jvm.MethodName)) ∈ lw_all := lw_g (lw_at lw_m5 28 rfl) rfl
theorem q1058 : (Jvm.Cond.methodLink "BrookWeirs$Together" (23 : Nat) ({ cls := "BrookWeirs$Farmers", name := "choose", desc := "(LBrookWeirs$Brook;I)I" } : Jvm.MethodName)) ∈ lw_all := lw_g (lw_at lw_m5 29 rfl) rfl
theorem q1061 : (Jvm.Cond.superclass "BrookWeirs$Together" "BrookWeirs$Farmers") ∈ lw_all := lw_g (lw_at lw_m5 32 rfl) rfl
theorem q1072 : (Jvm.Cond.selects "BrookWeirs$Together" ({ cls := "BrookWeirs$Side", name := "latches", desc := "(LBrookWeirs$Brook;)I" } : Jvm.MethodName) ({ cls := "BrookWeirs$Farmers", name := "latches", desc := "(LBrookWeirs$Brook;)I" } : Jvm.MethodName)) ∈ lw_all := lw_g (lw_at lw_m5 43 rfl) rfl
theorem q1078 : (Jvm.Cond.selects "BrookWeirs$Together" ({ cls := "BrookWeirs$Side", name := "search", desc := "(LBrookWeirs$Brook;I)LBrookWeirs$Side;" } : Jvm.MethodName) ({ cls := "BrookWeirs$Side", name := "search", desc := "(LBrookWeirs$Brook;I)LBrookWeirs$Side;" } : Jvm.MethodName)) ∈ lw_all := lw_g (lw_at lw_m5 49 rfl) rfl
theorem q1085 : (Jvm.Cond.selects "BrookWeirs$Together" ({ cls := "BrookWeirs$Side", name := "worth", desc := "(LBrookWeirs$Brook;II)I" } : Jvm.MethodName) ({ cls := "BrookWeirs$Side", name := "worth", desc := "(LBrookWeirs$Brook;II)I" } : Jvm.MethodName)) ∈ lw_all := lw_g (lw_at lw_m5 56 rfl) rfl
theorem q1097 : (Jvm.Cond.selects "BrookWeirs$Together" ({ cls := "BrookWeirs$Side", name := "open", desc := "(LBrookWeirs$Brook;I)V" } : Jvm.MethodName) ({ cls := "BrookWeirs$Farmers", name := "open", desc := "(LBrookWeirs$Brook;I)V" } : Jvm.MethodName)) ∈ lw_all := lw_g (lw_at lw_m5 68 rfl) rfl
theorem q1117 : (Jvm.Cond.selects "BrookWeirs$Together" ({ cls := "BrookWeirs$Side", name := "value", desc := "(LBrookWeirs$Brook;LBrookWeirs$Brook;)I" } : Jvm.MethodName) ({ cls := "BrookWeirs$Farmers", name := "value", desc := "(LBrookWeirs$Brook;LBrookWeirs$Brook;)I" } : Jvm.MethodName)) ∈ lw_all := lw_g (lw_at lw_m5 88 rfl) rfl
theorem q1300 : (Jvm.Cond.instantiable "BrookWeirs$Together" (6 : Nat)) ∈ lw_all := lw_g (lw_at lw_m6 31 rfl) rfl
theorem q1302 : (Jvm.Cond.instanceMethod ({ cls := "BrookWeirs$Together", name := "<init>", desc := "(LBrookWeirs;LBrookWeirs$Side;)V" } : Jvm.MethodName)) ∈ lw_all := lw_g (lw_at lw_m6 33 rfl) rfl
theorem q1303 : (Jvm.Cond.code ({ cls := "BrookWeirs$Together", name := "<init>", desc := "(LBrookWeirs;LBrookWeirs$Side;)V" } : Jvm.MethodName) prog_14_method_1_code (3 : Nat) (Option.none : Option Jvm.ClassFile.FieldType)) ∈ lw_all := lw_g (lw_at lw_m6 34 rfl) rfl
theorem q1304 : (Jvm.Cond.methodLinkNest "BrookWeirs$Together" (7 : Nat) ({ cls := "BrookWeirs$Farmers", name := "<init>", desc := "(LBrookWeirs;)V" } : Jvm.MethodName) "BrookWeirs") ∈ lw_tbl := lw_at lw_m6 35 rfl
theorem q1305 : (Jvm.Cond.fieldLink "BrookWeirs$Together" (13 : Nat) "BrookWeirs$Together" "first" "LBrookWeirs$Side;") ∈ lw_all := lw_g (lw_at lw_m6 36 rfl) rfl
theorem q1306 : (Jvm.Cond.fieldLink "BrookWeirs$Together" (1 : Nat) "BrookWeirs$Together" "this$0" "LBrookWeirs;") ∈ lw_all := lw_g (lw_at lw_m6 37 rfl) rfl
theorem q1307 : (Jvm.Cond.laysFinal "BrookWeirs$Together" "BrookWeirs$Together" "first" "LBrookWeirs$Side;") ∈ lw_all := lw_g (lw_at lw_m6 38 rfl) rfl
theorem q1308 : (Jvm.Cond.soleField "BrookWeirs$Together" "first") ∈ lw_all := lw_g (lw_at lw_m6 39 rfl) rfl
theorem q1309 : (Jvm.Cond.laysFinal "BrookWeirs$Together" "BrookWeirs$Together" "this$0" "LBrookWeirs;") ∈ lw_all := lw_g (lw_at lw_m6 40 rfl) rfl
theorem q1310 : (Jvm.Cond.soleField "BrookWeirs$Together" "this$0") ∈ lw_all := lw_g (lw_at lw_m6 41 rfl) rfl
theorem q1311 : (Jvm.Cond.laysFinal "BrookWeirs$Together" "BrookWeirs$Farmers" "this$0" "LBrookWeirs;") ∈ lw_all := lw_g (lw_at lw_m6 42 rfl) rfl
theorem q1312 : (Jvm.Cond.lays "BrookWeirs$Together" "BrookWeirs$Side" "best" "I") ∈ lw_all := lw_g (lw_at lw_m6 43 rfl) rfl
theorem q1313 : (Jvm.Cond.lays "BrookWeirs$Together" "BrookWeirs$Side" "most" "I") ∈ lw_all := lw_g (lw_at lw_m6 44 rfl) rfl
theorem q1314 : (Jvm.Cond.laysFinal "BrookWeirs$Together" "BrookWeirs$Side" "this$0" "LBrookWeirs;") ∈ lw_all := lw_g (lw_at lw_m6 45 rfl) rfl
theorem q2350 : (Jvm.Cond.castable "BrookWeirs$Together" "java/lang/Object") ∈ lw_tbl := lw_at lw_m10 121 rfl
theorem in_X12 : ∀ w ∈ wsX120, w ∈ lw_all := lw_in wsX120 [1312, 1313, 1314, 1311, 1307, 1309] (by decide +kernel) (by decide +kernel)

/-! BrookWeirs$Parser -/
def RX13 : String := "BrookWeirs$Parser"
def TX13 : u_T := fun k => match k with
  | 0 => ("BrookWeirs$Parser", "position", "I", false)
  | _ => ("BrookWeirs$Parser", "this$0", "LBrookWeirs;", true)
def tyX13 : Nat → FieldType := fun k => match k with
  | 0 => .int
  | _ => .object "BrookWeirs"
abbrev wsX130 : List Cond := u_ws RX13 TX13 2
theorem nmX13 : ∀ a, a < 2 → ∀ b, b < 2 → a ≠ b → (TX13 a).2.1 ≠ (TX13 b).2.1 := by decide +kernel
theorem tyX13_ok : ∀ k, k < 2 → parseFieldDescriptor (TX13 k).2.2.1 = some (tyX13 k) := by decide +kernel
abbrev cX13_init : ByteArray := prog_11_method_1_code
def yX13_init : MethodName := ⟨RX13, "<init>", "(LBrookWeirs;)V"⟩
abbrev cX13_text : ByteArray := prog_11_method_11_code
def yX13_text : MethodName := ⟨RX13, "text", "()Ljava/util/List;"⟩
abbrev cX13_item : ByteArray := prog_11_method_10_code
def yX13_item : MethodName := ⟨RX13, "item", "()LBrookWeirs$Deed;"⟩
abbrev cX13_isTaken : ByteArray := prog_11_method_4_code
def yX13_isTaken : MethodName := ⟨RX13, "isTaken", "(C)Z"⟩
abbrev cX13_isAt : ByteArray := prog_11_method_2_code
def yX13_isAt : MethodName := ⟨RX13, "isAt", "(CC)Z"⟩
abbrev cX13_number : ByteArray := prog_11_method_6_code
def yX13_number : MethodName := ⟨RX13, "number", "()I"⟩
abbrev cX13_digit : ByteArray := prog_11_method_5_code
def yX13_digit : MethodName := ⟨RX13, "digit", "()I"⟩
abbrev cX13_take : ByteArray := prog_11_method_3_code
def yX13_take : MethodName := ⟨RX13, "take", "(CC)C"⟩
abbrev cX13_lambda_item_3 : ByteArray := prog_11_method_13_code
def yX13_lambda_item_3 : MethodName := ⟨RX13, "lambda$item$3", "(ILBrookWeirs$Brook;)I"⟩
abbrev cX13_lambda_item_4 : ByteArray := prog_11_method_12_code
def yX13_lambda_item_4 : MethodName := ⟨RX13, "lambda$item$4", "(LBrookWeirs$Brook;)I"⟩
abbrev cX13_boards : ByteArray := prog_11_method_8_code
def yX13_boards : MethodName := ⟨RX13, "boards", "()LBrookWeirs$Deed;"⟩
abbrev cX13_lambda_boards_1 : ByteArray := prog_11_method_15_code
def yX13_lambda_boards_1 : MethodName := ⟨RX13, "lambda$boards$1", "(IILBrookWeirs$Brook;)I"⟩
abbrev cX13_eggs : ByteArray := prog_11_method_9_code
def yX13_eggs : MethodName := ⟨RX13, "eggs", "()LBrookWeirs$Deed;"⟩
abbrev cX13_lambda_eggs_2 : ByteArray := prog_11_method_14_code
def yX13_lambda_eggs_2 : MethodName := ⟨RX13, "lambda$eggs$2", "(IILBrookWeirs$Brook;)I"⟩
abbrev cX13_latch : ByteArray := prog_11_method_7_code
def yX13_latch : MethodName := ⟨RX13, "latch", "(Z)LBrookWeirs$Deed;"⟩
abbrev cX13_lambda_latch_0 : ByteArray := prog_11_method_16_code
def yX13_lambda_latch_0 : MethodName := ⟨RX13, "lambda$latch$0", "(IZZLBrookWeirs$Brook;)I"⟩
theorem q109 : (Jvm.Cond.initialized "BrookWeirs$Parser") ∈ lw_all := lw_g (lw_at lw_m1 40 rfl) rfl
theorem q366 : (Jvm.Cond.fieldLinkNest "BrookWeirs$Parser" (17 : Nat) "BrookWeirs" "input" "Ljava/lang/StringBuilder;" "BrookWeirs") ∈ lw_tbl := lw_at lw_m2 57 rfl
theorem q657 : (Jvm.Cond.selects "BrookWeirs$Parser" ({ cls := "java/lang/Object", name := "getClass", desc := "()Ljava/lang/Class;" } : Jvm.MethodName) ({ cls := "java/lang/Object", name := "getClass", desc := "()Ljava/lang/Class;" } : Jvm.MethodName)) ∈ lw_all := lw_g (lw_at lw_m3 108 rfl) rfl
theorem q1503 : (Jvm.Cond.instantiable "BrookWeirs$Parser" (2 : Nat)) ∈ lw_all := lw_g (lw_at lw_m6 234 rfl) rfl
theorem q1505 : (Jvm.Cond.instanceMethod ({ cls := "BrookWeirs$Parser", name := "<init>", desc := "(LBrookWeirs;)V" } : Jvm.MethodName)) ∈ lw_all := lw_g (lw_at lw_m6 236 rfl) rfl
theorem q1506 : (Jvm.Cond.code ({ cls := "BrookWeirs$Parser", name := "<init>", desc := "(LBrookWeirs;)V" } : Jvm.MethodName) prog_11_method_1_code (2 : Nat) (Option.none : Option Jvm.ClassFile.FieldType)) ∈ lw_all := lw_g (lw_at lw_m6 237 rfl) rfl
theorem q1507 : (Jvm.Cond.methodLink "BrookWeirs$Parser" (7 : Nat) ({ cls := "java/lang/Object", name := "<init>", desc := "()V" } : Jvm.MethodName)) ∈ lw_all := lw_g (lw_at lw_m6 238 rfl) rfl
theorem q1508 : (Jvm.Cond.fieldLink "BrookWeirs$Parser" (13 : Nat) "BrookWeirs$Parser" "position" "I") ∈ lw_all := lw_g (lw_at lw_m6 239 rfl) rfl
theorem q1509 : (Jvm.Cond.fieldLink "BrookWeirs$Parser" (1 : Nat) "BrookWeirs$Parser" "this$0" "LBrookWeirs;") ∈ lw_all := lw_g (lw_at lw_m7 0 rfl) rfl
theorem q1510 : (Jvm.Cond.lays "BrookWeirs$Parser" "BrookWeirs$Parser" "position" "I") ∈ lw_all := lw_g (lw_at lw_m7 1 rfl) rfl
theorem q1511 : (Jvm.Cond.soleField "BrookWeirs$Parser" "position") ∈ lw_all := lw_g (lw_at lw_m7 2 rfl) rfl
theorem q1512 : (Jvm.Cond.laysFinal "BrookWeirs$Parser" "BrookWeirs$Parser" "this$0" "LBrookWeirs;") ∈ lw_all := lw_g (lw_at lw_m7 3 rfl) rfl
theorem q1513 : (Jvm.Cond.soleField "BrookWeirs$Parser" "this$0") ∈ lw_all := lw_g (lw_at lw_m7 4 rfl) rfl
theorem q1514 : (Jvm.Cond.superclass "BrookWeirs$Parser" "java/lang/Object") ∈ lw_all := lw_g (lw_at lw_m7 5 rfl) rfl
theorem q1516 : (Jvm.Cond.instanceMethod ({ cls := "BrookWeirs$Parser", name := "text", desc := "()Ljava/util/List;" } : Jvm.MethodName)) ∈ lw_all := lw_g (lw_at lw_m7 7 rfl) rfl
theorem q1517 : (Jvm.Cond.selects "BrookWeirs$Parser" ({ cls := "BrookWeirs$Parser", name := "text", desc := "()Ljava/util/List;" } : Jvm.MethodName) ({ cls := "BrookWeirs$Parser", name := "text", desc := "()Ljava/util/List;" } : Jvm.MethodName)) ∈ lw_all := lw_g (lw_at lw_m7 8 rfl) rfl
theorem q1518 : (Jvm.Cond.code ({ cls := "BrookWeirs$Parser", name := "text", desc := "()Ljava/util/List;" } : Jvm.MethodName) prog_11_method_11_code (3 : Nat) (Option.some (Jvm.ClassFile.FieldType.object "java/util/List"))) ∈ lw_all := lw_g (lw_at lw_m7 9 rfl) rfl
theorem q1519 : (Jvm.Cond.classLink "BrookWeirs$Parser" (84 : Nat) "java/util/ArrayList") ∈ lw_all := lw_g (lw_at lw_m7 10 rfl) rfl
theorem q1521 : (Jvm.Cond.methodLink "BrookWeirs$Parser" (86 : Nat) ({ cls := "java/util/ArrayList", name := "<init>", desc := "()V" } : Jvm.MethodName)) ∈ lw_all := lw_g (lw_at lw_m7 12 rfl) rfl
theorem q1545 : (Jvm.Cond.methodLink "BrookWeirs$Parser" (87 : Nat) ({ cls := "BrookWeirs$Parser", name := "item", desc := "()LBrookWeirs$Deed;" } : Jvm.MethodName)) ∈ lw_all := lw_g (lw_at lw_m7 36 rfl) rfl
theorem q1546 : (Jvm.Cond.privateMethod ({ cls := "BrookWeirs$Parser", name := "item", desc := "()LBrookWeirs$Deed;" } : Jvm.MethodName)) ∈ lw_tbl := lw_at lw_m7 37 rfl
theorem q1547 : (Jvm.Cond.instanceMethod ({ cls := "BrookWeirs$Parser", name := "item", desc := "()LBrookWeirs$Deed;" } : Jvm.MethodName)) ∈ lw_all := lw_g (lw_at lw_m7 38 rfl) rfl
theorem q1548 : (Jvm.Cond.code ({ cls := "BrookWeirs$Parser", name := "item", desc := "()LBrookWeirs$Deed;" } : Jvm.MethodName) prog_11_method_10_code (2 : Nat) (Option.some (Jvm.ClassFile.FieldType.object "BrookWeirs$Deed"))) ∈ lw_all := lw_g (lw_at lw_m7 39 rfl) rfl
theorem q1549 : (Jvm.Cond.methodLink "BrookWeirs$Parser" (64 : Nat) ({ cls := "BrookWeirs$Parser", name := "isTaken", desc := "(C)Z" } : Jvm.MethodName)) ∈ lw_all := lw_g (lw_at lw_m7 40 rfl) rfl
theorem q1550 : (Jvm.Cond.privateMethod ({ cls := "BrookWeirs$Parser", name := "isTaken", desc := "(C)Z" } : Jvm.MethodName)) ∈ lw_tbl := lw_at lw_m7 41 rfl
theorem q1551 : (Jvm.Cond.instanceMethod ({ cls := "BrookWeirs$Parser", name := "isTaken", desc := "(C)Z" } : Jvm.MethodName)) ∈ lw_all := lw_g (lw_at lw_m7 42 rfl) rfl
theorem q1552 : (Jvm.Cond.code ({ cls := "BrookWeirs$Parser", name := "isTaken", desc := "(C)Z" } : Jvm.MethodName) prog_11_method_4_code (3 : Nat) (Option.some Jvm.ClassFile.FieldType.boolean)) ∈ lw_all := lw_g (lw_at lw_m7 43 rfl) rfl
theorem q1553 : (Jvm.Cond.methodLink "BrookWeirs$Parser" (37 : Nat) ({ cls := "BrookWeirs$Parser", name := "isAt", desc := "(CC)Z" } : Jvm.MethodName)) ∈ lw_all := lw_g (lw_at lw_m7 44 rfl) rfl
theorem q1554 : (Jvm.Cond.privateMethod ({ cls := "BrookWeirs$Parser", name := "isAt", desc := "(CC)Z" } : Jvm.MethodName)) ∈ lw_tbl := lw_at lw_m7 45 rfl
theorem q1555 : (Jvm.Cond.instanceMethod ({ cls := "BrookWeirs$Parser", name := "isAt", desc := "(CC)Z" } : Jvm.MethodName)) ∈ lw_all := lw_g (lw_at lw_m7 46 rfl) rfl
theorem q1556 : (Jvm.Cond.code ({ cls := "BrookWeirs$Parser", name := "isAt", desc := "(CC)Z" } : Jvm.MethodName) prog_11_method_2_code (3 : Nat) (Option.some Jvm.ClassFile.FieldType.boolean)) ∈ lw_all := lw_g (lw_at lw_m7 47 rfl) rfl
theorem q1557 : (Jvm.Cond.methodLink "BrookWeirs$Parser" (23 : Nat) ({ cls := "java/lang/StringBuilder", name := "length", desc := "()I" } : Jvm.MethodName)) ∈ lw_all := lw_g (lw_at lw_m7 48 rfl) rfl
theorem q1558 : (Jvm.Cond.methodLink "BrookWeirs$Parser" (29 : Nat) ({ cls := "java/lang/StringBuilder", name := "charAt", desc := "(I)C" } : Jvm.MethodName)) ∈ lw_all := lw_g (lw_at lw_m7 49 rfl) rfl
theorem q1570 : (Jvm.Cond.methodLinkNest "BrookWeirs$Parser" (33 : Nat) ({ cls := "BrookWeirs", name := "inRange", desc := "(III)Z" } : Jvm.MethodName) "BrookWeirs") ∈ lw_tbl := lw_at lw_m7 61 rfl
theorem q1571 : (Jvm.Cond.methodLink "BrookWeirs$Parser" (60 : Nat) ({ cls := "BrookWeirs$Parser", name := "number", desc := "()I" } : Jvm.MethodName)) ∈ lw_all := lw_g (lw_at lw_m7 62 rfl) rfl
theorem q1572 : (Jvm.Cond.privateMethod ({ cls := "BrookWeirs$Parser", name := "number", desc := "()I" } : Jvm.MethodName)) ∈ lw_tbl := lw_at lw_m7 63 rfl
theorem q1573 : (Jvm.Cond.instanceMethod ({ cls := "BrookWeirs$Parser", name := "number", desc := "()I" } : Jvm.MethodName)) ∈ lw_all := lw_g (lw_at lw_m7 64 rfl) rfl
theorem q1574 : (Jvm.Cond.code ({ cls := "BrookWeirs$Parser", name := "number", desc := "()I" } : Jvm.MethodName) prog_11_method_6_code (2 : Nat) (Option.some Jvm.ClassFile.FieldType.int)) ∈ lw_all := lw_g (lw_at lw_m7 65 rfl) rfl
theorem q1575 : (Jvm.Cond.methodLink "BrookWeirs$Parser" (50 : Nat) ({ cls := "BrookWeirs$Parser", name := "digit", desc := "()I" } : Jvm.MethodName)) ∈ lw_all := lw_g (lw_at lw_m7 66 rfl) rfl
theorem q1576 : (Jvm.Cond.privateMethod ({ cls := "BrookWeirs$Parser", name := "digit", desc := "()I" } : Jvm.MethodName)) ∈ lw_tbl := lw_at lw_m7 67 rfl
theorem q1577 : (Jvm.Cond.instanceMethod ({ cls := "BrookWeirs$Parser", name := "digit", desc := "()I" } : Jvm.MethodName)) ∈ lw_all := lw_g (lw_at lw_m7 68 rfl) rfl
theorem q1578 : (Jvm.Cond.code ({ cls := "BrookWeirs$Parser", name := "digit", desc := "()I" } : Jvm.MethodName) prog_11_method_5_code (1 : Nat) (Option.some Jvm.ClassFile.FieldType.int)) ∈ lw_all := lw_g (lw_at lw_m7 69 rfl) rfl
theorem q1579 : (Jvm.Cond.methodLink "BrookWeirs$Parser" (46 : Nat) ({ cls := "BrookWeirs$Parser", name := "take", desc := "(CC)C" } : Jvm.MethodName)) ∈ lw_all := lw_g (lw_at lw_m7 70 rfl) rfl
theorem q1580 : (Jvm.Cond.privateMethod ({ cls := "BrookWeirs$Parser", name := "take", desc := "(CC)C" } : Jvm.MethodName)) ∈ lw_tbl := lw_at lw_m7 71 rfl
theorem q1581 : (Jvm.Cond.instanceMethod ({ cls := "BrookWeirs$Parser", name := "take", desc := "(CC)C" } : Jvm.MethodName)) ∈ lw_all := lw_g (lw_at lw_m7 72 rfl) rfl
theorem q1582 : (Jvm.Cond.code ({ cls := "BrookWeirs$Parser", name := "take", desc := "(CC)C" } : Jvm.MethodName) prog_11_method_3_code (3 : Nat) (Option.some Jvm.ClassFile.FieldType.char)) ∈ lw_all := lw_g (lw_at lw_m7 73 rfl) rfl
theorem q1583 : (Jvm.Cond.classLink "BrookWeirs$Parser" (41 : Nat) "BrookWeirs$FaultException") ∈ lw_all := lw_g (lw_at lw_m7 74 rfl) rfl
theorem q1592 : (Jvm.Cond.methodLink "BrookWeirs$Parser" (43 : Nat) ({ cls := "BrookWeirs$FaultException", name := "<init>", desc := "(I)V" } : Jvm.MethodName)) ∈ lw_all := lw_g (lw_at lw_m7 83 rfl) rfl
theorem q1602 : (Jvm.Cond.static ({ cls := "BrookWeirs$Parser", name := "lambda$item$3", desc := "(ILBrookWeirs$Brook;)I" } : Jvm.MethodName)) ∈ lw_all := lw_g (lw_at lw_m7 93 rfl) rfl
theorem q1603 : (Jvm.Cond.code ({ cls := "BrookWeirs$Parser", name := "lambda$item$3", desc := "(ILBrookWeirs$Brook;)I" } : Jvm.MethodName) prog_11_method_13_code (2 : Nat) (Option.some Jvm.ClassFile.FieldType.int)) ∈ lw_all := lw_g (lw_at lw_m7 94 rfl) rfl
theorem q1604 : (Jvm.Cond.methodLinkNest "BrookWeirs$Parser" (101 : Nat) ({ cls := "BrookWeirs", name := "rainOf", desc := "(I)I" } : Jvm.MethodName) "BrookWeirs") ∈ lw_tbl := lw_at lw_m7 95 rfl
theorem q1605 : (Jvm.Cond.methodLink "BrookWeirs$Parser" (105 : Nat) ({ cls := "BrookWeirs$Brook", name := "tell", desc := "(I)I" } : Jvm.MethodName)) ∈ lw_all := lw_g (lw_at lw_m7 96 rfl) rfl
theorem q1606 : (Jvm.Cond.static ({ cls := "BrookWeirs$Parser", name := "lambda$item$4", desc := "(LBrookWeirs$Brook;)I" } : Jvm.MethodName)) ∈ lw_all := lw_g (lw_at lw_m7 97 rfl) rfl
theorem q1607 : (Jvm.Cond.code ({ cls := "BrookWeirs$Parser", name := "lambda$item$4", desc := "(LBrookWeirs$Brook;)I" } : Jvm.MethodName) prog_11_method_12_code (1 : Nat) (Option.some Jvm.ClassFile.FieldType.int)) ∈ lw_all := lw_g (lw_at lw_m7 98 rfl) rfl
theorem q1608 : (Jvm.Cond.methodLink "BrookWeirs$Parser" (96 : Nat) ({ cls := "BrookWeirs$Brook", name := "day", desc := "()I" } : Jvm.MethodName)) ∈ lw_all := lw_g (lw_at lw_m7 99 rfl) rfl
theorem q1609 : (Jvm.Cond.methodLink "BrookWeirs$Parser" (74 : Nat) ({ cls := "BrookWeirs$Parser", name := "boards", desc := "()LBrookWeirs$Deed;" } : Jvm.MethodName)) ∈ lw_all := lw_g (lw_at lw_m7 100 rfl) rfl
theorem q1610 : (Jvm.Cond.privateMethod ({ cls := "BrookWeirs$Parser", name := "boards", desc := "()LBrookWeirs$Deed;" } : Jvm.MethodName)) ∈ lw_tbl := lw_at lw_m7 101 rfl
theorem q1611 : (Jvm.Cond.instanceMethod ({ cls := "BrookWeirs$Parser", name := "boards", desc := "()LBrookWeirs$Deed;" } : Jvm.MethodName)) ∈ lw_all := lw_g (lw_at lw_m7 102 rfl) rfl
theorem q1612 : (Jvm.Cond.code ({ cls := "BrookWeirs$Parser", name := "boards", desc := "()LBrookWeirs$Deed;" } : Jvm.MethodName) prog_11_method_8_code (4 : Nat) (Option.some (Jvm.ClassFile.FieldType.object "BrookWeirs$Deed"))) ∈ lw_all := lw_g (lw_at lw_m7 103 rfl) rfl
theorem q1613 : (Jvm.Cond.static ({ cls := "BrookWeirs$Parser", name := "lambda$boards$1", desc := "(IILBrookWeirs$Brook;)I" } : Jvm.MethodName)) ∈ lw_all := lw_g (lw_at lw_m7 104 rfl) rfl
theorem q1614 : (Jvm.Cond.code ({ cls := "BrookWeirs$Parser", name := "lambda$boards$1", desc := "(IILBrookWeirs$Brook;)I" } : Jvm.MethodName) prog_11_method_15_code (3 : Nat) (Option.some Jvm.ClassFile.FieldType.int)) ∈ lw_all := lw_g (lw_at lw_m7 105 rfl) rfl
theorem q1615 : (Jvm.Cond.methodLink "BrookWeirs$Parser" (108 : Nat) ({ cls := "BrookWeirs$Brook", name := "at", desc := "(I)I" } : Jvm.MethodName)) ∈ lw_all := lw_g (lw_at lw_m7 106 rfl) rfl
theorem q1616 : (Jvm.Cond.methodLinkNest "BrookWeirs$Parser" (118 : Nat) ({ cls := "BrookWeirs", name := "boardsOf", desc := "(I)I" } : Jvm.MethodName) "BrookWeirs") ∈ lw_tbl := lw_at lw_m7 107 rfl
theorem q1617 : (Jvm.Cond.methodLink "BrookWeirs$Parser" (121 : Nat) ({ cls := "BrookWeirs$Brook", name := "setBoards", desc := "(II)I" } : Jvm.MethodName)) ∈ lw_all := lw_g (lw_at lw_m7 108 rfl) rfl
theorem q1618 : (Jvm.Cond.methodLink "BrookWeirs$Parser" (77 : Nat) ({ cls := "BrookWeirs$Parser", name := "eggs", desc := "()LBrookWeirs$Deed;" } : Jvm.MethodName)) ∈ lw_all := lw_g (lw_at lw_m7 109 rfl) rfl
theorem q1619 : (Jvm.Cond.privateMethod ({ cls := "BrookWeirs$Parser", name := "eggs", desc := "()LBrookWeirs$Deed;" } : Jvm.MethodName)) ∈ lw_tbl := lw_at lw_m7 110 rfl
theorem q1620 : (Jvm.Cond.instanceMethod ({ cls := "BrookWeirs$Parser", name := "eggs", desc := "()LBrookWeirs$Deed;" } : Jvm.MethodName)) ∈ lw_all := lw_g (lw_at lw_m7 111 rfl) rfl
theorem q1621 : (Jvm.Cond.code ({ cls := "BrookWeirs$Parser", name := "eggs", desc := "()LBrookWeirs$Deed;" } : Jvm.MethodName) prog_11_method_9_code (4 : Nat) (Option.some (Jvm.ClassFile.FieldType.object "BrookWeirs$Deed"))) ∈ lw_all := lw_g (lw_at lw_m7 112 rfl) rfl
theorem q1622 : (Jvm.Cond.static ({ cls := "BrookWeirs$Parser", name := "lambda$eggs$2", desc := "(IILBrookWeirs$Brook;)I" } : Jvm.MethodName)) ∈ lw_all := lw_g (lw_at lw_m7 113 rfl) rfl
theorem q1623 : (Jvm.Cond.code ({ cls := "BrookWeirs$Parser", name := "lambda$eggs$2", desc := "(IILBrookWeirs$Brook;)I" } : Jvm.MethodName) prog_11_method_14_code (3 : Nat) (Option.some Jvm.ClassFile.FieldType.int)) ∈ lw_all := lw_g (lw_at lw_m7 114 rfl) rfl
theorem q1624 : (Jvm.Cond.methodLinkNest "BrookWeirs$Parser" (111 : Nat) ({ cls := "BrookWeirs", name := "eggsOf", desc := "(I)I" } : Jvm.MethodName) "BrookWeirs") ∈ lw_tbl := lw_at lw_m7 115 rfl
theorem q1625 : (Jvm.Cond.methodLink "BrookWeirs$Parser" (114 : Nat) ({ cls := "BrookWeirs$Brook", name := "lay", desc := "(II)I" } : Jvm.MethodName)) ∈ lw_all := lw_g (lw_at lw_m7 116 rfl) rfl
theorem q1626 : (Jvm.Cond.methodLink "BrookWeirs$Parser" (80 : Nat) ({ cls := "BrookWeirs$Parser", name := "latch", desc := "(Z)LBrookWeirs$Deed;" } : Jvm.MethodName)) ∈ lw_all := lw_g (lw_at lw_m7 117 rfl) rfl
theorem q1627 : (Jvm.Cond.privateMethod ({ cls := "BrookWeirs$Parser", name := "latch", desc := "(Z)LBrookWeirs$Deed;" } : Jvm.MethodName)) ∈ lw_tbl := lw_at lw_m7 118 rfl
theorem q1628 : (Jvm.Cond.instanceMethod ({ cls := "BrookWeirs$Parser", name := "latch", desc := "(Z)LBrookWeirs$Deed;" } : Jvm.MethodName)) ∈ lw_all := lw_g (lw_at lw_m7 119 rfl) rfl
theorem q1629 : (Jvm.Cond.code ({ cls := "BrookWeirs$Parser", name := "latch", desc := "(Z)LBrookWeirs$Deed;" } : Jvm.MethodName) prog_11_method_7_code (5 : Nat) (Option.some (Jvm.ClassFile.FieldType.object "BrookWeirs$Deed"))) ∈ lw_all := lw_g (lw_at lw_m7 120 rfl) rfl
theorem q1630 : (Jvm.Cond.static ({ cls := "BrookWeirs$Parser", name := "lambda$latch$0", desc := "(IZZLBrookWeirs$Brook;)I" } : Jvm.MethodName)) ∈ lw_all := lw_g (lw_at lw_m7 121 rfl) rfl
theorem q1631 : (Jvm.Cond.code ({ cls := "BrookWeirs$Parser", name := "lambda$latch$0", desc := "(IZZLBrookWeirs$Brook;)I" } : Jvm.MethodName) prog_11_method_16_code (4 : Nat) (Option.some Jvm.ClassFile.FieldType.int)) ∈ lw_all := lw_g (lw_at lw_m7 122 rfl) rfl
theorem q1632 : (Jvm.Cond.methodLink "BrookWeirs$Parser" (124 : Nat) ({ cls := "BrookWeirs$Brook", name := "setLatch", desc := "(IZZ)Z" } : Jvm.MethodName)) ∈ lw_all := lw_g (lw_at lw_m7 123 rfl) rfl
theorem q1633 : (Jvm.Cond.interfaceEntry "BrookWeirs$Parser" (90 : Nat)) ∈ lw_tbl := lw_at lw_m7 124 rfl
theorem q1634 : (Jvm.Cond.methodLink "BrookWeirs$Parser" (90 : Nat) ({ cls := "java/util/List", name := "add", desc := "(Ljava/lang/Object;)Z" } : Jvm.MethodName)) ∈ lw_all := lw_g (lw_at lw_m7 125 rfl) rfl
theorem q2352 : (Jvm.Cond.castable "BrookWeirs$Parser" "java/lang/Object") ∈ lw_tbl := lw_at lw_m10 123 rfl
theorem in_X13 : ∀ w ∈ wsX130, w ∈ lw_all := lw_in wsX130 [1510, 1512] (by decide +kernel) (by decide +kernel)

/-! BrookWeirs$FaultException -/
def RX14 : String := "BrookWeirs$FaultException"
def TX14 : u_T := fun k => match k with
  | 0 => ("java/lang/Throwable", "cause", "Ljava/lang/Throwable;", false)
  | 1 => ("java/lang/Throwable", "stackTrace", "[Ljava/lang/StackTraceElement;", false)
  | 2 => ("java/lang/Throwable", "suppressedExceptions", "Ljava/util/List;", false)
  | 3 => ("java/lang/Throwable", "detailMessage", "Ljava/lang/String;", false)
  | 4 => ("java/lang/Throwable", "backtrace", "Ljava/lang/Object;", false)
  | 5 => ("java/lang/Throwable", "depth", "I", false)
  | _ => ("BrookWeirs$FaultException", "position", "I", true)
def tyX14 : Nat → FieldType := fun k => match k with
  | 0 => .object "java/lang/Throwable"
  | 1 => .array (.object "java/lang/StackTraceElement")
  | 2 => .object "java/util/List"
  | 3 => .object "java/lang/String"
  | 4 => .object "java/lang/Object"
  | 5 => .int
  | _ => .int
abbrev wsX140 : List Cond := u_ws RX14 TX14 7
theorem nmX14 : ∀ a, a < 7 → ∀ b, b < 7 → a ≠ b → (TX14 a).2.1 ≠ (TX14 b).2.1 := by decide +kernel
theorem tyX14_ok : ∀ k, k < 7 → parseFieldDescriptor (TX14 k).2.2.1 = some (tyX14 k) := by decide +kernel
abbrev cX14_init : ByteArray := prog_9_method_1_code
def yX14_init : MethodName := ⟨RX14, "<init>", "(I)V"⟩
theorem q112 : (Jvm.Cond.initialized "BrookWeirs$FaultException") ∈ lw_all := lw_g (lw_at lw_m1 43 rfl) rfl
theorem q562 : (Jvm.Cond.selects "BrookWeirs$FaultException" ({ cls := "java/lang/Throwable", name := "fillInStackTrace", desc := "()Ljava/lang/Throwable;" } : Jvm.MethodName) ({ cls := "java/lang/Throwable", name := "fillInStackTrace", desc := "()Ljava/lang/Throwable;" } : Jvm.MethodName)) ∈ lw_all := lw_g (lw_at lw_m3 13 rfl) rfl
theorem q655 : (Jvm.Cond.selects "BrookWeirs$FaultException" ({ cls := "java/lang/Object", name := "getClass", desc := "()Ljava/lang/Class;" } : Jvm.MethodName) ({ cls := "java/lang/Object", name := "getClass", desc := "()Ljava/lang/Class;" } : Jvm.MethodName)) ∈ lw_all := lw_g (lw_at lw_m3 106 rfl) rfl
theorem q1584 : (Jvm.Cond.instantiable "BrookWeirs$FaultException" (7 : Nat)) ∈ lw_all := lw_g (lw_at lw_m7 75 rfl) rfl
theorem q1585 : (Jvm.Cond.castable "BrookWeirs$FaultException" "BrookWeirs$FaultException") ∈ lw_tbl := lw_at lw_m7 76 rfl
theorem q1586 : (Jvm.Cond.selects "BrookWeirs$FaultException" ({ cls := "java/lang/Throwable", name := "fillInStackTrace", desc := "(I)Ljava/lang/Throwable;" } : Jvm.MethodName) ({ cls := "java/lang/Throwable", name := "fillInStackTrace", desc := "(I)Ljava/lang/Throwable;" } : Jvm.MethodName)) ∈ lw_all := lw_g (lw_at lw_m7 77 rfl) rfl
theorem q1587 : (Jvm.Cond.lays "BrookWeirs$FaultException" "java/lang/Throwable" "cause" "Ljava/lang/Throwable;") ∈ lw_all := lw_g (lw_at lw_m7 78 rfl) rfl
theorem q1588 : (Jvm.Cond.lays "BrookWeirs$FaultException" "java/lang/Throwable" "stackTrace" "[Ljava/lang/StackTraceElement;") ∈ lw_all := lw_g (lw_at lw_m7 79 rfl) rfl
theorem q1589 : (Jvm.Cond.lays "BrookWeirs$FaultException" "java/lang/Throwable" "suppressedExceptions" "Ljava/util/List;") ∈ lw_all := lw_g (lw_at lw_m7 80 rfl) rfl
theorem q1590 : (Jvm.Cond.lays "BrookWeirs$FaultException" "java/lang/Throwable" "detailMessage" "Ljava/lang/String;") ∈ lw_all := lw_g (lw_at lw_m7 81 rfl) rfl
theorem q1591 : (Jvm.Cond.lays "BrookWeirs$FaultException" "java/lang/Throwable" "backtrace" "Ljava/lang/Object;") ∈ lw_all := lw_g (lw_at lw_m7 82 rfl) rfl
theorem q1593 : (Jvm.Cond.instanceMethod ({ cls := "BrookWeirs$FaultException", name := "<init>", desc := "(I)V" } : Jvm.MethodName)) ∈ lw_all := lw_g (lw_at lw_m7 84 rfl) rfl
theorem q1594 : (Jvm.Cond.code ({ cls := "BrookWeirs$FaultException", name := "<init>", desc := "(I)V" } : Jvm.MethodName) prog_9_method_1_code (2 : Nat) (Option.none : Option Jvm.ClassFile.FieldType)) ∈ lw_all := lw_g (lw_at lw_m7 85 rfl) rfl
theorem q1595 : (Jvm.Cond.methodLink "BrookWeirs$FaultException" (1 : Nat) ({ cls := "java/lang/Exception", name := "<init>", desc := "(Ljava/lang/String;Ljava/lang/Throwable;ZZ)V" } : Jvm.MethodName)) ∈ lw_all := lw_g (lw_at lw_m7 86 rfl) rfl
theorem q1596 : (Jvm.Cond.fieldLink "BrookWeirs$FaultException" (7 : Nat) "BrookWeirs$FaultException" "position" "I") ∈ lw_all := lw_g (lw_at lw_m7 87 rfl) rfl
theorem q1598 : (Jvm.Cond.laysFinal "BrookWeirs$FaultException" "BrookWeirs$FaultException" "position" "I") ∈ lw_all := lw_g (lw_at lw_m7 89 rfl) rfl
theorem q1599 : (Jvm.Cond.soleField "BrookWeirs$FaultException" "position") ∈ lw_all := lw_g (lw_at lw_m7 90 rfl) rfl
theorem q1600 : (Jvm.Cond.lays "BrookWeirs$FaultException" "java/lang/Throwable" "depth" "I") ∈ lw_all := lw_g (lw_at lw_m7 91 rfl) rfl
theorem q1601 : (Jvm.Cond.superclass "BrookWeirs$FaultException" "java/lang/Exception") ∈ lw_all := lw_g (lw_at lw_m7 92 rfl) rfl
theorem q2354 : (Jvm.Cond.castable "BrookWeirs$FaultException" "java/lang/Object") ∈ lw_tbl := lw_at lw_m10 125 rfl
theorem in_X14 : ∀ w ∈ wsX140, w ∈ lw_all := lw_in wsX140 [1587, 1588, 1589, 1590, 1591, 1600, 1598] (by decide +kernel) (by decide +kernel)

/-! BrookWeirs$Brook -/
def RX2 : String := "BrookWeirs$Brook"
def TX2 : u_T := fun k => match k with
  | 0 => ("BrookWeirs$Brook", "area", "[I", true)
  | 1 => ("BrookWeirs$Brook", "brim", "[I", true)
  | 2 => ("BrookWeirs$Brook", "need", "[I", true)
  | 3 => ("BrookWeirs$Brook", "boards", "[I", true)
  | 4 => ("BrookWeirs$Brook", "water", "[I", true)
  | 5 => ("BrookWeirs$Brook", "frogs", "[I", true)
  | 6 => ("BrookWeirs$Brook", "rains", "[I", true)
  | 7 => ("BrookWeirs$Brook", "clutches", "LBrookWeirs$Clutches;", true)
  | 8 => ("BrookWeirs$Brook", "pools", "I", false)
  | 9 => ("BrookWeirs$Brook", "told", "I", false)
  | 10 => ("BrookWeirs$Brook", "frogLatches", "I", false)
  | 11 => ("BrookWeirs$Brook", "farmLatches", "I", false)
  | 12 => ("BrookWeirs$Brook", "free", "I", false)
  | 13 => ("BrookWeirs$Brook", "flooded", "I", false)
  | 14 => ("BrookWeirs$Brook", "called", "I", false)
  | 15 => ("BrookWeirs$Brook", "days", "I", false)
  | 16 => ("BrookWeirs$Brook", "rained", "I", false)
  | 17 => ("BrookWeirs$Brook", "left", "I", false)
  | 18 => ("BrookWeirs$Brook", "taken", "I", false)
  | 19 => ("BrookWeirs$Brook", "floods", "I", false)
  | 20 => ("BrookWeirs$Brook", "silent", "I", false)
  | 21 => ("BrookWeirs$Brook", "laid", "I", false)
  | 22 => ("BrookWeirs$Brook", "hatched", "I", false)
  | _ => ("BrookWeirs$Brook", "lost", "I", false)
def tyX2 : Nat → FieldType := fun k => match k with
  | 0 => .array .int
  | 1 => .array .int
  | 2 => .array .int
  | 3 => .array .int
  | 4 => .array .int
  | 5 => .array .int
  | 6 => .array .int
  | 7 => .object "BrookWeirs$Clutches"
  | 8 => .int
  | 9 => .int
  | 10 => .int
  | 11 => .int
  | 12 => .int
  | 13 => .int
  | 14 => .int
  | 15 => .int
  | 16 => .int
  | 17 => .int
  | 18 => .int
  | 19 => .int
  | 20 => .int
  | 21 => .int
  | 22 => .int
  | _ => .int
abbrev wsX20 : List Cond := u_ws RX2 TX2 24
theorem nmX2 : ∀ a, a < 24 → ∀ b, b < 24 → a ≠ b → (TX2 a).2.1 ≠ (TX2 b).2.1 := by decide +kernel
theorem tyX2_ok : ∀ k, k < 24 → parseFieldDescriptor (TX2 k).2.2.1 = some (tyX2 k) := by decide +kernel
abbrev cX2_init : ByteArray := prog_3_method_1_code
def yX2_init : MethodName := ⟨RX2, "<init>", "()V"⟩
abbrev cX2_day : ByteArray := prog_3_method_22_code
def yX2_day : MethodName := ⟨RX2, "day", "()I"⟩
abbrev cX2_nextRain : ByteArray := prog_3_method_14_code
def yX2_nextRain : MethodName := ⟨RX2, "nextRain", "()I"⟩
abbrev cX2_rains : ByteArray := prog_3_method_15_code
def yX2_rains : MethodName := ⟨RX2, "rains", "(I)V"⟩
abbrev cX2_down : ByteArray := prog_3_method_6_code
def yX2_down : MethodName := ⟨RX2, "down", "(I)I"⟩
abbrev cX2_isOpen : ByteArray := prog_3_method_5_code
def yX2_isOpen : MethodName := ⟨RX2, "isOpen", "(I)Z"⟩
abbrev cX2_passes : ByteArray := prog_3_method_8_code
def yX2_passes : MethodName := ⟨RX2, "passes", "(II)V"⟩
abbrev cX2_floods : ByteArray := prog_3_method_16_code
def yX2_floods : MethodName := ⟨RX2, "floods", "()V"⟩
abbrev cX2_level : ByteArray := prog_3_method_4_code
def yX2_level : MethodName := ⟨RX2, "level", "(I)I"⟩
abbrev cX2_fields : ByteArray := prog_3_method_17_code
def yX2_fields : MethodName := ⟨RX2, "fields", "()V"⟩
abbrev cX2_lives : ByteArray := prog_3_method_19_code
def yX2_lives : MethodName := ⟨RX2, "lives", "(I)V"⟩
abbrev cX2_loses : ByteArray := prog_3_method_18_code
def yX2_loses : MethodName := ⟨RX2, "loses", "(II)V"⟩
abbrev cX2_hatches : ByteArray := prog_3_method_20_code
def yX2_hatches : MethodName := ⟨RX2, "hatches", "(I)V"⟩
abbrev cX2_night : ByteArray := prog_3_method_21_code
def yX2_night : MethodName := ⟨RX2, "night", "()V"⟩
abbrev cX2_isCalling : ByteArray := prog_3_method_7_code
def yX2_isCalling : MethodName := ⟨RX2, "isCalling", "(I)Z"⟩
abbrev cX2_become : ByteArray := prog_3_method_2_code
def yX2_become : MethodName := ⟨RX2, "become", "(LBrookWeirs$Brook;)LBrookWeirs$Brook;"⟩
abbrev cX2_sum : ByteArray := prog_3_method_25_code
def yX2_sum : MethodName := ⟨RX2, "sum", "([I)I"⟩
abbrev cX2_addPool : ByteArray := prog_3_method_9_code
def yX2_addPool : MethodName := ⟨RX2, "addPool", "(III)I"⟩
abbrev cX2_at : ByteArray := prog_3_method_3_code
def yX2_at : MethodName := ⟨RX2, "at", "(I)I"⟩
abbrev cX2_setBoards : ByteArray := prog_3_method_10_code
def yX2_setBoards : MethodName := ⟨RX2, "setBoards", "(II)I"⟩
abbrev cX2_setLatch : ByteArray := prog_3_method_11_code
def yX2_setLatch : MethodName := ⟨RX2, "setLatch", "(IZZ)Z"⟩
abbrev cX2_lay : ByteArray := prog_3_method_12_code
def yX2_lay : MethodName := ⟨RX2, "lay", "(II)I"⟩
abbrev cX2_pass : ByteArray := prog_3_method_23_code
def yX2_pass : MethodName := ⟨RX2, "pass", "(I)LBrookWeirs$Brook;"⟩
abbrev cX2_tell : ByteArray := prog_3_method_13_code
def yX2_tell : MethodName := ⟨RX2, "tell", "(I)I"⟩
abbrev cX2_season : ByteArray := prog_3_method_24_code
def yX2_season : MethodName := ⟨RX2, "season", "()I"⟩
theorem q71 : (Jvm.Cond.initialized "BrookWeirs$Brook") ∈ lw_all := lw_g (lw_at lw_m1 2 rfl) rfl
theorem q124 : (Jvm.Cond.instantiable "BrookWeirs$Brook" (24 : Nat)) ∈ lw_all := lw_g (lw_at lw_m1 55 rfl) rfl
theorem q126 : (Jvm.Cond.instanceMethod ({ cls := "BrookWeirs$Brook", name := "<init>", desc := "()V" } : Jvm.MethodName)) ∈ lw_all := lw_g (lw_at lw_m1 57 rfl) rfl
theorem q127 : (Jvm.Cond.code ({ cls := "BrookWeirs$Brook", name := "<init>", desc := "()V" } : Jvm.MethodName) prog_3_method_1_code (1 : Nat) (Option.none : Option Jvm.ClassFile.FieldType)) ∈ lw_all := lw_g (lw_at lw_m1 58 rfl) rfl
theorem q128 : (Jvm.Cond.methodLink "BrookWeirs$Brook" (3 : Nat) ({ cls := "java/lang/Object", name := "<init>", desc := "()V" } : Jvm.MethodName)) ∈ lw_all := lw_g (lw_at lw_m1 59 rfl) rfl
theorem q129 : (Jvm.Cond.classLink "BrookWeirs$Brook" (33 : Nat) "BrookWeirs$Clutches") ∈ lw_all := lw_g (lw_at lw_m1 60 rfl) rfl
theorem q131 : (Jvm.Cond.methodLinkNest "BrookWeirs$Brook" (35 : Nat) ({ cls := "BrookWeirs$Clutches", name := "<init>", desc := "()V" } : Jvm.MethodName) "BrookWeirs") ∈ lw_tbl := lw_at lw_m1 62 rfl
theorem q137 : (Jvm.Cond.fieldLinkNest "BrookWeirs$Brook" (150 : Nat) "BrookWeirs$Clutches" "pool" "[I" "BrookWeirs") ∈ lw_tbl := lw_at lw_m1 68 rfl
theorem q141 : (Jvm.Cond.fieldLinkNest "BrookWeirs$Brook" (147 : Nat) "BrookWeirs$Clutches" "eggs" "[I" "BrookWeirs") ∈ lw_tbl := lw_at lw_m1 72 rfl
theorem q144 : (Jvm.Cond.fieldLinkNest "BrookWeirs$Brook" (158 : Nat) "BrookWeirs$Clutches" "age" "[I" "BrookWeirs") ∈ lw_tbl := lw_at lw_m1 75 rfl
theorem q147 : (Jvm.Cond.fieldLinkNest "BrookWeirs$Brook" (156 : Nat) "BrookWeirs$Clutches" "level" "[I" "BrookWeirs") ∈ lw_tbl := lw_at lw_m1 78 rfl
theorem q151 : (Jvm.Cond.fieldLinkNest "BrookWeirs$Brook" (136 : Nat) "BrookWeirs$Clutches" "many" "I" "BrookWeirs") ∈ lw_tbl := lw_at lw_m1 82 rfl
theorem q165 : (Jvm.Cond.fieldLink "BrookWeirs$Brook" (9 : Nat) "BrookWeirs$Brook" "area" "[I") ∈ lw_all := lw_g (lw_at lw_m1 96 rfl) rfl
theorem q167 : (Jvm.Cond.fieldLink "BrookWeirs$Brook" (15 : Nat) "BrookWeirs$Brook" "brim" "[I") ∈ lw_all := lw_g (lw_at lw_m1 98 rfl) rfl
theorem q169 : (Jvm.Cond.fieldLink "BrookWeirs$Brook" (18 : Nat) "BrookWeirs$Brook" "need" "[I") ∈ lw_all := lw_g (lw_at lw_m1 100 rfl) rfl
theorem q171 : (Jvm.Cond.fieldLink "BrookWeirs$Brook" (21 : Nat) "BrookWeirs$Brook" "boards" "[I") ∈ lw_all := lw_g (lw_at lw_m1 102 rfl) rfl
theorem q173 : (Jvm.Cond.fieldLink "BrookWeirs$Brook" (24 : Nat) "BrookWeirs$Brook" "water" "[I") ∈ lw_all := lw_g (lw_at lw_m1 104 rfl) rfl
theorem q175 : (Jvm.Cond.fieldLink "BrookWeirs$Brook" (27 : Nat) "BrookWeirs$Brook" "frogs" "[I") ∈ lw_all := lw_g (lw_at lw_m1 106 rfl) rfl
theorem q178 : (Jvm.Cond.fieldLink "BrookWeirs$Brook" (30 : Nat) "BrookWeirs$Brook" "rains" "[I") ∈ lw_all := lw_g (lw_at lw_m1 109 rfl) rfl
theorem q180 : (Jvm.Cond.fieldLink "BrookWeirs$Brook" (36 : Nat) "BrookWeirs$Brook" "clutches" "LBrookWeirs$Clutches;") ∈ lw_all := lw_g (lw_at lw_m1 111 rfl) rfl
theorem q183 : (Jvm.Cond.fieldLink "BrookWeirs$Brook" (50 : Nat) "BrookWeirs$Brook" "pools" "I") ∈ lw_all := lw_g (lw_at lw_m1 114 rfl) rfl
theorem q186 : (Jvm.Cond.fieldLink "BrookWeirs$Brook" (54 : Nat) "BrookWeirs$Brook" "told" "I") ∈ lw_all := lw_g (lw_at lw_m1 117 rfl) rfl
theorem q189 : (Jvm.Cond.fieldLink "BrookWeirs$Brook" (57 : Nat) "BrookWeirs$Brook" "frogLatches" "I") ∈ lw_all := lw_g (lw_at lw_m1 120 rfl) rfl
theorem q192 : (Jvm.Cond.fieldLink "BrookWeirs$Brook" (60 : Nat) "BrookWeirs$Brook" "farmLatches" "I") ∈ lw_all := lw_g (lw_at lw_m1 123 rfl) rfl
theorem q194 : (Jvm.Cond.fieldLink "BrookWeirs$Brook" (63 : Nat) "BrookWeirs$Brook" "free" "I") ∈ lw_all := lw_g (lw_at lw_m1 125 rfl) rfl
theorem q196 : (Jvm.Cond.fieldLink "BrookWeirs$Brook" (66 : Nat) "BrookWeirs$Brook" "flooded" "I") ∈ lw_all := lw_g (lw_at lw_m1 127 rfl) rfl
theorem q198 : (Jvm.Cond.fieldLink "BrookWeirs$Brook" (69 : Nat) "BrookWeirs$Brook" "called" "I") ∈ lw_all := lw_g (lw_at lw_m1 129 rfl) rfl
theorem q200 : (Jvm.Cond.fieldLink "BrookWeirs$Brook" (72 : Nat) "BrookWeirs$Brook" "days" "I") ∈ lw_all := lw_g (lw_at lw_m1 131 rfl) rfl
theorem q202 : (Jvm.Cond.fieldLink "BrookWeirs$Brook" (75 : Nat) "BrookWeirs$Brook" "rained" "I") ∈ lw_all := lw_g (lw_at lw_m1 133 rfl) rfl
theorem q204 : (Jvm.Cond.fieldLink "BrookWeirs$Brook" (78 : Nat) "BrookWeirs$Brook" "left" "I") ∈ lw_all := lw_g (lw_at lw_m1 135 rfl) rfl
theorem q206 : (Jvm.Cond.fieldLink "BrookWeirs$Brook" (81 : Nat) "BrookWeirs$Brook" "taken" "I") ∈ lw_all := lw_g (lw_at lw_m1 137 rfl) rfl
theorem q209 : (Jvm.Cond.fieldLink "BrookWeirs$Brook" (84 : Nat) "BrookWeirs$Brook" "floods" "I") ∈ lw_all := lw_g (lw_at lw_m1 140 rfl) rfl
theorem q211 : (Jvm.Cond.fieldLink "BrookWeirs$Brook" (87 : Nat) "BrookWeirs$Brook" "silent" "I") ∈ lw_all := lw_g (lw_at lw_m1 142 rfl) rfl
theorem q213 : (Jvm.Cond.fieldLink "BrookWeirs$Brook" (90 : Nat) "BrookWeirs$Brook" "laid" "I") ∈ lw_all := lw_g (lw_at lw_m1 144 rfl) rfl
theorem q215 : (Jvm.Cond.fieldLink "BrookWeirs$Brook" (93 : Nat) "BrookWeirs$Brook" "hatched" "I") ∈ lw_all := lw_g (lw_at lw_m1 146 rfl) rfl
theorem q217 : (Jvm.Cond.fieldLink "BrookWeirs$Brook" (96 : Nat) "BrookWeirs$Brook" "lost" "I") ∈ lw_all := lw_g (lw_at lw_m1 148 rfl) rfl
theorem q219 : (Jvm.Cond.laysFinal "BrookWeirs$Brook" "BrookWeirs$Brook" "area" "[I") ∈ lw_all := lw_g (lw_at lw_m1 150 rfl) rfl
theorem q220 : (Jvm.Cond.soleField "BrookWeirs$Brook" "area") ∈ lw_all := lw_g (lw_at lw_m1 151 rfl) rfl
theorem q221 : (Jvm.Cond.laysFinal "BrookWeirs$Brook" "BrookWeirs$Brook" "brim" "[I") ∈ lw_all := lw_g (lw_at lw_m1 152 rfl) rfl
theorem q222 : (Jvm.Cond.soleField "BrookWeirs$Brook" "brim") ∈ lw_all := lw_g (lw_at lw_m1 153 rfl) rfl
theorem q223 : (Jvm.Cond.laysFinal "BrookWeirs$Brook" "BrookWeirs$Brook" "need" "[I") ∈ lw_all := lw_g (lw_at lw_m1 154 rfl) rfl
theorem q224 : (Jvm.Cond.soleField "BrookWeirs$Brook" "need") ∈ lw_all := lw_g (lw_at lw_m1 155 rfl) rfl
theorem q225 : (Jvm.Cond.laysFinal "BrookWeirs$Brook" "BrookWeirs$Brook" "boards" "[I") ∈ lw_all := lw_g (lw_at lw_m1 156 rfl) rfl
theorem q226 : (Jvm.Cond.soleField "BrookWeirs$Brook" "boards") ∈ lw_all := lw_g (lw_at lw_m1 157 rfl) rfl
theorem q227 : (Jvm.Cond.laysFinal "BrookWeirs$Brook" "BrookWeirs$Brook" "water" "[I") ∈ lw_all := lw_g (lw_at lw_m1 158 rfl) rfl
theorem q228 : (Jvm.Cond.soleField "BrookWeirs$Brook" "water") ∈ lw_all := lw_g (lw_at lw_m1 159 rfl) rfl
theorem q229 : (Jvm.Cond.laysFinal "BrookWeirs$Brook" "BrookWeirs$Brook" "frogs" "[I") ∈ lw_all := lw_g (lw_at lw_m1 160 rfl) rfl
theorem q230 : (Jvm.Cond.soleField "BrookWeirs$Brook" "frogs") ∈ lw_all := lw_g (lw_at lw_m1 161 rfl) rfl
theorem q231 : (Jvm.Cond.laysFinal "BrookWeirs$Brook" "BrookWeirs$Brook" "rains" "[I") ∈ lw_all := lw_g (lw_at lw_m1 162 rfl) rfl
theorem q232 : (Jvm.Cond.soleField "BrookWeirs$Brook" "rains") ∈ lw_all := lw_g (lw_at lw_m1 163 rfl) rfl
theorem q233 : (Jvm.Cond.laysFinal "BrookWeirs$Brook" "BrookWeirs$Brook" "clutches" "LBrookWeirs$Clutches;") ∈ lw_all := lw_g (lw_at lw_m1 164 rfl) rfl
theorem q234 : (Jvm.Cond.soleField "BrookWeirs$Brook" "clutches") ∈ lw_all := lw_g (lw_at lw_m1 165 rfl) rfl
theorem q235 : (Jvm.Cond.lays "BrookWeirs$Brook" "BrookWeirs$Brook" "pools" "I") ∈ lw_all := lw_g (lw_at lw_m1 166 rfl) rfl
theorem q236 : (Jvm.Cond.soleField "BrookWeirs$Brook" "pools") ∈ lw_all := lw_g (lw_at lw_m1 167 rfl) rfl
theorem q237 : (Jvm.Cond.lays "BrookWeirs$Brook" "BrookWeirs$Brook" "told" "I") ∈ lw_all := lw_g (lw_at lw_m1 168 rfl) rfl
theorem q238 : (Jvm.Cond.soleField "BrookWeirs$Brook" "told") ∈ lw_all := lw_g (lw_at lw_m1 169 rfl) rfl
theorem q239 : (Jvm.Cond.lays "BrookWeirs$Brook" "BrookWeirs$Brook" "frogLatches" "I") ∈ lw_all := lw_g (lw_at lw_m1 170 rfl) rfl
theorem q240 : (Jvm.Cond.soleField "BrookWeirs$Brook" "frogLatches") ∈ lw_all := lw_g (lw_at lw_m1 171 rfl) rfl
theorem q241 : (Jvm.Cond.lays "BrookWeirs$Brook" "BrookWeirs$Brook" "farmLatches" "I") ∈ lw_all := lw_g (lw_at lw_m1 172 rfl) rfl
theorem q242 : (Jvm.Cond.soleField "BrookWeirs$Brook" "farmLatches") ∈ lw_all := lw_g (lw_at lw_m1 173 rfl) rfl
theorem q243 : (Jvm.Cond.lays "BrookWeirs$Brook" "BrookWeirs$Brook" "free" "I") ∈ lw_all := lw_g (lw_at lw_m1 174 rfl) rfl
theorem q244 : (Jvm.Cond.soleField "BrookWeirs$Brook" "free") ∈ lw_all := lw_g (lw_at lw_m1 175 rfl) rfl
theorem q245 : (Jvm.Cond.lays "BrookWeirs$Brook" "BrookWeirs$Brook" "flooded" "I") ∈ lw_all := lw_g (lw_at lw_m1 176 rfl) rfl
theorem q246 : (Jvm.Cond.soleField "BrookWeirs$Brook" "flooded") ∈ lw_all := lw_g (lw_at lw_m1 177 rfl) rfl
theorem q247 : (Jvm.Cond.lays "BrookWeirs$Brook" "BrookWeirs$Brook" "called" "I") ∈ lw_all := lw_g (lw_at lw_m1 178 rfl) rfl
theorem q248 : (Jvm.Cond.soleField "BrookWeirs$Brook" "called") ∈ lw_all := lw_g (lw_at lw_m1 179 rfl) rfl
theorem q249 : (Jvm.Cond.lays "BrookWeirs$Brook" "BrookWeirs$Brook" "days" "I") ∈ lw_all := lw_g (lw_at lw_m1 180 rfl) rfl
theorem q250 : (Jvm.Cond.soleField "BrookWeirs$Brook" "days") ∈ lw_all := lw_g (lw_at lw_m1 181 rfl) rfl
theorem q251 : (Jvm.Cond.lays "BrookWeirs$Brook" "BrookWeirs$Brook" "rained" "I") ∈ lw_all := lw_g (lw_at lw_m1 182 rfl) rfl
theorem q252 : (Jvm.Cond.soleField "BrookWeirs$Brook" "rained") ∈ lw_all := lw_g (lw_at lw_m1 183 rfl) rfl
theorem q253 : (Jvm.Cond.lays "BrookWeirs$Brook" "BrookWeirs$Brook" "left" "I") ∈ lw_all := lw_g (lw_at lw_m1 184 rfl) rfl
theorem q254 : (Jvm.Cond.soleField "BrookWeirs$Brook" "left") ∈ lw_all := lw_g (lw_at lw_m1 185 rfl) rfl
theorem q255 : (Jvm.Cond.lays "BrookWeirs$Brook" "BrookWeirs$Brook" "taken" "I") ∈ lw_all := lw_g (lw_at lw_m1 186 rfl) rfl
theorem q256 : (Jvm.Cond.soleField "BrookWeirs$Brook" "taken") ∈ lw_all := lw_g (lw_at lw_m1 187 rfl) rfl
theorem q257 : (Jvm.Cond.lays "BrookWeirs$Brook" "BrookWeirs$Brook" "floods" "I") ∈ lw_all := lw_g (lw_at lw_m1 188 rfl) rfl
theorem q258 : (Jvm.Cond.soleField "BrookWeirs$Brook" "floods") ∈ lw_all := lw_g (lw_at lw_m1 189 rfl) rfl
theorem q259 : (Jvm.Cond.lays "BrookWeirs$Brook" "BrookWeirs$Brook" "silent" "I") ∈ lw_all := lw_g (lw_at lw_m1 190 rfl) rfl
theorem q260 : (Jvm.Cond.soleField "BrookWeirs$Brook" "silent") ∈ lw_all := lw_g (lw_at lw_m1 191 rfl) rfl
theorem q261 : (Jvm.Cond.lays "BrookWeirs$Brook" "BrookWeirs$Brook" "laid" "I") ∈ lw_all := lw_g (lw_at lw_m1 192 rfl) rfl
theorem q262 : (Jvm.Cond.soleField "BrookWeirs$Brook" "laid") ∈ lw_all := lw_g (lw_at lw_m1 193 rfl) rfl
theorem q263 : (Jvm.Cond.lays "BrookWeirs$Brook" "BrookWeirs$Brook" "hatched" "I") ∈ lw_all := lw_g (lw_at lw_m1 194 rfl) rfl
theorem q264 : (Jvm.Cond.soleField "BrookWeirs$Brook" "hatched") ∈ lw_all := lw_g (lw_at lw_m1 195 rfl) rfl
theorem q265 : (Jvm.Cond.lays "BrookWeirs$Brook" "BrookWeirs$Brook" "lost" "I") ∈ lw_all := lw_g (lw_at lw_m1 196 rfl) rfl
theorem q266 : (Jvm.Cond.soleField "BrookWeirs$Brook" "lost") ∈ lw_all := lw_g (lw_at lw_m1 197 rfl) rfl
theorem q267 : (Jvm.Cond.superclass "BrookWeirs$Brook" "java/lang/Object") ∈ lw_all := lw_g (lw_at lw_m1 198 rfl) rfl
theorem q403 : (Jvm.Cond.instanceMethod ({ cls := "BrookWeirs$Brook", name := "day", desc := "()I" } : Jvm.MethodName)) ∈ lw_all := lw_g (lw_at lw_m2 94 rfl) rfl
theorem q404 : (Jvm.Cond.selects "BrookWeirs$Brook" ({ cls := "BrookWeirs$Brook", name := "day", desc := "()I" } : Jvm.MethodName) ({ cls := "BrookWeirs$Brook", name := "day", desc := "()I" } : Jvm.MethodName)) ∈ lw_all := lw_g (lw_at lw_m2 95 rfl) rfl
theorem q405 : (Jvm.Cond.code ({ cls := "BrookWeirs$Brook", name := "day", desc := "()I" } : Jvm.MethodName) prog_3_method_22_code (2 : Nat) (Option.some Jvm.ClassFile.FieldType.int)) ∈ lw_all := lw_g (lw_at lw_m2 96 rfl) rfl
theorem q406 : (Jvm.Cond.methodLink "BrookWeirs$Brook" (168 : Nat) ({ cls := "BrookWeirs$Brook", name := "nextRain", desc := "()I" } : Jvm.MethodName)) ∈ lw_all := lw_g (lw_at lw_m2 97 rfl) rfl
theorem q407 : (Jvm.Cond.privateMethod ({ cls := "BrookWeirs$Brook", name := "nextRain", desc := "()I" } : Jvm.MethodName)) ∈ lw_tbl := lw_at lw_m2 98 rfl
theorem q408 : (Jvm.Cond.instanceMethod ({ cls := "BrookWeirs$Brook", name := "nextRain", desc := "()I" } : Jvm.MethodName)) ∈ lw_all := lw_g (lw_at lw_m2 99 rfl) rfl
theorem q409 : (Jvm.Cond.code ({ cls := "BrookWeirs$Brook", name := "nextRain", desc := "()I" } : Jvm.MethodName) prog_3_method_14_code (2 : Nat) (Option.some Jvm.ClassFile.FieldType.int)) ∈ lw_all := lw_g (lw_at lw_m2 100 rfl) rfl
theorem q410 : (Jvm.Cond.methodLink "BrookWeirs$Brook" (40 : Nat) ({ cls := "java/lang/System", name := "arraycopy", desc := "(Ljava/lang/Object;ILjava/lang/Object;II)V" } : Jvm.MethodName)) ∈ lw_all := lw_g (lw_at lw_m2 101 rfl) rfl
theorem q413 : (Jvm.Cond.methodLink "BrookWeirs$Brook" (172 : Nat) ({ cls := "BrookWeirs$Brook", name := "rains", desc := "(I)V" } : Jvm.MethodName)) ∈ lw_all := lw_g (lw_at lw_m2 104 rfl) rfl
theorem q414 : (Jvm.Cond.privateMethod ({ cls := "BrookWeirs$Brook", name := "rains", desc := "(I)V" } : Jvm.MethodName)) ∈ lw_tbl := lw_at lw_m2 105 rfl
theorem q415 : (Jvm.Cond.instanceMethod ({ cls := "BrookWeirs$Brook", name := "rains", desc := "(I)V" } : Jvm.MethodName)) ∈ lw_all := lw_g (lw_at lw_m2 106 rfl) rfl
theorem q416 : (Jvm.Cond.code ({ cls := "BrookWeirs$Brook", name := "rains", desc := "(I)V" } : Jvm.MethodName) prog_3_method_15_code (2 : Nat) (Option.none : Option Jvm.ClassFile.FieldType)) ∈ lw_all := lw_g (lw_at lw_m2 107 rfl) rfl
theorem q417 : (Jvm.Cond.methodLink "BrookWeirs$Brook" (174 : Nat) ({ cls := "BrookWeirs$Brook", name := "down", desc := "(I)I" } : Jvm.MethodName)) ∈ lw_all := lw_g (lw_at lw_m2 108 rfl) rfl
theorem q418 : (Jvm.Cond.instanceMethod ({ cls := "BrookWeirs$Brook", name := "down", desc := "(I)I" } : Jvm.MethodName)) ∈ lw_all := lw_g (lw_at lw_m2 109 rfl) rfl
theorem q419 : (Jvm.Cond.selects "BrookWeirs$Brook" ({ cls := "BrookWeirs$Brook", name := "down", desc := "(I)I" } : Jvm.MethodName) ({ cls := "BrookWeirs$Brook", name := "down", desc := "(I)I" } : Jvm.MethodName)) ∈ lw_all := lw_g (lw_at lw_m2 110 rfl) rfl
theorem q420 : (Jvm.Cond.code ({ cls := "BrookWeirs$Brook", name := "down", desc := "(I)I" } : Jvm.MethodName) prog_3_method_6_code (3 : Nat) (Option.some Jvm.ClassFile.FieldType.int)) ∈ lw_all := lw_g (lw_at lw_m2 111 rfl) rfl
theorem q421 : (Jvm.Cond.methodLink "BrookWeirs$Brook" (111 : Nat) ({ cls := "BrookWeirs$Brook", name := "isOpen", desc := "(I)Z" } : Jvm.MethodName)) ∈ lw_all := lw_g (lw_at lw_m2 112 rfl) rfl
theorem q422 : (Jvm.Cond.instanceMethod ({ cls := "BrookWeirs$Brook", name := "isOpen", desc := "(I)Z" } : Jvm.MethodName)) ∈ lw_all := lw_g (lw_at lw_m2 113 rfl) rfl
theorem q423 : (Jvm.Cond.selects "BrookWeirs$Brook" ({ cls := "BrookWeirs$Brook", name := "isOpen", desc := "(I)Z" } : Jvm.MethodName) ({ cls := "BrookWeirs$Brook", name := "isOpen", desc := "(I)Z" } : Jvm.MethodName)) ∈ lw_all := lw_g (lw_at lw_m2 114 rfl) rfl
theorem q424 : (Jvm.Cond.code ({ cls := "BrookWeirs$Brook", name := "isOpen", desc := "(I)Z" } : Jvm.MethodName) prog_3_method_5_code (4 : Nat) (Option.some Jvm.ClassFile.FieldType.boolean)) ∈ lw_all := lw_g (lw_at lw_m2 115 rfl) rfl
theorem q425 : (Jvm.Cond.methodLinkNest "BrookWeirs$Brook" (107 : Nat) ({ cls := "BrookWeirs", name := "has", desc := "(II)Z" } : Jvm.MethodName) "BrookWeirs") ∈ lw_tbl := lw_at lw_m2 116 rfl
theorem q428 : (Jvm.Cond.methodLink "BrookWeirs$Brook" (115 : Nat) ({ cls := "java/lang/Math", name := "min", desc := "(II)I" } : Jvm.MethodName)) ∈ lw_all := lw_g (lw_at lw_m2 119 rfl) rfl
theorem q431 : (Jvm.Cond.methodLink "BrookWeirs$Brook" (121 : Nat) ({ cls := "java/lang/Math", name := "max", desc := "(II)I" } : Jvm.MethodName)) ∈ lw_all := lw_g (lw_at lw_m2 122 rfl) rfl
theorem q434 : (Jvm.Cond.methodLink "BrookWeirs$Brook" (143 : Nat) ({ cls := "BrookWeirs$Brook", name := "passes", desc := "(II)V" } : Jvm.MethodName)) ∈ lw_all := lw_g (lw_at lw_m2 125 rfl) rfl
theorem q435 : (Jvm.Cond.privateMethod ({ cls := "BrookWeirs$Brook", name := "passes", desc := "(II)V" } : Jvm.MethodName)) ∈ lw_tbl := lw_at lw_m2 126 rfl
theorem q436 : (Jvm.Cond.instanceMethod ({ cls := "BrookWeirs$Brook", name := "passes", desc := "(II)V" } : Jvm.MethodName)) ∈ lw_all := lw_g (lw_at lw_m2 127 rfl) rfl
theorem q437 : (Jvm.Cond.code ({ cls := "BrookWeirs$Brook", name := "passes", desc := "(II)V" } : Jvm.MethodName) prog_3_method_8_code (3 : Nat) (Option.none : Option Jvm.ClassFile.FieldType)) ∈ lw_all := lw_g (lw_at lw_m2 128 rfl) rfl
theorem q438 : (Jvm.Cond.methodLink "BrookWeirs$Brook" (177 : Nat) ({ cls := "BrookWeirs$Brook", name := "floods", desc := "()V" } : Jvm.MethodName)) ∈ lw_all := lw_g (lw_at lw_m2 129 rfl) rfl
theorem q439 : (Jvm.Cond.privateMethod ({ cls := "BrookWeirs$Brook", name := "floods", desc := "()V" } : Jvm.MethodName)) ∈ lw_tbl := lw_at lw_m2 130 rfl
theorem q440 : (Jvm.Cond.instanceMethod ({ cls := "BrookWeirs$Brook", name := "floods", desc := "()V" } : Jvm.MethodName)) ∈ lw_all := lw_g (lw_at lw_m2 131 rfl) rfl
theorem q441 : (Jvm.Cond.code ({ cls := "BrookWeirs$Brook", name := "floods", desc := "()V" } : Jvm.MethodName) prog_3_method_16_code (2 : Nat) (Option.none : Option Jvm.ClassFile.FieldType)) ∈ lw_all := lw_g (lw_at lw_m2 132 rfl) rfl
theorem q442 : (Jvm.Cond.methodLink "BrookWeirs$Brook" (124 : Nat) ({ cls := "BrookWeirs$Brook", name := "level", desc := "(I)I" } : Jvm.MethodName)) ∈ lw_all := lw_g (lw_at lw_m2 133 rfl) rfl
theorem q443 : (Jvm.Cond.instanceMethod ({ cls := "BrookWeirs$Brook", name := "level", desc := "(I)I" } : Jvm.MethodName)) ∈ lw_all := lw_g (lw_at lw_m2 134 rfl) rfl
theorem q444 : (Jvm.Cond.selects "BrookWeirs$Brook" ({ cls := "BrookWeirs$Brook", name := "level", desc := "(I)I" } : Jvm.MethodName) ({ cls := "BrookWeirs$Brook", name := "level", desc := "(I)I" } : Jvm.MethodName)) ∈ lw_all := lw_g (lw_at lw_m2 135 rfl) rfl
theorem q445 : (Jvm.Cond.code ({ cls := "BrookWeirs$Brook", name := "level", desc := "(I)I" } : Jvm.MethodName) prog_3_method_4_code (2 : Nat) (Option.some Jvm.ClassFile.FieldType.int)) ∈ lw_all := lw_g (lw_at lw_m2 136 rfl) rfl
theorem q446 : (Jvm.Cond.methodLink "BrookWeirs$Brook" (179 : Nat) ({ cls := "BrookWeirs$Brook", name := "fields", desc := "()V" } : Jvm.MethodName)) ∈ lw_all := lw_g (lw_at lw_m2 137 rfl) rfl
theorem q447 : (Jvm.Cond.privateMethod ({ cls := "BrookWeirs$Brook", name := "fields", desc := "()V" } : Jvm.MethodName)) ∈ lw_tbl := lw_at lw_m2 138 rfl
theorem q448 : (Jvm.Cond.instanceMethod ({ cls := "BrookWeirs$Brook", name := "fields", desc := "()V" } : Jvm.MethodName)) ∈ lw_all := lw_g (lw_at lw_m2 139 rfl) rfl
theorem q449 : (Jvm.Cond.code ({ cls := "BrookWeirs$Brook", name := "fields", desc := "()V" } : Jvm.MethodName) prog_3_method_17_code (3 : Nat) (Option.none : Option Jvm.ClassFile.FieldType)) ∈ lw_all := lw_g (lw_at lw_m2 140 rfl) rfl
theorem q450 : (Jvm.Cond.methodLink "BrookWeirs$Brook" (182 : Nat) ({ cls := "BrookWeirs$Brook", name := "lives", desc := "(I)V" } : Jvm.MethodName)) ∈ lw_all := lw_g (lw_at lw_m2 141 rfl) rfl
theorem q451 : (Jvm.Cond.privateMethod ({ cls := "BrookWeirs$Brook", name := "lives", desc := "(I)V" } : Jvm.MethodName)) ∈ lw_tbl := lw_at lw_m2 142 rfl
theorem q452 : (Jvm.Cond.instanceMethod ({ cls := "BrookWeirs$Brook", name := "lives", desc := "(I)V" } : Jvm.MethodName)) ∈ lw_all := lw_g (lw_at lw_m2 143 rfl) rfl
theorem q453 : (Jvm.Cond.code ({ cls := "BrookWeirs$Brook", name := "lives", desc := "(I)V" } : Jvm.MethodName) prog_3_method_19_code (4 : Nat) (Option.none : Option Jvm.ClassFile.FieldType)) ∈ lw_all := lw_g (lw_at lw_m2 144 rfl) rfl
theorem q454 : (Jvm.Cond.methodLink "BrookWeirs$Brook" (153 : Nat) ({ cls := "BrookWeirs$Brook", name := "loses", desc := "(II)V" } : Jvm.MethodName)) ∈ lw_all := lw_g (lw_at lw_m2 145 rfl) rfl
theorem q455 : (Jvm.Cond.privateMethod ({ cls := "BrookWeirs$Brook", name := "loses", desc := "(II)V" } : Jvm.MethodName)) ∈ lw_tbl := lw_at lw_m2 146 rfl
theorem q456 : (Jvm.Cond.instanceMethod ({ cls := "BrookWeirs$Brook", name := "loses", desc := "(II)V" } : Jvm.MethodName)) ∈ lw_all := lw_g (lw_at lw_m2 147 rfl) rfl
theorem q457 : (Jvm.Cond.code ({ cls := "BrookWeirs$Brook", name := "loses", desc := "(II)V" } : Jvm.MethodName) prog_3_method_18_code (3 : Nat) (Option.none : Option Jvm.ClassFile.FieldType)) ∈ lw_all := lw_g (lw_at lw_m2 148 rfl) rfl
theorem q458 : (Jvm.Cond.methodLink "BrookWeirs$Brook" (161 : Nat) ({ cls := "BrookWeirs$Brook", name := "hatches", desc := "(I)V" } : Jvm.MethodName)) ∈ lw_all := lw_g (lw_at lw_m2 149 rfl) rfl
theorem q459 : (Jvm.Cond.privateMethod ({ cls := "BrookWeirs$Brook", name := "hatches", desc := "(I)V" } : Jvm.MethodName)) ∈ lw_tbl := lw_at lw_m2 150 rfl
theorem q460 : (Jvm.Cond.instanceMethod ({ cls := "BrookWeirs$Brook", name := "hatches", desc := "(I)V" } : Jvm.MethodName)) ∈ lw_all := lw_g (lw_at lw_m2 151 rfl) rfl
theorem q461 : (Jvm.Cond.code ({ cls := "BrookWeirs$Brook", name := "hatches", desc := "(I)V" } : Jvm.MethodName) prog_3_method_20_code (3 : Nat) (Option.none : Option Jvm.ClassFile.FieldType)) ∈ lw_all := lw_g (lw_at lw_m2 152 rfl) rfl
theorem q462 : (Jvm.Cond.methodLink "BrookWeirs$Brook" (185 : Nat) ({ cls := "BrookWeirs$Clutches", name := "tidy", desc := "()V" } : Jvm.MethodName)) ∈ lw_all := lw_g (lw_at lw_m2 153 rfl) rfl
theorem q466 : (Jvm.Cond.methodLink "BrookWeirs$Brook" (188 : Nat) ({ cls := "BrookWeirs$Brook", name := "night", desc := "()V" } : Jvm.MethodName)) ∈ lw_all := lw_g (lw_at lw_m2 157 rfl) rfl
theorem q467 : (Jvm.Cond.privateMethod ({ cls := "BrookWeirs$Brook", name := "night", desc := "()V" } : Jvm.MethodName)) ∈ lw_tbl := lw_at lw_m2 158 rfl
theorem q468 : (Jvm.Cond.instanceMethod ({ cls := "BrookWeirs$Brook", name := "night", desc := "()V" } : Jvm.MethodName)) ∈ lw_all := lw_g (lw_at lw_m2 159 rfl) rfl
theorem q469 : (Jvm.Cond.code ({ cls := "BrookWeirs$Brook", name := "night", desc := "()V" } : Jvm.MethodName) prog_3_method_21_code (2 : Nat) (Option.none : Option Jvm.ClassFile.FieldType)) ∈ lw_all := lw_g (lw_at lw_m2 160 rfl) rfl
theorem q470 : (Jvm.Cond.methodLink "BrookWeirs$Brook" (165 : Nat) ({ cls := "BrookWeirs$Brook", name := "isCalling", desc := "(I)Z" } : Jvm.MethodName)) ∈ lw_all := lw_g (lw_at lw_m2 161 rfl) rfl
theorem q471 : (Jvm.Cond.instanceMethod ({ cls := "BrookWeirs$Brook", name := "isCalling", desc := "(I)Z" } : Jvm.MethodName)) ∈ lw_all := lw_g (lw_at lw_m2 162 rfl) rfl
theorem q472 : (Jvm.Cond.selects "BrookWeirs$Brook" ({ cls := "BrookWeirs$Brook", name := "isCalling", desc := "(I)Z" } : Jvm.MethodName) ({ cls := "BrookWeirs$Brook", name := "isCalling", desc := "(I)Z" } : Jvm.MethodName)) ∈ lw_all := lw_g (lw_at lw_m2 163 rfl) rfl
theorem q473 : (Jvm.Cond.code ({ cls := "BrookWeirs$Brook", name := "isCalling", desc := "(I)Z" } : Jvm.MethodName) prog_3_method_7_code (2 : Nat) (Option.some Jvm.ClassFile.FieldType.boolean)) ∈ lw_all := lw_g (lw_at lw_m2 164 rfl) rfl
theorem q474 : (Jvm.Cond.methodLinkNest "BrookWeirs$Brook" (99 : Nat) ({ cls := "BrookWeirs", name := "inRange", desc := "(III)Z" } : Jvm.MethodName) "BrookWeirs") ∈ lw_tbl := lw_at lw_m2 165 rfl
theorem q477 : (Jvm.Cond.methodLink "BrookWeirs$Brook" (191 : Nat) ({ cls := "java/lang/Integer", name := "bitCount", desc := "(I)I" } : Jvm.MethodName)) ∈ lw_all := lw_g (lw_at lw_m2 168 rfl) rfl
theorem q492 : (Jvm.Cond.instanceMethod ({ cls := "BrookWeirs$Brook", name := "become", desc := "(LBrookWeirs$Brook;)LBrookWeirs$Brook;" } : Jvm.MethodName)) ∈ lw_all := lw_g (lw_at lw_m2 183 rfl) rfl
theorem q493 : (Jvm.Cond.selects "BrookWeirs$Brook" ({ cls := "BrookWeirs$Brook", name := "become", desc := "(LBrookWeirs$Brook;)LBrookWeirs$Brook;" } : Jvm.MethodName) ({ cls := "BrookWeirs$Brook", name := "become", desc := "(LBrookWeirs$Brook;)LBrookWeirs$Brook;" } : Jvm.MethodName)) ∈ lw_all := lw_g (lw_at lw_m2 184 rfl) rfl
theorem q494 : (Jvm.Cond.code ({ cls := "BrookWeirs$Brook", name := "become", desc := "(LBrookWeirs$Brook;)LBrookWeirs$Brook;" } : Jvm.MethodName) prog_3_method_2_code (2 : Nat) (Option.some (Jvm.ClassFile.FieldType.object "BrookWeirs$Brook"))) ∈ lw_all := lw_g (lw_at lw_m2 185 rfl) rfl
theorem q495 : (Jvm.Cond.methodLink "BrookWeirs$Brook" (46 : Nat) ({ cls := "BrookWeirs$Clutches", name := "become", desc := "(LBrookWeirs$Clutches;)V" } : Jvm.MethodName)) ∈ lw_all := lw_g (lw_at lw_m2 186 rfl) rfl
theorem q650 : (Jvm.Cond.selects "BrookWeirs$Brook" ({ cls := "java/lang/Object", name := "getClass", desc := "()Ljava/lang/Class;" } : Jvm.MethodName) ({ cls := "java/lang/Object", name := "getClass", desc := "()Ljava/lang/Class;" } : Jvm.MethodName)) ∈ lw_all := lw_g (lw_at lw_m3 101 rfl) rfl
theorem q709 : (Jvm.Cond.instanceMethod ({ cls := "BrookWeirs$Brook", name := "sum", desc := "([I)I" } : Jvm.MethodName)) ∈ lw_all := lw_g (lw_at lw_m3 160 rfl) rfl
theorem q710 : (Jvm.Cond.selects "BrookWeirs$Brook" ({ cls := "BrookWeirs$Brook", name := "sum", desc := "([I)I" } : Jvm.MethodName) ({ cls := "BrookWeirs$Brook", name := "sum", desc := "([I)I" } : Jvm.MethodName)) ∈ lw_all := lw_g (lw_at lw_m3 161 rfl) rfl
theorem q711 : (Jvm.Cond.code ({ cls := "BrookWeirs$Brook", name := "sum", desc := "([I)I" } : Jvm.MethodName) prog_3_method_25_code (4 : Nat) (Option.some Jvm.ClassFile.FieldType.int)) ∈ lw_all := lw_g (lw_at lw_m3 162 rfl) rfl
theorem q751 : (Jvm.Cond.instanceMethod ({ cls := "BrookWeirs$Brook", name := "addPool", desc := "(III)I" } : Jvm.MethodName)) ∈ lw_all := lw_g (lw_at lw_m3 202 rfl) rfl
theorem q752 : (Jvm.Cond.selects "BrookWeirs$Brook" ({ cls := "BrookWeirs$Brook", name := "addPool", desc := "(III)I" } : Jvm.MethodName) ({ cls := "BrookWeirs$Brook", name := "addPool", desc := "(III)I" } : Jvm.MethodName)) ∈ lw_all := lw_g (lw_at lw_m3 203 rfl) rfl
theorem q753 : (Jvm.Cond.code ({ cls := "BrookWeirs$Brook", name := "addPool", desc := "(III)I" } : Jvm.MethodName) prog_3_method_9_code (4 : Nat) (Option.some Jvm.ClassFile.FieldType.int)) ∈ lw_all := lw_g (lw_at lw_m3 204 rfl) rfl
theorem q754 : (Jvm.Cond.methodLinkNest "BrookWeirs$Brook" (128 : Nat) ({ cls := "BrookWeirs", name := "allow", desc := "(ZI)V" } : Jvm.MethodName) "BrookWeirs") ∈ lw_tbl := lw_at lw_m3 205 rfl
theorem q814 : (Jvm.Cond.instanceMethod ({ cls := "BrookWeirs$Brook", name := "at", desc := "(I)I" } : Jvm.MethodName)) ∈ lw_all := lw_g (lw_at lw_m4 25 rfl) rfl
theorem q815 : (Jvm.Cond.selects "BrookWeirs$Brook" ({ cls := "BrookWeirs$Brook", name := "at", desc := "(I)I" } : Jvm.MethodName) ({ cls := "BrookWeirs$Brook", name := "at", desc := "(I)I" } : Jvm.MethodName)) ∈ lw_all := lw_g (lw_at lw_m4 26 rfl) rfl
theorem q816 : (Jvm.Cond.code ({ cls := "BrookWeirs$Brook", name := "at", desc := "(I)I" } : Jvm.MethodName) prog_3_method_3_code (2 : Nat) (Option.some Jvm.ClassFile.FieldType.int)) ∈ lw_all := lw_g (lw_at lw_m4 27 rfl) rfl
theorem q817 : (Jvm.Cond.methodLinkNest "BrookWeirs$Brook" (103 : Nat) ({ cls := "BrookWeirs", name := "requireIndex", desc := "(Z)V" } : Jvm.MethodName) "BrookWeirs") ∈ lw_tbl := lw_at lw_m4 28 rfl
theorem q839 : (Jvm.Cond.instanceMethod ({ cls := "BrookWeirs$Brook", name := "setBoards", desc := "(II)I" } : Jvm.MethodName)) ∈ lw_all := lw_g (lw_at lw_m4 50 rfl) rfl
theorem q840 : (Jvm.Cond.selects "BrookWeirs$Brook" ({ cls := "BrookWeirs$Brook", name := "setBoards", desc := "(II)I" } : Jvm.MethodName) ({ cls := "BrookWeirs$Brook", name := "setBoards", desc := "(II)I" } : Jvm.MethodName)) ∈ lw_all := lw_g (lw_at lw_m4 51 rfl) rfl
theorem q841 : (Jvm.Cond.code ({ cls := "BrookWeirs$Brook", name := "setBoards", desc := "(II)I" } : Jvm.MethodName) prog_3_method_10_code (5 : Nat) (Option.some Jvm.ClassFile.FieldType.int)) ∈ lw_all := lw_g (lw_at lw_m4 52 rfl) rfl
theorem q863 : (Jvm.Cond.instanceMethod ({ cls := "BrookWeirs$Brook", name := "setLatch", desc := "(IZZ)Z" } : Jvm.MethodName)) ∈ lw_all := lw_g (lw_at lw_m4 74 rfl) rfl
theorem q864 : (Jvm.Cond.selects "BrookWeirs$Brook" ({ cls := "BrookWeirs$Brook", name := "setLatch", desc := "(IZZ)Z" } : Jvm.MethodName) ({ cls := "BrookWeirs$Brook", name := "setLatch", desc := "(IZZ)Z" } : Jvm.MethodName)) ∈ lw_all := lw_g (lw_at lw_m4 75 rfl) rfl
theorem q865 : (Jvm.Cond.code ({ cls := "BrookWeirs$Brook", name := "setLatch", desc := "(IZZ)Z" } : Jvm.MethodName) prog_3_method_11_code (5 : Nat) (Option.some Jvm.ClassFile.FieldType.boolean)) ∈ lw_all := lw_g (lw_at lw_m4 76 rfl) rfl
theorem q866 : (Jvm.Cond.methodLinkNest "BrookWeirs$Brook" (132 : Nat) ({ cls := "BrookWeirs", name := "with", desc := "(IIZ)I" } : Jvm.MethodName) "BrookWeirs") ∈ lw_tbl := lw_at lw_m4 77 rfl
theorem q887 : (Jvm.Cond.instanceMethod ({ cls := "BrookWeirs$Brook", name := "lay", desc := "(II)I" } : Jvm.MethodName)) ∈ lw_all := lw_g (lw_at lw_m4 98 rfl) rfl
theorem q888 : (Jvm.Cond.selects "BrookWeirs$Brook" ({ cls := "BrookWeirs$Brook", name := "lay", desc := "(II)I" } : Jvm.MethodName) ({ cls := "BrookWeirs$Brook", name := "lay", desc := "(II)I" } : Jvm.MethodName)) ∈ lw_all := lw_g (lw_at lw_m4 99 rfl) rfl
theorem q889 : (Jvm.Cond.code ({ cls := "BrookWeirs$Brook", name := "lay", desc := "(II)I" } : Jvm.MethodName) prog_3_method_12_code (3 : Nat) (Option.some Jvm.ClassFile.FieldType.int)) ∈ lw_all := lw_g (lw_at lw_m4 100 rfl) rfl
theorem q890 : (Jvm.Cond.methodLink "BrookWeirs$Brook" (139 : Nat) ({ cls := "BrookWeirs$Clutches", name := "add", desc := "(III)I" } : Jvm.MethodName)) ∈ lw_all := lw_g (lw_at lw_m4 101 rfl) rfl
theorem q1099 : (Jvm.Cond.instanceMethod ({ cls := "BrookWeirs$Brook", name := "pass", desc := "(I)LBrookWeirs$Brook;" } : Jvm.MethodName)) ∈ lw_all := lw_g (lw_at lw_m5 70 rfl) rfl
theorem q1100 : (Jvm.Cond.selects "BrookWeirs$Brook" ({ cls := "BrookWeirs$Brook", name := "pass", desc := "(I)LBrookWeirs$Brook;" } : Jvm.MethodName) ({ cls := "BrookWeirs$Brook", name := "pass", desc := "(I)LBrookWeirs$Brook;" } : Jvm.MethodName)) ∈ lw_all := lw_g (lw_at lw_m5 71 rfl) rfl
theorem q1101 : (Jvm.Cond.code ({ cls := "BrookWeirs$Brook", name := "pass", desc := "(I)LBrookWeirs$Brook;" } : Jvm.MethodName) prog_3_method_23_code (4 : Nat) (Option.some (Jvm.ClassFile.FieldType.object "BrookWeirs$Brook"))) ∈ lw_all := lw_g (lw_at lw_m5 72 rfl) rfl
theorem q1102 : (Jvm.Cond.methodLink "BrookWeirs$Brook" (196 : Nat) ({ cls := "BrookWeirs$Brook", name := "day", desc := "()I" } : Jvm.MethodName)) ∈ lw_all := lw_g (lw_at lw_m5 73 rfl) rfl
theorem q1215 : (Jvm.Cond.instanceMethod ({ cls := "BrookWeirs$Brook", name := "tell", desc := "(I)I" } : Jvm.MethodName)) ∈ lw_all := lw_g (lw_at lw_m5 186 rfl) rfl
theorem q1216 : (Jvm.Cond.selects "BrookWeirs$Brook" ({ cls := "BrookWeirs$Brook", name := "tell", desc := "(I)I" } : Jvm.MethodName) ({ cls := "BrookWeirs$Brook", name := "tell", desc := "(I)I" } : Jvm.MethodName)) ∈ lw_all := lw_g (lw_at lw_m5 187 rfl) rfl
theorem q1217 : (Jvm.Cond.code ({ cls := "BrookWeirs$Brook", name := "tell", desc := "(I)I" } : Jvm.MethodName) prog_3_method_13_code (2 : Nat) (Option.some Jvm.ClassFile.FieldType.int)) ∈ lw_all := lw_g (lw_at lw_m5 188 rfl) rfl
theorem q1235 : (Jvm.Cond.instanceMethod ({ cls := "BrookWeirs$Brook", name := "season", desc := "()I" } : Jvm.MethodName)) ∈ lw_all := lw_g (lw_at lw_m5 206 rfl) rfl
theorem q1236 : (Jvm.Cond.selects "BrookWeirs$Brook" ({ cls := "BrookWeirs$Brook", name := "season", desc := "()I" } : Jvm.MethodName) ({ cls := "BrookWeirs$Brook", name := "season", desc := "()I" } : Jvm.MethodName)) ∈ lw_all := lw_g (lw_at lw_m5 207 rfl) rfl
theorem q1237 : (Jvm.Cond.code ({ cls := "BrookWeirs$Brook", name := "season", desc := "()I" } : Jvm.MethodName) prog_3_method_24_code (3 : Nat) (Option.some Jvm.ClassFile.FieldType.int)) ∈ lw_all := lw_g (lw_at lw_m5 208 rfl) rfl
theorem q1238 : (Jvm.Cond.methodLink "BrookWeirs$Brook" (199 : Nat) ({ cls := "BrookWeirs$Brook", name := "pass", desc := "(I)LBrookWeirs$Brook;" } : Jvm.MethodName)) ∈ lw_all := lw_g (lw_at lw_m5 209 rfl) rfl
theorem q2331 : (Jvm.Cond.castable "BrookWeirs$Brook" "java/lang/Object") ∈ lw_tbl := lw_at lw_m10 102 rfl
theorem in_X2 : ∀ w ∈ wsX20, w ∈ lw_all := lw_in wsX20 [219, 221, 223, 225, 227, 229, 231, 233, 235, 237, 239, 241, 243, 245, 247, 249, 251, 253, 255, 257, 259, 261, 263, 265] (by decide +kernel) (by decide +kernel)

/-! BrookWeirs$Clutches -/
def RX3 : String := "BrookWeirs$Clutches"
def TX3 : u_T := fun k => match k with
  | 0 => ("BrookWeirs$Clutches", "pool", "[I", true)
  | 1 => ("BrookWeirs$Clutches", "eggs", "[I", true)
  | 2 => ("BrookWeirs$Clutches", "age", "[I", true)
  | 3 => ("BrookWeirs$Clutches", "level", "[I", true)
  | _ => ("BrookWeirs$Clutches", "many", "I", false)
def tyX3 : Nat → FieldType := fun k => match k with
  | 0 => .array .int
  | 1 => .array .int
  | 2 => .array .int
  | 3 => .array .int
  | _ => .int
abbrev wsX30 : List Cond := u_ws RX3 TX3 5
theorem nmX3 : ∀ a, a < 5 → ∀ b, b < 5 → a ≠ b → (TX3 a).2.1 ≠ (TX3 b).2.1 := by decide +kernel
theorem tyX3_ok : ∀ k, k < 5 → parseFieldDescriptor (TX3 k).2.2.1 = some (tyX3 k) := by decide +kernel
abbrev cX3_init : ByteArray := prog_4_method_1_code
def yX3_init : MethodName := ⟨RX3, "<init>", "()V"⟩
abbrev cX3_tidy : ByteArray := prog_4_method_4_code
def yX3_tidy : MethodName := ⟨RX3, "tidy", "()V"⟩
abbrev cX3_become : ByteArray := prog_4_method_2_code
def yX3_become : MethodName := ⟨RX3, "become", "(LBrookWeirs$Clutches;)V"⟩
abbrev cX3_add : ByteArray := prog_4_method_3_code
def yX3_add : MethodName := ⟨RX3, "add", "(III)I"⟩
abbrev cX3_in : ByteArray := prog_4_method_6_code
def yX3_in : MethodName := ⟨RX3, "in", "(I)Ljava/lang/Iterable;"⟩
abbrev cX3_eggs : ByteArray := prog_4_method_5_code
def yX3_eggs : MethodName := ⟨RX3, "eggs", "()I"⟩
theorem q72 : (Jvm.Cond.initialized "BrookWeirs$Clutches") ∈ lw_all := lw_g (lw_at lw_m1 3 rfl) rfl
theorem q130 : (Jvm.Cond.instantiable "BrookWeirs$Clutches" (5 : Nat)) ∈ lw_all := lw_g (lw_at lw_m1 61 rfl) rfl
theorem q132 : (Jvm.Cond.instanceMethod ({ cls := "BrookWeirs$Clutches", name := "<init>", desc := "()V" } : Jvm.MethodName)) ∈ lw_all := lw_g (lw_at lw_m1 63 rfl) rfl
theorem q133 : (Jvm.Cond.code ({ cls := "BrookWeirs$Clutches", name := "<init>", desc := "()V" } : Jvm.MethodName) prog_4_method_1_code (1 : Nat) (Option.none : Option Jvm.ClassFile.FieldType)) ∈ lw_all := lw_g (lw_at lw_m1 64 rfl) rfl
theorem q134 : (Jvm.Cond.methodLink "BrookWeirs$Clutches" (3 : Nat) ({ cls := "java/lang/Object", name := "<init>", desc := "()V" } : Jvm.MethodName)) ∈ lw_all := lw_g (lw_at lw_m1 65 rfl) rfl
theorem q135 : (Jvm.Cond.fieldLink "BrookWeirs$Clutches" (9 : Nat) "BrookWeirs$Clutches" "pool" "[I") ∈ lw_all := lw_g (lw_at lw_m1 66 rfl) rfl
theorem q139 : (Jvm.Cond.fieldLink "BrookWeirs$Clutches" (15 : Nat) "BrookWeirs$Clutches" "eggs" "[I") ∈ lw_all := lw_g (lw_at lw_m1 70 rfl) rfl
theorem q143 : (Jvm.Cond.fieldLink "BrookWeirs$Clutches" (18 : Nat) "BrookWeirs$Clutches" "age" "[I") ∈ lw_all := lw_g (lw_at lw_m1 74 rfl) rfl
theorem q146 : (Jvm.Cond.fieldLink "BrookWeirs$Clutches" (21 : Nat) "BrookWeirs$Clutches" "level" "[I") ∈ lw_all := lw_g (lw_at lw_m1 77 rfl) rfl
theorem q150 : (Jvm.Cond.fieldLink "BrookWeirs$Clutches" (30 : Nat) "BrookWeirs$Clutches" "many" "I") ∈ lw_all := lw_g (lw_at lw_m1 81 rfl) rfl
theorem q153 : (Jvm.Cond.laysFinal "BrookWeirs$Clutches" "BrookWeirs$Clutches" "pool" "[I") ∈ lw_all := lw_g (lw_at lw_m1 84 rfl) rfl
theorem q154 : (Jvm.Cond.soleField "BrookWeirs$Clutches" "pool") ∈ lw_all := lw_g (lw_at lw_m1 85 rfl) rfl
theorem q155 : (Jvm.Cond.laysFinal "BrookWeirs$Clutches" "BrookWeirs$Clutches" "eggs" "[I") ∈ lw_all := lw_g (lw_at lw_m1 86 rfl) rfl
theorem q156 : (Jvm.Cond.soleField "BrookWeirs$Clutches" "eggs") ∈ lw_all := lw_g (lw_at lw_m1 87 rfl) rfl
theorem q157 : (Jvm.Cond.laysFinal "BrookWeirs$Clutches" "BrookWeirs$Clutches" "age" "[I") ∈ lw_all := lw_g (lw_at lw_m1 88 rfl) rfl
theorem q158 : (Jvm.Cond.soleField "BrookWeirs$Clutches" "age") ∈ lw_all := lw_g (lw_at lw_m1 89 rfl) rfl
theorem q159 : (Jvm.Cond.laysFinal "BrookWeirs$Clutches" "BrookWeirs$Clutches" "level" "[I") ∈ lw_all := lw_g (lw_at lw_m1 90 rfl) rfl
theorem q160 : (Jvm.Cond.soleField "BrookWeirs$Clutches" "level") ∈ lw_all := lw_g (lw_at lw_m1 91 rfl) rfl
theorem q161 : (Jvm.Cond.lays "BrookWeirs$Clutches" "BrookWeirs$Clutches" "many" "I") ∈ lw_all := lw_g (lw_at lw_m1 92 rfl) rfl
theorem q162 : (Jvm.Cond.soleField "BrookWeirs$Clutches" "many") ∈ lw_all := lw_g (lw_at lw_m1 93 rfl) rfl
theorem q163 : (Jvm.Cond.superclass "BrookWeirs$Clutches" "java/lang/Object") ∈ lw_all := lw_g (lw_at lw_m1 94 rfl) rfl
theorem q463 : (Jvm.Cond.instanceMethod ({ cls := "BrookWeirs$Clutches", name := "tidy", desc := "()V" } : Jvm.MethodName)) ∈ lw_all := lw_g (lw_at lw_m2 154 rfl) rfl
theorem q464 : (Jvm.Cond.selects "BrookWeirs$Clutches" ({ cls := "BrookWeirs$Clutches", name := "tidy", desc := "()V" } : Jvm.MethodName) ({ cls := "BrookWeirs$Clutches", name := "tidy", desc := "()V" } : Jvm.MethodName)) ∈ lw_all := lw_g (lw_at lw_m2 155 rfl) rfl
theorem q465 : (Jvm.Cond.code ({ cls := "BrookWeirs$Clutches", name := "tidy", desc := "()V" } : Jvm.MethodName) prog_4_method_4_code (3 : Nat) (Option.none : Option Jvm.ClassFile.FieldType)) ∈ lw_all := lw_g (lw_at lw_m2 156 rfl) rfl
theorem q496 : (Jvm.Cond.instanceMethod ({ cls := "BrookWeirs$Clutches", name := "become", desc := "(LBrookWeirs$Clutches;)V" } : Jvm.MethodName)) ∈ lw_all := lw_g (lw_at lw_m2 187 rfl) rfl
theorem q497 : (Jvm.Cond.selects "BrookWeirs$Clutches" ({ cls := "BrookWeirs$Clutches", name := "become", desc := "(LBrookWeirs$Clutches;)V" } : Jvm.MethodName) ({ cls := "BrookWeirs$Clutches", name := "become", desc := "(LBrookWeirs$Clutches;)V" } : Jvm.MethodName)) ∈ lw_all := lw_g (lw_at lw_m2 188 rfl) rfl
theorem q498 : (Jvm.Cond.code ({ cls := "BrookWeirs$Clutches", name := "become", desc := "(LBrookWeirs$Clutches;)V" } : Jvm.MethodName) prog_4_method_2_code (2 : Nat) (Option.none : Option Jvm.ClassFile.FieldType)) ∈ lw_all := lw_g (lw_at lw_m2 189 rfl) rfl
theorem q499 : (Jvm.Cond.methodLink "BrookWeirs$Clutches" (24 : Nat) ({ cls := "java/lang/System", name := "arraycopy", desc := "(Ljava/lang/Object;ILjava/lang/Object;II)V" } : Jvm.MethodName)) ∈ lw_all := lw_g (lw_at lw_m2 190 rfl) rfl
theorem q651 : (Jvm.Cond.selects "BrookWeirs$Clutches" ({ cls := "java/lang/Object", name := "getClass", desc := "()Ljava/lang/Class;" } : Jvm.MethodName) ({ cls := "java/lang/Object", name := "getClass", desc := "()Ljava/lang/Class;" } : Jvm.MethodName)) ∈ lw_all := lw_g (lw_at lw_m3 102 rfl) rfl
theorem q891 : (Jvm.Cond.instanceMethod ({ cls := "BrookWeirs$Clutches", name := "add", desc := "(III)I" } : Jvm.MethodName)) ∈ lw_all := lw_g (lw_at lw_m4 102 rfl) rfl
theorem q892 : (Jvm.Cond.selects "BrookWeirs$Clutches" ({ cls := "BrookWeirs$Clutches", name := "add", desc := "(III)I" } : Jvm.MethodName) ({ cls := "BrookWeirs$Clutches", name := "add", desc := "(III)I" } : Jvm.MethodName)) ∈ lw_all := lw_g (lw_at lw_m4 103 rfl) rfl
theorem q893 : (Jvm.Cond.code ({ cls := "BrookWeirs$Clutches", name := "add", desc := "(III)I" } : Jvm.MethodName) prog_4_method_3_code (4 : Nat) (Option.some Jvm.ClassFile.FieldType.int)) ∈ lw_all := lw_g (lw_at lw_m4 104 rfl) rfl
theorem q906 : (Jvm.Cond.instanceMethod ({ cls := "BrookWeirs$Clutches", name := "in", desc := "(I)Ljava/lang/Iterable;" } : Jvm.MethodName)) ∈ lw_all := lw_g (lw_at lw_m4 117 rfl) rfl
theorem q907 : (Jvm.Cond.selects "BrookWeirs$Clutches" ({ cls := "BrookWeirs$Clutches", name := "in", desc := "(I)Ljava/lang/Iterable;" } : Jvm.MethodName) ({ cls := "BrookWeirs$Clutches", name := "in", desc := "(I)Ljava/lang/Iterable;" } : Jvm.MethodName)) ∈ lw_all := lw_g (lw_at lw_m4 118 rfl) rfl
theorem q908 : (Jvm.Cond.code ({ cls := "BrookWeirs$Clutches", name := "in", desc := "(I)Ljava/lang/Iterable;" } : Jvm.MethodName) prog_4_method_6_code (2 : Nat) (Option.some (Jvm.ClassFile.FieldType.object "java/lang/Iterable"))) ∈ lw_all := lw_g (lw_at lw_m4 119 rfl) rfl
theorem q909 : (Jvm.Cond.classLink "BrookWeirs$Clutches" (34 : Nat) "BrookWeirs$Clutches$1") ∈ lw_all := lw_g (lw_at lw_m4 120 rfl) rfl
theorem q911 : (Jvm.Cond.methodLink "BrookWeirs$Clutches" (36 : Nat) ({ cls := "BrookWeirs$Clutches$1", name := "<init>", desc := "(LBrookWeirs$Clutches;I)V" } : Jvm.MethodName)) ∈ lw_all := lw_g (lw_at lw_m4 122 rfl) rfl
theorem q1113 : (Jvm.Cond.instanceMethod ({ cls := "BrookWeirs$Clutches", name := "eggs", desc := "()I" } : Jvm.MethodName)) ∈ lw_all := lw_g (lw_at lw_m5 84 rfl) rfl
theorem q1114 : (Jvm.Cond.selects "BrookWeirs$Clutches" ({ cls := "BrookWeirs$Clutches", name := "eggs", desc := "()I" } : Jvm.MethodName) ({ cls := "BrookWeirs$Clutches", name := "eggs", desc := "()I" } : Jvm.MethodName)) ∈ lw_all := lw_g (lw_at lw_m5 85 rfl) rfl
theorem q1115 : (Jvm.Cond.code ({ cls := "BrookWeirs$Clutches", name := "eggs", desc := "()I" } : Jvm.MethodName) prog_4_method_5_code (3 : Nat) (Option.some Jvm.ClassFile.FieldType.int)) ∈ lw_all := lw_g (lw_at lw_m5 86 rfl) rfl
theorem q2332 : (Jvm.Cond.castable "BrookWeirs$Clutches" "java/lang/Object") ∈ lw_tbl := lw_at lw_m10 103 rfl
theorem in_X3 : ∀ w ∈ wsX30, w ∈ lw_all := lw_in wsX30 [153, 155, 157, 159, 161] (by decide +kernel) (by decide +kernel)

/-! BrookWeirs$Side -/
def RX4 : String := "BrookWeirs$Side"
abbrev cX4_init : ByteArray := prog_13_method_1_code
def yX4_init : MethodName := ⟨RX4, "<init>", "(LBrookWeirs;)V"⟩
abbrev cX4_choose : ByteArray := prog_13_method_8_code
def yX4_choose : MethodName := ⟨RX4, "choose", "(LBrookWeirs$Brook;I)I"⟩
abbrev cX4_search : ByteArray := prog_13_method_7_code
def yX4_search : MethodName := ⟨RX4, "search", "(LBrookWeirs$Brook;I)LBrookWeirs$Side;"⟩
abbrev cX4_worth : ByteArray := prog_13_method_5_code
def yX4_worth : MethodName := ⟨RX4, "worth", "(LBrookWeirs$Brook;II)I"⟩
abbrev cX4_look : ByteArray := prog_13_method_6_code
def yX4_look : MethodName := ⟨RX4, "look", "(II)V"⟩
theorem q79 : (Jvm.Cond.initialized "BrookWeirs$Side") ∈ lw_all := lw_g (lw_at lw_m1 10 rfl) rfl
theorem q184 : (Jvm.Cond.fieldLinkNest "BrookWeirs$Side" (54 : Nat) "BrookWeirs$Brook" "pools" "I" "BrookWeirs") ∈ lw_tbl := lw_at lw_m1 115 rfl
theorem q330 : (Jvm.Cond.instanceMethod ({ cls := "BrookWeirs$Side", name := "<init>", desc := "(LBrookWeirs;)V" } : Jvm.MethodName)) ∈ lw_all := lw_g (lw_at lw_m2 21 rfl) rfl
theorem q331 : (Jvm.Cond.code ({ cls := "BrookWeirs$Side", name := "<init>", desc := "(LBrookWeirs;)V" } : Jvm.MethodName) prog_13_method_1_code (2 : Nat) (Option.none : Option Jvm.ClassFile.FieldType)) ∈ lw_all := lw_g (lw_at lw_m2 22 rfl) rfl
theorem q332 : (Jvm.Cond.methodLink "BrookWeirs$Side" (7 : Nat) ({ cls := "java/lang/Object", name := "<init>", desc := "()V" } : Jvm.MethodName)) ∈ lw_all := lw_g (lw_at lw_m2 23 rfl) rfl
theorem q334 : (Jvm.Cond.fieldLink "BrookWeirs$Side" (47 : Nat) "BrookWeirs$Side" "best" "I") ∈ lw_all := lw_g (lw_at lw_m2 25 rfl) rfl
theorem q336 : (Jvm.Cond.fieldLink "BrookWeirs$Side" (37 : Nat) "BrookWeirs$Side" "most" "I") ∈ lw_all := lw_g (lw_at lw_m2 27 rfl) rfl
theorem q338 : (Jvm.Cond.fieldLink "BrookWeirs$Side" (1 : Nat) "BrookWeirs$Side" "this$0" "LBrookWeirs;") ∈ lw_all := lw_g (lw_at lw_m2 29 rfl) rfl
theorem q342 : (Jvm.Cond.soleField "BrookWeirs$Side" "best") ∈ lw_all := lw_g (lw_at lw_m2 33 rfl) rfl
theorem q344 : (Jvm.Cond.soleField "BrookWeirs$Side" "most") ∈ lw_all := lw_g (lw_at lw_m2 35 rfl) rfl
theorem q346 : (Jvm.Cond.soleField "BrookWeirs$Side" "this$0") ∈ lw_all := lw_g (lw_at lw_m2 37 rfl) rfl
theorem q363 : (Jvm.Cond.fieldLinkNest "BrookWeirs$Side" (13 : Nat) "BrookWeirs" "tried" "LBrookWeirs$Brook;" "BrookWeirs") ∈ lw_tbl := lw_at lw_m2 54 rfl
theorem q1050 : (Jvm.Cond.instanceMethod ({ cls := "BrookWeirs$Side", name := "choose", desc := "(LBrookWeirs$Brook;I)I" } : Jvm.MethodName)) ∈ lw_all := lw_g (lw_at lw_m5 21 rfl) rfl
theorem q1051 : (Jvm.Cond.sameMethod "BrookWeirs$Side" "BrookWeirs$Side" "choose" "(LBrookWeirs$Brook;I)I") ∈ lw_all := lw_g (lw_at lw_m5 22 rfl) rfl
theorem q1060 : (Jvm.Cond.declares ({ cls := "BrookWeirs$Side", name := "choose", desc := "(LBrookWeirs$Brook;I)I" } : Jvm.MethodName)) ∈ lw_tbl := lw_at lw_m5 31 rfl
theorem q1062 : (Jvm.Cond.code ({ cls := "BrookWeirs$Side", name := "choose", desc := "(LBrookWeirs$Brook;I)I" } : Jvm.MethodName) prog_13_method_8_code (4 : Nat) (Option.some Jvm.ClassFile.FieldType.int)) ∈ lw_all := lw_g (lw_at lw_m5 33 rfl) rfl
theorem q1063 : (Jvm.Cond.methodLink "BrookWeirs$Side" (61 : Nat) ({ cls := "BrookWeirs$Side", name := "latches", desc := "(LBrookWeirs$Brook;)I" } : Jvm.MethodName)) ∈ lw_all := lw_g (lw_at lw_m5 34 rfl) rfl
theorem q1064 : (Jvm.Cond.declares ({ cls := "BrookWeirs$Side", name := "latches", desc := "(LBrookWeirs$Brook;)I" } : Jvm.MethodName)) ∈ lw_tbl := lw_at lw_m5 35 rfl
theorem q1065 : (Jvm.Cond.sameMethod "BrookWeirs$Side" "BrookWeirs$Side" "latches" "(LBrookWeirs$Brook;)I") ∈ lw_all := lw_g (lw_at lw_m5 36 rfl) rfl
theorem q1073 : (Jvm.Cond.methodLink "BrookWeirs$Side" (65 : Nat) ({ cls := "BrookWeirs$Side", name := "search", desc := "(LBrookWeirs$Brook;I)LBrookWeirs$Side;" } : Jvm.MethodName)) ∈ lw_all := lw_g (lw_at lw_m5 44 rfl) rfl
theorem q1074 : (Jvm.Cond.instanceMethod ({ cls := "BrookWeirs$Side", name := "search", desc := "(LBrookWeirs$Brook;I)LBrookWeirs$Side;" } : Jvm.MethodName)) ∈ lw_all := lw_g (lw_at lw_m5 45 rfl) rfl
theorem q1075 : (Jvm.Cond.sameMethod "BrookWeirs$Side" "BrookWeirs$Side" "search" "(LBrookWeirs$Brook;I)LBrookWeirs$Side;") ∈ lw_all := lw_g (lw_at lw_m5 46 rfl) rfl
theorem q1079 : (Jvm.Cond.code ({ cls := "BrookWeirs$Side", name := "search", desc := "(LBrookWeirs$Brook;I)LBrookWeirs$Side;" } : Jvm.MethodName) prog_13_method_7_code (4 : Nat) (Option.some (Jvm.ClassFile.FieldType.object "BrookWeirs$Side"))) ∈ lw_all := lw_g (lw_at lw_m5 50 rfl) rfl
theorem q1080 : (Jvm.Cond.methodLink "BrookWeirs$Side" (50 : Nat) ({ cls := "BrookWeirs$Side", name := "worth", desc := "(LBrookWeirs$Brook;II)I" } : Jvm.MethodName)) ∈ lw_all := lw_g (lw_at lw_m5 51 rfl) rfl
theorem q1081 : (Jvm.Cond.instanceMethod ({ cls := "BrookWeirs$Side", name := "worth", desc := "(LBrookWeirs$Brook;II)I" } : Jvm.MethodName)) ∈ lw_all := lw_g (lw_at lw_m5 52 rfl) rfl
theorem q1082 : (Jvm.Cond.sameMethod "BrookWeirs$Side" "BrookWeirs$Side" "worth" "(LBrookWeirs$Brook;II)I") ∈ lw_all := lw_g (lw_at lw_m5 53 rfl) rfl
theorem q1086 : (Jvm.Cond.code ({ cls := "BrookWeirs$Side", name := "worth", desc := "(LBrookWeirs$Brook;II)I" } : Jvm.MethodName) prog_13_method_5_code (4 : Nat) (Option.some Jvm.ClassFile.FieldType.int)) ∈ lw_all := lw_g (lw_at lw_m5 57 rfl) rfl
theorem q1087 : (Jvm.Cond.methodLink "BrookWeirs$Side" (19 : Nat) ({ cls := "BrookWeirs$Brook", name := "become", desc := "(LBrookWeirs$Brook;)LBrookWeirs$Brook;" } : Jvm.MethodName)) ∈ lw_all := lw_g (lw_at lw_m5 58 rfl) rfl
theorem q1088 : (Jvm.Cond.methodLink "BrookWeirs$Side" (25 : Nat) ({ cls := "BrookWeirs$Side", name := "open", desc := "(LBrookWeirs$Brook;I)V" } : Jvm.MethodName)) ∈ lw_all := lw_g (lw_at lw_m5 59 rfl) rfl
theorem q1089 : (Jvm.Cond.declares ({ cls := "BrookWeirs$Side", name := "open", desc := "(LBrookWeirs$Brook;I)V" } : Jvm.MethodName)) ∈ lw_tbl := lw_at lw_m5 60 rfl
theorem q1090 : (Jvm.Cond.sameMethod "BrookWeirs$Side" "BrookWeirs$Side" "open" "(LBrookWeirs$Brook;I)V") ∈ lw_all := lw_g (lw_at lw_m5 61 rfl) rfl
theorem q1098 : (Jvm.Cond.methodLink "BrookWeirs$Side" (29 : Nat) ({ cls := "BrookWeirs$Brook", name := "pass", desc := "(I)LBrookWeirs$Brook;" } : Jvm.MethodName)) ∈ lw_all := lw_g (lw_at lw_m5 69 rfl) rfl
theorem q1103 : (Jvm.Cond.methodLink "BrookWeirs$Side" (33 : Nat) ({ cls := "BrookWeirs$Side", name := "value", desc := "(LBrookWeirs$Brook;LBrookWeirs$Brook;)I" } : Jvm.MethodName)) ∈ lw_all := lw_g (lw_at lw_m5 74 rfl) rfl
theorem q1104 : (Jvm.Cond.declares ({ cls := "BrookWeirs$Side", name := "value", desc := "(LBrookWeirs$Brook;LBrookWeirs$Brook;)I" } : Jvm.MethodName)) ∈ lw_tbl := lw_at lw_m5 75 rfl
theorem q1105 : (Jvm.Cond.sameMethod "BrookWeirs$Side" "BrookWeirs$Side" "value" "(LBrookWeirs$Brook;LBrookWeirs$Brook;)I") ∈ lw_all := lw_g (lw_at lw_m5 76 rfl) rfl
theorem q1118 : (Jvm.Cond.methodLink "BrookWeirs$Side" (57 : Nat) ({ cls := "BrookWeirs$Side", name := "look", desc := "(II)V" } : Jvm.MethodName)) ∈ lw_all := lw_g (lw_at lw_m5 89 rfl) rfl
theorem q1119 : (Jvm.Cond.privateMethod ({ cls := "BrookWeirs$Side", name := "look", desc := "(II)V" } : Jvm.MethodName)) ∈ lw_tbl := lw_at lw_m5 90 rfl
theorem q1120 : (Jvm.Cond.instanceMethod ({ cls := "BrookWeirs$Side", name := "look", desc := "(II)V" } : Jvm.MethodName)) ∈ lw_all := lw_g (lw_at lw_m5 91 rfl) rfl
theorem q1121 : (Jvm.Cond.code ({ cls := "BrookWeirs$Side", name := "look", desc := "(II)V" } : Jvm.MethodName) prog_13_method_6_code (4 : Nat) (Option.none : Option Jvm.ClassFile.FieldType)) ∈ lw_all := lw_g (lw_at lw_m5 92 rfl) rfl
theorem q1122 : (Jvm.Cond.methodLink "BrookWeirs$Side" (41 : Nat) ({ cls := "java/lang/Integer", name := "bitCount", desc := "(I)I" } : Jvm.MethodName)) ∈ lw_all := lw_g (lw_at lw_m5 93 rfl) rfl
theorem q2312 : (Jvm.Cond.sameMethod "BrookWeirs$Side" "BrookWeirs$Side" "look" "(II)V") ∈ lw_all := lw_g (lw_at lw_m10 83 rfl) rfl

/-! BrookWeirs$Frogs -/
def RX5 : String := "BrookWeirs$Frogs"
def TX5 : u_T := fun k => match k with
  | 0 => ("BrookWeirs$Side", "best", "I", false)
  | 1 => ("BrookWeirs$Side", "most", "I", false)
  | 2 => ("BrookWeirs$Side", "this$0", "LBrookWeirs;", true)
  | _ => ("BrookWeirs$Frogs", "this$0", "LBrookWeirs;", true)
def tyX5 : Nat → FieldType := fun k => match k with
  | 0 => .int
  | 1 => .int
  | 2 => .object "BrookWeirs"
  | _ => .object "BrookWeirs"
abbrev wsX50 : List Cond := u_ws RX5 TX5 4
-- two fields of one name: no nmX5
theorem tyX5_ok : ∀ k, k < 4 → parseFieldDescriptor (TX5 k).2.2.1 = some (tyX5 k) := by decide +kernel
abbrev cX5_init : ByteArray := prog_10_method_1_code
def yX5_init : MethodName := ⟨RX5, "<init>", "(LBrookWeirs;)V"⟩
abbrev cX5_latches : ByteArray := prog_10_method_2_code
def yX5_latches : MethodName := ⟨RX5, "latches", "(LBrookWeirs$Brook;)I"⟩
abbrev cX5_open : ByteArray := prog_10_method_3_code
def yX5_open : MethodName := ⟨RX5, "open", "(LBrookWeirs$Brook;I)V"⟩
abbrev cX5_value : ByteArray := prog_10_method_4_code
def yX5_value : MethodName := ⟨RX5, "value", "(LBrookWeirs$Brook;LBrookWeirs$Brook;)I"⟩
theorem q80 : (Jvm.Cond.initialized "BrookWeirs$Frogs") ∈ lw_all := lw_g (lw_at lw_m1 11 rfl) rfl
theorem q176 : (Jvm.Cond.fieldLinkNest "BrookWeirs$Frogs" (29 : Nat) "BrookWeirs$Brook" "frogs" "[I" "BrookWeirs") ∈ lw_tbl := lw_at lw_m1 107 rfl
theorem q181 : (Jvm.Cond.fieldLinkNest "BrookWeirs$Frogs" (19 : Nat) "BrookWeirs$Brook" "clutches" "LBrookWeirs$Clutches;" "BrookWeirs") ∈ lw_tbl := lw_at lw_m1 112 rfl
theorem q188 : (Jvm.Cond.fieldLinkNest "BrookWeirs$Frogs" (13 : Nat) "BrookWeirs$Brook" "frogLatches" "I" "BrookWeirs") ∈ lw_tbl := lw_at lw_m1 119 rfl
theorem q325 : (Jvm.Cond.instantiable "BrookWeirs$Frogs" (4 : Nat)) ∈ lw_all := lw_g (lw_at lw_m2 16 rfl) rfl
theorem q327 : (Jvm.Cond.instanceMethod ({ cls := "BrookWeirs$Frogs", name := "<init>", desc := "(LBrookWeirs;)V" } : Jvm.MethodName)) ∈ lw_all := lw_g (lw_at lw_m2 18 rfl) rfl
theorem q328 : (Jvm.Cond.code ({ cls := "BrookWeirs$Frogs", name := "<init>", desc := "(LBrookWeirs;)V" } : Jvm.MethodName) prog_10_method_1_code (2 : Nat) (Option.none : Option Jvm.ClassFile.FieldType)) ∈ lw_all := lw_g (lw_at lw_m2 19 rfl) rfl
theorem q329 : (Jvm.Cond.methodLinkNest "BrookWeirs$Frogs" (7 : Nat) ({ cls := "BrookWeirs$Side", name := "<init>", desc := "(LBrookWeirs;)V" } : Jvm.MethodName) "BrookWeirs") ∈ lw_tbl := lw_at lw_m2 20 rfl
theorem q333 : (Jvm.Cond.fieldLink "BrookWeirs$Frogs" (1 : Nat) "BrookWeirs$Frogs" "this$0" "LBrookWeirs;") ∈ lw_all := lw_g (lw_at lw_m2 24 rfl) rfl
theorem q339 : (Jvm.Cond.laysFinal "BrookWeirs$Frogs" "BrookWeirs$Frogs" "this$0" "LBrookWeirs;") ∈ lw_all := lw_g (lw_at lw_m2 30 rfl) rfl
theorem q340 : (Jvm.Cond.soleField "BrookWeirs$Frogs" "this$0") ∈ lw_all := lw_g (lw_at lw_m2 31 rfl) rfl
theorem q341 : (Jvm.Cond.lays "BrookWeirs$Frogs" "BrookWeirs$Side" "best" "I") ∈ lw_all := lw_g (lw_at lw_m2 32 rfl) rfl
theorem q343 : (Jvm.Cond.lays "BrookWeirs$Frogs" "BrookWeirs$Side" "most" "I") ∈ lw_all := lw_g (lw_at lw_m2 34 rfl) rfl
theorem q345 : (Jvm.Cond.laysFinal "BrookWeirs$Frogs" "BrookWeirs$Side" "this$0" "LBrookWeirs;") ∈ lw_all := lw_g (lw_at lw_m2 36 rfl) rfl
theorem q347 : (Jvm.Cond.superclass "BrookWeirs$Frogs" "BrookWeirs$Side") ∈ lw_all := lw_g (lw_at lw_m2 38 rfl) rfl
theorem q656 : (Jvm.Cond.selects "BrookWeirs$Frogs" ({ cls := "java/lang/Object", name := "getClass", desc := "()Ljava/lang/Class;" } : Jvm.MethodName) ({ cls := "java/lang/Object", name := "getClass", desc := "()Ljava/lang/Class;" } : Jvm.MethodName)) ∈ lw_all := lw_g (lw_at lw_m3 107 rfl) rfl
theorem q1053 : (Jvm.Cond.selects "BrookWeirs$Frogs" ({ cls := "BrookWeirs$Side", name := "choose", desc := "(LBrookWeirs$Brook;I)I" } : Jvm.MethodName) ({ cls := "BrookWeirs$Side", name := "choose", desc := "(LBrookWeirs$Brook;I)I" } : Jvm.MethodName)) ∈ lw_all := lw_g (lw_at lw_m5 24 rfl) rfl
theorem q1069 : (Jvm.Cond.selects "BrookWeirs$Frogs" ({ cls := "BrookWeirs$Side", name := "latches", desc := "(LBrookWeirs$Brook;)I" } : Jvm.MethodName) ({ cls := "BrookWeirs$Frogs", name := "latches", desc := "(LBrookWeirs$Brook;)I" } : Jvm.MethodName)) ∈ lw_all := lw_g (lw_at lw_m5 40 rfl) rfl
theorem q1070 : (Jvm.Cond.instanceMethod ({ cls := "BrookWeirs$Frogs", name := "latches", desc := "(LBrookWeirs$Brook;)I" } : Jvm.MethodName)) ∈ lw_all := lw_g (lw_at lw_m5 41 rfl) rfl
theorem q1071 : (Jvm.Cond.code ({ cls := "BrookWeirs$Frogs", name := "latches", desc := "(LBrookWeirs$Brook;)I" } : Jvm.MethodName) prog_10_method_2_code (2 : Nat) (Option.some Jvm.ClassFile.FieldType.int)) ∈ lw_all := lw_g (lw_at lw_m5 42 rfl) rfl
theorem q1077 : (Jvm.Cond.selects "BrookWeirs$Frogs" ({ cls := "BrookWeirs$Side", name := "search", desc := "(LBrookWeirs$Brook;I)LBrookWeirs$Side;" } : Jvm.MethodName) ({ cls := "BrookWeirs$Side", name := "search", desc := "(LBrookWeirs$Brook;I)LBrookWeirs$Side;" } : Jvm.MethodName)) ∈ lw_all := lw_g (lw_at lw_m5 48 rfl) rfl
theorem q1084 : (Jvm.Cond.selects "BrookWeirs$Frogs" ({ cls := "BrookWeirs$Side", name := "worth", desc := "(LBrookWeirs$Brook;II)I" } : Jvm.MethodName) ({ cls := "BrookWeirs$Side", name := "worth", desc := "(LBrookWeirs$Brook;II)I" } : Jvm.MethodName)) ∈ lw_all := lw_g (lw_at lw_m5 55 rfl) rfl
theorem q1094 : (Jvm.Cond.selects "BrookWeirs$Frogs" ({ cls := "BrookWeirs$Side", name := "open", desc := "(LBrookWeirs$Brook;I)V" } : Jvm.MethodName) ({ cls := "BrookWeirs$Frogs", name := "open", desc := "(LBrookWeirs$Brook;I)V" } : Jvm.MethodName)) ∈ lw_all := lw_g (lw_at lw_m5 65 rfl) rfl
theorem q1095 : (Jvm.Cond.instanceMethod ({ cls := "BrookWeirs$Frogs", name := "open", desc := "(LBrookWeirs$Brook;I)V" } : Jvm.MethodName)) ∈ lw_all := lw_g (lw_at lw_m5 66 rfl) rfl
theorem q1096 : (Jvm.Cond.code ({ cls := "BrookWeirs$Frogs", name := "open", desc := "(LBrookWeirs$Brook;I)V" } : Jvm.MethodName) prog_10_method_3_code (3 : Nat) (Option.none : Option Jvm.ClassFile.FieldType)) ∈ lw_all := lw_g (lw_at lw_m5 67 rfl) rfl
theorem q1109 : (Jvm.Cond.selects "BrookWeirs$Frogs" ({ cls := "BrookWeirs$Side", name := "value", desc := "(LBrookWeirs$Brook;LBrookWeirs$Brook;)I" } : Jvm.MethodName) ({ cls := "BrookWeirs$Frogs", name := "value", desc := "(LBrookWeirs$Brook;LBrookWeirs$Brook;)I" } : Jvm.MethodName)) ∈ lw_all := lw_g (lw_at lw_m5 80 rfl) rfl
theorem q1110 : (Jvm.Cond.instanceMethod ({ cls := "BrookWeirs$Frogs", name := "value", desc := "(LBrookWeirs$Brook;LBrookWeirs$Brook;)I" } : Jvm.MethodName)) ∈ lw_all := lw_g (lw_at lw_m5 81 rfl) rfl
theorem q1111 : (Jvm.Cond.code ({ cls := "BrookWeirs$Frogs", name := "value", desc := "(LBrookWeirs$Brook;LBrookWeirs$Brook;)I" } : Jvm.MethodName) prog_10_method_4_code (3 : Nat) (Option.some Jvm.ClassFile.FieldType.int)) ∈ lw_all := lw_g (lw_at lw_m5 82 rfl) rfl
theorem q1112 : (Jvm.Cond.methodLink "BrookWeirs$Frogs" (23 : Nat) ({ cls := "BrookWeirs$Clutches", name := "eggs", desc := "()I" } : Jvm.MethodName)) ∈ lw_all := lw_g (lw_at lw_m5 83 rfl) rfl
theorem q1116 : (Jvm.Cond.methodLink "BrookWeirs$Frogs" (33 : Nat) ({ cls := "BrookWeirs$Brook", name := "sum", desc := "([I)I" } : Jvm.MethodName)) ∈ lw_all := lw_g (lw_at lw_m5 87 rfl) rfl
theorem q2335 : (Jvm.Cond.castable "BrookWeirs$Frogs" "java/lang/Object") ∈ lw_tbl := lw_at lw_m10 106 rfl
theorem in_X5 : ∀ w ∈ wsX50, w ∈ lw_all := lw_in wsX50 [341, 343, 345, 339] (by decide +kernel) (by decide +kernel)

/-! BrookWeirs$Farmers -/
def RX6 : String := "BrookWeirs$Farmers"
def TX6 : u_T := fun k => match k with
  | 0 => ("BrookWeirs$Side", "best", "I", false)
  | 1 => ("BrookWeirs$Side", "most", "I", false)
  | 2 => ("BrookWeirs$Side", "this$0", "LBrookWeirs;", true)
  | _ => ("BrookWeirs$Farmers", "this$0", "LBrookWeirs;", true)
def tyX6 : Nat → FieldType := fun k => match k with
  | 0 => .int
  | 1 => .int
  | 2 => .object "BrookWeirs"
  | _ => .object "BrookWeirs"
abbrev wsX60 : List Cond := u_ws RX6 TX6 4
-- two fields of one name: no nmX6
theorem tyX6_ok : ∀ k, k < 4 → parseFieldDescriptor (TX6 k).2.2.1 = some (tyX6 k) := by decide +kernel
abbrev cX6_init : ByteArray := prog_8_method_1_code
def yX6_init : MethodName := ⟨RX6, "<init>", "(LBrookWeirs;)V"⟩
abbrev cX6_latches : ByteArray := prog_8_method_2_code
def yX6_latches : MethodName := ⟨RX6, "latches", "(LBrookWeirs$Brook;)I"⟩
abbrev cX6_open : ByteArray := prog_8_method_3_code
def yX6_open : MethodName := ⟨RX6, "open", "(LBrookWeirs$Brook;I)V"⟩
abbrev cX6_value : ByteArray := prog_8_method_4_code
def yX6_value : MethodName := ⟨RX6, "value", "(LBrookWeirs$Brook;LBrookWeirs$Brook;)I"⟩
theorem q81 : (Jvm.Cond.initialized "BrookWeirs$Farmers") ∈ lw_all := lw_g (lw_at lw_m1 12 rfl) rfl
theorem q191 : (Jvm.Cond.fieldLinkNest "BrookWeirs$Farmers" (13 : Nat) "BrookWeirs$Brook" "farmLatches" "I" "BrookWeirs") ∈ lw_tbl := lw_at lw_m1 122 rfl
theorem q207 : (Jvm.Cond.fieldLinkNest "BrookWeirs$Farmers" (19 : Nat) "BrookWeirs$Brook" "taken" "I" "BrookWeirs") ∈ lw_tbl := lw_at lw_m1 138 rfl
theorem q349 : (Jvm.Cond.instantiable "BrookWeirs$Farmers" (4 : Nat)) ∈ lw_all := lw_g (lw_at lw_m2 40 rfl) rfl
theorem q351 : (Jvm.Cond.instanceMethod ({ cls := "BrookWeirs$Farmers", name := "<init>", desc := "(LBrookWeirs;)V" } : Jvm.MethodName)) ∈ lw_all := lw_g (lw_at lw_m2 42 rfl) rfl
theorem q352 : (Jvm.Cond.code ({ cls := "BrookWeirs$Farmers", name := "<init>", desc := "(LBrookWeirs;)V" } : Jvm.MethodName) prog_8_method_1_code (2 : Nat) (Option.none : Option Jvm.ClassFile.FieldType)) ∈ lw_all := lw_g (lw_at lw_m2 43 rfl) rfl
theorem q353 : (Jvm.Cond.methodLinkNest "BrookWeirs$Farmers" (7 : Nat) ({ cls := "BrookWeirs$Side", name := "<init>", desc := "(LBrookWeirs;)V" } : Jvm.MethodName) "BrookWeirs") ∈ lw_tbl := lw_at lw_m2 44 rfl
theorem q354 : (Jvm.Cond.fieldLink "BrookWeirs$Farmers" (1 : Nat) "BrookWeirs$Farmers" "this$0" "LBrookWeirs;") ∈ lw_all := lw_g (lw_at lw_m2 45 rfl) rfl
theorem q355 : (Jvm.Cond.laysFinal "BrookWeirs$Farmers" "BrookWeirs$Farmers" "this$0" "LBrookWeirs;") ∈ lw_all := lw_g (lw_at lw_m2 46 rfl) rfl
theorem q356 : (Jvm.Cond.soleField "BrookWeirs$Farmers" "this$0") ∈ lw_all := lw_g (lw_at lw_m2 47 rfl) rfl
theorem q357 : (Jvm.Cond.lays "BrookWeirs$Farmers" "BrookWeirs$Side" "best" "I") ∈ lw_all := lw_g (lw_at lw_m2 48 rfl) rfl
theorem q358 : (Jvm.Cond.lays "BrookWeirs$Farmers" "BrookWeirs$Side" "most" "I") ∈ lw_all := lw_g (lw_at lw_m2 49 rfl) rfl
theorem q359 : (Jvm.Cond.laysFinal "BrookWeirs$Farmers" "BrookWeirs$Side" "this$0" "LBrookWeirs;") ∈ lw_all := lw_g (lw_at lw_m2 50 rfl) rfl
theorem q360 : (Jvm.Cond.superclass "BrookWeirs$Farmers" "BrookWeirs$Side") ∈ lw_all := lw_g (lw_at lw_m2 51 rfl) rfl
theorem q654 : (Jvm.Cond.selects "BrookWeirs$Farmers" ({ cls := "java/lang/Object", name := "getClass", desc := "()Ljava/lang/Class;" } : Jvm.MethodName) ({ cls := "java/lang/Object", name := "getClass", desc := "()Ljava/lang/Class;" } : Jvm.MethodName)) ∈ lw_all := lw_g (lw_at lw_m3 105 rfl) rfl
theorem q1052 : (Jvm.Cond.selects "BrookWeirs$Farmers" ({ cls := "BrookWeirs$Side", name := "choose", desc := "(LBrookWeirs$Brook;I)I" } : Jvm.MethodName) ({ cls := "BrookWeirs$Side", name := "choose", desc := "(LBrookWeirs$Brook;I)I" } : Jvm.MethodName)) ∈ lw_all := lw_g (lw_at lw_m5 23 rfl) rfl
theorem q1059 : (Jvm.Cond.sameMethod "BrookWeirs$Farmers" "BrookWeirs$Side" "choose" "(LBrookWeirs$Brook;I)I") ∈ lw_all := lw_g (lw_at lw_m5 30 rfl) rfl
theorem q1066 : (Jvm.Cond.selects "BrookWeirs$Farmers" ({ cls := "BrookWeirs$Side", name := "latches", desc := "(LBrookWeirs$Brook;)I" } : Jvm.MethodName) ({ cls := "BrookWeirs$Farmers", name := "latches", desc := "(LBrookWeirs$Brook;)I" } : Jvm.MethodName)) ∈ lw_all := lw_g (lw_at lw_m5 37 rfl) rfl
theorem q1067 : (Jvm.Cond.instanceMethod ({ cls := "BrookWeirs$Farmers", name := "latches", desc := "(LBrookWeirs$Brook;)I" } : Jvm.MethodName)) ∈ lw_all := lw_g (lw_at lw_m5 38 rfl) rfl
theorem q1068 : (Jvm.Cond.code ({ cls := "BrookWeirs$Farmers", name := "latches", desc := "(LBrookWeirs$Brook;)I" } : Jvm.MethodName) prog_8_method_2_code (2 : Nat) (Option.some Jvm.ClassFile.FieldType.int)) ∈ lw_all := lw_g (lw_at lw_m5 39 rfl) rfl
theorem q1076 : (Jvm.Cond.selects "BrookWeirs$Farmers" ({ cls := "BrookWeirs$Side", name := "search", desc := "(LBrookWeirs$Brook;I)LBrookWeirs$Side;" } : Jvm.MethodName) ({ cls := "BrookWeirs$Side", name := "search", desc := "(LBrookWeirs$Brook;I)LBrookWeirs$Side;" } : Jvm.MethodName)) ∈ lw_all := lw_g (lw_at lw_m5 47 rfl) rfl
theorem q1083 : (Jvm.Cond.selects "BrookWeirs$Farmers" ({ cls := "BrookWeirs$Side", name := "worth", desc := "(LBrookWeirs$Brook;II)I" } : Jvm.MethodName) ({ cls := "BrookWeirs$Side", name := "worth", desc := "(LBrookWeirs$Brook;II)I" } : Jvm.MethodName)) ∈ lw_all := lw_g (lw_at lw_m5 54 rfl) rfl
theorem q1091 : (Jvm.Cond.selects "BrookWeirs$Farmers" ({ cls := "BrookWeirs$Side", name := "open", desc := "(LBrookWeirs$Brook;I)V" } : Jvm.MethodName) ({ cls := "BrookWeirs$Farmers", name := "open", desc := "(LBrookWeirs$Brook;I)V" } : Jvm.MethodName)) ∈ lw_all := lw_g (lw_at lw_m5 62 rfl) rfl
theorem q1092 : (Jvm.Cond.instanceMethod ({ cls := "BrookWeirs$Farmers", name := "open", desc := "(LBrookWeirs$Brook;I)V" } : Jvm.MethodName)) ∈ lw_all := lw_g (lw_at lw_m5 63 rfl) rfl
theorem q1093 : (Jvm.Cond.code ({ cls := "BrookWeirs$Farmers", name := "open", desc := "(LBrookWeirs$Brook;I)V" } : Jvm.MethodName) prog_8_method_3_code (3 : Nat) (Option.none : Option Jvm.ClassFile.FieldType)) ∈ lw_all := lw_g (lw_at lw_m5 64 rfl) rfl
theorem q1106 : (Jvm.Cond.selects "BrookWeirs$Farmers" ({ cls := "BrookWeirs$Side", name := "value", desc := "(LBrookWeirs$Brook;LBrookWeirs$Brook;)I" } : Jvm.MethodName) ({ cls := "BrookWeirs$Farmers", name := "value", desc := "(LBrookWeirs$Brook;LBrookWeirs$Brook;)I" } : Jvm.MethodName)) ∈ lw_all := lw_g (lw_at lw_m5 77 rfl) rfl
theorem q1107 : (Jvm.Cond.instanceMethod ({ cls := "BrookWeirs$Farmers", name := "value", desc := "(LBrookWeirs$Brook;LBrookWeirs$Brook;)I" } : Jvm.MethodName)) ∈ lw_all := lw_g (lw_at lw_m5 78 rfl) rfl
theorem q1108 : (Jvm.Cond.code ({ cls := "BrookWeirs$Farmers", name := "value", desc := "(LBrookWeirs$Brook;LBrookWeirs$Brook;)I" } : Jvm.MethodName) prog_8_method_4_code (3 : Nat) (Option.some Jvm.ClassFile.FieldType.int)) ∈ lw_all := lw_g (lw_at lw_m5 79 rfl) rfl
theorem q2336 : (Jvm.Cond.castable "BrookWeirs$Farmers" "java/lang/Object") ∈ lw_tbl := lw_at lw_m10 107 rfl
theorem in_X6 : ∀ w ∈ wsX60, w ∈ lw_all := lw_in wsX60 [357, 358, 359, 355] (by decide +kernel) (by decide +kernel)

/-! BrookWeirsModel -/
def RX7 : String := "BrookWeirsModel"
def TX7 : u_T := fun k => match k with
  | 0 => ("BrookWeirsModel", "s", "[I", true)
  | 1 => ("BrookWeirsModel", "before", "[I", true)
  | 2 => ("BrookWeirsModel", "aside", "[I", true)
  | 3 => ("BrookWeirsModel", "saved", "[I", true)
  | 4 => ("BrookWeirsModel", "isSaved", "Z", false)
  | 5 => ("BrookWeirsModel", "past", "[I", true)
  | 6 => ("BrookWeirsModel", "pastMany", "I", false)
  | 7 => ("BrookWeirsModel", "thrown", "I", false)
  | 8 => ("BrookWeirsModel", "reason", "I", false)
  | 9 => ("BrookWeirsModel", "item", "I", false)
  | 10 => ("BrookWeirsModel", "bestWorth", "I", false)
  | 11 => ("BrookWeirsModel", "input", "[C", true)
  | 12 => ("BrookWeirsModel", "length", "I", false)
  | 13 => ("BrookWeirsModel", "place", "I", false)
  | 14 => ("BrookWeirsModel", "isWrong", "Z", false)
  | 15 => ("BrookWeirsModel", "fault", "I", false)
  | 16 => ("BrookWeirsModel", "items", "[I", true)
  | _ => ("BrookWeirsModel", "itemMany", "I", false)
def tyX7 : Nat → FieldType := fun k => match k with
  | 0 => .array .int
  | 1 => .array .int
  | 2 => .array .int
  | 3 => .array .int
  | 4 => .boolean
  | 5 => .array .int
  | 6 => .int
  | 7 => .int
  | 8 => .int
  | 9 => .int
  | 10 => .int
  | 11 => .array .char
  | 12 => .int
  | 13 => .int
  | 14 => .boolean
  | 15 => .int
  | 16 => .array .int
  | _ => .int
abbrev wsX70 : List Cond := u_ws RX7 TX7 18
theorem nmX7 : ∀ a, a < 18 → ∀ b, b < 18 → a ≠ b → (TX7 a).2.1 ≠ (TX7 b).2.1 := by decide +kernel
theorem tyX7_ok : ∀ k, k < 18 → parseFieldDescriptor (TX7 k).2.2.1 = some (tyX7 k) := by decide +kernel
abbrev cX7_init : ByteArray := prog_16_method_1_code
def yX7_init : MethodName := ⟨RX7, "<init>", "()V"⟩
abbrev cX7_thrown : ByteArray := prog_16_method_2_code
def yX7_thrown : MethodName := ⟨RX7, "thrown", "()I"⟩
abbrev cX7_pool : ByteArray := prog_16_method_13_code
def yX7_pool : MethodName := ⟨RX7, "pool", "(III)I"⟩
abbrev cX7_in : ByteArray := prog_16_method_3_code
def yX7_in : MethodName := ⟨RX7, "in", "(III)Z"⟩
abbrev cX7_refuse : ByteArray := prog_16_method_6_code
def yX7_refuse : MethodName := ⟨RX7, "refuse", "(II)I"⟩
abbrev cX7_keep : ByteArray := prog_16_method_4_code
def yX7_keep : MethodName := ⟨RX7, "keep", "()V"⟩
abbrev cX7_at : ByteArray := prog_16_method_8_code
def yX7_at : MethodName := ⟨RX7, "at", "(I)I"⟩
abbrev cX7_ends : ByteArray := prog_16_method_5_code
def yX7_ends : MethodName := ⟨RX7, "ends", "(I)I"⟩
abbrev cX7_boards : ByteArray := prog_16_method_15_code
def yX7_boards : MethodName := ⟨RX7, "boards", "(II)I"⟩
abbrev cX7_doBoards : ByteArray := prog_16_method_14_code
def yX7_doBoards : MethodName := ⟨RX7, "doBoards", "(II)I"⟩
abbrev cX7_isPool : ByteArray := prog_16_method_7_code
def yX7_isPool : MethodName := ⟨RX7, "isPool", "(I)Z"⟩
abbrev cX7_get : ByteArray := prog_16_method_9_code
def yX7_get : MethodName := ⟨RX7, "get", "(II)I"⟩
abbrev cX7_isOpen : ByteArray := prog_16_method_11_code
def yX7_isOpen : MethodName := ⟨RX7, "isOpen", "(I)Z"⟩
abbrev cX7_weir : ByteArray := prog_16_method_17_code
def yX7_weir : MethodName := ⟨RX7, "weir", "(IZ)Z"⟩
abbrev cX7_becomes : ByteArray := prog_16_method_16_code
def yX7_becomes : MethodName := ⟨RX7, "becomes", "(IIZ)I"⟩
abbrev cX7_latch : ByteArray := prog_16_method_18_code
def yX7_latch : MethodName := ⟨RX7, "latch", "(IZZ)Z"⟩
abbrev cX7_frogs : ByteArray := prog_16_method_19_code
def yX7_frogs : MethodName := ⟨RX7, "frogs", "(II)I"⟩
abbrev cX7_lay : ByteArray := prog_16_method_22_code
def yX7_lay : MethodName := ⟨RX7, "lay", "(II)I"⟩
abbrev cX7_doLay : ByteArray := prog_16_method_21_code
def yX7_doLay : MethodName := ⟨RX7, "doLay", "(II)I"⟩
abbrev cX7_level : ByteArray := prog_16_method_10_code
def yX7_level : MethodName := ⟨RX7, "level", "(I)I"⟩
abbrev cX7_clutchAt : ByteArray := prog_16_method_20_code
def yX7_clutchAt : MethodName := ⟨RX7, "clutchAt", "(I)I"⟩
abbrev cX7_of : ByteArray := prog_16_method_25_code
def yX7_of : MethodName := ⟨RX7, "of", "(II)I"⟩
abbrev cX7_numberOf : ByteArray := prog_16_method_24_code
def yX7_numberOf : MethodName := ⟨RX7, "numberOf", "(II)I"⟩
abbrev cX7_eggsIn : ByteArray := prog_16_method_23_code
def yX7_eggsIn : MethodName := ⟨RX7, "eggsIn", "(I)I"⟩
abbrev cX7_letsDown : ByteArray := prog_16_method_12_code
def yX7_letsDown : MethodName := ⟨RX7, "letsDown", "(I)I"⟩
abbrev cX7_is : ByteArray := prog_16_method_26_code
def yX7_is : MethodName := ⟨RX7, "is", "(II)Z"⟩
abbrev cX7_clutch : ByteArray := prog_16_method_27_code
def yX7_clutch : MethodName := ⟨RX7, "clutch", "(II)I"⟩
abbrev cX7_tell : ByteArray := prog_16_method_38_code
def yX7_tell : MethodName := ⟨RX7, "tell", "(I)I"⟩
abbrev cX7_doTell : ByteArray := prog_16_method_37_code
def yX7_doTell : MethodName := ⟨RX7, "doTell", "(I)I"⟩
abbrev cX7_rain : ByteArray := prog_16_method_39_code
def yX7_rain : MethodName := ⟨RX7, "rain", "(I)I"⟩
abbrev cX7_day : ByteArray := prog_16_method_40_code
def yX7_day : MethodName := ⟨RX7, "day", "()I"⟩
abbrev cX7_goBy : ByteArray := prog_16_method_36_code
def yX7_goBy : MethodName := ⟨RX7, "goBy", "()I"⟩
abbrev cX7_flows : ByteArray := prog_16_method_28_code
def yX7_flows : MethodName := ⟨RX7, "flows", "(II)V"⟩
abbrev cX7_goesDown : ByteArray := prog_16_method_29_code
def yX7_goesDown : MethodName := ⟨RX7, "goesDown", "(II)V"⟩
abbrev cX7_flood : ByteArray := prog_16_method_30_code
def yX7_flood : MethodName := ⟨RX7, "flood", "()I"⟩
abbrev cX7_takeForFields : ByteArray := prog_16_method_31_code
def yX7_takeForFields : MethodName := ⟨RX7, "takeForFields", "()V"⟩
abbrev cX7_liveAll : ByteArray := prog_16_method_34_code
def yX7_liveAll : MethodName := ⟨RX7, "liveAll", "()V"⟩
abbrev cX7_live : ByteArray := prog_16_method_33_code
def yX7_live : MethodName := ⟨RX7, "live", "(I)V"⟩
abbrev cX7_lose : ByteArray := prog_16_method_32_code
def yX7_lose : MethodName := ⟨RX7, "lose", "(II)V"⟩
abbrev cX7_night : ByteArray := prog_16_method_35_code
def yX7_night : MethodName := ⟨RX7, "night", "()V"⟩
abbrev cX7_season : ByteArray := prog_16_method_41_code
def yX7_season : MethodName := ⟨RX7, "season", "()I"⟩
abbrev cX7_foretold : ByteArray := prog_16_method_44_code
def yX7_foretold : MethodName := ⟨RX7, "foretold", "(III)I"⟩
abbrev cX7_layAside : ByteArray := prog_16_method_42_code
def yX7_layAside : MethodName := ⟨RX7, "layAside", "()V"⟩
abbrev cX7_bringBack : ByteArray := prog_16_method_43_code
def yX7_bringBack : MethodName := ⟨RX7, "bringBack", "()V"⟩
abbrev cX7_firstFlood : ByteArray := prog_16_method_45_code
def yX7_firstFlood : MethodName := ⟨RX7, "firstFlood", "(I)I"⟩
abbrev cX7_best : ByteArray := prog_16_method_51_code
def yX7_best : MethodName := ⟨RX7, "best", "(ZIZ)I"⟩
abbrev cX7_bestOf : ByteArray := prog_16_method_50_code
def yX7_bestOf : MethodName := ⟨RX7, "bestOf", "(ZI)I"⟩
abbrev cX7_worthOf : ByteArray := prog_16_method_49_code
def yX7_worthOf : MethodName := ⟨RX7, "worthOf", "(ZII)I"⟩
abbrev cX7_setLatches : ByteArray := prog_16_method_47_code
def yX7_setLatches : MethodName := ⟨RX7, "setLatches", "(ZI)V"⟩
abbrev cX7_frogsOfAll : ByteArray := prog_16_method_48_code
def yX7_frogsOfAll : MethodName := ⟨RX7, "frogsOfAll", "()I"⟩
abbrev cX7_worth : ByteArray := prog_16_method_52_code
def yX7_worth : MethodName := ⟨RX7, "worth", "(ZII)I"⟩
abbrev cX7_choose : ByteArray := prog_16_method_54_code
def yX7_choose : MethodName := ⟨RX7, "choose", "(ZI)I"⟩
abbrev cX7_chooses : ByteArray := prog_16_method_53_code
def yX7_chooses : MethodName := ⟨RX7, "chooses", "(ZI)I"⟩
abbrev cX7_latches : ByteArray := prog_16_method_46_code
def yX7_latches : MethodName := ⟨RX7, "latches", "(Z)I"⟩
abbrev cX7_rest : ByteArray := prog_16_method_55_code
def yX7_rest : MethodName := ⟨RX7, "rest", "(I)I"⟩
abbrev cX7_water : ByteArray := prog_16_method_57_code
def yX7_water : MethodName := ⟨RX7, "water", "()I"⟩
abbrev cX7_waterNow : ByteArray := prog_16_method_56_code
def yX7_waterNow : MethodName := ⟨RX7, "waterNow", "()I"⟩
abbrev cX7_waterAgain : ByteArray := prog_16_method_58_code
def yX7_waterAgain : MethodName := ⟨RX7, "waterAgain", "()I"⟩
abbrev cX7_number : ByteArray := prog_16_method_59_code
def yX7_number : MethodName := ⟨RX7, "number", "(I)I"⟩
abbrev cX7_meanLevel : ByteArray := prog_16_method_60_code
def yX7_meanLevel : MethodName := ⟨RX7, "meanLevel", "()D"⟩
abbrev cX7_silence : ByteArray := prog_16_method_61_code
def yX7_silence : MethodName := ⟨RX7, "silence", "()F"⟩
abbrev cX7_feed : ByteArray := prog_16_method_62_code
def yX7_feed : MethodName := ⟨RX7, "feed", "(C)I"⟩
abbrev cX7_read : ByteArray := prog_16_method_70_code
def yX7_read : MethodName := ⟨RX7, "read", "()I"⟩
abbrev cX7_readItem : ByteArray := prog_16_method_67_code
def yX7_readItem : MethodName := ⟨RX7, "readItem", "()V"⟩
abbrev cX7_oneOf : ByteArray := prog_16_method_66_code
def yX7_oneOf : MethodName := ⟨RX7, "oneOf", "(Ljava/lang/String;)I"⟩
abbrev cX7_numberHere : ByteArray := prog_16_method_65_code
def yX7_numberHere : MethodName := ⟨RX7, "numberHere", "()I"⟩
abbrev cX7_sign : ByteArray := prog_16_method_64_code
def yX7_sign : MethodName := ⟨RX7, "sign", "(CC)I"⟩
abbrev cX7_isHere : ByteArray := prog_16_method_63_code
def yX7_isHere : MethodName := ⟨RX7, "isHere", "(CC)Z"⟩
abbrev cX7_carryOut : ByteArray := prog_16_method_68_code
def yX7_carryOut : MethodName := ⟨RX7, "carryOut", "(I)V"⟩
abbrev cX7_isRefused : ByteArray := prog_16_method_69_code
def yX7_isRefused : MethodName := ⟨RX7, "isRefused", "(I)Z"⟩
abbrev cX7_faultPosition : ByteArray := prog_16_method_71_code
def yX7_faultPosition : MethodName := ⟨RX7, "faultPosition", "()I"⟩
abbrev cX7_refusal : ByteArray := prog_16_method_72_code
def yX7_refusal : MethodName := ⟨RX7, "refusal", "(Z)I"⟩
abbrev cX7_undo : ByteArray := prog_16_method_73_code
def yX7_undo : MethodName := ⟨RX7, "undo", "()I"⟩
abbrev cX7_saveSnapshot : ByteArray := prog_16_method_74_code
def yX7_saveSnapshot : MethodName := ⟨RX7, "saveSnapshot", "()I"⟩
abbrev cX7_restoreSnapshot : ByteArray := prog_16_method_75_code
def yX7_restoreSnapshot : MethodName := ⟨RX7, "restoreSnapshot", "()I"⟩
theorem q82 : (Jvm.Cond.initialized "BrookWeirsModel") ∈ lw_all := lw_g (lw_at lw_m1 13 rfl) rfl
theorem q660 : (Jvm.Cond.selects "BrookWeirsModel" ({ cls := "java/lang/Object", name := "getClass", desc := "()Ljava/lang/Class;" } : Jvm.MethodName) ({ cls := "java/lang/Object", name := "getClass", desc := "()Ljava/lang/Class;" } : Jvm.MethodName)) ∈ lw_all := lw_g (lw_at lw_m3 111 rfl) rfl
theorem q1899 : (Jvm.Cond.instantiable "BrookWeirsModel" (18 : Nat)) ∈ lw_all := lw_g (lw_at lw_m8 150 rfl) rfl
theorem q1901 : (Jvm.Cond.instanceMethod ({ cls := "BrookWeirsModel", name := "<init>", desc := "()V" } : Jvm.MethodName)) ∈ lw_all := lw_g (lw_at lw_m8 152 rfl) rfl
theorem q1902 : (Jvm.Cond.code ({ cls := "BrookWeirsModel", name := "<init>", desc := "()V" } : Jvm.MethodName) prog_16_method_1_code (1 : Nat) (Option.none : Option Jvm.ClassFile.FieldType)) ∈ lw_all := lw_g (lw_at lw_m8 153 rfl) rfl
theorem q1903 : (Jvm.Cond.methodLink "BrookWeirsModel" (3 : Nat) ({ cls := "java/lang/Object", name := "<init>", desc := "()V" } : Jvm.MethodName)) ∈ lw_all := lw_g (lw_at lw_m8 154 rfl) rfl
theorem q1904 : (Jvm.Cond.fieldLink "BrookWeirsModel" (9 : Nat) "BrookWeirsModel" "s" "[I") ∈ lw_all := lw_g (lw_at lw_m8 155 rfl) rfl
theorem q1905 : (Jvm.Cond.fieldLink "BrookWeirsModel" (13 : Nat) "BrookWeirsModel" "before" "[I") ∈ lw_all := lw_g (lw_at lw_m8 156 rfl) rfl
theorem q1906 : (Jvm.Cond.fieldLink "BrookWeirsModel" (16 : Nat) "BrookWeirsModel" "aside" "[I") ∈ lw_all := lw_g (lw_at lw_m8 157 rfl) rfl
theorem q1907 : (Jvm.Cond.fieldLink "BrookWeirsModel" (19 : Nat) "BrookWeirsModel" "saved" "[I") ∈ lw_all := lw_g (lw_at lw_m8 158 rfl) rfl
theorem q1908 : (Jvm.Cond.fieldLink "BrookWeirsModel" (230 : Nat) "BrookWeirsModel" "isSaved" "Z") ∈ lw_all := lw_g (lw_at lw_m8 159 rfl) rfl
theorem q1909 : (Jvm.Cond.fieldLink "BrookWeirsModel" (22 : Nat) "BrookWeirsModel" "past" "[I") ∈ lw_all := lw_g (lw_at lw_m8 160 rfl) rfl
theorem q1910 : (Jvm.Cond.fieldLink "BrookWeirsModel" (45 : Nat) "BrookWeirsModel" "pastMany" "I") ∈ lw_all := lw_g (lw_at lw_m8 161 rfl) rfl
theorem q1911 : (Jvm.Cond.fieldLink "BrookWeirsModel" (36 : Nat) "BrookWeirsModel" "thrown" "I") ∈ lw_all := lw_g (lw_at lw_m8 162 rfl) rfl
theorem q1912 : (Jvm.Cond.fieldLink "BrookWeirsModel" (48 : Nat) "BrookWeirsModel" "reason" "I") ∈ lw_all := lw_g (lw_at lw_m8 163 rfl) rfl
theorem q1913 : (Jvm.Cond.fieldLink "BrookWeirsModel" (51 : Nat) "BrookWeirsModel" "item" "I") ∈ lw_all := lw_g (lw_at lw_m8 164 rfl) rfl
theorem q1914 : (Jvm.Cond.fieldLink "BrookWeirsModel" (162 : Nat) "BrookWeirsModel" "bestWorth" "I") ∈ lw_all := lw_g (lw_at lw_m8 165 rfl) rfl
theorem q1915 : (Jvm.Cond.fieldLink "BrookWeirsModel" (25 : Nat) "BrookWeirsModel" "input" "[C") ∈ lw_all := lw_g (lw_at lw_m8 166 rfl) rfl
theorem q1916 : (Jvm.Cond.fieldLink "BrookWeirsModel" (184 : Nat) "BrookWeirsModel" "length" "I") ∈ lw_all := lw_g (lw_at lw_m8 167 rfl) rfl
theorem q1917 : (Jvm.Cond.fieldLink "BrookWeirsModel" (191 : Nat) "BrookWeirsModel" "place" "I") ∈ lw_all := lw_g (lw_at lw_m8 168 rfl) rfl
theorem q1918 : (Jvm.Cond.fieldLink "BrookWeirsModel" (187 : Nat) "BrookWeirsModel" "isWrong" "Z") ∈ lw_all := lw_g (lw_at lw_m8 169 rfl) rfl
theorem q1919 : (Jvm.Cond.fieldLink "BrookWeirsModel" (29 : Nat) "BrookWeirsModel" "fault" "I") ∈ lw_all := lw_g (lw_at lw_m8 170 rfl) rfl
theorem q1920 : (Jvm.Cond.fieldLink "BrookWeirsModel" (33 : Nat) "BrookWeirsModel" "items" "[I") ∈ lw_all := lw_g (lw_at lw_m8 171 rfl) rfl
theorem q1921 : (Jvm.Cond.fieldLink "BrookWeirsModel" (207 : Nat) "BrookWeirsModel" "itemMany" "I") ∈ lw_all := lw_g (lw_at lw_m8 172 rfl) rfl
theorem q1922 : (Jvm.Cond.laysFinal "BrookWeirsModel" "BrookWeirsModel" "s" "[I") ∈ lw_all := lw_g (lw_at lw_m8 173 rfl) rfl
theorem q1923 : (Jvm.Cond.soleField "BrookWeirsModel" "s") ∈ lw_all := lw_g (lw_at lw_m8 174 rfl) rfl
theorem q1924 : (Jvm.Cond.laysFinal "BrookWeirsModel" "BrookWeirsModel" "before" "[I") ∈ lw_all := lw_g (lw_at lw_m8 175 rfl) rfl
theorem q1925 : (Jvm.Cond.soleField "BrookWeirsModel" "before") ∈ lw_all := lw_g (lw_at lw_m8 176 rfl) rfl
theorem q1926 : (Jvm.Cond.laysFinal "BrookWeirsModel" "BrookWeirsModel" "aside" "[I") ∈ lw_all := lw_g (lw_at lw_m8 177 rfl) rfl
theorem q1927 : (Jvm.Cond.soleField "BrookWeirsModel" "aside") ∈ lw_all := lw_g (lw_at lw_m8 178 rfl) rfl
theorem q1928 : (Jvm.Cond.laysFinal "BrookWeirsModel" "BrookWeirsModel" "saved" "[I") ∈ lw_all := lw_g (lw_at lw_m8 179 rfl) rfl
theorem q1929 : (Jvm.Cond.soleField "BrookWeirsModel" "saved") ∈ lw_all := lw_g (lw_at lw_m8 180 rfl) rfl
theorem q1930 : (Jvm.Cond.lays "BrookWeirsModel" "BrookWeirsModel" "isSaved" "Z") ∈ lw_all := lw_g (lw_at lw_m8 181 rfl) rfl
theorem q1931 : (Jvm.Cond.soleField "BrookWeirsModel" "isSaved") ∈ lw_all := lw_g (lw_at lw_m8 182 rfl) rfl
theorem q1932 : (Jvm.Cond.laysFinal "BrookWeirsModel" "BrookWeirsModel" "past" "[I") ∈ lw_all := lw_g (lw_at lw_m8 183 rfl) rfl
theorem q1933 : (Jvm.Cond.soleField "BrookWeirsModel" "past") ∈ lw_all := lw_g (lw_at lw_m8 184 rfl) rfl
theorem q1934 : (Jvm.Cond.lays "BrookWeirsModel" "BrookWeirsModel" "pastMany" "I") ∈ lw_all := lw_g (lw_at lw_m8 185 rfl) rfl
theorem q1935 : (Jvm.Cond.soleField "BrookWeirsModel" "pastMany") ∈ lw_all := lw_g (lw_at lw_m8 186 rfl) rfl
theorem q1936 : (Jvm.Cond.lays "BrookWeirsModel" "BrookWeirsModel" "thrown" "I") ∈ lw_all := lw_g (lw_at lw_m8 187 rfl) rfl
theorem q1937 : (Jvm.Cond.soleField "BrookWeirsModel" "thrown") ∈ lw_all := lw_g (lw_at lw_m8 188 rfl) rfl
theorem q1938 : (Jvm.Cond.lays "BrookWeirsModel" "BrookWeirsModel" "reason" "I") ∈ lw_all := lw_g (lw_at lw_m8 189 rfl) rfl
theorem q1939 : (Jvm.Cond.soleField "BrookWeirsModel" "reason") ∈ lw_all := lw_g (lw_at lw_m8 190 rfl) rfl
theorem q1940 : (Jvm.Cond.lays "BrookWeirsModel" "BrookWeirsModel" "item" "I") ∈ lw_all := lw_g (lw_at lw_m8 191 rfl) rfl
theorem q1941 : (Jvm.Cond.soleField "BrookWeirsModel" "item") ∈ lw_all := lw_g (lw_at lw_m8 192 rfl) rfl
theorem q1942 : (Jvm.Cond.lays "BrookWeirsModel" "BrookWeirsModel" "bestWorth" "I") ∈ lw_all := lw_g (lw_at lw_m8 193 rfl) rfl
theorem q1943 : (Jvm.Cond.soleField "BrookWeirsModel" "bestWorth") ∈ lw_all := lw_g (lw_at lw_m8 194 rfl) rfl
theorem q1944 : (Jvm.Cond.laysFinal "BrookWeirsModel" "BrookWeirsModel" "input" "[C") ∈ lw_all := lw_g (lw_at lw_m8 195 rfl) rfl
theorem q1945 : (Jvm.Cond.soleField "BrookWeirsModel" "input") ∈ lw_all := lw_g (lw_at lw_m8 196 rfl) rfl
theorem q1946 : (Jvm.Cond.lays "BrookWeirsModel" "BrookWeirsModel" "length" "I") ∈ lw_all := lw_g (lw_at lw_m8 197 rfl) rfl
theorem q1947 : (Jvm.Cond.soleField "BrookWeirsModel" "length") ∈ lw_all := lw_g (lw_at lw_m8 198 rfl) rfl
theorem q1948 : (Jvm.Cond.lays "BrookWeirsModel" "BrookWeirsModel" "place" "I") ∈ lw_all := lw_g (lw_at lw_m8 199 rfl) rfl
theorem q1949 : (Jvm.Cond.soleField "BrookWeirsModel" "place") ∈ lw_all := lw_g (lw_at lw_m8 200 rfl) rfl
theorem q1950 : (Jvm.Cond.lays "BrookWeirsModel" "BrookWeirsModel" "isWrong" "Z") ∈ lw_all := lw_g (lw_at lw_m8 201 rfl) rfl
theorem q1951 : (Jvm.Cond.soleField "BrookWeirsModel" "isWrong") ∈ lw_all := lw_g (lw_at lw_m8 202 rfl) rfl
theorem q1952 : (Jvm.Cond.lays "BrookWeirsModel" "BrookWeirsModel" "fault" "I") ∈ lw_all := lw_g (lw_at lw_m8 203 rfl) rfl
theorem q1953 : (Jvm.Cond.soleField "BrookWeirsModel" "fault") ∈ lw_all := lw_g (lw_at lw_m8 204 rfl) rfl
theorem q1954 : (Jvm.Cond.laysFinal "BrookWeirsModel" "BrookWeirsModel" "items" "[I") ∈ lw_all := lw_g (lw_at lw_m8 205 rfl) rfl
theorem q1955 : (Jvm.Cond.soleField "BrookWeirsModel" "items") ∈ lw_all := lw_g (lw_at lw_m8 206 rfl) rfl
theorem q1956 : (Jvm.Cond.lays "BrookWeirsModel" "BrookWeirsModel" "itemMany" "I") ∈ lw_all := lw_g (lw_at lw_m8 207 rfl) rfl
theorem q1957 : (Jvm.Cond.soleField "BrookWeirsModel" "itemMany") ∈ lw_all := lw_g (lw_at lw_m8 208 rfl) rfl
theorem q1958 : (Jvm.Cond.superclass "BrookWeirsModel" "java/lang/Object") ∈ lw_all := lw_g (lw_at lw_m8 209 rfl) rfl
theorem q1961 : (Jvm.Cond.instanceMethod ({ cls := "BrookWeirsModel", name := "thrown", desc := "()I" } : Jvm.MethodName)) ∈ lw_all := lw_g (lw_at lw_m8 212 rfl) rfl
theorem q1962 : (Jvm.Cond.selects "BrookWeirsModel" ({ cls := "BrookWeirsModel", name := "thrown", desc := "()I" } : Jvm.MethodName) ({ cls := "BrookWeirsModel", name := "thrown", desc := "()I" } : Jvm.MethodName)) ∈ lw_all := lw_g (lw_at lw_m8 213 rfl) rfl
theorem q1963 : (Jvm.Cond.code ({ cls := "BrookWeirsModel", name := "thrown", desc := "()I" } : Jvm.MethodName) prog_16_method_2_code (1 : Nat) (Option.some Jvm.ClassFile.FieldType.int)) ∈ lw_all := lw_g (lw_at lw_m8 214 rfl) rfl
theorem q1965 : (Jvm.Cond.instanceMethod ({ cls := "BrookWeirsModel", name := "pool", desc := "(III)I" } : Jvm.MethodName)) ∈ lw_all := lw_g (lw_at lw_m8 216 rfl) rfl
theorem q1966 : (Jvm.Cond.selects "BrookWeirsModel" ({ cls := "BrookWeirsModel", name := "pool", desc := "(III)I" } : Jvm.MethodName) ({ cls := "BrookWeirsModel", name := "pool", desc := "(III)I" } : Jvm.MethodName)) ∈ lw_all := lw_g (lw_at lw_m8 217 rfl) rfl
theorem q1967 : (Jvm.Cond.code ({ cls := "BrookWeirsModel", name := "pool", desc := "(III)I" } : Jvm.MethodName) prog_16_method_13_code (6 : Nat) (Option.some Jvm.ClassFile.FieldType.int)) ∈ lw_all := lw_g (lw_at lw_m8 218 rfl) rfl
theorem q1968 : (Jvm.Cond.methodLink "BrookWeirsModel" (54 : Nat) ({ cls := "BrookWeirsModel", name := "in", desc := "(III)Z" } : Jvm.MethodName)) ∈ lw_all := lw_g (lw_at lw_m8 219 rfl) rfl
theorem q1969 : (Jvm.Cond.static ({ cls := "BrookWeirsModel", name := "in", desc := "(III)Z" } : Jvm.MethodName)) ∈ lw_all := lw_g (lw_at lw_m8 220 rfl) rfl
theorem q1970 : (Jvm.Cond.code ({ cls := "BrookWeirsModel", name := "in", desc := "(III)Z" } : Jvm.MethodName) prog_16_method_3_code (3 : Nat) (Option.some Jvm.ClassFile.FieldType.boolean)) ∈ lw_all := lw_g (lw_at lw_m8 221 rfl) rfl
theorem q1971 : (Jvm.Cond.methodLink "BrookWeirsModel" (75 : Nat) ({ cls := "BrookWeirsModel", name := "refuse", desc := "(II)I" } : Jvm.MethodName)) ∈ lw_all := lw_g (lw_at lw_m8 222 rfl) rfl
theorem q1972 : (Jvm.Cond.privateMethod ({ cls := "BrookWeirsModel", name := "refuse", desc := "(II)I" } : Jvm.MethodName)) ∈ lw_tbl := lw_at lw_m8 223 rfl
theorem q1973 : (Jvm.Cond.instanceMethod ({ cls := "BrookWeirsModel", name := "refuse", desc := "(II)I" } : Jvm.MethodName)) ∈ lw_all := lw_g (lw_at lw_m8 224 rfl) rfl
theorem q1974 : (Jvm.Cond.code ({ cls := "BrookWeirsModel", name := "refuse", desc := "(II)I" } : Jvm.MethodName) prog_16_method_6_code (3 : Nat) (Option.some Jvm.ClassFile.FieldType.int)) ∈ lw_all := lw_g (lw_at lw_m8 225 rfl) rfl
theorem q1975 : (Jvm.Cond.methodLink "BrookWeirsModel" (78 : Nat) ({ cls := "BrookWeirsModel", name := "keep", desc := "()V" } : Jvm.MethodName)) ∈ lw_all := lw_g (lw_at lw_m8 226 rfl) rfl
theorem q1976 : (Jvm.Cond.privateMethod ({ cls := "BrookWeirsModel", name := "keep", desc := "()V" } : Jvm.MethodName)) ∈ lw_tbl := lw_at lw_m8 227 rfl
theorem q1977 : (Jvm.Cond.instanceMethod ({ cls := "BrookWeirsModel", name := "keep", desc := "()V" } : Jvm.MethodName)) ∈ lw_all := lw_g (lw_at lw_m8 228 rfl) rfl
theorem q1978 : (Jvm.Cond.code ({ cls := "BrookWeirsModel", name := "keep", desc := "()V" } : Jvm.MethodName) prog_16_method_4_code (1 : Nat) (Option.none : Option Jvm.ClassFile.FieldType)) ∈ lw_all := lw_g (lw_at lw_m8 229 rfl) rfl
theorem q1979 : (Jvm.Cond.methodLink "BrookWeirsModel" (39 : Nat) ({ cls := "java/lang/System", name := "arraycopy", desc := "(Ljava/lang/Object;ILjava/lang/Object;II)V" } : Jvm.MethodName)) ∈ lw_all := lw_g (lw_at lw_m8 230 rfl) rfl
theorem q1980 : (Jvm.Cond.methodLink "BrookWeirsModel" (58 : Nat) ({ cls := "BrookWeirsModel", name := "at", desc := "(I)I" } : Jvm.MethodName)) ∈ lw_all := lw_g (lw_at lw_m8 231 rfl) rfl
theorem q1981 : (Jvm.Cond.static ({ cls := "BrookWeirsModel", name := "at", desc := "(I)I" } : Jvm.MethodName)) ∈ lw_all := lw_g (lw_at lw_m8 232 rfl) rfl
theorem q1982 : (Jvm.Cond.code ({ cls := "BrookWeirsModel", name := "at", desc := "(I)I" } : Jvm.MethodName) prog_16_method_8_code (1 : Nat) (Option.some Jvm.ClassFile.FieldType.int)) ∈ lw_all := lw_g (lw_at lw_m8 233 rfl) rfl
theorem q1983 : (Jvm.Cond.methodLink "BrookWeirsModel" (81 : Nat) ({ cls := "BrookWeirsModel", name := "ends", desc := "(I)I" } : Jvm.MethodName)) ∈ lw_all := lw_g (lw_at lw_m8 234 rfl) rfl
theorem q1984 : (Jvm.Cond.privateMethod ({ cls := "BrookWeirsModel", name := "ends", desc := "(I)I" } : Jvm.MethodName)) ∈ lw_tbl := lw_at lw_m8 235 rfl
theorem q1985 : (Jvm.Cond.instanceMethod ({ cls := "BrookWeirsModel", name := "ends", desc := "(I)I" } : Jvm.MethodName)) ∈ lw_all := lw_g (lw_at lw_m8 236 rfl) rfl
theorem q1986 : (Jvm.Cond.code ({ cls := "BrookWeirsModel", name := "ends", desc := "(I)I" } : Jvm.MethodName) prog_16_method_5_code (2 : Nat) (Option.some Jvm.ClassFile.FieldType.int)) ∈ lw_all := lw_g (lw_at lw_m8 237 rfl) rfl
theorem q1988 : (Jvm.Cond.instanceMethod ({ cls := "BrookWeirsModel", name := "boards", desc := "(II)I" } : Jvm.MethodName)) ∈ lw_all := lw_g (lw_at lw_m8 239 rfl) rfl
theorem q1989 : (Jvm.Cond.selects "BrookWeirsModel" ({ cls := "BrookWeirsModel", name := "boards", desc := "(II)I" } : Jvm.MethodName) ({ cls := "BrookWeirsModel", name := "boards", desc := "(II)I" } : Jvm.MethodName)) ∈ lw_all := lw_g (lw_at lw_m9 0 rfl) rfl
theorem q1990 : (Jvm.Cond.code ({ cls := "BrookWeirsModel", name := "boards", desc := "(II)I" } : Jvm.MethodName) prog_16_method_15_code (3 : Nat) (Option.some Jvm.ClassFile.FieldType.int)) ∈ lw_all := lw_g (lw_at lw_m9 1 rfl) rfl
theorem q1991 : (Jvm.Cond.methodLink "BrookWeirsModel" (87 : Nat) ({ cls := "BrookWeirsModel", name := "doBoards", desc := "(II)I" } : Jvm.MethodName)) ∈ lw_all := lw_g (lw_at lw_m9 2 rfl) rfl
theorem q1992 : (Jvm.Cond.privateMethod ({ cls := "BrookWeirsModel", name := "doBoards", desc := "(II)I" } : Jvm.MethodName)) ∈ lw_tbl := lw_at lw_m9 3 rfl
theorem q1993 : (Jvm.Cond.instanceMethod ({ cls := "BrookWeirsModel", name := "doBoards", desc := "(II)I" } : Jvm.MethodName)) ∈ lw_all := lw_g (lw_at lw_m9 4 rfl) rfl
theorem q1994 : (Jvm.Cond.code ({ cls := "BrookWeirsModel", name := "doBoards", desc := "(II)I" } : Jvm.MethodName) prog_16_method_14_code (4 : Nat) (Option.some Jvm.ClassFile.FieldType.int)) ∈ lw_all := lw_g (lw_at lw_m9 5 rfl) rfl
theorem q1995 : (Jvm.Cond.methodLink "BrookWeirsModel" (84 : Nat) ({ cls := "BrookWeirsModel", name := "isPool", desc := "(I)Z" } : Jvm.MethodName)) ∈ lw_all := lw_g (lw_at lw_m9 6 rfl) rfl
theorem q1996 : (Jvm.Cond.privateMethod ({ cls := "BrookWeirsModel", name := "isPool", desc := "(I)Z" } : Jvm.MethodName)) ∈ lw_tbl := lw_at lw_m9 7 rfl
theorem q1997 : (Jvm.Cond.instanceMethod ({ cls := "BrookWeirsModel", name := "isPool", desc := "(I)Z" } : Jvm.MethodName)) ∈ lw_all := lw_g (lw_at lw_m9 8 rfl) rfl
theorem q1998 : (Jvm.Cond.code ({ cls := "BrookWeirsModel", name := "isPool", desc := "(I)Z" } : Jvm.MethodName) prog_16_method_7_code (2 : Nat) (Option.some Jvm.ClassFile.FieldType.boolean)) ∈ lw_all := lw_g (lw_at lw_m9 9 rfl) rfl
theorem q1999 : (Jvm.Cond.methodLink "BrookWeirsModel" (62 : Nat) ({ cls := "BrookWeirsModel", name := "get", desc := "(II)I" } : Jvm.MethodName)) ∈ lw_all := lw_g (lw_at lw_m9 10 rfl) rfl
theorem q2000 : (Jvm.Cond.privateMethod ({ cls := "BrookWeirsModel", name := "get", desc := "(II)I" } : Jvm.MethodName)) ∈ lw_tbl := lw_at lw_m9 11 rfl
theorem q2001 : (Jvm.Cond.instanceMethod ({ cls := "BrookWeirsModel", name := "get", desc := "(II)I" } : Jvm.MethodName)) ∈ lw_all := lw_g (lw_at lw_m9 12 rfl) rfl
theorem q2002 : (Jvm.Cond.code ({ cls := "BrookWeirsModel", name := "get", desc := "(II)I" } : Jvm.MethodName) prog_16_method_9_code (3 : Nat) (Option.some Jvm.ClassFile.FieldType.int)) ∈ lw_all := lw_g (lw_at lw_m9 13 rfl) rfl
theorem q2003 : (Jvm.Cond.methodLink "BrookWeirsModel" (66 : Nat) ({ cls := "BrookWeirsModel", name := "isOpen", desc := "(I)Z" } : Jvm.MethodName)) ∈ lw_all := lw_g (lw_at lw_m9 14 rfl) rfl
theorem q2004 : (Jvm.Cond.privateMethod ({ cls := "BrookWeirsModel", name := "isOpen", desc := "(I)Z" } : Jvm.MethodName)) ∈ lw_tbl := lw_at lw_m9 15 rfl
theorem q2005 : (Jvm.Cond.instanceMethod ({ cls := "BrookWeirsModel", name := "isOpen", desc := "(I)Z" } : Jvm.MethodName)) ∈ lw_all := lw_g (lw_at lw_m9 16 rfl) rfl
theorem q2006 : (Jvm.Cond.code ({ cls := "BrookWeirsModel", name := "isOpen", desc := "(I)Z" } : Jvm.MethodName) prog_16_method_11_code (3 : Nat) (Option.some Jvm.ClassFile.FieldType.boolean)) ∈ lw_all := lw_g (lw_at lw_m9 17 rfl) rfl
theorem q2008 : (Jvm.Cond.instanceMethod ({ cls := "BrookWeirsModel", name := "weir", desc := "(IZ)Z" } : Jvm.MethodName)) ∈ lw_all := lw_g (lw_at lw_m9 19 rfl) rfl
theorem q2009 : (Jvm.Cond.selects "BrookWeirsModel" ({ cls := "BrookWeirsModel", name := "weir", desc := "(IZ)Z" } : Jvm.MethodName) ({ cls := "BrookWeirsModel", name := "weir", desc := "(IZ)Z" } : Jvm.MethodName)) ∈ lw_all := lw_g (lw_at lw_m9 20 rfl) rfl
theorem q2010 : (Jvm.Cond.code ({ cls := "BrookWeirsModel", name := "weir", desc := "(IZ)Z" } : Jvm.MethodName) prog_16_method_17_code (3 : Nat) (Option.some Jvm.ClassFile.FieldType.boolean)) ∈ lw_all := lw_g (lw_at lw_m9 21 rfl) rfl
theorem q2011 : (Jvm.Cond.methodLink "BrookWeirsModel" (90 : Nat) ({ cls := "BrookWeirsModel", name := "becomes", desc := "(IIZ)I" } : Jvm.MethodName)) ∈ lw_all := lw_g (lw_at lw_m9 22 rfl) rfl
theorem q2012 : (Jvm.Cond.privateMethod ({ cls := "BrookWeirsModel", name := "becomes", desc := "(IIZ)I" } : Jvm.MethodName)) ∈ lw_tbl := lw_at lw_m9 23 rfl
theorem q2013 : (Jvm.Cond.instanceMethod ({ cls := "BrookWeirsModel", name := "becomes", desc := "(IIZ)I" } : Jvm.MethodName)) ∈ lw_all := lw_g (lw_at lw_m9 24 rfl) rfl
theorem q2014 : (Jvm.Cond.code ({ cls := "BrookWeirsModel", name := "becomes", desc := "(IIZ)I" } : Jvm.MethodName) prog_16_method_16_code (5 : Nat) (Option.some Jvm.ClassFile.FieldType.int)) ∈ lw_all := lw_g (lw_at lw_m9 25 rfl) rfl
theorem q2016 : (Jvm.Cond.instanceMethod ({ cls := "BrookWeirsModel", name := "latch", desc := "(IZZ)Z" } : Jvm.MethodName)) ∈ lw_all := lw_g (lw_at lw_m9 27 rfl) rfl
theorem q2017 : (Jvm.Cond.selects "BrookWeirsModel" ({ cls := "BrookWeirsModel", name := "latch", desc := "(IZZ)Z" } : Jvm.MethodName) ({ cls := "BrookWeirsModel", name := "latch", desc := "(IZZ)Z" } : Jvm.MethodName)) ∈ lw_all := lw_g (lw_at lw_m9 28 rfl) rfl
theorem q2018 : (Jvm.Cond.code ({ cls := "BrookWeirsModel", name := "latch", desc := "(IZZ)Z" } : Jvm.MethodName) prog_16_method_18_code (4 : Nat) (Option.some Jvm.ClassFile.FieldType.boolean)) ∈ lw_all := lw_g (lw_at lw_m9 29 rfl) rfl
theorem q2020 : (Jvm.Cond.instanceMethod ({ cls := "BrookWeirsModel", name := "frogs", desc := "(II)I" } : Jvm.MethodName)) ∈ lw_all := lw_g (lw_at lw_m9 31 rfl) rfl
theorem q2021 : (Jvm.Cond.selects "BrookWeirsModel" ({ cls := "BrookWeirsModel", name := "frogs", desc := "(II)I" } : Jvm.MethodName) ({ cls := "BrookWeirsModel", name := "frogs", desc := "(II)I" } : Jvm.MethodName)) ∈ lw_all := lw_g (lw_at lw_m9 32 rfl) rfl
theorem q2022 : (Jvm.Cond.code ({ cls := "BrookWeirsModel", name := "frogs", desc := "(II)I" } : Jvm.MethodName) prog_16_method_19_code (4 : Nat) (Option.some Jvm.ClassFile.FieldType.int)) ∈ lw_all := lw_g (lw_at lw_m9 33 rfl) rfl
theorem q2024 : (Jvm.Cond.instanceMethod ({ cls := "BrookWeirsModel", name := "lay", desc := "(II)I" } : Jvm.MethodName)) ∈ lw_all := lw_g (lw_at lw_m9 35 rfl) rfl
theorem q2025 : (Jvm.Cond.selects "BrookWeirsModel" ({ cls := "BrookWeirsModel", name := "lay", desc := "(II)I" } : Jvm.MethodName) ({ cls := "BrookWeirsModel", name := "lay", desc := "(II)I" } : Jvm.MethodName)) ∈ lw_all := lw_g (lw_at lw_m9 36 rfl) rfl
theorem q2026 : (Jvm.Cond.code ({ cls := "BrookWeirsModel", name := "lay", desc := "(II)I" } : Jvm.MethodName) prog_16_method_22_code (3 : Nat) (Option.some Jvm.ClassFile.FieldType.int)) ∈ lw_all := lw_g (lw_at lw_m9 37 rfl) rfl
theorem q2027 : (Jvm.Cond.methodLink "BrookWeirsModel" (100 : Nat) ({ cls := "BrookWeirsModel", name := "doLay", desc := "(II)I" } : Jvm.MethodName)) ∈ lw_all := lw_g (lw_at lw_m9 38 rfl) rfl
theorem q2028 : (Jvm.Cond.privateMethod ({ cls := "BrookWeirsModel", name := "doLay", desc := "(II)I" } : Jvm.MethodName)) ∈ lw_tbl := lw_at lw_m9 39 rfl
theorem q2029 : (Jvm.Cond.instanceMethod ({ cls := "BrookWeirsModel", name := "doLay", desc := "(II)I" } : Jvm.MethodName)) ∈ lw_all := lw_g (lw_at lw_m9 40 rfl) rfl
theorem q2030 : (Jvm.Cond.code ({ cls := "BrookWeirsModel", name := "doLay", desc := "(II)I" } : Jvm.MethodName) prog_16_method_21_code (4 : Nat) (Option.some Jvm.ClassFile.FieldType.int)) ∈ lw_all := lw_g (lw_at lw_m9 41 rfl) rfl
theorem q2031 : (Jvm.Cond.methodLink "BrookWeirsModel" (94 : Nat) ({ cls := "BrookWeirsModel", name := "level", desc := "(I)I" } : Jvm.MethodName)) ∈ lw_all := lw_g (lw_at lw_m9 42 rfl) rfl
theorem q2032 : (Jvm.Cond.privateMethod ({ cls := "BrookWeirsModel", name := "level", desc := "(I)I" } : Jvm.MethodName)) ∈ lw_tbl := lw_at lw_m9 43 rfl
theorem q2033 : (Jvm.Cond.instanceMethod ({ cls := "BrookWeirsModel", name := "level", desc := "(I)I" } : Jvm.MethodName)) ∈ lw_all := lw_g (lw_at lw_m9 44 rfl) rfl
theorem q2034 : (Jvm.Cond.code ({ cls := "BrookWeirsModel", name := "level", desc := "(I)I" } : Jvm.MethodName) prog_16_method_10_code (2 : Nat) (Option.some Jvm.ClassFile.FieldType.int)) ∈ lw_all := lw_g (lw_at lw_m9 45 rfl) rfl
theorem q2035 : (Jvm.Cond.methodLink "BrookWeirsModel" (97 : Nat) ({ cls := "BrookWeirsModel", name := "clutchAt", desc := "(I)I" } : Jvm.MethodName)) ∈ lw_all := lw_g (lw_at lw_m9 46 rfl) rfl
theorem q2036 : (Jvm.Cond.static ({ cls := "BrookWeirsModel", name := "clutchAt", desc := "(I)I" } : Jvm.MethodName)) ∈ lw_all := lw_g (lw_at lw_m9 47 rfl) rfl
theorem q2037 : (Jvm.Cond.code ({ cls := "BrookWeirsModel", name := "clutchAt", desc := "(I)I" } : Jvm.MethodName) prog_16_method_20_code (1 : Nat) (Option.some Jvm.ClassFile.FieldType.int)) ∈ lw_all := lw_g (lw_at lw_m9 48 rfl) rfl
theorem q2039 : (Jvm.Cond.instanceMethod ({ cls := "BrookWeirsModel", name := "of", desc := "(II)I" } : Jvm.MethodName)) ∈ lw_all := lw_g (lw_at lw_m9 50 rfl) rfl
theorem q2040 : (Jvm.Cond.selects "BrookWeirsModel" ({ cls := "BrookWeirsModel", name := "of", desc := "(II)I" } : Jvm.MethodName) ({ cls := "BrookWeirsModel", name := "of", desc := "(II)I" } : Jvm.MethodName)) ∈ lw_all := lw_g (lw_at lw_m9 51 rfl) rfl
theorem q2041 : (Jvm.Cond.code ({ cls := "BrookWeirsModel", name := "of", desc := "(II)I" } : Jvm.MethodName) prog_16_method_25_code (3 : Nat) (Option.some Jvm.ClassFile.FieldType.int)) ∈ lw_all := lw_g (lw_at lw_m9 52 rfl) rfl
theorem q2042 : (Jvm.Cond.methodLink "BrookWeirsModel" (109 : Nat) ({ cls := "BrookWeirsModel", name := "numberOf", desc := "(II)I" } : Jvm.MethodName)) ∈ lw_all := lw_g (lw_at lw_m9 53 rfl) rfl
theorem q2043 : (Jvm.Cond.privateMethod ({ cls := "BrookWeirsModel", name := "numberOf", desc := "(II)I" } : Jvm.MethodName)) ∈ lw_tbl := lw_at lw_m9 54 rfl
theorem q2044 : (Jvm.Cond.instanceMethod ({ cls := "BrookWeirsModel", name := "numberOf", desc := "(II)I" } : Jvm.MethodName)) ∈ lw_all := lw_g (lw_at lw_m9 55 rfl) rfl
theorem q2045 : (Jvm.Cond.code ({ cls := "BrookWeirsModel", name := "numberOf", desc := "(II)I" } : Jvm.MethodName) prog_16_method_24_code (3 : Nat) (Option.some Jvm.ClassFile.FieldType.int)) ∈ lw_all := lw_g (lw_at lw_m9 56 rfl) rfl
theorem q2046 : (Jvm.Cond.methodLink "BrookWeirsModel" (103 : Nat) ({ cls := "BrookWeirsModel", name := "eggsIn", desc := "(I)I" } : Jvm.MethodName)) ∈ lw_all := lw_g (lw_at lw_m9 57 rfl) rfl
theorem q2047 : (Jvm.Cond.privateMethod ({ cls := "BrookWeirsModel", name := "eggsIn", desc := "(I)I" } : Jvm.MethodName)) ∈ lw_tbl := lw_at lw_m9 58 rfl
theorem q2048 : (Jvm.Cond.instanceMethod ({ cls := "BrookWeirsModel", name := "eggsIn", desc := "(I)I" } : Jvm.MethodName)) ∈ lw_all := lw_g (lw_at lw_m9 59 rfl) rfl
theorem q2049 : (Jvm.Cond.code ({ cls := "BrookWeirsModel", name := "eggsIn", desc := "(I)I" } : Jvm.MethodName) prog_16_method_23_code (4 : Nat) (Option.some Jvm.ClassFile.FieldType.int)) ∈ lw_all := lw_g (lw_at lw_m9 60 rfl) rfl
theorem q2050 : (Jvm.Cond.methodLink "BrookWeirsModel" (106 : Nat) ({ cls := "BrookWeirsModel", name := "letsDown", desc := "(I)I" } : Jvm.MethodName)) ∈ lw_all := lw_g (lw_at lw_m9 61 rfl) rfl
theorem q2051 : (Jvm.Cond.privateMethod ({ cls := "BrookWeirsModel", name := "letsDown", desc := "(I)I" } : Jvm.MethodName)) ∈ lw_tbl := lw_at lw_m9 62 rfl
theorem q2052 : (Jvm.Cond.instanceMethod ({ cls := "BrookWeirsModel", name := "letsDown", desc := "(I)I" } : Jvm.MethodName)) ∈ lw_all := lw_g (lw_at lw_m9 63 rfl) rfl
theorem q2053 : (Jvm.Cond.code ({ cls := "BrookWeirsModel", name := "letsDown", desc := "(I)I" } : Jvm.MethodName) prog_16_method_12_code (4 : Nat) (Option.some Jvm.ClassFile.FieldType.int)) ∈ lw_all := lw_g (lw_at lw_m9 64 rfl) rfl
theorem q2054 : (Jvm.Cond.methodLink "BrookWeirsModel" (70 : Nat) ({ cls := "java/lang/Math", name := "min", desc := "(II)I" } : Jvm.MethodName)) ∈ lw_all := lw_g (lw_at lw_m9 65 rfl) rfl
theorem q2056 : (Jvm.Cond.instanceMethod ({ cls := "BrookWeirsModel", name := "is", desc := "(II)Z" } : Jvm.MethodName)) ∈ lw_all := lw_g (lw_at lw_m9 67 rfl) rfl
theorem q2057 : (Jvm.Cond.selects "BrookWeirsModel" ({ cls := "BrookWeirsModel", name := "is", desc := "(II)Z" } : Jvm.MethodName) ({ cls := "BrookWeirsModel", name := "is", desc := "(II)Z" } : Jvm.MethodName)) ∈ lw_all := lw_g (lw_at lw_m9 68 rfl) rfl
theorem q2058 : (Jvm.Cond.code ({ cls := "BrookWeirsModel", name := "is", desc := "(II)Z" } : Jvm.MethodName) prog_16_method_26_code (3 : Nat) (Option.some Jvm.ClassFile.FieldType.boolean)) ∈ lw_all := lw_g (lw_at lw_m9 69 rfl) rfl
theorem q2060 : (Jvm.Cond.instanceMethod ({ cls := "BrookWeirsModel", name := "clutch", desc := "(II)I" } : Jvm.MethodName)) ∈ lw_all := lw_g (lw_at lw_m9 71 rfl) rfl
theorem q2061 : (Jvm.Cond.selects "BrookWeirsModel" ({ cls := "BrookWeirsModel", name := "clutch", desc := "(II)I" } : Jvm.MethodName) ({ cls := "BrookWeirsModel", name := "clutch", desc := "(II)I" } : Jvm.MethodName)) ∈ lw_all := lw_g (lw_at lw_m9 72 rfl) rfl
theorem q2062 : (Jvm.Cond.code ({ cls := "BrookWeirsModel", name := "clutch", desc := "(II)I" } : Jvm.MethodName) prog_16_method_27_code (3 : Nat) (Option.some Jvm.ClassFile.FieldType.int)) ∈ lw_all := lw_g (lw_at lw_m9 73 rfl) rfl
theorem q2064 : (Jvm.Cond.instanceMethod ({ cls := "BrookWeirsModel", name := "tell", desc := "(I)I" } : Jvm.MethodName)) ∈ lw_all := lw_g (lw_at lw_m9 75 rfl) rfl
theorem q2065 : (Jvm.Cond.selects "BrookWeirsModel" ({ cls := "BrookWeirsModel", name := "tell", desc := "(I)I" } : Jvm.MethodName) ({ cls := "BrookWeirsModel", name := "tell", desc := "(I)I" } : Jvm.MethodName)) ∈ lw_all := lw_g (lw_at lw_m9 76 rfl) rfl
theorem q2066 : (Jvm.Cond.code ({ cls := "BrookWeirsModel", name := "tell", desc := "(I)I" } : Jvm.MethodName) prog_16_method_38_code (2 : Nat) (Option.some Jvm.ClassFile.FieldType.int)) ∈ lw_all := lw_g (lw_at lw_m9 77 rfl) rfl
theorem q2067 : (Jvm.Cond.methodLink "BrookWeirsModel" (139 : Nat) ({ cls := "BrookWeirsModel", name := "doTell", desc := "(I)I" } : Jvm.MethodName)) ∈ lw_all := lw_g (lw_at lw_m9 78 rfl) rfl
theorem q2068 : (Jvm.Cond.privateMethod ({ cls := "BrookWeirsModel", name := "doTell", desc := "(I)I" } : Jvm.MethodName)) ∈ lw_tbl := lw_at lw_m9 79 rfl
theorem q2069 : (Jvm.Cond.instanceMethod ({ cls := "BrookWeirsModel", name := "doTell", desc := "(I)I" } : Jvm.MethodName)) ∈ lw_all := lw_g (lw_at lw_m9 80 rfl) rfl
theorem q2070 : (Jvm.Cond.code ({ cls := "BrookWeirsModel", name := "doTell", desc := "(I)I" } : Jvm.MethodName) prog_16_method_37_code (2 : Nat) (Option.some Jvm.ClassFile.FieldType.int)) ∈ lw_all := lw_g (lw_at lw_m9 81 rfl) rfl
theorem q2072 : (Jvm.Cond.instanceMethod ({ cls := "BrookWeirsModel", name := "rain", desc := "(I)I" } : Jvm.MethodName)) ∈ lw_all := lw_g (lw_at lw_m9 83 rfl) rfl
theorem q2073 : (Jvm.Cond.selects "BrookWeirsModel" ({ cls := "BrookWeirsModel", name := "rain", desc := "(I)I" } : Jvm.MethodName) ({ cls := "BrookWeirsModel", name := "rain", desc := "(I)I" } : Jvm.MethodName)) ∈ lw_all := lw_g (lw_at lw_m9 84 rfl) rfl
theorem q2074 : (Jvm.Cond.code ({ cls := "BrookWeirsModel", name := "rain", desc := "(I)I" } : Jvm.MethodName) prog_16_method_39_code (2 : Nat) (Option.some Jvm.ClassFile.FieldType.int)) ∈ lw_all := lw_g (lw_at lw_m9 85 rfl) rfl
theorem q2076 : (Jvm.Cond.instanceMethod ({ cls := "BrookWeirsModel", name := "day", desc := "()I" } : Jvm.MethodName)) ∈ lw_all := lw_g (lw_at lw_m9 87 rfl) rfl
theorem q2077 : (Jvm.Cond.selects "BrookWeirsModel" ({ cls := "BrookWeirsModel", name := "day", desc := "()I" } : Jvm.MethodName) ({ cls := "BrookWeirsModel", name := "day", desc := "()I" } : Jvm.MethodName)) ∈ lw_all := lw_g (lw_at lw_m9 88 rfl) rfl
theorem q2078 : (Jvm.Cond.code ({ cls := "BrookWeirsModel", name := "day", desc := "()I" } : Jvm.MethodName) prog_16_method_40_code (1 : Nat) (Option.some Jvm.ClassFile.FieldType.int)) ∈ lw_all := lw_g (lw_at lw_m9 89 rfl) rfl
theorem q2079 : (Jvm.Cond.methodLink "BrookWeirsModel" (142 : Nat) ({ cls := "BrookWeirsModel", name := "goBy", desc := "()I" } : Jvm.MethodName)) ∈ lw_all := lw_g (lw_at lw_m9 90 rfl) rfl
theorem q2080 : (Jvm.Cond.privateMethod ({ cls := "BrookWeirsModel", name := "goBy", desc := "()I" } : Jvm.MethodName)) ∈ lw_tbl := lw_at lw_m9 91 rfl
theorem q2081 : (Jvm.Cond.instanceMethod ({ cls := "BrookWeirsModel", name := "goBy", desc := "()I" } : Jvm.MethodName)) ∈ lw_all := lw_g (lw_at lw_m9 92 rfl) rfl
theorem q2082 : (Jvm.Cond.code ({ cls := "BrookWeirsModel", name := "goBy", desc := "()I" } : Jvm.MethodName) prog_16_method_36_code (3 : Nat) (Option.some Jvm.ClassFile.FieldType.int)) ∈ lw_all := lw_g (lw_at lw_m9 93 rfl) rfl
theorem q2083 : (Jvm.Cond.methodLink "BrookWeirsModel" (112 : Nat) ({ cls := "BrookWeirsModel", name := "flows", desc := "(II)V" } : Jvm.MethodName)) ∈ lw_all := lw_g (lw_at lw_m9 94 rfl) rfl
theorem q2084 : (Jvm.Cond.privateMethod ({ cls := "BrookWeirsModel", name := "flows", desc := "(II)V" } : Jvm.MethodName)) ∈ lw_tbl := lw_at lw_m9 95 rfl
theorem q2085 : (Jvm.Cond.instanceMethod ({ cls := "BrookWeirsModel", name := "flows", desc := "(II)V" } : Jvm.MethodName)) ∈ lw_all := lw_g (lw_at lw_m9 96 rfl) rfl
theorem q2086 : (Jvm.Cond.code ({ cls := "BrookWeirsModel", name := "flows", desc := "(II)V" } : Jvm.MethodName) prog_16_method_28_code (3 : Nat) (Option.none : Option Jvm.ClassFile.FieldType)) ∈ lw_all := lw_g (lw_at lw_m9 97 rfl) rfl
theorem q2087 : (Jvm.Cond.methodLink "BrookWeirsModel" (116 : Nat) ({ cls := "BrookWeirsModel", name := "goesDown", desc := "(II)V" } : Jvm.MethodName)) ∈ lw_all := lw_g (lw_at lw_m9 98 rfl) rfl
theorem q2088 : (Jvm.Cond.privateMethod ({ cls := "BrookWeirsModel", name := "goesDown", desc := "(II)V" } : Jvm.MethodName)) ∈ lw_tbl := lw_at lw_m9 99 rfl
theorem q2089 : (Jvm.Cond.instanceMethod ({ cls := "BrookWeirsModel", name := "goesDown", desc := "(II)V" } : Jvm.MethodName)) ∈ lw_all := lw_g (lw_at lw_m9 100 rfl) rfl
theorem q2090 : (Jvm.Cond.code ({ cls := "BrookWeirsModel", name := "goesDown", desc := "(II)V" } : Jvm.MethodName) prog_16_method_29_code (3 : Nat) (Option.none : Option Jvm.ClassFile.FieldType)) ∈ lw_all := lw_g (lw_at lw_m9 101 rfl) rfl
theorem q2091 : (Jvm.Cond.methodLink "BrookWeirsModel" (126 : Nat) ({ cls := "BrookWeirsModel", name := "flood", desc := "()I" } : Jvm.MethodName)) ∈ lw_all := lw_g (lw_at lw_m9 102 rfl) rfl
theorem q2092 : (Jvm.Cond.privateMethod ({ cls := "BrookWeirsModel", name := "flood", desc := "()I" } : Jvm.MethodName)) ∈ lw_tbl := lw_at lw_m9 103 rfl
theorem q2093 : (Jvm.Cond.instanceMethod ({ cls := "BrookWeirsModel", name := "flood", desc := "()I" } : Jvm.MethodName)) ∈ lw_all := lw_g (lw_at lw_m9 104 rfl) rfl
theorem q2094 : (Jvm.Cond.code ({ cls := "BrookWeirsModel", name := "flood", desc := "()I" } : Jvm.MethodName) prog_16_method_30_code (4 : Nat) (Option.some Jvm.ClassFile.FieldType.int)) ∈ lw_all := lw_g (lw_at lw_m9 105 rfl) rfl
theorem q2095 : (Jvm.Cond.methodLink "BrookWeirsModel" (130 : Nat) ({ cls := "BrookWeirsModel", name := "takeForFields", desc := "()V" } : Jvm.MethodName)) ∈ lw_all := lw_g (lw_at lw_m9 106 rfl) rfl
theorem q2096 : (Jvm.Cond.privateMethod ({ cls := "BrookWeirsModel", name := "takeForFields", desc := "()V" } : Jvm.MethodName)) ∈ lw_tbl := lw_at lw_m9 107 rfl
theorem q2097 : (Jvm.Cond.instanceMethod ({ cls := "BrookWeirsModel", name := "takeForFields", desc := "()V" } : Jvm.MethodName)) ∈ lw_all := lw_g (lw_at lw_m9 108 rfl) rfl
theorem q2098 : (Jvm.Cond.code ({ cls := "BrookWeirsModel", name := "takeForFields", desc := "()V" } : Jvm.MethodName) prog_16_method_31_code (3 : Nat) (Option.none : Option Jvm.ClassFile.FieldType)) ∈ lw_all := lw_g (lw_at lw_m9 109 rfl) rfl
theorem q2099 : (Jvm.Cond.methodLink "BrookWeirsModel" (133 : Nat) ({ cls := "BrookWeirsModel", name := "liveAll", desc := "()V" } : Jvm.MethodName)) ∈ lw_all := lw_g (lw_at lw_m9 110 rfl) rfl
theorem q2100 : (Jvm.Cond.privateMethod ({ cls := "BrookWeirsModel", name := "liveAll", desc := "()V" } : Jvm.MethodName)) ∈ lw_tbl := lw_at lw_m9 111 rfl
theorem q2101 : (Jvm.Cond.instanceMethod ({ cls := "BrookWeirsModel", name := "liveAll", desc := "()V" } : Jvm.MethodName)) ∈ lw_all := lw_g (lw_at lw_m9 112 rfl) rfl
theorem q2102 : (Jvm.Cond.code ({ cls := "BrookWeirsModel", name := "liveAll", desc := "()V" } : Jvm.MethodName) prog_16_method_34_code (3 : Nat) (Option.none : Option Jvm.ClassFile.FieldType)) ∈ lw_all := lw_g (lw_at lw_m9 113 rfl) rfl
theorem q2103 : (Jvm.Cond.methodLink "BrookWeirsModel" (122 : Nat) ({ cls := "BrookWeirsModel", name := "live", desc := "(I)V" } : Jvm.MethodName)) ∈ lw_all := lw_g (lw_at lw_m9 114 rfl) rfl
theorem q2104 : (Jvm.Cond.privateMethod ({ cls := "BrookWeirsModel", name := "live", desc := "(I)V" } : Jvm.MethodName)) ∈ lw_tbl := lw_at lw_m9 115 rfl
theorem q2105 : (Jvm.Cond.instanceMethod ({ cls := "BrookWeirsModel", name := "live", desc := "(I)V" } : Jvm.MethodName)) ∈ lw_all := lw_g (lw_at lw_m9 116 rfl) rfl
theorem q2106 : (Jvm.Cond.code ({ cls := "BrookWeirsModel", name := "live", desc := "(I)V" } : Jvm.MethodName) prog_16_method_33_code (6 : Nat) (Option.none : Option Jvm.ClassFile.FieldType)) ∈ lw_all := lw_g (lw_at lw_m9 117 rfl) rfl
theorem q2107 : (Jvm.Cond.methodLink "BrookWeirsModel" (119 : Nat) ({ cls := "BrookWeirsModel", name := "lose", desc := "(II)V" } : Jvm.MethodName)) ∈ lw_all := lw_g (lw_at lw_m9 118 rfl) rfl
theorem q2108 : (Jvm.Cond.privateMethod ({ cls := "BrookWeirsModel", name := "lose", desc := "(II)V" } : Jvm.MethodName)) ∈ lw_tbl := lw_at lw_m9 119 rfl
theorem q2109 : (Jvm.Cond.instanceMethod ({ cls := "BrookWeirsModel", name := "lose", desc := "(II)V" } : Jvm.MethodName)) ∈ lw_all := lw_g (lw_at lw_m9 120 rfl) rfl
theorem q2110 : (Jvm.Cond.code ({ cls := "BrookWeirsModel", name := "lose", desc := "(II)V" } : Jvm.MethodName) prog_16_method_32_code (3 : Nat) (Option.none : Option Jvm.ClassFile.FieldType)) ∈ lw_all := lw_g (lw_at lw_m9 121 rfl) rfl
theorem q2111 : (Jvm.Cond.methodLink "BrookWeirsModel" (136 : Nat) ({ cls := "BrookWeirsModel", name := "night", desc := "()V" } : Jvm.MethodName)) ∈ lw_all := lw_g (lw_at lw_m9 122 rfl) rfl
theorem q2112 : (Jvm.Cond.privateMethod ({ cls := "BrookWeirsModel", name := "night", desc := "()V" } : Jvm.MethodName)) ∈ lw_tbl := lw_at lw_m9 123 rfl
theorem q2113 : (Jvm.Cond.instanceMethod ({ cls := "BrookWeirsModel", name := "night", desc := "()V" } : Jvm.MethodName)) ∈ lw_all := lw_g (lw_at lw_m9 124 rfl) rfl
theorem q2114 : (Jvm.Cond.code ({ cls := "BrookWeirsModel", name := "night", desc := "()V" } : Jvm.MethodName) prog_16_method_35_code (4 : Nat) (Option.none : Option Jvm.ClassFile.FieldType)) ∈ lw_all := lw_g (lw_at lw_m9 125 rfl) rfl
theorem q2116 : (Jvm.Cond.instanceMethod ({ cls := "BrookWeirsModel", name := "season", desc := "()I" } : Jvm.MethodName)) ∈ lw_all := lw_g (lw_at lw_m9 127 rfl) rfl
theorem q2117 : (Jvm.Cond.selects "BrookWeirsModel" ({ cls := "BrookWeirsModel", name := "season", desc := "()I" } : Jvm.MethodName) ({ cls := "BrookWeirsModel", name := "season", desc := "()I" } : Jvm.MethodName)) ∈ lw_all := lw_g (lw_at lw_m9 128 rfl) rfl
theorem q2118 : (Jvm.Cond.code ({ cls := "BrookWeirsModel", name := "season", desc := "()I" } : Jvm.MethodName) prog_16_method_41_code (4 : Nat) (Option.some Jvm.ClassFile.FieldType.int)) ∈ lw_all := lw_g (lw_at lw_m9 129 rfl) rfl
theorem q2120 : (Jvm.Cond.instanceMethod ({ cls := "BrookWeirsModel", name := "foretold", desc := "(III)I" } : Jvm.MethodName)) ∈ lw_all := lw_g (lw_at lw_m9 131 rfl) rfl
theorem q2121 : (Jvm.Cond.selects "BrookWeirsModel" ({ cls := "BrookWeirsModel", name := "foretold", desc := "(III)I" } : Jvm.MethodName) ({ cls := "BrookWeirsModel", name := "foretold", desc := "(III)I" } : Jvm.MethodName)) ∈ lw_all := lw_g (lw_at lw_m9 132 rfl) rfl
theorem q2122 : (Jvm.Cond.code ({ cls := "BrookWeirsModel", name := "foretold", desc := "(III)I" } : Jvm.MethodName) prog_16_method_44_code (6 : Nat) (Option.some Jvm.ClassFile.FieldType.int)) ∈ lw_all := lw_g (lw_at lw_m9 133 rfl) rfl
theorem q2123 : (Jvm.Cond.methodLink "BrookWeirsModel" (145 : Nat) ({ cls := "BrookWeirsModel", name := "layAside", desc := "()V" } : Jvm.MethodName)) ∈ lw_all := lw_g (lw_at lw_m9 134 rfl) rfl
theorem q2124 : (Jvm.Cond.privateMethod ({ cls := "BrookWeirsModel", name := "layAside", desc := "()V" } : Jvm.MethodName)) ∈ lw_tbl := lw_at lw_m9 135 rfl
theorem q2125 : (Jvm.Cond.instanceMethod ({ cls := "BrookWeirsModel", name := "layAside", desc := "()V" } : Jvm.MethodName)) ∈ lw_all := lw_g (lw_at lw_m9 136 rfl) rfl
theorem q2126 : (Jvm.Cond.code ({ cls := "BrookWeirsModel", name := "layAside", desc := "()V" } : Jvm.MethodName) prog_16_method_42_code (1 : Nat) (Option.none : Option Jvm.ClassFile.FieldType)) ∈ lw_all := lw_g (lw_at lw_m9 137 rfl) rfl
theorem q2127 : (Jvm.Cond.methodLink "BrookWeirsModel" (148 : Nat) ({ cls := "BrookWeirsModel", name := "bringBack", desc := "()V" } : Jvm.MethodName)) ∈ lw_all := lw_g (lw_at lw_m9 138 rfl) rfl
theorem q2128 : (Jvm.Cond.privateMethod ({ cls := "BrookWeirsModel", name := "bringBack", desc := "()V" } : Jvm.MethodName)) ∈ lw_tbl := lw_at lw_m9 139 rfl
theorem q2129 : (Jvm.Cond.instanceMethod ({ cls := "BrookWeirsModel", name := "bringBack", desc := "()V" } : Jvm.MethodName)) ∈ lw_all := lw_g (lw_at lw_m9 140 rfl) rfl
theorem q2130 : (Jvm.Cond.code ({ cls := "BrookWeirsModel", name := "bringBack", desc := "()V" } : Jvm.MethodName) prog_16_method_43_code (1 : Nat) (Option.none : Option Jvm.ClassFile.FieldType)) ∈ lw_all := lw_g (lw_at lw_m9 141 rfl) rfl
theorem q2132 : (Jvm.Cond.instanceMethod ({ cls := "BrookWeirsModel", name := "firstFlood", desc := "(I)I" } : Jvm.MethodName)) ∈ lw_all := lw_g (lw_at lw_m9 143 rfl) rfl
theorem q2133 : (Jvm.Cond.selects "BrookWeirsModel" ({ cls := "BrookWeirsModel", name := "firstFlood", desc := "(I)I" } : Jvm.MethodName) ({ cls := "BrookWeirsModel", name := "firstFlood", desc := "(I)I" } : Jvm.MethodName)) ∈ lw_all := lw_g (lw_at lw_m9 144 rfl) rfl
theorem q2134 : (Jvm.Cond.code ({ cls := "BrookWeirsModel", name := "firstFlood", desc := "(I)I" } : Jvm.MethodName) prog_16_method_45_code (5 : Nat) (Option.some Jvm.ClassFile.FieldType.int)) ∈ lw_all := lw_g (lw_at lw_m9 145 rfl) rfl
theorem q2136 : (Jvm.Cond.instanceMethod ({ cls := "BrookWeirsModel", name := "best", desc := "(ZIZ)I" } : Jvm.MethodName)) ∈ lw_all := lw_g (lw_at lw_m9 147 rfl) rfl
theorem q2137 : (Jvm.Cond.selects "BrookWeirsModel" ({ cls := "BrookWeirsModel", name := "best", desc := "(ZIZ)I" } : Jvm.MethodName) ({ cls := "BrookWeirsModel", name := "best", desc := "(ZIZ)I" } : Jvm.MethodName)) ∈ lw_all := lw_g (lw_at lw_m9 148 rfl) rfl
theorem q2138 : (Jvm.Cond.code ({ cls := "BrookWeirsModel", name := "best", desc := "(ZIZ)I" } : Jvm.MethodName) prog_16_method_51_code (5 : Nat) (Option.some Jvm.ClassFile.FieldType.int)) ∈ lw_all := lw_g (lw_at lw_m9 149 rfl) rfl
theorem q2139 : (Jvm.Cond.methodLink "BrookWeirsModel" (170 : Nat) ({ cls := "BrookWeirsModel", name := "bestOf", desc := "(ZI)I" } : Jvm.MethodName)) ∈ lw_all := lw_g (lw_at lw_m9 150 rfl) rfl
theorem q2140 : (Jvm.Cond.privateMethod ({ cls := "BrookWeirsModel", name := "bestOf", desc := "(ZI)I" } : Jvm.MethodName)) ∈ lw_tbl := lw_at lw_m9 151 rfl
theorem q2141 : (Jvm.Cond.instanceMethod ({ cls := "BrookWeirsModel", name := "bestOf", desc := "(ZI)I" } : Jvm.MethodName)) ∈ lw_all := lw_g (lw_at lw_m9 152 rfl) rfl
theorem q2142 : (Jvm.Cond.code ({ cls := "BrookWeirsModel", name := "bestOf", desc := "(ZI)I" } : Jvm.MethodName) prog_16_method_50_code (6 : Nat) (Option.some Jvm.ClassFile.FieldType.int)) ∈ lw_all := lw_g (lw_at lw_m9 153 rfl) rfl
theorem q2143 : (Jvm.Cond.methodLink "BrookWeirsModel" (158 : Nat) ({ cls := "BrookWeirsModel", name := "worthOf", desc := "(ZII)I" } : Jvm.MethodName)) ∈ lw_all := lw_g (lw_at lw_m9 154 rfl) rfl
theorem q2144 : (Jvm.Cond.privateMethod ({ cls := "BrookWeirsModel", name := "worthOf", desc := "(ZII)I" } : Jvm.MethodName)) ∈ lw_tbl := lw_at lw_m9 155 rfl
theorem q2145 : (Jvm.Cond.instanceMethod ({ cls := "BrookWeirsModel", name := "worthOf", desc := "(ZII)I" } : Jvm.MethodName)) ∈ lw_all := lw_g (lw_at lw_m9 156 rfl) rfl
theorem q2146 : (Jvm.Cond.code ({ cls := "BrookWeirsModel", name := "worthOf", desc := "(ZII)I" } : Jvm.MethodName) prog_16_method_49_code (7 : Nat) (Option.some Jvm.ClassFile.FieldType.int)) ∈ lw_all := lw_g (lw_at lw_m9 157 rfl) rfl
theorem q2147 : (Jvm.Cond.methodLink "BrookWeirsModel" (151 : Nat) ({ cls := "BrookWeirsModel", name := "setLatches", desc := "(ZI)V" } : Jvm.MethodName)) ∈ lw_all := lw_g (lw_at lw_m9 158 rfl) rfl
theorem q2148 : (Jvm.Cond.privateMethod ({ cls := "BrookWeirsModel", name := "setLatches", desc := "(ZI)V" } : Jvm.MethodName)) ∈ lw_tbl := lw_at lw_m9 159 rfl
theorem q2149 : (Jvm.Cond.instanceMethod ({ cls := "BrookWeirsModel", name := "setLatches", desc := "(ZI)V" } : Jvm.MethodName)) ∈ lw_all := lw_g (lw_at lw_m9 160 rfl) rfl
theorem q2150 : (Jvm.Cond.code ({ cls := "BrookWeirsModel", name := "setLatches", desc := "(ZI)V" } : Jvm.MethodName) prog_16_method_47_code (4 : Nat) (Option.none : Option Jvm.ClassFile.FieldType)) ∈ lw_all := lw_g (lw_at lw_m9 161 rfl) rfl
theorem q2151 : (Jvm.Cond.methodLink "BrookWeirsModel" (155 : Nat) ({ cls := "BrookWeirsModel", name := "frogsOfAll", desc := "()I" } : Jvm.MethodName)) ∈ lw_all := lw_g (lw_at lw_m9 162 rfl) rfl
theorem q2152 : (Jvm.Cond.privateMethod ({ cls := "BrookWeirsModel", name := "frogsOfAll", desc := "()I" } : Jvm.MethodName)) ∈ lw_tbl := lw_at lw_m9 163 rfl
theorem q2153 : (Jvm.Cond.instanceMethod ({ cls := "BrookWeirsModel", name := "frogsOfAll", desc := "()I" } : Jvm.MethodName)) ∈ lw_all := lw_g (lw_at lw_m9 164 rfl) rfl
theorem q2154 : (Jvm.Cond.code ({ cls := "BrookWeirsModel", name := "frogsOfAll", desc := "()I" } : Jvm.MethodName) prog_16_method_48_code (3 : Nat) (Option.some Jvm.ClassFile.FieldType.int)) ∈ lw_all := lw_g (lw_at lw_m9 165 rfl) rfl
theorem q2155 : (Jvm.Cond.methodLink "BrookWeirsModel" (165 : Nat) ({ cls := "java/lang/Integer", name := "bitCount", desc := "(I)I" } : Jvm.MethodName)) ∈ lw_all := lw_g (lw_at lw_m9 166 rfl) rfl
theorem q2157 : (Jvm.Cond.instanceMethod ({ cls := "BrookWeirsModel", name := "worth", desc := "(ZII)I" } : Jvm.MethodName)) ∈ lw_all := lw_g (lw_at lw_m9 168 rfl) rfl
theorem q2158 : (Jvm.Cond.selects "BrookWeirsModel" ({ cls := "BrookWeirsModel", name := "worth", desc := "(ZII)I" } : Jvm.MethodName) ({ cls := "BrookWeirsModel", name := "worth", desc := "(ZII)I" } : Jvm.MethodName)) ∈ lw_all := lw_g (lw_at lw_m9 169 rfl) rfl
theorem q2159 : (Jvm.Cond.code ({ cls := "BrookWeirsModel", name := "worth", desc := "(ZII)I" } : Jvm.MethodName) prog_16_method_52_code (4 : Nat) (Option.some Jvm.ClassFile.FieldType.int)) ∈ lw_all := lw_g (lw_at lw_m9 170 rfl) rfl
theorem q2161 : (Jvm.Cond.instanceMethod ({ cls := "BrookWeirsModel", name := "choose", desc := "(ZI)I" } : Jvm.MethodName)) ∈ lw_all := lw_g (lw_at lw_m9 172 rfl) rfl
theorem q2162 : (Jvm.Cond.selects "BrookWeirsModel" ({ cls := "BrookWeirsModel", name := "choose", desc := "(ZI)I" } : Jvm.MethodName) ({ cls := "BrookWeirsModel", name := "choose", desc := "(ZI)I" } : Jvm.MethodName)) ∈ lw_all := lw_g (lw_at lw_m9 173 rfl) rfl
theorem q2163 : (Jvm.Cond.code ({ cls := "BrookWeirsModel", name := "choose", desc := "(ZI)I" } : Jvm.MethodName) prog_16_method_54_code (3 : Nat) (Option.some Jvm.ClassFile.FieldType.int)) ∈ lw_all := lw_g (lw_at lw_m9 174 rfl) rfl
theorem q2164 : (Jvm.Cond.methodLink "BrookWeirsModel" (178 : Nat) ({ cls := "BrookWeirsModel", name := "chooses", desc := "(ZI)I" } : Jvm.MethodName)) ∈ lw_all := lw_g (lw_at lw_m9 175 rfl) rfl
theorem q2165 : (Jvm.Cond.privateMethod ({ cls := "BrookWeirsModel", name := "chooses", desc := "(ZI)I" } : Jvm.MethodName)) ∈ lw_tbl := lw_at lw_m9 176 rfl
theorem q2166 : (Jvm.Cond.instanceMethod ({ cls := "BrookWeirsModel", name := "chooses", desc := "(ZI)I" } : Jvm.MethodName)) ∈ lw_all := lw_g (lw_at lw_m9 177 rfl) rfl
theorem q2167 : (Jvm.Cond.code ({ cls := "BrookWeirsModel", name := "chooses", desc := "(ZI)I" } : Jvm.MethodName) prog_16_method_53_code (5 : Nat) (Option.some Jvm.ClassFile.FieldType.int)) ∈ lw_all := lw_g (lw_at lw_m9 178 rfl) rfl
theorem q2168 : (Jvm.Cond.methodLink "BrookWeirsModel" (174 : Nat) ({ cls := "BrookWeirsModel", name := "latches", desc := "(Z)I" } : Jvm.MethodName)) ∈ lw_all := lw_g (lw_at lw_m9 179 rfl) rfl
theorem q2169 : (Jvm.Cond.privateMethod ({ cls := "BrookWeirsModel", name := "latches", desc := "(Z)I" } : Jvm.MethodName)) ∈ lw_tbl := lw_at lw_m9 180 rfl
theorem q2170 : (Jvm.Cond.instanceMethod ({ cls := "BrookWeirsModel", name := "latches", desc := "(Z)I" } : Jvm.MethodName)) ∈ lw_all := lw_g (lw_at lw_m9 181 rfl) rfl
theorem q2171 : (Jvm.Cond.code ({ cls := "BrookWeirsModel", name := "latches", desc := "(Z)I" } : Jvm.MethodName) prog_16_method_46_code (4 : Nat) (Option.some Jvm.ClassFile.FieldType.int)) ∈ lw_all := lw_g (lw_at lw_m9 182 rfl) rfl
theorem q2173 : (Jvm.Cond.instanceMethod ({ cls := "BrookWeirsModel", name := "rest", desc := "(I)I" } : Jvm.MethodName)) ∈ lw_all := lw_g (lw_at lw_m9 184 rfl) rfl
theorem q2174 : (Jvm.Cond.selects "BrookWeirsModel" ({ cls := "BrookWeirsModel", name := "rest", desc := "(I)I" } : Jvm.MethodName) ({ cls := "BrookWeirsModel", name := "rest", desc := "(I)I" } : Jvm.MethodName)) ∈ lw_all := lw_g (lw_at lw_m9 185 rfl) rfl
theorem q2175 : (Jvm.Cond.code ({ cls := "BrookWeirsModel", name := "rest", desc := "(I)I" } : Jvm.MethodName) prog_16_method_55_code (6 : Nat) (Option.some Jvm.ClassFile.FieldType.int)) ∈ lw_all := lw_g (lw_at lw_m9 186 rfl) rfl
theorem q2177 : (Jvm.Cond.instanceMethod ({ cls := "BrookWeirsModel", name := "water", desc := "()I" } : Jvm.MethodName)) ∈ lw_all := lw_g (lw_at lw_m9 188 rfl) rfl
theorem q2178 : (Jvm.Cond.selects "BrookWeirsModel" ({ cls := "BrookWeirsModel", name := "water", desc := "()I" } : Jvm.MethodName) ({ cls := "BrookWeirsModel", name := "water", desc := "()I" } : Jvm.MethodName)) ∈ lw_all := lw_g (lw_at lw_m9 189 rfl) rfl
theorem q2179 : (Jvm.Cond.code ({ cls := "BrookWeirsModel", name := "water", desc := "()I" } : Jvm.MethodName) prog_16_method_57_code (1 : Nat) (Option.some Jvm.ClassFile.FieldType.int)) ∈ lw_all := lw_g (lw_at lw_m9 190 rfl) rfl
theorem q2180 : (Jvm.Cond.methodLink "BrookWeirsModel" (181 : Nat) ({ cls := "BrookWeirsModel", name := "waterNow", desc := "()I" } : Jvm.MethodName)) ∈ lw_all := lw_g (lw_at lw_m9 191 rfl) rfl
theorem q2181 : (Jvm.Cond.privateMethod ({ cls := "BrookWeirsModel", name := "waterNow", desc := "()I" } : Jvm.MethodName)) ∈ lw_tbl := lw_at lw_m9 192 rfl
theorem q2182 : (Jvm.Cond.instanceMethod ({ cls := "BrookWeirsModel", name := "waterNow", desc := "()I" } : Jvm.MethodName)) ∈ lw_all := lw_g (lw_at lw_m9 193 rfl) rfl
theorem q2183 : (Jvm.Cond.code ({ cls := "BrookWeirsModel", name := "waterNow", desc := "()I" } : Jvm.MethodName) prog_16_method_56_code (3 : Nat) (Option.some Jvm.ClassFile.FieldType.int)) ∈ lw_all := lw_g (lw_at lw_m9 194 rfl) rfl
theorem q2185 : (Jvm.Cond.instanceMethod ({ cls := "BrookWeirsModel", name := "waterAgain", desc := "()I" } : Jvm.MethodName)) ∈ lw_all := lw_g (lw_at lw_m9 196 rfl) rfl
theorem q2186 : (Jvm.Cond.selects "BrookWeirsModel" ({ cls := "BrookWeirsModel", name := "waterAgain", desc := "()I" } : Jvm.MethodName) ({ cls := "BrookWeirsModel", name := "waterAgain", desc := "()I" } : Jvm.MethodName)) ∈ lw_all := lw_g (lw_at lw_m9 197 rfl) rfl
theorem q2187 : (Jvm.Cond.code ({ cls := "BrookWeirsModel", name := "waterAgain", desc := "()I" } : Jvm.MethodName) prog_16_method_58_code (1 : Nat) (Option.some Jvm.ClassFile.FieldType.int)) ∈ lw_all := lw_g (lw_at lw_m9 198 rfl) rfl
theorem q2189 : (Jvm.Cond.instanceMethod ({ cls := "BrookWeirsModel", name := "number", desc := "(I)I" } : Jvm.MethodName)) ∈ lw_all := lw_g (lw_at lw_m9 200 rfl) rfl
theorem q2190 : (Jvm.Cond.selects "BrookWeirsModel" ({ cls := "BrookWeirsModel", name := "number", desc := "(I)I" } : Jvm.MethodName) ({ cls := "BrookWeirsModel", name := "number", desc := "(I)I" } : Jvm.MethodName)) ∈ lw_all := lw_g (lw_at lw_m9 201 rfl) rfl
theorem q2191 : (Jvm.Cond.code ({ cls := "BrookWeirsModel", name := "number", desc := "(I)I" } : Jvm.MethodName) prog_16_method_59_code (2 : Nat) (Option.some Jvm.ClassFile.FieldType.int)) ∈ lw_all := lw_g (lw_at lw_m9 202 rfl) rfl
theorem q2193 : (Jvm.Cond.instanceMethod ({ cls := "BrookWeirsModel", name := "meanLevel", desc := "()D" } : Jvm.MethodName)) ∈ lw_all := lw_g (lw_at lw_m9 204 rfl) rfl
theorem q2194 : (Jvm.Cond.selects "BrookWeirsModel" ({ cls := "BrookWeirsModel", name := "meanLevel", desc := "()D" } : Jvm.MethodName) ({ cls := "BrookWeirsModel", name := "meanLevel", desc := "()D" } : Jvm.MethodName)) ∈ lw_all := lw_g (lw_at lw_m9 205 rfl) rfl
theorem q2195 : (Jvm.Cond.code ({ cls := "BrookWeirsModel", name := "meanLevel", desc := "()D" } : Jvm.MethodName) prog_16_method_60_code (3 : Nat) (Option.some Jvm.ClassFile.FieldType.double)) ∈ lw_all := lw_g (lw_at lw_m9 206 rfl) rfl
theorem q2197 : (Jvm.Cond.instanceMethod ({ cls := "BrookWeirsModel", name := "silence", desc := "()F" } : Jvm.MethodName)) ∈ lw_all := lw_g (lw_at lw_m9 208 rfl) rfl
theorem q2198 : (Jvm.Cond.selects "BrookWeirsModel" ({ cls := "BrookWeirsModel", name := "silence", desc := "()F" } : Jvm.MethodName) ({ cls := "BrookWeirsModel", name := "silence", desc := "()F" } : Jvm.MethodName)) ∈ lw_all := lw_g (lw_at lw_m9 209 rfl) rfl
theorem q2199 : (Jvm.Cond.code ({ cls := "BrookWeirsModel", name := "silence", desc := "()F" } : Jvm.MethodName) prog_16_method_61_code (1 : Nat) (Option.some Jvm.ClassFile.FieldType.float)) ∈ lw_all := lw_g (lw_at lw_m9 210 rfl) rfl
theorem q2201 : (Jvm.Cond.instanceMethod ({ cls := "BrookWeirsModel", name := "feed", desc := "(C)I" } : Jvm.MethodName)) ∈ lw_all := lw_g (lw_at lw_m9 212 rfl) rfl
theorem q2202 : (Jvm.Cond.selects "BrookWeirsModel" ({ cls := "BrookWeirsModel", name := "feed", desc := "(C)I" } : Jvm.MethodName) ({ cls := "BrookWeirsModel", name := "feed", desc := "(C)I" } : Jvm.MethodName)) ∈ lw_all := lw_g (lw_at lw_m9 213 rfl) rfl
theorem q2203 : (Jvm.Cond.code ({ cls := "BrookWeirsModel", name := "feed", desc := "(C)I" } : Jvm.MethodName) prog_16_method_62_code (2 : Nat) (Option.some Jvm.ClassFile.FieldType.int)) ∈ lw_all := lw_g (lw_at lw_m9 214 rfl) rfl
theorem q2205 : (Jvm.Cond.instanceMethod ({ cls := "BrookWeirsModel", name := "read", desc := "()I" } : Jvm.MethodName)) ∈ lw_all := lw_g (lw_at lw_m9 216 rfl) rfl
theorem q2206 : (Jvm.Cond.selects "BrookWeirsModel" ({ cls := "BrookWeirsModel", name := "read", desc := "()I" } : Jvm.MethodName) ({ cls := "BrookWeirsModel", name := "read", desc := "()I" } : Jvm.MethodName)) ∈ lw_all := lw_g (lw_at lw_m9 217 rfl) rfl
theorem q2207 : (Jvm.Cond.code ({ cls := "BrookWeirsModel", name := "read", desc := "()I" } : Jvm.MethodName) prog_16_method_70_code (2 : Nat) (Option.some Jvm.ClassFile.FieldType.int)) ∈ lw_all := lw_g (lw_at lw_m9 218 rfl) rfl
theorem q2208 : (Jvm.Cond.methodLink "BrookWeirsModel" (221 : Nat) ({ cls := "BrookWeirsModel", name := "readItem", desc := "()V" } : Jvm.MethodName)) ∈ lw_all := lw_g (lw_at lw_m9 219 rfl) rfl
theorem q2209 : (Jvm.Cond.privateMethod ({ cls := "BrookWeirsModel", name := "readItem", desc := "()V" } : Jvm.MethodName)) ∈ lw_tbl := lw_at lw_m9 220 rfl
theorem q2210 : (Jvm.Cond.instanceMethod ({ cls := "BrookWeirsModel", name := "readItem", desc := "()V" } : Jvm.MethodName)) ∈ lw_all := lw_g (lw_at lw_m9 221 rfl) rfl
theorem q2211 : (Jvm.Cond.code ({ cls := "BrookWeirsModel", name := "readItem", desc := "()V" } : Jvm.MethodName) prog_16_method_67_code (4 : Nat) (Option.none : Option Jvm.ClassFile.FieldType)) ∈ lw_all := lw_g (lw_at lw_m9 222 rfl) rfl
theorem q2212 : (Jvm.Cond.stringRef "BrookWeirsModel" (210 : Nat) "rnbose") ∈ lw_tbl := lw_at lw_m9 223 rfl
theorem q2213 : (Jvm.Cond.methodLink "BrookWeirsModel" (212 : Nat) ({ cls := "BrookWeirsModel", name := "oneOf", desc := "(Ljava/lang/String;)I" } : Jvm.MethodName)) ∈ lw_all := lw_g (lw_at lw_m9 224 rfl) rfl
theorem q2214 : (Jvm.Cond.privateMethod ({ cls := "BrookWeirsModel", name := "oneOf", desc := "(Ljava/lang/String;)I" } : Jvm.MethodName)) ∈ lw_tbl := lw_at lw_m9 225 rfl
theorem q2215 : (Jvm.Cond.instanceMethod ({ cls := "BrookWeirsModel", name := "oneOf", desc := "(Ljava/lang/String;)I" } : Jvm.MethodName)) ∈ lw_all := lw_g (lw_at lw_m9 226 rfl) rfl
theorem q2216 : (Jvm.Cond.code ({ cls := "BrookWeirsModel", name := "oneOf", desc := "(Ljava/lang/String;)I" } : Jvm.MethodName) prog_16_method_66_code (3 : Nat) (Option.some Jvm.ClassFile.FieldType.int)) ∈ lw_all := lw_g (lw_at lw_m9 227 rfl) rfl
theorem q2217 : (Jvm.Cond.methodLink "BrookWeirsModel" (202 : Nat) ({ cls := "java/lang/String", name := "indexOf", desc := "(I)I" } : Jvm.MethodName)) ∈ lw_all := lw_g (lw_at lw_m9 228 rfl) rfl
theorem q2267 : (Jvm.Cond.methodLink "BrookWeirsModel" (216 : Nat) ({ cls := "BrookWeirsModel", name := "numberHere", desc := "()I" } : Jvm.MethodName)) ∈ lw_all := lw_g (lw_at lw_m10 38 rfl) rfl
theorem q2268 : (Jvm.Cond.privateMethod ({ cls := "BrookWeirsModel", name := "numberHere", desc := "()I" } : Jvm.MethodName)) ∈ lw_tbl := lw_at lw_m10 39 rfl
theorem q2269 : (Jvm.Cond.instanceMethod ({ cls := "BrookWeirsModel", name := "numberHere", desc := "()I" } : Jvm.MethodName)) ∈ lw_all := lw_g (lw_at lw_m10 40 rfl) rfl
theorem q2270 : (Jvm.Cond.code ({ cls := "BrookWeirsModel", name := "numberHere", desc := "()I" } : Jvm.MethodName) prog_16_method_65_code (2 : Nat) (Option.some Jvm.ClassFile.FieldType.int)) ∈ lw_all := lw_g (lw_at lw_m10 41 rfl) rfl
theorem q2271 : (Jvm.Cond.methodLink "BrookWeirsModel" (198 : Nat) ({ cls := "BrookWeirsModel", name := "sign", desc := "(CC)I" } : Jvm.MethodName)) ∈ lw_all := lw_g (lw_at lw_m10 42 rfl) rfl
theorem q2272 : (Jvm.Cond.privateMethod ({ cls := "BrookWeirsModel", name := "sign", desc := "(CC)I" } : Jvm.MethodName)) ∈ lw_tbl := lw_at lw_m10 43 rfl
theorem q2273 : (Jvm.Cond.instanceMethod ({ cls := "BrookWeirsModel", name := "sign", desc := "(CC)I" } : Jvm.MethodName)) ∈ lw_all := lw_g (lw_at lw_m10 44 rfl) rfl
theorem q2274 : (Jvm.Cond.code ({ cls := "BrookWeirsModel", name := "sign", desc := "(CC)I" } : Jvm.MethodName) prog_16_method_64_code (3 : Nat) (Option.some Jvm.ClassFile.FieldType.int)) ∈ lw_all := lw_g (lw_at lw_m10 45 rfl) rfl
theorem q2275 : (Jvm.Cond.methodLink "BrookWeirsModel" (194 : Nat) ({ cls := "BrookWeirsModel", name := "isHere", desc := "(CC)Z" } : Jvm.MethodName)) ∈ lw_all := lw_g (lw_at lw_m10 46 rfl) rfl
theorem q2276 : (Jvm.Cond.privateMethod ({ cls := "BrookWeirsModel", name := "isHere", desc := "(CC)Z" } : Jvm.MethodName)) ∈ lw_tbl := lw_at lw_m10 47 rfl
theorem q2277 : (Jvm.Cond.instanceMethod ({ cls := "BrookWeirsModel", name := "isHere", desc := "(CC)Z" } : Jvm.MethodName)) ∈ lw_all := lw_g (lw_at lw_m10 48 rfl) rfl
theorem q2278 : (Jvm.Cond.code ({ cls := "BrookWeirsModel", name := "isHere", desc := "(CC)Z" } : Jvm.MethodName) prog_16_method_63_code (3 : Nat) (Option.some Jvm.ClassFile.FieldType.boolean)) ∈ lw_all := lw_g (lw_at lw_m10 49 rfl) rfl
theorem q2279 : (Jvm.Cond.stringRef "BrookWeirsModel" (219 : Nat) "fm") ∈ lw_tbl := lw_at lw_m10 50 rfl
theorem q2280 : (Jvm.Cond.methodLink "BrookWeirsModel" (224 : Nat) ({ cls := "BrookWeirsModel", name := "carryOut", desc := "(I)V" } : Jvm.MethodName)) ∈ lw_all := lw_g (lw_at lw_m10 51 rfl) rfl
theorem q2281 : (Jvm.Cond.privateMethod ({ cls := "BrookWeirsModel", name := "carryOut", desc := "(I)V" } : Jvm.MethodName)) ∈ lw_tbl := lw_at lw_m10 52 rfl
theorem q2282 : (Jvm.Cond.instanceMethod ({ cls := "BrookWeirsModel", name := "carryOut", desc := "(I)V" } : Jvm.MethodName)) ∈ lw_all := lw_g (lw_at lw_m10 53 rfl) rfl
theorem q2283 : (Jvm.Cond.code ({ cls := "BrookWeirsModel", name := "carryOut", desc := "(I)V" } : Jvm.MethodName) prog_16_method_68_code (5 : Nat) (Option.none : Option Jvm.ClassFile.FieldType)) ∈ lw_all := lw_g (lw_at lw_m10 54 rfl) rfl
theorem q2284 : (Jvm.Cond.methodLink "BrookWeirsModel" (227 : Nat) ({ cls := "BrookWeirsModel", name := "isRefused", desc := "(I)Z" } : Jvm.MethodName)) ∈ lw_all := lw_g (lw_at lw_m10 55 rfl) rfl
theorem q2285 : (Jvm.Cond.privateMethod ({ cls := "BrookWeirsModel", name := "isRefused", desc := "(I)Z" } : Jvm.MethodName)) ∈ lw_tbl := lw_at lw_m10 56 rfl
theorem q2286 : (Jvm.Cond.instanceMethod ({ cls := "BrookWeirsModel", name := "isRefused", desc := "(I)Z" } : Jvm.MethodName)) ∈ lw_all := lw_g (lw_at lw_m10 57 rfl) rfl
theorem q2287 : (Jvm.Cond.code ({ cls := "BrookWeirsModel", name := "isRefused", desc := "(I)Z" } : Jvm.MethodName) prog_16_method_69_code (2 : Nat) (Option.some Jvm.ClassFile.FieldType.boolean)) ∈ lw_all := lw_g (lw_at lw_m10 58 rfl) rfl
theorem q2289 : (Jvm.Cond.instanceMethod ({ cls := "BrookWeirsModel", name := "faultPosition", desc := "()I" } : Jvm.MethodName)) ∈ lw_all := lw_g (lw_at lw_m10 60 rfl) rfl
theorem q2290 : (Jvm.Cond.selects "BrookWeirsModel" ({ cls := "BrookWeirsModel", name := "faultPosition", desc := "()I" } : Jvm.MethodName) ({ cls := "BrookWeirsModel", name := "faultPosition", desc := "()I" } : Jvm.MethodName)) ∈ lw_all := lw_g (lw_at lw_m10 61 rfl) rfl
theorem q2291 : (Jvm.Cond.code ({ cls := "BrookWeirsModel", name := "faultPosition", desc := "()I" } : Jvm.MethodName) prog_16_method_71_code (1 : Nat) (Option.some Jvm.ClassFile.FieldType.int)) ∈ lw_all := lw_g (lw_at lw_m10 62 rfl) rfl
theorem q2293 : (Jvm.Cond.instanceMethod ({ cls := "BrookWeirsModel", name := "refusal", desc := "(Z)I" } : Jvm.MethodName)) ∈ lw_all := lw_g (lw_at lw_m10 64 rfl) rfl
theorem q2294 : (Jvm.Cond.selects "BrookWeirsModel" ({ cls := "BrookWeirsModel", name := "refusal", desc := "(Z)I" } : Jvm.MethodName) ({ cls := "BrookWeirsModel", name := "refusal", desc := "(Z)I" } : Jvm.MethodName)) ∈ lw_all := lw_g (lw_at lw_m10 65 rfl) rfl
theorem q2295 : (Jvm.Cond.code ({ cls := "BrookWeirsModel", name := "refusal", desc := "(Z)I" } : Jvm.MethodName) prog_16_method_72_code (2 : Nat) (Option.some Jvm.ClassFile.FieldType.int)) ∈ lw_all := lw_g (lw_at lw_m10 66 rfl) rfl
theorem q2297 : (Jvm.Cond.instanceMethod ({ cls := "BrookWeirsModel", name := "undo", desc := "()I" } : Jvm.MethodName)) ∈ lw_all := lw_g (lw_at lw_m10 68 rfl) rfl
theorem q2298 : (Jvm.Cond.selects "BrookWeirsModel" ({ cls := "BrookWeirsModel", name := "undo", desc := "()I" } : Jvm.MethodName) ({ cls := "BrookWeirsModel", name := "undo", desc := "()I" } : Jvm.MethodName)) ∈ lw_all := lw_g (lw_at lw_m10 69 rfl) rfl
theorem q2299 : (Jvm.Cond.code ({ cls := "BrookWeirsModel", name := "undo", desc := "()I" } : Jvm.MethodName) prog_16_method_73_code (1 : Nat) (Option.some Jvm.ClassFile.FieldType.int)) ∈ lw_all := lw_g (lw_at lw_m10 70 rfl) rfl
theorem q2301 : (Jvm.Cond.instanceMethod ({ cls := "BrookWeirsModel", name := "saveSnapshot", desc := "()I" } : Jvm.MethodName)) ∈ lw_all := lw_g (lw_at lw_m10 72 rfl) rfl
theorem q2302 : (Jvm.Cond.selects "BrookWeirsModel" ({ cls := "BrookWeirsModel", name := "saveSnapshot", desc := "()I" } : Jvm.MethodName) ({ cls := "BrookWeirsModel", name := "saveSnapshot", desc := "()I" } : Jvm.MethodName)) ∈ lw_all := lw_g (lw_at lw_m10 73 rfl) rfl
theorem q2303 : (Jvm.Cond.code ({ cls := "BrookWeirsModel", name := "saveSnapshot", desc := "()I" } : Jvm.MethodName) prog_16_method_74_code (1 : Nat) (Option.some Jvm.ClassFile.FieldType.int)) ∈ lw_all := lw_g (lw_at lw_m10 74 rfl) rfl
theorem q2305 : (Jvm.Cond.instanceMethod ({ cls := "BrookWeirsModel", name := "restoreSnapshot", desc := "()I" } : Jvm.MethodName)) ∈ lw_all := lw_g (lw_at lw_m10 76 rfl) rfl
theorem q2306 : (Jvm.Cond.selects "BrookWeirsModel" ({ cls := "BrookWeirsModel", name := "restoreSnapshot", desc := "()I" } : Jvm.MethodName) ({ cls := "BrookWeirsModel", name := "restoreSnapshot", desc := "()I" } : Jvm.MethodName)) ∈ lw_all := lw_g (lw_at lw_m10 77 rfl) rfl
theorem q2307 : (Jvm.Cond.code ({ cls := "BrookWeirsModel", name := "restoreSnapshot", desc := "()I" } : Jvm.MethodName) prog_16_method_75_code (1 : Nat) (Option.some Jvm.ClassFile.FieldType.int)) ∈ lw_all := lw_g (lw_at lw_m10 78 rfl) rfl
theorem q2337 : (Jvm.Cond.castable "BrookWeirsModel" "java/lang/Object") ∈ lw_tbl := lw_at lw_m10 108 rfl
theorem in_X7 : ∀ w ∈ wsX70, w ∈ lw_all := lw_in wsX70 [1922, 1924, 1926, 1928, 1930, 1932, 1934, 1936, 1938, 1940, 1942, 1944, 1946, 1948, 1950, 1952, 1954, 1956] (by decide +kernel) (by decide +kernel)

/-! BrookWeirs$Refusal -/
def RX8 : String := "BrookWeirs$Refusal"
def TX8 : u_T := fun k => match k with
  | 0 => ("java/lang/Throwable", "cause", "Ljava/lang/Throwable;", false)
  | 1 => ("java/lang/Throwable", "stackTrace", "[Ljava/lang/StackTraceElement;", false)
  | 2 => ("java/lang/Throwable", "suppressedExceptions", "Ljava/util/List;", false)
  | 3 => ("java/lang/Throwable", "detailMessage", "Ljava/lang/String;", false)
  | 4 => ("java/lang/Throwable", "backtrace", "Ljava/lang/Object;", false)
  | 5 => ("java/lang/Throwable", "depth", "I", false)
  | _ => ("BrookWeirs$Refusal", "reason", "I", true)
def tyX8 : Nat → FieldType := fun k => match k with
  | 0 => .object "java/lang/Throwable"
  | 1 => .array (.object "java/lang/StackTraceElement")
  | 2 => .object "java/util/List"
  | 3 => .object "java/lang/String"
  | 4 => .object "java/lang/Object"
  | 5 => .int
  | _ => .int
abbrev wsX80 : List Cond := u_ws RX8 TX8 7
theorem nmX8 : ∀ a, a < 7 → ∀ b, b < 7 → a ≠ b → (TX8 a).2.1 ≠ (TX8 b).2.1 := by decide +kernel
theorem tyX8_ok : ∀ k, k < 7 → parseFieldDescriptor (TX8 k).2.2.1 = some (tyX8 k) := by decide +kernel
abbrev cX8_init : ByteArray := prog_12_method_1_code
def yX8_init : MethodName := ⟨RX8, "<init>", "(I)V"⟩
theorem q87 : (Jvm.Cond.initialized "BrookWeirs$Refusal") ∈ lw_all := lw_g (lw_at lw_m1 18 rfl) rfl
theorem q563 : (Jvm.Cond.selects "BrookWeirs$Refusal" ({ cls := "java/lang/Throwable", name := "fillInStackTrace", desc := "()Ljava/lang/Throwable;" } : Jvm.MethodName) ({ cls := "java/lang/Throwable", name := "fillInStackTrace", desc := "()Ljava/lang/Throwable;" } : Jvm.MethodName)) ∈ lw_all := lw_g (lw_at lw_m3 14 rfl) rfl
theorem q658 : (Jvm.Cond.selects "BrookWeirs$Refusal" ({ cls := "java/lang/Object", name := "getClass", desc := "()Ljava/lang/Class;" } : Jvm.MethodName) ({ cls := "java/lang/Object", name := "getClass", desc := "()Ljava/lang/Class;" } : Jvm.MethodName)) ∈ lw_all := lw_g (lw_at lw_m3 109 rfl) rfl
theorem q757 : (Jvm.Cond.instantiable "BrookWeirs$Refusal" (7 : Nat)) ∈ lw_all := lw_g (lw_at lw_m3 208 rfl) rfl
theorem q758 : (Jvm.Cond.castable "BrookWeirs$Refusal" "BrookWeirs$Refusal") ∈ lw_tbl := lw_at lw_m3 209 rfl
theorem q759 : (Jvm.Cond.selects "BrookWeirs$Refusal" ({ cls := "java/lang/Throwable", name := "fillInStackTrace", desc := "(I)Ljava/lang/Throwable;" } : Jvm.MethodName) ({ cls := "java/lang/Throwable", name := "fillInStackTrace", desc := "(I)Ljava/lang/Throwable;" } : Jvm.MethodName)) ∈ lw_all := lw_g (lw_at lw_m3 210 rfl) rfl
theorem q760 : (Jvm.Cond.lays "BrookWeirs$Refusal" "java/lang/Throwable" "cause" "Ljava/lang/Throwable;") ∈ lw_all := lw_g (lw_at lw_m3 211 rfl) rfl
theorem q761 : (Jvm.Cond.lays "BrookWeirs$Refusal" "java/lang/Throwable" "stackTrace" "[Ljava/lang/StackTraceElement;") ∈ lw_all := lw_g (lw_at lw_m3 212 rfl) rfl
theorem q762 : (Jvm.Cond.lays "BrookWeirs$Refusal" "java/lang/Throwable" "suppressedExceptions" "Ljava/util/List;") ∈ lw_all := lw_g (lw_at lw_m3 213 rfl) rfl
theorem q763 : (Jvm.Cond.lays "BrookWeirs$Refusal" "java/lang/Throwable" "detailMessage" "Ljava/lang/String;") ∈ lw_all := lw_g (lw_at lw_m3 214 rfl) rfl
theorem q764 : (Jvm.Cond.lays "BrookWeirs$Refusal" "java/lang/Throwable" "backtrace" "Ljava/lang/Object;") ∈ lw_all := lw_g (lw_at lw_m3 215 rfl) rfl
theorem q766 : (Jvm.Cond.instanceMethod ({ cls := "BrookWeirs$Refusal", name := "<init>", desc := "(I)V" } : Jvm.MethodName)) ∈ lw_all := lw_g (lw_at lw_m3 217 rfl) rfl
theorem q767 : (Jvm.Cond.code ({ cls := "BrookWeirs$Refusal", name := "<init>", desc := "(I)V" } : Jvm.MethodName) prog_12_method_1_code (2 : Nat) (Option.none : Option Jvm.ClassFile.FieldType)) ∈ lw_all := lw_g (lw_at lw_m3 218 rfl) rfl
theorem q768 : (Jvm.Cond.methodLink "BrookWeirs$Refusal" (1 : Nat) ({ cls := "java/lang/Exception", name := "<init>", desc := "(Ljava/lang/String;Ljava/lang/Throwable;ZZ)V" } : Jvm.MethodName)) ∈ lw_all := lw_g (lw_at lw_m3 219 rfl) rfl
theorem q774 : (Jvm.Cond.fieldLink "BrookWeirs$Refusal" (7 : Nat) "BrookWeirs$Refusal" "reason" "I") ∈ lw_all := lw_g (lw_at lw_m3 225 rfl) rfl
theorem q776 : (Jvm.Cond.laysFinal "BrookWeirs$Refusal" "BrookWeirs$Refusal" "reason" "I") ∈ lw_all := lw_g (lw_at lw_m3 227 rfl) rfl
theorem q777 : (Jvm.Cond.soleField "BrookWeirs$Refusal" "reason") ∈ lw_all := lw_g (lw_at lw_m3 228 rfl) rfl
theorem q778 : (Jvm.Cond.lays "BrookWeirs$Refusal" "java/lang/Throwable" "depth" "I") ∈ lw_all := lw_g (lw_at lw_m3 229 rfl) rfl
theorem q779 : (Jvm.Cond.superclass "BrookWeirs$Refusal" "java/lang/Exception") ∈ lw_all := lw_g (lw_at lw_m3 230 rfl) rfl
theorem q2339 : (Jvm.Cond.castable "BrookWeirs$Refusal" "java/lang/Object") ∈ lw_tbl := lw_at lw_m10 110 rfl
theorem in_X8 : ∀ w ∈ wsX80, w ∈ lw_all := lw_in wsX80 [760, 761, 762, 763, 764, 778, 776] (by decide +kernel) (by decide +kernel)

/-! BrookWeirs$Clutches$1 -/
def RX9 : String := "BrookWeirs$Clutches$1"
def TX9 : u_T := fun k => match k with
  | 0 => ("BrookWeirs$Clutches$1", "val$at", "I", true)
  | _ => ("BrookWeirs$Clutches$1", "this$0", "LBrookWeirs$Clutches;", true)
def tyX9 : Nat → FieldType := fun k => match k with
  | 0 => .int
  | _ => .object "BrookWeirs$Clutches"
abbrev wsX90 : List Cond := u_ws RX9 TX9 2
theorem nmX9 : ∀ a, a < 2 → ∀ b, b < 2 → a ≠ b → (TX9 a).2.1 ≠ (TX9 b).2.1 := by decide +kernel
theorem tyX9_ok : ∀ k, k < 2 → parseFieldDescriptor (TX9 k).2.2.1 = some (tyX9 k) := by decide +kernel
abbrev cX9_init : ByteArray := prog_5_method_1_code
def yX9_init : MethodName := ⟨RX9, "<init>", "(LBrookWeirs$Clutches;I)V"⟩
abbrev cX9_iterator : ByteArray := prog_5_method_2_code
def yX9_iterator : MethodName := ⟨RX9, "iterator", "()Ljava/util/Iterator;"⟩
theorem q96 : (Jvm.Cond.initialized "BrookWeirs$Clutches$1") ∈ lw_all := lw_g (lw_at lw_m1 27 rfl) rfl
theorem q652 : (Jvm.Cond.selects "BrookWeirs$Clutches$1" ({ cls := "java/lang/Object", name := "getClass", desc := "()Ljava/lang/Class;" } : Jvm.MethodName) ({ cls := "java/lang/Object", name := "getClass", desc := "()Ljava/lang/Class;" } : Jvm.MethodName)) ∈ lw_all := lw_g (lw_at lw_m3 103 rfl) rfl
theorem q910 : (Jvm.Cond.instantiable "BrookWeirs$Clutches$1" (2 : Nat)) ∈ lw_all := lw_g (lw_at lw_m4 121 rfl) rfl
theorem q912 : (Jvm.Cond.instanceMethod ({ cls := "BrookWeirs$Clutches$1", name := "<init>", desc := "(LBrookWeirs$Clutches;I)V" } : Jvm.MethodName)) ∈ lw_all := lw_g (lw_at lw_m4 123 rfl) rfl
theorem q913 : (Jvm.Cond.code ({ cls := "BrookWeirs$Clutches$1", name := "<init>", desc := "(LBrookWeirs$Clutches;I)V" } : Jvm.MethodName) prog_5_method_1_code (3 : Nat) (Option.none : Option Jvm.ClassFile.FieldType)) ∈ lw_all := lw_g (lw_at lw_m4 124 rfl) rfl
theorem q914 : (Jvm.Cond.methodLink "BrookWeirs$Clutches$1" (11 : Nat) ({ cls := "java/lang/Object", name := "<init>", desc := "()V" } : Jvm.MethodName)) ∈ lw_all := lw_g (lw_at lw_m4 125 rfl) rfl
theorem q915 : (Jvm.Cond.fieldLink "BrookWeirs$Clutches$1" (7 : Nat) "BrookWeirs$Clutches$1" "val$at" "I") ∈ lw_all := lw_g (lw_at lw_m4 126 rfl) rfl
theorem q917 : (Jvm.Cond.fieldLink "BrookWeirs$Clutches$1" (1 : Nat) "BrookWeirs$Clutches$1" "this$0" "LBrookWeirs$Clutches;") ∈ lw_all := lw_g (lw_at lw_m4 128 rfl) rfl
theorem q919 : (Jvm.Cond.laysFinal "BrookWeirs$Clutches$1" "BrookWeirs$Clutches$1" "val$at" "I") ∈ lw_all := lw_g (lw_at lw_m4 130 rfl) rfl
theorem q920 : (Jvm.Cond.soleField "BrookWeirs$Clutches$1" "val$at") ∈ lw_all := lw_g (lw_at lw_m4 131 rfl) rfl
theorem q921 : (Jvm.Cond.laysFinal "BrookWeirs$Clutches$1" "BrookWeirs$Clutches$1" "this$0" "LBrookWeirs$Clutches;") ∈ lw_all := lw_g (lw_at lw_m4 132 rfl) rfl
theorem q922 : (Jvm.Cond.soleField "BrookWeirs$Clutches$1" "this$0") ∈ lw_all := lw_g (lw_at lw_m4 133 rfl) rfl
theorem q923 : (Jvm.Cond.superclass "BrookWeirs$Clutches$1" "java/lang/Object") ∈ lw_all := lw_g (lw_at lw_m4 134 rfl) rfl
theorem q928 : (Jvm.Cond.castable "BrookWeirs$Clutches$1" "java/lang/Iterable") ∈ lw_tbl := lw_at lw_m4 139 rfl
theorem q929 : (Jvm.Cond.selects "BrookWeirs$Clutches$1" ({ cls := "java/lang/Iterable", name := "iterator", desc := "()Ljava/util/Iterator;" } : Jvm.MethodName) ({ cls := "BrookWeirs$Clutches$1", name := "iterator", desc := "()Ljava/util/Iterator;" } : Jvm.MethodName)) ∈ lw_all := lw_g (lw_at lw_m4 140 rfl) rfl
theorem q930 : (Jvm.Cond.unhidden "BrookWeirs$Clutches$1" "iterator" "()Ljava/util/Iterator;") ∈ lw_tbl := lw_at lw_m4 141 rfl
theorem q931 : (Jvm.Cond.instanceMethod ({ cls := "BrookWeirs$Clutches$1", name := "iterator", desc := "()Ljava/util/Iterator;" } : Jvm.MethodName)) ∈ lw_all := lw_g (lw_at lw_m4 142 rfl) rfl
theorem q932 : (Jvm.Cond.publicMethod ({ cls := "BrookWeirs$Clutches$1", name := "iterator", desc := "()Ljava/util/Iterator;" } : Jvm.MethodName)) ∈ lw_tbl := lw_at lw_m4 143 rfl
theorem q933 : (Jvm.Cond.code ({ cls := "BrookWeirs$Clutches$1", name := "iterator", desc := "()Ljava/util/Iterator;" } : Jvm.MethodName) prog_5_method_2_code (1 : Nat) (Option.some (Jvm.ClassFile.FieldType.object "java/util/Iterator"))) ∈ lw_all := lw_g (lw_at lw_m4 144 rfl) rfl
theorem q934 : (Jvm.Cond.classLink "BrookWeirs$Clutches$1" (17 : Nat) "BrookWeirs$Clutches$1$1") ∈ lw_all := lw_g (lw_at lw_m4 145 rfl) rfl
theorem q936 : (Jvm.Cond.methodLink "BrookWeirs$Clutches$1" (19 : Nat) ({ cls := "BrookWeirs$Clutches$1$1", name := "<init>", desc := "(LBrookWeirs$Clutches$1;)V" } : Jvm.MethodName)) ∈ lw_all := lw_g (lw_at lw_m4 147 rfl) rfl
theorem q2345 : (Jvm.Cond.castable "BrookWeirs$Clutches$1" "java/lang/Object") ∈ lw_tbl := lw_at lw_m10 116 rfl
theorem in_X9 : ∀ w ∈ wsX90, w ∈ lw_all := lw_in wsX90 [919, 921] (by decide +kernel) (by decide +kernel)

/-! java/util/AbstractCollection -/
def RJ0 : String := "java/util/AbstractCollection"
abbrev cJ0_init : ByteArray := prog_46_method_1_code
def yJ0_init : MethodName := ⟨RJ0, "<init>", "()V"⟩
theorem q73 : (Jvm.Cond.initialized "java/util/AbstractCollection") ∈ lw_all := lw_g (lw_at lw_m1 4 rfl) rfl
theorem q274 : (Jvm.Cond.instanceMethod ({ cls := "java/util/AbstractCollection", name := "<init>", desc := "()V" } : Jvm.MethodName)) ∈ lw_all := lw_g (lw_at lw_m1 205 rfl) rfl
theorem q275 : (Jvm.Cond.code ({ cls := "java/util/AbstractCollection", name := "<init>", desc := "()V" } : Jvm.MethodName) prog_46_method_1_code (1 : Nat) (Option.none : Option Jvm.ClassFile.FieldType)) ∈ lw_all := lw_g (lw_at lw_m1 206 rfl) rfl
theorem q276 : (Jvm.Cond.methodLink "java/util/AbstractCollection" (1 : Nat) ({ cls := "java/lang/Object", name := "<init>", desc := "()V" } : Jvm.MethodName)) ∈ lw_all := lw_g (lw_at lw_m1 207 rfl) rfl

/-! java/util/ArrayDeque -/
def RJ1 : String := "java/util/ArrayDeque"
def TJ1 : u_T := fun k => match k with
  | 0 => ("java/util/ArrayDeque", "elements", "[Ljava/lang/Object;", false)
  | 1 => ("java/util/ArrayDeque", "head", "I", false)
  | _ => ("java/util/ArrayDeque", "tail", "I", false)
def tyJ1 : Nat → FieldType := fun k => match k with
  | 0 => .array (.object "java/lang/Object")
  | 1 => .int
  | _ => .int
abbrev wsJ10 : List Cond := u_ws RJ1 TJ1 3
theorem nmJ1 : ∀ a, a < 3 → ∀ b, b < 3 → a ≠ b → (TJ1 a).2.1 ≠ (TJ1 b).2.1 := by decide +kernel
theorem tyJ1_ok : ∀ k, k < 3 → parseFieldDescriptor (TJ1 k).2.2.1 = some (tyJ1 k) := by decide +kernel
abbrev cJ1_init : ByteArray := prog_48_method_3_code
def yJ1_init : MethodName := ⟨RJ1, "<init>", "()V"⟩
abbrev cJ1_size : ByteArray := prog_48_method_37_code
def yJ1_size : MethodName := ⟨RJ1, "size", "()I"⟩
abbrev cJ1_sub : ByteArray := prog_48_method_9_code
def yJ1_sub : MethodName := ⟨RJ1, "sub", "(III)I"⟩
abbrev cJ1_removeLast : ByteArray := prog_48_method_19_code
def yJ1_removeLast : MethodName := ⟨RJ1, "removeLast", "()Ljava/lang/Object;"⟩
abbrev cJ1_pollLast : ByteArray := prog_48_method_21_code
def yJ1_pollLast : MethodName := ⟨RJ1, "pollLast", "()Ljava/lang/Object;"⟩
abbrev cJ1_dec : ByteArray := prog_48_method_7_code
def yJ1_dec : MethodName := ⟨RJ1, "dec", "(II)I"⟩
abbrev cJ1_elementAt : ByteArray := prog_48_method_10_code
def yJ1_elementAt : MethodName := ⟨RJ1, "elementAt", "([Ljava/lang/Object;I)Ljava/lang/Object;"⟩
abbrev cJ1_push : ByteArray := prog_48_method_34_code
def yJ1_push : MethodName := ⟨RJ1, "push", "(Ljava/lang/Object;)V"⟩
abbrev cJ1_addFirst : ByteArray := prog_48_method_12_code
def yJ1_addFirst : MethodName := ⟨RJ1, "addFirst", "(Ljava/lang/Object;)V"⟩
abbrev cJ1_grow : ByteArray := prog_48_method_1_code
def yJ1_grow : MethodName := ⟨RJ1, "grow", "(I)V"⟩
abbrev cJ1_newCapacity : ByteArray := prog_48_method_2_code
def yJ1_newCapacity : MethodName := ⟨RJ1, "newCapacity", "(II)I"⟩
abbrev cJ1_iterator : ByteArray := prog_48_method_39_code
def yJ1_iterator : MethodName := ⟨RJ1, "iterator", "()Ljava/util/Iterator;"⟩
abbrev cJ1_nonNullElementAt : ByteArray := prog_48_method_11_code
def yJ1_nonNullElementAt : MethodName := ⟨RJ1, "nonNullElementAt", "([Ljava/lang/Object;I)Ljava/lang/Object;"⟩
abbrev cJ1_inc : ByteArray := prog_48_method_6_code
def yJ1_inc : MethodName := ⟨RJ1, "inc", "(II)I"⟩
abbrev cJ1_isEmpty : ByteArray := prog_48_method_38_code
def yJ1_isEmpty : MethodName := ⟨RJ1, "isEmpty", "()Z"⟩
abbrev cJ1_pop : ByteArray := prog_48_method_35_code
def yJ1_pop : MethodName := ⟨RJ1, "pop", "()Ljava/lang/Object;"⟩
abbrev cJ1_removeFirst : ByteArray := prog_48_method_18_code
def yJ1_removeFirst : MethodName := ⟨RJ1, "removeFirst", "()Ljava/lang/Object;"⟩
abbrev cJ1_pollFirst : ByteArray := prog_48_method_20_code
def yJ1_pollFirst : MethodName := ⟨RJ1, "pollFirst", "()Ljava/lang/Object;"⟩
abbrev cJ1_clear : ByteArray := prog_48_method_53_code
def yJ1_clear : MethodName := ⟨RJ1, "clear", "()V"⟩
abbrev cJ1_circularClear : ByteArray := prog_48_method_54_code
def yJ1_circularClear : MethodName := ⟨RJ1, "circularClear", "([Ljava/lang/Object;II)V"⟩
theorem q74 : (Jvm.Cond.initialized "java/util/ArrayDeque") ∈ lw_all := lw_g (lw_at lw_m1 5 rfl) rfl
theorem q269 : (Jvm.Cond.instantiable "java/util/ArrayDeque" (3 : Nat)) ∈ lw_all := lw_g (lw_at lw_m1 200 rfl) rfl
theorem q271 : (Jvm.Cond.instanceMethod ({ cls := "java/util/ArrayDeque", name := "<init>", desc := "()V" } : Jvm.MethodName)) ∈ lw_all := lw_g (lw_at lw_m1 202 rfl) rfl
theorem q272 : (Jvm.Cond.code ({ cls := "java/util/ArrayDeque", name := "<init>", desc := "()V" } : Jvm.MethodName) prog_48_method_3_code (1 : Nat) (Option.none : Option Jvm.ClassFile.FieldType)) ∈ lw_all := lw_g (lw_at lw_m1 203 rfl) rfl
theorem q273 : (Jvm.Cond.methodLink "java/util/ArrayDeque" (42 : Nat) ({ cls := "java/util/AbstractCollection", name := "<init>", desc := "()V" } : Jvm.MethodName)) ∈ lw_all := lw_g (lw_at lw_m1 204 rfl) rfl
theorem q277 : (Jvm.Cond.classLink "java/util/ArrayDeque" (47 : Nat) "java/lang/Object") ∈ lw_all := lw_g (lw_at lw_m1 208 rfl) rfl
theorem q279 : (Jvm.Cond.fieldLink "java/util/ArrayDeque" (3 : Nat) "java/util/ArrayDeque" "elements" "[Ljava/lang/Object;") ∈ lw_all := lw_g (lw_at lw_m1 210 rfl) rfl
theorem q282 : (Jvm.Cond.fieldLink "java/util/ArrayDeque" (24 : Nat) "java/util/ArrayDeque" "head" "I") ∈ lw_all := lw_g (lw_at lw_m1 213 rfl) rfl
theorem q283 : (Jvm.Cond.fieldLink "java/util/ArrayDeque" (20 : Nat) "java/util/ArrayDeque" "tail" "I") ∈ lw_all := lw_g (lw_at lw_m1 214 rfl) rfl
theorem q284 : (Jvm.Cond.lays "java/util/ArrayDeque" "java/util/ArrayDeque" "elements" "[Ljava/lang/Object;") ∈ lw_all := lw_g (lw_at lw_m1 215 rfl) rfl
theorem q285 : (Jvm.Cond.soleField "java/util/ArrayDeque" "elements") ∈ lw_all := lw_g (lw_at lw_m1 216 rfl) rfl
theorem q286 : (Jvm.Cond.lays "java/util/ArrayDeque" "java/util/ArrayDeque" "head" "I") ∈ lw_all := lw_g (lw_at lw_m1 217 rfl) rfl
theorem q287 : (Jvm.Cond.soleField "java/util/ArrayDeque" "head") ∈ lw_all := lw_g (lw_at lw_m1 218 rfl) rfl
theorem q288 : (Jvm.Cond.lays "java/util/ArrayDeque" "java/util/ArrayDeque" "tail" "I") ∈ lw_all := lw_g (lw_at lw_m1 219 rfl) rfl
theorem q289 : (Jvm.Cond.soleField "java/util/ArrayDeque" "tail") ∈ lw_all := lw_g (lw_at lw_m1 220 rfl) rfl
theorem q290 : (Jvm.Cond.superclass "java/util/ArrayDeque" "java/util/AbstractCollection") ∈ lw_all := lw_g (lw_at lw_m1 221 rfl) rfl
theorem q509 : (Jvm.Cond.instanceMethod ({ cls := "java/util/ArrayDeque", name := "size", desc := "()I" } : Jvm.MethodName)) ∈ lw_all := lw_g (lw_at lw_m2 200 rfl) rfl
theorem q510 : (Jvm.Cond.selects "java/util/ArrayDeque" ({ cls := "java/util/ArrayDeque", name := "size", desc := "()I" } : Jvm.MethodName) ({ cls := "java/util/ArrayDeque", name := "size", desc := "()I" } : Jvm.MethodName)) ∈ lw_all := lw_g (lw_at lw_m2 201 rfl) rfl
theorem q511 : (Jvm.Cond.code ({ cls := "java/util/ArrayDeque", name := "size", desc := "()I" } : Jvm.MethodName) prog_48_method_37_code (1 : Nat) (Option.some Jvm.ClassFile.FieldType.int)) ∈ lw_all := lw_g (lw_at lw_m2 202 rfl) rfl
theorem q512 : (Jvm.Cond.methodLink "java/util/ArrayDeque" (127 : Nat) ({ cls := "java/util/ArrayDeque", name := "sub", desc := "(III)I" } : Jvm.MethodName)) ∈ lw_all := lw_g (lw_at lw_m2 203 rfl) rfl
theorem q513 : (Jvm.Cond.static ({ cls := "java/util/ArrayDeque", name := "sub", desc := "(III)I" } : Jvm.MethodName)) ∈ lw_all := lw_g (lw_at lw_m2 204 rfl) rfl
theorem q514 : (Jvm.Cond.code ({ cls := "java/util/ArrayDeque", name := "sub", desc := "(III)I" } : Jvm.MethodName) prog_48_method_9_code (3 : Nat) (Option.some Jvm.ClassFile.FieldType.int)) ∈ lw_all := lw_g (lw_at lw_m2 205 rfl) rfl
theorem q516 : (Jvm.Cond.instanceMethod ({ cls := "java/util/ArrayDeque", name := "removeLast", desc := "()Ljava/lang/Object;" } : Jvm.MethodName)) ∈ lw_all := lw_g (lw_at lw_m2 207 rfl) rfl
theorem q517 : (Jvm.Cond.selects "java/util/ArrayDeque" ({ cls := "java/util/ArrayDeque", name := "removeLast", desc := "()Ljava/lang/Object;" } : Jvm.MethodName) ({ cls := "java/util/ArrayDeque", name := "removeLast", desc := "()Ljava/lang/Object;" } : Jvm.MethodName)) ∈ lw_all := lw_g (lw_at lw_m2 208 rfl) rfl
theorem q518 : (Jvm.Cond.code ({ cls := "java/util/ArrayDeque", name := "removeLast", desc := "()Ljava/lang/Object;" } : Jvm.MethodName) prog_48_method_19_code (2 : Nat) (Option.some (Jvm.ClassFile.FieldType.object "java/lang/Object"))) ∈ lw_all := lw_g (lw_at lw_m2 209 rfl) rfl
theorem q519 : (Jvm.Cond.methodLink "java/util/ArrayDeque" (100 : Nat) ({ cls := "java/util/ArrayDeque", name := "pollLast", desc := "()Ljava/lang/Object;" } : Jvm.MethodName)) ∈ lw_all := lw_g (lw_at lw_m2 210 rfl) rfl
theorem q520 : (Jvm.Cond.instanceMethod ({ cls := "java/util/ArrayDeque", name := "pollLast", desc := "()Ljava/lang/Object;" } : Jvm.MethodName)) ∈ lw_all := lw_g (lw_at lw_m2 211 rfl) rfl
theorem q521 : (Jvm.Cond.selects "java/util/ArrayDeque" ({ cls := "java/util/ArrayDeque", name := "pollLast", desc := "()Ljava/lang/Object;" } : Jvm.MethodName) ({ cls := "java/util/ArrayDeque", name := "pollLast", desc := "()Ljava/lang/Object;" } : Jvm.MethodName)) ∈ lw_all := lw_g (lw_at lw_m2 212 rfl) rfl
theorem q522 : (Jvm.Cond.code ({ cls := "java/util/ArrayDeque", name := "pollLast", desc := "()Ljava/lang/Object;" } : Jvm.MethodName) prog_48_method_21_code (4 : Nat) (Option.some (Jvm.ClassFile.FieldType.object "java/lang/Object"))) ∈ lw_all := lw_g (lw_at lw_m2 213 rfl) rfl
theorem q523 : (Jvm.Cond.methodLink "java/util/ArrayDeque" (68 : Nat) ({ cls := "java/util/ArrayDeque", name := "dec", desc := "(II)I" } : Jvm.MethodName)) ∈ lw_all := lw_g (lw_at lw_m2 214 rfl) rfl
theorem q524 : (Jvm.Cond.static ({ cls := "java/util/ArrayDeque", name := "dec", desc := "(II)I" } : Jvm.MethodName)) ∈ lw_all := lw_g (lw_at lw_m2 215 rfl) rfl
theorem q525 : (Jvm.Cond.code ({ cls := "java/util/ArrayDeque", name := "dec", desc := "(II)I" } : Jvm.MethodName) prog_48_method_7_code (2 : Nat) (Option.some Jvm.ClassFile.FieldType.int)) ∈ lw_all := lw_g (lw_at lw_m2 216 rfl) rfl
theorem q526 : (Jvm.Cond.methodLink "java/util/ArrayDeque" (103 : Nat) ({ cls := "java/util/ArrayDeque", name := "elementAt", desc := "([Ljava/lang/Object;I)Ljava/lang/Object;" } : Jvm.MethodName)) ∈ lw_all := lw_g (lw_at lw_m2 217 rfl) rfl
theorem q527 : (Jvm.Cond.static ({ cls := "java/util/ArrayDeque", name := "elementAt", desc := "([Ljava/lang/Object;I)Ljava/lang/Object;" } : Jvm.MethodName)) ∈ lw_all := lw_g (lw_at lw_m2 218 rfl) rfl
theorem q528 : (Jvm.Cond.code ({ cls := "java/util/ArrayDeque", name := "elementAt", desc := "([Ljava/lang/Object;I)Ljava/lang/Object;" } : Jvm.MethodName) prog_48_method_10_code (2 : Nat) (Option.some (Jvm.ClassFile.FieldType.object "java/lang/Object"))) ∈ lw_all := lw_g (lw_at lw_m2 219 rfl) rfl
theorem q529 : (Jvm.Cond.classLink "java/util/ArrayDeque" (97 : Nat) "java/util/NoSuchElementException") ∈ lw_all := lw_g (lw_at lw_m2 220 rfl) rfl
theorem q577 : (Jvm.Cond.methodLink "java/util/ArrayDeque" (99 : Nat) ({ cls := "java/util/NoSuchElementException", name := "<init>", desc := "()V" } : Jvm.MethodName)) ∈ lw_all := lw_g (lw_at lw_m3 28 rfl) rfl
theorem q601 : (Jvm.Cond.instanceMethod ({ cls := "java/util/ArrayDeque", name := "push", desc := "(Ljava/lang/Object;)V" } : Jvm.MethodName)) ∈ lw_all := lw_g (lw_at lw_m3 52 rfl) rfl
theorem q602 : (Jvm.Cond.selects "java/util/ArrayDeque" ({ cls := "java/util/ArrayDeque", name := "push", desc := "(Ljava/lang/Object;)V" } : Jvm.MethodName) ({ cls := "java/util/ArrayDeque", name := "push", desc := "(Ljava/lang/Object;)V" } : Jvm.MethodName)) ∈ lw_all := lw_g (lw_at lw_m3 53 rfl) rfl
theorem q603 : (Jvm.Cond.code ({ cls := "java/util/ArrayDeque", name := "push", desc := "(Ljava/lang/Object;)V" } : Jvm.MethodName) prog_48_method_34_code (2 : Nat) (Option.none : Option Jvm.ClassFile.FieldType)) ∈ lw_all := lw_g (lw_at lw_m3 54 rfl) rfl
theorem q604 : (Jvm.Cond.methodLink "java/util/ArrayDeque" (86 : Nat) ({ cls := "java/util/ArrayDeque", name := "addFirst", desc := "(Ljava/lang/Object;)V" } : Jvm.MethodName)) ∈ lw_all := lw_g (lw_at lw_m3 55 rfl) rfl
theorem q605 : (Jvm.Cond.instanceMethod ({ cls := "java/util/ArrayDeque", name := "addFirst", desc := "(Ljava/lang/Object;)V" } : Jvm.MethodName)) ∈ lw_all := lw_g (lw_at lw_m3 56 rfl) rfl
theorem q606 : (Jvm.Cond.selects "java/util/ArrayDeque" ({ cls := "java/util/ArrayDeque", name := "addFirst", desc := "(Ljava/lang/Object;)V" } : Jvm.MethodName) ({ cls := "java/util/ArrayDeque", name := "addFirst", desc := "(Ljava/lang/Object;)V" } : Jvm.MethodName)) ∈ lw_all := lw_g (lw_at lw_m3 57 rfl) rfl
theorem q607 : (Jvm.Cond.code ({ cls := "java/util/ArrayDeque", name := "addFirst", desc := "(Ljava/lang/Object;)V" } : Jvm.MethodName) prog_48_method_12_code (3 : Nat) (Option.none : Option Jvm.ClassFile.FieldType)) ∈ lw_all := lw_g (lw_at lw_m3 58 rfl) rfl
theorem q608 : (Jvm.Cond.methodLink "java/util/ArrayDeque" (71 : Nat) ({ cls := "java/util/ArrayDeque", name := "grow", desc := "(I)V" } : Jvm.MethodName)) ∈ lw_all := lw_g (lw_at lw_m3 59 rfl) rfl
theorem q609 : (Jvm.Cond.privateMethod ({ cls := "java/util/ArrayDeque", name := "grow", desc := "(I)V" } : Jvm.MethodName)) ∈ lw_tbl := lw_at lw_m3 60 rfl
theorem q610 : (Jvm.Cond.instanceMethod ({ cls := "java/util/ArrayDeque", name := "grow", desc := "(I)V" } : Jvm.MethodName)) ∈ lw_all := lw_g (lw_at lw_m3 61 rfl) rfl
theorem q611 : (Jvm.Cond.code ({ cls := "java/util/ArrayDeque", name := "grow", desc := "(I)V" } : Jvm.MethodName) prog_48_method_1_code (9 : Nat) (Option.none : Option Jvm.ClassFile.FieldType)) ∈ lw_all := lw_g (lw_at lw_m3 62 rfl) rfl
theorem q612 : (Jvm.Cond.constant "java/util/ArrayDeque" (9 : Nat) (2147483639 : Int32)) ∈ lw_all := lw_g (lw_at lw_m3 63 rfl) rfl
theorem q613 : (Jvm.Cond.methodLink "java/util/ArrayDeque" (10 : Nat) ({ cls := "java/util/ArrayDeque", name := "newCapacity", desc := "(II)I" } : Jvm.MethodName)) ∈ lw_all := lw_g (lw_at lw_m3 64 rfl) rfl
theorem q614 : (Jvm.Cond.privateMethod ({ cls := "java/util/ArrayDeque", name := "newCapacity", desc := "(II)I" } : Jvm.MethodName)) ∈ lw_tbl := lw_at lw_m3 65 rfl
theorem q615 : (Jvm.Cond.instanceMethod ({ cls := "java/util/ArrayDeque", name := "newCapacity", desc := "(II)I" } : Jvm.MethodName)) ∈ lw_all := lw_g (lw_at lw_m3 66 rfl) rfl
theorem q616 : (Jvm.Cond.code ({ cls := "java/util/ArrayDeque", name := "newCapacity", desc := "(II)I" } : Jvm.MethodName) prog_48_method_2_code (5 : Nat) (Option.some Jvm.ClassFile.FieldType.int)) ∈ lw_all := lw_g (lw_at lw_m3 67 rfl) rfl
theorem q617 : (Jvm.Cond.classLink "java/util/ArrayDeque" (33 : Nat) "java/lang/IllegalStateException") ∈ lw_all := lw_g (lw_at lw_m3 68 rfl) rfl
theorem q626 : (Jvm.Cond.stringRef "java/util/ArrayDeque" (35 : Nat) "Sorry, deque too big") ∈ lw_tbl := lw_at lw_m3 77 rfl
theorem q627 : (Jvm.Cond.methodLink "java/util/ArrayDeque" (37 : Nat) ({ cls := "java/lang/IllegalStateException", name := "<init>", desc := "(Ljava/lang/String;)V" } : Jvm.MethodName)) ∈ lw_all := lw_g (lw_at lw_m3 78 rfl) rfl
theorem q641 : (Jvm.Cond.constant "java/util/ArrayDeque" (41 : Nat) (2147483647 : Int32)) ∈ lw_all := lw_g (lw_at lw_m3 92 rfl) rfl
theorem q642 : (Jvm.Cond.methodLink "java/util/ArrayDeque" (14 : Nat) ({ cls := "java/util/Arrays", name := "copyOf", desc := "([Ljava/lang/Object;I)[Ljava/lang/Object;" } : Jvm.MethodName)) ∈ lw_all := lw_g (lw_at lw_m3 93 rfl) rfl
theorem q671 : (Jvm.Cond.selects "java/util/ArrayDeque" ({ cls := "java/lang/Object", name := "getClass", desc := "()Ljava/lang/Class;" } : Jvm.MethodName) ({ cls := "java/lang/Object", name := "getClass", desc := "()Ljava/lang/Class;" } : Jvm.MethodName)) ∈ lw_all := lw_g (lw_at lw_m3 122 rfl) rfl
theorem q684 : (Jvm.Cond.methodLink "java/util/ArrayDeque" (27 : Nat) ({ cls := "java/lang/System", name := "arraycopy", desc := "(Ljava/lang/Object;ILjava/lang/Object;II)V" } : Jvm.MethodName)) ∈ lw_all := lw_g (lw_at lw_m3 135 rfl) rfl
theorem q947 : (Jvm.Cond.castable "java/util/ArrayDeque" "java/lang/Iterable") ∈ lw_tbl := lw_at lw_m4 158 rfl
theorem q948 : (Jvm.Cond.selects "java/util/ArrayDeque" ({ cls := "java/lang/Iterable", name := "iterator", desc := "()Ljava/util/Iterator;" } : Jvm.MethodName) ({ cls := "java/util/ArrayDeque", name := "iterator", desc := "()Ljava/util/Iterator;" } : Jvm.MethodName)) ∈ lw_all := lw_g (lw_at lw_m4 159 rfl) rfl
theorem q949 : (Jvm.Cond.unhidden "java/util/ArrayDeque" "iterator" "()Ljava/util/Iterator;") ∈ lw_tbl := lw_at lw_m4 160 rfl
theorem q950 : (Jvm.Cond.instanceMethod ({ cls := "java/util/ArrayDeque", name := "iterator", desc := "()Ljava/util/Iterator;" } : Jvm.MethodName)) ∈ lw_all := lw_g (lw_at lw_m4 161 rfl) rfl
theorem q951 : (Jvm.Cond.publicMethod ({ cls := "java/util/ArrayDeque", name := "iterator", desc := "()Ljava/util/Iterator;" } : Jvm.MethodName)) ∈ lw_tbl := lw_at lw_m4 162 rfl
theorem q952 : (Jvm.Cond.code ({ cls := "java/util/ArrayDeque", name := "iterator", desc := "()Ljava/util/Iterator;" } : Jvm.MethodName) prog_48_method_39_code (1 : Nat) (Option.some (Jvm.ClassFile.FieldType.object "java/util/Iterator"))) ∈ lw_all := lw_g (lw_at lw_m4 163 rfl) rfl
theorem q953 : (Jvm.Cond.classLink "java/util/ArrayDeque" (131 : Nat) "java/util/ArrayDeque$DeqIterator") ∈ lw_all := lw_g (lw_at lw_m4 164 rfl) rfl
theorem q955 : (Jvm.Cond.methodLink "java/util/ArrayDeque" (133 : Nat) ({ cls := "java/util/ArrayDeque$DeqIterator", name := "<init>", desc := "(Ljava/util/ArrayDeque;)V" } : Jvm.MethodName)) ∈ lw_all := lw_g (lw_at lw_m4 166 rfl) rfl
theorem q1163 : (Jvm.Cond.static ({ cls := "java/util/ArrayDeque", name := "nonNullElementAt", desc := "([Ljava/lang/Object;I)Ljava/lang/Object;" } : Jvm.MethodName)) ∈ lw_all := lw_g (lw_at lw_m5 134 rfl) rfl
theorem q1164 : (Jvm.Cond.code ({ cls := "java/util/ArrayDeque", name := "nonNullElementAt", desc := "([Ljava/lang/Object;I)Ljava/lang/Object;" } : Jvm.MethodName) prog_48_method_11_code (3 : Nat) (Option.some (Jvm.ClassFile.FieldType.object "java/lang/Object"))) ∈ lw_all := lw_g (lw_at lw_m5 135 rfl) rfl
theorem q1166 : (Jvm.Cond.static ({ cls := "java/util/ArrayDeque", name := "inc", desc := "(II)I" } : Jvm.MethodName)) ∈ lw_all := lw_g (lw_at lw_m5 137 rfl) rfl
theorem q1167 : (Jvm.Cond.code ({ cls := "java/util/ArrayDeque", name := "inc", desc := "(II)I" } : Jvm.MethodName) prog_48_method_6_code (2 : Nat) (Option.some Jvm.ClassFile.FieldType.int)) ∈ lw_all := lw_g (lw_at lw_m5 138 rfl) rfl
theorem q1868 : (Jvm.Cond.instanceMethod ({ cls := "java/util/ArrayDeque", name := "isEmpty", desc := "()Z" } : Jvm.MethodName)) ∈ lw_all := lw_g (lw_at lw_m8 119 rfl) rfl
theorem q1869 : (Jvm.Cond.selects "java/util/ArrayDeque" ({ cls := "java/util/ArrayDeque", name := "isEmpty", desc := "()Z" } : Jvm.MethodName) ({ cls := "java/util/ArrayDeque", name := "isEmpty", desc := "()Z" } : Jvm.MethodName)) ∈ lw_all := lw_g (lw_at lw_m8 120 rfl) rfl
theorem q1870 : (Jvm.Cond.code ({ cls := "java/util/ArrayDeque", name := "isEmpty", desc := "()Z" } : Jvm.MethodName) prog_48_method_38_code (1 : Nat) (Option.some Jvm.ClassFile.FieldType.boolean)) ∈ lw_all := lw_g (lw_at lw_m8 121 rfl) rfl
theorem q1872 : (Jvm.Cond.instanceMethod ({ cls := "java/util/ArrayDeque", name := "pop", desc := "()Ljava/lang/Object;" } : Jvm.MethodName)) ∈ lw_all := lw_g (lw_at lw_m8 123 rfl) rfl
theorem q1873 : (Jvm.Cond.selects "java/util/ArrayDeque" ({ cls := "java/util/ArrayDeque", name := "pop", desc := "()Ljava/lang/Object;" } : Jvm.MethodName) ({ cls := "java/util/ArrayDeque", name := "pop", desc := "()Ljava/lang/Object;" } : Jvm.MethodName)) ∈ lw_all := lw_g (lw_at lw_m8 124 rfl) rfl
theorem q1874 : (Jvm.Cond.code ({ cls := "java/util/ArrayDeque", name := "pop", desc := "()Ljava/lang/Object;" } : Jvm.MethodName) prog_48_method_35_code (1 : Nat) (Option.some (Jvm.ClassFile.FieldType.object "java/lang/Object"))) ∈ lw_all := lw_g (lw_at lw_m8 125 rfl) rfl
theorem q1875 : (Jvm.Cond.methodLink "java/util/ArrayDeque" (118 : Nat) ({ cls := "java/util/ArrayDeque", name := "removeFirst", desc := "()Ljava/lang/Object;" } : Jvm.MethodName)) ∈ lw_all := lw_g (lw_at lw_m8 126 rfl) rfl
theorem q1876 : (Jvm.Cond.instanceMethod ({ cls := "java/util/ArrayDeque", name := "removeFirst", desc := "()Ljava/lang/Object;" } : Jvm.MethodName)) ∈ lw_all := lw_g (lw_at lw_m8 127 rfl) rfl
theorem q1877 : (Jvm.Cond.selects "java/util/ArrayDeque" ({ cls := "java/util/ArrayDeque", name := "removeFirst", desc := "()Ljava/lang/Object;" } : Jvm.MethodName) ({ cls := "java/util/ArrayDeque", name := "removeFirst", desc := "()Ljava/lang/Object;" } : Jvm.MethodName)) ∈ lw_all := lw_g (lw_at lw_m8 128 rfl) rfl
theorem q1878 : (Jvm.Cond.code ({ cls := "java/util/ArrayDeque", name := "removeFirst", desc := "()Ljava/lang/Object;" } : Jvm.MethodName) prog_48_method_18_code (2 : Nat) (Option.some (Jvm.ClassFile.FieldType.object "java/lang/Object"))) ∈ lw_all := lw_g (lw_at lw_m8 129 rfl) rfl
theorem q1879 : (Jvm.Cond.methodLink "java/util/ArrayDeque" (93 : Nat) ({ cls := "java/util/ArrayDeque", name := "pollFirst", desc := "()Ljava/lang/Object;" } : Jvm.MethodName)) ∈ lw_all := lw_g (lw_at lw_m8 130 rfl) rfl
theorem q1880 : (Jvm.Cond.instanceMethod ({ cls := "java/util/ArrayDeque", name := "pollFirst", desc := "()Ljava/lang/Object;" } : Jvm.MethodName)) ∈ lw_all := lw_g (lw_at lw_m8 131 rfl) rfl
theorem q1881 : (Jvm.Cond.selects "java/util/ArrayDeque" ({ cls := "java/util/ArrayDeque", name := "pollFirst", desc := "()Ljava/lang/Object;" } : Jvm.MethodName) ({ cls := "java/util/ArrayDeque", name := "pollFirst", desc := "()Ljava/lang/Object;" } : Jvm.MethodName)) ∈ lw_all := lw_g (lw_at lw_m8 132 rfl) rfl
theorem q1882 : (Jvm.Cond.code ({ cls := "java/util/ArrayDeque", name := "pollFirst", desc := "()Ljava/lang/Object;" } : Jvm.MethodName) prog_48_method_20_code (4 : Nat) (Option.some (Jvm.ClassFile.FieldType.object "java/lang/Object"))) ∈ lw_all := lw_g (lw_at lw_m8 133 rfl) rfl
theorem q1883 : (Jvm.Cond.methodLink "java/util/ArrayDeque" (74 : Nat) ({ cls := "java/util/ArrayDeque", name := "inc", desc := "(II)I" } : Jvm.MethodName)) ∈ lw_all := lw_g (lw_at lw_m8 134 rfl) rfl
theorem q1892 : (Jvm.Cond.instanceMethod ({ cls := "java/util/ArrayDeque", name := "clear", desc := "()V" } : Jvm.MethodName)) ∈ lw_all := lw_g (lw_at lw_m8 143 rfl) rfl
theorem q1893 : (Jvm.Cond.selects "java/util/ArrayDeque" ({ cls := "java/util/ArrayDeque", name := "clear", desc := "()V" } : Jvm.MethodName) ({ cls := "java/util/ArrayDeque", name := "clear", desc := "()V" } : Jvm.MethodName)) ∈ lw_all := lw_g (lw_at lw_m8 144 rfl) rfl
theorem q1894 : (Jvm.Cond.code ({ cls := "java/util/ArrayDeque", name := "clear", desc := "()V" } : Jvm.MethodName) prog_48_method_53_code (1 : Nat) (Option.none : Option Jvm.ClassFile.FieldType)) ∈ lw_all := lw_g (lw_at lw_m8 145 rfl) rfl
theorem q1895 : (Jvm.Cond.methodLink "java/util/ArrayDeque" (181 : Nat) ({ cls := "java/util/ArrayDeque", name := "circularClear", desc := "([Ljava/lang/Object;II)V" } : Jvm.MethodName)) ∈ lw_all := lw_g (lw_at lw_m8 146 rfl) rfl
theorem q1896 : (Jvm.Cond.static ({ cls := "java/util/ArrayDeque", name := "circularClear", desc := "([Ljava/lang/Object;II)V" } : Jvm.MethodName)) ∈ lw_all := lw_g (lw_at lw_m8 147 rfl) rfl
theorem q1897 : (Jvm.Cond.code ({ cls := "java/util/ArrayDeque", name := "circularClear", desc := "([Ljava/lang/Object;II)V" } : Jvm.MethodName) prog_48_method_54_code (4 : Nat) (Option.none : Option Jvm.ClassFile.FieldType)) ∈ lw_all := lw_g (lw_at lw_m8 148 rfl) rfl
theorem q2333 : (Jvm.Cond.castable "java/util/ArrayDeque" "java/lang/Object") ∈ lw_tbl := lw_at lw_m10 104 rfl
theorem in_J1 : ∀ w ∈ wsJ10, w ∈ lw_all := lw_in wsJ10 [284, 286, 288] (by decide +kernel) (by decide +kernel)

/-! java/util/NoSuchElementException -/
def RJ10 : String := "java/util/NoSuchElementException"
def TJ10 : u_T := fun k => match k with
  | 0 => ("java/lang/Throwable", "cause", "Ljava/lang/Throwable;", false)
  | 1 => ("java/lang/Throwable", "stackTrace", "[Ljava/lang/StackTraceElement;", false)
  | 2 => ("java/lang/Throwable", "suppressedExceptions", "Ljava/util/List;", false)
  | 3 => ("java/lang/Throwable", "detailMessage", "Ljava/lang/String;", false)
  | 4 => ("java/lang/Throwable", "backtrace", "Ljava/lang/Object;", false)
  | _ => ("java/lang/Throwable", "depth", "I", false)
def tyJ10 : Nat → FieldType := fun k => match k with
  | 0 => .object "java/lang/Throwable"
  | 1 => .array (.object "java/lang/StackTraceElement")
  | 2 => .object "java/util/List"
  | 3 => .object "java/lang/String"
  | 4 => .object "java/lang/Object"
  | _ => .int
abbrev wsJ100 : List Cond := u_ws RJ10 TJ10 6
theorem nmJ10 : ∀ a, a < 6 → ∀ b, b < 6 → a ≠ b → (TJ10 a).2.1 ≠ (TJ10 b).2.1 := by decide +kernel
theorem tyJ10_ok : ∀ k, k < 6 → parseFieldDescriptor (TJ10 k).2.2.1 = some (tyJ10 k) := by decide +kernel
abbrev cJ10_init : ByteArray := prog_57_method_1_code
def yJ10_init : MethodName := ⟨RJ10, "<init>", "()V"⟩
theorem q89 : (Jvm.Cond.initialized "java/util/NoSuchElementException") ∈ lw_all := lw_g (lw_at lw_m1 20 rfl) rfl
theorem q530 : (Jvm.Cond.instantiable "java/util/NoSuchElementException" (6 : Nat)) ∈ lw_all := lw_g (lw_at lw_m2 221 rfl) rfl
theorem q531 : (Jvm.Cond.castable "java/util/NoSuchElementException" "java/util/NoSuchElementException") ∈ lw_tbl := lw_at lw_m2 222 rfl
theorem q538 : (Jvm.Cond.selects "java/util/NoSuchElementException" ({ cls := "java/lang/Throwable", name := "fillInStackTrace", desc := "(I)Ljava/lang/Throwable;" } : Jvm.MethodName) ({ cls := "java/lang/Throwable", name := "fillInStackTrace", desc := "(I)Ljava/lang/Throwable;" } : Jvm.MethodName)) ∈ lw_all := lw_g (lw_at lw_m2 229 rfl) rfl
theorem q539 : (Jvm.Cond.selects "java/util/NoSuchElementException" ({ cls := "java/lang/Throwable", name := "fillInStackTrace", desc := "()Ljava/lang/Throwable;" } : Jvm.MethodName) ({ cls := "java/lang/Throwable", name := "fillInStackTrace", desc := "()Ljava/lang/Throwable;" } : Jvm.MethodName)) ∈ lw_all := lw_g (lw_at lw_m2 230 rfl) rfl
theorem q540 : (Jvm.Cond.lays "java/util/NoSuchElementException" "java/lang/Throwable" "cause" "Ljava/lang/Throwable;") ∈ lw_all := lw_g (lw_at lw_m2 231 rfl) rfl
theorem q542 : (Jvm.Cond.lays "java/util/NoSuchElementException" "java/lang/Throwable" "stackTrace" "[Ljava/lang/StackTraceElement;") ∈ lw_all := lw_g (lw_at lw_m2 233 rfl) rfl
theorem q544 : (Jvm.Cond.lays "java/util/NoSuchElementException" "java/lang/Throwable" "suppressedExceptions" "Ljava/util/List;") ∈ lw_all := lw_g (lw_at lw_m2 235 rfl) rfl
theorem q546 : (Jvm.Cond.lays "java/util/NoSuchElementException" "java/lang/Throwable" "detailMessage" "Ljava/lang/String;") ∈ lw_all := lw_g (lw_at lw_m2 237 rfl) rfl
theorem q548 : (Jvm.Cond.lays "java/util/NoSuchElementException" "java/lang/Throwable" "backtrace" "Ljava/lang/Object;") ∈ lw_all := lw_g (lw_at lw_m2 239 rfl) rfl
theorem q578 : (Jvm.Cond.instanceMethod ({ cls := "java/util/NoSuchElementException", name := "<init>", desc := "()V" } : Jvm.MethodName)) ∈ lw_all := lw_g (lw_at lw_m3 29 rfl) rfl
theorem q579 : (Jvm.Cond.code ({ cls := "java/util/NoSuchElementException", name := "<init>", desc := "()V" } : Jvm.MethodName) prog_57_method_1_code (1 : Nat) (Option.none : Option Jvm.ClassFile.FieldType)) ∈ lw_all := lw_g (lw_at lw_m3 30 rfl) rfl
theorem q580 : (Jvm.Cond.methodLink "java/util/NoSuchElementException" (1 : Nat) ({ cls := "java/lang/RuntimeException", name := "<init>", desc := "()V" } : Jvm.MethodName)) ∈ lw_all := lw_g (lw_at lw_m3 31 rfl) rfl
theorem q596 : (Jvm.Cond.lays "java/util/NoSuchElementException" "java/lang/Throwable" "depth" "I") ∈ lw_all := lw_g (lw_at lw_m3 47 rfl) rfl
theorem q599 : (Jvm.Cond.superclass "java/util/NoSuchElementException" "java/lang/RuntimeException") ∈ lw_all := lw_g (lw_at lw_m3 50 rfl) rfl
theorem q675 : (Jvm.Cond.selects "java/util/NoSuchElementException" ({ cls := "java/lang/Object", name := "getClass", desc := "()Ljava/lang/Class;" } : Jvm.MethodName) ({ cls := "java/lang/Object", name := "getClass", desc := "()Ljava/lang/Class;" } : Jvm.MethodName)) ∈ lw_all := lw_g (lw_at lw_m3 126 rfl) rfl
theorem q2340 : (Jvm.Cond.castable "java/util/NoSuchElementException" "java/lang/Object") ∈ lw_tbl := lw_at lw_m10 111 rfl
theorem in_J10 : ∀ w ∈ wsJ100, w ∈ lw_all := lw_in wsJ100 [540, 542, 544, 546, 548, 596] (by decide +kernel) (by decide +kernel)

/-! java/lang/IllegalStateException -/
def RJ11 : String := "java/lang/IllegalStateException"
def TJ11 : u_T := fun k => match k with
  | 0 => ("java/lang/Throwable", "cause", "Ljava/lang/Throwable;", false)
  | 1 => ("java/lang/Throwable", "stackTrace", "[Ljava/lang/StackTraceElement;", false)
  | 2 => ("java/lang/Throwable", "suppressedExceptions", "Ljava/util/List;", false)
  | 3 => ("java/lang/Throwable", "detailMessage", "Ljava/lang/String;", false)
  | 4 => ("java/lang/Throwable", "backtrace", "Ljava/lang/Object;", false)
  | _ => ("java/lang/Throwable", "depth", "I", false)
def tyJ11 : Nat → FieldType := fun k => match k with
  | 0 => .object "java/lang/Throwable"
  | 1 => .array (.object "java/lang/StackTraceElement")
  | 2 => .object "java/util/List"
  | 3 => .object "java/lang/String"
  | 4 => .object "java/lang/Object"
  | _ => .int
abbrev wsJ110 : List Cond := u_ws RJ11 TJ11 6
theorem nmJ11 : ∀ a, a < 6 → ∀ b, b < 6 → a ≠ b → (TJ11 a).2.1 ≠ (TJ11 b).2.1 := by decide +kernel
theorem tyJ11_ok : ∀ k, k < 6 → parseFieldDescriptor (TJ11 k).2.2.1 = some (tyJ11 k) := by decide +kernel
abbrev cJ11_init : ByteArray := prog_28_method_2_code
def yJ11_init : MethodName := ⟨RJ11, "<init>", "(Ljava/lang/String;)V"⟩
abbrev cJ11_init_2 : ByteArray := prog_28_method_1_code
def yJ11_init_2 : MethodName := ⟨RJ11, "<init>", "()V"⟩
theorem q90 : (Jvm.Cond.initialized "java/lang/IllegalStateException") ∈ lw_all := lw_g (lw_at lw_m1 21 rfl) rfl
theorem q567 : (Jvm.Cond.selects "java/lang/IllegalStateException" ({ cls := "java/lang/Throwable", name := "fillInStackTrace", desc := "()Ljava/lang/Throwable;" } : Jvm.MethodName) ({ cls := "java/lang/Throwable", name := "fillInStackTrace", desc := "()Ljava/lang/Throwable;" } : Jvm.MethodName)) ∈ lw_all := lw_g (lw_at lw_m3 18 rfl) rfl
theorem q618 : (Jvm.Cond.instantiable "java/lang/IllegalStateException" (6 : Nat)) ∈ lw_all := lw_g (lw_at lw_m3 69 rfl) rfl
theorem q619 : (Jvm.Cond.castable "java/lang/IllegalStateException" "java/lang/IllegalStateException") ∈ lw_tbl := lw_at lw_m3 70 rfl
theorem q620 : (Jvm.Cond.selects "java/lang/IllegalStateException" ({ cls := "java/lang/Throwable", name := "fillInStackTrace", desc := "(I)Ljava/lang/Throwable;" } : Jvm.MethodName) ({ cls := "java/lang/Throwable", name := "fillInStackTrace", desc := "(I)Ljava/lang/Throwable;" } : Jvm.MethodName)) ∈ lw_all := lw_g (lw_at lw_m3 71 rfl) rfl
theorem q621 : (Jvm.Cond.lays "java/lang/IllegalStateException" "java/lang/Throwable" "cause" "Ljava/lang/Throwable;") ∈ lw_all := lw_g (lw_at lw_m3 72 rfl) rfl
theorem q622 : (Jvm.Cond.lays "java/lang/IllegalStateException" "java/lang/Throwable" "stackTrace" "[Ljava/lang/StackTraceElement;") ∈ lw_all := lw_g (lw_at lw_m3 73 rfl) rfl
theorem q623 : (Jvm.Cond.lays "java/lang/IllegalStateException" "java/lang/Throwable" "suppressedExceptions" "Ljava/util/List;") ∈ lw_all := lw_g (lw_at lw_m3 74 rfl) rfl
theorem q624 : (Jvm.Cond.lays "java/lang/IllegalStateException" "java/lang/Throwable" "detailMessage" "Ljava/lang/String;") ∈ lw_all := lw_g (lw_at lw_m3 75 rfl) rfl
theorem q625 : (Jvm.Cond.lays "java/lang/IllegalStateException" "java/lang/Throwable" "backtrace" "Ljava/lang/Object;") ∈ lw_all := lw_g (lw_at lw_m3 76 rfl) rfl
theorem q628 : (Jvm.Cond.instanceMethod ({ cls := "java/lang/IllegalStateException", name := "<init>", desc := "(Ljava/lang/String;)V" } : Jvm.MethodName)) ∈ lw_all := lw_g (lw_at lw_m3 79 rfl) rfl
theorem q629 : (Jvm.Cond.code ({ cls := "java/lang/IllegalStateException", name := "<init>", desc := "(Ljava/lang/String;)V" } : Jvm.MethodName) prog_28_method_2_code (2 : Nat) (Option.none : Option Jvm.ClassFile.FieldType)) ∈ lw_all := lw_g (lw_at lw_m3 80 rfl) rfl
theorem q630 : (Jvm.Cond.methodLink "java/lang/IllegalStateException" (7 : Nat) ({ cls := "java/lang/RuntimeException", name := "<init>", desc := "(Ljava/lang/String;)V" } : Jvm.MethodName)) ∈ lw_all := lw_g (lw_at lw_m3 81 rfl) rfl
theorem q639 : (Jvm.Cond.lays "java/lang/IllegalStateException" "java/lang/Throwable" "depth" "I") ∈ lw_all := lw_g (lw_at lw_m3 90 rfl) rfl
theorem q640 : (Jvm.Cond.superclass "java/lang/IllegalStateException" "java/lang/RuntimeException") ∈ lw_all := lw_g (lw_at lw_m3 91 rfl) rfl
theorem q664 : (Jvm.Cond.selects "java/lang/IllegalStateException" ({ cls := "java/lang/Object", name := "getClass", desc := "()Ljava/lang/Class;" } : Jvm.MethodName) ({ cls := "java/lang/Object", name := "getClass", desc := "()Ljava/lang/Class;" } : Jvm.MethodName)) ∈ lw_all := lw_g (lw_at lw_m3 115 rfl) rfl
theorem q1400 : (Jvm.Cond.instanceMethod ({ cls := "java/lang/IllegalStateException", name := "<init>", desc := "()V" } : Jvm.MethodName)) ∈ lw_all := lw_g (lw_at lw_m6 131 rfl) rfl
theorem q1401 : (Jvm.Cond.code ({ cls := "java/lang/IllegalStateException", name := "<init>", desc := "()V" } : Jvm.MethodName) prog_28_method_1_code (1 : Nat) (Option.none : Option Jvm.ClassFile.FieldType)) ∈ lw_all := lw_g (lw_at lw_m6 132 rfl) rfl
theorem q1402 : (Jvm.Cond.methodLink "java/lang/IllegalStateException" (1 : Nat) ({ cls := "java/lang/RuntimeException", name := "<init>", desc := "()V" } : Jvm.MethodName)) ∈ lw_all := lw_g (lw_at lw_m6 133 rfl) rfl
theorem q2341 : (Jvm.Cond.castable "java/lang/IllegalStateException" "java/lang/Object") ∈ lw_tbl := lw_at lw_m10 112 rfl
theorem in_J11 : ∀ w ∈ wsJ110, w ∈ lw_all := lw_in wsJ110 [621, 622, 623, 624, 625, 639] (by decide +kernel) (by decide +kernel)

/-! java/util/Arrays -/
def RJ12 : String := "java/util/Arrays"
abbrev cJ12_copyOf : ByteArray := prog_52_method_119_code
def yJ12_copyOf : MethodName := ⟨RJ12, "copyOf", "([Ljava/lang/Object;I)[Ljava/lang/Object;"⟩
abbrev cJ12_copyOf_2 : ByteArray := prog_52_method_120_code
def yJ12_copyOf_2 : MethodName := ⟨RJ12, "copyOf", "([Ljava/lang/Object;ILjava/lang/Class;)[Ljava/lang/Object;"⟩
abbrev cJ12_copyOf_3 : ByteArray := prog_52_method_121_code
def yJ12_copyOf_3 : MethodName := ⟨RJ12, "copyOf", "([BI)[B"⟩
abbrev cJ12_copyOfRange : ByteArray := prog_52_method_132_code
def yJ12_copyOfRange : MethodName := ⟨RJ12, "copyOfRange", "([BII)[B"⟩
abbrev cJ12_copyOfRangeByte : ByteArray := prog_52_method_133_code
def yJ12_copyOfRangeByte : MethodName := ⟨RJ12, "copyOfRangeByte", "([BII)[B"⟩
abbrev cJ12_checkLength : ByteArray := prog_52_method_131_code
def yJ12_checkLength : MethodName := ⟨RJ12, "checkLength", "(II)V"⟩
abbrev cJ12_fill : ByteArray := prog_52_method_110_code
def yJ12_fill : MethodName := ⟨RJ12, "fill", "([BIIB)V"⟩
abbrev cJ12_rangeCheck : ByteArray := prog_52_method_30_code
def yJ12_rangeCheck : MethodName := ⟨RJ12, "rangeCheck", "(III)V"⟩
theorem q91 : (Jvm.Cond.initialized "java/util/Arrays") ∈ lw_all := lw_g (lw_at lw_m1 22 rfl) rfl
theorem q643 : (Jvm.Cond.static ({ cls := "java/util/Arrays", name := "copyOf", desc := "([Ljava/lang/Object;I)[Ljava/lang/Object;" } : Jvm.MethodName)) ∈ lw_all := lw_g (lw_at lw_m3 94 rfl) rfl
theorem q644 : (Jvm.Cond.code ({ cls := "java/util/Arrays", name := "copyOf", desc := "([Ljava/lang/Object;I)[Ljava/lang/Object;" } : Jvm.MethodName) prog_52_method_119_code (2 : Nat) (Option.some (Jvm.ClassFile.FieldType.array (Jvm.ClassFile.FieldType.object "java/lang/Object")))) ∈ lw_all := lw_g (lw_at lw_m3 95 rfl) rfl
theorem q645 : (Jvm.Cond.methodLink "java/util/Arrays" (86 : Nat) ({ cls := "java/lang/Object", name := "getClass", desc := "()Ljava/lang/Class;" } : Jvm.MethodName)) ∈ lw_all := lw_g (lw_at lw_m3 96 rfl) rfl
theorem q677 : (Jvm.Cond.methodLink "java/util/Arrays" (300 : Nat) ({ cls := "java/util/Arrays", name := "copyOf", desc := "([Ljava/lang/Object;ILjava/lang/Class;)[Ljava/lang/Object;" } : Jvm.MethodName)) ∈ lw_all := lw_g (lw_at lw_m3 128 rfl) rfl
theorem q678 : (Jvm.Cond.static ({ cls := "java/util/Arrays", name := "copyOf", desc := "([Ljava/lang/Object;ILjava/lang/Class;)[Ljava/lang/Object;" } : Jvm.MethodName)) ∈ lw_all := lw_g (lw_at lw_m3 129 rfl) rfl
theorem q679 : (Jvm.Cond.code ({ cls := "java/util/Arrays", name := "copyOf", desc := "([Ljava/lang/Object;ILjava/lang/Class;)[Ljava/lang/Object;" } : Jvm.MethodName) prog_52_method_120_code (4 : Nat) (Option.some (Jvm.ClassFile.FieldType.array (Jvm.ClassFile.FieldType.object "java/lang/Object")))) ∈ lw_all := lw_g (lw_at lw_m3 130 rfl) rfl
theorem q680 : (Jvm.Cond.classLink "java/util/Arrays" (110 : Nat) "[Ljava/lang/Object;") ∈ lw_all := lw_g (lw_at lw_m3 131 rfl) rfl
theorem q681 : (Jvm.Cond.classLink "java/util/Arrays" (2 : Nat) "java/lang/Object") ∈ lw_all := lw_g (lw_at lw_m3 132 rfl) rfl
theorem q682 : (Jvm.Cond.methodLink "java/util/Arrays" (304 : Nat) ({ cls := "java/lang/Math", name := "min", desc := "(II)I" } : Jvm.MethodName)) ∈ lw_all := lw_g (lw_at lw_m3 133 rfl) rfl
theorem q683 : (Jvm.Cond.methodLink "java/util/Arrays" (150 : Nat) ({ cls := "java/lang/System", name := "arraycopy", desc := "(Ljava/lang/Object;ILjava/lang/Object;II)V" } : Jvm.MethodName)) ∈ lw_all := lw_g (lw_at lw_m3 134 rfl) rfl
theorem q1428 : (Jvm.Cond.static ({ cls := "java/util/Arrays", name := "copyOf", desc := "([BI)[B" } : Jvm.MethodName)) ∈ lw_all := lw_g (lw_at lw_m6 159 rfl) rfl
theorem q1429 : (Jvm.Cond.code ({ cls := "java/util/Arrays", name := "copyOf", desc := "([BI)[B" } : Jvm.MethodName) prog_52_method_121_code (3 : Nat) (Option.some (Jvm.ClassFile.FieldType.array Jvm.ClassFile.FieldType.byte))) ∈ lw_all := lw_g (lw_at lw_m6 160 rfl) rfl
theorem q1430 : (Jvm.Cond.methodLink "java/util/Arrays" (310 : Nat) ({ cls := "[B", name := "clone", desc := "()Ljava/lang/Object;" } : Jvm.MethodName)) ∈ lw_all := lw_g (lw_at lw_m6 161 rfl) rfl
theorem q1436 : (Jvm.Cond.classLink "java/util/Arrays" (311 : Nat) "[B") ∈ lw_all := lw_g (lw_at lw_m6 167 rfl) rfl
theorem q1766 : (Jvm.Cond.static ({ cls := "java/util/Arrays", name := "copyOfRange", desc := "([BII)[B" } : Jvm.MethodName)) ∈ lw_all := lw_g (lw_at lw_m8 17 rfl) rfl
theorem q1767 : (Jvm.Cond.code ({ cls := "java/util/Arrays", name := "copyOfRange", desc := "([BII)[B" } : Jvm.MethodName) prog_52_method_132_code (3 : Nat) (Option.some (Jvm.ClassFile.FieldType.array Jvm.ClassFile.FieldType.byte))) ∈ lw_all := lw_g (lw_at lw_m8 18 rfl) rfl
theorem q1768 : (Jvm.Cond.methodLink "java/util/Arrays" (339 : Nat) ({ cls := "java/util/Arrays", name := "copyOfRangeByte", desc := "([BII)[B" } : Jvm.MethodName)) ∈ lw_all := lw_g (lw_at lw_m8 19 rfl) rfl
theorem q1769 : (Jvm.Cond.static ({ cls := "java/util/Arrays", name := "copyOfRangeByte", desc := "([BII)[B" } : Jvm.MethodName)) ∈ lw_all := lw_g (lw_at lw_m8 20 rfl) rfl
theorem q1770 : (Jvm.Cond.code ({ cls := "java/util/Arrays", name := "copyOfRangeByte", desc := "([BII)[B" } : Jvm.MethodName) prog_52_method_133_code (5 : Nat) (Option.some (Jvm.ClassFile.FieldType.array Jvm.ClassFile.FieldType.byte))) ∈ lw_all := lw_g (lw_at lw_m8 21 rfl) rfl
theorem q1771 : (Jvm.Cond.methodLink "java/util/Arrays" (343 : Nat) ({ cls := "java/util/Arrays", name := "checkLength", desc := "(II)V" } : Jvm.MethodName)) ∈ lw_all := lw_g (lw_at lw_m8 22 rfl) rfl
theorem q1772 : (Jvm.Cond.static ({ cls := "java/util/Arrays", name := "checkLength", desc := "(II)V" } : Jvm.MethodName)) ∈ lw_all := lw_g (lw_at lw_m8 23 rfl) rfl
theorem q1773 : (Jvm.Cond.code ({ cls := "java/util/Arrays", name := "checkLength", desc := "(II)V" } : Jvm.MethodName) prog_52_method_131_code (2 : Nat) (Option.none : Option Jvm.ClassFile.FieldType)) ∈ lw_all := lw_g (lw_at lw_m8 24 rfl) rfl
theorem q1774 : (Jvm.Cond.classLink "java/util/Arrays" (43 : Nat) "java/lang/IllegalArgumentException") ∈ lw_all := lw_g (lw_at lw_m8 25 rfl) rfl
theorem q1775 : (Jvm.Cond.classLink "java/util/Arrays" (45 : Nat) "java/lang/StringBuilder") ∈ lw_all := lw_g (lw_at lw_m8 26 rfl) rfl
theorem q1776 : (Jvm.Cond.methodLink "java/util/Arrays" (47 : Nat) ({ cls := "java/lang/StringBuilder", name := "<init>", desc := "()V" } : Jvm.MethodName)) ∈ lw_all := lw_g (lw_at lw_m8 27 rfl) rfl
theorem q1777 : (Jvm.Cond.methodLink "java/util/Arrays" (54 : Nat) ({ cls := "java/lang/StringBuilder", name := "append", desc := "(I)Ljava/lang/StringBuilder;" } : Jvm.MethodName)) ∈ lw_all := lw_g (lw_at lw_m8 28 rfl) rfl
theorem q1778 : (Jvm.Cond.stringRef "java/util/Arrays" (337 : Nat) " > ") ∈ lw_tbl := lw_at lw_m8 29 rfl
theorem q1779 : (Jvm.Cond.methodLink "java/util/Arrays" (50 : Nat) ({ cls := "java/lang/StringBuilder", name := "append", desc := "(Ljava/lang/String;)Ljava/lang/StringBuilder;" } : Jvm.MethodName)) ∈ lw_all := lw_g (lw_at lw_m8 30 rfl) rfl
theorem q1780 : (Jvm.Cond.methodLink "java/util/Arrays" (61 : Nat) ({ cls := "java/lang/StringBuilder", name := "toString", desc := "()Ljava/lang/String;" } : Jvm.MethodName)) ∈ lw_all := lw_g (lw_at lw_m8 31 rfl) rfl
theorem q1781 : (Jvm.Cond.methodLink "java/util/Arrays" (65 : Nat) ({ cls := "java/lang/IllegalArgumentException", name := "<init>", desc := "(Ljava/lang/String;)V" } : Jvm.MethodName)) ∈ lw_all := lw_g (lw_at lw_m8 32 rfl) rfl
theorem q1815 : (Jvm.Cond.static ({ cls := "java/util/Arrays", name := "fill", desc := "([BIIB)V" } : Jvm.MethodName)) ∈ lw_all := lw_g (lw_at lw_m8 66 rfl) rfl
theorem q1816 : (Jvm.Cond.code ({ cls := "java/util/Arrays", name := "fill", desc := "([BIIB)V" } : Jvm.MethodName) prog_52_method_110_code (5 : Nat) (Option.none : Option Jvm.ClassFile.FieldType)) ∈ lw_all := lw_g (lw_at lw_m8 67 rfl) rfl
theorem q1817 : (Jvm.Cond.methodLink "java/util/Arrays" (13 : Nat) ({ cls := "java/util/Arrays", name := "rangeCheck", desc := "(III)V" } : Jvm.MethodName)) ∈ lw_all := lw_g (lw_at lw_m8 68 rfl) rfl
theorem q1818 : (Jvm.Cond.static ({ cls := "java/util/Arrays", name := "rangeCheck", desc := "(III)V" } : Jvm.MethodName)) ∈ lw_all := lw_g (lw_at lw_m8 69 rfl) rfl
theorem q1819 : (Jvm.Cond.code ({ cls := "java/util/Arrays", name := "rangeCheck", desc := "(III)V" } : Jvm.MethodName) prog_52_method_30_code (3 : Nat) (Option.none : Option Jvm.ClassFile.FieldType)) ∈ lw_all := lw_g (lw_at lw_m8 70 rfl) rfl
theorem q1820 : (Jvm.Cond.stringRef "java/util/Arrays" (48 : Nat) "fromIndex(") ∈ lw_tbl := lw_at lw_m8 71 rfl
theorem q1821 : (Jvm.Cond.stringRef "java/util/Arrays" (57 : Nat) ") > toIndex(") ∈ lw_tbl := lw_at lw_m8 72 rfl
theorem q1822 : (Jvm.Cond.stringRef "java/util/Arrays" (59 : Nat) ")") ∈ lw_tbl := lw_at lw_m8 73 rfl
theorem q1823 : (Jvm.Cond.classLink "java/util/Arrays" (68 : Nat) "java/lang/ArrayIndexOutOfBoundsException") ∈ lw_all := lw_g (lw_at lw_m8 74 rfl) rfl
theorem q1824 : (Jvm.Cond.methodLink "java/util/Arrays" (70 : Nat) ({ cls := "java/lang/ArrayIndexOutOfBoundsException", name := "<init>", desc := "(I)V" } : Jvm.MethodName)) ∈ lw_all := lw_g (lw_at lw_m8 75 rfl) rfl

/-! java/lang/Math -/
def RJ13 : String := "java/lang/Math"
abbrev cJ13_min : ByteArray := prog_33_method_69_code
def yJ13_min : MethodName := ⟨RJ13, "min", "(II)I"⟩
abbrev cJ13_max : ByteArray := prog_33_method_65_code
def yJ13_max : MethodName := ⟨RJ13, "max", "(II)I"⟩
theorem q92 : (Jvm.Cond.initialized "java/lang/Math") ∈ lw_all := lw_g (lw_at lw_m1 23 rfl) rfl
theorem q429 : (Jvm.Cond.static ({ cls := "java/lang/Math", name := "min", desc := "(II)I" } : Jvm.MethodName)) ∈ lw_all := lw_g (lw_at lw_m2 120 rfl) rfl
theorem q430 : (Jvm.Cond.code ({ cls := "java/lang/Math", name := "min", desc := "(II)I" } : Jvm.MethodName) prog_33_method_69_code (2 : Nat) (Option.some Jvm.ClassFile.FieldType.int)) ∈ lw_all := lw_g (lw_at lw_m2 121 rfl) rfl
theorem q432 : (Jvm.Cond.static ({ cls := "java/lang/Math", name := "max", desc := "(II)I" } : Jvm.MethodName)) ∈ lw_all := lw_g (lw_at lw_m2 123 rfl) rfl
theorem q433 : (Jvm.Cond.code ({ cls := "java/lang/Math", name := "max", desc := "(II)I" } : Jvm.MethodName) prog_33_method_65_code (2 : Nat) (Option.some Jvm.ClassFile.FieldType.int)) ∈ lw_all := lw_g (lw_at lw_m2 124 rfl) rfl

/-! java/lang/UnsupportedOperationException -/
def RJ14 : String := "java/lang/UnsupportedOperationException"
def TJ14 : u_T := fun k => match k with
  | 0 => ("java/lang/Throwable", "cause", "Ljava/lang/Throwable;", false)
  | 1 => ("java/lang/Throwable", "stackTrace", "[Ljava/lang/StackTraceElement;", false)
  | 2 => ("java/lang/Throwable", "suppressedExceptions", "Ljava/util/List;", false)
  | 3 => ("java/lang/Throwable", "detailMessage", "Ljava/lang/String;", false)
  | 4 => ("java/lang/Throwable", "backtrace", "Ljava/lang/Object;", false)
  | _ => ("java/lang/Throwable", "depth", "I", false)
def tyJ14 : Nat → FieldType := fun k => match k with
  | 0 => .object "java/lang/Throwable"
  | 1 => .array (.object "java/lang/StackTraceElement")
  | 2 => .object "java/util/List"
  | 3 => .object "java/lang/String"
  | 4 => .object "java/lang/Object"
  | _ => .int
abbrev wsJ140 : List Cond := u_ws RJ14 TJ14 6
theorem nmJ14 : ∀ a, a < 6 → ∀ b, b < 6 → a ≠ b → (TJ14 a).2.1 ≠ (TJ14 b).2.1 := by decide +kernel
theorem tyJ14_ok : ∀ k, k < 6 → parseFieldDescriptor (TJ14 k).2.2.1 = some (tyJ14 k) := by decide +kernel
abbrev cJ14_init : ByteArray := prog_43_method_1_code
def yJ14_init : MethodName := ⟨RJ14, "<init>", "()V"⟩
theorem q93 : (Jvm.Cond.initialized "java/lang/UnsupportedOperationException") ∈ lw_all := lw_g (lw_at lw_m1 24 rfl) rfl
theorem q570 : (Jvm.Cond.selects "java/lang/UnsupportedOperationException" ({ cls := "java/lang/Throwable", name := "fillInStackTrace", desc := "()Ljava/lang/Throwable;" } : Jvm.MethodName) ({ cls := "java/lang/Throwable", name := "fillInStackTrace", desc := "()Ljava/lang/Throwable;" } : Jvm.MethodName)) ∈ lw_all := lw_g (lw_at lw_m3 21 rfl) rfl
theorem q670 : (Jvm.Cond.selects "java/lang/UnsupportedOperationException" ({ cls := "java/lang/Object", name := "getClass", desc := "()Ljava/lang/Class;" } : Jvm.MethodName) ({ cls := "java/lang/Object", name := "getClass", desc := "()Ljava/lang/Class;" } : Jvm.MethodName)) ∈ lw_all := lw_g (lw_at lw_m3 121 rfl) rfl
theorem q690 : (Jvm.Cond.instantiable "java/lang/UnsupportedOperationException" (6 : Nat)) ∈ lw_all := lw_g (lw_at lw_m3 141 rfl) rfl
theorem q691 : (Jvm.Cond.castable "java/lang/UnsupportedOperationException" "java/lang/UnsupportedOperationException") ∈ lw_tbl := lw_at lw_m3 142 rfl
theorem q692 : (Jvm.Cond.selects "java/lang/UnsupportedOperationException" ({ cls := "java/lang/Throwable", name := "fillInStackTrace", desc := "(I)Ljava/lang/Throwable;" } : Jvm.MethodName) ({ cls := "java/lang/Throwable", name := "fillInStackTrace", desc := "(I)Ljava/lang/Throwable;" } : Jvm.MethodName)) ∈ lw_all := lw_g (lw_at lw_m3 143 rfl) rfl
theorem q693 : (Jvm.Cond.lays "java/lang/UnsupportedOperationException" "java/lang/Throwable" "cause" "Ljava/lang/Throwable;") ∈ lw_all := lw_g (lw_at lw_m3 144 rfl) rfl
theorem q694 : (Jvm.Cond.lays "java/lang/UnsupportedOperationException" "java/lang/Throwable" "stackTrace" "[Ljava/lang/StackTraceElement;") ∈ lw_all := lw_g (lw_at lw_m3 145 rfl) rfl
theorem q695 : (Jvm.Cond.lays "java/lang/UnsupportedOperationException" "java/lang/Throwable" "suppressedExceptions" "Ljava/util/List;") ∈ lw_all := lw_g (lw_at lw_m3 146 rfl) rfl
theorem q696 : (Jvm.Cond.lays "java/lang/UnsupportedOperationException" "java/lang/Throwable" "detailMessage" "Ljava/lang/String;") ∈ lw_all := lw_g (lw_at lw_m3 147 rfl) rfl
theorem q697 : (Jvm.Cond.lays "java/lang/UnsupportedOperationException" "java/lang/Throwable" "backtrace" "Ljava/lang/Object;") ∈ lw_all := lw_g (lw_at lw_m3 148 rfl) rfl
theorem q699 : (Jvm.Cond.instanceMethod ({ cls := "java/lang/UnsupportedOperationException", name := "<init>", desc := "()V" } : Jvm.MethodName)) ∈ lw_all := lw_g (lw_at lw_m3 150 rfl) rfl
theorem q700 : (Jvm.Cond.code ({ cls := "java/lang/UnsupportedOperationException", name := "<init>", desc := "()V" } : Jvm.MethodName) prog_43_method_1_code (1 : Nat) (Option.none : Option Jvm.ClassFile.FieldType)) ∈ lw_all := lw_g (lw_at lw_m3 151 rfl) rfl
theorem q701 : (Jvm.Cond.methodLink "java/lang/UnsupportedOperationException" (1 : Nat) ({ cls := "java/lang/RuntimeException", name := "<init>", desc := "()V" } : Jvm.MethodName)) ∈ lw_all := lw_g (lw_at lw_m3 152 rfl) rfl
theorem q702 : (Jvm.Cond.lays "java/lang/UnsupportedOperationException" "java/lang/Throwable" "depth" "I") ∈ lw_all := lw_g (lw_at lw_m3 153 rfl) rfl
theorem q703 : (Jvm.Cond.superclass "java/lang/UnsupportedOperationException" "java/lang/RuntimeException") ∈ lw_all := lw_g (lw_at lw_m3 154 rfl) rfl
theorem q2342 : (Jvm.Cond.castable "java/lang/UnsupportedOperationException" "java/lang/Object") ∈ lw_tbl := lw_at lw_m10 113 rfl
theorem in_J14 : ∀ w ∈ wsJ140, w ∈ lw_all := lw_in wsJ140 [693, 694, 695, 696, 697, 702] (by decide +kernel) (by decide +kernel)

/-! java/lang/IndexOutOfBoundsException -/
def RJ15 : String := "java/lang/IndexOutOfBoundsException"
def TJ15 : u_T := fun k => match k with
  | 0 => ("java/lang/Throwable", "cause", "Ljava/lang/Throwable;", false)
  | 1 => ("java/lang/Throwable", "stackTrace", "[Ljava/lang/StackTraceElement;", false)
  | 2 => ("java/lang/Throwable", "suppressedExceptions", "Ljava/util/List;", false)
  | 3 => ("java/lang/Throwable", "detailMessage", "Ljava/lang/String;", false)
  | 4 => ("java/lang/Throwable", "backtrace", "Ljava/lang/Object;", false)
  | _ => ("java/lang/Throwable", "depth", "I", false)
def tyJ15 : Nat → FieldType := fun k => match k with
  | 0 => .object "java/lang/Throwable"
  | 1 => .array (.object "java/lang/StackTraceElement")
  | 2 => .object "java/util/List"
  | 3 => .object "java/lang/String"
  | 4 => .object "java/lang/Object"
  | _ => .int
abbrev wsJ150 : List Cond := u_ws RJ15 TJ15 6
theorem nmJ15 : ∀ a, a < 6 → ∀ b, b < 6 → a ≠ b → (TJ15 a).2.1 ≠ (TJ15 b).2.1 := by decide +kernel
theorem tyJ15_ok : ∀ k, k < 6 → parseFieldDescriptor (TJ15 k).2.2.1 = some (tyJ15 k) := by decide +kernel
abbrev cJ15_init : ByteArray := prog_29_method_2_code
def yJ15_init : MethodName := ⟨RJ15, "<init>", "(Ljava/lang/String;)V"⟩
abbrev cJ15_init_2 : ByteArray := prog_29_method_1_code
def yJ15_init_2 : MethodName := ⟨RJ15, "<init>", "()V"⟩
theorem q94 : (Jvm.Cond.initialized "java/lang/IndexOutOfBoundsException") ∈ lw_all := lw_g (lw_at lw_m1 25 rfl) rfl
theorem q568 : (Jvm.Cond.selects "java/lang/IndexOutOfBoundsException" ({ cls := "java/lang/Throwable", name := "fillInStackTrace", desc := "()Ljava/lang/Throwable;" } : Jvm.MethodName) ({ cls := "java/lang/Throwable", name := "fillInStackTrace", desc := "()Ljava/lang/Throwable;" } : Jvm.MethodName)) ∈ lw_all := lw_g (lw_at lw_m3 19 rfl) rfl
theorem q665 : (Jvm.Cond.selects "java/lang/IndexOutOfBoundsException" ({ cls := "java/lang/Object", name := "getClass", desc := "()Ljava/lang/Class;" } : Jvm.MethodName) ({ cls := "java/lang/Object", name := "getClass", desc := "()Ljava/lang/Class;" } : Jvm.MethodName)) ∈ lw_all := lw_g (lw_at lw_m3 116 rfl) rfl
theorem q788 : (Jvm.Cond.instanceMethod ({ cls := "java/lang/IndexOutOfBoundsException", name := "<init>", desc := "(Ljava/lang/String;)V" } : Jvm.MethodName)) ∈ lw_all := lw_g (lw_at lw_m3 239 rfl) rfl
theorem q789 : (Jvm.Cond.code ({ cls := "java/lang/IndexOutOfBoundsException", name := "<init>", desc := "(Ljava/lang/String;)V" } : Jvm.MethodName) prog_29_method_2_code (2 : Nat) (Option.none : Option Jvm.ClassFile.FieldType)) ∈ lw_all := lw_g (lw_at lw_m4 0 rfl) rfl
theorem q790 : (Jvm.Cond.methodLink "java/lang/IndexOutOfBoundsException" (7 : Nat) ({ cls := "java/lang/RuntimeException", name := "<init>", desc := "(Ljava/lang/String;)V" } : Jvm.MethodName)) ∈ lw_all := lw_g (lw_at lw_m4 1 rfl) rfl
theorem q799 : (Jvm.Cond.declares ({ cls := "java/lang/IndexOutOfBoundsException", name := "<init>", desc := "()V" } : Jvm.MethodName)) ∈ lw_tbl := lw_at lw_m4 10 rfl
theorem q800 : (Jvm.Cond.declares ({ cls := "java/lang/IndexOutOfBoundsException", name := "<init>", desc := "(Ljava/lang/String;)V" } : Jvm.MethodName)) ∈ lw_tbl := lw_at lw_m4 11 rfl
theorem q821 : (Jvm.Cond.instantiable "java/lang/IndexOutOfBoundsException" (6 : Nat)) ∈ lw_all := lw_g (lw_at lw_m4 32 rfl) rfl
theorem q822 : (Jvm.Cond.castable "java/lang/IndexOutOfBoundsException" "java/lang/IndexOutOfBoundsException") ∈ lw_tbl := lw_at lw_m4 33 rfl
theorem q823 : (Jvm.Cond.selects "java/lang/IndexOutOfBoundsException" ({ cls := "java/lang/Throwable", name := "fillInStackTrace", desc := "(I)Ljava/lang/Throwable;" } : Jvm.MethodName) ({ cls := "java/lang/Throwable", name := "fillInStackTrace", desc := "(I)Ljava/lang/Throwable;" } : Jvm.MethodName)) ∈ lw_all := lw_g (lw_at lw_m4 34 rfl) rfl
theorem q824 : (Jvm.Cond.lays "java/lang/IndexOutOfBoundsException" "java/lang/Throwable" "cause" "Ljava/lang/Throwable;") ∈ lw_all := lw_g (lw_at lw_m4 35 rfl) rfl
theorem q825 : (Jvm.Cond.lays "java/lang/IndexOutOfBoundsException" "java/lang/Throwable" "stackTrace" "[Ljava/lang/StackTraceElement;") ∈ lw_all := lw_g (lw_at lw_m4 36 rfl) rfl
theorem q826 : (Jvm.Cond.lays "java/lang/IndexOutOfBoundsException" "java/lang/Throwable" "suppressedExceptions" "Ljava/util/List;") ∈ lw_all := lw_g (lw_at lw_m4 37 rfl) rfl
theorem q827 : (Jvm.Cond.lays "java/lang/IndexOutOfBoundsException" "java/lang/Throwable" "detailMessage" "Ljava/lang/String;") ∈ lw_all := lw_g (lw_at lw_m4 38 rfl) rfl
theorem q828 : (Jvm.Cond.lays "java/lang/IndexOutOfBoundsException" "java/lang/Throwable" "backtrace" "Ljava/lang/Object;") ∈ lw_all := lw_g (lw_at lw_m4 39 rfl) rfl
theorem q830 : (Jvm.Cond.instanceMethod ({ cls := "java/lang/IndexOutOfBoundsException", name := "<init>", desc := "()V" } : Jvm.MethodName)) ∈ lw_all := lw_g (lw_at lw_m4 41 rfl) rfl
theorem q831 : (Jvm.Cond.code ({ cls := "java/lang/IndexOutOfBoundsException", name := "<init>", desc := "()V" } : Jvm.MethodName) prog_29_method_1_code (1 : Nat) (Option.none : Option Jvm.ClassFile.FieldType)) ∈ lw_all := lw_g (lw_at lw_m4 42 rfl) rfl
theorem q832 : (Jvm.Cond.methodLink "java/lang/IndexOutOfBoundsException" (1 : Nat) ({ cls := "java/lang/RuntimeException", name := "<init>", desc := "()V" } : Jvm.MethodName)) ∈ lw_all := lw_g (lw_at lw_m4 43 rfl) rfl
theorem q833 : (Jvm.Cond.lays "java/lang/IndexOutOfBoundsException" "java/lang/Throwable" "depth" "I") ∈ lw_all := lw_g (lw_at lw_m4 44 rfl) rfl
theorem q834 : (Jvm.Cond.superclass "java/lang/IndexOutOfBoundsException" "java/lang/RuntimeException") ∈ lw_all := lw_g (lw_at lw_m4 45 rfl) rfl
theorem q2344 : (Jvm.Cond.castable "java/lang/IndexOutOfBoundsException" "java/lang/Object") ∈ lw_tbl := lw_at lw_m10 115 rfl
theorem in_J15 : ∀ w ∈ wsJ150, w ∈ lw_all := lw_in wsJ150 [824, 825, 826, 827, 828, 833] (by decide +kernel) (by decide +kernel)

/-! java/lang/ArrayIndexOutOfBoundsException -/
def RJ16 : String := "java/lang/ArrayIndexOutOfBoundsException"
def TJ16 : u_T := fun k => match k with
  | 0 => ("java/lang/Throwable", "backtrace", "Ljava/lang/Object;", false)
  | 1 => ("java/lang/Throwable", "detailMessage", "Ljava/lang/String;", false)
  | 2 => ("java/lang/Throwable", "cause", "Ljava/lang/Throwable;", false)
  | 3 => ("java/lang/Throwable", "stackTrace", "[Ljava/lang/StackTraceElement;", false)
  | 4 => ("java/lang/Throwable", "depth", "I", false)
  | _ => ("java/lang/Throwable", "suppressedExceptions", "Ljava/util/List;", false)
def tyJ16 : Nat → FieldType := fun k => match k with
  | 0 => .object "java/lang/Object"
  | 1 => .object "java/lang/String"
  | 2 => .object "java/lang/Throwable"
  | 3 => .array (.object "java/lang/StackTraceElement")
  | 4 => .int
  | _ => .object "java/util/List"
abbrev wsJ160 : List Cond := u_ws RJ16 TJ16 6
theorem nmJ16 : ∀ a, a < 6 → ∀ b, b < 6 → a ≠ b → (TJ16 a).2.1 ≠ (TJ16 b).2.1 := by decide +kernel
theorem tyJ16_ok : ∀ k, k < 6 → parseFieldDescriptor (TJ16 k).2.2.1 = some (tyJ16 k) := by decide +kernel
abbrev cJ16_init : ByteArray := prog_21_method_2_code
def yJ16_init : MethodName := ⟨RJ16, "<init>", "(Ljava/lang/String;)V"⟩
abbrev cJ16_init_2 : ByteArray := prog_21_method_3_code
def yJ16_init_2 : MethodName := ⟨RJ16, "<init>", "(I)V"⟩
theorem q95 : (Jvm.Cond.initialized "java/lang/ArrayIndexOutOfBoundsException") ∈ lw_all := lw_g (lw_at lw_m1 26 rfl) rfl
theorem q565 : (Jvm.Cond.selects "java/lang/ArrayIndexOutOfBoundsException" ({ cls := "java/lang/Throwable", name := "fillInStackTrace", desc := "()Ljava/lang/Throwable;" } : Jvm.MethodName) ({ cls := "java/lang/Throwable", name := "fillInStackTrace", desc := "()Ljava/lang/Throwable;" } : Jvm.MethodName)) ∈ lw_all := lw_g (lw_at lw_m3 16 rfl) rfl
theorem q662 : (Jvm.Cond.selects "java/lang/ArrayIndexOutOfBoundsException" ({ cls := "java/lang/Object", name := "getClass", desc := "()Ljava/lang/Class;" } : Jvm.MethodName) ({ cls := "java/lang/Object", name := "getClass", desc := "()Ljava/lang/Class;" } : Jvm.MethodName)) ∈ lw_all := lw_g (lw_at lw_m3 113 rfl) rfl
theorem q784 : (Jvm.Cond.instantiable "java/lang/ArrayIndexOutOfBoundsException" (6 : Nat)) ∈ lw_all := lw_g (lw_at lw_m3 235 rfl) rfl
theorem q785 : (Jvm.Cond.instanceMethod ({ cls := "java/lang/ArrayIndexOutOfBoundsException", name := "<init>", desc := "(Ljava/lang/String;)V" } : Jvm.MethodName)) ∈ lw_all := lw_g (lw_at lw_m3 236 rfl) rfl
theorem q786 : (Jvm.Cond.code ({ cls := "java/lang/ArrayIndexOutOfBoundsException", name := "<init>", desc := "(Ljava/lang/String;)V" } : Jvm.MethodName) prog_21_method_2_code (2 : Nat) (Option.none : Option Jvm.ClassFile.FieldType)) ∈ lw_all := lw_g (lw_at lw_m3 237 rfl) rfl
theorem q787 : (Jvm.Cond.methodLink "java/lang/ArrayIndexOutOfBoundsException" (7 : Nat) ({ cls := "java/lang/IndexOutOfBoundsException", name := "<init>", desc := "(Ljava/lang/String;)V" } : Jvm.MethodName)) ∈ lw_all := lw_g (lw_at lw_m3 238 rfl) rfl
theorem q791 : (Jvm.Cond.lays "java/lang/ArrayIndexOutOfBoundsException" "java/lang/Throwable" "backtrace" "Ljava/lang/Object;") ∈ lw_all := lw_g (lw_at lw_m4 2 rfl) rfl
theorem q792 : (Jvm.Cond.lays "java/lang/ArrayIndexOutOfBoundsException" "java/lang/Throwable" "detailMessage" "Ljava/lang/String;") ∈ lw_all := lw_g (lw_at lw_m4 3 rfl) rfl
theorem q793 : (Jvm.Cond.lays "java/lang/ArrayIndexOutOfBoundsException" "java/lang/Throwable" "cause" "Ljava/lang/Throwable;") ∈ lw_all := lw_g (lw_at lw_m4 4 rfl) rfl
theorem q794 : (Jvm.Cond.lays "java/lang/ArrayIndexOutOfBoundsException" "java/lang/Throwable" "stackTrace" "[Ljava/lang/StackTraceElement;") ∈ lw_all := lw_g (lw_at lw_m4 5 rfl) rfl
theorem q795 : (Jvm.Cond.lays "java/lang/ArrayIndexOutOfBoundsException" "java/lang/Throwable" "depth" "I") ∈ lw_all := lw_g (lw_at lw_m4 6 rfl) rfl
theorem q796 : (Jvm.Cond.lays "java/lang/ArrayIndexOutOfBoundsException" "java/lang/Throwable" "suppressedExceptions" "Ljava/util/List;") ∈ lw_all := lw_g (lw_at lw_m4 7 rfl) rfl
theorem q797 : (Jvm.Cond.superclass "java/lang/ArrayIndexOutOfBoundsException" "java/lang/IndexOutOfBoundsException") ∈ lw_all := lw_g (lw_at lw_m4 8 rfl) rfl
theorem q798 : (Jvm.Cond.castable "java/lang/ArrayIndexOutOfBoundsException" "java/lang/ArrayIndexOutOfBoundsException") ∈ lw_tbl := lw_at lw_m4 9 rfl
theorem q801 : (Jvm.Cond.selects "java/lang/ArrayIndexOutOfBoundsException" ({ cls := "java/lang/Throwable", name := "fillInStackTrace", desc := "(I)Ljava/lang/Throwable;" } : Jvm.MethodName) ({ cls := "java/lang/Throwable", name := "fillInStackTrace", desc := "(I)Ljava/lang/Throwable;" } : Jvm.MethodName)) ∈ lw_all := lw_g (lw_at lw_m4 12 rfl) rfl
theorem q1825 : (Jvm.Cond.instanceMethod ({ cls := "java/lang/ArrayIndexOutOfBoundsException", name := "<init>", desc := "(I)V" } : Jvm.MethodName)) ∈ lw_all := lw_g (lw_at lw_m8 76 rfl) rfl
theorem q1826 : (Jvm.Cond.code ({ cls := "java/lang/ArrayIndexOutOfBoundsException", name := "<init>", desc := "(I)V" } : Jvm.MethodName) prog_21_method_3_code (2 : Nat) (Option.none : Option Jvm.ClassFile.FieldType)) ∈ lw_all := lw_g (lw_at lw_m8 77 rfl) rfl
theorem q1827 : (Jvm.Cond.classLink "java/lang/ArrayIndexOutOfBoundsException" (10 : Nat) "java/lang/StringBuilder") ∈ lw_all := lw_g (lw_at lw_m8 78 rfl) rfl
theorem q1828 : (Jvm.Cond.methodLink "java/lang/ArrayIndexOutOfBoundsException" (12 : Nat) ({ cls := "java/lang/StringBuilder", name := "<init>", desc := "()V" } : Jvm.MethodName)) ∈ lw_all := lw_g (lw_at lw_m8 79 rfl) rfl
theorem q1829 : (Jvm.Cond.stringRef "java/lang/ArrayIndexOutOfBoundsException" (13 : Nat) "Array index out of range: ") ∈ lw_tbl := lw_at lw_m8 80 rfl
theorem q1830 : (Jvm.Cond.methodLink "java/lang/ArrayIndexOutOfBoundsException" (15 : Nat) ({ cls := "java/lang/StringBuilder", name := "append", desc := "(Ljava/lang/String;)Ljava/lang/StringBuilder;" } : Jvm.MethodName)) ∈ lw_all := lw_g (lw_at lw_m8 81 rfl) rfl
theorem q1831 : (Jvm.Cond.methodLink "java/lang/ArrayIndexOutOfBoundsException" (19 : Nat) ({ cls := "java/lang/StringBuilder", name := "append", desc := "(I)Ljava/lang/StringBuilder;" } : Jvm.MethodName)) ∈ lw_all := lw_g (lw_at lw_m8 82 rfl) rfl
theorem q1832 : (Jvm.Cond.methodLink "java/lang/ArrayIndexOutOfBoundsException" (22 : Nat) ({ cls := "java/lang/StringBuilder", name := "toString", desc := "()Ljava/lang/String;" } : Jvm.MethodName)) ∈ lw_all := lw_g (lw_at lw_m8 83 rfl) rfl
theorem q2328 : (Jvm.Cond.castable "java/lang/ArrayIndexOutOfBoundsException" "java/lang/IndexOutOfBoundsException") ∈ lw_tbl := lw_at lw_m10 99 rfl
theorem q2343 : (Jvm.Cond.castable "java/lang/ArrayIndexOutOfBoundsException" "java/lang/Object") ∈ lw_tbl := lw_at lw_m10 114 rfl
theorem in_J16 : ∀ w ∈ wsJ160, w ∈ lw_all := lw_in wsJ160 [791, 792, 793, 794, 795, 796] (by decide +kernel) (by decide +kernel)

/-! java/util/ArrayDeque$DeqIterator -/
def RJ17 : String := "java/util/ArrayDeque$DeqIterator"
def TJ17 : u_T := fun k => match k with
  | 0 => ("java/util/ArrayDeque$DeqIterator", "cursor", "I", false)
  | 1 => ("java/util/ArrayDeque$DeqIterator", "remaining", "I", false)
  | 2 => ("java/util/ArrayDeque$DeqIterator", "lastRet", "I", false)
  | _ => ("java/util/ArrayDeque$DeqIterator", "this$0", "Ljava/util/ArrayDeque;", true)
def tyJ17 : Nat → FieldType := fun k => match k with
  | 0 => .int
  | 1 => .int
  | 2 => .int
  | _ => .object "java/util/ArrayDeque"
abbrev wsJ170 : List Cond := u_ws RJ17 TJ17 4
theorem nmJ17 : ∀ a, a < 4 → ∀ b, b < 4 → a ≠ b → (TJ17 a).2.1 ≠ (TJ17 b).2.1 := by decide +kernel
theorem tyJ17_ok : ∀ k, k < 4 → parseFieldDescriptor (TJ17 k).2.2.1 = some (tyJ17 k) := by decide +kernel
abbrev cJ17_init : ByteArray := prog_49_method_1_code
def yJ17_init : MethodName := ⟨RJ17, "<init>", "(Ljava/util/ArrayDeque;)V"⟩
abbrev cJ17_hasNext : ByteArray := prog_49_method_2_code
def yJ17_hasNext : MethodName := ⟨RJ17, "hasNext", "()Z"⟩
abbrev cJ17_next : ByteArray := prog_49_method_3_code
def yJ17_next : MethodName := ⟨RJ17, "next", "()Ljava/lang/Object;"⟩
theorem q98 : (Jvm.Cond.initialized "java/util/ArrayDeque$DeqIterator") ∈ lw_all := lw_g (lw_at lw_m1 29 rfl) rfl
theorem q280 : (Jvm.Cond.fieldLink "java/util/ArrayDeque$DeqIterator" (35 : Nat) "java/util/ArrayDeque" "elements" "[Ljava/lang/Object;") ∈ lw_all := lw_g (lw_at lw_m1 211 rfl) rfl
theorem q281 : (Jvm.Cond.fieldLink "java/util/ArrayDeque$DeqIterator" (26 : Nat) "java/util/ArrayDeque" "head" "I") ∈ lw_all := lw_g (lw_at lw_m1 212 rfl) rfl
theorem q672 : (Jvm.Cond.selects "java/util/ArrayDeque$DeqIterator" ({ cls := "java/lang/Object", name := "getClass", desc := "()Ljava/lang/Class;" } : Jvm.MethodName) ({ cls := "java/lang/Object", name := "getClass", desc := "()Ljava/lang/Class;" } : Jvm.MethodName)) ∈ lw_all := lw_g (lw_at lw_m3 123 rfl) rfl
theorem q954 : (Jvm.Cond.instantiable "java/util/ArrayDeque$DeqIterator" (4 : Nat)) ∈ lw_all := lw_g (lw_at lw_m4 165 rfl) rfl
theorem q956 : (Jvm.Cond.instanceMethod ({ cls := "java/util/ArrayDeque$DeqIterator", name := "<init>", desc := "(Ljava/util/ArrayDeque;)V" } : Jvm.MethodName)) ∈ lw_all := lw_g (lw_at lw_m4 167 rfl) rfl
theorem q957 : (Jvm.Cond.code ({ cls := "java/util/ArrayDeque$DeqIterator", name := "<init>", desc := "(Ljava/util/ArrayDeque;)V" } : Jvm.MethodName) prog_49_method_1_code (2 : Nat) (Option.none : Option Jvm.ClassFile.FieldType)) ∈ lw_all := lw_g (lw_at lw_m4 168 rfl) rfl
theorem q958 : (Jvm.Cond.methodLink "java/util/ArrayDeque$DeqIterator" (7 : Nat) ({ cls := "java/lang/Object", name := "<init>", desc := "()V" } : Jvm.MethodName)) ∈ lw_all := lw_g (lw_at lw_m4 169 rfl) rfl
theorem q959 : (Jvm.Cond.methodLink "java/util/ArrayDeque$DeqIterator" (13 : Nat) ({ cls := "java/util/ArrayDeque", name := "size", desc := "()I" } : Jvm.MethodName)) ∈ lw_all := lw_g (lw_at lw_m4 170 rfl) rfl
theorem q960 : (Jvm.Cond.fieldLink "java/util/ArrayDeque$DeqIterator" (29 : Nat) "java/util/ArrayDeque$DeqIterator" "cursor" "I") ∈ lw_all := lw_g (lw_at lw_m4 171 rfl) rfl
theorem q961 : (Jvm.Cond.fieldLink "java/util/ArrayDeque$DeqIterator" (19 : Nat) "java/util/ArrayDeque$DeqIterator" "remaining" "I") ∈ lw_all := lw_g (lw_at lw_m4 172 rfl) rfl
theorem q962 : (Jvm.Cond.fieldLink "java/util/ArrayDeque$DeqIterator" (23 : Nat) "java/util/ArrayDeque$DeqIterator" "lastRet" "I") ∈ lw_all := lw_g (lw_at lw_m4 173 rfl) rfl
theorem q963 : (Jvm.Cond.fieldLink "java/util/ArrayDeque$DeqIterator" (1 : Nat) "java/util/ArrayDeque$DeqIterator" "this$0" "Ljava/util/ArrayDeque;") ∈ lw_all := lw_g (lw_at lw_m4 174 rfl) rfl
theorem q964 : (Jvm.Cond.lays "java/util/ArrayDeque$DeqIterator" "java/util/ArrayDeque$DeqIterator" "cursor" "I") ∈ lw_all := lw_g (lw_at lw_m4 175 rfl) rfl
theorem q965 : (Jvm.Cond.soleField "java/util/ArrayDeque$DeqIterator" "cursor") ∈ lw_all := lw_g (lw_at lw_m4 176 rfl) rfl
theorem q966 : (Jvm.Cond.lays "java/util/ArrayDeque$DeqIterator" "java/util/ArrayDeque$DeqIterator" "remaining" "I") ∈ lw_all := lw_g (lw_at lw_m4 177 rfl) rfl
theorem q967 : (Jvm.Cond.soleField "java/util/ArrayDeque$DeqIterator" "remaining") ∈ lw_all := lw_g (lw_at lw_m4 178 rfl) rfl
theorem q968 : (Jvm.Cond.lays "java/util/ArrayDeque$DeqIterator" "java/util/ArrayDeque$DeqIterator" "lastRet" "I") ∈ lw_all := lw_g (lw_at lw_m4 179 rfl) rfl
theorem q969 : (Jvm.Cond.soleField "java/util/ArrayDeque$DeqIterator" "lastRet") ∈ lw_all := lw_g (lw_at lw_m4 180 rfl) rfl
theorem q970 : (Jvm.Cond.laysFinal "java/util/ArrayDeque$DeqIterator" "java/util/ArrayDeque$DeqIterator" "this$0" "Ljava/util/ArrayDeque;") ∈ lw_all := lw_g (lw_at lw_m4 181 rfl) rfl
theorem q971 : (Jvm.Cond.soleField "java/util/ArrayDeque$DeqIterator" "this$0") ∈ lw_all := lw_g (lw_at lw_m4 182 rfl) rfl
theorem q972 : (Jvm.Cond.superclass "java/util/ArrayDeque$DeqIterator" "java/lang/Object") ∈ lw_all := lw_g (lw_at lw_m4 183 rfl) rfl
theorem q1018 : (Jvm.Cond.castable "java/util/ArrayDeque$DeqIterator" "java/util/Iterator") ∈ lw_tbl := lw_at lw_m4 229 rfl
theorem q1019 : (Jvm.Cond.selects "java/util/ArrayDeque$DeqIterator" ({ cls := "java/util/Iterator", name := "hasNext", desc := "()Z" } : Jvm.MethodName) ({ cls := "java/util/ArrayDeque$DeqIterator", name := "hasNext", desc := "()Z" } : Jvm.MethodName)) ∈ lw_all := lw_g (lw_at lw_m4 230 rfl) rfl
theorem q1020 : (Jvm.Cond.unhidden "java/util/ArrayDeque$DeqIterator" "hasNext" "()Z") ∈ lw_tbl := lw_at lw_m4 231 rfl
theorem q1021 : (Jvm.Cond.instanceMethod ({ cls := "java/util/ArrayDeque$DeqIterator", name := "hasNext", desc := "()Z" } : Jvm.MethodName)) ∈ lw_all := lw_g (lw_at lw_m4 232 rfl) rfl
theorem q1022 : (Jvm.Cond.publicMethod ({ cls := "java/util/ArrayDeque$DeqIterator", name := "hasNext", desc := "()Z" } : Jvm.MethodName)) ∈ lw_tbl := lw_at lw_m4 233 rfl
theorem q1023 : (Jvm.Cond.code ({ cls := "java/util/ArrayDeque$DeqIterator", name := "hasNext", desc := "()Z" } : Jvm.MethodName) prog_49_method_2_code (1 : Nat) (Option.some Jvm.ClassFile.FieldType.boolean)) ∈ lw_all := lw_g (lw_at lw_m4 234 rfl) rfl
theorem q1155 : (Jvm.Cond.selects "java/util/ArrayDeque$DeqIterator" ({ cls := "java/util/Iterator", name := "next", desc := "()Ljava/lang/Object;" } : Jvm.MethodName) ({ cls := "java/util/ArrayDeque$DeqIterator", name := "next", desc := "()Ljava/lang/Object;" } : Jvm.MethodName)) ∈ lw_all := lw_g (lw_at lw_m5 126 rfl) rfl
theorem q1156 : (Jvm.Cond.unhidden "java/util/ArrayDeque$DeqIterator" "next" "()Ljava/lang/Object;") ∈ lw_tbl := lw_at lw_m5 127 rfl
theorem q1157 : (Jvm.Cond.instanceMethod ({ cls := "java/util/ArrayDeque$DeqIterator", name := "next", desc := "()Ljava/lang/Object;" } : Jvm.MethodName)) ∈ lw_all := lw_g (lw_at lw_m5 128 rfl) rfl
theorem q1158 : (Jvm.Cond.publicMethod ({ cls := "java/util/ArrayDeque$DeqIterator", name := "next", desc := "()Ljava/lang/Object;" } : Jvm.MethodName)) ∈ lw_tbl := lw_at lw_m5 129 rfl
theorem q1159 : (Jvm.Cond.code ({ cls := "java/util/ArrayDeque$DeqIterator", name := "next", desc := "()Ljava/lang/Object;" } : Jvm.MethodName) prog_49_method_3_code (3 : Nat) (Option.some (Jvm.ClassFile.FieldType.object "java/lang/Object"))) ∈ lw_all := lw_g (lw_at lw_m5 130 rfl) rfl
theorem q1160 : (Jvm.Cond.classLink "java/util/ArrayDeque$DeqIterator" (32 : Nat) "java/util/NoSuchElementException") ∈ lw_all := lw_g (lw_at lw_m5 131 rfl) rfl
theorem q1161 : (Jvm.Cond.methodLink "java/util/ArrayDeque$DeqIterator" (34 : Nat) ({ cls := "java/util/NoSuchElementException", name := "<init>", desc := "()V" } : Jvm.MethodName)) ∈ lw_all := lw_g (lw_at lw_m5 132 rfl) rfl
theorem q1162 : (Jvm.Cond.methodLink "java/util/ArrayDeque$DeqIterator" (39 : Nat) ({ cls := "java/util/ArrayDeque", name := "nonNullElementAt", desc := "([Ljava/lang/Object;I)Ljava/lang/Object;" } : Jvm.MethodName)) ∈ lw_all := lw_g (lw_at lw_m5 133 rfl) rfl
theorem q1165 : (Jvm.Cond.methodLink "java/util/ArrayDeque$DeqIterator" (43 : Nat) ({ cls := "java/util/ArrayDeque", name := "inc", desc := "(II)I" } : Jvm.MethodName)) ∈ lw_all := lw_g (lw_at lw_m5 136 rfl) rfl
theorem q2347 : (Jvm.Cond.castable "java/util/ArrayDeque$DeqIterator" "java/lang/Object") ∈ lw_tbl := lw_at lw_m10 118 rfl
theorem in_J17 : ∀ w ∈ wsJ170, w ∈ lw_all := lw_in wsJ170 [964, 966, 968, 970] (by decide +kernel) (by decide +kernel)

/-! java/util/ArrayList$Itr -/
def RJ18 : String := "java/util/ArrayList$Itr"
def TJ18 : u_T := fun k => match k with
  | 0 => ("java/util/ArrayList$Itr", "cursor", "I", false)
  | 1 => ("java/util/ArrayList$Itr", "lastRet", "I", false)
  | 2 => ("java/util/ArrayList$Itr", "expectedModCount", "I", false)
  | _ => ("java/util/ArrayList$Itr", "this$0", "Ljava/util/ArrayList;", true)
def tyJ18 : Nat → FieldType := fun k => match k with
  | 0 => .int
  | 1 => .int
  | 2 => .int
  | _ => .object "java/util/ArrayList"
abbrev wsJ180 : List Cond := u_ws RJ18 TJ18 4
theorem nmJ18 : ∀ a, a < 4 → ∀ b, b < 4 → a ≠ b → (TJ18 a).2.1 ≠ (TJ18 b).2.1 := by decide +kernel
theorem tyJ18_ok : ∀ k, k < 4 → parseFieldDescriptor (TJ18 k).2.2.1 = some (tyJ18 k) := by decide +kernel
abbrev cJ18_init : ByteArray := prog_51_method_1_code
def yJ18_init : MethodName := ⟨RJ18, "<init>", "(Ljava/util/ArrayList;)V"⟩
abbrev cJ18_hasNext : ByteArray := prog_51_method_2_code
def yJ18_hasNext : MethodName := ⟨RJ18, "hasNext", "()Z"⟩
abbrev cJ18_next : ByteArray := prog_51_method_3_code
def yJ18_next : MethodName := ⟨RJ18, "next", "()Ljava/lang/Object;"⟩
abbrev cJ18_checkForComodification : ByteArray := prog_51_method_6_code
def yJ18_checkForComodification : MethodName := ⟨RJ18, "checkForComodification", "()V"⟩
theorem q99 : (Jvm.Cond.initialized "java/util/ArrayList$Itr") ∈ lw_all := lw_g (lw_at lw_m1 30 rfl) rfl
theorem q674 : (Jvm.Cond.selects "java/util/ArrayList$Itr" ({ cls := "java/lang/Object", name := "getClass", desc := "()Ljava/lang/Class;" } : Jvm.MethodName) ({ cls := "java/lang/Object", name := "getClass", desc := "()Ljava/lang/Class;" } : Jvm.MethodName)) ∈ lw_all := lw_g (lw_at lw_m3 125 rfl) rfl
theorem q980 : (Jvm.Cond.instantiable "java/util/ArrayList$Itr" (4 : Nat)) ∈ lw_all := lw_g (lw_at lw_m4 191 rfl) rfl
theorem q982 : (Jvm.Cond.instanceMethod ({ cls := "java/util/ArrayList$Itr", name := "<init>", desc := "(Ljava/util/ArrayList;)V" } : Jvm.MethodName)) ∈ lw_all := lw_g (lw_at lw_m4 193 rfl) rfl
theorem q983 : (Jvm.Cond.code ({ cls := "java/util/ArrayList$Itr", name := "<init>", desc := "(Ljava/util/ArrayList;)V" } : Jvm.MethodName) prog_51_method_1_code (2 : Nat) (Option.none : Option Jvm.ClassFile.FieldType)) ∈ lw_all := lw_g (lw_at lw_m4 194 rfl) rfl
theorem q984 : (Jvm.Cond.methodLink "java/util/ArrayList$Itr" (7 : Nat) ({ cls := "java/lang/Object", name := "<init>", desc := "()V" } : Jvm.MethodName)) ∈ lw_all := lw_g (lw_at lw_m4 195 rfl) rfl
theorem q985 : (Jvm.Cond.fieldLink "java/util/ArrayList$Itr" (25 : Nat) "java/util/ArrayList$Itr" "cursor" "I") ∈ lw_all := lw_g (lw_at lw_m4 196 rfl) rfl
theorem q986 : (Jvm.Cond.fieldLink "java/util/ArrayList$Itr" (13 : Nat) "java/util/ArrayList$Itr" "lastRet" "I") ∈ lw_all := lw_g (lw_at lw_m4 197 rfl) rfl
theorem q987 : (Jvm.Cond.fieldLink "java/util/ArrayList$Itr" (22 : Nat) "java/util/ArrayList$Itr" "expectedModCount" "I") ∈ lw_all := lw_g (lw_at lw_m4 198 rfl) rfl
theorem q988 : (Jvm.Cond.fieldLink "java/util/ArrayList$Itr" (1 : Nat) "java/util/ArrayList$Itr" "this$0" "Ljava/util/ArrayList;") ∈ lw_all := lw_g (lw_at lw_m4 199 rfl) rfl
theorem q989 : (Jvm.Cond.lays "java/util/ArrayList$Itr" "java/util/ArrayList$Itr" "cursor" "I") ∈ lw_all := lw_g (lw_at lw_m4 200 rfl) rfl
theorem q990 : (Jvm.Cond.soleField "java/util/ArrayList$Itr" "cursor") ∈ lw_all := lw_g (lw_at lw_m4 201 rfl) rfl
theorem q991 : (Jvm.Cond.lays "java/util/ArrayList$Itr" "java/util/ArrayList$Itr" "lastRet" "I") ∈ lw_all := lw_g (lw_at lw_m4 202 rfl) rfl
theorem q992 : (Jvm.Cond.soleField "java/util/ArrayList$Itr" "lastRet") ∈ lw_all := lw_g (lw_at lw_m4 203 rfl) rfl
theorem q993 : (Jvm.Cond.lays "java/util/ArrayList$Itr" "java/util/ArrayList$Itr" "expectedModCount" "I") ∈ lw_all := lw_g (lw_at lw_m4 204 rfl) rfl
theorem q994 : (Jvm.Cond.soleField "java/util/ArrayList$Itr" "expectedModCount") ∈ lw_all := lw_g (lw_at lw_m4 205 rfl) rfl
theorem q995 : (Jvm.Cond.laysFinal "java/util/ArrayList$Itr" "java/util/ArrayList$Itr" "this$0" "Ljava/util/ArrayList;") ∈ lw_all := lw_g (lw_at lw_m4 206 rfl) rfl
theorem q996 : (Jvm.Cond.soleField "java/util/ArrayList$Itr" "this$0") ∈ lw_all := lw_g (lw_at lw_m4 207 rfl) rfl
theorem q997 : (Jvm.Cond.superclass "java/util/ArrayList$Itr" "java/lang/Object") ∈ lw_all := lw_g (lw_at lw_m4 208 rfl) rfl
theorem q1024 : (Jvm.Cond.castable "java/util/ArrayList$Itr" "java/util/Iterator") ∈ lw_tbl := lw_at lw_m4 235 rfl
theorem q1025 : (Jvm.Cond.selects "java/util/ArrayList$Itr" ({ cls := "java/util/Iterator", name := "hasNext", desc := "()Z" } : Jvm.MethodName) ({ cls := "java/util/ArrayList$Itr", name := "hasNext", desc := "()Z" } : Jvm.MethodName)) ∈ lw_all := lw_g (lw_at lw_m4 236 rfl) rfl
theorem q1026 : (Jvm.Cond.unhidden "java/util/ArrayList$Itr" "hasNext" "()Z") ∈ lw_tbl := lw_at lw_m4 237 rfl
theorem q1027 : (Jvm.Cond.instanceMethod ({ cls := "java/util/ArrayList$Itr", name := "hasNext", desc := "()Z" } : Jvm.MethodName)) ∈ lw_all := lw_g (lw_at lw_m4 238 rfl) rfl
theorem q1028 : (Jvm.Cond.publicMethod ({ cls := "java/util/ArrayList$Itr", name := "hasNext", desc := "()Z" } : Jvm.MethodName)) ∈ lw_tbl := lw_at lw_m4 239 rfl
theorem q1029 : (Jvm.Cond.code ({ cls := "java/util/ArrayList$Itr", name := "hasNext", desc := "()Z" } : Jvm.MethodName) prog_51_method_2_code (1 : Nat) (Option.some Jvm.ClassFile.FieldType.boolean)) ∈ lw_all := lw_g (lw_at lw_m5 0 rfl) rfl
theorem q1168 : (Jvm.Cond.selects "java/util/ArrayList$Itr" ({ cls := "java/util/Iterator", name := "next", desc := "()Ljava/lang/Object;" } : Jvm.MethodName) ({ cls := "java/util/ArrayList$Itr", name := "next", desc := "()Ljava/lang/Object;" } : Jvm.MethodName)) ∈ lw_all := lw_g (lw_at lw_m5 139 rfl) rfl
theorem q1169 : (Jvm.Cond.unhidden "java/util/ArrayList$Itr" "next" "()Ljava/lang/Object;") ∈ lw_tbl := lw_at lw_m5 140 rfl
theorem q1170 : (Jvm.Cond.instanceMethod ({ cls := "java/util/ArrayList$Itr", name := "next", desc := "()Ljava/lang/Object;" } : Jvm.MethodName)) ∈ lw_all := lw_g (lw_at lw_m5 141 rfl) rfl
theorem q1171 : (Jvm.Cond.publicMethod ({ cls := "java/util/ArrayList$Itr", name := "next", desc := "()Ljava/lang/Object;" } : Jvm.MethodName)) ∈ lw_tbl := lw_at lw_m5 142 rfl
theorem q1172 : (Jvm.Cond.code ({ cls := "java/util/ArrayList$Itr", name := "next", desc := "()Ljava/lang/Object;" } : Jvm.MethodName) prog_51_method_3_code (3 : Nat) (Option.some (Jvm.ClassFile.FieldType.object "java/lang/Object"))) ∈ lw_all := lw_g (lw_at lw_m5 143 rfl) rfl
theorem q1173 : (Jvm.Cond.methodLink "java/util/ArrayList$Itr" (31 : Nat) ({ cls := "java/util/ArrayList$Itr", name := "checkForComodification", desc := "()V" } : Jvm.MethodName)) ∈ lw_all := lw_g (lw_at lw_m5 144 rfl) rfl
theorem q1174 : (Jvm.Cond.instanceMethod ({ cls := "java/util/ArrayList$Itr", name := "checkForComodification", desc := "()V" } : Jvm.MethodName)) ∈ lw_all := lw_g (lw_at lw_m5 145 rfl) rfl
theorem q1175 : (Jvm.Cond.selects "java/util/ArrayList$Itr" ({ cls := "java/util/ArrayList$Itr", name := "checkForComodification", desc := "()V" } : Jvm.MethodName) ({ cls := "java/util/ArrayList$Itr", name := "checkForComodification", desc := "()V" } : Jvm.MethodName)) ∈ lw_all := lw_g (lw_at lw_m5 146 rfl) rfl
theorem q1176 : (Jvm.Cond.code ({ cls := "java/util/ArrayList$Itr", name := "checkForComodification", desc := "()V" } : Jvm.MethodName) prog_51_method_6_code (1 : Nat) (Option.none : Option Jvm.ClassFile.FieldType)) ∈ lw_all := lw_g (lw_at lw_m5 147 rfl) rfl
theorem q1177 : (Jvm.Cond.classLink "java/util/ArrayList$Itr" (34 : Nat) "java/util/NoSuchElementException") ∈ lw_all := lw_g (lw_at lw_m5 148 rfl) rfl
theorem q1178 : (Jvm.Cond.methodLink "java/util/ArrayList$Itr" (36 : Nat) ({ cls := "java/util/NoSuchElementException", name := "<init>", desc := "()V" } : Jvm.MethodName)) ∈ lw_all := lw_g (lw_at lw_m5 149 rfl) rfl
theorem q1531 : (Jvm.Cond.fieldLink "java/util/ArrayList$Itr" (37 : Nat) "java/util/ArrayList" "elementData" "[Ljava/lang/Object;") ∈ lw_all := lw_g (lw_at lw_m7 22 rfl) rfl
theorem q1532 : (Jvm.Cond.fieldLinkNest "java/util/ArrayList$Itr" (28 : Nat) "java/util/ArrayList" "size" "I" "java/util/ArrayList") ∈ lw_tbl := lw_at lw_m7 23 rfl
theorem q1535 : (Jvm.Cond.fieldLink "java/util/ArrayList$Itr" (17 : Nat) "java/util/ArrayList" "modCount" "I") ∈ lw_all := lw_g (lw_at lw_m7 26 rfl) rfl
theorem q2357 : (Jvm.Cond.castable "java/util/ArrayList$Itr" "java/lang/Object") ∈ lw_tbl := lw_at lw_m10 128 rfl
theorem in_J18 : ∀ w ∈ wsJ180, w ∈ lw_all := lw_in wsJ180 [989, 991, 993, 995] (by decide +kernel) (by decide +kernel)

/-! java/lang/Number -/
def RJ19 : String := "java/lang/Number"
abbrev cJ19_init : ByteArray := prog_34_method_1_code
def yJ19_init : MethodName := ⟨RJ19, "<init>", "()V"⟩
theorem q100 : (Jvm.Cond.initialized "java/lang/Number") ∈ lw_all := lw_g (lw_at lw_m1 31 rfl) rfl
theorem q1136 : (Jvm.Cond.instanceMethod ({ cls := "java/lang/Number", name := "<init>", desc := "()V" } : Jvm.MethodName)) ∈ lw_all := lw_g (lw_at lw_m5 107 rfl) rfl
theorem q1137 : (Jvm.Cond.code ({ cls := "java/lang/Number", name := "<init>", desc := "()V" } : Jvm.MethodName) prog_34_method_1_code (1 : Nat) (Option.none : Option Jvm.ClassFile.FieldType)) ∈ lw_all := lw_g (lw_at lw_m5 108 rfl) rfl
theorem q1138 : (Jvm.Cond.methodLink "java/lang/Number" (1 : Nat) ({ cls := "java/lang/Object", name := "<init>", desc := "()V" } : Jvm.MethodName)) ∈ lw_all := lw_g (lw_at lw_m5 109 rfl) rfl

/-! java/lang/AbstractStringBuilder -/
def RJ2 : String := "java/lang/AbstractStringBuilder"
abbrev cJ2_init : ByteArray := prog_18_method_2_code
def yJ2_init : MethodName := ⟨RJ2, "<init>", "(I)V"⟩
abbrev cJ2_length : ByteArray := prog_18_method_6_code
def yJ2_length : MethodName := ⟨RJ2, "length", "()I"⟩
abbrev cJ2_append : ByteArray := prog_18_method_31_code
def yJ2_append : MethodName := ⟨RJ2, "append", "(C)Ljava/lang/AbstractStringBuilder;"⟩
abbrev cJ2_ensureCapacityInternal : ByteArray := prog_18_method_9_code
def yJ2_ensureCapacityInternal : MethodName := ⟨RJ2, "ensureCapacityInternal", "(I)V"⟩
abbrev cJ2_newCapacity : ByteArray := prog_18_method_10_code
def yJ2_newCapacity : MethodName := ⟨RJ2, "newCapacity", "(I)I"⟩
abbrev cJ2_isLatin1 : ByteArray := prog_18_method_68_code
def yJ2_isLatin1 : MethodName := ⟨RJ2, "isLatin1", "()Z"⟩
abbrev cJ2_inflate : ByteArray := prog_18_method_11_code
def yJ2_inflate : MethodName := ⟨RJ2, "inflate", "()V"⟩
abbrev cJ2_charAt : ByteArray := prog_18_method_14_code
def yJ2_charAt : MethodName := ⟨RJ2, "charAt", "(I)C"⟩
abbrev cJ2_setLength : ByteArray := prog_18_method_13_code
def yJ2_setLength : MethodName := ⟨RJ2, "setLength", "(I)V"⟩
abbrev cJ2_append_2 : ByteArray := prog_18_method_22_code
def yJ2_append_2 : MethodName := ⟨RJ2, "append", "(Ljava/lang/String;)Ljava/lang/AbstractStringBuilder;"⟩
abbrev cJ2_appendNull : ByteArray := prog_18_method_26_code
def yJ2_appendNull : MethodName := ⟨RJ2, "appendNull", "()Ljava/lang/AbstractStringBuilder;"⟩
abbrev cJ2_putStringAt : ByteArray := prog_18_method_73_code
def yJ2_putStringAt : MethodName := ⟨RJ2, "putStringAt", "(ILjava/lang/String;)V"⟩
abbrev cJ2_inflateIfNeededFor : ByteArray := prog_18_method_71_code
def yJ2_inflateIfNeededFor : MethodName := ⟨RJ2, "inflateIfNeededFor", "(Ljava/lang/String;)V"⟩
abbrev cJ2_append_3 : ByteArray := prog_18_method_32_code
def yJ2_append_3 : MethodName := ⟨RJ2, "append", "(I)Ljava/lang/AbstractStringBuilder;"⟩
abbrev cJ2_getValue : ByteArray := prog_18_method_64_code
def yJ2_getValue : MethodName := ⟨RJ2, "getValue", "()[B"⟩
theorem q75 : (Jvm.Cond.initialized "java/lang/AbstractStringBuilder") ∈ lw_all := lw_g (lw_at lw_m1 6 rfl) rfl
theorem q297 : (Jvm.Cond.instanceMethod ({ cls := "java/lang/AbstractStringBuilder", name := "<init>", desc := "(I)V" } : Jvm.MethodName)) ∈ lw_all := lw_g (lw_at lw_m1 228 rfl) rfl
theorem q298 : (Jvm.Cond.code ({ cls := "java/lang/AbstractStringBuilder", name := "<init>", desc := "(I)V" } : Jvm.MethodName) prog_18_method_2_code (2 : Nat) (Option.none : Option Jvm.ClassFile.FieldType)) ∈ lw_all := lw_g (lw_at lw_m1 229 rfl) rfl
theorem q299 : (Jvm.Cond.methodLink "java/lang/AbstractStringBuilder" (3 : Nat) ({ cls := "java/lang/Object", name := "<init>", desc := "()V" } : Jvm.MethodName)) ∈ lw_all := lw_g (lw_at lw_m1 230 rfl) rfl
theorem q300 : (Jvm.Cond.fieldLink "java/lang/AbstractStringBuilder" (18 : Nat) "java/lang/String" "COMPACT_STRINGS" "Z") ∈ lw_all := lw_g (lw_at lw_m1 231 rfl) rfl
theorem q302 : (Jvm.Cond.methodLink "java/lang/AbstractStringBuilder" (26 : Nat) ({ cls := "java/lang/StringUTF16", name := "newBytesFor", desc := "(I)[B" } : Jvm.MethodName)) ∈ lw_all := lw_g (lw_at lw_m1 233 rfl) rfl
theorem q309 : (Jvm.Cond.fieldLink "java/lang/AbstractStringBuilder" (15 : Nat) "java/lang/AbstractStringBuilder" "value" "[B") ∈ lw_all := lw_g (lw_at lw_m2 0 rfl) rfl
theorem q310 : (Jvm.Cond.fieldLink "java/lang/AbstractStringBuilder" (22 : Nat) "java/lang/AbstractStringBuilder" "coder" "B") ∈ lw_all := lw_g (lw_at lw_m2 1 rfl) rfl
theorem q311 : (Jvm.Cond.fieldLink "java/lang/AbstractStringBuilder" (73 : Nat) "java/lang/AbstractStringBuilder" "maybeLatin1" "Z") ∈ lw_all := lw_g (lw_at lw_m2 2 rfl) rfl
theorem q313 : (Jvm.Cond.fieldLink "java/lang/AbstractStringBuilder" (79 : Nat) "java/lang/AbstractStringBuilder" "count" "I") ∈ lw_all := lw_g (lw_at lw_m2 4 rfl) rfl
theorem q315 : (Jvm.Cond.soleField "java/lang/AbstractStringBuilder" "value") ∈ lw_all := lw_g (lw_at lw_m2 6 rfl) rfl
theorem q317 : (Jvm.Cond.soleField "java/lang/AbstractStringBuilder" "coder") ∈ lw_all := lw_g (lw_at lw_m2 8 rfl) rfl
theorem q319 : (Jvm.Cond.soleField "java/lang/AbstractStringBuilder" "maybeLatin1") ∈ lw_all := lw_g (lw_at lw_m2 10 rfl) rfl
theorem q321 : (Jvm.Cond.soleField "java/lang/AbstractStringBuilder" "count") ∈ lw_all := lw_g (lw_at lw_m2 12 rfl) rfl
theorem q1352 : (Jvm.Cond.instanceMethod ({ cls := "java/lang/AbstractStringBuilder", name := "length", desc := "()I" } : Jvm.MethodName)) ∈ lw_all := lw_g (lw_at lw_m6 83 rfl) rfl
theorem q1353 : (Jvm.Cond.code ({ cls := "java/lang/AbstractStringBuilder", name := "length", desc := "()I" } : Jvm.MethodName) prog_18_method_6_code (1 : Nat) (Option.some Jvm.ClassFile.FieldType.int)) ∈ lw_all := lw_g (lw_at lw_m6 84 rfl) rfl
theorem q1408 : (Jvm.Cond.instanceMethod ({ cls := "java/lang/AbstractStringBuilder", name := "append", desc := "(C)Ljava/lang/AbstractStringBuilder;" } : Jvm.MethodName)) ∈ lw_all := lw_g (lw_at lw_m6 139 rfl) rfl
theorem q1409 : (Jvm.Cond.code ({ cls := "java/lang/AbstractStringBuilder", name := "append", desc := "(C)Ljava/lang/AbstractStringBuilder;" } : Jvm.MethodName) prog_18_method_31_code (2 : Nat) (Option.some (Jvm.ClassFile.FieldType.object "java/lang/AbstractStringBuilder"))) ∈ lw_all := lw_g (lw_at lw_m6 140 rfl) rfl
theorem q1410 : (Jvm.Cond.methodLink "java/lang/AbstractStringBuilder" (100 : Nat) ({ cls := "java/lang/AbstractStringBuilder", name := "ensureCapacityInternal", desc := "(I)V" } : Jvm.MethodName)) ∈ lw_all := lw_g (lw_at lw_m6 141 rfl) rfl
theorem q1411 : (Jvm.Cond.privateMethod ({ cls := "java/lang/AbstractStringBuilder", name := "ensureCapacityInternal", desc := "(I)V" } : Jvm.MethodName)) ∈ lw_tbl := lw_at lw_m6 142 rfl
theorem q1412 : (Jvm.Cond.instanceMethod ({ cls := "java/lang/AbstractStringBuilder", name := "ensureCapacityInternal", desc := "(I)V" } : Jvm.MethodName)) ∈ lw_all := lw_g (lw_at lw_m6 143 rfl) rfl
theorem q1413 : (Jvm.Cond.code ({ cls := "java/lang/AbstractStringBuilder", name := "ensureCapacityInternal", desc := "(I)V" } : Jvm.MethodName) prog_18_method_9_code (3 : Nat) (Option.none : Option Jvm.ClassFile.FieldType)) ∈ lw_all := lw_g (lw_at lw_m6 144 rfl) rfl
theorem q1414 : (Jvm.Cond.methodLink "java/lang/AbstractStringBuilder" (104 : Nat) ({ cls := "java/lang/AbstractStringBuilder", name := "newCapacity", desc := "(I)I" } : Jvm.MethodName)) ∈ lw_all := lw_g (lw_at lw_m6 145 rfl) rfl
theorem q1415 : (Jvm.Cond.privateMethod ({ cls := "java/lang/AbstractStringBuilder", name := "newCapacity", desc := "(I)I" } : Jvm.MethodName)) ∈ lw_tbl := lw_at lw_m6 146 rfl
theorem q1416 : (Jvm.Cond.instanceMethod ({ cls := "java/lang/AbstractStringBuilder", name := "newCapacity", desc := "(I)I" } : Jvm.MethodName)) ∈ lw_all := lw_g (lw_at lw_m6 147 rfl) rfl
theorem q1417 : (Jvm.Cond.code ({ cls := "java/lang/AbstractStringBuilder", name := "newCapacity", desc := "(I)I" } : Jvm.MethodName) prog_18_method_10_code (6 : Nat) (Option.some Jvm.ClassFile.FieldType.int)) ∈ lw_all := lw_g (lw_at lw_m6 148 rfl) rfl
theorem q1418 : (Jvm.Cond.methodLink "java/lang/AbstractStringBuilder" (114 : Nat) ({ cls := "jdk/internal/util/ArraysSupport", name := "newLength", desc := "(III)I" } : Jvm.MethodName)) ∈ lw_all := lw_g (lw_at lw_m6 149 rfl) rfl
theorem q1426 : (Jvm.Cond.constant "java/lang/AbstractStringBuilder" (39 : Nat) (2147483647 : Int32)) ∈ lw_all := lw_g (lw_at lw_m6 157 rfl) rfl
theorem q1427 : (Jvm.Cond.methodLink "java/lang/AbstractStringBuilder" (108 : Nat) ({ cls := "java/util/Arrays", name := "copyOf", desc := "([BI)[B" } : Jvm.MethodName)) ∈ lw_all := lw_g (lw_at lw_m6 158 rfl) rfl
theorem q1437 : (Jvm.Cond.methodLink "java/lang/AbstractStringBuilder" (83 : Nat) ({ cls := "java/lang/AbstractStringBuilder", name := "isLatin1", desc := "()Z" } : Jvm.MethodName)) ∈ lw_all := lw_g (lw_at lw_m6 168 rfl) rfl
theorem q1438 : (Jvm.Cond.instanceMethod ({ cls := "java/lang/AbstractStringBuilder", name := "isLatin1", desc := "()Z" } : Jvm.MethodName)) ∈ lw_all := lw_g (lw_at lw_m6 169 rfl) rfl
theorem q1439 : (Jvm.Cond.sameMethod "java/lang/AbstractStringBuilder" "java/lang/AbstractStringBuilder" "isLatin1" "()Z") ∈ lw_all := lw_g (lw_at lw_m6 170 rfl) rfl
theorem q1441 : (Jvm.Cond.code ({ cls := "java/lang/AbstractStringBuilder", name := "isLatin1", desc := "()Z" } : Jvm.MethodName) prog_18_method_68_code (1 : Nat) (Option.some Jvm.ClassFile.FieldType.boolean)) ∈ lw_all := lw_g (lw_at lw_m6 172 rfl) rfl
theorem q1442 : (Jvm.Cond.methodLink "java/lang/AbstractStringBuilder" (191 : Nat) ({ cls := "java/lang/StringLatin1", name := "canEncode", desc := "(C)Z" } : Jvm.MethodName)) ∈ lw_all := lw_g (lw_at lw_m6 173 rfl) rfl
theorem q1445 : (Jvm.Cond.methodLink "java/lang/AbstractStringBuilder" (195 : Nat) ({ cls := "java/lang/AbstractStringBuilder", name := "inflate", desc := "()V" } : Jvm.MethodName)) ∈ lw_all := lw_g (lw_at lw_m6 176 rfl) rfl
theorem q1446 : (Jvm.Cond.privateMethod ({ cls := "java/lang/AbstractStringBuilder", name := "inflate", desc := "()V" } : Jvm.MethodName)) ∈ lw_tbl := lw_at lw_m6 177 rfl
theorem q1447 : (Jvm.Cond.instanceMethod ({ cls := "java/lang/AbstractStringBuilder", name := "inflate", desc := "()V" } : Jvm.MethodName)) ∈ lw_all := lw_g (lw_at lw_m6 178 rfl) rfl
theorem q1448 : (Jvm.Cond.code ({ cls := "java/lang/AbstractStringBuilder", name := "inflate", desc := "()V" } : Jvm.MethodName) prog_18_method_11_code (2 : Nat) (Option.none : Option Jvm.ClassFile.FieldType)) ∈ lw_all := lw_g (lw_at lw_m6 179 rfl) rfl
theorem q1449 : (Jvm.Cond.methodLink "java/lang/AbstractStringBuilder" (125 : Nat) ({ cls := "java/lang/StringLatin1", name := "inflate", desc := "([BI[BII)V" } : Jvm.MethodName)) ∈ lw_all := lw_g (lw_at lw_m6 180 rfl) rfl
theorem q1478 : (Jvm.Cond.methodLink "java/lang/AbstractStringBuilder" (197 : Nat) ({ cls := "java/lang/StringUTF16", name := "putCharSB", desc := "([BII)V" } : Jvm.MethodName)) ∈ lw_all := lw_g (lw_at lw_m6 209 rfl) rfl
theorem q1563 : (Jvm.Cond.instanceMethod ({ cls := "java/lang/AbstractStringBuilder", name := "charAt", desc := "(I)C" } : Jvm.MethodName)) ∈ lw_all := lw_g (lw_at lw_m7 54 rfl) rfl
theorem q1564 : (Jvm.Cond.code ({ cls := "java/lang/AbstractStringBuilder", name := "charAt", desc := "(I)C" } : Jvm.MethodName) prog_18_method_14_code (5 : Nat) (Option.some Jvm.ClassFile.FieldType.char)) ∈ lw_all := lw_g (lw_at lw_m7 55 rfl) rfl
theorem q1565 : (Jvm.Cond.methodLink "java/lang/AbstractStringBuilder" (138 : Nat) ({ cls := "java/lang/Math", name := "min", desc := "(II)I" } : Jvm.MethodName)) ∈ lw_all := lw_g (lw_at lw_m7 56 rfl) rfl
theorem q1566 : (Jvm.Cond.methodLink "java/lang/AbstractStringBuilder" (144 : Nat) ({ cls := "java/lang/String", name := "checkIndex", desc := "(II)V" } : Jvm.MethodName)) ∈ lw_all := lw_g (lw_at lw_m7 57 rfl) rfl
theorem q1567 : (Jvm.Cond.methodLink "java/lang/AbstractStringBuilder" (148 : Nat) ({ cls := "java/lang/StringUTF16", name := "getChar", desc := "([BI)C" } : Jvm.MethodName)) ∈ lw_all := lw_g (lw_at lw_m7 58 rfl) rfl
theorem q1664 : (Jvm.Cond.instanceMethod ({ cls := "java/lang/AbstractStringBuilder", name := "setLength", desc := "(I)V" } : Jvm.MethodName)) ∈ lw_all := lw_g (lw_at lw_m7 155 rfl) rfl
theorem q1665 : (Jvm.Cond.code ({ cls := "java/lang/AbstractStringBuilder", name := "setLength", desc := "(I)V" } : Jvm.MethodName) prog_18_method_13_code (2 : Nat) (Option.none : Option Jvm.ClassFile.FieldType)) ∈ lw_all := lw_g (lw_at lw_m7 156 rfl) rfl
theorem q1666 : (Jvm.Cond.classLink "java/lang/AbstractStringBuilder" (129 : Nat) "java/lang/StringIndexOutOfBoundsException") ∈ lw_all := lw_g (lw_at lw_m7 157 rfl) rfl
theorem q1668 : (Jvm.Cond.methodLink "java/lang/AbstractStringBuilder" (131 : Nat) ({ cls := "java/lang/StringIndexOutOfBoundsException", name := "<init>", desc := "(I)V" } : Jvm.MethodName)) ∈ lw_all := lw_g (lw_at lw_m7 159 rfl) rfl
theorem q1679 : (Jvm.Cond.instanceMethod ({ cls := "java/lang/AbstractStringBuilder", name := "append", desc := "(Ljava/lang/String;)Ljava/lang/AbstractStringBuilder;" } : Jvm.MethodName)) ∈ lw_all := lw_g (lw_at lw_m7 170 rfl) rfl
theorem q1680 : (Jvm.Cond.code ({ cls := "java/lang/AbstractStringBuilder", name := "append", desc := "(Ljava/lang/String;)Ljava/lang/AbstractStringBuilder;" } : Jvm.MethodName) prog_18_method_22_code (3 : Nat) (Option.some (Jvm.ClassFile.FieldType.object "java/lang/AbstractStringBuilder"))) ∈ lw_all := lw_g (lw_at lw_m7 171 rfl) rfl
theorem q1681 : (Jvm.Cond.methodLink "java/lang/AbstractStringBuilder" (204 : Nat) ({ cls := "java/lang/AbstractStringBuilder", name := "appendNull", desc := "()Ljava/lang/AbstractStringBuilder;" } : Jvm.MethodName)) ∈ lw_all := lw_g (lw_at lw_m7 172 rfl) rfl
theorem q1682 : (Jvm.Cond.privateMethod ({ cls := "java/lang/AbstractStringBuilder", name := "appendNull", desc := "()Ljava/lang/AbstractStringBuilder;" } : Jvm.MethodName)) ∈ lw_tbl := lw_at lw_m7 173 rfl
theorem q1683 : (Jvm.Cond.instanceMethod ({ cls := "java/lang/AbstractStringBuilder", name := "appendNull", desc := "()Ljava/lang/AbstractStringBuilder;" } : Jvm.MethodName)) ∈ lw_all := lw_g (lw_at lw_m7 174 rfl) rfl
theorem q1684 : (Jvm.Cond.code ({ cls := "java/lang/AbstractStringBuilder", name := "appendNull", desc := "()Ljava/lang/AbstractStringBuilder;" } : Jvm.MethodName) prog_18_method_26_code (3 : Nat) (Option.some (Jvm.ClassFile.FieldType.object "java/lang/AbstractStringBuilder"))) ∈ lw_all := lw_g (lw_at lw_m7 175 rfl) rfl
theorem q1685 : (Jvm.Cond.methodLink "java/lang/AbstractStringBuilder" (226 : Nat) ({ cls := "java/lang/StringUTF16", name := "putCharsAt", desc := "([BICCCC)I" } : Jvm.MethodName)) ∈ lw_all := lw_g (lw_at lw_m7 176 rfl) rfl
theorem q1697 : (Jvm.Cond.methodLink "java/lang/AbstractStringBuilder" (32 : Nat) ({ cls := "java/lang/String", name := "length", desc := "()I" } : Jvm.MethodName)) ∈ lw_all := lw_g (lw_at lw_m7 188 rfl) rfl
theorem q1706 : (Jvm.Cond.methodLink "java/lang/AbstractStringBuilder" (208 : Nat) ({ cls := "java/lang/AbstractStringBuilder", name := "putStringAt", desc := "(ILjava/lang/String;)V" } : Jvm.MethodName)) ∈ lw_all := lw_g (lw_at lw_m7 197 rfl) rfl
theorem q1707 : (Jvm.Cond.privateMethod ({ cls := "java/lang/AbstractStringBuilder", name := "putStringAt", desc := "(ILjava/lang/String;)V" } : Jvm.MethodName)) ∈ lw_tbl := lw_at lw_m7 198 rfl
theorem q1708 : (Jvm.Cond.instanceMethod ({ cls := "java/lang/AbstractStringBuilder", name := "putStringAt", desc := "(ILjava/lang/String;)V" } : Jvm.MethodName)) ∈ lw_all := lw_g (lw_at lw_m7 199 rfl) rfl
theorem q1709 : (Jvm.Cond.code ({ cls := "java/lang/AbstractStringBuilder", name := "putStringAt", desc := "(ILjava/lang/String;)V" } : Jvm.MethodName) prog_18_method_73_code (3 : Nat) (Option.none : Option Jvm.ClassFile.FieldType)) ∈ lw_all := lw_g (lw_at lw_m7 200 rfl) rfl
theorem q1710 : (Jvm.Cond.methodLink "java/lang/AbstractStringBuilder" (397 : Nat) ({ cls := "java/lang/AbstractStringBuilder", name := "inflateIfNeededFor", desc := "(Ljava/lang/String;)V" } : Jvm.MethodName)) ∈ lw_all := lw_g (lw_at lw_m7 201 rfl) rfl
theorem q1711 : (Jvm.Cond.privateMethod ({ cls := "java/lang/AbstractStringBuilder", name := "inflateIfNeededFor", desc := "(Ljava/lang/String;)V" } : Jvm.MethodName)) ∈ lw_tbl := lw_at lw_m7 202 rfl
theorem q1712 : (Jvm.Cond.instanceMethod ({ cls := "java/lang/AbstractStringBuilder", name := "inflateIfNeededFor", desc := "(Ljava/lang/String;)V" } : Jvm.MethodName)) ∈ lw_all := lw_g (lw_at lw_m7 203 rfl) rfl
theorem q1713 : (Jvm.Cond.code ({ cls := "java/lang/AbstractStringBuilder", name := "inflateIfNeededFor", desc := "(Ljava/lang/String;)V" } : Jvm.MethodName) prog_18_method_71_code (2 : Nat) (Option.none : Option Jvm.ClassFile.FieldType)) ∈ lw_all := lw_g (lw_at lw_m7 204 rfl) rfl
theorem q1714 : (Jvm.Cond.methodLink "java/lang/AbstractStringBuilder" (40 : Nat) ({ cls := "java/lang/String", name := "coder", desc := "()B" } : Jvm.MethodName)) ∈ lw_all := lw_g (lw_at lw_m7 205 rfl) rfl
theorem q1715 : (Jvm.Cond.methodLink "java/lang/AbstractStringBuilder" (399 : Nat) ({ cls := "java/lang/String", name := "getBytes", desc := "([BIB)V" } : Jvm.MethodName)) ∈ lw_all := lw_g (lw_at lw_m7 206 rfl) rfl
theorem q1726 : (Jvm.Cond.instanceMethod ({ cls := "java/lang/AbstractStringBuilder", name := "append", desc := "(I)Ljava/lang/AbstractStringBuilder;" } : Jvm.MethodName)) ∈ lw_all := lw_g (lw_at lw_m7 217 rfl) rfl
theorem q1727 : (Jvm.Cond.code ({ cls := "java/lang/AbstractStringBuilder", name := "append", desc := "(I)Ljava/lang/AbstractStringBuilder;" } : Jvm.MethodName) prog_18_method_32_code (4 : Nat) (Option.some (Jvm.ClassFile.FieldType.object "java/lang/AbstractStringBuilder"))) ∈ lw_all := lw_g (lw_at lw_m7 218 rfl) rfl
theorem q1728 : (Jvm.Cond.methodLink "java/lang/AbstractStringBuilder" (245 : Nat) ({ cls := "java/lang/Integer", name := "stringSize", desc := "(I)I" } : Jvm.MethodName)) ∈ lw_all := lw_g (lw_at lw_m7 219 rfl) rfl
theorem q1731 : (Jvm.Cond.methodLink "java/lang/AbstractStringBuilder" (248 : Nat) ({ cls := "java/lang/Integer", name := "getChars", desc := "(II[B)I" } : Jvm.MethodName)) ∈ lw_all := lw_g (lw_at lw_m7 222 rfl) rfl
theorem q1738 : (Jvm.Cond.methodLink "java/lang/AbstractStringBuilder" (251 : Nat) ({ cls := "java/lang/StringUTF16", name := "getChars", desc := "(III[B)I" } : Jvm.MethodName)) ∈ lw_all := lw_g (lw_at lw_m7 229 rfl) rfl
theorem q1759 : (Jvm.Cond.instanceMethod ({ cls := "java/lang/AbstractStringBuilder", name := "getValue", desc := "()[B" } : Jvm.MethodName)) ∈ lw_all := lw_g (lw_at lw_m8 10 rfl) rfl
theorem q1760 : (Jvm.Cond.sameMethod "java/lang/AbstractStringBuilder" "java/lang/AbstractStringBuilder" "getValue" "()[B") ∈ lw_all := lw_g (lw_at lw_m8 11 rfl) rfl
theorem q1762 : (Jvm.Cond.code ({ cls := "java/lang/AbstractStringBuilder", name := "getValue", desc := "()[B" } : Jvm.MethodName) prog_18_method_64_code (1 : Nat) (Option.some (Jvm.ClassFile.FieldType.array Jvm.ClassFile.FieldType.byte))) ∈ lw_all := lw_g (lw_at lw_m8 13 rfl) rfl
theorem q1811 : (Jvm.Cond.methodLink "java/lang/AbstractStringBuilder" (133 : Nat) ({ cls := "java/lang/StringLatin1", name := "fillNull", desc := "([BII)V" } : Jvm.MethodName)) ∈ lw_all := lw_g (lw_at lw_m8 62 rfl) rfl
theorem q1833 : (Jvm.Cond.methodLink "java/lang/AbstractStringBuilder" (137 : Nat) ({ cls := "java/lang/StringUTF16", name := "fillNull", desc := "([BII)V" } : Jvm.MethodName)) ∈ lw_all := lw_g (lw_at lw_m8 84 rfl) rfl
theorem q2314 : (Jvm.Cond.sameMethod "java/lang/AbstractStringBuilder" "java/lang/AbstractStringBuilder" "length" "()I") ∈ lw_all := lw_g (lw_at lw_m10 85 rfl) rfl
theorem q2315 : (Jvm.Cond.sameMethod "java/lang/AbstractStringBuilder" "java/lang/AbstractStringBuilder" "append" "(C)Ljava/lang/AbstractStringBuilder;") ∈ lw_all := lw_g (lw_at lw_m10 86 rfl) rfl
theorem q2316 : (Jvm.Cond.sameMethod "java/lang/AbstractStringBuilder" "java/lang/AbstractStringBuilder" "ensureCapacityInternal" "(I)V") ∈ lw_all := lw_g (lw_at lw_m10 87 rfl) rfl
theorem q2317 : (Jvm.Cond.sameMethod "java/lang/AbstractStringBuilder" "java/lang/AbstractStringBuilder" "newCapacity" "(I)I") ∈ lw_all := lw_g (lw_at lw_m10 88 rfl) rfl
theorem q2318 : (Jvm.Cond.sameMethod "java/lang/AbstractStringBuilder" "java/lang/AbstractStringBuilder" "inflate" "()V") ∈ lw_all := lw_g (lw_at lw_m10 89 rfl) rfl
theorem q2319 : (Jvm.Cond.sameMethod "java/lang/AbstractStringBuilder" "java/lang/AbstractStringBuilder" "charAt" "(I)C") ∈ lw_all := lw_g (lw_at lw_m10 90 rfl) rfl
theorem q2320 : (Jvm.Cond.sameMethod "java/lang/AbstractStringBuilder" "java/lang/AbstractStringBuilder" "setLength" "(I)V") ∈ lw_all := lw_g (lw_at lw_m10 91 rfl) rfl
theorem q2321 : (Jvm.Cond.sameMethod "java/lang/AbstractStringBuilder" "java/lang/AbstractStringBuilder" "append" "(Ljava/lang/String;)Ljava/lang/AbstractStringBuilder;") ∈ lw_all := lw_g (lw_at lw_m10 92 rfl) rfl
theorem q2322 : (Jvm.Cond.sameMethod "java/lang/AbstractStringBuilder" "java/lang/AbstractStringBuilder" "appendNull" "()Ljava/lang/AbstractStringBuilder;") ∈ lw_all := lw_g (lw_at lw_m10 93 rfl) rfl
theorem q2323 : (Jvm.Cond.sameMethod "java/lang/AbstractStringBuilder" "java/lang/AbstractStringBuilder" "putStringAt" "(ILjava/lang/String;)V") ∈ lw_all := lw_g (lw_at lw_m10 94 rfl) rfl
theorem q2324 : (Jvm.Cond.sameMethod "java/lang/AbstractStringBuilder" "java/lang/AbstractStringBuilder" "inflateIfNeededFor" "(Ljava/lang/String;)V") ∈ lw_all := lw_g (lw_at lw_m10 95 rfl) rfl
theorem q2325 : (Jvm.Cond.sameMethod "java/lang/AbstractStringBuilder" "java/lang/AbstractStringBuilder" "append" "(I)Ljava/lang/AbstractStringBuilder;") ∈ lw_all := lw_g (lw_at lw_m10 96 rfl) rfl

/-! java/lang/Integer -/
def RJ20 : String := "java/lang/Integer"
def TJ20 : u_T := fun k => match k with
  | _ => ("java/lang/Integer", "value", "I", true)
def tyJ20 : Nat → FieldType := fun k => match k with
  | _ => .int
abbrev wsJ200 : List Cond := u_ws RJ20 TJ20 1
theorem nmJ20 : ∀ a, a < 1 → ∀ b, b < 1 → a ≠ b → (TJ20 a).2.1 ≠ (TJ20 b).2.1 := by decide +kernel
theorem tyJ20_ok : ∀ k, k < 1 → parseFieldDescriptor (TJ20 k).2.2.1 = some (tyJ20 k) := by decide +kernel
abbrev cJ20_bitCount : ByteArray := prog_30_method_49_code
def yJ20_bitCount : MethodName := ⟨RJ20, "bitCount", "(I)I"⟩
abbrev cJ20_valueOf : ByteArray := prog_30_method_22_code
def yJ20_valueOf : MethodName := ⟨RJ20, "valueOf", "(I)Ljava/lang/Integer;"⟩
abbrev cJ20_init : ByteArray := prog_30_method_23_code
def yJ20_init : MethodName := ⟨RJ20, "<init>", "(I)V"⟩
abbrev cJ20_intValue : ByteArray := prog_30_method_27_code
def yJ20_intValue : MethodName := ⟨RJ20, "intValue", "()I"⟩
abbrev cJ20_stringSize : ByteArray := prog_30_method_13_code
def yJ20_stringSize : MethodName := ⟨RJ20, "stringSize", "(I)I"⟩
abbrev cJ20_getChars : ByteArray := prog_30_method_12_code
def yJ20_getChars : MethodName := ⟨RJ20, "getChars", "(II[B)I"⟩
theorem q101 : (Jvm.Cond.initialized "java/lang/Integer") ∈ lw_all := lw_g (lw_at lw_m1 32 rfl) rfl
theorem q478 : (Jvm.Cond.static ({ cls := "java/lang/Integer", name := "bitCount", desc := "(I)I" } : Jvm.MethodName)) ∈ lw_all := lw_g (lw_at lw_m2 169 rfl) rfl
theorem q479 : (Jvm.Cond.code ({ cls := "java/lang/Integer", name := "bitCount", desc := "(I)I" } : Jvm.MethodName) prog_30_method_49_code (1 : Nat) (Option.some Jvm.ClassFile.FieldType.int)) ∈ lw_all := lw_g (lw_at lw_m2 170 rfl) rfl
theorem q480 : (Jvm.Cond.constant "java/lang/Integer" (265 : Nat) (1431655765 : Int32)) ∈ lw_all := lw_g (lw_at lw_m2 171 rfl) rfl
theorem q481 : (Jvm.Cond.constant "java/lang/Integer" (266 : Nat) (858993459 : Int32)) ∈ lw_all := lw_g (lw_at lw_m2 172 rfl) rfl
theorem q482 : (Jvm.Cond.constant "java/lang/Integer" (267 : Nat) (252645135 : Int32)) ∈ lw_all := lw_g (lw_at lw_m2 173 rfl) rfl
theorem q666 : (Jvm.Cond.selects "java/lang/Integer" ({ cls := "java/lang/Object", name := "getClass", desc := "()Ljava/lang/Class;" } : Jvm.MethodName) ({ cls := "java/lang/Object", name := "getClass", desc := "()Ljava/lang/Class;" } : Jvm.MethodName)) ∈ lw_all := lw_g (lw_at lw_m3 117 rfl) rfl
theorem q1124 : (Jvm.Cond.static ({ cls := "java/lang/Integer", name := "valueOf", desc := "(I)Ljava/lang/Integer;" } : Jvm.MethodName)) ∈ lw_all := lw_g (lw_at lw_m5 95 rfl) rfl
theorem q1125 : (Jvm.Cond.code ({ cls := "java/lang/Integer", name := "valueOf", desc := "(I)Ljava/lang/Integer;" } : Jvm.MethodName) prog_30_method_22_code (1 : Nat) (Option.some (Jvm.ClassFile.FieldType.object "java/lang/Integer"))) ∈ lw_all := lw_g (lw_at lw_m5 96 rfl) rfl
theorem q1126 : (Jvm.Cond.fieldLink "java/lang/Integer" (191 : Nat) "java/lang/Integer$IntegerCache" "high" "I") ∈ lw_all := lw_g (lw_at lw_m5 97 rfl) rfl
theorem q1128 : (Jvm.Cond.fieldLink "java/lang/Integer" (195 : Nat) "java/lang/Integer$IntegerCache" "cache" "[Ljava/lang/Integer;") ∈ lw_all := lw_g (lw_at lw_m5 99 rfl) rfl
theorem q1130 : (Jvm.Cond.classLink "java/lang/Integer" (1 : Nat) "java/lang/Integer") ∈ lw_all := lw_g (lw_at lw_m5 101 rfl) rfl
theorem q1131 : (Jvm.Cond.instantiable "java/lang/Integer" (1 : Nat)) ∈ lw_all := lw_g (lw_at lw_m5 102 rfl) rfl
theorem q1132 : (Jvm.Cond.methodLink "java/lang/Integer" (199 : Nat) ({ cls := "java/lang/Integer", name := "<init>", desc := "(I)V" } : Jvm.MethodName)) ∈ lw_all := lw_g (lw_at lw_m5 103 rfl) rfl
theorem q1133 : (Jvm.Cond.instanceMethod ({ cls := "java/lang/Integer", name := "<init>", desc := "(I)V" } : Jvm.MethodName)) ∈ lw_all := lw_g (lw_at lw_m5 104 rfl) rfl
theorem q1134 : (Jvm.Cond.code ({ cls := "java/lang/Integer", name := "<init>", desc := "(I)V" } : Jvm.MethodName) prog_30_method_23_code (2 : Nat) (Option.none : Option Jvm.ClassFile.FieldType)) ∈ lw_all := lw_g (lw_at lw_m5 105 rfl) rfl
theorem q1135 : (Jvm.Cond.methodLink "java/lang/Integer" (202 : Nat) ({ cls := "java/lang/Number", name := "<init>", desc := "()V" } : Jvm.MethodName)) ∈ lw_all := lw_g (lw_at lw_m5 106 rfl) rfl
theorem q1139 : (Jvm.Cond.fieldLink "java/lang/Integer" (205 : Nat) "java/lang/Integer" "value" "I") ∈ lw_all := lw_g (lw_at lw_m5 110 rfl) rfl
theorem q1140 : (Jvm.Cond.laysFinal "java/lang/Integer" "java/lang/Integer" "value" "I") ∈ lw_all := lw_g (lw_at lw_m5 111 rfl) rfl
theorem q1141 : (Jvm.Cond.soleField "java/lang/Integer" "value") ∈ lw_all := lw_g (lw_at lw_m5 112 rfl) rfl
theorem q1142 : (Jvm.Cond.superclass "java/lang/Integer" "java/lang/Number") ∈ lw_all := lw_g (lw_at lw_m5 113 rfl) rfl
theorem q1181 : (Jvm.Cond.instanceMethod ({ cls := "java/lang/Integer", name := "intValue", desc := "()I" } : Jvm.MethodName)) ∈ lw_all := lw_g (lw_at lw_m5 152 rfl) rfl
theorem q1182 : (Jvm.Cond.selects "java/lang/Integer" ({ cls := "java/lang/Integer", name := "intValue", desc := "()I" } : Jvm.MethodName) ({ cls := "java/lang/Integer", name := "intValue", desc := "()I" } : Jvm.MethodName)) ∈ lw_all := lw_g (lw_at lw_m5 153 rfl) rfl
theorem q1183 : (Jvm.Cond.code ({ cls := "java/lang/Integer", name := "intValue", desc := "()I" } : Jvm.MethodName) prog_30_method_27_code (1 : Nat) (Option.some Jvm.ClassFile.FieldType.int)) ∈ lw_all := lw_g (lw_at lw_m5 154 rfl) rfl
theorem q1729 : (Jvm.Cond.static ({ cls := "java/lang/Integer", name := "stringSize", desc := "(I)I" } : Jvm.MethodName)) ∈ lw_all := lw_g (lw_at lw_m7 220 rfl) rfl
theorem q1730 : (Jvm.Cond.code ({ cls := "java/lang/Integer", name := "stringSize", desc := "(I)I" } : Jvm.MethodName) prog_30_method_13_code (4 : Nat) (Option.some Jvm.ClassFile.FieldType.int)) ∈ lw_all := lw_g (lw_at lw_m7 221 rfl) rfl
theorem q1732 : (Jvm.Cond.static ({ cls := "java/lang/Integer", name := "getChars", desc := "(II[B)I" } : Jvm.MethodName)) ∈ lw_all := lw_g (lw_at lw_m7 223 rfl) rfl
theorem q1733 : (Jvm.Cond.code ({ cls := "java/lang/Integer", name := "getChars", desc := "(II[B)I" } : Jvm.MethodName) prog_30_method_12_code (7 : Nat) (Option.some Jvm.ClassFile.FieldType.int)) ∈ lw_all := lw_g (lw_at lw_m7 224 rfl) rfl
theorem q1734 : (Jvm.Cond.fieldLink "java/lang/Integer" (83 : Nat) "java/lang/Integer" "DigitOnes" "[B") ∈ lw_all := lw_g (lw_at lw_m7 225 rfl) rfl
theorem q1735 : (Jvm.Cond.laysStatic "java/lang/Integer" "DigitOnes" "[B") ∈ lw_tbl := lw_at lw_m7 226 rfl
theorem q1736 : (Jvm.Cond.fieldLink "java/lang/Integer" (87 : Nat) "java/lang/Integer" "DigitTens" "[B") ∈ lw_all := lw_g (lw_at lw_m7 227 rfl) rfl
theorem q1737 : (Jvm.Cond.laysStatic "java/lang/Integer" "DigitTens" "[B") ∈ lw_tbl := lw_at lw_m7 228 rfl
theorem q2348 : (Jvm.Cond.castable "java/lang/Integer" "java/lang/Object") ∈ lw_tbl := lw_at lw_m10 119 rfl
theorem in_J20 : ∀ w ∈ wsJ200, w ∈ lw_all := lw_in wsJ200 [1140] (by decide +kernel) (by decide +kernel)

/-! java/lang/ArithmeticException -/
def RJ21 : String := "java/lang/ArithmeticException"
def TJ21 : u_T := fun k => match k with
  | 0 => ("java/lang/Throwable", "backtrace", "Ljava/lang/Object;", false)
  | 1 => ("java/lang/Throwable", "detailMessage", "Ljava/lang/String;", false)
  | 2 => ("java/lang/Throwable", "cause", "Ljava/lang/Throwable;", false)
  | 3 => ("java/lang/Throwable", "stackTrace", "[Ljava/lang/StackTraceElement;", false)
  | 4 => ("java/lang/Throwable", "depth", "I", false)
  | _ => ("java/lang/Throwable", "suppressedExceptions", "Ljava/util/List;", false)
def tyJ21 : Nat → FieldType := fun k => match k with
  | 0 => .object "java/lang/Object"
  | 1 => .object "java/lang/String"
  | 2 => .object "java/lang/Throwable"
  | 3 => .array (.object "java/lang/StackTraceElement")
  | 4 => .int
  | _ => .object "java/util/List"
abbrev wsJ210 : List Cond := u_ws RJ21 TJ21 6
theorem nmJ21 : ∀ a, a < 6 → ∀ b, b < 6 → a ≠ b → (TJ21 a).2.1 ≠ (TJ21 b).2.1 := by decide +kernel
theorem tyJ21_ok : ∀ k, k < 6 → parseFieldDescriptor (TJ21 k).2.2.1 = some (tyJ21 k) := by decide +kernel
abbrev cJ21_init : ByteArray := prog_20_method_2_code
def yJ21_init : MethodName := ⟨RJ21, "<init>", "(Ljava/lang/String;)V"⟩
abbrev cJ21_init_2 : ByteArray := prog_20_method_1_code
def yJ21_init_2 : MethodName := ⟨RJ21, "<init>", "()V"⟩
theorem q105 : (Jvm.Cond.initialized "java/lang/ArithmeticException") ∈ lw_all := lw_g (lw_at lw_m1 36 rfl) rfl
theorem q564 : (Jvm.Cond.selects "java/lang/ArithmeticException" ({ cls := "java/lang/Throwable", name := "fillInStackTrace", desc := "()Ljava/lang/Throwable;" } : Jvm.MethodName) ({ cls := "java/lang/Throwable", name := "fillInStackTrace", desc := "()Ljava/lang/Throwable;" } : Jvm.MethodName)) ∈ lw_all := lw_g (lw_at lw_m3 15 rfl) rfl
theorem q661 : (Jvm.Cond.selects "java/lang/ArithmeticException" ({ cls := "java/lang/Object", name := "getClass", desc := "()Ljava/lang/Class;" } : Jvm.MethodName) ({ cls := "java/lang/Object", name := "getClass", desc := "()Ljava/lang/Class;" } : Jvm.MethodName)) ∈ lw_all := lw_g (lw_at lw_m3 112 rfl) rfl
theorem q1358 : (Jvm.Cond.instantiable "java/lang/ArithmeticException" (6 : Nat)) ∈ lw_all := lw_g (lw_at lw_m6 89 rfl) rfl
theorem q1359 : (Jvm.Cond.instanceMethod ({ cls := "java/lang/ArithmeticException", name := "<init>", desc := "(Ljava/lang/String;)V" } : Jvm.MethodName)) ∈ lw_all := lw_g (lw_at lw_m6 90 rfl) rfl
theorem q1360 : (Jvm.Cond.code ({ cls := "java/lang/ArithmeticException", name := "<init>", desc := "(Ljava/lang/String;)V" } : Jvm.MethodName) prog_20_method_2_code (2 : Nat) (Option.none : Option Jvm.ClassFile.FieldType)) ∈ lw_all := lw_g (lw_at lw_m6 91 rfl) rfl
theorem q1361 : (Jvm.Cond.methodLink "java/lang/ArithmeticException" (7 : Nat) ({ cls := "java/lang/RuntimeException", name := "<init>", desc := "(Ljava/lang/String;)V" } : Jvm.MethodName)) ∈ lw_all := lw_g (lw_at lw_m6 92 rfl) rfl
theorem q1362 : (Jvm.Cond.lays "java/lang/ArithmeticException" "java/lang/Throwable" "backtrace" "Ljava/lang/Object;") ∈ lw_all := lw_g (lw_at lw_m6 93 rfl) rfl
theorem q1363 : (Jvm.Cond.lays "java/lang/ArithmeticException" "java/lang/Throwable" "detailMessage" "Ljava/lang/String;") ∈ lw_all := lw_g (lw_at lw_m6 94 rfl) rfl
theorem q1364 : (Jvm.Cond.lays "java/lang/ArithmeticException" "java/lang/Throwable" "cause" "Ljava/lang/Throwable;") ∈ lw_all := lw_g (lw_at lw_m6 95 rfl) rfl
theorem q1365 : (Jvm.Cond.lays "java/lang/ArithmeticException" "java/lang/Throwable" "stackTrace" "[Ljava/lang/StackTraceElement;") ∈ lw_all := lw_g (lw_at lw_m6 96 rfl) rfl
theorem q1366 : (Jvm.Cond.lays "java/lang/ArithmeticException" "java/lang/Throwable" "depth" "I") ∈ lw_all := lw_g (lw_at lw_m6 97 rfl) rfl
theorem q1367 : (Jvm.Cond.lays "java/lang/ArithmeticException" "java/lang/Throwable" "suppressedExceptions" "Ljava/util/List;") ∈ lw_all := lw_g (lw_at lw_m6 98 rfl) rfl
theorem q1368 : (Jvm.Cond.superclass "java/lang/ArithmeticException" "java/lang/RuntimeException") ∈ lw_all := lw_g (lw_at lw_m6 99 rfl) rfl
theorem q1369 : (Jvm.Cond.castable "java/lang/ArithmeticException" "java/lang/ArithmeticException") ∈ lw_tbl := lw_at lw_m6 100 rfl
theorem q1370 : (Jvm.Cond.selects "java/lang/ArithmeticException" ({ cls := "java/lang/Throwable", name := "fillInStackTrace", desc := "(I)Ljava/lang/Throwable;" } : Jvm.MethodName) ({ cls := "java/lang/Throwable", name := "fillInStackTrace", desc := "(I)Ljava/lang/Throwable;" } : Jvm.MethodName)) ∈ lw_all := lw_g (lw_at lw_m6 101 rfl) rfl
theorem q1377 : (Jvm.Cond.instanceMethod ({ cls := "java/lang/ArithmeticException", name := "<init>", desc := "()V" } : Jvm.MethodName)) ∈ lw_all := lw_g (lw_at lw_m6 108 rfl) rfl
theorem q1378 : (Jvm.Cond.code ({ cls := "java/lang/ArithmeticException", name := "<init>", desc := "()V" } : Jvm.MethodName) prog_20_method_1_code (1 : Nat) (Option.none : Option Jvm.ClassFile.FieldType)) ∈ lw_all := lw_g (lw_at lw_m6 109 rfl) rfl
theorem q1379 : (Jvm.Cond.methodLink "java/lang/ArithmeticException" (1 : Nat) ({ cls := "java/lang/RuntimeException", name := "<init>", desc := "()V" } : Jvm.MethodName)) ∈ lw_all := lw_g (lw_at lw_m6 110 rfl) rfl
theorem q2351 : (Jvm.Cond.castable "java/lang/ArithmeticException" "java/lang/Object") ∈ lw_tbl := lw_at lw_m10 122 rfl
theorem in_J21 : ∀ w ∈ wsJ210, w ∈ lw_all := lw_in wsJ210 [1362, 1363, 1364, 1365, 1366, 1367] (by decide +kernel) (by decide +kernel)

/-! jdk/internal/util/ArraysSupport -/
def RJ22 : String := "jdk/internal/util/ArraysSupport"
abbrev cJ22_newLength : ByteArray := prog_61_method_27_code
def yJ22_newLength : MethodName := ⟨RJ22, "newLength", "(III)I"⟩
abbrev cJ22_hugeLength : ByteArray := prog_61_method_28_code
def yJ22_hugeLength : MethodName := ⟨RJ22, "hugeLength", "(II)I"⟩
theorem q106 : (Jvm.Cond.initialized "jdk/internal/util/ArraysSupport") ∈ lw_all := lw_g (lw_at lw_m1 37 rfl) rfl
theorem q1419 : (Jvm.Cond.static ({ cls := "jdk/internal/util/ArraysSupport", name := "newLength", desc := "(III)I" } : Jvm.MethodName)) ∈ lw_all := lw_g (lw_at lw_m6 150 rfl) rfl
theorem q1420 : (Jvm.Cond.code ({ cls := "jdk/internal/util/ArraysSupport", name := "newLength", desc := "(III)I" } : Jvm.MethodName) prog_61_method_27_code (4 : Nat) (Option.some Jvm.ClassFile.FieldType.int)) ∈ lw_all := lw_g (lw_at lw_m6 151 rfl) rfl
theorem q1421 : (Jvm.Cond.methodLink "jdk/internal/util/ArraysSupport" (194 : Nat) ({ cls := "java/lang/Math", name := "max", desc := "(II)I" } : Jvm.MethodName)) ∈ lw_all := lw_g (lw_at lw_m6 152 rfl) rfl
theorem q1422 : (Jvm.Cond.constant "jdk/internal/util/ArraysSupport" (200 : Nat) (2147483639 : Int32)) ∈ lw_all := lw_g (lw_at lw_m6 153 rfl) rfl
theorem q1423 : (Jvm.Cond.methodLink "jdk/internal/util/ArraysSupport" (201 : Nat) ({ cls := "jdk/internal/util/ArraysSupport", name := "hugeLength", desc := "(II)I" } : Jvm.MethodName)) ∈ lw_all := lw_g (lw_at lw_m6 154 rfl) rfl
theorem q1424 : (Jvm.Cond.static ({ cls := "jdk/internal/util/ArraysSupport", name := "hugeLength", desc := "(II)I" } : Jvm.MethodName)) ∈ lw_all := lw_g (lw_at lw_m6 155 rfl) rfl
theorem q1425 : (Jvm.Cond.code ({ cls := "jdk/internal/util/ArraysSupport", name := "hugeLength", desc := "(II)I" } : Jvm.MethodName) prog_61_method_28_code (3 : Nat) (Option.some Jvm.ClassFile.FieldType.int)) ∈ lw_all := lw_g (lw_at lw_m6 156 rfl) rfl

/-! java/lang/StringLatin1 -/
def RJ23 : String := "java/lang/StringLatin1"
abbrev cJ23_canEncode : ByteArray := prog_39_method_3_code
def yJ23_canEncode : MethodName := ⟨RJ23, "canEncode", "(C)Z"⟩
abbrev cJ23_inflate : ByteArray := prog_39_method_50_code
def yJ23_inflate : MethodName := ⟨RJ23, "inflate", "([BI[BII)V"⟩
abbrev cJ23_fillNull : ByteArray := prog_39_method_48_code
def yJ23_fillNull : MethodName := ⟨RJ23, "fillNull", "([BII)V"⟩
abbrev cJ23_indexOf : ByteArray := prog_39_method_22_code
def yJ23_indexOf : MethodName := ⟨RJ23, "indexOf", "([BIII)I"⟩
abbrev cJ23_canEncode_2 : ByteArray := prog_39_method_4_code
def yJ23_canEncode_2 : MethodName := ⟨RJ23, "canEncode", "(I)Z"⟩
abbrev cJ23_indexOfChar : ByteArray := prog_39_method_23_code
def yJ23_indexOfChar : MethodName := ⟨RJ23, "indexOfChar", "([BIII)I"⟩
theorem q107 : (Jvm.Cond.initialized "java/lang/StringLatin1") ∈ lw_all := lw_g (lw_at lw_m1 38 rfl) rfl
theorem q1443 : (Jvm.Cond.static ({ cls := "java/lang/StringLatin1", name := "canEncode", desc := "(C)Z" } : Jvm.MethodName)) ∈ lw_all := lw_g (lw_at lw_m6 174 rfl) rfl
theorem q1444 : (Jvm.Cond.code ({ cls := "java/lang/StringLatin1", name := "canEncode", desc := "(C)Z" } : Jvm.MethodName) prog_39_method_3_code (1 : Nat) (Option.some Jvm.ClassFile.FieldType.boolean)) ∈ lw_all := lw_g (lw_at lw_m6 175 rfl) rfl
theorem q1450 : (Jvm.Cond.static ({ cls := "java/lang/StringLatin1", name := "inflate", desc := "([BI[BII)V" } : Jvm.MethodName)) ∈ lw_all := lw_g (lw_at lw_m6 181 rfl) rfl
theorem q1451 : (Jvm.Cond.code ({ cls := "java/lang/StringLatin1", name := "inflate", desc := "([BI[BII)V" } : Jvm.MethodName) prog_39_method_50_code (5 : Nat) (Option.none : Option Jvm.ClassFile.FieldType)) ∈ lw_all := lw_g (lw_at lw_m6 182 rfl) rfl
theorem q1452 : (Jvm.Cond.methodLink "java/lang/StringLatin1" (240 : Nat) ({ cls := "java/lang/StringUTF16", name := "inflate", desc := "([BI[BII)V" } : Jvm.MethodName)) ∈ lw_all := lw_g (lw_at lw_m6 183 rfl) rfl
theorem q1812 : (Jvm.Cond.static ({ cls := "java/lang/StringLatin1", name := "fillNull", desc := "([BII)V" } : Jvm.MethodName)) ∈ lw_all := lw_g (lw_at lw_m8 63 rfl) rfl
theorem q1813 : (Jvm.Cond.code ({ cls := "java/lang/StringLatin1", name := "fillNull", desc := "([BII)V" } : Jvm.MethodName) prog_39_method_48_code (3 : Nat) (Option.none : Option Jvm.ClassFile.FieldType)) ∈ lw_all := lw_g (lw_at lw_m8 64 rfl) rfl
theorem q1814 : (Jvm.Cond.methodLink "java/lang/StringLatin1" (236 : Nat) ({ cls := "java/util/Arrays", name := "fill", desc := "([BIIB)V" } : Jvm.MethodName)) ∈ lw_all := lw_g (lw_at lw_m8 65 rfl) rfl
theorem q2231 : (Jvm.Cond.static ({ cls := "java/lang/StringLatin1", name := "indexOf", desc := "([BIII)I" } : Jvm.MethodName)) ∈ lw_all := lw_g (lw_at lw_m10 2 rfl) rfl
theorem q2232 : (Jvm.Cond.code ({ cls := "java/lang/StringLatin1", name := "indexOf", desc := "([BIII)I" } : Jvm.MethodName) prog_39_method_22_code (4 : Nat) (Option.some Jvm.ClassFile.FieldType.int)) ∈ lw_all := lw_g (lw_at lw_m10 3 rfl) rfl
theorem q2233 : (Jvm.Cond.methodLink "java/lang/StringLatin1" (88 : Nat) ({ cls := "java/lang/StringLatin1", name := "canEncode", desc := "(I)Z" } : Jvm.MethodName)) ∈ lw_all := lw_g (lw_at lw_m10 4 rfl) rfl
theorem q2234 : (Jvm.Cond.static ({ cls := "java/lang/StringLatin1", name := "canEncode", desc := "(I)Z" } : Jvm.MethodName)) ∈ lw_all := lw_g (lw_at lw_m10 5 rfl) rfl
theorem q2235 : (Jvm.Cond.code ({ cls := "java/lang/StringLatin1", name := "canEncode", desc := "(I)Z" } : Jvm.MethodName) prog_39_method_4_code (1 : Nat) (Option.some Jvm.ClassFile.FieldType.boolean)) ∈ lw_all := lw_g (lw_at lw_m10 6 rfl) rfl
theorem q2236 : (Jvm.Cond.methodLink "java/lang/StringLatin1" (92 : Nat) ({ cls := "java/lang/Math", name := "max", desc := "(II)I" } : Jvm.MethodName)) ∈ lw_all := lw_g (lw_at lw_m10 7 rfl) rfl
theorem q2237 : (Jvm.Cond.methodLink "java/lang/StringLatin1" (38 : Nat) ({ cls := "java/lang/Math", name := "min", desc := "(II)I" } : Jvm.MethodName)) ∈ lw_all := lw_g (lw_at lw_m10 8 rfl) rfl
theorem q2238 : (Jvm.Cond.methodLink "java/lang/StringLatin1" (95 : Nat) ({ cls := "java/lang/StringLatin1", name := "indexOfChar", desc := "([BIII)I" } : Jvm.MethodName)) ∈ lw_all := lw_g (lw_at lw_m10 9 rfl) rfl
theorem q2239 : (Jvm.Cond.static ({ cls := "java/lang/StringLatin1", name := "indexOfChar", desc := "([BIII)I" } : Jvm.MethodName)) ∈ lw_all := lw_g (lw_at lw_m10 10 rfl) rfl
theorem q2240 : (Jvm.Cond.code ({ cls := "java/lang/StringLatin1", name := "indexOfChar", desc := "([BIII)I" } : Jvm.MethodName) prog_39_method_23_code (6 : Nat) (Option.some Jvm.ClassFile.FieldType.int)) ∈ lw_all := lw_g (lw_at lw_m10 11 rfl) rfl

/-! jdk/internal/util/Preconditions -/
def RJ24 : String := "jdk/internal/util/Preconditions"
abbrev cJ24_checkFromIndexSize : ByteArray := prog_62_method_13_code
def yJ24_checkFromIndexSize : MethodName := ⟨RJ24, "checkFromIndexSize", "(IIILjava/util/function/BiFunction;)I"⟩
abbrev cJ24_checkIndex : ByteArray := prog_62_method_11_code
def yJ24_checkIndex : MethodName := ⟨RJ24, "checkIndex", "(IILjava/util/function/BiFunction;)I"⟩
abbrev cJ24_checkFromToIndex : ByteArray := prog_62_method_12_code
def yJ24_checkFromToIndex : MethodName := ⟨RJ24, "checkFromToIndex", "(IIILjava/util/function/BiFunction;)I"⟩
theorem q108 : (Jvm.Cond.initialized "jdk/internal/util/Preconditions") ∈ lw_all := lw_g (lw_at lw_m1 39 rfl) rfl
theorem q1465 : (Jvm.Cond.laysStatic "jdk/internal/util/Preconditions" "SIOOBE_FORMATTER" "Ljava/util/function/BiFunction;") ∈ lw_tbl := lw_at lw_m6 196 rfl
theorem q1467 : (Jvm.Cond.static ({ cls := "jdk/internal/util/Preconditions", name := "checkFromIndexSize", desc := "(IIILjava/util/function/BiFunction;)I" } : Jvm.MethodName)) ∈ lw_all := lw_g (lw_at lw_m6 198 rfl) rfl
theorem q1468 : (Jvm.Cond.code ({ cls := "jdk/internal/util/Preconditions", name := "checkFromIndexSize", desc := "(IIILjava/util/function/BiFunction;)I" } : Jvm.MethodName) prog_62_method_13_code (4 : Nat) (Option.some Jvm.ClassFile.FieldType.int)) ∈ lw_all := lw_g (lw_at lw_m6 199 rfl) rfl
theorem q1488 : (Jvm.Cond.static ({ cls := "jdk/internal/util/Preconditions", name := "checkIndex", desc := "(IILjava/util/function/BiFunction;)I" } : Jvm.MethodName)) ∈ lw_all := lw_g (lw_at lw_m6 219 rfl) rfl
theorem q1489 : (Jvm.Cond.code ({ cls := "jdk/internal/util/Preconditions", name := "checkIndex", desc := "(IILjava/util/function/BiFunction;)I" } : Jvm.MethodName) prog_62_method_11_code (3 : Nat) (Option.some Jvm.ClassFile.FieldType.int)) ∈ lw_all := lw_g (lw_at lw_m6 220 rfl) rfl
theorem q1695 : (Jvm.Cond.static ({ cls := "jdk/internal/util/Preconditions", name := "checkFromToIndex", desc := "(IIILjava/util/function/BiFunction;)I" } : Jvm.MethodName)) ∈ lw_all := lw_g (lw_at lw_m7 186 rfl) rfl
theorem q1696 : (Jvm.Cond.code ({ cls := "jdk/internal/util/Preconditions", name := "checkFromToIndex", desc := "(IIILjava/util/function/BiFunction;)I" } : Jvm.MethodName) prog_62_method_12_code (4 : Nat) (Option.some Jvm.ClassFile.FieldType.int)) ∈ lw_all := lw_g (lw_at lw_m7 187 rfl) rfl

/-! java/util/AbstractList -/
def RJ25 : String := "java/util/AbstractList"
abbrev cJ25_init : ByteArray := prog_47_method_1_code
def yJ25_init : MethodName := ⟨RJ25, "<init>", "()V"⟩
theorem q110 : (Jvm.Cond.initialized "java/util/AbstractList") ∈ lw_all := lw_g (lw_at lw_m1 41 rfl) rfl
theorem q1525 : (Jvm.Cond.instanceMethod ({ cls := "java/util/AbstractList", name := "<init>", desc := "()V" } : Jvm.MethodName)) ∈ lw_all := lw_g (lw_at lw_m7 16 rfl) rfl
theorem q1526 : (Jvm.Cond.code ({ cls := "java/util/AbstractList", name := "<init>", desc := "()V" } : Jvm.MethodName) prog_47_method_1_code (1 : Nat) (Option.none : Option Jvm.ClassFile.FieldType)) ∈ lw_all := lw_g (lw_at lw_m7 17 rfl) rfl
theorem q1527 : (Jvm.Cond.methodLink "java/util/AbstractList" (1 : Nat) ({ cls := "java/util/AbstractCollection", name := "<init>", desc := "()V" } : Jvm.MethodName)) ∈ lw_all := lw_g (lw_at lw_m7 18 rfl) rfl
theorem q1534 : (Jvm.Cond.fieldLink "java/util/AbstractList" (7 : Nat) "java/util/AbstractList" "modCount" "I") ∈ lw_all := lw_g (lw_at lw_m7 25 rfl) rfl
theorem q1543 : (Jvm.Cond.soleField "java/util/AbstractList" "modCount") ∈ lw_all := lw_g (lw_at lw_m7 34 rfl) rfl

/-! java/util/ArrayList -/
def RJ26 : String := "java/util/ArrayList"
def TJ26 : u_T := fun k => match k with
  | 0 => ("java/util/AbstractList", "modCount", "I", false)
  | 1 => ("java/util/ArrayList", "elementData", "[Ljava/lang/Object;", false)
  | _ => ("java/util/ArrayList", "size", "I", false)
def tyJ26 : Nat → FieldType := fun k => match k with
  | 0 => .int
  | 1 => .array (.object "java/lang/Object")
  | _ => .int
abbrev wsJ260 : List Cond := u_ws RJ26 TJ26 3
theorem nmJ26 : ∀ a, a < 3 → ∀ b, b < 3 → a ≠ b → (TJ26 a).2.1 ≠ (TJ26 b).2.1 := by decide +kernel
theorem tyJ26_ok : ∀ k, k < 3 → parseFieldDescriptor (TJ26 k).2.2.1 = some (tyJ26 k) := by decide +kernel
abbrev cJ26_iterator : ByteArray := prog_50_method_55_code
def yJ26_iterator : MethodName := ⟨RJ26, "iterator", "()Ljava/util/Iterator;"⟩
abbrev cJ26_init : ByteArray := prog_50_method_2_code
def yJ26_init : MethodName := ⟨RJ26, "<init>", "()V"⟩
abbrev cJ26_add : ByteArray := prog_50_method_25_code
def yJ26_add : MethodName := ⟨RJ26, "add", "(Ljava/lang/Object;)Z"⟩
abbrev cJ26_add_2 : ByteArray := prog_50_method_24_code
def yJ26_add_2 : MethodName := ⟨RJ26, "add", "(Ljava/lang/Object;[Ljava/lang/Object;I)V"⟩
abbrev cJ26_grow : ByteArray := prog_50_method_7_code
def yJ26_grow : MethodName := ⟨RJ26, "grow", "()[Ljava/lang/Object;"⟩
abbrev cJ26_grow_2 : ByteArray := prog_50_method_6_code
def yJ26_grow_2 : MethodName := ⟨RJ26, "grow", "(I)[Ljava/lang/Object;"⟩
theorem q111 : (Jvm.Cond.initialized "java/util/ArrayList") ∈ lw_all := lw_g (lw_at lw_m1 42 rfl) rfl
theorem q673 : (Jvm.Cond.selects "java/util/ArrayList" ({ cls := "java/lang/Object", name := "getClass", desc := "()Ljava/lang/Class;" } : Jvm.MethodName) ({ cls := "java/lang/Object", name := "getClass", desc := "()Ljava/lang/Class;" } : Jvm.MethodName)) ∈ lw_all := lw_g (lw_at lw_m3 124 rfl) rfl
theorem q973 : (Jvm.Cond.castable "java/util/ArrayList" "java/lang/Iterable") ∈ lw_tbl := lw_at lw_m4 184 rfl
theorem q974 : (Jvm.Cond.selects "java/util/ArrayList" ({ cls := "java/lang/Iterable", name := "iterator", desc := "()Ljava/util/Iterator;" } : Jvm.MethodName) ({ cls := "java/util/ArrayList", name := "iterator", desc := "()Ljava/util/Iterator;" } : Jvm.MethodName)) ∈ lw_all := lw_g (lw_at lw_m4 185 rfl) rfl
theorem q975 : (Jvm.Cond.unhidden "java/util/ArrayList" "iterator" "()Ljava/util/Iterator;") ∈ lw_tbl := lw_at lw_m4 186 rfl
theorem q976 : (Jvm.Cond.instanceMethod ({ cls := "java/util/ArrayList", name := "iterator", desc := "()Ljava/util/Iterator;" } : Jvm.MethodName)) ∈ lw_all := lw_g (lw_at lw_m4 187 rfl) rfl
theorem q977 : (Jvm.Cond.publicMethod ({ cls := "java/util/ArrayList", name := "iterator", desc := "()Ljava/util/Iterator;" } : Jvm.MethodName)) ∈ lw_tbl := lw_at lw_m4 188 rfl
theorem q978 : (Jvm.Cond.code ({ cls := "java/util/ArrayList", name := "iterator", desc := "()Ljava/util/Iterator;" } : Jvm.MethodName) prog_50_method_55_code (1 : Nat) (Option.some (Jvm.ClassFile.FieldType.object "java/util/Iterator"))) ∈ lw_all := lw_g (lw_at lw_m4 189 rfl) rfl
theorem q979 : (Jvm.Cond.classLink "java/util/ArrayList" (267 : Nat) "java/util/ArrayList$Itr") ∈ lw_all := lw_g (lw_at lw_m4 190 rfl) rfl
theorem q981 : (Jvm.Cond.methodLink "java/util/ArrayList" (269 : Nat) ({ cls := "java/util/ArrayList$Itr", name := "<init>", desc := "(Ljava/util/ArrayList;)V" } : Jvm.MethodName)) ∈ lw_all := lw_g (lw_at lw_m4 192 rfl) rfl
theorem q1520 : (Jvm.Cond.instantiable "java/util/ArrayList" (3 : Nat)) ∈ lw_all := lw_g (lw_at lw_m7 11 rfl) rfl
theorem q1522 : (Jvm.Cond.instanceMethod ({ cls := "java/util/ArrayList", name := "<init>", desc := "()V" } : Jvm.MethodName)) ∈ lw_all := lw_g (lw_at lw_m7 13 rfl) rfl
theorem q1523 : (Jvm.Cond.code ({ cls := "java/util/ArrayList", name := "<init>", desc := "()V" } : Jvm.MethodName) prog_50_method_2_code (1 : Nat) (Option.none : Option Jvm.ClassFile.FieldType)) ∈ lw_all := lw_g (lw_at lw_m7 14 rfl) rfl
theorem q1524 : (Jvm.Cond.methodLink "java/util/ArrayList" (1 : Nat) ({ cls := "java/util/AbstractList", name := "<init>", desc := "()V" } : Jvm.MethodName)) ∈ lw_all := lw_g (lw_at lw_m7 15 rfl) rfl
theorem q1528 : (Jvm.Cond.fieldLink "java/util/ArrayList" (39 : Nat) "java/util/ArrayList" "DEFAULTCAPACITY_EMPTY_ELEMENTDATA" "[Ljava/lang/Object;") ∈ lw_all := lw_g (lw_at lw_m7 19 rfl) rfl
theorem q1529 : (Jvm.Cond.laysStatic "java/util/ArrayList" "DEFAULTCAPACITY_EMPTY_ELEMENTDATA" "[Ljava/lang/Object;") ∈ lw_tbl := lw_at lw_m7 20 rfl
theorem q1530 : (Jvm.Cond.fieldLink "java/util/ArrayList" (9 : Nat) "java/util/ArrayList" "elementData" "[Ljava/lang/Object;") ∈ lw_all := lw_g (lw_at lw_m7 21 rfl) rfl
theorem q1533 : (Jvm.Cond.fieldLink "java/util/ArrayList" (48 : Nat) "java/util/ArrayList" "size" "I") ∈ lw_all := lw_g (lw_at lw_m7 24 rfl) rfl
theorem q1536 : (Jvm.Cond.sameField "java/util/ArrayList" "java/util/AbstractList" "modCount" "I") ∈ lw_all := lw_g (lw_at lw_m7 27 rfl) rfl
theorem q1537 : (Jvm.Cond.fieldLink "java/util/ArrayList" (63 : Nat) "java/util/ArrayList" "modCount" "I") ∈ lw_all := lw_g (lw_at lw_m7 28 rfl) rfl
theorem q1538 : (Jvm.Cond.lays "java/util/ArrayList" "java/util/ArrayList" "elementData" "[Ljava/lang/Object;") ∈ lw_all := lw_g (lw_at lw_m7 29 rfl) rfl
theorem q1539 : (Jvm.Cond.soleField "java/util/ArrayList" "elementData") ∈ lw_all := lw_g (lw_at lw_m7 30 rfl) rfl
theorem q1540 : (Jvm.Cond.lays "java/util/ArrayList" "java/util/ArrayList" "size" "I") ∈ lw_all := lw_g (lw_at lw_m7 31 rfl) rfl
theorem q1541 : (Jvm.Cond.soleField "java/util/ArrayList" "size") ∈ lw_all := lw_g (lw_at lw_m7 32 rfl) rfl
theorem q1542 : (Jvm.Cond.lays "java/util/ArrayList" "java/util/AbstractList" "modCount" "I") ∈ lw_all := lw_g (lw_at lw_m7 33 rfl) rfl
theorem q1544 : (Jvm.Cond.superclass "java/util/ArrayList" "java/util/AbstractList") ∈ lw_all := lw_g (lw_at lw_m7 35 rfl) rfl
theorem q1637 : (Jvm.Cond.castable "java/util/ArrayList" "java/util/List") ∈ lw_tbl := lw_at lw_m7 128 rfl
theorem q1638 : (Jvm.Cond.selects "java/util/ArrayList" ({ cls := "java/util/List", name := "add", desc := "(Ljava/lang/Object;)Z" } : Jvm.MethodName) ({ cls := "java/util/ArrayList", name := "add", desc := "(Ljava/lang/Object;)Z" } : Jvm.MethodName)) ∈ lw_all := lw_g (lw_at lw_m7 129 rfl) rfl
theorem q1639 : (Jvm.Cond.unhidden "java/util/ArrayList" "add" "(Ljava/lang/Object;)Z") ∈ lw_tbl := lw_at lw_m7 130 rfl
theorem q1640 : (Jvm.Cond.instanceMethod ({ cls := "java/util/ArrayList", name := "add", desc := "(Ljava/lang/Object;)Z" } : Jvm.MethodName)) ∈ lw_all := lw_g (lw_at lw_m7 131 rfl) rfl
theorem q1641 : (Jvm.Cond.publicMethod ({ cls := "java/util/ArrayList", name := "add", desc := "(Ljava/lang/Object;)Z" } : Jvm.MethodName)) ∈ lw_tbl := lw_at lw_m7 132 rfl
theorem q1642 : (Jvm.Cond.code ({ cls := "java/util/ArrayList", name := "add", desc := "(Ljava/lang/Object;)Z" } : Jvm.MethodName) prog_50_method_25_code (2 : Nat) (Option.some Jvm.ClassFile.FieldType.boolean)) ∈ lw_all := lw_g (lw_at lw_m7 133 rfl) rfl
theorem q1643 : (Jvm.Cond.methodLink "java/util/ArrayList" (131 : Nat) ({ cls := "java/util/ArrayList", name := "add", desc := "(Ljava/lang/Object;[Ljava/lang/Object;I)V" } : Jvm.MethodName)) ∈ lw_all := lw_g (lw_at lw_m7 134 rfl) rfl
theorem q1644 : (Jvm.Cond.privateMethod ({ cls := "java/util/ArrayList", name := "add", desc := "(Ljava/lang/Object;[Ljava/lang/Object;I)V" } : Jvm.MethodName)) ∈ lw_tbl := lw_at lw_m7 135 rfl
theorem q1645 : (Jvm.Cond.instanceMethod ({ cls := "java/util/ArrayList", name := "add", desc := "(Ljava/lang/Object;[Ljava/lang/Object;I)V" } : Jvm.MethodName)) ∈ lw_all := lw_g (lw_at lw_m7 136 rfl) rfl
theorem q1646 : (Jvm.Cond.code ({ cls := "java/util/ArrayList", name := "add", desc := "(Ljava/lang/Object;[Ljava/lang/Object;I)V" } : Jvm.MethodName) prog_50_method_24_code (4 : Nat) (Option.none : Option Jvm.ClassFile.FieldType)) ∈ lw_all := lw_g (lw_at lw_m7 137 rfl) rfl
theorem q1647 : (Jvm.Cond.methodLink "java/util/ArrayList" (129 : Nat) ({ cls := "java/util/ArrayList", name := "grow", desc := "()[Ljava/lang/Object;" } : Jvm.MethodName)) ∈ lw_all := lw_g (lw_at lw_m7 138 rfl) rfl
theorem q1648 : (Jvm.Cond.privateMethod ({ cls := "java/util/ArrayList", name := "grow", desc := "()[Ljava/lang/Object;" } : Jvm.MethodName)) ∈ lw_tbl := lw_at lw_m7 139 rfl
theorem q1649 : (Jvm.Cond.instanceMethod ({ cls := "java/util/ArrayList", name := "grow", desc := "()[Ljava/lang/Object;" } : Jvm.MethodName)) ∈ lw_all := lw_g (lw_at lw_m7 140 rfl) rfl
theorem q1650 : (Jvm.Cond.code ({ cls := "java/util/ArrayList", name := "grow", desc := "()[Ljava/lang/Object;" } : Jvm.MethodName) prog_50_method_7_code (1 : Nat) (Option.some (Jvm.ClassFile.FieldType.array (Jvm.ClassFile.FieldType.object "java/lang/Object")))) ∈ lw_all := lw_g (lw_at lw_m7 141 rfl) rfl
theorem q1651 : (Jvm.Cond.methodLink "java/util/ArrayList" (69 : Nat) ({ cls := "java/util/ArrayList", name := "grow", desc := "(I)[Ljava/lang/Object;" } : Jvm.MethodName)) ∈ lw_all := lw_g (lw_at lw_m7 142 rfl) rfl
theorem q1652 : (Jvm.Cond.privateMethod ({ cls := "java/util/ArrayList", name := "grow", desc := "(I)[Ljava/lang/Object;" } : Jvm.MethodName)) ∈ lw_tbl := lw_at lw_m7 143 rfl
theorem q1653 : (Jvm.Cond.instanceMethod ({ cls := "java/util/ArrayList", name := "grow", desc := "(I)[Ljava/lang/Object;" } : Jvm.MethodName)) ∈ lw_all := lw_g (lw_at lw_m7 144 rfl) rfl
theorem q1654 : (Jvm.Cond.code ({ cls := "java/util/ArrayList", name := "grow", desc := "(I)[Ljava/lang/Object;" } : Jvm.MethodName) prog_50_method_6_code (4 : Nat) (Option.some (Jvm.ClassFile.FieldType.array (Jvm.ClassFile.FieldType.object "java/lang/Object")))) ∈ lw_all := lw_g (lw_at lw_m7 145 rfl) rfl
theorem q1655 : (Jvm.Cond.methodLink "java/util/ArrayList" (73 : Nat) ({ cls := "jdk/internal/util/ArraysSupport", name := "newLength", desc := "(III)I" } : Jvm.MethodName)) ∈ lw_all := lw_g (lw_at lw_m7 146 rfl) rfl
theorem q1656 : (Jvm.Cond.methodLink "java/util/ArrayList" (66 : Nat) ({ cls := "java/util/Arrays", name := "copyOf", desc := "([Ljava/lang/Object;I)[Ljava/lang/Object;" } : Jvm.MethodName)) ∈ lw_all := lw_g (lw_at lw_m7 147 rfl) rfl
theorem q1657 : (Jvm.Cond.methodLink "java/util/ArrayList" (79 : Nat) ({ cls := "java/lang/Math", name := "max", desc := "(II)I" } : Jvm.MethodName)) ∈ lw_all := lw_g (lw_at lw_m7 148 rfl) rfl
theorem q1658 : (Jvm.Cond.classLink "java/util/ArrayList" (7 : Nat) "java/lang/Object") ∈ lw_all := lw_g (lw_at lw_m7 149 rfl) rfl
theorem q1841 : (Jvm.Cond.selects "java/util/ArrayList" ({ cls := "java/util/List", name := "iterator", desc := "()Ljava/util/Iterator;" } : Jvm.MethodName) ({ cls := "java/util/ArrayList", name := "iterator", desc := "()Ljava/util/Iterator;" } : Jvm.MethodName)) ∈ lw_all := lw_g (lw_at lw_m8 92 rfl) rfl
theorem q2353 : (Jvm.Cond.castable "java/util/ArrayList" "java/lang/Object") ∈ lw_tbl := lw_at lw_m10 124 rfl
theorem in_J26 : ∀ w ∈ wsJ260, w ∈ lw_all := lw_in wsJ260 [1542, 1538, 1540] (by decide +kernel) (by decide +kernel)

/-! java/lang/StringIndexOutOfBoundsException -/
def RJ27 : String := "java/lang/StringIndexOutOfBoundsException"
def TJ27 : u_T := fun k => match k with
  | 0 => ("java/lang/Throwable", "backtrace", "Ljava/lang/Object;", false)
  | 1 => ("java/lang/Throwable", "detailMessage", "Ljava/lang/String;", false)
  | 2 => ("java/lang/Throwable", "cause", "Ljava/lang/Throwable;", false)
  | 3 => ("java/lang/Throwable", "stackTrace", "[Ljava/lang/StackTraceElement;", false)
  | 4 => ("java/lang/Throwable", "depth", "I", false)
  | _ => ("java/lang/Throwable", "suppressedExceptions", "Ljava/util/List;", false)
def tyJ27 : Nat → FieldType := fun k => match k with
  | 0 => .object "java/lang/Object"
  | 1 => .object "java/lang/String"
  | 2 => .object "java/lang/Throwable"
  | 3 => .array (.object "java/lang/StackTraceElement")
  | 4 => .int
  | _ => .object "java/util/List"
abbrev wsJ270 : List Cond := u_ws RJ27 TJ27 6
theorem nmJ27 : ∀ a, a < 6 → ∀ b, b < 6 → a ≠ b → (TJ27 a).2.1 ≠ (TJ27 b).2.1 := by decide +kernel
theorem tyJ27_ok : ∀ k, k < 6 → parseFieldDescriptor (TJ27 k).2.2.1 = some (tyJ27 k) := by decide +kernel
abbrev cJ27_init : ByteArray := prog_38_method_3_code
def yJ27_init : MethodName := ⟨RJ27, "<init>", "(I)V"⟩
theorem q113 : (Jvm.Cond.initialized "java/lang/StringIndexOutOfBoundsException") ∈ lw_all := lw_g (lw_at lw_m1 44 rfl) rfl
theorem q569 : (Jvm.Cond.selects "java/lang/StringIndexOutOfBoundsException" ({ cls := "java/lang/Throwable", name := "fillInStackTrace", desc := "()Ljava/lang/Throwable;" } : Jvm.MethodName) ({ cls := "java/lang/Throwable", name := "fillInStackTrace", desc := "()Ljava/lang/Throwable;" } : Jvm.MethodName)) ∈ lw_all := lw_g (lw_at lw_m3 20 rfl) rfl
theorem q669 : (Jvm.Cond.selects "java/lang/StringIndexOutOfBoundsException" ({ cls := "java/lang/Object", name := "getClass", desc := "()Ljava/lang/Class;" } : Jvm.MethodName) ({ cls := "java/lang/Object", name := "getClass", desc := "()Ljava/lang/Class;" } : Jvm.MethodName)) ∈ lw_all := lw_g (lw_at lw_m3 120 rfl) rfl
theorem q1667 : (Jvm.Cond.instantiable "java/lang/StringIndexOutOfBoundsException" (6 : Nat)) ∈ lw_all := lw_g (lw_at lw_m7 158 rfl) rfl
theorem q1669 : (Jvm.Cond.instanceMethod ({ cls := "java/lang/StringIndexOutOfBoundsException", name := "<init>", desc := "(I)V" } : Jvm.MethodName)) ∈ lw_all := lw_g (lw_at lw_m7 160 rfl) rfl
theorem q1670 : (Jvm.Cond.code ({ cls := "java/lang/StringIndexOutOfBoundsException", name := "<init>", desc := "(I)V" } : Jvm.MethodName) prog_38_method_3_code (2 : Nat) (Option.none : Option Jvm.ClassFile.FieldType)) ∈ lw_all := lw_g (lw_at lw_m7 161 rfl) rfl
theorem q1671 : (Jvm.Cond.classLink "java/lang/StringIndexOutOfBoundsException" (10 : Nat) "java/lang/StringBuilder") ∈ lw_all := lw_g (lw_at lw_m7 162 rfl) rfl
theorem q1672 : (Jvm.Cond.methodLink "java/lang/StringIndexOutOfBoundsException" (12 : Nat) ({ cls := "java/lang/StringBuilder", name := "<init>", desc := "()V" } : Jvm.MethodName)) ∈ lw_all := lw_g (lw_at lw_m7 163 rfl) rfl
theorem q1673 : (Jvm.Cond.stringRef "java/lang/StringIndexOutOfBoundsException" (13 : Nat) "String index out of range: ") ∈ lw_tbl := lw_at lw_m7 164 rfl
theorem q1674 : (Jvm.Cond.methodLink "java/lang/StringIndexOutOfBoundsException" (15 : Nat) ({ cls := "java/lang/StringBuilder", name := "append", desc := "(Ljava/lang/String;)Ljava/lang/StringBuilder;" } : Jvm.MethodName)) ∈ lw_all := lw_g (lw_at lw_m7 165 rfl) rfl
theorem q1721 : (Jvm.Cond.methodLink "java/lang/StringIndexOutOfBoundsException" (19 : Nat) ({ cls := "java/lang/StringBuilder", name := "append", desc := "(I)Ljava/lang/StringBuilder;" } : Jvm.MethodName)) ∈ lw_all := lw_g (lw_at lw_m7 212 rfl) rfl
theorem q1746 : (Jvm.Cond.methodLink "java/lang/StringIndexOutOfBoundsException" (22 : Nat) ({ cls := "java/lang/StringBuilder", name := "toString", desc := "()Ljava/lang/String;" } : Jvm.MethodName)) ∈ lw_all := lw_g (lw_at lw_m7 237 rfl) rfl
theorem q1803 : (Jvm.Cond.methodLink "java/lang/StringIndexOutOfBoundsException" (7 : Nat) ({ cls := "java/lang/IndexOutOfBoundsException", name := "<init>", desc := "(Ljava/lang/String;)V" } : Jvm.MethodName)) ∈ lw_all := lw_g (lw_at lw_m8 54 rfl) rfl
theorem q1804 : (Jvm.Cond.lays "java/lang/StringIndexOutOfBoundsException" "java/lang/Throwable" "backtrace" "Ljava/lang/Object;") ∈ lw_all := lw_g (lw_at lw_m8 55 rfl) rfl
theorem q1805 : (Jvm.Cond.lays "java/lang/StringIndexOutOfBoundsException" "java/lang/Throwable" "detailMessage" "Ljava/lang/String;") ∈ lw_all := lw_g (lw_at lw_m8 56 rfl) rfl
theorem q1806 : (Jvm.Cond.lays "java/lang/StringIndexOutOfBoundsException" "java/lang/Throwable" "cause" "Ljava/lang/Throwable;") ∈ lw_all := lw_g (lw_at lw_m8 57 rfl) rfl
theorem q1807 : (Jvm.Cond.lays "java/lang/StringIndexOutOfBoundsException" "java/lang/Throwable" "stackTrace" "[Ljava/lang/StackTraceElement;") ∈ lw_all := lw_g (lw_at lw_m8 58 rfl) rfl
theorem q1808 : (Jvm.Cond.lays "java/lang/StringIndexOutOfBoundsException" "java/lang/Throwable" "depth" "I") ∈ lw_all := lw_g (lw_at lw_m8 59 rfl) rfl
theorem q1809 : (Jvm.Cond.lays "java/lang/StringIndexOutOfBoundsException" "java/lang/Throwable" "suppressedExceptions" "Ljava/util/List;") ∈ lw_all := lw_g (lw_at lw_m8 60 rfl) rfl
theorem q1810 : (Jvm.Cond.superclass "java/lang/StringIndexOutOfBoundsException" "java/lang/IndexOutOfBoundsException") ∈ lw_all := lw_g (lw_at lw_m8 61 rfl) rfl
theorem q2329 : (Jvm.Cond.castable "java/lang/StringIndexOutOfBoundsException" "java/lang/IndexOutOfBoundsException") ∈ lw_tbl := lw_at lw_m10 100 rfl
theorem q2355 : (Jvm.Cond.castable "java/lang/StringIndexOutOfBoundsException" "java/lang/Object") ∈ lw_tbl := lw_at lw_m10 126 rfl
theorem in_J27 : ∀ w ∈ wsJ270, w ∈ lw_all := lw_in wsJ270 [1804, 1805, 1806, 1807, 1808, 1809] (by decide +kernel) (by decide +kernel)

/-! java/lang/Character -/
def RJ28 : String := "java/lang/Character"
abbrev cJ28_isValidCodePoint : ByteArray := prog_23_method_11_code
def yJ28_isValidCodePoint : MethodName := ⟨RJ28, "isValidCodePoint", "(I)Z"⟩
abbrev cJ28_highSurrogate : ByteArray := prog_23_method_28_code
def yJ28_highSurrogate : MethodName := ⟨RJ28, "highSurrogate", "(I)C"⟩
abbrev cJ28_lowSurrogate : ByteArray := prog_23_method_29_code
def yJ28_lowSurrogate : MethodName := ⟨RJ28, "lowSurrogate", "(I)C"⟩
theorem q114 : (Jvm.Cond.initialized "java/lang/Character") ∈ lw_all := lw_g (lw_at lw_m1 45 rfl) rfl
theorem q2257 : (Jvm.Cond.static ({ cls := "java/lang/Character", name := "isValidCodePoint", desc := "(I)Z" } : Jvm.MethodName)) ∈ lw_all := lw_g (lw_at lw_m10 28 rfl) rfl
theorem q2258 : (Jvm.Cond.code ({ cls := "java/lang/Character", name := "isValidCodePoint", desc := "(I)Z" } : Jvm.MethodName) prog_23_method_11_code (2 : Nat) (Option.some Jvm.ClassFile.FieldType.boolean)) ∈ lw_all := lw_g (lw_at lw_m10 29 rfl) rfl
theorem q2260 : (Jvm.Cond.static ({ cls := "java/lang/Character", name := "highSurrogate", desc := "(I)C" } : Jvm.MethodName)) ∈ lw_all := lw_g (lw_at lw_m10 31 rfl) rfl
theorem q2261 : (Jvm.Cond.code ({ cls := "java/lang/Character", name := "highSurrogate", desc := "(I)C" } : Jvm.MethodName) prog_23_method_28_code (1 : Nat) (Option.some Jvm.ClassFile.FieldType.char)) ∈ lw_all := lw_g (lw_at lw_m10 32 rfl) rfl
theorem q2262 : (Jvm.Cond.constant "java/lang/Character" (110 : Nat) (55232 : Int32)) ∈ lw_all := lw_g (lw_at lw_m10 33 rfl) rfl
theorem q2264 : (Jvm.Cond.static ({ cls := "java/lang/Character", name := "lowSurrogate", desc := "(I)C" } : Jvm.MethodName)) ∈ lw_all := lw_g (lw_at lw_m10 35 rfl) rfl
theorem q2265 : (Jvm.Cond.code ({ cls := "java/lang/Character", name := "lowSurrogate", desc := "(I)C" } : Jvm.MethodName) prog_23_method_29_code (1 : Nat) (Option.some Jvm.ClassFile.FieldType.char)) ∈ lw_all := lw_g (lw_at lw_m10 36 rfl) rfl
theorem q2266 : (Jvm.Cond.constant "java/lang/Character" (76 : Nat) (56320 : Int32)) ∈ lw_all := lw_g (lw_at lw_m10 37 rfl) rfl

/-! java/lang/Object -/
def RJ29 : String := "java/lang/Object"
abbrev cJ29_init : ByteArray := object_method_1_code
def yJ29_init : MethodName := ⟨RJ29, "<init>", "()V"⟩
theorem q121 : (Jvm.Cond.instanceMethod ({ cls := "java/lang/Object", name := "<init>", desc := "()V" } : Jvm.MethodName)) ∈ lw_all := lw_g (lw_at lw_m1 52 rfl) rfl
theorem q122 : (Jvm.Cond.code ({ cls := "java/lang/Object", name := "<init>", desc := "()V" } : Jvm.MethodName) object_method_1_code (1 : Nat) (Option.none : Option Jvm.ClassFile.FieldType)) ∈ lw_all := lw_g (lw_at lw_m1 53 rfl) rfl
theorem q646 : (Jvm.Cond.instanceMethod ({ cls := "java/lang/Object", name := "getClass", desc := "()Ljava/lang/Class;" } : Jvm.MethodName)) ∈ lw_all := lw_g (lw_at lw_m3 97 rfl) rfl
theorem q647 : (Jvm.Cond.sameMethod "java/lang/Object" "java/lang/Object" "getClass" "()Ljava/lang/Class;") ∈ lw_all := lw_g (lw_at lw_m3 98 rfl) rfl
theorem q676 : (Jvm.Cond.native ({ cls := "java/lang/Object", name := "getClass", desc := "()Ljava/lang/Class;" } : Jvm.MethodName)) ∈ lw_all := lw_g (lw_at lw_m3 127 rfl) rfl
theorem q1432 : (Jvm.Cond.native ({ cls := "java/lang/Object", name := "clone", desc := "()Ljava/lang/Object;" } : Jvm.MethodName)) ∈ lw_all := lw_g (lw_at lw_m6 163 rfl) rfl
theorem q1433 : (Jvm.Cond.instanceMethod ({ cls := "java/lang/Object", name := "clone", desc := "()Ljava/lang/Object;" } : Jvm.MethodName)) ∈ lw_all := lw_g (lw_at lw_m6 164 rfl) rfl
theorem q2327 : (Jvm.Cond.initialized "java/lang/Object") ∈ lw_all := lw_g (lw_at lw_m10 98 rfl) rfl
theorem q2361 : (Jvm.Cond.declares ({ cls := "java/lang/Object", name := "getClass", desc := "()Ljava/lang/Class;" } : Jvm.MethodName)) ∈ lw_tbl := lw_at lw_m10 132 rfl
theorem q2368 : (Jvm.Cond.instantiable "java/lang/Object" (0 : Nat)) ∈ lw_all := lw_g (lw_at lw_m10 139 rfl) rfl

/-! java/lang/StringBuilder -/
def RJ3 : String := "java/lang/StringBuilder"
def TJ3 : u_T := fun k => match k with
  | 0 => ("java/lang/AbstractStringBuilder", "value", "[B", false)
  | 1 => ("java/lang/AbstractStringBuilder", "coder", "B", false)
  | 2 => ("java/lang/AbstractStringBuilder", "maybeLatin1", "Z", false)
  | _ => ("java/lang/AbstractStringBuilder", "count", "I", false)
def tyJ3 : Nat → FieldType := fun k => match k with
  | 0 => .array .byte
  | 1 => .byte
  | 2 => .boolean
  | _ => .int
abbrev wsJ30 : List Cond := u_ws RJ3 TJ3 4
theorem nmJ3 : ∀ a, a < 4 → ∀ b, b < 4 → a ≠ b → (TJ3 a).2.1 ≠ (TJ3 b).2.1 := by decide +kernel
theorem tyJ3_ok : ∀ k, k < 4 → parseFieldDescriptor (TJ3 k).2.2.1 = some (tyJ3 k) := by decide +kernel
abbrev cJ3_init : ByteArray := prog_37_method_1_code
def yJ3_init : MethodName := ⟨RJ3, "<init>", "()V"⟩
abbrev cJ3_length : ByteArray := prog_37_method_93_code
def yJ3_length : MethodName := ⟨RJ3, "length", "()I"⟩
abbrev cJ3_append : ByteArray := prog_37_method_14_code
def yJ3_append : MethodName := ⟨RJ3, "append", "(C)Ljava/lang/StringBuilder;"⟩
abbrev cJ3_charAt : ByteArray := prog_37_method_88_code
def yJ3_charAt : MethodName := ⟨RJ3, "charAt", "(I)C"⟩
abbrev cJ3_setLength : ByteArray := prog_37_method_89_code
def yJ3_setLength : MethodName := ⟨RJ3, "setLength", "(I)V"⟩
abbrev cJ3_append_2 : ByteArray := prog_37_method_7_code
def yJ3_append_2 : MethodName := ⟨RJ3, "append", "(Ljava/lang/String;)Ljava/lang/StringBuilder;"⟩
abbrev cJ3_append_3 : ByteArray := prog_37_method_15_code
def yJ3_append_3 : MethodName := ⟨RJ3, "append", "(I)Ljava/lang/StringBuilder;"⟩
abbrev cJ3_toString : ByteArray := prog_37_method_42_code
def yJ3_toString : MethodName := ⟨RJ3, "toString", "()Ljava/lang/String;"⟩
theorem q76 : (Jvm.Cond.initialized "java/lang/StringBuilder") ∈ lw_all := lw_g (lw_at lw_m1 7 rfl) rfl
theorem q292 : (Jvm.Cond.instantiable "java/lang/StringBuilder" (4 : Nat)) ∈ lw_all := lw_g (lw_at lw_m1 223 rfl) rfl
theorem q294 : (Jvm.Cond.instanceMethod ({ cls := "java/lang/StringBuilder", name := "<init>", desc := "()V" } : Jvm.MethodName)) ∈ lw_all := lw_g (lw_at lw_m1 225 rfl) rfl
theorem q295 : (Jvm.Cond.code ({ cls := "java/lang/StringBuilder", name := "<init>", desc := "()V" } : Jvm.MethodName) prog_37_method_1_code (1 : Nat) (Option.none : Option Jvm.ClassFile.FieldType)) ∈ lw_all := lw_g (lw_at lw_m1 226 rfl) rfl
theorem q296 : (Jvm.Cond.methodLink "java/lang/StringBuilder" (1 : Nat) ({ cls := "java/lang/AbstractStringBuilder", name := "<init>", desc := "(I)V" } : Jvm.MethodName)) ∈ lw_all := lw_g (lw_at lw_m1 227 rfl) rfl
theorem q314 : (Jvm.Cond.lays "java/lang/StringBuilder" "java/lang/AbstractStringBuilder" "value" "[B") ∈ lw_all := lw_g (lw_at lw_m2 5 rfl) rfl
theorem q316 : (Jvm.Cond.lays "java/lang/StringBuilder" "java/lang/AbstractStringBuilder" "coder" "B") ∈ lw_all := lw_g (lw_at lw_m2 7 rfl) rfl
theorem q318 : (Jvm.Cond.lays "java/lang/StringBuilder" "java/lang/AbstractStringBuilder" "maybeLatin1" "Z") ∈ lw_all := lw_g (lw_at lw_m2 9 rfl) rfl
theorem q320 : (Jvm.Cond.lays "java/lang/StringBuilder" "java/lang/AbstractStringBuilder" "count" "I") ∈ lw_all := lw_g (lw_at lw_m2 11 rfl) rfl
theorem q322 : (Jvm.Cond.superclass "java/lang/StringBuilder" "java/lang/AbstractStringBuilder") ∈ lw_all := lw_g (lw_at lw_m2 13 rfl) rfl
theorem q668 : (Jvm.Cond.selects "java/lang/StringBuilder" ({ cls := "java/lang/Object", name := "getClass", desc := "()Ljava/lang/Class;" } : Jvm.MethodName) ({ cls := "java/lang/Object", name := "getClass", desc := "()Ljava/lang/Class;" } : Jvm.MethodName)) ∈ lw_all := lw_g (lw_at lw_m3 119 rfl) rfl
theorem q1348 : (Jvm.Cond.instanceMethod ({ cls := "java/lang/StringBuilder", name := "length", desc := "()I" } : Jvm.MethodName)) ∈ lw_all := lw_g (lw_at lw_m6 79 rfl) rfl
theorem q1349 : (Jvm.Cond.selects "java/lang/StringBuilder" ({ cls := "java/lang/StringBuilder", name := "length", desc := "()I" } : Jvm.MethodName) ({ cls := "java/lang/StringBuilder", name := "length", desc := "()I" } : Jvm.MethodName)) ∈ lw_all := lw_g (lw_at lw_m6 80 rfl) rfl
theorem q1350 : (Jvm.Cond.code ({ cls := "java/lang/StringBuilder", name := "length", desc := "()I" } : Jvm.MethodName) prog_37_method_93_code (1 : Nat) (Option.some Jvm.ClassFile.FieldType.int)) ∈ lw_all := lw_g (lw_at lw_m6 81 rfl) rfl
theorem q1351 : (Jvm.Cond.methodLink "java/lang/StringBuilder" (343 : Nat) ({ cls := "java/lang/AbstractStringBuilder", name := "length", desc := "()I" } : Jvm.MethodName)) ∈ lw_all := lw_g (lw_at lw_m6 82 rfl) rfl
theorem q1404 : (Jvm.Cond.instanceMethod ({ cls := "java/lang/StringBuilder", name := "append", desc := "(C)Ljava/lang/StringBuilder;" } : Jvm.MethodName)) ∈ lw_all := lw_g (lw_at lw_m6 135 rfl) rfl
theorem q1405 : (Jvm.Cond.selects "java/lang/StringBuilder" ({ cls := "java/lang/StringBuilder", name := "append", desc := "(C)Ljava/lang/StringBuilder;" } : Jvm.MethodName) ({ cls := "java/lang/StringBuilder", name := "append", desc := "(C)Ljava/lang/StringBuilder;" } : Jvm.MethodName)) ∈ lw_all := lw_g (lw_at lw_m6 136 rfl) rfl
theorem q1406 : (Jvm.Cond.code ({ cls := "java/lang/StringBuilder", name := "append", desc := "(C)Ljava/lang/StringBuilder;" } : Jvm.MethodName) prog_37_method_14_code (2 : Nat) (Option.some (Jvm.ClassFile.FieldType.object "java/lang/StringBuilder"))) ∈ lw_all := lw_g (lw_at lw_m6 137 rfl) rfl
theorem q1407 : (Jvm.Cond.methodLink "java/lang/StringBuilder" (50 : Nat) ({ cls := "java/lang/AbstractStringBuilder", name := "append", desc := "(C)Ljava/lang/AbstractStringBuilder;" } : Jvm.MethodName)) ∈ lw_all := lw_g (lw_at lw_m6 138 rfl) rfl
theorem q1440 : (Jvm.Cond.selects "java/lang/StringBuilder" ({ cls := "java/lang/AbstractStringBuilder", name := "isLatin1", desc := "()Z" } : Jvm.MethodName) ({ cls := "java/lang/AbstractStringBuilder", name := "isLatin1", desc := "()Z" } : Jvm.MethodName)) ∈ lw_all := lw_g (lw_at lw_m6 171 rfl) rfl
theorem q1559 : (Jvm.Cond.instanceMethod ({ cls := "java/lang/StringBuilder", name := "charAt", desc := "(I)C" } : Jvm.MethodName)) ∈ lw_all := lw_g (lw_at lw_m7 50 rfl) rfl
theorem q1560 : (Jvm.Cond.selects "java/lang/StringBuilder" ({ cls := "java/lang/StringBuilder", name := "charAt", desc := "(I)C" } : Jvm.MethodName) ({ cls := "java/lang/StringBuilder", name := "charAt", desc := "(I)C" } : Jvm.MethodName)) ∈ lw_all := lw_g (lw_at lw_m7 51 rfl) rfl
theorem q1561 : (Jvm.Cond.code ({ cls := "java/lang/StringBuilder", name := "charAt", desc := "(I)C" } : Jvm.MethodName) prog_37_method_88_code (2 : Nat) (Option.some Jvm.ClassFile.FieldType.char)) ∈ lw_all := lw_g (lw_at lw_m7 52 rfl) rfl
theorem q1562 : (Jvm.Cond.methodLink "java/lang/StringBuilder" (329 : Nat) ({ cls := "java/lang/AbstractStringBuilder", name := "charAt", desc := "(I)C" } : Jvm.MethodName)) ∈ lw_all := lw_g (lw_at lw_m7 53 rfl) rfl
theorem q1660 : (Jvm.Cond.instanceMethod ({ cls := "java/lang/StringBuilder", name := "setLength", desc := "(I)V" } : Jvm.MethodName)) ∈ lw_all := lw_g (lw_at lw_m7 151 rfl) rfl
theorem q1661 : (Jvm.Cond.selects "java/lang/StringBuilder" ({ cls := "java/lang/StringBuilder", name := "setLength", desc := "(I)V" } : Jvm.MethodName) ({ cls := "java/lang/StringBuilder", name := "setLength", desc := "(I)V" } : Jvm.MethodName)) ∈ lw_all := lw_g (lw_at lw_m7 152 rfl) rfl
theorem q1662 : (Jvm.Cond.code ({ cls := "java/lang/StringBuilder", name := "setLength", desc := "(I)V" } : Jvm.MethodName) prog_37_method_89_code (2 : Nat) (Option.none : Option Jvm.ClassFile.FieldType)) ∈ lw_all := lw_g (lw_at lw_m7 153 rfl) rfl
theorem q1663 : (Jvm.Cond.methodLink "java/lang/StringBuilder" (333 : Nat) ({ cls := "java/lang/AbstractStringBuilder", name := "setLength", desc := "(I)V" } : Jvm.MethodName)) ∈ lw_all := lw_g (lw_at lw_m7 154 rfl) rfl
theorem q1675 : (Jvm.Cond.instanceMethod ({ cls := "java/lang/StringBuilder", name := "append", desc := "(Ljava/lang/String;)Ljava/lang/StringBuilder;" } : Jvm.MethodName)) ∈ lw_all := lw_g (lw_at lw_m7 166 rfl) rfl
theorem q1676 : (Jvm.Cond.selects "java/lang/StringBuilder" ({ cls := "java/lang/StringBuilder", name := "append", desc := "(Ljava/lang/String;)Ljava/lang/StringBuilder;" } : Jvm.MethodName) ({ cls := "java/lang/StringBuilder", name := "append", desc := "(Ljava/lang/String;)Ljava/lang/StringBuilder;" } : Jvm.MethodName)) ∈ lw_all := lw_g (lw_at lw_m7 167 rfl) rfl
theorem q1677 : (Jvm.Cond.code ({ cls := "java/lang/StringBuilder", name := "append", desc := "(Ljava/lang/String;)Ljava/lang/StringBuilder;" } : Jvm.MethodName) prog_37_method_7_code (2 : Nat) (Option.some (Jvm.ClassFile.FieldType.object "java/lang/StringBuilder"))) ∈ lw_all := lw_g (lw_at lw_m7 168 rfl) rfl
theorem q1678 : (Jvm.Cond.methodLink "java/lang/StringBuilder" (29 : Nat) ({ cls := "java/lang/AbstractStringBuilder", name := "append", desc := "(Ljava/lang/String;)Ljava/lang/AbstractStringBuilder;" } : Jvm.MethodName)) ∈ lw_all := lw_g (lw_at lw_m7 169 rfl) rfl
theorem q1722 : (Jvm.Cond.instanceMethod ({ cls := "java/lang/StringBuilder", name := "append", desc := "(I)Ljava/lang/StringBuilder;" } : Jvm.MethodName)) ∈ lw_all := lw_g (lw_at lw_m7 213 rfl) rfl
theorem q1723 : (Jvm.Cond.selects "java/lang/StringBuilder" ({ cls := "java/lang/StringBuilder", name := "append", desc := "(I)Ljava/lang/StringBuilder;" } : Jvm.MethodName) ({ cls := "java/lang/StringBuilder", name := "append", desc := "(I)Ljava/lang/StringBuilder;" } : Jvm.MethodName)) ∈ lw_all := lw_g (lw_at lw_m7 214 rfl) rfl
theorem q1724 : (Jvm.Cond.code ({ cls := "java/lang/StringBuilder", name := "append", desc := "(I)Ljava/lang/StringBuilder;" } : Jvm.MethodName) prog_37_method_15_code (2 : Nat) (Option.some (Jvm.ClassFile.FieldType.object "java/lang/StringBuilder"))) ∈ lw_all := lw_g (lw_at lw_m7 215 rfl) rfl
theorem q1725 : (Jvm.Cond.methodLink "java/lang/StringBuilder" (53 : Nat) ({ cls := "java/lang/AbstractStringBuilder", name := "append", desc := "(I)Ljava/lang/AbstractStringBuilder;" } : Jvm.MethodName)) ∈ lw_all := lw_g (lw_at lw_m7 216 rfl) rfl
theorem q1747 : (Jvm.Cond.instanceMethod ({ cls := "java/lang/StringBuilder", name := "toString", desc := "()Ljava/lang/String;" } : Jvm.MethodName)) ∈ lw_all := lw_g (lw_at lw_m7 238 rfl) rfl
theorem q1748 : (Jvm.Cond.selects "java/lang/StringBuilder" ({ cls := "java/lang/StringBuilder", name := "toString", desc := "()Ljava/lang/String;" } : Jvm.MethodName) ({ cls := "java/lang/StringBuilder", name := "toString", desc := "()Ljava/lang/String;" } : Jvm.MethodName)) ∈ lw_all := lw_g (lw_at lw_m7 239 rfl) rfl
theorem q1749 : (Jvm.Cond.code ({ cls := "java/lang/StringBuilder", name := "toString", desc := "()Ljava/lang/String;" } : Jvm.MethodName) prog_37_method_42_code (1 : Nat) (Option.some (Jvm.ClassFile.FieldType.object "java/lang/String"))) ∈ lw_all := lw_g (lw_at lw_m8 0 rfl) rfl
theorem q1750 : (Jvm.Cond.classLink "java/lang/StringBuilder" (18 : Nat) "java/lang/String") ∈ lw_all := lw_g (lw_at lw_m8 1 rfl) rfl
theorem q1751 : (Jvm.Cond.methodLink "java/lang/StringBuilder" (137 : Nat) ({ cls := "java/lang/String", name := "<init>", desc := "(Ljava/lang/StringBuilder;)V" } : Jvm.MethodName)) ∈ lw_all := lw_g (lw_at lw_m8 2 rfl) rfl
theorem q1761 : (Jvm.Cond.selects "java/lang/StringBuilder" ({ cls := "java/lang/AbstractStringBuilder", name := "getValue", desc := "()[B" } : Jvm.MethodName) ({ cls := "java/lang/AbstractStringBuilder", name := "getValue", desc := "()[B" } : Jvm.MethodName)) ∈ lw_all := lw_g (lw_at lw_m8 12 rfl) rfl
theorem q2326 : (Jvm.Cond.selects "java/lang/StringBuilder" ({ cls := "java/lang/AbstractStringBuilder", name := "length", desc := "()I" } : Jvm.MethodName) ({ cls := "java/lang/StringBuilder", name := "length", desc := "()I" } : Jvm.MethodName)) ∈ lw_all := lw_g (lw_at lw_m10 97 rfl) rfl
theorem q2334 : (Jvm.Cond.castable "java/lang/StringBuilder" "java/lang/Object") ∈ lw_tbl := lw_at lw_m10 105 rfl
theorem in_J3 : ∀ w ∈ wsJ30, w ∈ lw_all := lw_in wsJ30 [314, 316, 318, 320] (by decide +kernel) (by decide +kernel)

/-! java/lang/String -/
def RJ4 : String := "java/lang/String"
def TJ4 : u_T := fun k => match k with
  | 0 => ("java/lang/String", "value", "[B", true)
  | 1 => ("java/lang/String", "coder", "B", true)
  | 2 => ("java/lang/String", "hash", "I", false)
  | _ => ("java/lang/String", "hashIsZero", "Z", false)
def tyJ4 : Nat → FieldType := fun k => match k with
  | 0 => .array .byte
  | 1 => .byte
  | 2 => .int
  | _ => .boolean
abbrev wsJ40 : List Cond := u_ws RJ4 TJ4 4
theorem nmJ4 : ∀ a, a < 4 → ∀ b, b < 4 → a ≠ b → (TJ4 a).2.1 ≠ (TJ4 b).2.1 := by decide +kernel
theorem tyJ4_ok : ∀ k, k < 4 → parseFieldDescriptor (TJ4 k).2.2.1 = some (tyJ4 k) := by decide +kernel
abbrev cJ4_checkBoundsOffCount : ByteArray := prog_36_method_157_code
def yJ4_checkBoundsOffCount : MethodName := ⟨RJ4, "checkBoundsOffCount", "(III)I"⟩
abbrev cJ4_checkIndex : ByteArray := prog_36_method_155_code
def yJ4_checkIndex : MethodName := ⟨RJ4, "checkIndex", "(II)V"⟩
abbrev cJ4_checkBoundsBeginEnd : ByteArray := prog_36_method_158_code
def yJ4_checkBoundsBeginEnd : MethodName := ⟨RJ4, "checkBoundsBeginEnd", "(III)V"⟩
abbrev cJ4_length : ByteArray := prog_36_method_54_code
def yJ4_length : MethodName := ⟨RJ4, "length", "()I"⟩
abbrev cJ4_coder : ByteArray := prog_36_method_152_code
def yJ4_coder : MethodName := ⟨RJ4, "coder", "()B"⟩
abbrev cJ4_getBytes : ByteArray := prog_36_method_147_code
def yJ4_getBytes : MethodName := ⟨RJ4, "getBytes", "([BIB)V"⟩
abbrev cJ4_init : ByteArray := prog_36_method_53_code
def yJ4_init : MethodName := ⟨RJ4, "<init>", "(Ljava/lang/StringBuilder;)V"⟩
abbrev cJ4_init_2 : ByteArray := prog_36_method_150_code
def yJ4_init_2 : MethodName := ⟨RJ4, "<init>", "(Ljava/lang/AbstractStringBuilder;Ljava/lang/Void;)V"⟩
abbrev cJ4_indexOf : ByteArray := prog_36_method_79_code
def yJ4_indexOf : MethodName := ⟨RJ4, "indexOf", "(I)I"⟩
abbrev cJ4_indexOf_2 : ByteArray := prog_36_method_80_code
def yJ4_indexOf_2 : MethodName := ⟨RJ4, "indexOf", "(II)I"⟩
abbrev cJ4_isLatin1 : ByteArray := prog_36_method_154_code
def yJ4_isLatin1 : MethodName := ⟨RJ4, "isLatin1", "()Z"⟩
theorem q77 : (Jvm.Cond.initialized "java/lang/String") ∈ lw_all := lw_g (lw_at lw_m1 8 rfl) rfl
theorem q301 : (Jvm.Cond.laysStatic "java/lang/String" "COMPACT_STRINGS" "Z") ∈ lw_tbl := lw_at lw_m1 232 rfl
theorem q312 : (Jvm.Cond.fieldLink "java/lang/String" (1048 : Nat) "java/lang/AbstractStringBuilder" "maybeLatin1" "Z") ∈ lw_all := lw_g (lw_at lw_m2 3 rfl) rfl
theorem q667 : (Jvm.Cond.selects "java/lang/String" ({ cls := "java/lang/Object", name := "getClass", desc := "()Ljava/lang/Class;" } : Jvm.MethodName) ({ cls := "java/lang/Object", name := "getClass", desc := "()Ljava/lang/Class;" } : Jvm.MethodName)) ∈ lw_all := lw_g (lw_at lw_m3 118 rfl) rfl
theorem q802 : (Jvm.Cond.instantiable "java/lang/String" (4 : Nat)) ∈ lw_all := lw_g (lw_at lw_m4 13 rfl) rfl
theorem q803 : (Jvm.Cond.laysFinal "java/lang/String" "java/lang/String" "value" "[B") ∈ lw_all := lw_g (lw_at lw_m4 14 rfl) rfl
theorem q804 : (Jvm.Cond.soleField "java/lang/String" "value") ∈ lw_all := lw_g (lw_at lw_m4 15 rfl) rfl
theorem q805 : (Jvm.Cond.laysFinal "java/lang/String" "java/lang/String" "coder" "B") ∈ lw_all := lw_g (lw_at lw_m4 16 rfl) rfl
theorem q806 : (Jvm.Cond.soleField "java/lang/String" "coder") ∈ lw_all := lw_g (lw_at lw_m4 17 rfl) rfl
theorem q1462 : (Jvm.Cond.static ({ cls := "java/lang/String", name := "checkBoundsOffCount", desc := "(III)I" } : Jvm.MethodName)) ∈ lw_all := lw_g (lw_at lw_m6 193 rfl) rfl
theorem q1463 : (Jvm.Cond.code ({ cls := "java/lang/String", name := "checkBoundsOffCount", desc := "(III)I" } : Jvm.MethodName) prog_36_method_157_code (3 : Nat) (Option.some Jvm.ClassFile.FieldType.int)) ∈ lw_all := lw_g (lw_at lw_m6 194 rfl) rfl
theorem q1464 : (Jvm.Cond.fieldLink "java/lang/String" (1053 : Nat) "jdk/internal/util/Preconditions" "SIOOBE_FORMATTER" "Ljava/util/function/BiFunction;") ∈ lw_all := lw_g (lw_at lw_m6 195 rfl) rfl
theorem q1466 : (Jvm.Cond.methodLink "java/lang/String" (1065 : Nat) ({ cls := "jdk/internal/util/Preconditions", name := "checkFromIndexSize", desc := "(IIILjava/util/function/BiFunction;)I" } : Jvm.MethodName)) ∈ lw_all := lw_g (lw_at lw_m6 197 rfl) rfl
theorem q1485 : (Jvm.Cond.static ({ cls := "java/lang/String", name := "checkIndex", desc := "(II)V" } : Jvm.MethodName)) ∈ lw_all := lw_g (lw_at lw_m6 216 rfl) rfl
theorem q1486 : (Jvm.Cond.code ({ cls := "java/lang/String", name := "checkIndex", desc := "(II)V" } : Jvm.MethodName) prog_36_method_155_code (2 : Nat) (Option.none : Option Jvm.ClassFile.FieldType)) ∈ lw_all := lw_g (lw_at lw_m6 217 rfl) rfl
theorem q1487 : (Jvm.Cond.methodLink "java/lang/String" (1059 : Nat) ({ cls := "jdk/internal/util/Preconditions", name := "checkIndex", desc := "(IILjava/util/function/BiFunction;)I" } : Jvm.MethodName)) ∈ lw_all := lw_g (lw_at lw_m6 218 rfl) rfl
theorem q1692 : (Jvm.Cond.static ({ cls := "java/lang/String", name := "checkBoundsBeginEnd", desc := "(III)V" } : Jvm.MethodName)) ∈ lw_all := lw_g (lw_at lw_m7 183 rfl) rfl
theorem q1693 : (Jvm.Cond.code ({ cls := "java/lang/String", name := "checkBoundsBeginEnd", desc := "(III)V" } : Jvm.MethodName) prog_36_method_158_code (3 : Nat) (Option.none : Option Jvm.ClassFile.FieldType)) ∈ lw_all := lw_g (lw_at lw_m7 184 rfl) rfl
theorem q1694 : (Jvm.Cond.methodLink "java/lang/String" (1062 : Nat) ({ cls := "jdk/internal/util/Preconditions", name := "checkFromToIndex", desc := "(IIILjava/util/function/BiFunction;)I" } : Jvm.MethodName)) ∈ lw_all := lw_g (lw_at lw_m7 185 rfl) rfl
theorem q1698 : (Jvm.Cond.instanceMethod ({ cls := "java/lang/String", name := "length", desc := "()I" } : Jvm.MethodName)) ∈ lw_all := lw_g (lw_at lw_m7 189 rfl) rfl
theorem q1699 : (Jvm.Cond.selects "java/lang/String" ({ cls := "java/lang/String", name := "length", desc := "()I" } : Jvm.MethodName) ({ cls := "java/lang/String", name := "length", desc := "()I" } : Jvm.MethodName)) ∈ lw_all := lw_g (lw_at lw_m7 190 rfl) rfl
theorem q1700 : (Jvm.Cond.code ({ cls := "java/lang/String", name := "length", desc := "()I" } : Jvm.MethodName) prog_36_method_54_code (1 : Nat) (Option.some Jvm.ClassFile.FieldType.int)) ∈ lw_all := lw_g (lw_at lw_m7 191 rfl) rfl
theorem q1701 : (Jvm.Cond.methodLink "java/lang/String" (335 : Nat) ({ cls := "java/lang/String", name := "coder", desc := "()B" } : Jvm.MethodName)) ∈ lw_all := lw_g (lw_at lw_m7 192 rfl) rfl
theorem q1702 : (Jvm.Cond.instanceMethod ({ cls := "java/lang/String", name := "coder", desc := "()B" } : Jvm.MethodName)) ∈ lw_all := lw_g (lw_at lw_m7 193 rfl) rfl
theorem q1703 : (Jvm.Cond.selects "java/lang/String" ({ cls := "java/lang/String", name := "coder", desc := "()B" } : Jvm.MethodName) ({ cls := "java/lang/String", name := "coder", desc := "()B" } : Jvm.MethodName)) ∈ lw_all := lw_g (lw_at lw_m7 194 rfl) rfl
theorem q1704 : (Jvm.Cond.code ({ cls := "java/lang/String", name := "coder", desc := "()B" } : Jvm.MethodName) prog_36_method_152_code (1 : Nat) (Option.some Jvm.ClassFile.FieldType.byte)) ∈ lw_all := lw_g (lw_at lw_m7 195 rfl) rfl
theorem q1705 : (Jvm.Cond.fieldLink "java/lang/String" (38 : Nat) "java/lang/String" "COMPACT_STRINGS" "Z") ∈ lw_all := lw_g (lw_at lw_m7 196 rfl) rfl
theorem q1716 : (Jvm.Cond.instanceMethod ({ cls := "java/lang/String", name := "getBytes", desc := "([BIB)V" } : Jvm.MethodName)) ∈ lw_all := lw_g (lw_at lw_m7 207 rfl) rfl
theorem q1717 : (Jvm.Cond.selects "java/lang/String" ({ cls := "java/lang/String", name := "getBytes", desc := "([BIB)V" } : Jvm.MethodName) ({ cls := "java/lang/String", name := "getBytes", desc := "([BIB)V" } : Jvm.MethodName)) ∈ lw_all := lw_g (lw_at lw_m7 208 rfl) rfl
theorem q1718 : (Jvm.Cond.code ({ cls := "java/lang/String", name := "getBytes", desc := "([BIB)V" } : Jvm.MethodName) prog_36_method_147_code (4 : Nat) (Option.none : Option Jvm.ClassFile.FieldType)) ∈ lw_all := lw_g (lw_at lw_m7 209 rfl) rfl
theorem q1719 : (Jvm.Cond.methodLink "java/lang/String" (212 : Nat) ({ cls := "java/lang/System", name := "arraycopy", desc := "(Ljava/lang/Object;ILjava/lang/Object;II)V" } : Jvm.MethodName)) ∈ lw_all := lw_g (lw_at lw_m7 210 rfl) rfl
theorem q1720 : (Jvm.Cond.methodLink "java/lang/String" (106 : Nat) ({ cls := "java/lang/StringLatin1", name := "inflate", desc := "([BI[BII)V" } : Jvm.MethodName)) ∈ lw_all := lw_g (lw_at lw_m7 211 rfl) rfl
theorem q1752 : (Jvm.Cond.instanceMethod ({ cls := "java/lang/String", name := "<init>", desc := "(Ljava/lang/StringBuilder;)V" } : Jvm.MethodName)) ∈ lw_all := lw_g (lw_at lw_m8 3 rfl) rfl
theorem q1753 : (Jvm.Cond.code ({ cls := "java/lang/String", name := "<init>", desc := "(Ljava/lang/StringBuilder;)V" } : Jvm.MethodName) prog_36_method_53_code (2 : Nat) (Option.none : Option Jvm.ClassFile.FieldType)) ∈ lw_all := lw_g (lw_at lw_m8 4 rfl) rfl
theorem q1754 : (Jvm.Cond.methodLink "java/lang/String" (489 : Nat) ({ cls := "java/lang/String", name := "<init>", desc := "(Ljava/lang/AbstractStringBuilder;Ljava/lang/Void;)V" } : Jvm.MethodName)) ∈ lw_all := lw_g (lw_at lw_m8 5 rfl) rfl
theorem q1755 : (Jvm.Cond.instanceMethod ({ cls := "java/lang/String", name := "<init>", desc := "(Ljava/lang/AbstractStringBuilder;Ljava/lang/Void;)V" } : Jvm.MethodName)) ∈ lw_all := lw_g (lw_at lw_m8 6 rfl) rfl
theorem q1756 : (Jvm.Cond.code ({ cls := "java/lang/String", name := "<init>", desc := "(Ljava/lang/AbstractStringBuilder;Ljava/lang/Void;)V" } : Jvm.MethodName) prog_36_method_150_code (5 : Nat) (Option.none : Option Jvm.ClassFile.FieldType)) ∈ lw_all := lw_g (lw_at lw_m8 7 rfl) rfl
theorem q1757 : (Jvm.Cond.methodLink "java/lang/String" (1 : Nat) ({ cls := "java/lang/Object", name := "<init>", desc := "()V" } : Jvm.MethodName)) ∈ lw_all := lw_g (lw_at lw_m8 8 rfl) rfl
theorem q1758 : (Jvm.Cond.methodLink "java/lang/String" (552 : Nat) ({ cls := "java/lang/AbstractStringBuilder", name := "getValue", desc := "()[B" } : Jvm.MethodName)) ∈ lw_all := lw_g (lw_at lw_m8 9 rfl) rfl
theorem q1763 : (Jvm.Cond.methodLink "java/lang/String" (549 : Nat) ({ cls := "java/lang/AbstractStringBuilder", name := "length", desc := "()I" } : Jvm.MethodName)) ∈ lw_all := lw_g (lw_at lw_m8 14 rfl) rfl
theorem q1764 : (Jvm.Cond.methodLink "java/lang/String" (1047 : Nat) ({ cls := "java/lang/AbstractStringBuilder", name := "isLatin1", desc := "()Z" } : Jvm.MethodName)) ∈ lw_all := lw_g (lw_at lw_m8 15 rfl) rfl
theorem q1765 : (Jvm.Cond.methodLink "java/lang/String" (54 : Nat) ({ cls := "java/util/Arrays", name := "copyOfRange", desc := "([BII)[B" } : Jvm.MethodName)) ∈ lw_all := lw_g (lw_at lw_m8 16 rfl) rfl
theorem q1785 : (Jvm.Cond.methodLink "java/lang/String" (1051 : Nat) ({ cls := "java/lang/StringUTF16", name := "compress", desc := "([BII)[B" } : Jvm.MethodName)) ∈ lw_all := lw_g (lw_at lw_m8 36 rfl) rfl
theorem q1793 : (Jvm.Cond.methodLink "java/lang/String" (47 : Nat) ({ cls := "java/lang/StringUTF16", name := "coderFromArrayLen", desc := "([BI)B" } : Jvm.MethodName)) ∈ lw_all := lw_g (lw_at lw_m8 44 rfl) rfl
theorem q1796 : (Jvm.Cond.fieldLink "java/lang/String" (9 : Nat) "java/lang/String" "value" "[B") ∈ lw_all := lw_g (lw_at lw_m8 47 rfl) rfl
theorem q1797 : (Jvm.Cond.fieldLink "java/lang/String" (15 : Nat) "java/lang/String" "coder" "B") ∈ lw_all := lw_g (lw_at lw_m8 48 rfl) rfl
theorem q1798 : (Jvm.Cond.lays "java/lang/String" "java/lang/String" "hash" "I") ∈ lw_all := lw_g (lw_at lw_m8 49 rfl) rfl
theorem q1799 : (Jvm.Cond.soleField "java/lang/String" "hash") ∈ lw_all := lw_g (lw_at lw_m8 50 rfl) rfl
theorem q1800 : (Jvm.Cond.lays "java/lang/String" "java/lang/String" "hashIsZero" "Z") ∈ lw_all := lw_g (lw_at lw_m8 51 rfl) rfl
theorem q1801 : (Jvm.Cond.soleField "java/lang/String" "hashIsZero") ∈ lw_all := lw_g (lw_at lw_m8 52 rfl) rfl
theorem q1802 : (Jvm.Cond.superclass "java/lang/String" "java/lang/Object") ∈ lw_all := lw_g (lw_at lw_m8 53 rfl) rfl
theorem q2218 : (Jvm.Cond.instanceMethod ({ cls := "java/lang/String", name := "indexOf", desc := "(I)I" } : Jvm.MethodName)) ∈ lw_all := lw_g (lw_at lw_m9 229 rfl) rfl
theorem q2219 : (Jvm.Cond.selects "java/lang/String" ({ cls := "java/lang/String", name := "indexOf", desc := "(I)I" } : Jvm.MethodName) ({ cls := "java/lang/String", name := "indexOf", desc := "(I)I" } : Jvm.MethodName)) ∈ lw_all := lw_g (lw_at lw_m9 230 rfl) rfl
theorem q2220 : (Jvm.Cond.code ({ cls := "java/lang/String", name := "indexOf", desc := "(I)I" } : Jvm.MethodName) prog_36_method_79_code (2 : Nat) (Option.some Jvm.ClassFile.FieldType.int)) ∈ lw_all := lw_g (lw_at lw_m9 231 rfl) rfl
theorem q2221 : (Jvm.Cond.methodLink "java/lang/String" (633 : Nat) ({ cls := "java/lang/String", name := "indexOf", desc := "(II)I" } : Jvm.MethodName)) ∈ lw_all := lw_g (lw_at lw_m9 232 rfl) rfl
theorem q2222 : (Jvm.Cond.instanceMethod ({ cls := "java/lang/String", name := "indexOf", desc := "(II)I" } : Jvm.MethodName)) ∈ lw_all := lw_g (lw_at lw_m9 233 rfl) rfl
theorem q2223 : (Jvm.Cond.selects "java/lang/String" ({ cls := "java/lang/String", name := "indexOf", desc := "(II)I" } : Jvm.MethodName) ({ cls := "java/lang/String", name := "indexOf", desc := "(II)I" } : Jvm.MethodName)) ∈ lw_all := lw_g (lw_at lw_m9 234 rfl) rfl
theorem q2224 : (Jvm.Cond.code ({ cls := "java/lang/String", name := "indexOf", desc := "(II)I" } : Jvm.MethodName) prog_36_method_80_code (3 : Nat) (Option.some Jvm.ClassFile.FieldType.int)) ∈ lw_all := lw_g (lw_at lw_m9 235 rfl) rfl
theorem q2225 : (Jvm.Cond.methodLink "java/lang/String" (492 : Nat) ({ cls := "java/lang/String", name := "isLatin1", desc := "()Z" } : Jvm.MethodName)) ∈ lw_all := lw_g (lw_at lw_m9 236 rfl) rfl
theorem q2226 : (Jvm.Cond.instanceMethod ({ cls := "java/lang/String", name := "isLatin1", desc := "()Z" } : Jvm.MethodName)) ∈ lw_all := lw_g (lw_at lw_m9 237 rfl) rfl
theorem q2227 : (Jvm.Cond.selects "java/lang/String" ({ cls := "java/lang/String", name := "isLatin1", desc := "()Z" } : Jvm.MethodName) ({ cls := "java/lang/String", name := "isLatin1", desc := "()Z" } : Jvm.MethodName)) ∈ lw_all := lw_g (lw_at lw_m9 238 rfl) rfl
theorem q2228 : (Jvm.Cond.code ({ cls := "java/lang/String", name := "isLatin1", desc := "()Z" } : Jvm.MethodName) prog_36_method_154_code (1 : Nat) (Option.some Jvm.ClassFile.FieldType.boolean)) ∈ lw_all := lw_g (lw_at lw_m9 239 rfl) rfl
theorem q2229 : (Jvm.Cond.methodLink "java/lang/String" (505 : Nat) ({ cls := "java/lang/String", name := "length", desc := "()I" } : Jvm.MethodName)) ∈ lw_all := lw_g (lw_at lw_m10 0 rfl) rfl
theorem q2230 : (Jvm.Cond.methodLink "java/lang/String" (637 : Nat) ({ cls := "java/lang/StringLatin1", name := "indexOf", desc := "([BIII)I" } : Jvm.MethodName)) ∈ lw_all := lw_g (lw_at lw_m10 1 rfl) rfl
theorem q2241 : (Jvm.Cond.methodLink "java/lang/String" (640 : Nat) ({ cls := "java/lang/StringUTF16", name := "indexOf", desc := "([BIII)I" } : Jvm.MethodName)) ∈ lw_all := lw_g (lw_at lw_m10 12 rfl) rfl
theorem q2356 : (Jvm.Cond.castable "java/lang/String" "java/lang/Object") ∈ lw_tbl := lw_at lw_m10 127 rfl
theorem in_J4 : ∀ w ∈ wsJ40, w ∈ lw_all := lw_in wsJ40 [803, 805, 1798, 1800] (by decide +kernel) (by decide +kernel)

/-! java/lang/StringUTF16 -/
def RJ5 : String := "java/lang/StringUTF16"
abbrev cJ5_newBytesFor : ByteArray := prog_40_method_2_code
def yJ5_newBytesFor : MethodName := ⟨RJ5, "newBytesFor", "(I)[B"⟩
abbrev cJ5_newBytesLength : ByteArray := prog_40_method_3_code
def yJ5_newBytesLength : MethodName := ⟨RJ5, "newBytesLength", "(I)I"⟩
abbrev cJ5_inflate : ByteArray := prog_40_method_86_code
def yJ5_inflate : MethodName := ⟨RJ5, "inflate", "([BI[BII)V"⟩
abbrev cJ5_checkBoundsOffCount : ByteArray := prog_40_method_94_code
def yJ5_checkBoundsOffCount : MethodName := ⟨RJ5, "checkBoundsOffCount", "(II[B)V"⟩
abbrev cJ5_length : ByteArray := prog_40_method_6_code
def yJ5_length : MethodName := ⟨RJ5, "length", "([B)I"⟩
abbrev cJ5_putChar : ByteArray := prog_40_method_4_code
def yJ5_putChar : MethodName := ⟨RJ5, "putChar", "([BII)V"⟩
abbrev cJ5_putCharSB : ByteArray := prog_40_method_71_code
def yJ5_putCharSB : MethodName := ⟨RJ5, "putCharSB", "([BII)V"⟩
abbrev cJ5_checkIndex : ByteArray := prog_40_method_91_code
def yJ5_checkIndex : MethodName := ⟨RJ5, "checkIndex", "(I[B)V"⟩
abbrev cJ5_getChar : ByteArray := prog_40_method_5_code
def yJ5_getChar : MethodName := ⟨RJ5, "getChar", "([BI)C"⟩
abbrev cJ5_putCharsAt : ByteArray := prog_40_method_81_code
def yJ5_putCharsAt : MethodName := ⟨RJ5, "putCharsAt", "([BICCCC)I"⟩
abbrev cJ5_checkBoundsBeginEnd : ByteArray := prog_40_method_93_code
def yJ5_checkBoundsBeginEnd : MethodName := ⟨RJ5, "checkBoundsBeginEnd", "(II[B)V"⟩
abbrev cJ5_getChars : ByteArray := prog_40_method_77_code
def yJ5_getChars : MethodName := ⟨RJ5, "getChars", "(III[B)I"⟩
abbrev cJ5_getChars_2 : ByteArray := prog_40_method_89_code
def yJ5_getChars_2 : MethodName := ⟨RJ5, "getChars", "(II[B)I"⟩
abbrev cJ5_compress : ByteArray := prog_40_method_17_code
def yJ5_compress : MethodName := ⟨RJ5, "compress", "([BII)[B"⟩
abbrev cJ5_compress_2 : ByteArray := prog_40_method_22_code
def yJ5_compress_2 : MethodName := ⟨RJ5, "compress", "([BI[BII)I"⟩
abbrev cJ5_coderFromArrayLen : ByteArray := prog_40_method_15_code
def yJ5_coderFromArrayLen : MethodName := ⟨RJ5, "coderFromArrayLen", "([BI)B"⟩
abbrev cJ5_fillNull : ByteArray := prog_40_method_70_code
def yJ5_fillNull : MethodName := ⟨RJ5, "fillNull", "([BII)V"⟩
abbrev cJ5_indexOf : ByteArray := prog_40_method_40_code
def yJ5_indexOf : MethodName := ⟨RJ5, "indexOf", "([BIII)I"⟩
abbrev cJ5_indexOfChar : ByteArray := prog_40_method_47_code
def yJ5_indexOfChar : MethodName := ⟨RJ5, "indexOfChar", "([BIII)I"⟩
abbrev cJ5_indexOfCharUnsafe : ByteArray := prog_40_method_48_code
def yJ5_indexOfCharUnsafe : MethodName := ⟨RJ5, "indexOfCharUnsafe", "([BIII)I"⟩
abbrev cJ5_indexOfSupplementary : ByteArray := prog_40_method_49_code
def yJ5_indexOfSupplementary : MethodName := ⟨RJ5, "indexOfSupplementary", "([BIII)I"⟩
theorem q78 : (Jvm.Cond.initialized "java/lang/StringUTF16") ∈ lw_all := lw_g (lw_at lw_m1 9 rfl) rfl
theorem q303 : (Jvm.Cond.static ({ cls := "java/lang/StringUTF16", name := "newBytesFor", desc := "(I)[B" } : Jvm.MethodName)) ∈ lw_all := lw_g (lw_at lw_m1 234 rfl) rfl
theorem q304 : (Jvm.Cond.code ({ cls := "java/lang/StringUTF16", name := "newBytesFor", desc := "(I)[B" } : Jvm.MethodName) prog_40_method_2_code (1 : Nat) (Option.some (Jvm.ClassFile.FieldType.array Jvm.ClassFile.FieldType.byte))) ∈ lw_all := lw_g (lw_at lw_m1 235 rfl) rfl
theorem q305 : (Jvm.Cond.methodLink "java/lang/StringUTF16" (11 : Nat) ({ cls := "java/lang/StringUTF16", name := "newBytesLength", desc := "(I)I" } : Jvm.MethodName)) ∈ lw_all := lw_g (lw_at lw_m1 236 rfl) rfl
theorem q306 : (Jvm.Cond.static ({ cls := "java/lang/StringUTF16", name := "newBytesLength", desc := "(I)I" } : Jvm.MethodName)) ∈ lw_all := lw_g (lw_at lw_m1 237 rfl) rfl
theorem q307 : (Jvm.Cond.code ({ cls := "java/lang/StringUTF16", name := "newBytesLength", desc := "(I)I" } : Jvm.MethodName) prog_40_method_3_code (1 : Nat) (Option.some Jvm.ClassFile.FieldType.int)) ∈ lw_all := lw_g (lw_at lw_m1 238 rfl) rfl
theorem q308 : (Jvm.Cond.constant "java/lang/StringUTF16" (20 : Nat) (1073741823 : Int32)) ∈ lw_all := lw_g (lw_at lw_m1 239 rfl) rfl
theorem q1453 : (Jvm.Cond.static ({ cls := "java/lang/StringUTF16", name := "inflate", desc := "([BI[BII)V" } : Jvm.MethodName)) ∈ lw_all := lw_g (lw_at lw_m6 184 rfl) rfl
theorem q1454 : (Jvm.Cond.code ({ cls := "java/lang/StringUTF16", name := "inflate", desc := "([BI[BII)V" } : Jvm.MethodName) prog_40_method_86_code (6 : Nat) (Option.none : Option Jvm.ClassFile.FieldType)) ∈ lw_all := lw_g (lw_at lw_m6 185 rfl) rfl
theorem q1455 : (Jvm.Cond.methodLink "java/lang/StringUTF16" (173 : Nat) ({ cls := "java/lang/StringUTF16", name := "checkBoundsOffCount", desc := "(II[B)V" } : Jvm.MethodName)) ∈ lw_all := lw_g (lw_at lw_m6 186 rfl) rfl
theorem q1456 : (Jvm.Cond.static ({ cls := "java/lang/StringUTF16", name := "checkBoundsOffCount", desc := "(II[B)V" } : Jvm.MethodName)) ∈ lw_all := lw_g (lw_at lw_m6 187 rfl) rfl
theorem q1457 : (Jvm.Cond.code ({ cls := "java/lang/StringUTF16", name := "checkBoundsOffCount", desc := "(II[B)V" } : Jvm.MethodName) prog_40_method_94_code (3 : Nat) (Option.none : Option Jvm.ClassFile.FieldType)) ∈ lw_all := lw_g (lw_at lw_m6 188 rfl) rfl
theorem q1458 : (Jvm.Cond.methodLink "java/lang/StringUTF16" (48 : Nat) ({ cls := "java/lang/StringUTF16", name := "length", desc := "([B)I" } : Jvm.MethodName)) ∈ lw_all := lw_g (lw_at lw_m6 189 rfl) rfl
theorem q1459 : (Jvm.Cond.static ({ cls := "java/lang/StringUTF16", name := "length", desc := "([B)I" } : Jvm.MethodName)) ∈ lw_all := lw_g (lw_at lw_m6 190 rfl) rfl
theorem q1460 : (Jvm.Cond.code ({ cls := "java/lang/StringUTF16", name := "length", desc := "([B)I" } : Jvm.MethodName) prog_40_method_6_code (1 : Nat) (Option.some Jvm.ClassFile.FieldType.int)) ∈ lw_all := lw_g (lw_at lw_m6 191 rfl) rfl
theorem q1461 : (Jvm.Cond.methodLink "java/lang/StringUTF16" (419 : Nat) ({ cls := "java/lang/String", name := "checkBoundsOffCount", desc := "(III)I" } : Jvm.MethodName)) ∈ lw_all := lw_g (lw_at lw_m6 192 rfl) rfl
theorem q1469 : (Jvm.Cond.methodLink "java/lang/StringUTF16" (111 : Nat) ({ cls := "java/lang/StringUTF16", name := "putChar", desc := "([BII)V" } : Jvm.MethodName)) ∈ lw_all := lw_g (lw_at lw_m6 200 rfl) rfl
theorem q1470 : (Jvm.Cond.static ({ cls := "java/lang/StringUTF16", name := "putChar", desc := "([BII)V" } : Jvm.MethodName)) ∈ lw_all := lw_g (lw_at lw_m6 201 rfl) rfl
theorem q1471 : (Jvm.Cond.code ({ cls := "java/lang/StringUTF16", name := "putChar", desc := "([BII)V" } : Jvm.MethodName) prog_40_method_4_code (3 : Nat) (Option.none : Option Jvm.ClassFile.FieldType)) ∈ lw_all := lw_g (lw_at lw_m6 202 rfl) rfl
theorem q1472 : (Jvm.Cond.fieldLink "java/lang/StringUTF16" (44 : Nat) "java/lang/StringUTF16" "$assertionsDisabled" "Z") ∈ lw_all := lw_g (lw_at lw_m6 203 rfl) rfl
theorem q1473 : (Jvm.Cond.laysStatic "java/lang/StringUTF16" "$assertionsDisabled" "Z") ∈ lw_tbl := lw_at lw_m6 204 rfl
theorem q1474 : (Jvm.Cond.fieldLink "java/lang/StringUTF16" (59 : Nat) "java/lang/StringUTF16" "HI_BYTE_SHIFT" "I") ∈ lw_all := lw_g (lw_at lw_m6 205 rfl) rfl
theorem q1475 : (Jvm.Cond.laysStatic "java/lang/StringUTF16" "HI_BYTE_SHIFT" "I") ∈ lw_tbl := lw_at lw_m6 206 rfl
theorem q1476 : (Jvm.Cond.fieldLink "java/lang/StringUTF16" (63 : Nat) "java/lang/StringUTF16" "LO_BYTE_SHIFT" "I") ∈ lw_all := lw_g (lw_at lw_m6 207 rfl) rfl
theorem q1477 : (Jvm.Cond.laysStatic "java/lang/StringUTF16" "LO_BYTE_SHIFT" "I") ∈ lw_tbl := lw_at lw_m6 208 rfl
theorem q1479 : (Jvm.Cond.static ({ cls := "java/lang/StringUTF16", name := "putCharSB", desc := "([BII)V" } : Jvm.MethodName)) ∈ lw_all := lw_g (lw_at lw_m6 210 rfl) rfl
theorem q1480 : (Jvm.Cond.code ({ cls := "java/lang/StringUTF16", name := "putCharSB", desc := "([BII)V" } : Jvm.MethodName) prog_40_method_71_code (3 : Nat) (Option.none : Option Jvm.ClassFile.FieldType)) ∈ lw_all := lw_g (lw_at lw_m6 211 rfl) rfl
theorem q1481 : (Jvm.Cond.methodLink "java/lang/StringUTF16" (67 : Nat) ({ cls := "java/lang/StringUTF16", name := "checkIndex", desc := "(I[B)V" } : Jvm.MethodName)) ∈ lw_all := lw_g (lw_at lw_m6 212 rfl) rfl
theorem q1482 : (Jvm.Cond.static ({ cls := "java/lang/StringUTF16", name := "checkIndex", desc := "(I[B)V" } : Jvm.MethodName)) ∈ lw_all := lw_g (lw_at lw_m6 213 rfl) rfl
theorem q1483 : (Jvm.Cond.code ({ cls := "java/lang/StringUTF16", name := "checkIndex", desc := "(I[B)V" } : Jvm.MethodName) prog_40_method_91_code (2 : Nat) (Option.none : Option Jvm.ClassFile.FieldType)) ∈ lw_all := lw_g (lw_at lw_m6 214 rfl) rfl
theorem q1484 : (Jvm.Cond.methodLink "java/lang/StringUTF16" (414 : Nat) ({ cls := "java/lang/String", name := "checkIndex", desc := "(II)V" } : Jvm.MethodName)) ∈ lw_all := lw_g (lw_at lw_m6 215 rfl) rfl
theorem q1568 : (Jvm.Cond.static ({ cls := "java/lang/StringUTF16", name := "getChar", desc := "([BI)C" } : Jvm.MethodName)) ∈ lw_all := lw_g (lw_at lw_m7 59 rfl) rfl
theorem q1569 : (Jvm.Cond.code ({ cls := "java/lang/StringUTF16", name := "getChar", desc := "([BI)C" } : Jvm.MethodName) prog_40_method_5_code (2 : Nat) (Option.some Jvm.ClassFile.FieldType.char)) ∈ lw_all := lw_g (lw_at lw_m7 60 rfl) rfl
theorem q1686 : (Jvm.Cond.static ({ cls := "java/lang/StringUTF16", name := "putCharsAt", desc := "([BICCCC)I" } : Jvm.MethodName)) ∈ lw_all := lw_g (lw_at lw_m7 177 rfl) rfl
theorem q1687 : (Jvm.Cond.code ({ cls := "java/lang/StringUTF16", name := "putCharsAt", desc := "([BICCCC)I" } : Jvm.MethodName) prog_40_method_81_code (7 : Nat) (Option.some Jvm.ClassFile.FieldType.int)) ∈ lw_all := lw_g (lw_at lw_m7 178 rfl) rfl
theorem q1688 : (Jvm.Cond.methodLink "java/lang/StringUTF16" (96 : Nat) ({ cls := "java/lang/StringUTF16", name := "checkBoundsBeginEnd", desc := "(II[B)V" } : Jvm.MethodName)) ∈ lw_all := lw_g (lw_at lw_m7 179 rfl) rfl
theorem q1689 : (Jvm.Cond.static ({ cls := "java/lang/StringUTF16", name := "checkBoundsBeginEnd", desc := "(II[B)V" } : Jvm.MethodName)) ∈ lw_all := lw_g (lw_at lw_m7 180 rfl) rfl
theorem q1690 : (Jvm.Cond.code ({ cls := "java/lang/StringUTF16", name := "checkBoundsBeginEnd", desc := "(II[B)V" } : Jvm.MethodName) prog_40_method_93_code (3 : Nat) (Option.none : Option Jvm.ClassFile.FieldType)) ∈ lw_all := lw_g (lw_at lw_m7 181 rfl) rfl
theorem q1691 : (Jvm.Cond.methodLink "java/lang/StringUTF16" (241 : Nat) ({ cls := "java/lang/String", name := "checkBoundsBeginEnd", desc := "(III)V" } : Jvm.MethodName)) ∈ lw_all := lw_g (lw_at lw_m7 182 rfl) rfl
theorem q1739 : (Jvm.Cond.static ({ cls := "java/lang/StringUTF16", name := "getChars", desc := "(III[B)I" } : Jvm.MethodName)) ∈ lw_all := lw_g (lw_at lw_m7 230 rfl) rfl
theorem q1740 : (Jvm.Cond.code ({ cls := "java/lang/StringUTF16", name := "getChars", desc := "(III[B)I" } : Jvm.MethodName) prog_40_method_77_code (5 : Nat) (Option.some Jvm.ClassFile.FieldType.int)) ∈ lw_all := lw_g (lw_at lw_m7 231 rfl) rfl
theorem q1741 : (Jvm.Cond.methodLink "java/lang/StringUTF16" (393 : Nat) ({ cls := "java/lang/StringUTF16", name := "getChars", desc := "(II[B)I" } : Jvm.MethodName)) ∈ lw_all := lw_g (lw_at lw_m7 232 rfl) rfl
theorem q1742 : (Jvm.Cond.static ({ cls := "java/lang/StringUTF16", name := "getChars", desc := "(II[B)I" } : Jvm.MethodName)) ∈ lw_all := lw_g (lw_at lw_m7 233 rfl) rfl
theorem q1743 : (Jvm.Cond.code ({ cls := "java/lang/StringUTF16", name := "getChars", desc := "(II[B)I" } : Jvm.MethodName) prog_40_method_89_code (7 : Nat) (Option.some Jvm.ClassFile.FieldType.int)) ∈ lw_all := lw_g (lw_at lw_m7 234 rfl) rfl
theorem q1744 : (Jvm.Cond.fieldLink "java/lang/StringUTF16" (403 : Nat) "java/lang/Integer" "DigitOnes" "[B") ∈ lw_all := lw_g (lw_at lw_m7 235 rfl) rfl
theorem q1745 : (Jvm.Cond.fieldLink "java/lang/StringUTF16" (407 : Nat) "java/lang/Integer" "DigitTens" "[B") ∈ lw_all := lw_g (lw_at lw_m7 236 rfl) rfl
theorem q1786 : (Jvm.Cond.static ({ cls := "java/lang/StringUTF16", name := "compress", desc := "([BII)[B" } : Jvm.MethodName)) ∈ lw_all := lw_g (lw_at lw_m8 37 rfl) rfl
theorem q1787 : (Jvm.Cond.code ({ cls := "java/lang/StringUTF16", name := "compress", desc := "([BII)[B" } : Jvm.MethodName) prog_40_method_17_code (6 : Nat) (Option.some (Jvm.ClassFile.FieldType.array Jvm.ClassFile.FieldType.byte))) ∈ lw_all := lw_g (lw_at lw_m8 38 rfl) rfl
theorem q1788 : (Jvm.Cond.methodLink "java/lang/StringUTF16" (123 : Nat) ({ cls := "java/lang/StringUTF16", name := "compress", desc := "([BI[BII)I" } : Jvm.MethodName)) ∈ lw_all := lw_g (lw_at lw_m8 39 rfl) rfl
theorem q1789 : (Jvm.Cond.static ({ cls := "java/lang/StringUTF16", name := "compress", desc := "([BI[BII)I" } : Jvm.MethodName)) ∈ lw_all := lw_g (lw_at lw_m8 40 rfl) rfl
theorem q1790 : (Jvm.Cond.code ({ cls := "java/lang/StringUTF16", name := "compress", desc := "([BI[BII)I" } : Jvm.MethodName) prog_40_method_22_code (7 : Nat) (Option.some Jvm.ClassFile.FieldType.int)) ∈ lw_all := lw_g (lw_at lw_m8 41 rfl) rfl
theorem q1791 : (Jvm.Cond.methodLink "java/lang/StringUTF16" (71 : Nat) ({ cls := "java/lang/StringUTF16", name := "getChar", desc := "([BI)C" } : Jvm.MethodName)) ∈ lw_all := lw_g (lw_at lw_m8 42 rfl) rfl
theorem q1792 : (Jvm.Cond.methodLink "java/lang/StringUTF16" (126 : Nat) ({ cls := "java/util/Arrays", name := "copyOfRange", desc := "([BII)[B" } : Jvm.MethodName)) ∈ lw_all := lw_g (lw_at lw_m8 43 rfl) rfl
theorem q1794 : (Jvm.Cond.static ({ cls := "java/lang/StringUTF16", name := "coderFromArrayLen", desc := "([BI)B" } : Jvm.MethodName)) ∈ lw_all := lw_g (lw_at lw_m8 45 rfl) rfl
theorem q1795 : (Jvm.Cond.code ({ cls := "java/lang/StringUTF16", name := "coderFromArrayLen", desc := "([BI)B" } : Jvm.MethodName) prog_40_method_15_code (2 : Nat) (Option.some Jvm.ClassFile.FieldType.byte)) ∈ lw_all := lw_g (lw_at lw_m8 46 rfl) rfl
theorem q1834 : (Jvm.Cond.static ({ cls := "java/lang/StringUTF16", name := "fillNull", desc := "([BII)V" } : Jvm.MethodName)) ∈ lw_all := lw_g (lw_at lw_m8 85 rfl) rfl
theorem q1835 : (Jvm.Cond.code ({ cls := "java/lang/StringUTF16", name := "fillNull", desc := "([BII)V" } : Jvm.MethodName) prog_40_method_70_code (3 : Nat) (Option.none : Option Jvm.ClassFile.FieldType)) ∈ lw_all := lw_g (lw_at lw_m8 86 rfl) rfl
theorem q1836 : (Jvm.Cond.methodLink "java/lang/StringUTF16" (380 : Nat) ({ cls := "java/util/Arrays", name := "fill", desc := "([BIIB)V" } : Jvm.MethodName)) ∈ lw_all := lw_g (lw_at lw_m8 87 rfl) rfl
theorem q2242 : (Jvm.Cond.static ({ cls := "java/lang/StringUTF16", name := "indexOf", desc := "([BIII)I" } : Jvm.MethodName)) ∈ lw_all := lw_g (lw_at lw_m10 13 rfl) rfl
theorem q2243 : (Jvm.Cond.code ({ cls := "java/lang/StringUTF16", name := "indexOf", desc := "([BIII)I" } : Jvm.MethodName) prog_40_method_40_code (4 : Nat) (Option.some Jvm.ClassFile.FieldType.int)) ∈ lw_all := lw_g (lw_at lw_m10 14 rfl) rfl
theorem q2244 : (Jvm.Cond.methodLink "java/lang/StringUTF16" (224 : Nat) ({ cls := "java/lang/Math", name := "max", desc := "(II)I" } : Jvm.MethodName)) ∈ lw_all := lw_g (lw_at lw_m10 15 rfl) rfl
theorem q2245 : (Jvm.Cond.methodLink "java/lang/StringUTF16" (183 : Nat) ({ cls := "java/lang/Math", name := "min", desc := "(II)I" } : Jvm.MethodName)) ∈ lw_all := lw_g (lw_at lw_m10 16 rfl) rfl
theorem q2246 : (Jvm.Cond.constant "java/lang/StringUTF16" (227 : Nat) (65536 : Int32)) ∈ lw_all := lw_g (lw_at lw_m10 17 rfl) rfl
theorem q2247 : (Jvm.Cond.methodLink "java/lang/StringUTF16" (228 : Nat) ({ cls := "java/lang/StringUTF16", name := "indexOfChar", desc := "([BIII)I" } : Jvm.MethodName)) ∈ lw_all := lw_g (lw_at lw_m10 18 rfl) rfl
theorem q2248 : (Jvm.Cond.static ({ cls := "java/lang/StringUTF16", name := "indexOfChar", desc := "([BIII)I" } : Jvm.MethodName)) ∈ lw_all := lw_g (lw_at lw_m10 19 rfl) rfl
theorem q2249 : (Jvm.Cond.code ({ cls := "java/lang/StringUTF16", name := "indexOfChar", desc := "([BIII)I" } : Jvm.MethodName) prog_40_method_47_code (4 : Nat) (Option.some Jvm.ClassFile.FieldType.int)) ∈ lw_all := lw_g (lw_at lw_m10 20 rfl) rfl
theorem q2250 : (Jvm.Cond.methodLink "java/lang/StringUTF16" (244 : Nat) ({ cls := "java/lang/StringUTF16", name := "indexOfCharUnsafe", desc := "([BIII)I" } : Jvm.MethodName)) ∈ lw_all := lw_g (lw_at lw_m10 21 rfl) rfl
theorem q2251 : (Jvm.Cond.static ({ cls := "java/lang/StringUTF16", name := "indexOfCharUnsafe", desc := "([BIII)I" } : Jvm.MethodName)) ∈ lw_all := lw_g (lw_at lw_m10 22 rfl) rfl
theorem q2252 : (Jvm.Cond.code ({ cls := "java/lang/StringUTF16", name := "indexOfCharUnsafe", desc := "([BIII)I" } : Jvm.MethodName) prog_40_method_48_code (5 : Nat) (Option.some Jvm.ClassFile.FieldType.int)) ∈ lw_all := lw_g (lw_at lw_m10 23 rfl) rfl
theorem q2253 : (Jvm.Cond.methodLink "java/lang/StringUTF16" (232 : Nat) ({ cls := "java/lang/StringUTF16", name := "indexOfSupplementary", desc := "([BIII)I" } : Jvm.MethodName)) ∈ lw_all := lw_g (lw_at lw_m10 24 rfl) rfl
theorem q2254 : (Jvm.Cond.static ({ cls := "java/lang/StringUTF16", name := "indexOfSupplementary", desc := "([BIII)I" } : Jvm.MethodName)) ∈ lw_all := lw_g (lw_at lw_m10 25 rfl) rfl
theorem q2255 : (Jvm.Cond.code ({ cls := "java/lang/StringUTF16", name := "indexOfSupplementary", desc := "([BIII)I" } : Jvm.MethodName) prog_40_method_49_code (7 : Nat) (Option.some Jvm.ClassFile.FieldType.int)) ∈ lw_all := lw_g (lw_at lw_m10 26 rfl) rfl
theorem q2256 : (Jvm.Cond.methodLink "java/lang/StringUTF16" (164 : Nat) ({ cls := "java/lang/Character", name := "isValidCodePoint", desc := "(I)Z" } : Jvm.MethodName)) ∈ lw_all := lw_g (lw_at lw_m10 27 rfl) rfl
theorem q2259 : (Jvm.Cond.methodLink "java/lang/StringUTF16" (157 : Nat) ({ cls := "java/lang/Character", name := "highSurrogate", desc := "(I)C" } : Jvm.MethodName)) ∈ lw_all := lw_g (lw_at lw_m10 30 rfl) rfl
theorem q2263 : (Jvm.Cond.methodLink "java/lang/StringUTF16" (161 : Nat) ({ cls := "java/lang/Character", name := "lowSurrogate", desc := "(I)C" } : Jvm.MethodName)) ∈ lw_all := lw_g (lw_at lw_m10 34 rfl) rfl

/-! java/lang/Throwable -/
def RJ6 : String := "java/lang/Throwable"
def TJ6 : u_T := fun k => match k with
  | 0 => ("java/lang/Throwable", "cause", "Ljava/lang/Throwable;", false)
  | 1 => ("java/lang/Throwable", "stackTrace", "[Ljava/lang/StackTraceElement;", false)
  | 2 => ("java/lang/Throwable", "suppressedExceptions", "Ljava/util/List;", false)
  | 3 => ("java/lang/Throwable", "detailMessage", "Ljava/lang/String;", false)
  | _ => ("java/lang/Throwable", "backtrace", "Ljava/lang/Object;", false)
def tyJ6 : Nat → FieldType := fun k => match k with
  | 0 => .object "java/lang/Throwable"
  | 1 => .array (.object "java/lang/StackTraceElement")
  | 2 => .object "java/util/List"
  | 3 => .object "java/lang/String"
  | _ => .object "java/lang/Object"
abbrev wsJ60 : List Cond := u_ws RJ6 TJ6 5
theorem nmJ6 : ∀ a, a < 5 → ∀ b, b < 5 → a ≠ b → (TJ6 a).2.1 ≠ (TJ6 b).2.1 := by decide +kernel
theorem tyJ6_ok : ∀ k, k < 5 → parseFieldDescriptor (TJ6 k).2.2.1 = some (tyJ6 k) := by decide +kernel
abbrev cJ6_init : ByteArray := prog_42_method_1_code
def yJ6_init : MethodName := ⟨RJ6, "<init>", "()V"⟩
abbrev cJ6_init_2 : ByteArray := prog_42_method_2_code
def yJ6_init_2 : MethodName := ⟨RJ6, "<init>", "(Ljava/lang/String;)V"⟩
abbrev cJ6_init_3 : ByteArray := prog_42_method_5_code
def yJ6_init_3 : MethodName := ⟨RJ6, "<init>", "(Ljava/lang/String;Ljava/lang/Throwable;ZZ)V"⟩
theorem q83 : (Jvm.Cond.initialized "java/lang/Throwable") ∈ lw_all := lw_g (lw_at lw_m1 14 rfl) rfl
theorem q536 : (Jvm.Cond.declares ({ cls := "java/lang/Throwable", name := "<init>", desc := "()V" } : Jvm.MethodName)) ∈ lw_tbl := lw_at lw_m2 227 rfl
theorem q537 : (Jvm.Cond.declares ({ cls := "java/lang/Throwable", name := "<init>", desc := "(Ljava/lang/String;)V" } : Jvm.MethodName)) ∈ lw_tbl := lw_at lw_m2 228 rfl
theorem q541 : (Jvm.Cond.lays "java/lang/Throwable" "java/lang/Throwable" "cause" "Ljava/lang/Throwable;") ∈ lw_all := lw_g (lw_at lw_m2 232 rfl) rfl
theorem q543 : (Jvm.Cond.lays "java/lang/Throwable" "java/lang/Throwable" "stackTrace" "[Ljava/lang/StackTraceElement;") ∈ lw_all := lw_g (lw_at lw_m2 234 rfl) rfl
theorem q545 : (Jvm.Cond.lays "java/lang/Throwable" "java/lang/Throwable" "suppressedExceptions" "Ljava/util/List;") ∈ lw_all := lw_g (lw_at lw_m2 236 rfl) rfl
theorem q547 : (Jvm.Cond.lays "java/lang/Throwable" "java/lang/Throwable" "detailMessage" "Ljava/lang/String;") ∈ lw_all := lw_g (lw_at lw_m2 238 rfl) rfl
theorem q549 : (Jvm.Cond.lays "java/lang/Throwable" "java/lang/Throwable" "backtrace" "Ljava/lang/Object;") ∈ lw_all := lw_g (lw_at lw_m3 0 rfl) rfl
theorem q550 : (Jvm.Cond.fieldLink "java/lang/Throwable" (198 : Nat) "java/lang/Throwable" "backtrace" "Ljava/lang/Object;") ∈ lw_all := lw_g (lw_at lw_m3 1 rfl) rfl
theorem q551 : (Jvm.Cond.superclass "java/lang/Throwable" "java/lang/Object") ∈ lw_all := lw_g (lw_at lw_m3 2 rfl) rfl
theorem q552 : (Jvm.Cond.instanceMethod ({ cls := "java/lang/Throwable", name := "<init>", desc := "()V" } : Jvm.MethodName)) ∈ lw_all := lw_g (lw_at lw_m3 3 rfl) rfl
theorem q553 : (Jvm.Cond.code ({ cls := "java/lang/Throwable", name := "<init>", desc := "()V" } : Jvm.MethodName) prog_42_method_1_code (1 : Nat) (Option.none : Option Jvm.ClassFile.FieldType)) ∈ lw_all := lw_g (lw_at lw_m3 4 rfl) rfl
theorem q554 : (Jvm.Cond.methodLink "java/lang/Throwable" (1 : Nat) ({ cls := "java/lang/Object", name := "<init>", desc := "()V" } : Jvm.MethodName)) ∈ lw_all := lw_g (lw_at lw_m3 5 rfl) rfl
theorem q555 : (Jvm.Cond.fieldLink "java/lang/Throwable" (13 : Nat) "java/lang/Throwable" "UNASSIGNED_STACK" "[Ljava/lang/StackTraceElement;") ∈ lw_all := lw_g (lw_at lw_m3 6 rfl) rfl
theorem q556 : (Jvm.Cond.laysStatic "java/lang/Throwable" "UNASSIGNED_STACK" "[Ljava/lang/StackTraceElement;") ∈ lw_tbl := lw_at lw_m3 7 rfl
theorem q557 : (Jvm.Cond.fieldLink "java/lang/Throwable" (20 : Nat) "java/lang/Throwable" "SUPPRESSED_SENTINEL" "Ljava/util/List;") ∈ lw_all := lw_g (lw_at lw_m3 8 rfl) rfl
theorem q558 : (Jvm.Cond.laysStatic "java/lang/Throwable" "SUPPRESSED_SENTINEL" "Ljava/util/List;") ∈ lw_tbl := lw_at lw_m3 9 rfl
theorem q559 : (Jvm.Cond.methodLink "java/lang/Throwable" (27 : Nat) ({ cls := "java/lang/Throwable", name := "fillInStackTrace", desc := "()Ljava/lang/Throwable;" } : Jvm.MethodName)) ∈ lw_all := lw_g (lw_at lw_m3 10 rfl) rfl
theorem q560 : (Jvm.Cond.instanceMethod ({ cls := "java/lang/Throwable", name := "fillInStackTrace", desc := "()Ljava/lang/Throwable;" } : Jvm.MethodName)) ∈ lw_all := lw_g (lw_at lw_m3 11 rfl) rfl
theorem q561 : (Jvm.Cond.sameMethod "java/lang/Throwable" "java/lang/Throwable" "fillInStackTrace" "()Ljava/lang/Throwable;") ∈ lw_all := lw_g (lw_at lw_m3 12 rfl) rfl
theorem q571 : (Jvm.Cond.codeSync ({ cls := "java/lang/Throwable", name := "fillInStackTrace", desc := "()Ljava/lang/Throwable;" } : Jvm.MethodName) prog_42_method_18_code (1 : Nat) (Option.some (Jvm.ClassFile.FieldType.object "java/lang/Throwable"))) ∈ lw_all := lw_g (lw_at lw_m3 22 rfl) rfl
theorem q572 : (Jvm.Cond.methodLink "java/lang/Throwable" (202 : Nat) ({ cls := "java/lang/Throwable", name := "fillInStackTrace", desc := "(I)Ljava/lang/Throwable;" } : Jvm.MethodName)) ∈ lw_all := lw_g (lw_at lw_m3 23 rfl) rfl
theorem q573 : (Jvm.Cond.privateMethod ({ cls := "java/lang/Throwable", name := "fillInStackTrace", desc := "(I)Ljava/lang/Throwable;" } : Jvm.MethodName)) ∈ lw_tbl := lw_at lw_m3 24 rfl
theorem q574 : (Jvm.Cond.instanceMethod ({ cls := "java/lang/Throwable", name := "fillInStackTrace", desc := "(I)Ljava/lang/Throwable;" } : Jvm.MethodName)) ∈ lw_all := lw_g (lw_at lw_m3 25 rfl) rfl
theorem q575 : (Jvm.Cond.instantiable "java/lang/Throwable" (6 : Nat)) ∈ lw_all := lw_g (lw_at lw_m3 26 rfl) rfl
theorem q576 : (Jvm.Cond.native ({ cls := "java/lang/Throwable", name := "fillInStackTrace", desc := "(I)Ljava/lang/Throwable;" } : Jvm.MethodName)) ∈ lw_all := lw_g (lw_at lw_m3 27 rfl) rfl
theorem q587 : (Jvm.Cond.fieldLink "java/lang/Throwable" (198 : Nat) "java/lang/Throwable" "backtrace" "Ljava/lang/Object;") ∈ lw_all := lw_g (lw_at lw_m3 38 rfl) rfl
theorem q588 : (Jvm.Cond.fieldLink "java/lang/Throwable" (31 : Nat) "java/lang/Throwable" "detailMessage" "Ljava/lang/String;") ∈ lw_all := lw_g (lw_at lw_m3 39 rfl) rfl
theorem q589 : (Jvm.Cond.fieldLink "java/lang/Throwable" (7 : Nat) "java/lang/Throwable" "cause" "Ljava/lang/Throwable;") ∈ lw_all := lw_g (lw_at lw_m3 40 rfl) rfl
theorem q590 : (Jvm.Cond.fieldLink "java/lang/Throwable" (17 : Nat) "java/lang/Throwable" "stackTrace" "[Ljava/lang/StackTraceElement;") ∈ lw_all := lw_g (lw_at lw_m3 41 rfl) rfl
theorem q591 : (Jvm.Cond.fieldLink "java/lang/Throwable" (24 : Nat) "java/lang/Throwable" "suppressedExceptions" "Ljava/util/List;") ∈ lw_all := lw_g (lw_at lw_m3 42 rfl) rfl
theorem q592 : (Jvm.Cond.soleField "java/lang/Throwable" "backtrace") ∈ lw_all := lw_g (lw_at lw_m3 43 rfl) rfl
theorem q593 : (Jvm.Cond.soleField "java/lang/Throwable" "detailMessage") ∈ lw_all := lw_g (lw_at lw_m3 44 rfl) rfl
theorem q594 : (Jvm.Cond.soleField "java/lang/Throwable" "cause") ∈ lw_all := lw_g (lw_at lw_m3 45 rfl) rfl
theorem q595 : (Jvm.Cond.soleField "java/lang/Throwable" "stackTrace") ∈ lw_all := lw_g (lw_at lw_m3 46 rfl) rfl
theorem q597 : (Jvm.Cond.soleField "java/lang/Throwable" "depth") ∈ lw_all := lw_g (lw_at lw_m3 48 rfl) rfl
theorem q598 : (Jvm.Cond.soleField "java/lang/Throwable" "suppressedExceptions") ∈ lw_all := lw_g (lw_at lw_m3 49 rfl) rfl
theorem q637 : (Jvm.Cond.instanceMethod ({ cls := "java/lang/Throwable", name := "<init>", desc := "(Ljava/lang/String;)V" } : Jvm.MethodName)) ∈ lw_all := lw_g (lw_at lw_m3 88 rfl) rfl
theorem q638 : (Jvm.Cond.code ({ cls := "java/lang/Throwable", name := "<init>", desc := "(Ljava/lang/String;)V" } : Jvm.MethodName) prog_42_method_2_code (2 : Nat) (Option.none : Option Jvm.ClassFile.FieldType)) ∈ lw_all := lw_g (lw_at lw_m3 89 rfl) rfl
theorem q772 : (Jvm.Cond.instanceMethod ({ cls := "java/lang/Throwable", name := "<init>", desc := "(Ljava/lang/String;Ljava/lang/Throwable;ZZ)V" } : Jvm.MethodName)) ∈ lw_all := lw_g (lw_at lw_m3 223 rfl) rfl
theorem q773 : (Jvm.Cond.code ({ cls := "java/lang/Throwable", name := "<init>", desc := "(Ljava/lang/String;Ljava/lang/Throwable;ZZ)V" } : Jvm.MethodName) prog_42_method_5_code (5 : Nat) (Option.none : Option Jvm.ClassFile.FieldType)) ∈ lw_all := lw_g (lw_at lw_m3 224 rfl) rfl
theorem q2310 : (Jvm.Cond.sameMethod "java/lang/Throwable" "java/lang/Throwable" "fillInStackTrace" "(I)Ljava/lang/Throwable;") ∈ lw_all := lw_g (lw_at lw_m10 81 rfl) rfl
theorem q2358 : (Jvm.Cond.castable "java/lang/Throwable" "java/lang/Object") ∈ lw_tbl := lw_at lw_m10 129 rfl
theorem in_J6 : ∀ w ∈ wsJ60, w ∈ lw_all := lw_in wsJ60 [541, 543, 545, 547, 549] (by decide +kernel) (by decide +kernel)

/-! java/lang/Exception -/
def RJ7 : String := "java/lang/Exception"
abbrev cJ7_init : ByteArray := prog_26_method_1_code
def yJ7_init : MethodName := ⟨RJ7, "<init>", "()V"⟩
abbrev cJ7_init_2 : ByteArray := prog_26_method_2_code
def yJ7_init_2 : MethodName := ⟨RJ7, "<init>", "(Ljava/lang/String;)V"⟩
abbrev cJ7_init_3 : ByteArray := prog_26_method_5_code
def yJ7_init_3 : MethodName := ⟨RJ7, "<init>", "(Ljava/lang/String;Ljava/lang/Throwable;ZZ)V"⟩
theorem q84 : (Jvm.Cond.initialized "java/lang/Exception") ∈ lw_all := lw_g (lw_at lw_m1 15 rfl) rfl
theorem q534 : (Jvm.Cond.declares ({ cls := "java/lang/Exception", name := "<init>", desc := "()V" } : Jvm.MethodName)) ∈ lw_tbl := lw_at lw_m2 225 rfl
theorem q535 : (Jvm.Cond.declares ({ cls := "java/lang/Exception", name := "<init>", desc := "(Ljava/lang/String;)V" } : Jvm.MethodName)) ∈ lw_tbl := lw_at lw_m2 226 rfl
theorem q584 : (Jvm.Cond.instanceMethod ({ cls := "java/lang/Exception", name := "<init>", desc := "()V" } : Jvm.MethodName)) ∈ lw_all := lw_g (lw_at lw_m3 35 rfl) rfl
theorem q585 : (Jvm.Cond.code ({ cls := "java/lang/Exception", name := "<init>", desc := "()V" } : Jvm.MethodName) prog_26_method_1_code (1 : Nat) (Option.none : Option Jvm.ClassFile.FieldType)) ∈ lw_all := lw_g (lw_at lw_m3 36 rfl) rfl
theorem q586 : (Jvm.Cond.methodLink "java/lang/Exception" (1 : Nat) ({ cls := "java/lang/Throwable", name := "<init>", desc := "()V" } : Jvm.MethodName)) ∈ lw_all := lw_g (lw_at lw_m3 37 rfl) rfl
theorem q634 : (Jvm.Cond.instanceMethod ({ cls := "java/lang/Exception", name := "<init>", desc := "(Ljava/lang/String;)V" } : Jvm.MethodName)) ∈ lw_all := lw_g (lw_at lw_m3 85 rfl) rfl
theorem q635 : (Jvm.Cond.code ({ cls := "java/lang/Exception", name := "<init>", desc := "(Ljava/lang/String;)V" } : Jvm.MethodName) prog_26_method_2_code (2 : Nat) (Option.none : Option Jvm.ClassFile.FieldType)) ∈ lw_all := lw_g (lw_at lw_m3 86 rfl) rfl
theorem q636 : (Jvm.Cond.methodLink "java/lang/Exception" (7 : Nat) ({ cls := "java/lang/Throwable", name := "<init>", desc := "(Ljava/lang/String;)V" } : Jvm.MethodName)) ∈ lw_all := lw_g (lw_at lw_m3 87 rfl) rfl
theorem q769 : (Jvm.Cond.instanceMethod ({ cls := "java/lang/Exception", name := "<init>", desc := "(Ljava/lang/String;Ljava/lang/Throwable;ZZ)V" } : Jvm.MethodName)) ∈ lw_all := lw_g (lw_at lw_m3 220 rfl) rfl
theorem q770 : (Jvm.Cond.code ({ cls := "java/lang/Exception", name := "<init>", desc := "(Ljava/lang/String;Ljava/lang/Throwable;ZZ)V" } : Jvm.MethodName) prog_26_method_5_code (5 : Nat) (Option.none : Option Jvm.ClassFile.FieldType)) ∈ lw_all := lw_g (lw_at lw_m3 221 rfl) rfl
theorem q771 : (Jvm.Cond.methodLink "java/lang/Exception" (16 : Nat) ({ cls := "java/lang/Throwable", name := "<init>", desc := "(Ljava/lang/String;Ljava/lang/Throwable;ZZ)V" } : Jvm.MethodName)) ∈ lw_all := lw_g (lw_at lw_m3 222 rfl) rfl

/-! java/lang/RuntimeException -/
def RJ8 : String := "java/lang/RuntimeException"
abbrev cJ8_init : ByteArray := prog_35_method_1_code
def yJ8_init : MethodName := ⟨RJ8, "<init>", "()V"⟩
abbrev cJ8_init_2 : ByteArray := prog_35_method_2_code
def yJ8_init_2 : MethodName := ⟨RJ8, "<init>", "(Ljava/lang/String;)V"⟩
theorem q85 : (Jvm.Cond.initialized "java/lang/RuntimeException") ∈ lw_all := lw_g (lw_at lw_m1 16 rfl) rfl
theorem q532 : (Jvm.Cond.declares ({ cls := "java/lang/RuntimeException", name := "<init>", desc := "()V" } : Jvm.MethodName)) ∈ lw_tbl := lw_at lw_m2 223 rfl
theorem q533 : (Jvm.Cond.declares ({ cls := "java/lang/RuntimeException", name := "<init>", desc := "(Ljava/lang/String;)V" } : Jvm.MethodName)) ∈ lw_tbl := lw_at lw_m2 224 rfl
theorem q581 : (Jvm.Cond.instanceMethod ({ cls := "java/lang/RuntimeException", name := "<init>", desc := "()V" } : Jvm.MethodName)) ∈ lw_all := lw_g (lw_at lw_m3 32 rfl) rfl
theorem q582 : (Jvm.Cond.code ({ cls := "java/lang/RuntimeException", name := "<init>", desc := "()V" } : Jvm.MethodName) prog_35_method_1_code (1 : Nat) (Option.none : Option Jvm.ClassFile.FieldType)) ∈ lw_all := lw_g (lw_at lw_m3 33 rfl) rfl
theorem q583 : (Jvm.Cond.methodLink "java/lang/RuntimeException" (1 : Nat) ({ cls := "java/lang/Exception", name := "<init>", desc := "()V" } : Jvm.MethodName)) ∈ lw_all := lw_g (lw_at lw_m3 34 rfl) rfl
theorem q631 : (Jvm.Cond.instanceMethod ({ cls := "java/lang/RuntimeException", name := "<init>", desc := "(Ljava/lang/String;)V" } : Jvm.MethodName)) ∈ lw_all := lw_g (lw_at lw_m3 82 rfl) rfl
theorem q632 : (Jvm.Cond.code ({ cls := "java/lang/RuntimeException", name := "<init>", desc := "(Ljava/lang/String;)V" } : Jvm.MethodName) prog_35_method_2_code (2 : Nat) (Option.none : Option Jvm.ClassFile.FieldType)) ∈ lw_all := lw_g (lw_at lw_m3 83 rfl) rfl
theorem q633 : (Jvm.Cond.methodLink "java/lang/RuntimeException" (7 : Nat) ({ cls := "java/lang/Exception", name := "<init>", desc := "(Ljava/lang/String;)V" } : Jvm.MethodName)) ∈ lw_all := lw_g (lw_at lw_m3 84 rfl) rfl

/-! java/lang/IllegalArgumentException -/
def RJ9 : String := "java/lang/IllegalArgumentException"
def TJ9 : u_T := fun k => match k with
  | 0 => ("java/lang/Throwable", "cause", "Ljava/lang/Throwable;", false)
  | 1 => ("java/lang/Throwable", "stackTrace", "[Ljava/lang/StackTraceElement;", false)
  | 2 => ("java/lang/Throwable", "suppressedExceptions", "Ljava/util/List;", false)
  | 3 => ("java/lang/Throwable", "detailMessage", "Ljava/lang/String;", false)
  | 4 => ("java/lang/Throwable", "backtrace", "Ljava/lang/Object;", false)
  | _ => ("java/lang/Throwable", "depth", "I", false)
def tyJ9 : Nat → FieldType := fun k => match k with
  | 0 => .object "java/lang/Throwable"
  | 1 => .array (.object "java/lang/StackTraceElement")
  | 2 => .object "java/util/List"
  | 3 => .object "java/lang/String"
  | 4 => .object "java/lang/Object"
  | _ => .int
abbrev wsJ90 : List Cond := u_ws RJ9 TJ9 6
theorem nmJ9 : ∀ a, a < 6 → ∀ b, b < 6 → a ≠ b → (TJ9 a).2.1 ≠ (TJ9 b).2.1 := by decide +kernel
theorem tyJ9_ok : ∀ k, k < 6 → parseFieldDescriptor (TJ9 k).2.2.1 = some (tyJ9 k) := by decide +kernel
abbrev cJ9_init : ByteArray := prog_27_method_1_code
def yJ9_init : MethodName := ⟨RJ9, "<init>", "()V"⟩
abbrev cJ9_init_2 : ByteArray := prog_27_method_2_code
def yJ9_init_2 : MethodName := ⟨RJ9, "<init>", "(Ljava/lang/String;)V"⟩
theorem q86 : (Jvm.Cond.initialized "java/lang/IllegalArgumentException") ∈ lw_all := lw_g (lw_at lw_m1 17 rfl) rfl
theorem q566 : (Jvm.Cond.selects "java/lang/IllegalArgumentException" ({ cls := "java/lang/Throwable", name := "fillInStackTrace", desc := "()Ljava/lang/Throwable;" } : Jvm.MethodName) ({ cls := "java/lang/Throwable", name := "fillInStackTrace", desc := "()Ljava/lang/Throwable;" } : Jvm.MethodName)) ∈ lw_all := lw_g (lw_at lw_m3 17 rfl) rfl
theorem q663 : (Jvm.Cond.selects "java/lang/IllegalArgumentException" ({ cls := "java/lang/Object", name := "getClass", desc := "()Ljava/lang/Class;" } : Jvm.MethodName) ({ cls := "java/lang/Object", name := "getClass", desc := "()Ljava/lang/Class;" } : Jvm.MethodName)) ∈ lw_all := lw_g (lw_at lw_m3 114 rfl) rfl
theorem q734 : (Jvm.Cond.instantiable "java/lang/IllegalArgumentException" (6 : Nat)) ∈ lw_all := lw_g (lw_at lw_m3 185 rfl) rfl
theorem q735 : (Jvm.Cond.castable "java/lang/IllegalArgumentException" "java/lang/IllegalArgumentException") ∈ lw_tbl := lw_at lw_m3 186 rfl
theorem q736 : (Jvm.Cond.selects "java/lang/IllegalArgumentException" ({ cls := "java/lang/Throwable", name := "fillInStackTrace", desc := "(I)Ljava/lang/Throwable;" } : Jvm.MethodName) ({ cls := "java/lang/Throwable", name := "fillInStackTrace", desc := "(I)Ljava/lang/Throwable;" } : Jvm.MethodName)) ∈ lw_all := lw_g (lw_at lw_m3 187 rfl) rfl
theorem q737 : (Jvm.Cond.lays "java/lang/IllegalArgumentException" "java/lang/Throwable" "cause" "Ljava/lang/Throwable;") ∈ lw_all := lw_g (lw_at lw_m3 188 rfl) rfl
theorem q738 : (Jvm.Cond.lays "java/lang/IllegalArgumentException" "java/lang/Throwable" "stackTrace" "[Ljava/lang/StackTraceElement;") ∈ lw_all := lw_g (lw_at lw_m3 189 rfl) rfl
theorem q739 : (Jvm.Cond.lays "java/lang/IllegalArgumentException" "java/lang/Throwable" "suppressedExceptions" "Ljava/util/List;") ∈ lw_all := lw_g (lw_at lw_m3 190 rfl) rfl
theorem q740 : (Jvm.Cond.lays "java/lang/IllegalArgumentException" "java/lang/Throwable" "detailMessage" "Ljava/lang/String;") ∈ lw_all := lw_g (lw_at lw_m3 191 rfl) rfl
theorem q741 : (Jvm.Cond.lays "java/lang/IllegalArgumentException" "java/lang/Throwable" "backtrace" "Ljava/lang/Object;") ∈ lw_all := lw_g (lw_at lw_m3 192 rfl) rfl
theorem q743 : (Jvm.Cond.instanceMethod ({ cls := "java/lang/IllegalArgumentException", name := "<init>", desc := "()V" } : Jvm.MethodName)) ∈ lw_all := lw_g (lw_at lw_m3 194 rfl) rfl
theorem q744 : (Jvm.Cond.code ({ cls := "java/lang/IllegalArgumentException", name := "<init>", desc := "()V" } : Jvm.MethodName) prog_27_method_1_code (1 : Nat) (Option.none : Option Jvm.ClassFile.FieldType)) ∈ lw_all := lw_g (lw_at lw_m3 195 rfl) rfl
theorem q745 : (Jvm.Cond.methodLink "java/lang/IllegalArgumentException" (1 : Nat) ({ cls := "java/lang/RuntimeException", name := "<init>", desc := "()V" } : Jvm.MethodName)) ∈ lw_all := lw_g (lw_at lw_m3 196 rfl) rfl
theorem q746 : (Jvm.Cond.lays "java/lang/IllegalArgumentException" "java/lang/Throwable" "depth" "I") ∈ lw_all := lw_g (lw_at lw_m3 197 rfl) rfl
theorem q747 : (Jvm.Cond.superclass "java/lang/IllegalArgumentException" "java/lang/RuntimeException") ∈ lw_all := lw_g (lw_at lw_m3 198 rfl) rfl
theorem q1782 : (Jvm.Cond.instanceMethod ({ cls := "java/lang/IllegalArgumentException", name := "<init>", desc := "(Ljava/lang/String;)V" } : Jvm.MethodName)) ∈ lw_all := lw_g (lw_at lw_m8 33 rfl) rfl
theorem q1783 : (Jvm.Cond.code ({ cls := "java/lang/IllegalArgumentException", name := "<init>", desc := "(Ljava/lang/String;)V" } : Jvm.MethodName) prog_27_method_2_code (2 : Nat) (Option.none : Option Jvm.ClassFile.FieldType)) ∈ lw_all := lw_g (lw_at lw_m8 34 rfl) rfl
theorem q1784 : (Jvm.Cond.methodLink "java/lang/IllegalArgumentException" (7 : Nat) ({ cls := "java/lang/RuntimeException", name := "<init>", desc := "(Ljava/lang/String;)V" } : Jvm.MethodName)) ∈ lw_all := lw_g (lw_at lw_m8 35 rfl) rfl
theorem q2338 : (Jvm.Cond.castable "java/lang/IllegalArgumentException" "java/lang/Object") ∈ lw_tbl := lw_at lw_m10 109 rfl
theorem in_J9 : ∀ w ∈ wsJ90, w ∈ lw_all := lw_in wsJ90 [737, 738, 739, 740, 741, 746] (by decide +kernel) (by decide +kernel)

theorem q502 : (Jvm.Cond.interfaceMethod "BrookWeirs$Deed" "BrookWeirs$Deed" "done" "(LBrookWeirs$Brook;)I") ∈ lw_tbl := lw_at lw_m2 193 rfl
theorem q503 : (Jvm.Cond.declares ({ cls := "BrookWeirs$Deed", name := "done", desc := "(LBrookWeirs$Brook;)I" } : Jvm.MethodName)) ∈ lw_tbl := lw_at lw_m2 194 rfl

theorem q1431 : (Jvm.Cond.sameMethod "[B" "java/lang/Object" "clone" "()Ljava/lang/Object;") ∈ lw_all := lw_g (lw_at lw_m6 162 rfl) rfl
theorem q1434 : (Jvm.Cond.selects "[B" ({ cls := "[B", name := "clone", desc := "()Ljava/lang/Object;" } : Jvm.MethodName) ({ cls := "java/lang/Object", name := "clone", desc := "()Ljava/lang/Object;" } : Jvm.MethodName)) ∈ lw_all := lw_g (lw_at lw_m6 165 rfl) rfl
theorem q1435 : (Jvm.Cond.castable "[B" "java/lang/Cloneable") ∈ lw_tbl := lw_at lw_m6 166 rfl
theorem q2364 : (Jvm.Cond.castable "[B" "java/lang/Object") ∈ lw_tbl := lw_at lw_m10 135 rfl

theorem q2365 : (Jvm.Cond.castable "[C" "java/lang/Object") ∈ lw_tbl := lw_at lw_m10 136 rfl

theorem q2367 : (Jvm.Cond.castable "[D" "java/lang/Object") ∈ lw_tbl := lw_at lw_m10 138 rfl

theorem q2362 : (Jvm.Cond.castable "[I" "java/lang/Object") ∈ lw_tbl := lw_at lw_m10 133 rfl

theorem q2366 : (Jvm.Cond.castable "[J" "java/lang/Object") ∈ lw_tbl := lw_at lw_m10 137 rfl

theorem q2359 : (Jvm.Cond.sameMethod "[Ljava/lang/Object;" "java/lang/Object" "getClass" "()Ljava/lang/Class;") ∈ lw_all := lw_g (lw_at lw_m10 130 rfl) rfl
theorem q2360 : (Jvm.Cond.selects "[Ljava/lang/Object;" ({ cls := "java/lang/Object", name := "getClass", desc := "()Ljava/lang/Class;" } : Jvm.MethodName) ({ cls := "java/lang/Object", name := "getClass", desc := "()Ljava/lang/Class;" } : Jvm.MethodName)) ∈ lw_all := lw_g (lw_at lw_m10 131 rfl) rfl
theorem q2363 : (Jvm.Cond.castable "[Ljava/lang/Object;" "java/lang/Object") ∈ lw_tbl := lw_at lw_m10 134 rfl

theorem q102 : (Jvm.Cond.initialized "java/lang/Integer$IntegerCache") ∈ lw_all := lw_g (lw_at lw_m1 33 rfl) rfl
theorem q1127 : (Jvm.Cond.laysStatic "java/lang/Integer$IntegerCache" "high" "I") ∈ lw_tbl := lw_at lw_m5 98 rfl
theorem q1129 : (Jvm.Cond.laysStatic "java/lang/Integer$IntegerCache" "cache" "[Ljava/lang/Integer;") ∈ lw_tbl := lw_at lw_m5 100 rfl

theorem q926 : (Jvm.Cond.interfaceMethod "java/lang/Iterable" "java/lang/Iterable" "iterator" "()Ljava/util/Iterator;") ∈ lw_tbl := lw_at lw_m4 137 rfl
theorem q927 : (Jvm.Cond.declares ({ cls := "java/lang/Iterable", name := "iterator", desc := "()Ljava/util/Iterator;" } : Jvm.MethodName)) ∈ lw_tbl := lw_at lw_m4 138 rfl

theorem q88 : (Jvm.Cond.initialized "java/lang/System") ∈ lw_all := lw_g (lw_at lw_m1 19 rfl) rfl
theorem q411 : (Jvm.Cond.static ({ cls := "java/lang/System", name := "arraycopy", desc := "(Ljava/lang/Object;ILjava/lang/Object;II)V" } : Jvm.MethodName)) ∈ lw_all := lw_g (lw_at lw_m2 102 rfl) rfl
theorem q412 : (Jvm.Cond.native ({ cls := "java/lang/System", name := "arraycopy", desc := "(Ljava/lang/Object;ILjava/lang/Object;II)V" } : Jvm.MethodName)) ∈ lw_all := lw_g (lw_at lw_m2 103 rfl) rfl

theorem q1000 : (Jvm.Cond.interfaceMethod "java/util/Iterator" "java/util/Iterator" "hasNext" "()Z") ∈ lw_tbl := lw_at lw_m4 211 rfl
theorem q1001 : (Jvm.Cond.declares ({ cls := "java/util/Iterator", name := "hasNext", desc := "()Z" } : Jvm.MethodName)) ∈ lw_tbl := lw_at lw_m4 212 rfl
theorem q1032 : (Jvm.Cond.interfaceMethod "java/util/Iterator" "java/util/Iterator" "next" "()Ljava/lang/Object;") ∈ lw_tbl := lw_at lw_m5 3 rfl
theorem q1033 : (Jvm.Cond.declares ({ cls := "java/util/Iterator", name := "next", desc := "()Ljava/lang/Object;" } : Jvm.MethodName)) ∈ lw_tbl := lw_at lw_m5 4 rfl

theorem q1635 : (Jvm.Cond.interfaceMethod "java/util/List" "java/util/List" "add" "(Ljava/lang/Object;)Z") ∈ lw_tbl := lw_at lw_m7 126 rfl
theorem q1636 : (Jvm.Cond.declares ({ cls := "java/util/List", name := "add", desc := "(Ljava/lang/Object;)Z" } : Jvm.MethodName)) ∈ lw_tbl := lw_at lw_m7 127 rfl
theorem q1839 : (Jvm.Cond.interfaceMethod "java/util/List" "java/util/List" "iterator" "()Ljava/util/Iterator;") ∈ lw_tbl := lw_at lw_m8 90 rfl
theorem q1840 : (Jvm.Cond.declares ({ cls := "java/util/List", name := "iterator", desc := "()Ljava/util/Iterator;" } : Jvm.MethodName)) ∈ lw_tbl := lw_at lw_m8 91 rfl

theorem q164 : (Jvm.Cond.arrayClass Jvm.ClassFile.FieldType.int) ∈ lw_all := lw_g (lw_at lw_m1 95 rfl) rfl
theorem q278 : (Jvm.Cond.arrayOver (Jvm.ClassFile.FieldType.object "java/lang/Object")) ∈ lw_tbl := lw_at lw_m1 209 rfl
theorem q323 : (Jvm.Cond.arrayClass Jvm.ClassFile.FieldType.byte) ∈ lw_all := lw_g (lw_at lw_m2 14 rfl) rfl
theorem q1959 : (Jvm.Cond.arrayClass Jvm.ClassFile.FieldType.char) ∈ lw_all := lw_g (lw_at lw_m8 210 rfl) rfl
theorem q2308 : (Jvm.Cond.arrayClass Jvm.ClassFile.FieldType.long) ∈ lw_all := lw_g (lw_at lw_m10 79 rfl) rfl
theorem q2309 : (Jvm.Cond.arrayClass Jvm.ClassFile.FieldType.double) ∈ lw_all := lw_g (lw_at lw_m10 80 rfl) rfl

