/-! names: X0_below X0_done X0_isConstant X0_wordsOf X10_isSmall X1_actOf X20_act X2_digit X2_isDigit X2_isLetter X6_constant J15_bitCount J15_numberOfTrailingZeros J16_bitCount J16_numberOfTrailingZeros (tools/names.py) -/
set_option maxRecDepth 100000
theorem q2112 : (Jvm.Cond.constantLong "CompiledHouse" (19 : Nat) (4294967296 : Int64)) ∈ lw_all := lw_g (lw_at lw_m8 236 rfl) rfl
abbrev cX0_wordsOf : ByteArray := prog_1_method_1_code
def yX0_wordsOf : MethodName := ⟨RX0, "wordsOf", "(ZI)I"⟩
theorem q2341 : (Jvm.Cond.code ({ cls := "CompiledHouse", name := "wordsOf", desc := "(ZI)I" } : Jvm.MethodName) prog_1_method_1_code (2 : Nat) (Option.some Jvm.ClassFile.FieldType.int)) ∈ lw_all := lw_g (lw_at lw_m9 225 rfl) rfl
def kX0_wordsOf : xK := (yX0_wordsOf, cX0_wordsOf, 2, some .int, [])
theorem me_X0_wordsOf : xMe kX0_wordsOf 2 := ⟨q2341, q197, by decide, by decide, by decide +kernel⟩
theorem q2340 : (Jvm.Cond.static ({ cls := "CompiledHouse", name := "wordsOf", desc := "(ZI)I" } : Jvm.MethodName)) ∈ lw_all := lw_g (lw_at lw_m9 224 rfl) rfl
theorem st_X0_wordsOf : Cond.static kX0_wordsOf.y ∈ lw_all := q2340
abbrev cX10_isSmall : ByteArray := prog_17_method_14_code
def yX10_isSmall : MethodName := ⟨RX10, "isSmall", "(J)Z"⟩
theorem q2790 : (Jvm.Cond.code ({ cls := "CompiledHouse$Layer", name := "isSmall", desc := "(J)Z" } : Jvm.MethodName) prog_17_method_14_code (2 : Nat) (Option.some Jvm.ClassFile.FieldType.boolean)) ∈ lw_all := lw_g (lw_at lw_m11 194 rfl) rfl
def kX10_isSmall : xK := (yX10_isSmall, cX10_isSmall, 2, some .boolean, [])
theorem me_X10_isSmall : xMe kX10_isSmall 1 := ⟨q2790, q213, by decide, by decide, by decide +kernel⟩
theorem q2789 : (Jvm.Cond.static ({ cls := "CompiledHouse$Layer", name := "isSmall", desc := "(J)Z" } : Jvm.MethodName)) ∈ lw_all := lw_g (lw_at lw_m11 193 rfl) rfl
theorem st_X10_isSmall : Cond.static kX10_isSmall.y ∈ lw_all := q2789
theorem q2783 : (Jvm.Cond.methodLinkNest "CompiledHouse$Layer" (165 : Nat) ({ cls := "CompiledHouse", name := "isConstant", desc := "(J)Z" } : Jvm.MethodName) "CompiledHouse") ∈ lw_tbl := lw_at lw_m11 187 rfl
theorem lk_X10_165 : xLk RX10 165 yX0_isConstant := Or.inr ⟨_, q2783⟩
abbrev cX1_actOf : ByteArray := prog_27_method_29_code
def yX1_actOf : MethodName := ⟨RX1, "actOf", "(II)I"⟩
theorem q1395 : (Jvm.Cond.code ({ cls := "CompiledHouse$Parser", name := "actOf", desc := "(II)I" } : Jvm.MethodName) prog_27_method_29_code (2 : Nat) (Option.some Jvm.ClassFile.FieldType.int)) ∈ lw_all := lw_g (lw_at lw_m5 239 rfl) rfl
def kX1_actOf : xK := (yX1_actOf, cX1_actOf, 2, some .int, [])
theorem me_X1_actOf : xMe kX1_actOf 2 := ⟨q1395, q198, by decide, by decide, by decide +kernel⟩
theorem q1394 : (Jvm.Cond.static ({ cls := "CompiledHouse$Parser", name := "actOf", desc := "(II)I" } : Jvm.MethodName)) ∈ lw_all := lw_g (lw_at lw_m5 238 rfl) rfl
theorem st_X1_actOf : Cond.static kX1_actOf.y ∈ lw_all := q1394
abbrev cX20_act : ByteArray := prog_3_method_2_code
def yX20_act : MethodName := ⟨RX20, "act", "(I)I"⟩
theorem q2193 : (Jvm.Cond.code ({ cls := "CompiledHouse$Ahead", name := "act", desc := "(I)I" } : Jvm.MethodName) prog_3_method_2_code (1 : Nat) (Option.some Jvm.ClassFile.FieldType.int)) ∈ lw_all := lw_g (lw_at lw_m9 77 rfl) rfl
def kX20_act : xK := (yX20_act, cX20_act, 1, some .int, [])
theorem me_X20_act : xMe kX20_act 1 := ⟨q2193, q231, by decide, by decide, by decide +kernel⟩
theorem q2192 : (Jvm.Cond.static ({ cls := "CompiledHouse$Ahead", name := "act", desc := "(I)I" } : Jvm.MethodName)) ∈ lw_all := lw_g (lw_at lw_m9 76 rfl) rfl
theorem st_X20_act : Cond.static kX20_act.y ∈ lw_all := q2192
abbrev cX2_digit : ByteArray := prog_35_method_13_code
def yX2_digit : MethodName := ⟨RX2, "digit", "(I)I"⟩
theorem q994 : (Jvm.Cond.code ({ cls := "CompiledHouse$Tokens", name := "digit", desc := "(I)I" } : Jvm.MethodName) prog_35_method_13_code (1 : Nat) (Option.some Jvm.ClassFile.FieldType.int)) ∈ lw_all := lw_g (lw_at lw_m4 78 rfl) rfl
def kX2_digit : xK := (yX2_digit, cX2_digit, 1, some .int, [])
theorem me_X2_digit : xMe kX2_digit 1 := ⟨q994, q199, by decide, by decide, by decide +kernel⟩
theorem q993 : (Jvm.Cond.static ({ cls := "CompiledHouse$Tokens", name := "digit", desc := "(I)I" } : Jvm.MethodName)) ∈ lw_all := lw_g (lw_at lw_m4 77 rfl) rfl
theorem st_X2_digit : Cond.static kX2_digit.y ∈ lw_all := q993
theorem q978 : (Jvm.Cond.methodLink "CompiledHouse$Tokens" (181 : Nat) ({ cls := "CompiledHouse$Tokens", name := "isDigit", desc := "(I)Z" } : Jvm.MethodName)) ∈ lw_all := lw_g (lw_at lw_m4 62 rfl) rfl
abbrev cX2_isDigit : ByteArray := prog_35_method_4_code
def yX2_isDigit : MethodName := ⟨RX2, "isDigit", "(I)Z"⟩
theorem q980 : (Jvm.Cond.code ({ cls := "CompiledHouse$Tokens", name := "isDigit", desc := "(I)Z" } : Jvm.MethodName) prog_35_method_4_code (1 : Nat) (Option.some Jvm.ClassFile.FieldType.boolean)) ∈ lw_all := lw_g (lw_at lw_m4 64 rfl) rfl
def kX2_isDigit : xK := (yX2_isDigit, cX2_isDigit, 1, some .boolean, [])
theorem me_X2_isDigit : xMe kX2_isDigit 1 := ⟨q980, q199, by decide, by decide, by decide +kernel⟩
theorem q979 : (Jvm.Cond.static ({ cls := "CompiledHouse$Tokens", name := "isDigit", desc := "(I)Z" } : Jvm.MethodName)) ∈ lw_all := lw_g (lw_at lw_m4 63 rfl) rfl
theorem st_X2_isDigit : Cond.static kX2_isDigit.y ∈ lw_all := q979
theorem lk_X2_181 : xLk RX2 181 yX2_isDigit := Or.inl q978
abbrev cX2_isLetter : ByteArray := prog_35_method_5_code
def yX2_isLetter : MethodName := ⟨RX2, "isLetter", "(I)Z"⟩
theorem q991 : (Jvm.Cond.code ({ cls := "CompiledHouse$Tokens", name := "isLetter", desc := "(I)Z" } : Jvm.MethodName) prog_35_method_5_code (1 : Nat) (Option.some Jvm.ClassFile.FieldType.boolean)) ∈ lw_all := lw_g (lw_at lw_m4 75 rfl) rfl
def kX2_isLetter : xK := (yX2_isLetter, cX2_isLetter, 1, some .boolean, [])
theorem me_X2_isLetter : xMe kX2_isLetter 1 := ⟨q991, q199, by decide, by decide, by decide +kernel⟩
theorem q990 : (Jvm.Cond.static ({ cls := "CompiledHouse$Tokens", name := "isLetter", desc := "(I)Z" } : Jvm.MethodName)) ∈ lw_all := lw_g (lw_at lw_m4 74 rfl) rfl
theorem st_X2_isLetter : Cond.static kX2_isLetter.y ∈ lw_all := q990
abbrev cX6_constant : ByteArray := prog_22_method_2_code
def yX6_constant : MethodName := ⟨RX6, "constant", "(I)J"⟩
theorem q2005 : (Jvm.Cond.code ({ cls := "CompiledHouse$Maker", name := "constant", desc := "(I)J" } : Jvm.MethodName) prog_22_method_2_code (1 : Nat) (Option.some Jvm.ClassFile.FieldType.long)) ∈ lw_all := lw_g (lw_at lw_m8 129 rfl) rfl
def kX6_constant : xK := (yX6_constant, cX6_constant, 1, some .long, [])
theorem me_X6_constant : xMe kX6_constant 1 := ⟨q2005, q209, by decide, by decide, by decide +kernel⟩
theorem q2004 : (Jvm.Cond.static ({ cls := "CompiledHouse$Maker", name := "constant", desc := "(I)J" } : Jvm.MethodName)) ∈ lw_all := lw_g (lw_at lw_m8 128 rfl) rfl
theorem st_X6_constant : Cond.static kX6_constant.y ∈ lw_all := q2004
theorem q2006 : (Jvm.Cond.constantLong "CompiledHouse$Maker" (29 : Nat) (4294967296 : Int64)) ∈ lw_all := lw_g (lw_at lw_m8 130 rfl) rfl
theorem q2007 : (Jvm.Cond.constantLong "CompiledHouse$Maker" (31 : Nat) (4294967295 : Int64)) ∈ lw_all := lw_g (lw_at lw_m8 131 rfl) rfl
abbrev cJ15_bitCount : ByteArray := prog_44_method_49_code
def yJ15_bitCount : MethodName := ⟨RJ15, "bitCount", "(I)I"⟩
theorem q2720 : (Jvm.Cond.code ({ cls := "java/lang/Integer", name := "bitCount", desc := "(I)I" } : Jvm.MethodName) prog_44_method_49_code (1 : Nat) (Option.some Jvm.ClassFile.FieldType.int)) ∈ lw_all := lw_g (lw_at lw_m11 124 rfl) rfl
def kJ15_bitCount : xK := (yJ15_bitCount, cJ15_bitCount, 1, some .int, [])
theorem me_J15_bitCount : xMe kJ15_bitCount 1 := ⟨q2720, q250, by decide, by decide, by decide +kernel⟩
theorem q2719 : (Jvm.Cond.static ({ cls := "java/lang/Integer", name := "bitCount", desc := "(I)I" } : Jvm.MethodName)) ∈ lw_all := lw_g (lw_at lw_m11 123 rfl) rfl
theorem st_J15_bitCount : Cond.static kJ15_bitCount.y ∈ lw_all := q2719
theorem q2721 : (Jvm.Cond.constant "java/lang/Integer" (265 : Nat) (1431655765 : Int32)) ∈ lw_all := lw_g (lw_at lw_m11 125 rfl) rfl
theorem q2722 : (Jvm.Cond.constant "java/lang/Integer" (266 : Nat) (858993459 : Int32)) ∈ lw_all := lw_g (lw_at lw_m11 126 rfl) rfl
theorem q2723 : (Jvm.Cond.constant "java/lang/Integer" (267 : Nat) (252645135 : Int32)) ∈ lw_all := lw_g (lw_at lw_m11 127 rfl) rfl
abbrev cJ15_numberOfTrailingZeros : ByteArray := prog_44_method_48_code
def yJ15_numberOfTrailingZeros : MethodName := ⟨RJ15, "numberOfTrailingZeros", "(I)I"⟩
theorem q2563 : (Jvm.Cond.code ({ cls := "java/lang/Integer", name := "numberOfTrailingZeros", desc := "(I)I" } : Jvm.MethodName) prog_44_method_48_code (2 : Nat) (Option.some Jvm.ClassFile.FieldType.int)) ∈ lw_all := lw_g (lw_at lw_m10 207 rfl) rfl
def kJ15_numberOfTrailingZeros : xK := (yJ15_numberOfTrailingZeros, cJ15_numberOfTrailingZeros, 2, some .int, [])
theorem me_J15_numberOfTrailingZeros : xMe kJ15_numberOfTrailingZeros 1 := ⟨q2563, q250, by decide, by decide, by decide +kernel⟩
theorem q2562 : (Jvm.Cond.static ({ cls := "java/lang/Integer", name := "numberOfTrailingZeros", desc := "(I)I" } : Jvm.MethodName)) ∈ lw_all := lw_g (lw_at lw_m10 206 rfl) rfl
theorem st_J15_numberOfTrailingZeros : Cond.static kJ15_numberOfTrailingZeros.y ∈ lw_all := q2562
theorem q2564 : (Jvm.Cond.constant "java/lang/Integer" (264 : Nat) (65536 : Int32)) ∈ lw_all := lw_g (lw_at lw_m10 208 rfl) rfl
theorem q2701 : (Jvm.Cond.constantLong "java/lang/Long" (314 : Nat) (6148914691236517205 : Int64)) ∈ lw_all := lw_g (lw_at lw_m11 105 rfl) rfl
theorem q2702 : (Jvm.Cond.constantLong "java/lang/Long" (316 : Nat) (3689348814741910323 : Int64)) ∈ lw_all := lw_g (lw_at lw_m11 106 rfl) rfl
theorem q2703 : (Jvm.Cond.constantLong "java/lang/Long" (318 : Nat) (1085102592571150095 : Int64)) ∈ lw_all := lw_g (lw_at lw_m11 107 rfl) rfl
theorem q2684 : (Jvm.Cond.methodLink "java/lang/Long" (311 : Nat) ({ cls := "java/lang/Integer", name := "numberOfTrailingZeros", desc := "(I)I" } : Jvm.MethodName)) ∈ lw_all := lw_g (lw_at lw_m11 88 rfl) rfl
theorem lk_J16_311 : xLk RJ16 311 yJ15_numberOfTrailingZeros := Or.inl q2684
theorem dX0_below_0 : decode cX0_below 0 = .ok (.iload_n 0, 1) := by decide +kernel
theorem dX0_below_1 : decode cX0_below 1 = .ok (.bipush 16, 2) := by decide +kernel
theorem dX0_below_3 : decode cX0_below 3 = .ok (.if_icmp .gt 7, 3) := by decide +kernel
theorem dX0_below_6 : decode cX0_below 6 = .ok (.iconst 1, 1) := by decide +kernel
theorem dX0_below_7 : decode cX0_below 7 = .ok (.goto 4, 3) := by decide +kernel
theorem dX0_below_10 : decode cX0_below 10 = .ok (.iconst 0, 1) := by decide +kernel
theorem dX0_below_11 : decode cX0_below 11 = .ok (.ireturn, 1) := by decide +kernel
theorem dX0_done_0 : decode cX0_done 0 = .ok (.iload_n 0, 1) := by decide +kernel
theorem dX0_done_1 : decode cX0_done 1 = .ok (.tableswitch 222 0 15 #[79, 83, 87, 91, 113, 134, 138, 142, 146, 153, 160, 167, 178, 189, 200, 211], 79) := by decide +kernel
theorem dX0_done_80 : decode cX0_done 80 = .ok (.iload_n 1, 1) := by decide +kernel
theorem dX0_done_81 : decode cX0_done 81 = .ok (.iload_n 2, 1) := by decide +kernel
theorem dX0_done_82 : decode cX0_done 82 = .ok (.iadd, 1) := by decide +kernel
theorem dX0_done_83 : decode cX0_done 83 = .ok (.ireturn, 1) := by decide +kernel
theorem dX0_done_84 : decode cX0_done 84 = .ok (.iload_n 1, 1) := by decide +kernel
theorem dX0_done_85 : decode cX0_done 85 = .ok (.iload_n 2, 1) := by decide +kernel
theorem dX0_done_86 : decode cX0_done 86 = .ok (.isub, 1) := by decide +kernel
theorem dX0_done_87 : decode cX0_done 87 = .ok (.ireturn, 1) := by decide +kernel
theorem dX0_done_88 : decode cX0_done 88 = .ok (.iload_n 1, 1) := by decide +kernel
theorem dX0_done_89 : decode cX0_done 89 = .ok (.iload_n 2, 1) := by decide +kernel
theorem dX0_done_90 : decode cX0_done 90 = .ok (.imul, 1) := by decide +kernel
theorem dX0_done_91 : decode cX0_done 91 = .ok (.ireturn, 1) := by decide +kernel
theorem dX0_done_92 : decode cX0_done 92 = .ok (.iload_n 2, 1) := by decide +kernel
theorem dX0_done_93 : decode cX0_done 93 = .ok (.ifCond .ne 7, 3) := by decide +kernel
theorem dX0_done_96 : decode cX0_done 96 = .ok (.iconst (-1), 1) := by decide +kernel
theorem dX0_done_97 : decode cX0_done 97 = .ok (.goto 16, 3) := by decide +kernel
theorem dX0_done_100 : decode cX0_done 100 = .ok (.iload_n 2, 1) := by decide +kernel
theorem dX0_done_101 : decode cX0_done 101 = .ok (.iconst (-1), 1) := by decide +kernel
theorem dX0_done_102 : decode cX0_done 102 = .ok (.if_icmp .ne 8, 3) := by decide +kernel
theorem dX0_done_105 : decode cX0_done 105 = .ok (.iload_n 1, 1) := by decide +kernel
theorem dX0_done_106 : decode cX0_done 106 = .ok (.ineg, 1) := by decide +kernel
theorem dX0_done_107 : decode cX0_done 107 = .ok (.goto 6, 3) := by decide +kernel
theorem dX0_done_110 : decode cX0_done 110 = .ok (.iload_n 1, 1) := by decide +kernel
theorem dX0_done_111 : decode cX0_done 111 = .ok (.iload_n 2, 1) := by decide +kernel
theorem dX0_done_112 : decode cX0_done 112 = .ok (.idiv, 1) := by decide +kernel
theorem dX0_done_113 : decode cX0_done 113 = .ok (.ireturn, 1) := by decide +kernel
theorem dX0_done_114 : decode cX0_done 114 = .ok (.iload_n 2, 1) := by decide +kernel
theorem dX0_done_115 : decode cX0_done 115 = .ok (.ifCond .ne 7, 3) := by decide +kernel
theorem dX0_done_118 : decode cX0_done 118 = .ok (.iload_n 1, 1) := by decide +kernel
theorem dX0_done_119 : decode cX0_done 119 = .ok (.goto 15, 3) := by decide +kernel
theorem dX0_done_122 : decode cX0_done 122 = .ok (.iload_n 2, 1) := by decide +kernel
theorem dX0_done_123 : decode cX0_done 123 = .ok (.iconst (-1), 1) := by decide +kernel
theorem dX0_done_124 : decode cX0_done 124 = .ok (.if_icmp .ne 7, 3) := by decide +kernel
theorem dX0_done_127 : decode cX0_done 127 = .ok (.iconst 0, 1) := by decide +kernel
theorem dX0_done_128 : decode cX0_done 128 = .ok (.goto 6, 3) := by decide +kernel
theorem dX0_done_131 : decode cX0_done 131 = .ok (.iload_n 1, 1) := by decide +kernel
theorem dX0_done_132 : decode cX0_done 132 = .ok (.iload_n 2, 1) := by decide +kernel
theorem dX0_done_133 : decode cX0_done 133 = .ok (.irem, 1) := by decide +kernel
theorem dX0_done_134 : decode cX0_done 134 = .ok (.ireturn, 1) := by decide +kernel
theorem dX0_done_135 : decode cX0_done 135 = .ok (.iload_n 1, 1) := by decide +kernel
theorem dX0_done_136 : decode cX0_done 136 = .ok (.iload_n 2, 1) := by decide +kernel
theorem dX0_done_137 : decode cX0_done 137 = .ok (.iand, 1) := by decide +kernel
theorem dX0_done_138 : decode cX0_done 138 = .ok (.ireturn, 1) := by decide +kernel
theorem dX0_done_139 : decode cX0_done 139 = .ok (.iload_n 1, 1) := by decide +kernel
theorem dX0_done_140 : decode cX0_done 140 = .ok (.iload_n 2, 1) := by decide +kernel
theorem dX0_done_141 : decode cX0_done 141 = .ok (.ior, 1) := by decide +kernel
theorem dX0_done_142 : decode cX0_done 142 = .ok (.ireturn, 1) := by decide +kernel
theorem dX0_done_143 : decode cX0_done 143 = .ok (.iload_n 1, 1) := by decide +kernel
theorem dX0_done_144 : decode cX0_done 144 = .ok (.iload_n 2, 1) := by decide +kernel
theorem dX0_done_145 : decode cX0_done 145 = .ok (.ixor, 1) := by decide +kernel
theorem dX0_done_146 : decode cX0_done 146 = .ok (.ireturn, 1) := by decide +kernel
theorem dX0_done_147 : decode cX0_done 147 = .ok (.iload_n 1, 1) := by decide +kernel
theorem dX0_done_148 : decode cX0_done 148 = .ok (.iload_n 2, 1) := by decide +kernel
theorem dX0_done_149 : decode cX0_done 149 = .ok (.bipush 31, 2) := by decide +kernel
theorem dX0_done_151 : decode cX0_done 151 = .ok (.iand, 1) := by decide +kernel
theorem dX0_done_152 : decode cX0_done 152 = .ok (.ishl, 1) := by decide +kernel
theorem dX0_done_153 : decode cX0_done 153 = .ok (.ireturn, 1) := by decide +kernel
theorem dX0_done_154 : decode cX0_done 154 = .ok (.iload_n 1, 1) := by decide +kernel
theorem dX0_done_155 : decode cX0_done 155 = .ok (.iload_n 2, 1) := by decide +kernel
theorem dX0_done_156 : decode cX0_done 156 = .ok (.bipush 31, 2) := by decide +kernel
theorem dX0_done_158 : decode cX0_done 158 = .ok (.iand, 1) := by decide +kernel
theorem dX0_done_159 : decode cX0_done 159 = .ok (.ishr, 1) := by decide +kernel
theorem dX0_done_160 : decode cX0_done 160 = .ok (.ireturn, 1) := by decide +kernel
theorem dX0_done_161 : decode cX0_done 161 = .ok (.iload_n 1, 1) := by decide +kernel
theorem dX0_done_162 : decode cX0_done 162 = .ok (.iload_n 2, 1) := by decide +kernel
theorem dX0_done_163 : decode cX0_done 163 = .ok (.bipush 31, 2) := by decide +kernel
theorem dX0_done_165 : decode cX0_done 165 = .ok (.iand, 1) := by decide +kernel
theorem dX0_done_166 : decode cX0_done 166 = .ok (.iushr, 1) := by decide +kernel
theorem dX0_done_167 : decode cX0_done 167 = .ok (.ireturn, 1) := by decide +kernel
theorem dX0_done_168 : decode cX0_done 168 = .ok (.iload_n 1, 1) := by decide +kernel
theorem dX0_done_169 : decode cX0_done 169 = .ok (.iload_n 2, 1) := by decide +kernel
theorem dX0_done_170 : decode cX0_done 170 = .ok (.if_icmp .ne 7, 3) := by decide +kernel
theorem dX0_done_173 : decode cX0_done 173 = .ok (.iconst 1, 1) := by decide +kernel
theorem dX0_done_174 : decode cX0_done 174 = .ok (.goto 4, 3) := by decide +kernel
theorem dX0_done_177 : decode cX0_done 177 = .ok (.iconst 0, 1) := by decide +kernel
theorem dX0_done_178 : decode cX0_done 178 = .ok (.ireturn, 1) := by decide +kernel
theorem dX0_done_179 : decode cX0_done 179 = .ok (.iload_n 1, 1) := by decide +kernel
theorem dX0_done_180 : decode cX0_done 180 = .ok (.iload_n 2, 1) := by decide +kernel
theorem dX0_done_181 : decode cX0_done 181 = .ok (.if_icmp .eq 7, 3) := by decide +kernel
theorem dX0_done_184 : decode cX0_done 184 = .ok (.iconst 1, 1) := by decide +kernel
theorem dX0_done_185 : decode cX0_done 185 = .ok (.goto 4, 3) := by decide +kernel
theorem dX0_done_188 : decode cX0_done 188 = .ok (.iconst 0, 1) := by decide +kernel
theorem dX0_done_189 : decode cX0_done 189 = .ok (.ireturn, 1) := by decide +kernel
theorem dX0_done_190 : decode cX0_done 190 = .ok (.iload_n 1, 1) := by decide +kernel
theorem dX0_done_191 : decode cX0_done 191 = .ok (.iload_n 2, 1) := by decide +kernel
theorem dX0_done_192 : decode cX0_done 192 = .ok (.if_icmp .ge 7, 3) := by decide +kernel
theorem dX0_done_195 : decode cX0_done 195 = .ok (.iconst 1, 1) := by decide +kernel
theorem dX0_done_196 : decode cX0_done 196 = .ok (.goto 4, 3) := by decide +kernel
theorem dX0_done_199 : decode cX0_done 199 = .ok (.iconst 0, 1) := by decide +kernel
theorem dX0_done_200 : decode cX0_done 200 = .ok (.ireturn, 1) := by decide +kernel
theorem dX0_done_201 : decode cX0_done 201 = .ok (.iload_n 1, 1) := by decide +kernel
theorem dX0_done_202 : decode cX0_done 202 = .ok (.iload_n 2, 1) := by decide +kernel
theorem dX0_done_203 : decode cX0_done 203 = .ok (.if_icmp .le 7, 3) := by decide +kernel
theorem dX0_done_206 : decode cX0_done 206 = .ok (.iconst 1, 1) := by decide +kernel
theorem dX0_done_207 : decode cX0_done 207 = .ok (.goto 4, 3) := by decide +kernel
theorem dX0_done_210 : decode cX0_done 210 = .ok (.iconst 0, 1) := by decide +kernel
theorem dX0_done_211 : decode cX0_done 211 = .ok (.ireturn, 1) := by decide +kernel
theorem dX0_done_212 : decode cX0_done 212 = .ok (.iload_n 1, 1) := by decide +kernel
theorem dX0_done_213 : decode cX0_done 213 = .ok (.iload_n 2, 1) := by decide +kernel
theorem dX0_done_214 : decode cX0_done 214 = .ok (.if_icmp .gt 7, 3) := by decide +kernel
theorem dX0_done_217 : decode cX0_done 217 = .ok (.iconst 1, 1) := by decide +kernel
theorem dX0_done_218 : decode cX0_done 218 = .ok (.goto 4, 3) := by decide +kernel
theorem dX0_done_221 : decode cX0_done 221 = .ok (.iconst 0, 1) := by decide +kernel
theorem dX0_done_222 : decode cX0_done 222 = .ok (.ireturn, 1) := by decide +kernel
theorem dX0_done_223 : decode cX0_done 223 = .ok (.iload_n 1, 1) := by decide +kernel
theorem dX0_done_224 : decode cX0_done 224 = .ok (.iload_n 2, 1) := by decide +kernel
theorem dX0_done_225 : decode cX0_done 225 = .ok (.if_icmp .lt 7, 3) := by decide +kernel
theorem dX0_done_228 : decode cX0_done 228 = .ok (.iconst 1, 1) := by decide +kernel
theorem dX0_done_229 : decode cX0_done 229 = .ok (.goto 4, 3) := by decide +kernel
theorem dX0_done_232 : decode cX0_done 232 = .ok (.iconst 0, 1) := by decide +kernel
theorem dX0_done_233 : decode cX0_done 233 = .ok (.ireturn, 1) := by decide +kernel
theorem dX0_isConstant_0 : decode cX0_isConstant 0 = .ok (.lload_n 0, 1) := by decide +kernel
theorem dX0_isConstant_1 : decode cX0_isConstant 1 = .ok (.ldc2_w 19, 3) := by decide +kernel
theorem dX0_isConstant_4 : decode cX0_isConstant 4 = .ok (.land, 1) := by decide +kernel
theorem dX0_isConstant_5 : decode cX0_isConstant 5 = .ok (.lconst 0, 1) := by decide +kernel
theorem dX0_isConstant_6 : decode cX0_isConstant 6 = .ok (.lcmp, 1) := by decide +kernel
theorem dX0_isConstant_7 : decode cX0_isConstant 7 = .ok (.ifCond .eq 7, 3) := by decide +kernel
theorem dX0_isConstant_10 : decode cX0_isConstant 10 = .ok (.iconst 1, 1) := by decide +kernel
theorem dX0_isConstant_11 : decode cX0_isConstant 11 = .ok (.goto 4, 3) := by decide +kernel
theorem dX0_isConstant_14 : decode cX0_isConstant 14 = .ok (.iconst 0, 1) := by decide +kernel
theorem dX0_isConstant_15 : decode cX0_isConstant 15 = .ok (.ireturn, 1) := by decide +kernel
theorem dX0_wordsOf_0 : decode cX0_wordsOf 0 = .ok (.iload_n 0, 1) := by decide +kernel
theorem dX0_wordsOf_1 : decode cX0_wordsOf 1 = .ok (.ifCond .eq 11, 3) := by decide +kernel
theorem dX0_wordsOf_4 : decode cX0_wordsOf 4 = .ok (.iload_n 1, 1) := by decide +kernel
theorem dX0_wordsOf_5 : decode cX0_wordsOf 5 = .ok (.iconst 3, 1) := by decide +kernel
theorem dX0_wordsOf_6 : decode cX0_wordsOf 6 = .ok (.iadd, 1) := by decide +kernel
theorem dX0_wordsOf_7 : decode cX0_wordsOf 7 = .ok (.iconst 4, 1) := by decide +kernel
theorem dX0_wordsOf_8 : decode cX0_wordsOf 8 = .ok (.idiv, 1) := by decide +kernel
theorem dX0_wordsOf_9 : decode cX0_wordsOf 9 = .ok (.goto 4, 3) := by decide +kernel
theorem dX0_wordsOf_12 : decode cX0_wordsOf 12 = .ok (.iload_n 1, 1) := by decide +kernel
theorem dX0_wordsOf_13 : decode cX0_wordsOf 13 = .ok (.ireturn, 1) := by decide +kernel
theorem dX10_isSmall_0 : decode cX10_isSmall 0 = .ok (.lload_n 0, 1) := by decide +kernel
theorem dX10_isSmall_1 : decode cX10_isSmall 1 = .ok (.invokestatic 165, 3) := by decide +kernel
theorem dX10_isSmall_4 : decode cX10_isSmall 4 = .ok (.ifCond .eq 23, 3) := by decide +kernel
theorem dX10_isSmall_7 : decode cX10_isSmall 7 = .ok (.lload_n 0, 1) := by decide +kernel
theorem dX10_isSmall_8 : decode cX10_isSmall 8 = .ok (.l2i, 1) := by decide +kernel
theorem dX10_isSmall_9 : decode cX10_isSmall 9 = .ok (.sipush (-2048), 3) := by decide +kernel
theorem dX10_isSmall_12 : decode cX10_isSmall 12 = .ok (.if_icmp .lt 15, 3) := by decide +kernel
theorem dX10_isSmall_15 : decode cX10_isSmall 15 = .ok (.lload_n 0, 1) := by decide +kernel
theorem dX10_isSmall_16 : decode cX10_isSmall 16 = .ok (.l2i, 1) := by decide +kernel
theorem dX10_isSmall_17 : decode cX10_isSmall 17 = .ok (.sipush 2048, 3) := by decide +kernel
theorem dX10_isSmall_20 : decode cX10_isSmall 20 = .ok (.if_icmp .ge 7, 3) := by decide +kernel
theorem dX10_isSmall_23 : decode cX10_isSmall 23 = .ok (.iconst 1, 1) := by decide +kernel
theorem dX10_isSmall_24 : decode cX10_isSmall 24 = .ok (.goto 4, 3) := by decide +kernel
theorem dX10_isSmall_27 : decode cX10_isSmall 27 = .ok (.iconst 0, 1) := by decide +kernel
theorem dX10_isSmall_28 : decode cX10_isSmall 28 = .ok (.ireturn, 1) := by decide +kernel
theorem dX1_actOf_0 : decode cX1_actOf 0 = .ok (.iload_n 0, 1) := by decide +kernel
theorem dX1_actOf_1 : decode cX1_actOf 1 = .ok (.tableswitch 407 43 82 #[334, 407, 407, 407, 407, 407, 407, 407, 407, 407, 407, 175, 186, 232, 244, 282, 295, 308, 321, 407, 407, 407, 407, 407, 407, 407, 407, 407, 407, 407, 197, 209, 221, 256, 269, 347, 359, 371, 383, 395], 175) := by decide +kernel
theorem dX1_actOf_176 : decode cX1_actOf 176 = .ok (.iload_n 1, 1) := by decide +kernel
theorem dX1_actOf_177 : decode cX1_actOf 177 = .ok (.ifCond .ne 8, 3) := by decide +kernel
theorem dX1_actOf_180 : decode cX1_actOf 180 = .ok (.bipush 6, 2) := by decide +kernel
theorem dX1_actOf_182 : decode cX1_actOf 182 = .ok (.goto 4, 3) := by decide +kernel
theorem dX1_actOf_185 : decode cX1_actOf 185 = .ok (.iconst (-1), 1) := by decide +kernel
theorem dX1_actOf_186 : decode cX1_actOf 186 = .ok (.ireturn, 1) := by decide +kernel
theorem dX1_actOf_187 : decode cX1_actOf 187 = .ok (.iload_n 1, 1) := by decide +kernel
theorem dX1_actOf_188 : decode cX1_actOf 188 = .ok (.iconst 1, 1) := by decide +kernel
theorem dX1_actOf_189 : decode cX1_actOf 189 = .ok (.if_icmp .ne 7, 3) := by decide +kernel
theorem dX1_actOf_192 : decode cX1_actOf 192 = .ok (.iconst 5, 1) := by decide +kernel
theorem dX1_actOf_193 : decode cX1_actOf 193 = .ok (.goto 4, 3) := by decide +kernel
theorem dX1_actOf_196 : decode cX1_actOf 196 = .ok (.iconst (-1), 1) := by decide +kernel
theorem dX1_actOf_197 : decode cX1_actOf 197 = .ok (.ireturn, 1) := by decide +kernel
theorem dX1_actOf_198 : decode cX1_actOf 198 = .ok (.iload_n 1, 1) := by decide +kernel
theorem dX1_actOf_199 : decode cX1_actOf 199 = .ok (.iconst 2, 1) := by decide +kernel
theorem dX1_actOf_200 : decode cX1_actOf 200 = .ok (.if_icmp .ne 8, 3) := by decide +kernel
theorem dX1_actOf_203 : decode cX1_actOf 203 = .ok (.bipush 6, 2) := by decide +kernel
theorem dX1_actOf_205 : decode cX1_actOf 205 = .ok (.goto 4, 3) := by decide +kernel
theorem dX1_actOf_208 : decode cX1_actOf 208 = .ok (.iconst (-1), 1) := by decide +kernel
theorem dX1_actOf_209 : decode cX1_actOf 209 = .ok (.ireturn, 1) := by decide +kernel
theorem dX1_actOf_210 : decode cX1_actOf 210 = .ok (.iload_n 1, 1) := by decide +kernel
theorem dX1_actOf_211 : decode cX1_actOf 211 = .ok (.iconst 3, 1) := by decide +kernel
theorem dX1_actOf_212 : decode cX1_actOf 212 = .ok (.if_icmp .ne 8, 3) := by decide +kernel
theorem dX1_actOf_215 : decode cX1_actOf 215 = .ok (.bipush 7, 2) := by decide +kernel
theorem dX1_actOf_217 : decode cX1_actOf 217 = .ok (.goto 4, 3) := by decide +kernel
theorem dX1_actOf_220 : decode cX1_actOf 220 = .ok (.iconst (-1), 1) := by decide +kernel
theorem dX1_actOf_221 : decode cX1_actOf 221 = .ok (.ireturn, 1) := by decide +kernel
theorem dX1_actOf_222 : decode cX1_actOf 222 = .ok (.iload_n 1, 1) := by decide +kernel
theorem dX1_actOf_223 : decode cX1_actOf 223 = .ok (.iconst 4, 1) := by decide +kernel
theorem dX1_actOf_224 : decode cX1_actOf 224 = .ok (.if_icmp .ne 7, 3) := by decide +kernel
theorem dX1_actOf_227 : decode cX1_actOf 227 = .ok (.iconst 5, 1) := by decide +kernel
theorem dX1_actOf_228 : decode cX1_actOf 228 = .ok (.goto 4, 3) := by decide +kernel
theorem dX1_actOf_231 : decode cX1_actOf 231 = .ok (.iconst (-1), 1) := by decide +kernel
theorem dX1_actOf_232 : decode cX1_actOf 232 = .ok (.ireturn, 1) := by decide +kernel
theorem dX1_actOf_233 : decode cX1_actOf 233 = .ok (.iload_n 1, 1) := by decide +kernel
theorem dX1_actOf_234 : decode cX1_actOf 234 = .ok (.iconst 5, 1) := by decide +kernel
theorem dX1_actOf_235 : decode cX1_actOf 235 = .ok (.if_icmp .ne 8, 3) := by decide +kernel
theorem dX1_actOf_238 : decode cX1_actOf 238 = .ok (.bipush 11, 2) := by decide +kernel
theorem dX1_actOf_240 : decode cX1_actOf 240 = .ok (.goto 4, 3) := by decide +kernel
theorem dX1_actOf_243 : decode cX1_actOf 243 = .ok (.iconst (-1), 1) := by decide +kernel
theorem dX1_actOf_244 : decode cX1_actOf 244 = .ok (.ireturn, 1) := by decide +kernel
theorem dX1_actOf_245 : decode cX1_actOf 245 = .ok (.iload_n 1, 1) := by decide +kernel
theorem dX1_actOf_246 : decode cX1_actOf 246 = .ok (.iconst 5, 1) := by decide +kernel
theorem dX1_actOf_247 : decode cX1_actOf 247 = .ok (.if_icmp .ne 8, 3) := by decide +kernel
theorem dX1_actOf_250 : decode cX1_actOf 250 = .ok (.bipush 12, 2) := by decide +kernel
theorem dX1_actOf_252 : decode cX1_actOf 252 = .ok (.goto 4, 3) := by decide +kernel
theorem dX1_actOf_255 : decode cX1_actOf 255 = .ok (.iconst (-1), 1) := by decide +kernel
theorem dX1_actOf_256 : decode cX1_actOf 256 = .ok (.ireturn, 1) := by decide +kernel
theorem dX1_actOf_257 : decode cX1_actOf 257 = .ok (.iload_n 1, 1) := by decide +kernel
theorem dX1_actOf_258 : decode cX1_actOf 258 = .ok (.bipush 6, 2) := by decide +kernel
theorem dX1_actOf_260 : decode cX1_actOf 260 = .ok (.if_icmp .ne 8, 3) := by decide +kernel
theorem dX1_actOf_263 : decode cX1_actOf 263 = .ok (.bipush 13, 2) := by decide +kernel
theorem dX1_actOf_265 : decode cX1_actOf 265 = .ok (.goto 4, 3) := by decide +kernel
theorem dX1_actOf_268 : decode cX1_actOf 268 = .ok (.iconst (-1), 1) := by decide +kernel
theorem dX1_actOf_269 : decode cX1_actOf 269 = .ok (.ireturn, 1) := by decide +kernel
theorem dX1_actOf_270 : decode cX1_actOf 270 = .ok (.iload_n 1, 1) := by decide +kernel
theorem dX1_actOf_271 : decode cX1_actOf 271 = .ok (.bipush 6, 2) := by decide +kernel
theorem dX1_actOf_273 : decode cX1_actOf 273 = .ok (.if_icmp .ne 8, 3) := by decide +kernel
theorem dX1_actOf_276 : decode cX1_actOf 276 = .ok (.bipush 14, 2) := by decide +kernel
theorem dX1_actOf_278 : decode cX1_actOf 278 = .ok (.goto 4, 3) := by decide +kernel
theorem dX1_actOf_281 : decode cX1_actOf 281 = .ok (.iconst (-1), 1) := by decide +kernel
theorem dX1_actOf_282 : decode cX1_actOf 282 = .ok (.ireturn, 1) := by decide +kernel
theorem dX1_actOf_283 : decode cX1_actOf 283 = .ok (.iload_n 1, 1) := by decide +kernel
theorem dX1_actOf_284 : decode cX1_actOf 284 = .ok (.bipush 6, 2) := by decide +kernel
theorem dX1_actOf_286 : decode cX1_actOf 286 = .ok (.if_icmp .ne 8, 3) := by decide +kernel
theorem dX1_actOf_289 : decode cX1_actOf 289 = .ok (.bipush 15, 2) := by decide +kernel
theorem dX1_actOf_291 : decode cX1_actOf 291 = .ok (.goto 4, 3) := by decide +kernel
theorem dX1_actOf_294 : decode cX1_actOf 294 = .ok (.iconst (-1), 1) := by decide +kernel
theorem dX1_actOf_295 : decode cX1_actOf 295 = .ok (.ireturn, 1) := by decide +kernel
theorem dX1_actOf_296 : decode cX1_actOf 296 = .ok (.iload_n 1, 1) := by decide +kernel
theorem dX1_actOf_297 : decode cX1_actOf 297 = .ok (.bipush 6, 2) := by decide +kernel
theorem dX1_actOf_299 : decode cX1_actOf 299 = .ok (.if_icmp .ne 8, 3) := by decide +kernel
theorem dX1_actOf_302 : decode cX1_actOf 302 = .ok (.bipush 16, 2) := by decide +kernel
theorem dX1_actOf_304 : decode cX1_actOf 304 = .ok (.goto 4, 3) := by decide +kernel
theorem dX1_actOf_307 : decode cX1_actOf 307 = .ok (.iconst (-1), 1) := by decide +kernel
theorem dX1_actOf_308 : decode cX1_actOf 308 = .ok (.ireturn, 1) := by decide +kernel
theorem dX1_actOf_309 : decode cX1_actOf 309 = .ok (.iload_n 1, 1) := by decide +kernel
theorem dX1_actOf_310 : decode cX1_actOf 310 = .ok (.bipush 7, 2) := by decide +kernel
theorem dX1_actOf_312 : decode cX1_actOf 312 = .ok (.if_icmp .ne 8, 3) := by decide +kernel
theorem dX1_actOf_315 : decode cX1_actOf 315 = .ok (.bipush 8, 2) := by decide +kernel
theorem dX1_actOf_317 : decode cX1_actOf 317 = .ok (.goto 4, 3) := by decide +kernel
theorem dX1_actOf_320 : decode cX1_actOf 320 = .ok (.iconst (-1), 1) := by decide +kernel
theorem dX1_actOf_321 : decode cX1_actOf 321 = .ok (.ireturn, 1) := by decide +kernel
theorem dX1_actOf_322 : decode cX1_actOf 322 = .ok (.iload_n 1, 1) := by decide +kernel
theorem dX1_actOf_323 : decode cX1_actOf 323 = .ok (.bipush 7, 2) := by decide +kernel
theorem dX1_actOf_325 : decode cX1_actOf 325 = .ok (.if_icmp .ne 8, 3) := by decide +kernel
theorem dX1_actOf_328 : decode cX1_actOf 328 = .ok (.bipush 9, 2) := by decide +kernel
theorem dX1_actOf_330 : decode cX1_actOf 330 = .ok (.goto 4, 3) := by decide +kernel
theorem dX1_actOf_333 : decode cX1_actOf 333 = .ok (.iconst (-1), 1) := by decide +kernel
theorem dX1_actOf_334 : decode cX1_actOf 334 = .ok (.ireturn, 1) := by decide +kernel
theorem dX1_actOf_335 : decode cX1_actOf 335 = .ok (.iload_n 1, 1) := by decide +kernel
theorem dX1_actOf_336 : decode cX1_actOf 336 = .ok (.bipush 7, 2) := by decide +kernel
theorem dX1_actOf_338 : decode cX1_actOf 338 = .ok (.if_icmp .ne 8, 3) := by decide +kernel
theorem dX1_actOf_341 : decode cX1_actOf 341 = .ok (.bipush 10, 2) := by decide +kernel
theorem dX1_actOf_343 : decode cX1_actOf 343 = .ok (.goto 4, 3) := by decide +kernel
theorem dX1_actOf_346 : decode cX1_actOf 346 = .ok (.iconst (-1), 1) := by decide +kernel
theorem dX1_actOf_347 : decode cX1_actOf 347 = .ok (.ireturn, 1) := by decide +kernel
theorem dX1_actOf_348 : decode cX1_actOf 348 = .ok (.iload_n 1, 1) := by decide +kernel
theorem dX1_actOf_349 : decode cX1_actOf 349 = .ok (.bipush 8, 2) := by decide +kernel
theorem dX1_actOf_351 : decode cX1_actOf 351 = .ok (.if_icmp .ne 7, 3) := by decide +kernel
theorem dX1_actOf_354 : decode cX1_actOf 354 = .ok (.iconst 0, 1) := by decide +kernel
theorem dX1_actOf_355 : decode cX1_actOf 355 = .ok (.goto 4, 3) := by decide +kernel
theorem dX1_actOf_358 : decode cX1_actOf 358 = .ok (.iconst (-1), 1) := by decide +kernel
theorem dX1_actOf_359 : decode cX1_actOf 359 = .ok (.ireturn, 1) := by decide +kernel
theorem dX1_actOf_360 : decode cX1_actOf 360 = .ok (.iload_n 1, 1) := by decide +kernel
theorem dX1_actOf_361 : decode cX1_actOf 361 = .ok (.bipush 8, 2) := by decide +kernel
theorem dX1_actOf_363 : decode cX1_actOf 363 = .ok (.if_icmp .ne 7, 3) := by decide +kernel
theorem dX1_actOf_366 : decode cX1_actOf 366 = .ok (.iconst 1, 1) := by decide +kernel
theorem dX1_actOf_367 : decode cX1_actOf 367 = .ok (.goto 4, 3) := by decide +kernel
theorem dX1_actOf_370 : decode cX1_actOf 370 = .ok (.iconst (-1), 1) := by decide +kernel
theorem dX1_actOf_371 : decode cX1_actOf 371 = .ok (.ireturn, 1) := by decide +kernel
theorem dX1_actOf_372 : decode cX1_actOf 372 = .ok (.iload_n 1, 1) := by decide +kernel
theorem dX1_actOf_373 : decode cX1_actOf 373 = .ok (.bipush 9, 2) := by decide +kernel
theorem dX1_actOf_375 : decode cX1_actOf 375 = .ok (.if_icmp .ne 7, 3) := by decide +kernel
theorem dX1_actOf_378 : decode cX1_actOf 378 = .ok (.iconst 2, 1) := by decide +kernel
theorem dX1_actOf_379 : decode cX1_actOf 379 = .ok (.goto 4, 3) := by decide +kernel
theorem dX1_actOf_382 : decode cX1_actOf 382 = .ok (.iconst (-1), 1) := by decide +kernel
theorem dX1_actOf_383 : decode cX1_actOf 383 = .ok (.ireturn, 1) := by decide +kernel
theorem dX1_actOf_384 : decode cX1_actOf 384 = .ok (.iload_n 1, 1) := by decide +kernel
theorem dX1_actOf_385 : decode cX1_actOf 385 = .ok (.bipush 9, 2) := by decide +kernel
theorem dX1_actOf_387 : decode cX1_actOf 387 = .ok (.if_icmp .ne 7, 3) := by decide +kernel
theorem dX1_actOf_390 : decode cX1_actOf 390 = .ok (.iconst 3, 1) := by decide +kernel
theorem dX1_actOf_391 : decode cX1_actOf 391 = .ok (.goto 4, 3) := by decide +kernel
theorem dX1_actOf_394 : decode cX1_actOf 394 = .ok (.iconst (-1), 1) := by decide +kernel
theorem dX1_actOf_395 : decode cX1_actOf 395 = .ok (.ireturn, 1) := by decide +kernel
theorem dX1_actOf_396 : decode cX1_actOf 396 = .ok (.iload_n 1, 1) := by decide +kernel
theorem dX1_actOf_397 : decode cX1_actOf 397 = .ok (.bipush 9, 2) := by decide +kernel
theorem dX1_actOf_399 : decode cX1_actOf 399 = .ok (.if_icmp .ne 7, 3) := by decide +kernel
theorem dX1_actOf_402 : decode cX1_actOf 402 = .ok (.iconst 4, 1) := by decide +kernel
theorem dX1_actOf_403 : decode cX1_actOf 403 = .ok (.goto 4, 3) := by decide +kernel
theorem dX1_actOf_406 : decode cX1_actOf 406 = .ok (.iconst (-1), 1) := by decide +kernel
theorem dX1_actOf_407 : decode cX1_actOf 407 = .ok (.ireturn, 1) := by decide +kernel
theorem dX1_actOf_408 : decode cX1_actOf 408 = .ok (.iconst (-1), 1) := by decide +kernel
theorem dX1_actOf_409 : decode cX1_actOf 409 = .ok (.ireturn, 1) := by decide +kernel
theorem dX20_act_0 : decode cX20_act 0 = .ok (.iload_n 0, 1) := by decide +kernel
theorem dX20_act_1 : decode cX20_act 1 = .ok (.bipush 79, 2) := by decide +kernel
theorem dX20_act_3 : decode cX20_act 3 = .ok (.if_icmp .ne 7, 3) := by decide +kernel
theorem dX20_act_6 : decode cX20_act 6 = .ok (.iconst 1, 1) := by decide +kernel
theorem dX20_act_7 : decode cX20_act 7 = .ok (.goto 16, 3) := by decide +kernel
theorem dX20_act_10 : decode cX20_act 10 = .ok (.iload_n 0, 1) := by decide +kernel
theorem dX20_act_11 : decode cX20_act 11 = .ok (.bipush 83, 2) := by decide +kernel
theorem dX20_act_13 : decode cX20_act 13 = .ok (.if_icmp .ne 8, 3) := by decide +kernel
theorem dX20_act_16 : decode cX20_act 16 = .ok (.bipush 7, 2) := by decide +kernel
theorem dX20_act_18 : decode cX20_act 18 = .ok (.goto 5, 3) := by decide +kernel
theorem dX20_act_21 : decode cX20_act 21 = .ok (.bipush 11, 2) := by decide +kernel
theorem dX20_act_23 : decode cX20_act 23 = .ok (.ireturn, 1) := by decide +kernel
theorem dX2_digit_0 : decode cX2_digit 0 = .ok (.iload_n 0, 1) := by decide +kernel
theorem dX2_digit_1 : decode cX2_digit 1 = .ok (.invokestatic 181, 3) := by decide +kernel
theorem dX2_digit_4 : decode cX2_digit 4 = .ok (.ifCond .eq 10, 3) := by decide +kernel
theorem dX2_digit_7 : decode cX2_digit 7 = .ok (.iload_n 0, 1) := by decide +kernel
theorem dX2_digit_8 : decode cX2_digit 8 = .ok (.bipush 48, 2) := by decide +kernel
theorem dX2_digit_10 : decode cX2_digit 10 = .ok (.isub, 1) := by decide +kernel
theorem dX2_digit_11 : decode cX2_digit 11 = .ok (.goto 48, 3) := by decide +kernel
theorem dX2_digit_14 : decode cX2_digit 14 = .ok (.iload_n 0, 1) := by decide +kernel
theorem dX2_digit_15 : decode cX2_digit 15 = .ok (.bipush 97, 2) := by decide +kernel
theorem dX2_digit_17 : decode cX2_digit 17 = .ok (.if_icmp .lt 19, 3) := by decide +kernel
theorem dX2_digit_20 : decode cX2_digit 20 = .ok (.iload_n 0, 1) := by decide +kernel
theorem dX2_digit_21 : decode cX2_digit 21 = .ok (.bipush 102, 2) := by decide +kernel
theorem dX2_digit_23 : decode cX2_digit 23 = .ok (.if_icmp .gt 13, 3) := by decide +kernel
theorem dX2_digit_26 : decode cX2_digit 26 = .ok (.iload_n 0, 1) := by decide +kernel
theorem dX2_digit_27 : decode cX2_digit 27 = .ok (.bipush 97, 2) := by decide +kernel
theorem dX2_digit_29 : decode cX2_digit 29 = .ok (.isub, 1) := by decide +kernel
theorem dX2_digit_30 : decode cX2_digit 30 = .ok (.bipush 10, 2) := by decide +kernel
theorem dX2_digit_32 : decode cX2_digit 32 = .ok (.iadd, 1) := by decide +kernel
theorem dX2_digit_33 : decode cX2_digit 33 = .ok (.goto 26, 3) := by decide +kernel
theorem dX2_digit_36 : decode cX2_digit 36 = .ok (.iload_n 0, 1) := by decide +kernel
theorem dX2_digit_37 : decode cX2_digit 37 = .ok (.bipush 65, 2) := by decide +kernel
theorem dX2_digit_39 : decode cX2_digit 39 = .ok (.if_icmp .lt 19, 3) := by decide +kernel
theorem dX2_digit_42 : decode cX2_digit 42 = .ok (.iload_n 0, 1) := by decide +kernel
theorem dX2_digit_43 : decode cX2_digit 43 = .ok (.bipush 70, 2) := by decide +kernel
theorem dX2_digit_45 : decode cX2_digit 45 = .ok (.if_icmp .gt 13, 3) := by decide +kernel
theorem dX2_digit_48 : decode cX2_digit 48 = .ok (.iload_n 0, 1) := by decide +kernel
theorem dX2_digit_49 : decode cX2_digit 49 = .ok (.bipush 65, 2) := by decide +kernel
theorem dX2_digit_51 : decode cX2_digit 51 = .ok (.isub, 1) := by decide +kernel
theorem dX2_digit_52 : decode cX2_digit 52 = .ok (.bipush 10, 2) := by decide +kernel
theorem dX2_digit_54 : decode cX2_digit 54 = .ok (.iadd, 1) := by decide +kernel
theorem dX2_digit_55 : decode cX2_digit 55 = .ok (.goto 4, 3) := by decide +kernel
theorem dX2_digit_58 : decode cX2_digit 58 = .ok (.iconst (-1), 1) := by decide +kernel
theorem dX2_digit_59 : decode cX2_digit 59 = .ok (.ireturn, 1) := by decide +kernel
theorem dX2_isDigit_0 : decode cX2_isDigit 0 = .ok (.iload_n 0, 1) := by decide +kernel
theorem dX2_isDigit_1 : decode cX2_isDigit 1 = .ok (.bipush 48, 2) := by decide +kernel
theorem dX2_isDigit_3 : decode cX2_isDigit 3 = .ok (.if_icmp .lt 13, 3) := by decide +kernel
theorem dX2_isDigit_6 : decode cX2_isDigit 6 = .ok (.iload_n 0, 1) := by decide +kernel
theorem dX2_isDigit_7 : decode cX2_isDigit 7 = .ok (.bipush 57, 2) := by decide +kernel
theorem dX2_isDigit_9 : decode cX2_isDigit 9 = .ok (.if_icmp .gt 7, 3) := by decide +kernel
theorem dX2_isDigit_12 : decode cX2_isDigit 12 = .ok (.iconst 1, 1) := by decide +kernel
theorem dX2_isDigit_13 : decode cX2_isDigit 13 = .ok (.goto 4, 3) := by decide +kernel
theorem dX2_isDigit_16 : decode cX2_isDigit 16 = .ok (.iconst 0, 1) := by decide +kernel
theorem dX2_isDigit_17 : decode cX2_isDigit 17 = .ok (.ireturn, 1) := by decide +kernel
theorem dX2_isLetter_0 : decode cX2_isLetter 0 = .ok (.iload_n 0, 1) := by decide +kernel
theorem dX2_isLetter_1 : decode cX2_isLetter 1 = .ok (.bipush 97, 2) := by decide +kernel
theorem dX2_isLetter_3 : decode cX2_isLetter 3 = .ok (.if_icmp .lt 9, 3) := by decide +kernel
theorem dX2_isLetter_6 : decode cX2_isLetter 6 = .ok (.iload_n 0, 1) := by decide +kernel
theorem dX2_isLetter_7 : decode cX2_isLetter 7 = .ok (.bipush 122, 2) := by decide +kernel
theorem dX2_isLetter_9 : decode cX2_isLetter 9 = .ok (.if_icmp .le 21, 3) := by decide +kernel
theorem dX2_isLetter_12 : decode cX2_isLetter 12 = .ok (.iload_n 0, 1) := by decide +kernel
theorem dX2_isLetter_13 : decode cX2_isLetter 13 = .ok (.bipush 65, 2) := by decide +kernel
theorem dX2_isLetter_15 : decode cX2_isLetter 15 = .ok (.if_icmp .lt 9, 3) := by decide +kernel
theorem dX2_isLetter_18 : decode cX2_isLetter 18 = .ok (.iload_n 0, 1) := by decide +kernel
theorem dX2_isLetter_19 : decode cX2_isLetter 19 = .ok (.bipush 90, 2) := by decide +kernel
theorem dX2_isLetter_21 : decode cX2_isLetter 21 = .ok (.if_icmp .le 9, 3) := by decide +kernel
theorem dX2_isLetter_24 : decode cX2_isLetter 24 = .ok (.iload_n 0, 1) := by decide +kernel
theorem dX2_isLetter_25 : decode cX2_isLetter 25 = .ok (.bipush 95, 2) := by decide +kernel
theorem dX2_isLetter_27 : decode cX2_isLetter 27 = .ok (.if_icmp .ne 7, 3) := by decide +kernel
theorem dX2_isLetter_30 : decode cX2_isLetter 30 = .ok (.iconst 1, 1) := by decide +kernel
theorem dX2_isLetter_31 : decode cX2_isLetter 31 = .ok (.goto 4, 3) := by decide +kernel
theorem dX2_isLetter_34 : decode cX2_isLetter 34 = .ok (.iconst 0, 1) := by decide +kernel
theorem dX2_isLetter_35 : decode cX2_isLetter 35 = .ok (.ireturn, 1) := by decide +kernel
theorem dX6_constant_0 : decode cX6_constant 0 = .ok (.ldc2_w 29, 3) := by decide +kernel
theorem dX6_constant_3 : decode cX6_constant 3 = .ok (.iload_n 0, 1) := by decide +kernel
theorem dX6_constant_4 : decode cX6_constant 4 = .ok (.i2l, 1) := by decide +kernel
theorem dX6_constant_5 : decode cX6_constant 5 = .ok (.ldc2_w 31, 3) := by decide +kernel
theorem dX6_constant_8 : decode cX6_constant 8 = .ok (.land, 1) := by decide +kernel
theorem dX6_constant_9 : decode cX6_constant 9 = .ok (.lor, 1) := by decide +kernel
theorem dX6_constant_10 : decode cX6_constant 10 = .ok (.lreturn, 1) := by decide +kernel
theorem dJ15_bitCount_0 : decode cJ15_bitCount 0 = .ok (.iload_n 0, 1) := by decide +kernel
theorem dJ15_bitCount_1 : decode cJ15_bitCount 1 = .ok (.iload_n 0, 1) := by decide +kernel
theorem dJ15_bitCount_2 : decode cJ15_bitCount 2 = .ok (.iconst 1, 1) := by decide +kernel
theorem dJ15_bitCount_3 : decode cJ15_bitCount 3 = .ok (.iushr, 1) := by decide +kernel
theorem dJ15_bitCount_4 : decode cJ15_bitCount 4 = .ok (.ldc_w 265, 3) := by decide +kernel
theorem dJ15_bitCount_7 : decode cJ15_bitCount 7 = .ok (.iand, 1) := by decide +kernel
theorem dJ15_bitCount_8 : decode cJ15_bitCount 8 = .ok (.isub, 1) := by decide +kernel
theorem dJ15_bitCount_9 : decode cJ15_bitCount 9 = .ok (.istore_n 0, 1) := by decide +kernel
theorem dJ15_bitCount_10 : decode cJ15_bitCount 10 = .ok (.iload_n 0, 1) := by decide +kernel
theorem dJ15_bitCount_11 : decode cJ15_bitCount 11 = .ok (.ldc_w 266, 3) := by decide +kernel
theorem dJ15_bitCount_14 : decode cJ15_bitCount 14 = .ok (.iand, 1) := by decide +kernel
theorem dJ15_bitCount_15 : decode cJ15_bitCount 15 = .ok (.iload_n 0, 1) := by decide +kernel
theorem dJ15_bitCount_16 : decode cJ15_bitCount 16 = .ok (.iconst 2, 1) := by decide +kernel
theorem dJ15_bitCount_17 : decode cJ15_bitCount 17 = .ok (.iushr, 1) := by decide +kernel
theorem dJ15_bitCount_18 : decode cJ15_bitCount 18 = .ok (.ldc_w 266, 3) := by decide +kernel
theorem dJ15_bitCount_21 : decode cJ15_bitCount 21 = .ok (.iand, 1) := by decide +kernel
theorem dJ15_bitCount_22 : decode cJ15_bitCount 22 = .ok (.iadd, 1) := by decide +kernel
theorem dJ15_bitCount_23 : decode cJ15_bitCount 23 = .ok (.istore_n 0, 1) := by decide +kernel
theorem dJ15_bitCount_24 : decode cJ15_bitCount 24 = .ok (.iload_n 0, 1) := by decide +kernel
theorem dJ15_bitCount_25 : decode cJ15_bitCount 25 = .ok (.iload_n 0, 1) := by decide +kernel
theorem dJ15_bitCount_26 : decode cJ15_bitCount 26 = .ok (.iconst 4, 1) := by decide +kernel
theorem dJ15_bitCount_27 : decode cJ15_bitCount 27 = .ok (.iushr, 1) := by decide +kernel
theorem dJ15_bitCount_28 : decode cJ15_bitCount 28 = .ok (.iadd, 1) := by decide +kernel
theorem dJ15_bitCount_29 : decode cJ15_bitCount 29 = .ok (.ldc_w 267, 3) := by decide +kernel
theorem dJ15_bitCount_32 : decode cJ15_bitCount 32 = .ok (.iand, 1) := by decide +kernel
theorem dJ15_bitCount_33 : decode cJ15_bitCount 33 = .ok (.istore_n 0, 1) := by decide +kernel
theorem dJ15_bitCount_34 : decode cJ15_bitCount 34 = .ok (.iload_n 0, 1) := by decide +kernel
theorem dJ15_bitCount_35 : decode cJ15_bitCount 35 = .ok (.iload_n 0, 1) := by decide +kernel
theorem dJ15_bitCount_36 : decode cJ15_bitCount 36 = .ok (.bipush 8, 2) := by decide +kernel
theorem dJ15_bitCount_38 : decode cJ15_bitCount 38 = .ok (.iushr, 1) := by decide +kernel
theorem dJ15_bitCount_39 : decode cJ15_bitCount 39 = .ok (.iadd, 1) := by decide +kernel
theorem dJ15_bitCount_40 : decode cJ15_bitCount 40 = .ok (.istore_n 0, 1) := by decide +kernel
theorem dJ15_bitCount_41 : decode cJ15_bitCount 41 = .ok (.iload_n 0, 1) := by decide +kernel
theorem dJ15_bitCount_42 : decode cJ15_bitCount 42 = .ok (.iload_n 0, 1) := by decide +kernel
theorem dJ15_bitCount_43 : decode cJ15_bitCount 43 = .ok (.bipush 16, 2) := by decide +kernel
theorem dJ15_bitCount_45 : decode cJ15_bitCount 45 = .ok (.iushr, 1) := by decide +kernel
theorem dJ15_bitCount_46 : decode cJ15_bitCount 46 = .ok (.iadd, 1) := by decide +kernel
theorem dJ15_bitCount_47 : decode cJ15_bitCount 47 = .ok (.istore_n 0, 1) := by decide +kernel
theorem dJ15_bitCount_48 : decode cJ15_bitCount 48 = .ok (.iload_n 0, 1) := by decide +kernel
theorem dJ15_bitCount_49 : decode cJ15_bitCount 49 = .ok (.bipush 63, 2) := by decide +kernel
theorem dJ15_bitCount_51 : decode cJ15_bitCount 51 = .ok (.iand, 1) := by decide +kernel
theorem dJ15_bitCount_52 : decode cJ15_bitCount 52 = .ok (.ireturn, 1) := by decide +kernel
theorem dJ15_numberOfTrailingZeros_0 : decode cJ15_numberOfTrailingZeros 0 = .ok (.iload_n 0, 1) := by decide +kernel
theorem dJ15_numberOfTrailingZeros_1 : decode cJ15_numberOfTrailingZeros 1 = .ok (.iconst (-1), 1) := by decide +kernel
theorem dJ15_numberOfTrailingZeros_2 : decode cJ15_numberOfTrailingZeros 2 = .ok (.ixor, 1) := by decide +kernel
theorem dJ15_numberOfTrailingZeros_3 : decode cJ15_numberOfTrailingZeros 3 = .ok (.iload_n 0, 1) := by decide +kernel
theorem dJ15_numberOfTrailingZeros_4 : decode cJ15_numberOfTrailingZeros 4 = .ok (.iconst 1, 1) := by decide +kernel
theorem dJ15_numberOfTrailingZeros_5 : decode cJ15_numberOfTrailingZeros 5 = .ok (.isub, 1) := by decide +kernel
theorem dJ15_numberOfTrailingZeros_6 : decode cJ15_numberOfTrailingZeros 6 = .ok (.iand, 1) := by decide +kernel
theorem dJ15_numberOfTrailingZeros_7 : decode cJ15_numberOfTrailingZeros 7 = .ok (.istore_n 0, 1) := by decide +kernel
theorem dJ15_numberOfTrailingZeros_8 : decode cJ15_numberOfTrailingZeros 8 = .ok (.iload_n 0, 1) := by decide +kernel
theorem dJ15_numberOfTrailingZeros_9 : decode cJ15_numberOfTrailingZeros 9 = .ok (.ifCond .gt 8, 3) := by decide +kernel
theorem dJ15_numberOfTrailingZeros_12 : decode cJ15_numberOfTrailingZeros 12 = .ok (.iload_n 0, 1) := by decide +kernel
theorem dJ15_numberOfTrailingZeros_13 : decode cJ15_numberOfTrailingZeros 13 = .ok (.bipush 32, 2) := by decide +kernel
theorem dJ15_numberOfTrailingZeros_15 : decode cJ15_numberOfTrailingZeros 15 = .ok (.iand, 1) := by decide +kernel
theorem dJ15_numberOfTrailingZeros_16 : decode cJ15_numberOfTrailingZeros 16 = .ok (.ireturn, 1) := by decide +kernel
theorem dJ15_numberOfTrailingZeros_17 : decode cJ15_numberOfTrailingZeros 17 = .ok (.iconst 1, 1) := by decide +kernel
theorem dJ15_numberOfTrailingZeros_18 : decode cJ15_numberOfTrailingZeros 18 = .ok (.istore_n 1, 1) := by decide +kernel
theorem dJ15_numberOfTrailingZeros_19 : decode cJ15_numberOfTrailingZeros 19 = .ok (.iload_n 0, 1) := by decide +kernel
theorem dJ15_numberOfTrailingZeros_20 : decode cJ15_numberOfTrailingZeros 20 = .ok (.ldc_w 264, 3) := by decide +kernel
theorem dJ15_numberOfTrailingZeros_23 : decode cJ15_numberOfTrailingZeros 23 = .ok (.if_icmp .le 11, 3) := by decide +kernel
theorem dJ15_numberOfTrailingZeros_26 : decode cJ15_numberOfTrailingZeros 26 = .ok (.iinc 1 16, 3) := by decide +kernel
theorem dJ15_numberOfTrailingZeros_29 : decode cJ15_numberOfTrailingZeros 29 = .ok (.iload_n 0, 1) := by decide +kernel
theorem dJ15_numberOfTrailingZeros_30 : decode cJ15_numberOfTrailingZeros 30 = .ok (.bipush 16, 2) := by decide +kernel
theorem dJ15_numberOfTrailingZeros_32 : decode cJ15_numberOfTrailingZeros 32 = .ok (.iushr, 1) := by decide +kernel
theorem dJ15_numberOfTrailingZeros_33 : decode cJ15_numberOfTrailingZeros 33 = .ok (.istore_n 0, 1) := by decide +kernel
theorem dJ15_numberOfTrailingZeros_34 : decode cJ15_numberOfTrailingZeros 34 = .ok (.iload_n 0, 1) := by decide +kernel
theorem dJ15_numberOfTrailingZeros_35 : decode cJ15_numberOfTrailingZeros 35 = .ok (.sipush 256, 3) := by decide +kernel
theorem dJ15_numberOfTrailingZeros_38 : decode cJ15_numberOfTrailingZeros 38 = .ok (.if_icmp .le 11, 3) := by decide +kernel
theorem dJ15_numberOfTrailingZeros_41 : decode cJ15_numberOfTrailingZeros 41 = .ok (.iinc 1 8, 3) := by decide +kernel
theorem dJ15_numberOfTrailingZeros_44 : decode cJ15_numberOfTrailingZeros 44 = .ok (.iload_n 0, 1) := by decide +kernel
theorem dJ15_numberOfTrailingZeros_45 : decode cJ15_numberOfTrailingZeros 45 = .ok (.bipush 8, 2) := by decide +kernel
theorem dJ15_numberOfTrailingZeros_47 : decode cJ15_numberOfTrailingZeros 47 = .ok (.iushr, 1) := by decide +kernel
theorem dJ15_numberOfTrailingZeros_48 : decode cJ15_numberOfTrailingZeros 48 = .ok (.istore_n 0, 1) := by decide +kernel
theorem dJ15_numberOfTrailingZeros_49 : decode cJ15_numberOfTrailingZeros 49 = .ok (.iload_n 0, 1) := by decide +kernel
theorem dJ15_numberOfTrailingZeros_50 : decode cJ15_numberOfTrailingZeros 50 = .ok (.bipush 16, 2) := by decide +kernel
theorem dJ15_numberOfTrailingZeros_52 : decode cJ15_numberOfTrailingZeros 52 = .ok (.if_icmp .le 10, 3) := by decide +kernel
theorem dJ15_numberOfTrailingZeros_55 : decode cJ15_numberOfTrailingZeros 55 = .ok (.iinc 1 4, 3) := by decide +kernel
theorem dJ15_numberOfTrailingZeros_58 : decode cJ15_numberOfTrailingZeros 58 = .ok (.iload_n 0, 1) := by decide +kernel
theorem dJ15_numberOfTrailingZeros_59 : decode cJ15_numberOfTrailingZeros 59 = .ok (.iconst 4, 1) := by decide +kernel
theorem dJ15_numberOfTrailingZeros_60 : decode cJ15_numberOfTrailingZeros 60 = .ok (.iushr, 1) := by decide +kernel
theorem dJ15_numberOfTrailingZeros_61 : decode cJ15_numberOfTrailingZeros 61 = .ok (.istore_n 0, 1) := by decide +kernel
theorem dJ15_numberOfTrailingZeros_62 : decode cJ15_numberOfTrailingZeros 62 = .ok (.iload_n 0, 1) := by decide +kernel
theorem dJ15_numberOfTrailingZeros_63 : decode cJ15_numberOfTrailingZeros 63 = .ok (.iconst 4, 1) := by decide +kernel
theorem dJ15_numberOfTrailingZeros_64 : decode cJ15_numberOfTrailingZeros 64 = .ok (.if_icmp .le 10, 3) := by decide +kernel
theorem dJ15_numberOfTrailingZeros_67 : decode cJ15_numberOfTrailingZeros 67 = .ok (.iinc 1 2, 3) := by decide +kernel
theorem dJ15_numberOfTrailingZeros_70 : decode cJ15_numberOfTrailingZeros 70 = .ok (.iload_n 0, 1) := by decide +kernel
theorem dJ15_numberOfTrailingZeros_71 : decode cJ15_numberOfTrailingZeros 71 = .ok (.iconst 2, 1) := by decide +kernel
theorem dJ15_numberOfTrailingZeros_72 : decode cJ15_numberOfTrailingZeros 72 = .ok (.iushr, 1) := by decide +kernel
theorem dJ15_numberOfTrailingZeros_73 : decode cJ15_numberOfTrailingZeros 73 = .ok (.istore_n 0, 1) := by decide +kernel
theorem dJ15_numberOfTrailingZeros_74 : decode cJ15_numberOfTrailingZeros 74 = .ok (.iload_n 1, 1) := by decide +kernel
theorem dJ15_numberOfTrailingZeros_75 : decode cJ15_numberOfTrailingZeros 75 = .ok (.iload_n 0, 1) := by decide +kernel
theorem dJ15_numberOfTrailingZeros_76 : decode cJ15_numberOfTrailingZeros 76 = .ok (.iconst 1, 1) := by decide +kernel
theorem dJ15_numberOfTrailingZeros_77 : decode cJ15_numberOfTrailingZeros 77 = .ok (.iushr, 1) := by decide +kernel
theorem dJ15_numberOfTrailingZeros_78 : decode cJ15_numberOfTrailingZeros 78 = .ok (.iadd, 1) := by decide +kernel
theorem dJ15_numberOfTrailingZeros_79 : decode cJ15_numberOfTrailingZeros 79 = .ok (.ireturn, 1) := by decide +kernel
theorem dJ16_bitCount_0 : decode cJ16_bitCount 0 = .ok (.lload_n 0, 1) := by decide +kernel
theorem dJ16_bitCount_1 : decode cJ16_bitCount 1 = .ok (.lload_n 0, 1) := by decide +kernel
theorem dJ16_bitCount_2 : decode cJ16_bitCount 2 = .ok (.iconst 1, 1) := by decide +kernel
theorem dJ16_bitCount_3 : decode cJ16_bitCount 3 = .ok (.lushr, 1) := by decide +kernel
theorem dJ16_bitCount_4 : decode cJ16_bitCount 4 = .ok (.ldc2_w 314, 3) := by decide +kernel
theorem dJ16_bitCount_7 : decode cJ16_bitCount 7 = .ok (.land, 1) := by decide +kernel
theorem dJ16_bitCount_8 : decode cJ16_bitCount 8 = .ok (.lsub, 1) := by decide +kernel
theorem dJ16_bitCount_9 : decode cJ16_bitCount 9 = .ok (.lstore_n 0, 1) := by decide +kernel
theorem dJ16_bitCount_10 : decode cJ16_bitCount 10 = .ok (.lload_n 0, 1) := by decide +kernel
theorem dJ16_bitCount_11 : decode cJ16_bitCount 11 = .ok (.ldc2_w 316, 3) := by decide +kernel
theorem dJ16_bitCount_14 : decode cJ16_bitCount 14 = .ok (.land, 1) := by decide +kernel
theorem dJ16_bitCount_15 : decode cJ16_bitCount 15 = .ok (.lload_n 0, 1) := by decide +kernel
theorem dJ16_bitCount_16 : decode cJ16_bitCount 16 = .ok (.iconst 2, 1) := by decide +kernel
theorem dJ16_bitCount_17 : decode cJ16_bitCount 17 = .ok (.lushr, 1) := by decide +kernel
theorem dJ16_bitCount_18 : decode cJ16_bitCount 18 = .ok (.ldc2_w 316, 3) := by decide +kernel
theorem dJ16_bitCount_21 : decode cJ16_bitCount 21 = .ok (.land, 1) := by decide +kernel
theorem dJ16_bitCount_22 : decode cJ16_bitCount 22 = .ok (.ladd, 1) := by decide +kernel
theorem dJ16_bitCount_23 : decode cJ16_bitCount 23 = .ok (.lstore_n 0, 1) := by decide +kernel
theorem dJ16_bitCount_24 : decode cJ16_bitCount 24 = .ok (.lload_n 0, 1) := by decide +kernel
theorem dJ16_bitCount_25 : decode cJ16_bitCount 25 = .ok (.lload_n 0, 1) := by decide +kernel
theorem dJ16_bitCount_26 : decode cJ16_bitCount 26 = .ok (.iconst 4, 1) := by decide +kernel
theorem dJ16_bitCount_27 : decode cJ16_bitCount 27 = .ok (.lushr, 1) := by decide +kernel
theorem dJ16_bitCount_28 : decode cJ16_bitCount 28 = .ok (.ladd, 1) := by decide +kernel
theorem dJ16_bitCount_29 : decode cJ16_bitCount 29 = .ok (.ldc2_w 318, 3) := by decide +kernel
theorem dJ16_bitCount_32 : decode cJ16_bitCount 32 = .ok (.land, 1) := by decide +kernel
theorem dJ16_bitCount_33 : decode cJ16_bitCount 33 = .ok (.lstore_n 0, 1) := by decide +kernel
theorem dJ16_bitCount_34 : decode cJ16_bitCount 34 = .ok (.lload_n 0, 1) := by decide +kernel
theorem dJ16_bitCount_35 : decode cJ16_bitCount 35 = .ok (.lload_n 0, 1) := by decide +kernel
theorem dJ16_bitCount_36 : decode cJ16_bitCount 36 = .ok (.bipush 8, 2) := by decide +kernel
theorem dJ16_bitCount_38 : decode cJ16_bitCount 38 = .ok (.lushr, 1) := by decide +kernel
theorem dJ16_bitCount_39 : decode cJ16_bitCount 39 = .ok (.ladd, 1) := by decide +kernel
theorem dJ16_bitCount_40 : decode cJ16_bitCount 40 = .ok (.lstore_n 0, 1) := by decide +kernel
theorem dJ16_bitCount_41 : decode cJ16_bitCount 41 = .ok (.lload_n 0, 1) := by decide +kernel
theorem dJ16_bitCount_42 : decode cJ16_bitCount 42 = .ok (.lload_n 0, 1) := by decide +kernel
theorem dJ16_bitCount_43 : decode cJ16_bitCount 43 = .ok (.bipush 16, 2) := by decide +kernel
theorem dJ16_bitCount_45 : decode cJ16_bitCount 45 = .ok (.lushr, 1) := by decide +kernel
theorem dJ16_bitCount_46 : decode cJ16_bitCount 46 = .ok (.ladd, 1) := by decide +kernel
theorem dJ16_bitCount_47 : decode cJ16_bitCount 47 = .ok (.lstore_n 0, 1) := by decide +kernel
theorem dJ16_bitCount_48 : decode cJ16_bitCount 48 = .ok (.lload_n 0, 1) := by decide +kernel
theorem dJ16_bitCount_49 : decode cJ16_bitCount 49 = .ok (.lload_n 0, 1) := by decide +kernel
theorem dJ16_bitCount_50 : decode cJ16_bitCount 50 = .ok (.bipush 32, 2) := by decide +kernel
theorem dJ16_bitCount_52 : decode cJ16_bitCount 52 = .ok (.lushr, 1) := by decide +kernel
theorem dJ16_bitCount_53 : decode cJ16_bitCount 53 = .ok (.ladd, 1) := by decide +kernel
theorem dJ16_bitCount_54 : decode cJ16_bitCount 54 = .ok (.lstore_n 0, 1) := by decide +kernel
theorem dJ16_bitCount_55 : decode cJ16_bitCount 55 = .ok (.lload_n 0, 1) := by decide +kernel
theorem dJ16_bitCount_56 : decode cJ16_bitCount 56 = .ok (.l2i, 1) := by decide +kernel
theorem dJ16_bitCount_57 : decode cJ16_bitCount 57 = .ok (.bipush 127, 2) := by decide +kernel
theorem dJ16_bitCount_59 : decode cJ16_bitCount 59 = .ok (.iand, 1) := by decide +kernel
theorem dJ16_bitCount_60 : decode cJ16_bitCount 60 = .ok (.ireturn, 1) := by decide +kernel
theorem dJ16_numberOfTrailingZeros_0 : decode cJ16_numberOfTrailingZeros 0 = .ok (.lload_n 0, 1) := by decide +kernel
theorem dJ16_numberOfTrailingZeros_1 : decode cJ16_numberOfTrailingZeros 1 = .ok (.l2i, 1) := by decide +kernel
theorem dJ16_numberOfTrailingZeros_2 : decode cJ16_numberOfTrailingZeros 2 = .ok (.istore_n 2, 1) := by decide +kernel
theorem dJ16_numberOfTrailingZeros_3 : decode cJ16_numberOfTrailingZeros 3 = .ok (.iload_n 2, 1) := by decide +kernel
theorem dJ16_numberOfTrailingZeros_4 : decode cJ16_numberOfTrailingZeros 4 = .ok (.ifCond .ne 17, 3) := by decide +kernel
theorem dJ16_numberOfTrailingZeros_7 : decode cJ16_numberOfTrailingZeros 7 = .ok (.bipush 32, 2) := by decide +kernel
theorem dJ16_numberOfTrailingZeros_9 : decode cJ16_numberOfTrailingZeros 9 = .ok (.lload_n 0, 1) := by decide +kernel
theorem dJ16_numberOfTrailingZeros_10 : decode cJ16_numberOfTrailingZeros 10 = .ok (.bipush 32, 2) := by decide +kernel
theorem dJ16_numberOfTrailingZeros_12 : decode cJ16_numberOfTrailingZeros 12 = .ok (.lushr, 1) := by decide +kernel
theorem dJ16_numberOfTrailingZeros_13 : decode cJ16_numberOfTrailingZeros 13 = .ok (.l2i, 1) := by decide +kernel
theorem dJ16_numberOfTrailingZeros_14 : decode cJ16_numberOfTrailingZeros 14 = .ok (.invokestatic 311, 3) := by decide +kernel
theorem dJ16_numberOfTrailingZeros_17 : decode cJ16_numberOfTrailingZeros 17 = .ok (.iadd, 1) := by decide +kernel
theorem dJ16_numberOfTrailingZeros_18 : decode cJ16_numberOfTrailingZeros 18 = .ok (.goto 7, 3) := by decide +kernel
theorem dJ16_numberOfTrailingZeros_21 : decode cJ16_numberOfTrailingZeros 21 = .ok (.iload_n 2, 1) := by decide +kernel
theorem dJ16_numberOfTrailingZeros_22 : decode cJ16_numberOfTrailingZeros 22 = .ok (.invokestatic 311, 3) := by decide +kernel
theorem dJ16_numberOfTrailingZeros_25 : decode cJ16_numberOfTrailingZeros 25 = .ok (.ireturn, 1) := by decide +kernel
