/-! names: X13_init X13_feed X13_end X13_read X13_cut X13_skip X13_at X13_tokenAt X13_isLetter X13_wordToken X13_isInner X13_isDigit X13_placeIn (tools/names.py) -/
set_option maxRecDepth 100000
abbrev cX13_init : ByteArray := prog_39_method_1_code
def yX13_init : MethodName := ⟨RX13, "<init>", "()V"⟩
theorem q2996 : (Jvm.Cond.code ({ cls := "CompiledHouseModel", name := "<init>", desc := "()V" } : Jvm.MethodName) prog_39_method_1_code (1 : Nat) (Option.none : Option Jvm.ClassFile.FieldType)) ∈ lw_all := lw_g (lw_at lw_m12 160 rfl) rfl
def kX13_init : xK := (yX13_init, cX13_init, 1, none, [])
theorem me_X13_init : xMe kX13_init 0 := ⟨q2996, q216, by decide, by decide, by decide +kernel⟩
theorem q2995 : (Jvm.Cond.instanceMethod ({ cls := "CompiledHouseModel", name := "<init>", desc := "()V" } : Jvm.MethodName)) ∈ lw_all := lw_g (lw_at lw_m12 159 rfl) rfl
theorem is_X13_init : Cond.instanceMethod kX13_init.y ∈ lw_all := q2995
theorem q2997 : (Jvm.Cond.methodLink "CompiledHouseModel" (1 : Nat) ({ cls := "java/lang/Object", name := "<init>", desc := "()V" } : Jvm.MethodName)) ∈ lw_all := lw_g (lw_at lw_m12 161 rfl) rfl
theorem lk_X13_1 : xLk RX13 1 yJ18_init := Or.inl q2997
theorem q2999 : (Jvm.Cond.fieldLink "CompiledHouseModel" (9 : Nat) "CompiledHouseModel" "tape" "[I") ∈ lw_all := lw_g (lw_at lw_m12 163 rfl) rfl
theorem f_X13_9_12 : xF RX13 9 12 0 := ⟨_, "CompiledHouseModel", rfl, by decide, Or.inl q2999, Or.inl rfl⟩
theorem q3000 : (Jvm.Cond.fieldLink "CompiledHouseModel" (13 : Nat) "CompiledHouseModel" "text" "[I") ∈ lw_all := lw_g (lw_at lw_m12 164 rfl) rfl
theorem f_X13_13_12 : xF RX13 13 12 1 := ⟨_, "CompiledHouseModel", rfl, by decide, Or.inl q3000, Or.inl rfl⟩
theorem q3003 : (Jvm.Cond.fieldLink "CompiledHouseModel" (16 : Nat) "CompiledHouseModel" "tKind" "[I") ∈ lw_all := lw_g (lw_at lw_m12 167 rfl) rfl
theorem f_X13_16_12 : xF RX13 16 12 4 := ⟨_, "CompiledHouseModel", rfl, by decide, Or.inl q3003, Or.inl rfl⟩
theorem q3004 : (Jvm.Cond.fieldLink "CompiledHouseModel" (19 : Nat) "CompiledHouseModel" "tValue" "[I") ∈ lw_all := lw_g (lw_at lw_m12 168 rfl) rfl
theorem f_X13_19_12 : xF RX13 19 12 5 := ⟨_, "CompiledHouseModel", rfl, by decide, Or.inl q3004, Or.inl rfl⟩
theorem q3005 : (Jvm.Cond.fieldLink "CompiledHouseModel" (22 : Nat) "CompiledHouseModel" "tAt" "[I") ∈ lw_all := lw_g (lw_at lw_m12 169 rfl) rfl
theorem f_X13_22_12 : xF RX13 22 12 6 := ⟨_, "CompiledHouseModel", rfl, by decide, Or.inl q3005, Or.inl rfl⟩
theorem q3008 : (Jvm.Cond.fieldLink "CompiledHouseModel" (25 : Nat) "CompiledHouseModel" "nameAt" "[I") ∈ lw_all := lw_g (lw_at lw_m12 172 rfl) rfl
theorem f_X13_25_12 : xF RX13 25 12 9 := ⟨_, "CompiledHouseModel", rfl, by decide, Or.inl q3008, Or.inl rfl⟩
theorem q3009 : (Jvm.Cond.fieldLink "CompiledHouseModel" (28 : Nat) "CompiledHouseModel" "nameSize" "[I") ∈ lw_all := lw_g (lw_at lw_m12 173 rfl) rfl
theorem f_X13_28_12 : xF RX13 28 12 10 := ⟨_, "CompiledHouseModel", rfl, by decide, Or.inl q3009, Or.inl rfl⟩
theorem q3010 : (Jvm.Cond.fieldLink "CompiledHouseModel" (31 : Nat) "CompiledHouseModel" "nameNext" "[I") ∈ lw_all := lw_g (lw_at lw_m12 174 rfl) rfl
theorem f_X13_31_12 : xF RX13 31 12 11 := ⟨_, "CompiledHouseModel", rfl, by decide, Or.inl q3010, Or.inl rfl⟩
theorem q3011 : (Jvm.Cond.fieldLink "CompiledHouseModel" (34 : Nat) "CompiledHouseModel" "nameHead" "[I") ∈ lw_all := lw_g (lw_at lw_m12 175 rfl) rfl
theorem f_X13_34_12 : xF RX13 34 12 12 := ⟨_, "CompiledHouseModel", rfl, by decide, Or.inl q3011, Or.inl rfl⟩
theorem q3015 : (Jvm.Cond.fieldLink "CompiledHouseModel" (37 : Nat) "CompiledHouseModel" "dName" "[I") ∈ lw_all := lw_g (lw_at lw_m12 179 rfl) rfl
theorem f_X13_37_12 : xF RX13 37 12 16 := ⟨_, "CompiledHouseModel", rfl, by decide, Or.inl q3015, Or.inl rfl⟩
theorem q3016 : (Jvm.Cond.fieldLink "CompiledHouseModel" (40 : Nat) "CompiledHouseModel" "dKind" "[I") ∈ lw_all := lw_g (lw_at lw_m12 180 rfl) rfl
theorem f_X13_40_12 : xF RX13 40 12 17 := ⟨_, "CompiledHouseModel", rfl, by decide, Or.inl q3016, Or.inl rfl⟩
theorem q3017 : (Jvm.Cond.fieldLink "CompiledHouseModel" (43 : Nat) "CompiledHouseModel" "dPlace" "[I") ∈ lw_all := lw_g (lw_at lw_m12 181 rfl) rfl
theorem f_X13_43_12 : xF RX13 43 12 18 := ⟨_, "CompiledHouseModel", rfl, by decide, Or.inl q3017, Or.inl rfl⟩
theorem q3018 : (Jvm.Cond.fieldLink "CompiledHouseModel" (46 : Nat) "CompiledHouseModel" "dScope" "[I") ∈ lw_all := lw_g (lw_at lw_m12 182 rfl) rfl
theorem f_X13_46_12 : xF RX13 46 12 19 := ⟨_, "CompiledHouseModel", rfl, by decide, Or.inl q3018, Or.inl rfl⟩
theorem q3019 : (Jvm.Cond.fieldLink "CompiledHouseModel" (49 : Nat) "CompiledHouseModel" "dCell" "[I") ∈ lw_all := lw_g (lw_at lw_m12 183 rfl) rfl
theorem f_X13_49_12 : xF RX13 49 12 20 := ⟨_, "CompiledHouseModel", rfl, by decide, Or.inl q3019, Or.inl rfl⟩
theorem q3020 : (Jvm.Cond.fieldLink "CompiledHouseModel" (52 : Nat) "CompiledHouseModel" "dSize" "[I") ∈ lw_all := lw_g (lw_at lw_m12 184 rfl) rfl
theorem f_X13_52_12 : xF RX13 52 12 21 := ⟨_, "CompiledHouseModel", rfl, by decide, Or.inl q3020, Or.inl rfl⟩
theorem q3021 : (Jvm.Cond.fieldLink "CompiledHouseModel" (55 : Nat) "CompiledHouseModel" "dByte" "[Z") ∈ lw_all := lw_g (lw_at lw_m12 185 rfl) rfl
theorem f_X13_55_12 : xF RX13 55 12 22 := ⟨_, "CompiledHouseModel", rfl, by decide, Or.inl q3021, Or.inl rfl⟩
theorem q3022 : (Jvm.Cond.fieldLink "CompiledHouseModel" (59 : Nat) "CompiledHouseModel" "dLocal" "[Z") ∈ lw_all := lw_g (lw_at lw_m12 186 rfl) rfl
theorem f_X13_59_12 : xF RX13 59 12 23 := ⟨_, "CompiledHouseModel", rfl, by decide, Or.inl q3022, Or.inl rfl⟩
theorem q3024 : (Jvm.Cond.fieldLink "CompiledHouseModel" (62 : Nat) "CompiledHouseModel" "fName" "[I") ∈ lw_all := lw_g (lw_at lw_m12 188 rfl) rfl
theorem f_X13_62_12 : xF RX13 62 12 25 := ⟨_, "CompiledHouseModel", rfl, by decide, Or.inl q3024, Or.inl rfl⟩
theorem q3025 : (Jvm.Cond.fieldLink "CompiledHouseModel" (65 : Nat) "CompiledHouseModel" "fPlace" "[I") ∈ lw_all := lw_g (lw_at lw_m12 189 rfl) rfl
theorem f_X13_65_12 : xF RX13 65 12 26 := ⟨_, "CompiledHouseModel", rfl, by decide, Or.inl q3025, Or.inl rfl⟩
theorem q3026 : (Jvm.Cond.fieldLink "CompiledHouseModel" (68 : Nat) "CompiledHouseModel" "fFormals" "[I") ∈ lw_all := lw_g (lw_at lw_m12 190 rfl) rfl
theorem f_X13_68_12 : xF RX13 68 12 27 := ⟨_, "CompiledHouseModel", rfl, by decide, Or.inl q3026, Or.inl rfl⟩
theorem q3027 : (Jvm.Cond.fieldLink "CompiledHouseModel" (71 : Nat) "CompiledHouseModel" "fMeasure" "[I") ∈ lw_all := lw_g (lw_at lw_m12 191 rfl) rfl
theorem f_X13_71_12 : xF RX13 71 12 28 := ⟨_, "CompiledHouseModel", rfl, by decide, Or.inl q3027, Or.inl rfl⟩
theorem q3028 : (Jvm.Cond.fieldLink "CompiledHouseModel" (74 : Nat) "CompiledHouseModel" "fCells" "[I") ∈ lw_all := lw_g (lw_at lw_m12 192 rfl) rfl
theorem f_X13_74_12 : xF RX13 74 12 29 := ⟨_, "CompiledHouseModel", rfl, by decide, Or.inl q3028, Or.inl rfl⟩
theorem q3029 : (Jvm.Cond.fieldLink "CompiledHouseModel" (77 : Nat) "CompiledHouseModel" "fCode" "[I") ∈ lw_all := lw_g (lw_at lw_m12 193 rfl) rfl
theorem f_X13_77_12 : xF RX13 77 12 30 := ⟨_, "CompiledHouseModel", rfl, by decide, Or.inl q3029, Or.inl rfl⟩
theorem q3030 : (Jvm.Cond.fieldLink "CompiledHouseModel" (80 : Nat) "CompiledHouseModel" "fFirst" "[I") ∈ lw_all := lw_g (lw_at lw_m12 194 rfl) rfl
theorem f_X13_80_12 : xF RX13 80 12 31 := ⟨_, "CompiledHouseModel", rfl, by decide, Or.inl q3030, Or.inl rfl⟩
theorem q3031 : (Jvm.Cond.fieldLink "CompiledHouseModel" (83 : Nat) "CompiledHouseModel" "fFormalToken" "[I") ∈ lw_all := lw_g (lw_at lw_m12 195 rfl) rfl
theorem f_X13_83_12 : xF RX13 83 12 32 := ⟨_, "CompiledHouseModel", rfl, by decide, Or.inl q3031, Or.inl rfl⟩
theorem q3032 : (Jvm.Cond.fieldLink "CompiledHouseModel" (86 : Nat) "CompiledHouseModel" "fVoid" "[Z") ∈ lw_all := lw_g (lw_at lw_m12 196 rfl) rfl
theorem f_X13_86_12 : xF RX13 86 12 33 := ⟨_, "CompiledHouseModel", rfl, by decide, Or.inl q3032, Or.inl rfl⟩
theorem q3033 : (Jvm.Cond.fieldLink "CompiledHouseModel" (89 : Nat) "CompiledHouseModel" "formal" "[I") ∈ lw_all := lw_g (lw_at lw_m12 197 rfl) rfl
theorem f_X13_89_12 : xF RX13 89 12 34 := ⟨_, "CompiledHouseModel", rfl, by decide, Or.inl q3033, Or.inl rfl⟩
theorem q3037 : (Jvm.Cond.fieldLink "CompiledHouseModel" (92 : Nat) "CompiledHouseModel" "gMany" "[I") ∈ lw_all := lw_g (lw_at lw_m12 201 rfl) rfl
theorem f_X13_92_12 : xF RX13 92 12 38 := ⟨_, "CompiledHouseModel", rfl, by decide, Or.inl q3037, Or.inl rfl⟩
theorem q3038 : (Jvm.Cond.fieldLink "CompiledHouseModel" (95 : Nat) "CompiledHouseModel" "gWhere" "[I") ∈ lw_all := lw_g (lw_at lw_m12 202 rfl) rfl
theorem f_X13_95_12 : xF RX13 95 12 39 := ⟨_, "CompiledHouseModel", rfl, by decide, Or.inl q3038, Or.inl rfl⟩
theorem q3039 : (Jvm.Cond.fieldLink "CompiledHouseModel" (98 : Nat) "CompiledHouseModel" "gByte" "[Z") ∈ lw_all := lw_g (lw_at lw_m12 203 rfl) rfl
theorem f_X13_98_12 : xF RX13 98 12 40 := ⟨_, "CompiledHouseModel", rfl, by decide, Or.inl q3039, Or.inl rfl⟩
theorem q3040 : (Jvm.Cond.fieldLink "CompiledHouseModel" (101 : Nat) "CompiledHouseModel" "first" "[I") ∈ lw_all := lw_g (lw_at lw_m12 204 rfl) rfl
theorem f_X13_101_12 : xF RX13 101 12 41 := ⟨_, "CompiledHouseModel", rfl, by decide, Or.inl q3040, Or.inl rfl⟩
theorem q3055 : (Jvm.Cond.fieldLink "CompiledHouseModel" (104 : Nat) "CompiledHouseModel" "sWhat" "[I") ∈ lw_all := lw_g (lw_at lw_m12 219 rfl) rfl
theorem f_X13_104_12 : xF RX13 104 12 56 := ⟨_, "CompiledHouseModel", rfl, by decide, Or.inl q3055, Or.inl rfl⟩
theorem q3056 : (Jvm.Cond.fieldLink "CompiledHouseModel" (107 : Nat) "CompiledHouseModel" "sA" "[I") ∈ lw_all := lw_g (lw_at lw_m12 220 rfl) rfl
theorem f_X13_107_12 : xF RX13 107 12 57 := ⟨_, "CompiledHouseModel", rfl, by decide, Or.inl q3056, Or.inl rfl⟩
theorem q3057 : (Jvm.Cond.fieldLink "CompiledHouseModel" (110 : Nat) "CompiledHouseModel" "sB" "[I") ∈ lw_all := lw_g (lw_at lw_m12 221 rfl) rfl
theorem f_X13_110_12 : xF RX13 110 12 58 := ⟨_, "CompiledHouseModel", rfl, by decide, Or.inl q3057, Or.inl rfl⟩
theorem q3058 : (Jvm.Cond.fieldLink "CompiledHouseModel" (113 : Nat) "CompiledHouseModel" "sC" "[I") ∈ lw_all := lw_g (lw_at lw_m12 222 rfl) rfl
theorem f_X13_113_12 : xF RX13 113 12 59 := ⟨_, "CompiledHouseModel", rfl, by decide, Or.inl q3058, Or.inl rfl⟩
theorem q3066 : (Jvm.Cond.fieldLink "CompiledHouseModel" (116 : Nat) "CompiledHouseModel" "pSign" "[I") ∈ lw_all := lw_g (lw_at lw_m12 230 rfl) rfl
theorem f_X13_116_12 : xF RX13 116 12 67 := ⟨_, "CompiledHouseModel", rfl, by decide, Or.inl q3066, Or.inl rfl⟩
theorem q3067 : (Jvm.Cond.fieldLink "CompiledHouseModel" (119 : Nat) "CompiledHouseModel" "pLevel" "[I") ∈ lw_all := lw_g (lw_at lw_m12 231 rfl) rfl
theorem f_X13_119_12 : xF RX13 119 12 68 := ⟨_, "CompiledHouseModel", rfl, by decide, Or.inl q3067, Or.inl rfl⟩
theorem q3068 : (Jvm.Cond.fieldLink "CompiledHouseModel" (122 : Nat) "CompiledHouseModel" "pStep" "[I") ∈ lw_all := lw_g (lw_at lw_m12 232 rfl) rfl
theorem f_X13_122_12 : xF RX13 122 12 69 := ⟨_, "CompiledHouseModel", rfl, by decide, Or.inl q3068, Or.inl rfl⟩
theorem q2998 : (Jvm.Cond.constant "CompiledHouseModel" (125 : Nat) (280000 : Int32)) ∈ lw_all := lw_g (lw_at lw_m12 162 rfl) rfl
theorem q3070 : (Jvm.Cond.fieldLink "CompiledHouseModel" (126 : Nat) "CompiledHouseModel" "ops" "[I") ∈ lw_all := lw_g (lw_at lw_m12 234 rfl) rfl
theorem f_X13_126_12 : xF RX13 126 12 71 := ⟨_, "CompiledHouseModel", rfl, by decide, Or.inl q3070, Or.inl rfl⟩
theorem q3087 : (Jvm.Cond.fieldLink "CompiledHouseModel" (129 : Nat) "CompiledHouseModel" "input" "[I") ∈ lw_all := lw_g (lw_at lw_m13 11 rfl) rfl
theorem f_X13_129_12 : xF RX13 129 12 88 := ⟨_, "CompiledHouseModel", rfl, by decide, Or.inl q3087, Or.inl rfl⟩
theorem q3088 : (Jvm.Cond.fieldLink "CompiledHouseModel" (132 : Nat) "CompiledHouseModel" "output" "[I") ∈ lw_all := lw_g (lw_at lw_m13 12 rfl) rfl
theorem f_X13_132_12 : xF RX13 132 12 89 := ⟨_, "CompiledHouseModel", rfl, by decide, Or.inl q3088, Or.inl rfl⟩
theorem q3089 : (Jvm.Cond.fieldLink "CompiledHouseModel" (135 : Nat) "CompiledHouseModel" "cell" "[I") ∈ lw_all := lw_g (lw_at lw_m13 13 rfl) rfl
theorem f_X13_135_12 : xF RX13 135 12 90 := ⟨_, "CompiledHouseModel", rfl, by decide, Or.inl q3089, Or.inl rfl⟩
theorem q3090 : (Jvm.Cond.fieldLink "CompiledHouseModel" (138 : Nat) "CompiledHouseModel" "frFunction" "[I") ∈ lw_all := lw_g (lw_at lw_m13 14 rfl) rfl
theorem f_X13_138_12 : xF RX13 138 12 91 := ⟨_, "CompiledHouseModel", rfl, by decide, Or.inl q3090, Or.inl rfl⟩
theorem q3091 : (Jvm.Cond.fieldLink "CompiledHouseModel" (141 : Nat) "CompiledHouseModel" "frBack" "[I") ∈ lw_all := lw_g (lw_at lw_m13 15 rfl) rfl
theorem f_X13_141_12 : xF RX13 141 12 92 := ⟨_, "CompiledHouseModel", rfl, by decide, Or.inl q3091, Or.inl rfl⟩
theorem q3092 : (Jvm.Cond.fieldLink "CompiledHouseModel" (144 : Nat) "CompiledHouseModel" "frBase" "[I") ∈ lw_all := lw_g (lw_at lw_m13 16 rfl) rfl
theorem f_X13_144_12 : xF RX13 144 12 93 := ⟨_, "CompiledHouseModel", rfl, by decide, Or.inl q3092, Or.inl rfl⟩
theorem q3093 : (Jvm.Cond.fieldLink "CompiledHouseModel" (147 : Nat) "CompiledHouseModel" "memory" "[I") ∈ lw_all := lw_g (lw_at lw_m13 17 rfl) rfl
theorem f_X13_147_12 : xF RX13 147 12 94 := ⟨_, "CompiledHouseModel", rfl, by decide, Or.inl q3093, Or.inl rfl⟩
theorem q3094 : (Jvm.Cond.fieldLink "CompiledHouseModel" (150 : Nat) "CompiledHouseModel" "register" "[I") ∈ lw_all := lw_g (lw_at lw_m13 18 rfl) rfl
theorem f_X13_150_12 : xF RX13 150 12 95 := ⟨_, "CompiledHouseModel", rfl, by decide, Or.inl q3094, Or.inl rfl⟩
abbrev cX13_feed : ByteArray := prog_39_method_2_code
def yX13_feed : MethodName := ⟨RX13, "feed", "(IIIII)I"⟩
theorem q3294 : (Jvm.Cond.code ({ cls := "CompiledHouseModel", name := "feed", desc := "(IIIII)I" } : Jvm.MethodName) prog_39_method_2_code (8 : Nat) (Option.some Jvm.ClassFile.FieldType.int)) ∈ lw_all := lw_g (lw_at lw_m13 218 rfl) rfl
def kX13_feed : xK := (yX13_feed, cX13_feed, 8, some .int, [])
theorem me_X13_feed : xMe kX13_feed 5 := ⟨q3294, q216, by decide, by decide, by decide +kernel⟩
theorem q3292 : (Jvm.Cond.instanceMethod ({ cls := "CompiledHouseModel", name := "feed", desc := "(IIIII)I" } : Jvm.MethodName)) ∈ lw_all := lw_g (lw_at lw_m13 216 rfl) rfl
theorem is_X13_feed : Cond.instanceMethod kX13_feed.y ∈ lw_all := q3292
theorem q3293 : (Jvm.Cond.selects "CompiledHouseModel" ({ cls := "CompiledHouseModel", name := "feed", desc := "(IIIII)I" } : Jvm.MethodName) ({ cls := "CompiledHouseModel", name := "feed", desc := "(IIIII)I" } : Jvm.MethodName)) ∈ lw_all := lw_g (lw_at lw_m13 217 rfl) rfl
theorem se_X13_feed : Cond.selects RX13 kX13_feed.y kX13_feed.y ∈ lw_all := q3293
theorem q3001 : (Jvm.Cond.fieldLink "CompiledHouseModel" (153 : Nat) "CompiledHouseModel" "taped" "I") ∈ lw_all := lw_g (lw_at lw_m12 165 rfl) rfl
theorem f_X13_153_12 : xF RX13 153 12 2 := ⟨_, "CompiledHouseModel", rfl, by decide, Or.inl q3001, Or.inl rfl⟩
abbrev cX13_end : ByteArray := prog_39_method_3_code
def yX13_end : MethodName := ⟨RX13, "end", "(I)I"⟩
theorem q3298 : (Jvm.Cond.code ({ cls := "CompiledHouseModel", name := "end", desc := "(I)I" } : Jvm.MethodName) prog_39_method_3_code (2 : Nat) (Option.some Jvm.ClassFile.FieldType.int)) ∈ lw_all := lw_g (lw_at lw_m13 222 rfl) rfl
def kX13_end : xK := (yX13_end, cX13_end, 2, some .int, [])
theorem me_X13_end : xMe kX13_end 1 := ⟨q3298, q216, by decide, by decide, by decide +kernel⟩
theorem q3296 : (Jvm.Cond.instanceMethod ({ cls := "CompiledHouseModel", name := "end", desc := "(I)I" } : Jvm.MethodName)) ∈ lw_all := lw_g (lw_at lw_m13 220 rfl) rfl
theorem is_X13_end : Cond.instanceMethod kX13_end.y ∈ lw_all := q3296
theorem q3297 : (Jvm.Cond.selects "CompiledHouseModel" ({ cls := "CompiledHouseModel", name := "end", desc := "(I)I" } : Jvm.MethodName) ({ cls := "CompiledHouseModel", name := "end", desc := "(I)I" } : Jvm.MethodName)) ∈ lw_all := lw_g (lw_at lw_m13 221 rfl) rfl
theorem se_X13_end : Cond.selects RX13 kX13_end.y kX13_end.y ∈ lw_all := q3297
abbrev cX13_read : ByteArray := prog_39_method_76_code
def yX13_read : MethodName := ⟨RX13, "read", "()I"⟩
theorem q3302 : (Jvm.Cond.code ({ cls := "CompiledHouseModel", name := "read", desc := "()I" } : Jvm.MethodName) prog_39_method_76_code (3 : Nat) (Option.some Jvm.ClassFile.FieldType.int)) ∈ lw_all := lw_g (lw_at lw_m13 226 rfl) rfl
def kX13_read : xK := (yX13_read, cX13_read, 3, some .int, [])
theorem me_X13_read : xMe kX13_read 0 := ⟨q3302, q216, by decide, by decide, by decide +kernel⟩
theorem q3300 : (Jvm.Cond.instanceMethod ({ cls := "CompiledHouseModel", name := "read", desc := "()I" } : Jvm.MethodName)) ∈ lw_all := lw_g (lw_at lw_m13 224 rfl) rfl
theorem is_X13_read : Cond.instanceMethod kX13_read.y ∈ lw_all := q3300
theorem q3301 : (Jvm.Cond.selects "CompiledHouseModel" ({ cls := "CompiledHouseModel", name := "read", desc := "()I" } : Jvm.MethodName) ({ cls := "CompiledHouseModel", name := "read", desc := "()I" } : Jvm.MethodName)) ∈ lw_all := lw_g (lw_at lw_m13 225 rfl) rfl
theorem se_X13_read : Cond.selects RX13 kX13_read.y kX13_read.y ∈ lw_all := q3301
theorem q3002 : (Jvm.Cond.fieldLink "CompiledHouseModel" (157 : Nat) "CompiledHouseModel" "size" "I") ∈ lw_all := lw_g (lw_at lw_m12 166 rfl) rfl
theorem f_X13_157_12 : xF RX13 157 12 3 := ⟨_, "CompiledHouseModel", rfl, by decide, Or.inl q3002, Or.inl rfl⟩
theorem q3072 : (Jvm.Cond.fieldLink "CompiledHouseModel" (509 : Nat) "CompiledHouseModel" "there" "Z") ∈ lw_all := lw_g (lw_at lw_m12 236 rfl) rfl
theorem f_X13_509_12 : xF RX13 509 12 73 := ⟨_, "CompiledHouseModel", rfl, by decide, Or.inl q3072, Or.inl rfl⟩
theorem q3074 : (Jvm.Cond.fieldLink "CompiledHouseModel" (512 : Nat) "CompiledHouseModel" "how" "I") ∈ lw_all := lw_g (lw_at lw_m12 238 rfl) rfl
theorem f_X13_512_12 : xF RX13 512 12 75 := ⟨_, "CompiledHouseModel", rfl, by decide, Or.inl q3074, Or.inl rfl⟩
theorem q3079 : (Jvm.Cond.fieldLink "CompiledHouseModel" (515 : Nat) "CompiledHouseModel" "inputs" "I") ∈ lw_all := lw_g (lw_at lw_m13 3 rfl) rfl
theorem f_X13_515_12 : xF RX13 515 12 80 := ⟨_, "CompiledHouseModel", rfl, by decide, Or.inl q3079, Or.inl rfl⟩
theorem q3078 : (Jvm.Cond.fieldLink "CompiledHouseModel" (518 : Nat) "CompiledHouseModel" "outputs" "I") ∈ lw_all := lw_g (lw_at lw_m13 2 rfl) rfl
theorem f_X13_518_12 : xF RX13 518 12 79 := ⟨_, "CompiledHouseModel", rfl, by decide, Or.inl q3078, Or.inl rfl⟩
theorem q3043 : (Jvm.Cond.fieldLink "CompiledHouseModel" (230 : Nat) "CompiledHouseModel" "fault" "I") ∈ lw_all := lw_g (lw_at lw_m12 207 rfl) rfl
theorem f_X13_230_12 : xF RX13 230 12 44 := ⟨_, "CompiledHouseModel", rfl, by decide, Or.inl q3043, Or.inl rfl⟩
theorem q3046 : (Jvm.Cond.fieldLink "CompiledHouseModel" (248 : Nat) "CompiledHouseModel" "found" "I") ∈ lw_all := lw_g (lw_at lw_m12 210 rfl) rfl
theorem f_X13_248_12 : xF RX13 248 12 47 := ⟨_, "CompiledHouseModel", rfl, by decide, Or.inl q3046, Or.inl rfl⟩
theorem q3053 : (Jvm.Cond.fieldLink "CompiledHouseModel" (365 : Nat) "CompiledHouseModel" "constant" "Z") ∈ lw_all := lw_g (lw_at lw_m12 217 rfl) rfl
theorem f_X13_365_12 : xF RX13 365 12 54 := ⟨_, "CompiledHouseModel", rfl, by decide, Or.inl q3053, Or.inl rfl⟩
theorem q3303 : (Jvm.Cond.methodLink "CompiledHouseModel" (521 : Nat) ({ cls := "CompiledHouseModel", name := "cut", desc := "()V" } : Jvm.MethodName)) ∈ lw_all := lw_g (lw_at lw_m13 227 rfl) rfl
abbrev cX13_cut : ByteArray := prog_39_method_12_code
def yX13_cut : MethodName := ⟨RX13, "cut", "()V"⟩
theorem q3306 : (Jvm.Cond.code ({ cls := "CompiledHouseModel", name := "cut", desc := "()V" } : Jvm.MethodName) prog_39_method_12_code (3 : Nat) (Option.none : Option Jvm.ClassFile.FieldType)) ∈ lw_all := lw_g (lw_at lw_m13 230 rfl) rfl
def kX13_cut : xK := (yX13_cut, cX13_cut, 3, none, [])
theorem me_X13_cut : xMe kX13_cut 0 := ⟨q3306, q216, by decide, by decide, by decide +kernel⟩
theorem q3305 : (Jvm.Cond.instanceMethod ({ cls := "CompiledHouseModel", name := "cut", desc := "()V" } : Jvm.MethodName)) ∈ lw_all := lw_g (lw_at lw_m13 229 rfl) rfl
theorem is_X13_cut : Cond.instanceMethod kX13_cut.y ∈ lw_all := q3305
theorem se_X13_cut : Cond.selects RX13 kX13_cut.y kX13_cut.y ∈ lw_all := qs119
theorem lk_X13_521 : xLk RX13 521 yX13_cut := Or.inl q3303
theorem q3045 : (Jvm.Cond.fieldLink "CompiledHouseModel" (245 : Nat) "CompiledHouseModel" "pass" "I") ∈ lw_all := lw_g (lw_at lw_m12 209 rfl) rfl
theorem f_X13_245_12 : xF RX13 245 12 46 := ⟨_, "CompiledHouseModel", rfl, by decide, Or.inl q3045, Or.inl rfl⟩
theorem q3358 : (Jvm.Cond.methodLink "CompiledHouseModel" (524 : Nat) ({ cls := "CompiledHouseModel", name := "texts", desc := "()Z" } : Jvm.MethodName)) ∈ lw_all := lw_g (lw_at lw_m14 42 rfl) rfl
abbrev cX13_texts : ByteArray := prog_39_method_30_code
def yX13_texts : MethodName := ⟨RX13, "texts", "()Z"⟩
theorem q3361 : (Jvm.Cond.code ({ cls := "CompiledHouseModel", name := "texts", desc := "()Z" } : Jvm.MethodName) prog_39_method_30_code (3 : Nat) (Option.some Jvm.ClassFile.FieldType.boolean)) ∈ lw_all := lw_g (lw_at lw_m14 45 rfl) rfl
def kX13_texts : xK := (yX13_texts, cX13_texts, 3, some .boolean, [])
theorem me_X13_texts : xMe kX13_texts 0 := ⟨q3361, q216, by decide, by decide, by decide +kernel⟩
theorem q3360 : (Jvm.Cond.instanceMethod ({ cls := "CompiledHouseModel", name := "texts", desc := "()Z" } : Jvm.MethodName)) ∈ lw_all := lw_g (lw_at lw_m14 44 rfl) rfl
theorem is_X13_texts : Cond.instanceMethod kX13_texts.y ∈ lw_all := q3360
theorem se_X13_texts : Cond.selects RX13 kX13_texts.y kX13_texts.y ∈ lw_all := qs128
theorem lk_X13_524 : xLk RX13 524 yX13_texts := Or.inl q3358
theorem q3044 : (Jvm.Cond.fieldLink "CompiledHouseModel" (236 : Nat) "CompiledHouseModel" "faultAt" "I") ∈ lw_all := lw_g (lw_at lw_m12 208 rfl) rfl
theorem f_X13_236_12 : xF RX13 236 12 45 := ⟨_, "CompiledHouseModel", rfl, by decide, Or.inl q3044, Or.inl rfl⟩
theorem q3073 : (Jvm.Cond.fieldLink "CompiledHouseModel" (527 : Nat) "CompiledHouseModel" "mainFunction" "I") ∈ lw_all := lw_g (lw_at lw_m12 237 rfl) rfl
theorem f_X13_527_12 : xF RX13 527 12 74 := ⟨_, "CompiledHouseModel", rfl, by decide, Or.inl q3073, Or.inl rfl⟩
theorem q3023 : (Jvm.Cond.fieldLink "CompiledHouseModel" (297 : Nat) "CompiledHouseModel" "functions" "I") ∈ lw_all := lw_g (lw_at lw_m12 187 rfl) rfl
theorem f_X13_297_12 : xF RX13 297 12 24 := ⟨_, "CompiledHouseModel", rfl, by decide, Or.inl q3023, Or.inl rfl⟩
theorem q3311 : (Jvm.Cond.methodLink "CompiledHouseModel" (177 : Nat) ({ cls := "CompiledHouseModel", name := "at", desc := "(I)I" } : Jvm.MethodName)) ∈ lw_all := lw_g (lw_at lw_m13 235 rfl) rfl
abbrev cX13_at : ByteArray := prog_39_method_4_code
def yX13_at : MethodName := ⟨RX13, "at", "(I)I"⟩
theorem q3314 : (Jvm.Cond.code ({ cls := "CompiledHouseModel", name := "at", desc := "(I)I" } : Jvm.MethodName) prog_39_method_4_code (2 : Nat) (Option.some Jvm.ClassFile.FieldType.int)) ∈ lw_all := lw_g (lw_at lw_m13 238 rfl) rfl
def kX13_at : xK := (yX13_at, cX13_at, 2, some .int, [])
theorem me_X13_at : xMe kX13_at 1 := ⟨q3314, q216, by decide, by decide, by decide +kernel⟩
theorem q3313 : (Jvm.Cond.instanceMethod ({ cls := "CompiledHouseModel", name := "at", desc := "(I)I" } : Jvm.MethodName)) ∈ lw_all := lw_g (lw_at lw_m13 237 rfl) rfl
theorem is_X13_at : Cond.instanceMethod kX13_at.y ∈ lw_all := q3313
theorem se_X13_at : Cond.selects RX13 kX13_at.y kX13_at.y ∈ lw_all := qs121
theorem lk_X13_177 : xLk RX13 177 yX13_at := Or.inl q3311
theorem q3426 : (Jvm.Cond.methodLink "CompiledHouseModel" (352 : Nat) ({ cls := "CompiledHouseModel", name := "note", desc := "(II)V" } : Jvm.MethodName)) ∈ lw_all := lw_g (lw_at lw_m14 110 rfl) rfl
abbrev cX13_note : ByteArray := prog_39_method_19_code
def yX13_note : MethodName := ⟨RX13, "note", "(II)V"⟩
theorem q3429 : (Jvm.Cond.code ({ cls := "CompiledHouseModel", name := "note", desc := "(II)V" } : Jvm.MethodName) prog_39_method_19_code (3 : Nat) (Option.none : Option Jvm.ClassFile.FieldType)) ∈ lw_all := lw_g (lw_at lw_m14 113 rfl) rfl
def kX13_note : xK := (yX13_note, cX13_note, 3, none, [])
theorem me_X13_note : xMe kX13_note 2 := ⟨q3429, q216, by decide, by decide, by decide +kernel⟩
theorem q3428 : (Jvm.Cond.instanceMethod ({ cls := "CompiledHouseModel", name := "note", desc := "(II)V" } : Jvm.MethodName)) ∈ lw_all := lw_g (lw_at lw_m14 112 rfl) rfl
theorem is_X13_note : Cond.instanceMethod kX13_note.y ∈ lw_all := q3428
theorem se_X13_note : Cond.selects RX13 kX13_note.y kX13_note.y ∈ lw_all := qs145
theorem lk_X13_352 : xLk RX13 352 yX13_note := Or.inl q3426
theorem q3047 : (Jvm.Cond.fieldLink "CompiledHouseModel" (251 : Nat) "CompiledHouseModel" "foundAt" "I") ∈ lw_all := lw_g (lw_at lw_m12 211 rfl) rfl
theorem f_X13_251_12 : xF RX13 251 12 48 := ⟨_, "CompiledHouseModel", rfl, by decide, Or.inl q3047, Or.inl rfl⟩
theorem q3006 : (Jvm.Cond.fieldLink "CompiledHouseModel" (187 : Nat) "CompiledHouseModel" "tokens" "I") ∈ lw_all := lw_g (lw_at lw_m12 170 rfl) rfl
theorem f_X13_187_12 : xF RX13 187 12 7 := ⟨_, "CompiledHouseModel", rfl, by decide, Or.inl q3006, Or.inl rfl⟩
theorem q3012 : (Jvm.Cond.fieldLink "CompiledHouseModel" (181 : Nat) "CompiledHouseModel" "names" "I") ∈ lw_all := lw_g (lw_at lw_m12 176 rfl) rfl
theorem f_X13_181_12 : xF RX13 181 12 13 := ⟨_, "CompiledHouseModel", rfl, by decide, Or.inl q3012, Or.inl rfl⟩
theorem q3007 : (Jvm.Cond.fieldLink "CompiledHouseModel" (184 : Nat) "CompiledHouseModel" "bad" "I") ∈ lw_all := lw_g (lw_at lw_m12 171 rfl) rfl
theorem f_X13_184_12 : xF RX13 184 12 8 := ⟨_, "CompiledHouseModel", rfl, by decide, Or.inl q3007, Or.inl rfl⟩
theorem q3307 : (Jvm.Cond.methodLink "CompiledHouseModel" (190 : Nat) ({ cls := "CompiledHouseModel", name := "skip", desc := "(I)I" } : Jvm.MethodName)) ∈ lw_all := lw_g (lw_at lw_m13 231 rfl) rfl
abbrev cX13_skip : ByteArray := prog_39_method_11_code
def yX13_skip : MethodName := ⟨RX13, "skip", "(I)I"⟩
theorem q3310 : (Jvm.Cond.code ({ cls := "CompiledHouseModel", name := "skip", desc := "(I)I" } : Jvm.MethodName) prog_39_method_11_code (4 : Nat) (Option.some Jvm.ClassFile.FieldType.int)) ∈ lw_all := lw_g (lw_at lw_m13 234 rfl) rfl
def kX13_skip : xK := (yX13_skip, cX13_skip, 4, some .int, [])
theorem me_X13_skip : xMe kX13_skip 1 := ⟨q3310, q216, by decide, by decide, by decide +kernel⟩
theorem q3309 : (Jvm.Cond.instanceMethod ({ cls := "CompiledHouseModel", name := "skip", desc := "(I)I" } : Jvm.MethodName)) ∈ lw_all := lw_g (lw_at lw_m13 233 rfl) rfl
theorem is_X13_skip : Cond.instanceMethod kX13_skip.y ∈ lw_all := q3309
theorem se_X13_skip : Cond.selects RX13 kX13_skip.y kX13_skip.y ∈ lw_all := qs120
theorem lk_X13_190 : xLk RX13 190 yX13_skip := Or.inl q3307
theorem q3315 : (Jvm.Cond.methodLink "CompiledHouseModel" (193 : Nat) ({ cls := "CompiledHouseModel", name := "tokenAt", desc := "(I)I" } : Jvm.MethodName)) ∈ lw_all := lw_g (lw_at lw_m13 239 rfl) rfl
abbrev cX13_tokenAt : ByteArray := prog_39_method_14_code
def yX13_tokenAt : MethodName := ⟨RX13, "tokenAt", "(I)I"⟩
theorem q3318 : (Jvm.Cond.code ({ cls := "CompiledHouseModel", name := "tokenAt", desc := "(I)I" } : Jvm.MethodName) prog_39_method_14_code (5 : Nat) (Option.some Jvm.ClassFile.FieldType.int)) ∈ lw_all := lw_g (lw_at lw_m14 2 rfl) rfl
def kX13_tokenAt : xK := (yX13_tokenAt, cX13_tokenAt, 5, some .int, [])
theorem me_X13_tokenAt : xMe kX13_tokenAt 1 := ⟨q3318, q216, by decide, by decide, by decide +kernel⟩
theorem q3317 : (Jvm.Cond.instanceMethod ({ cls := "CompiledHouseModel", name := "tokenAt", desc := "(I)I" } : Jvm.MethodName)) ∈ lw_all := lw_g (lw_at lw_m14 1 rfl) rfl
theorem is_X13_tokenAt : Cond.instanceMethod kX13_tokenAt.y ∈ lw_all := q3317
theorem se_X13_tokenAt : Cond.selects RX13 kX13_tokenAt.y kX13_tokenAt.y ∈ lw_all := qs122
theorem lk_X13_193 : xLk RX13 193 yX13_tokenAt := Or.inl q3315
theorem q3319 : (Jvm.Cond.methodLink "CompiledHouseModel" (160 : Nat) ({ cls := "CompiledHouseModel", name := "isLetter", desc := "(I)Z" } : Jvm.MethodName)) ∈ lw_all := lw_g (lw_at lw_m14 3 rfl) rfl
abbrev cX13_isLetter : ByteArray := prog_39_method_5_code
def yX13_isLetter : MethodName := ⟨RX13, "isLetter", "(I)Z"⟩
theorem q3321 : (Jvm.Cond.code ({ cls := "CompiledHouseModel", name := "isLetter", desc := "(I)Z" } : Jvm.MethodName) prog_39_method_5_code (1 : Nat) (Option.some Jvm.ClassFile.FieldType.boolean)) ∈ lw_all := lw_g (lw_at lw_m14 5 rfl) rfl
def kX13_isLetter : xK := (yX13_isLetter, cX13_isLetter, 1, some .boolean, [])
theorem me_X13_isLetter : xMe kX13_isLetter 1 := ⟨q3321, q216, by decide, by decide, by decide +kernel⟩
theorem q3320 : (Jvm.Cond.static ({ cls := "CompiledHouseModel", name := "isLetter", desc := "(I)Z" } : Jvm.MethodName)) ∈ lw_all := lw_g (lw_at lw_m14 4 rfl) rfl
theorem st_X13_isLetter : Cond.static kX13_isLetter.y ∈ lw_all := q3320
theorem lk_X13_160 : xLk RX13 160 yX13_isLetter := Or.inl q3319
theorem q3322 : (Jvm.Cond.methodLink "CompiledHouseModel" (196 : Nat) ({ cls := "CompiledHouseModel", name := "wordToken", desc := "(I)I" } : Jvm.MethodName)) ∈ lw_all := lw_g (lw_at lw_m14 6 rfl) rfl
abbrev cX13_wordToken : ByteArray := prog_39_method_15_code
def yX13_wordToken : MethodName := ⟨RX13, "wordToken", "(I)I"⟩
theorem q3325 : (Jvm.Cond.code ({ cls := "CompiledHouseModel", name := "wordToken", desc := "(I)I" } : Jvm.MethodName) prog_39_method_15_code (4 : Nat) (Option.some Jvm.ClassFile.FieldType.int)) ∈ lw_all := lw_g (lw_at lw_m14 9 rfl) rfl
def kX13_wordToken : xK := (yX13_wordToken, cX13_wordToken, 4, some .int, [])
theorem me_X13_wordToken : xMe kX13_wordToken 1 := ⟨q3325, q216, by decide, by decide, by decide +kernel⟩
theorem q3324 : (Jvm.Cond.instanceMethod ({ cls := "CompiledHouseModel", name := "wordToken", desc := "(I)I" } : Jvm.MethodName)) ∈ lw_all := lw_g (lw_at lw_m14 8 rfl) rfl
theorem is_X13_wordToken : Cond.instanceMethod kX13_wordToken.y ∈ lw_all := q3324
theorem se_X13_wordToken : Cond.selects RX13 kX13_wordToken.y kX13_wordToken.y ∈ lw_all := qs123
theorem lk_X13_196 : xLk RX13 196 yX13_wordToken := Or.inl q3322
theorem q3329 : (Jvm.Cond.methodLink "CompiledHouseModel" (164 : Nat) ({ cls := "CompiledHouseModel", name := "isDigit", desc := "(I)Z" } : Jvm.MethodName)) ∈ lw_all := lw_g (lw_at lw_m14 13 rfl) rfl
abbrev cX13_isDigit : ByteArray := prog_39_method_6_code
def yX13_isDigit : MethodName := ⟨RX13, "isDigit", "(I)Z"⟩
theorem q3331 : (Jvm.Cond.code ({ cls := "CompiledHouseModel", name := "isDigit", desc := "(I)Z" } : Jvm.MethodName) prog_39_method_6_code (1 : Nat) (Option.some Jvm.ClassFile.FieldType.boolean)) ∈ lw_all := lw_g (lw_at lw_m14 15 rfl) rfl
def kX13_isDigit : xK := (yX13_isDigit, cX13_isDigit, 1, some .boolean, [])
theorem me_X13_isDigit : xMe kX13_isDigit 1 := ⟨q3331, q216, by decide, by decide, by decide +kernel⟩
theorem q3330 : (Jvm.Cond.static ({ cls := "CompiledHouseModel", name := "isDigit", desc := "(I)Z" } : Jvm.MethodName)) ∈ lw_all := lw_g (lw_at lw_m14 14 rfl) rfl
theorem st_X13_isDigit : Cond.static kX13_isDigit.y ∈ lw_all := q3330
theorem lk_X13_164 : xLk RX13 164 yX13_isDigit := Or.inl q3329
theorem q3347 : (Jvm.Cond.methodLink "CompiledHouseModel" (199 : Nat) ({ cls := "CompiledHouseModel", name := "numberToken", desc := "(I)I" } : Jvm.MethodName)) ∈ lw_all := lw_g (lw_at lw_m14 31 rfl) rfl
abbrev cX13_numberToken : ByteArray := prog_39_method_16_code
def yX13_numberToken : MethodName := ⟨RX13, "numberToken", "(I)I"⟩
theorem q3350 : (Jvm.Cond.code ({ cls := "CompiledHouseModel", name := "numberToken", desc := "(I)I" } : Jvm.MethodName) prog_39_method_16_code (8 : Nat) (Option.some Jvm.ClassFile.FieldType.int)) ∈ lw_all := lw_g (lw_at lw_m14 34 rfl) rfl
def kX13_numberToken : xK := (yX13_numberToken, cX13_numberToken, 8, some .int, [])
theorem me_X13_numberToken : xMe kX13_numberToken 1 := ⟨q3350, q216, by decide, by decide, by decide +kernel⟩
theorem q3349 : (Jvm.Cond.instanceMethod ({ cls := "CompiledHouseModel", name := "numberToken", desc := "(I)I" } : Jvm.MethodName)) ∈ lw_all := lw_g (lw_at lw_m14 33 rfl) rfl
theorem is_X13_numberToken : Cond.instanceMethod kX13_numberToken.y ∈ lw_all := q3349
theorem se_X13_numberToken : Cond.selects RX13 kX13_numberToken.y kX13_numberToken.y ∈ lw_all := qs127
theorem lk_X13_199 : xLk RX13 199 yX13_numberToken := Or.inl q3347
theorem q3333 : (Jvm.Cond.methodLink "CompiledHouseModel" (204 : Nat) ({ cls := "CompiledHouseModel", name := "placeIn", desc := "(Ljava/lang/String;II)I" } : Jvm.MethodName)) ∈ lw_all := lw_g (lw_at lw_m14 17 rfl) rfl
abbrev cX13_placeIn : ByteArray := prog_39_method_9_code
def yX13_placeIn : MethodName := ⟨RX13, "placeIn", "(Ljava/lang/String;II)I"⟩
theorem q3336 : (Jvm.Cond.code ({ cls := "CompiledHouseModel", name := "placeIn", desc := "(Ljava/lang/String;II)I" } : Jvm.MethodName) prog_39_method_9_code (7 : Nat) (Option.some Jvm.ClassFile.FieldType.int)) ∈ lw_all := lw_g (lw_at lw_m14 20 rfl) rfl
def kX13_placeIn : xK := (yX13_placeIn, cX13_placeIn, 7, some .int, [])
theorem me_X13_placeIn : xMe kX13_placeIn 3 := ⟨q3336, q216, by decide, by decide, by decide +kernel⟩
theorem q3335 : (Jvm.Cond.instanceMethod ({ cls := "CompiledHouseModel", name := "placeIn", desc := "(Ljava/lang/String;II)I" } : Jvm.MethodName)) ∈ lw_all := lw_g (lw_at lw_m14 19 rfl) rfl
theorem is_X13_placeIn : Cond.instanceMethod kX13_placeIn.y ∈ lw_all := q3335
theorem se_X13_placeIn : Cond.selects RX13 kX13_placeIn.y kX13_placeIn.y ∈ lw_all := qs124
theorem lk_X13_204 : xLk RX13 204 yX13_placeIn := Or.inl q3333
theorem q3343 : (Jvm.Cond.methodLink "CompiledHouseModel" (208 : Nat) ({ cls := "CompiledHouseModel", name := "token", desc := "(III)V" } : Jvm.MethodName)) ∈ lw_all := lw_g (lw_at lw_m14 27 rfl) rfl
abbrev cX13_token : ByteArray := prog_39_method_13_code
def yX13_token : MethodName := ⟨RX13, "token", "(III)V"⟩
theorem q3346 : (Jvm.Cond.code ({ cls := "CompiledHouseModel", name := "token", desc := "(III)V" } : Jvm.MethodName) prog_39_method_13_code (4 : Nat) (Option.none : Option Jvm.ClassFile.FieldType)) ∈ lw_all := lw_g (lw_at lw_m14 30 rfl) rfl
def kX13_token : xK := (yX13_token, cX13_token, 4, none, [])
theorem me_X13_token : xMe kX13_token 3 := ⟨q3346, q216, by decide, by decide, by decide +kernel⟩
theorem q3345 : (Jvm.Cond.instanceMethod ({ cls := "CompiledHouseModel", name := "token", desc := "(III)V" } : Jvm.MethodName)) ∈ lw_all := lw_g (lw_at lw_m14 29 rfl) rfl
theorem is_X13_token : Cond.instanceMethod kX13_token.y ∈ lw_all := q3345
theorem se_X13_token : Cond.selects RX13 kX13_token.y kX13_token.y ∈ lw_all := qs126
theorem lk_X13_208 : xLk RX13 208 yX13_token := Or.inl q3343
theorem q3326 : (Jvm.Cond.methodLink "CompiledHouseModel" (212 : Nat) ({ cls := "CompiledHouseModel", name := "isInner", desc := "(I)Z" } : Jvm.MethodName)) ∈ lw_all := lw_g (lw_at lw_m14 10 rfl) rfl
abbrev cX13_isInner : ByteArray := prog_39_method_7_code
def yX13_isInner : MethodName := ⟨RX13, "isInner", "(I)Z"⟩
theorem q3328 : (Jvm.Cond.code ({ cls := "CompiledHouseModel", name := "isInner", desc := "(I)Z" } : Jvm.MethodName) prog_39_method_7_code (1 : Nat) (Option.some Jvm.ClassFile.FieldType.boolean)) ∈ lw_all := lw_g (lw_at lw_m14 12 rfl) rfl
def kX13_isInner : xK := (yX13_isInner, cX13_isInner, 1, some .boolean, [])
theorem me_X13_isInner : xMe kX13_isInner 1 := ⟨q3328, q216, by decide, by decide, by decide +kernel⟩
theorem q3327 : (Jvm.Cond.static ({ cls := "CompiledHouseModel", name := "isInner", desc := "(I)Z" } : Jvm.MethodName)) ∈ lw_all := lw_g (lw_at lw_m14 11 rfl) rfl
theorem st_X13_isInner : Cond.static kX13_isInner.y ∈ lw_all := q3327
theorem lk_X13_212 : xLk RX13 212 yX13_isInner := Or.inl q3326
theorem q3339 : (Jvm.Cond.methodLink "CompiledHouseModel" (217 : Nat) ({ cls := "CompiledHouseModel", name := "nameOf", desc := "(II)I" } : Jvm.MethodName)) ∈ lw_all := lw_g (lw_at lw_m14 23 rfl) rfl
abbrev cX13_nameOf : ByteArray := prog_39_method_10_code
def yX13_nameOf : MethodName := ⟨RX13, "nameOf", "(II)I"⟩
theorem q3342 : (Jvm.Cond.code ({ cls := "CompiledHouseModel", name := "nameOf", desc := "(II)I" } : Jvm.MethodName) prog_39_method_10_code (7 : Nat) (Option.some Jvm.ClassFile.FieldType.int)) ∈ lw_all := lw_g (lw_at lw_m14 26 rfl) rfl
def kX13_nameOf : xK := (yX13_nameOf, cX13_nameOf, 7, some .int, [])
theorem me_X13_nameOf : xMe kX13_nameOf 2 := ⟨q3342, q216, by decide, by decide, by decide +kernel⟩
theorem q3341 : (Jvm.Cond.instanceMethod ({ cls := "CompiledHouseModel", name := "nameOf", desc := "(II)I" } : Jvm.MethodName)) ∈ lw_all := lw_g (lw_at lw_m14 25 rfl) rfl
theorem is_X13_nameOf : Cond.instanceMethod kX13_nameOf.y ∈ lw_all := q3341
theorem se_X13_nameOf : Cond.selects RX13 kX13_nameOf.y kX13_nameOf.y ∈ lw_all := qs125
theorem lk_X13_217 : xLk RX13 217 yX13_nameOf := Or.inl q3339
theorem q3337 : (Jvm.Cond.methodLink "CompiledHouseModel" (167 : Nat) ({ cls := "java/lang/String", name := "length", desc := "()I" } : Jvm.MethodName)) ∈ lw_all := lw_g (lw_at lw_m14 21 rfl) rfl
abbrev cJ6_length : ByteArray := prog_51_method_54_code
def yJ6_length : MethodName := ⟨RJ6, "length", "()I"⟩
theorem q1009 : (Jvm.Cond.code ({ cls := "java/lang/String", name := "length", desc := "()I" } : Jvm.MethodName) prog_51_method_54_code (1 : Nat) (Option.some Jvm.ClassFile.FieldType.int)) ∈ lw_all := lw_g (lw_at lw_m4 93 rfl) rfl
theorem q217 : (Jvm.Cond.initialized "java/lang/String") ∈ lw_all := lw_g (lw_at lw_m1 21 rfl) rfl
def kJ6_length : xK := (yJ6_length, cJ6_length, 1, some .int, [])
theorem me_J6_length : xMe kJ6_length 0 := ⟨q1009, q217, by decide, by decide, by decide +kernel⟩
theorem q1007 : (Jvm.Cond.instanceMethod ({ cls := "java/lang/String", name := "length", desc := "()I" } : Jvm.MethodName)) ∈ lw_all := lw_g (lw_at lw_m4 91 rfl) rfl
theorem is_J6_length : Cond.instanceMethod kJ6_length.y ∈ lw_all := q1007
theorem q1008 : (Jvm.Cond.selects "java/lang/String" ({ cls := "java/lang/String", name := "length", desc := "()I" } : Jvm.MethodName) ({ cls := "java/lang/String", name := "length", desc := "()I" } : Jvm.MethodName)) ∈ lw_all := lw_g (lw_at lw_m4 92 rfl) rfl
theorem se_J6_length : Cond.selects RJ6 kJ6_length.y kJ6_length.y ∈ lw_all := q1008
theorem lk_X13_167 : xLk RX13 167 yJ6_length := Or.inl q3337
theorem q3338 : (Jvm.Cond.methodLink "CompiledHouseModel" (173 : Nat) ({ cls := "java/lang/String", name := "charAt", desc := "(I)C" } : Jvm.MethodName)) ∈ lw_all := lw_g (lw_at lw_m14 22 rfl) rfl
abbrev cJ6_charAt : ByteArray := prog_51_method_56_code
def yJ6_charAt : MethodName := ⟨RJ6, "charAt", "(I)C"⟩
theorem q1019 : (Jvm.Cond.code ({ cls := "java/lang/String", name := "charAt", desc := "(I)C" } : Jvm.MethodName) prog_51_method_56_code (2 : Nat) (Option.some Jvm.ClassFile.FieldType.char)) ∈ lw_all := lw_g (lw_at lw_m4 103 rfl) rfl
def kJ6_charAt : xK := (yJ6_charAt, cJ6_charAt, 2, some .char, [])
theorem me_J6_charAt : xMe kJ6_charAt 1 := ⟨q1019, q217, by decide, by decide, by decide +kernel⟩
theorem q1017 : (Jvm.Cond.instanceMethod ({ cls := "java/lang/String", name := "charAt", desc := "(I)C" } : Jvm.MethodName)) ∈ lw_all := lw_g (lw_at lw_m4 101 rfl) rfl
theorem is_J6_charAt : Cond.instanceMethod kJ6_charAt.y ∈ lw_all := q1017
theorem q1018 : (Jvm.Cond.selects "java/lang/String" ({ cls := "java/lang/String", name := "charAt", desc := "(I)C" } : Jvm.MethodName) ({ cls := "java/lang/String", name := "charAt", desc := "(I)C" } : Jvm.MethodName)) ∈ lw_all := lw_g (lw_at lw_m4 102 rfl) rfl
theorem se_J6_charAt : Cond.selects RJ6 kJ6_charAt.y kJ6_charAt.y ∈ lw_all := q1018
theorem lk_X13_173 : xLk RX13 173 yJ6_charAt := Or.inl q3338
theorem dX13_init_0 : decode cX13_init 0 = .ok (.aload_n 0, 1) := by decide +kernel
theorem dX13_init_1 : decode cX13_init 1 = .ok (.invokespecial 1, 3) := by decide +kernel
theorem dX13_init_4 : decode cX13_init 4 = .ok (.aload_n 0, 1) := by decide +kernel
theorem dX13_init_5 : decode cX13_init 5 = .ok (.sipush 4000, 3) := by decide +kernel
theorem dX13_init_8 : decode cX13_init 8 = .ok (.newarray .int, 2) := by decide +kernel
theorem dX13_init_10 : decode cX13_init 10 = .ok (.putfield 9, 3) := by decide +kernel
theorem dX13_init_13 : decode cX13_init 13 = .ok (.aload_n 0, 1) := by decide +kernel
theorem dX13_init_14 : decode cX13_init 14 = .ok (.sipush 4000, 3) := by decide +kernel
theorem dX13_init_17 : decode cX13_init 17 = .ok (.newarray .int, 2) := by decide +kernel
theorem dX13_init_19 : decode cX13_init 19 = .ok (.putfield 13, 3) := by decide +kernel
theorem dX13_init_22 : decode cX13_init 22 = .ok (.aload_n 0, 1) := by decide +kernel
theorem dX13_init_23 : decode cX13_init 23 = .ok (.sipush 4002, 3) := by decide +kernel
theorem dX13_init_26 : decode cX13_init 26 = .ok (.newarray .int, 2) := by decide +kernel
theorem dX13_init_28 : decode cX13_init 28 = .ok (.putfield 16, 3) := by decide +kernel
theorem dX13_init_31 : decode cX13_init 31 = .ok (.aload_n 0, 1) := by decide +kernel
theorem dX13_init_32 : decode cX13_init 32 = .ok (.sipush 4002, 3) := by decide +kernel
theorem dX13_init_35 : decode cX13_init 35 = .ok (.newarray .int, 2) := by decide +kernel
theorem dX13_init_37 : decode cX13_init 37 = .ok (.putfield 19, 3) := by decide +kernel
theorem dX13_init_40 : decode cX13_init 40 = .ok (.aload_n 0, 1) := by decide +kernel
theorem dX13_init_41 : decode cX13_init 41 = .ok (.sipush 4002, 3) := by decide +kernel
theorem dX13_init_44 : decode cX13_init 44 = .ok (.newarray .int, 2) := by decide +kernel
theorem dX13_init_46 : decode cX13_init 46 = .ok (.putfield 22, 3) := by decide +kernel
theorem dX13_init_49 : decode cX13_init 49 = .ok (.aload_n 0, 1) := by decide +kernel
theorem dX13_init_50 : decode cX13_init 50 = .ok (.sipush 2100, 3) := by decide +kernel
theorem dX13_init_53 : decode cX13_init 53 = .ok (.newarray .int, 2) := by decide +kernel
theorem dX13_init_55 : decode cX13_init 55 = .ok (.putfield 25, 3) := by decide +kernel
theorem dX13_init_58 : decode cX13_init 58 = .ok (.aload_n 0, 1) := by decide +kernel
theorem dX13_init_59 : decode cX13_init 59 = .ok (.sipush 2100, 3) := by decide +kernel
theorem dX13_init_62 : decode cX13_init 62 = .ok (.newarray .int, 2) := by decide +kernel
theorem dX13_init_64 : decode cX13_init 64 = .ok (.putfield 28, 3) := by decide +kernel
theorem dX13_init_67 : decode cX13_init 67 = .ok (.aload_n 0, 1) := by decide +kernel
theorem dX13_init_68 : decode cX13_init 68 = .ok (.sipush 2100, 3) := by decide +kernel
theorem dX13_init_71 : decode cX13_init 71 = .ok (.newarray .int, 2) := by decide +kernel
theorem dX13_init_73 : decode cX13_init 73 = .ok (.putfield 31, 3) := by decide +kernel
theorem dX13_init_76 : decode cX13_init 76 = .ok (.aload_n 0, 1) := by decide +kernel
theorem dX13_init_77 : decode cX13_init 77 = .ok (.bipush 64, 2) := by decide +kernel
theorem dX13_init_79 : decode cX13_init 79 = .ok (.newarray .int, 2) := by decide +kernel
theorem dX13_init_81 : decode cX13_init 81 = .ok (.putfield 34, 3) := by decide +kernel
theorem dX13_init_84 : decode cX13_init 84 = .ok (.aload_n 0, 1) := by decide +kernel
theorem dX13_init_85 : decode cX13_init 85 = .ok (.sipush 900, 3) := by decide +kernel
theorem dX13_init_88 : decode cX13_init 88 = .ok (.newarray .int, 2) := by decide +kernel
theorem dX13_init_90 : decode cX13_init 90 = .ok (.putfield 37, 3) := by decide +kernel
theorem dX13_init_93 : decode cX13_init 93 = .ok (.aload_n 0, 1) := by decide +kernel
theorem dX13_init_94 : decode cX13_init 94 = .ok (.sipush 900, 3) := by decide +kernel
theorem dX13_init_97 : decode cX13_init 97 = .ok (.newarray .int, 2) := by decide +kernel
theorem dX13_init_99 : decode cX13_init 99 = .ok (.putfield 40, 3) := by decide +kernel
theorem dX13_init_102 : decode cX13_init 102 = .ok (.aload_n 0, 1) := by decide +kernel
theorem dX13_init_103 : decode cX13_init 103 = .ok (.sipush 900, 3) := by decide +kernel
theorem dX13_init_106 : decode cX13_init 106 = .ok (.newarray .int, 2) := by decide +kernel
theorem dX13_init_108 : decode cX13_init 108 = .ok (.putfield 43, 3) := by decide +kernel
theorem dX13_init_111 : decode cX13_init 111 = .ok (.aload_n 0, 1) := by decide +kernel
theorem dX13_init_112 : decode cX13_init 112 = .ok (.sipush 900, 3) := by decide +kernel
theorem dX13_init_115 : decode cX13_init 115 = .ok (.newarray .int, 2) := by decide +kernel
theorem dX13_init_117 : decode cX13_init 117 = .ok (.putfield 46, 3) := by decide +kernel
theorem dX13_init_120 : decode cX13_init 120 = .ok (.aload_n 0, 1) := by decide +kernel
theorem dX13_init_121 : decode cX13_init 121 = .ok (.sipush 900, 3) := by decide +kernel
theorem dX13_init_124 : decode cX13_init 124 = .ok (.newarray .int, 2) := by decide +kernel
theorem dX13_init_126 : decode cX13_init 126 = .ok (.putfield 49, 3) := by decide +kernel
theorem dX13_init_129 : decode cX13_init 129 = .ok (.aload_n 0, 1) := by decide +kernel
theorem dX13_init_130 : decode cX13_init 130 = .ok (.sipush 900, 3) := by decide +kernel
theorem dX13_init_133 : decode cX13_init 133 = .ok (.newarray .int, 2) := by decide +kernel
theorem dX13_init_135 : decode cX13_init 135 = .ok (.putfield 52, 3) := by decide +kernel
theorem dX13_init_138 : decode cX13_init 138 = .ok (.aload_n 0, 1) := by decide +kernel
theorem dX13_init_139 : decode cX13_init 139 = .ok (.sipush 900, 3) := by decide +kernel
theorem dX13_init_142 : decode cX13_init 142 = .ok (.newarray .boolean, 2) := by decide +kernel
theorem dX13_init_144 : decode cX13_init 144 = .ok (.putfield 55, 3) := by decide +kernel
theorem dX13_init_147 : decode cX13_init 147 = .ok (.aload_n 0, 1) := by decide +kernel
theorem dX13_init_148 : decode cX13_init 148 = .ok (.sipush 900, 3) := by decide +kernel
theorem dX13_init_151 : decode cX13_init 151 = .ok (.newarray .boolean, 2) := by decide +kernel
theorem dX13_init_153 : decode cX13_init 153 = .ok (.putfield 59, 3) := by decide +kernel
theorem dX13_init_156 : decode cX13_init 156 = .ok (.aload_n 0, 1) := by decide +kernel
theorem dX13_init_157 : decode cX13_init 157 = .ok (.sipush 500, 3) := by decide +kernel
theorem dX13_init_160 : decode cX13_init 160 = .ok (.newarray .int, 2) := by decide +kernel
theorem dX13_init_162 : decode cX13_init 162 = .ok (.putfield 62, 3) := by decide +kernel
theorem dX13_init_165 : decode cX13_init 165 = .ok (.aload_n 0, 1) := by decide +kernel
theorem dX13_init_166 : decode cX13_init 166 = .ok (.sipush 500, 3) := by decide +kernel
theorem dX13_init_169 : decode cX13_init 169 = .ok (.newarray .int, 2) := by decide +kernel
theorem dX13_init_171 : decode cX13_init 171 = .ok (.putfield 65, 3) := by decide +kernel
theorem dX13_init_174 : decode cX13_init 174 = .ok (.aload_n 0, 1) := by decide +kernel
theorem dX13_init_175 : decode cX13_init 175 = .ok (.sipush 500, 3) := by decide +kernel
theorem dX13_init_178 : decode cX13_init 178 = .ok (.newarray .int, 2) := by decide +kernel
theorem dX13_init_180 : decode cX13_init 180 = .ok (.putfield 68, 3) := by decide +kernel
theorem dX13_init_183 : decode cX13_init 183 = .ok (.aload_n 0, 1) := by decide +kernel
theorem dX13_init_184 : decode cX13_init 184 = .ok (.sipush 500, 3) := by decide +kernel
theorem dX13_init_187 : decode cX13_init 187 = .ok (.newarray .int, 2) := by decide +kernel
theorem dX13_init_189 : decode cX13_init 189 = .ok (.putfield 71, 3) := by decide +kernel
theorem dX13_init_192 : decode cX13_init 192 = .ok (.aload_n 0, 1) := by decide +kernel
theorem dX13_init_193 : decode cX13_init 193 = .ok (.sipush 500, 3) := by decide +kernel
theorem dX13_init_196 : decode cX13_init 196 = .ok (.newarray .int, 2) := by decide +kernel
theorem dX13_init_198 : decode cX13_init 198 = .ok (.putfield 74, 3) := by decide +kernel
theorem dX13_init_201 : decode cX13_init 201 = .ok (.aload_n 0, 1) := by decide +kernel
theorem dX13_init_202 : decode cX13_init 202 = .ok (.sipush 500, 3) := by decide +kernel
theorem dX13_init_205 : decode cX13_init 205 = .ok (.newarray .int, 2) := by decide +kernel
theorem dX13_init_207 : decode cX13_init 207 = .ok (.putfield 77, 3) := by decide +kernel
theorem dX13_init_210 : decode cX13_init 210 = .ok (.aload_n 0, 1) := by decide +kernel
theorem dX13_init_211 : decode cX13_init 211 = .ok (.sipush 500, 3) := by decide +kernel
theorem dX13_init_214 : decode cX13_init 214 = .ok (.newarray .int, 2) := by decide +kernel
theorem dX13_init_216 : decode cX13_init 216 = .ok (.putfield 80, 3) := by decide +kernel
theorem dX13_init_219 : decode cX13_init 219 = .ok (.aload_n 0, 1) := by decide +kernel
theorem dX13_init_220 : decode cX13_init 220 = .ok (.sipush 500, 3) := by decide +kernel
theorem dX13_init_223 : decode cX13_init 223 = .ok (.newarray .int, 2) := by decide +kernel
theorem dX13_init_225 : decode cX13_init 225 = .ok (.putfield 83, 3) := by decide +kernel
theorem dX13_init_228 : decode cX13_init 228 = .ok (.aload_n 0, 1) := by decide +kernel
theorem dX13_init_229 : decode cX13_init 229 = .ok (.sipush 500, 3) := by decide +kernel
theorem dX13_init_232 : decode cX13_init 232 = .ok (.newarray .boolean, 2) := by decide +kernel
theorem dX13_init_234 : decode cX13_init 234 = .ok (.putfield 86, 3) := by decide +kernel
theorem dX13_init_237 : decode cX13_init 237 = .ok (.aload_n 0, 1) := by decide +kernel
theorem dX13_init_238 : decode cX13_init 238 = .ok (.sipush 900, 3) := by decide +kernel
theorem dX13_init_241 : decode cX13_init 241 = .ok (.newarray .int, 2) := by decide +kernel
theorem dX13_init_243 : decode cX13_init 243 = .ok (.putfield 89, 3) := by decide +kernel
theorem dX13_init_246 : decode cX13_init 246 = .ok (.aload_n 0, 1) := by decide +kernel
theorem dX13_init_247 : decode cX13_init 247 = .ok (.sipush 2001, 3) := by decide +kernel
theorem dX13_init_250 : decode cX13_init 250 = .ok (.newarray .int, 2) := by decide +kernel
theorem dX13_init_252 : decode cX13_init 252 = .ok (.putfield 92, 3) := by decide +kernel
theorem dX13_init_255 : decode cX13_init 255 = .ok (.aload_n 0, 1) := by decide +kernel
theorem dX13_init_256 : decode cX13_init 256 = .ok (.sipush 2001, 3) := by decide +kernel
theorem dX13_init_259 : decode cX13_init 259 = .ok (.newarray .int, 2) := by decide +kernel
theorem dX13_init_261 : decode cX13_init 261 = .ok (.putfield 95, 3) := by decide +kernel
theorem dX13_init_264 : decode cX13_init 264 = .ok (.aload_n 0, 1) := by decide +kernel
theorem dX13_init_265 : decode cX13_init 265 = .ok (.sipush 2001, 3) := by decide +kernel
theorem dX13_init_268 : decode cX13_init 268 = .ok (.newarray .boolean, 2) := by decide +kernel
theorem dX13_init_270 : decode cX13_init 270 = .ok (.putfield 98, 3) := by decide +kernel
theorem dX13_init_273 : decode cX13_init 273 = .ok (.aload_n 0, 1) := by decide +kernel
theorem dX13_init_274 : decode cX13_init 274 = .ok (.sipush 8008, 3) := by decide +kernel
theorem dX13_init_277 : decode cX13_init 277 = .ok (.newarray .int, 2) := by decide +kernel
theorem dX13_init_279 : decode cX13_init 279 = .ok (.putfield 101, 3) := by decide +kernel
theorem dX13_init_282 : decode cX13_init 282 = .ok (.aload_n 0, 1) := by decide +kernel
theorem dX13_init_283 : decode cX13_init 283 = .ok (.sipush 9000, 3) := by decide +kernel
theorem dX13_init_286 : decode cX13_init 286 = .ok (.newarray .int, 2) := by decide +kernel
theorem dX13_init_288 : decode cX13_init 288 = .ok (.putfield 104, 3) := by decide +kernel
theorem dX13_init_291 : decode cX13_init 291 = .ok (.aload_n 0, 1) := by decide +kernel
theorem dX13_init_292 : decode cX13_init 292 = .ok (.sipush 9000, 3) := by decide +kernel
theorem dX13_init_295 : decode cX13_init 295 = .ok (.newarray .int, 2) := by decide +kernel
theorem dX13_init_297 : decode cX13_init 297 = .ok (.putfield 107, 3) := by decide +kernel
theorem dX13_init_300 : decode cX13_init 300 = .ok (.aload_n 0, 1) := by decide +kernel
theorem dX13_init_301 : decode cX13_init 301 = .ok (.sipush 9000, 3) := by decide +kernel
theorem dX13_init_304 : decode cX13_init 304 = .ok (.newarray .int, 2) := by decide +kernel
theorem dX13_init_306 : decode cX13_init 306 = .ok (.putfield 110, 3) := by decide +kernel
theorem dX13_init_309 : decode cX13_init 309 = .ok (.aload_n 0, 1) := by decide +kernel
theorem dX13_init_310 : decode cX13_init 310 = .ok (.sipush 9000, 3) := by decide +kernel
theorem dX13_init_313 : decode cX13_init 313 = .ok (.newarray .int, 2) := by decide +kernel
theorem dX13_init_315 : decode cX13_init 315 = .ok (.putfield 113, 3) := by decide +kernel
theorem dX13_init_318 : decode cX13_init 318 = .ok (.aload_n 0, 1) := by decide +kernel
theorem dX13_init_319 : decode cX13_init 319 = .ok (.sipush 600, 3) := by decide +kernel
theorem dX13_init_322 : decode cX13_init 322 = .ok (.newarray .int, 2) := by decide +kernel
theorem dX13_init_324 : decode cX13_init 324 = .ok (.putfield 116, 3) := by decide +kernel
theorem dX13_init_327 : decode cX13_init 327 = .ok (.aload_n 0, 1) := by decide +kernel
theorem dX13_init_328 : decode cX13_init 328 = .ok (.sipush 600, 3) := by decide +kernel
theorem dX13_init_331 : decode cX13_init 331 = .ok (.newarray .int, 2) := by decide +kernel
theorem dX13_init_333 : decode cX13_init 333 = .ok (.putfield 119, 3) := by decide +kernel
theorem dX13_init_336 : decode cX13_init 336 = .ok (.aload_n 0, 1) := by decide +kernel
theorem dX13_init_337 : decode cX13_init 337 = .ok (.sipush 600, 3) := by decide +kernel
theorem dX13_init_340 : decode cX13_init 340 = .ok (.newarray .int, 2) := by decide +kernel
theorem dX13_init_342 : decode cX13_init 342 = .ok (.putfield 122, 3) := by decide +kernel
theorem dX13_init_345 : decode cX13_init 345 = .ok (.aload_n 0, 1) := by decide +kernel
theorem dX13_init_346 : decode cX13_init 346 = .ok (.ldc 125, 2) := by decide +kernel
theorem dX13_init_348 : decode cX13_init 348 = .ok (.newarray .int, 2) := by decide +kernel
theorem dX13_init_350 : decode cX13_init 350 = .ok (.putfield 126, 3) := by decide +kernel
theorem dX13_init_353 : decode cX13_init 353 = .ok (.aload_n 0, 1) := by decide +kernel
theorem dX13_init_354 : decode cX13_init 354 = .ok (.sipush 500, 3) := by decide +kernel
theorem dX13_init_357 : decode cX13_init 357 = .ok (.newarray .int, 2) := by decide +kernel
theorem dX13_init_359 : decode cX13_init 359 = .ok (.putfield 129, 3) := by decide +kernel
theorem dX13_init_362 : decode cX13_init 362 = .ok (.aload_n 0, 1) := by decide +kernel
theorem dX13_init_363 : decode cX13_init 363 = .ok (.sipush 2000, 3) := by decide +kernel
theorem dX13_init_366 : decode cX13_init 366 = .ok (.newarray .int, 2) := by decide +kernel
theorem dX13_init_368 : decode cX13_init 368 = .ok (.putfield 132, 3) := by decide +kernel
theorem dX13_init_371 : decode cX13_init 371 = .ok (.aload_n 0, 1) := by decide +kernel
theorem dX13_init_372 : decode cX13_init 372 = .ok (.sipush 20000, 3) := by decide +kernel
theorem dX13_init_375 : decode cX13_init 375 = .ok (.newarray .int, 2) := by decide +kernel
theorem dX13_init_377 : decode cX13_init 377 = .ok (.putfield 135, 3) := by decide +kernel
theorem dX13_init_380 : decode cX13_init 380 = .ok (.aload_n 0, 1) := by decide +kernel
theorem dX13_init_381 : decode cX13_init 381 = .ok (.sipush 520, 3) := by decide +kernel
theorem dX13_init_384 : decode cX13_init 384 = .ok (.newarray .int, 2) := by decide +kernel
theorem dX13_init_386 : decode cX13_init 386 = .ok (.putfield 138, 3) := by decide +kernel
theorem dX13_init_389 : decode cX13_init 389 = .ok (.aload_n 0, 1) := by decide +kernel
theorem dX13_init_390 : decode cX13_init 390 = .ok (.sipush 520, 3) := by decide +kernel
theorem dX13_init_393 : decode cX13_init 393 = .ok (.newarray .int, 2) := by decide +kernel
theorem dX13_init_395 : decode cX13_init 395 = .ok (.putfield 141, 3) := by decide +kernel
theorem dX13_init_398 : decode cX13_init 398 = .ok (.aload_n 0, 1) := by decide +kernel
theorem dX13_init_399 : decode cX13_init 399 = .ok (.sipush 520, 3) := by decide +kernel
theorem dX13_init_402 : decode cX13_init 402 = .ok (.newarray .int, 2) := by decide +kernel
theorem dX13_init_404 : decode cX13_init 404 = .ok (.putfield 144, 3) := by decide +kernel
theorem dX13_init_407 : decode cX13_init 407 = .ok (.aload_n 0, 1) := by decide +kernel
theorem dX13_init_408 : decode cX13_init 408 = .ok (.sipush 4096, 3) := by decide +kernel
theorem dX13_init_411 : decode cX13_init 411 = .ok (.newarray .int, 2) := by decide +kernel
theorem dX13_init_413 : decode cX13_init 413 = .ok (.putfield 147, 3) := by decide +kernel
theorem dX13_init_416 : decode cX13_init 416 = .ok (.aload_n 0, 1) := by decide +kernel
theorem dX13_init_417 : decode cX13_init 417 = .ok (.bipush 33, 2) := by decide +kernel
theorem dX13_init_419 : decode cX13_init 419 = .ok (.newarray .int, 2) := by decide +kernel
theorem dX13_init_421 : decode cX13_init 421 = .ok (.putfield 150, 3) := by decide +kernel
theorem dX13_init_424 : decode cX13_init 424 = .ok (.return_, 1) := by decide +kernel
theorem dX13_feed_0 : decode cX13_feed 0 = .ok (.aload_n 0, 1) := by decide +kernel
theorem dX13_feed_1 : decode cX13_feed 1 = .ok (.getfield 153, 3) := by decide +kernel
theorem dX13_feed_4 : decode cX13_feed 4 = .ok (.bipush 20, 2) := by decide +kernel
theorem dX13_feed_6 : decode cX13_feed 6 = .ok (.iadd, 1) := by decide +kernel
theorem dX13_feed_7 : decode cX13_feed 7 = .ok (.sipush 4000, 3) := by decide +kernel
theorem dX13_feed_10 : decode cX13_feed 10 = .ok (.if_icmp .le 5, 3) := by decide +kernel
theorem dX13_feed_13 : decode cX13_feed 13 = .ok (.iconst (-1), 1) := by decide +kernel
theorem dX13_feed_14 : decode cX13_feed 14 = .ok (.ireturn, 1) := by decide +kernel
theorem dX13_feed_15 : decode cX13_feed 15 = .ok (.iconst 0, 1) := by decide +kernel
theorem dX13_feed_16 : decode cX13_feed 16 = .ok (.istore 6, 2) := by decide +kernel
theorem dX13_feed_18 : decode cX13_feed 18 = .ok (.iload 6, 2) := by decide +kernel
theorem dX13_feed_20 : decode cX13_feed 20 = .ok (.bipush 20, 2) := by decide +kernel
theorem dX13_feed_22 : decode cX13_feed 22 = .ok (.if_icmp .ge 86, 3) := by decide +kernel
theorem dX13_feed_25 : decode cX13_feed 25 = .ok (.iload 6, 2) := by decide +kernel
theorem dX13_feed_27 : decode cX13_feed 27 = .ok (.iconst 4, 1) := by decide +kernel
theorem dX13_feed_28 : decode cX13_feed 28 = .ok (.if_icmp .ge 7, 3) := by decide +kernel
theorem dX13_feed_31 : decode cX13_feed 31 = .ok (.iload_n 1, 1) := by decide +kernel
theorem dX13_feed_32 : decode cX13_feed 32 = .ok (.goto 39, 3) := by decide +kernel
theorem dX13_feed_35 : decode cX13_feed 35 = .ok (.iload 6, 2) := by decide +kernel
theorem dX13_feed_37 : decode cX13_feed 37 = .ok (.bipush 8, 2) := by decide +kernel
theorem dX13_feed_39 : decode cX13_feed 39 = .ok (.if_icmp .ge 7, 3) := by decide +kernel
theorem dX13_feed_42 : decode cX13_feed 42 = .ok (.iload_n 2, 1) := by decide +kernel
theorem dX13_feed_43 : decode cX13_feed 43 = .ok (.goto 28, 3) := by decide +kernel
theorem dX13_feed_46 : decode cX13_feed 46 = .ok (.iload 6, 2) := by decide +kernel
theorem dX13_feed_48 : decode cX13_feed 48 = .ok (.bipush 12, 2) := by decide +kernel
theorem dX13_feed_50 : decode cX13_feed 50 = .ok (.if_icmp .ge 7, 3) := by decide +kernel
theorem dX13_feed_53 : decode cX13_feed 53 = .ok (.iload_n 3, 1) := by decide +kernel
theorem dX13_feed_54 : decode cX13_feed 54 = .ok (.goto 17, 3) := by decide +kernel
theorem dX13_feed_57 : decode cX13_feed 57 = .ok (.iload 6, 2) := by decide +kernel
theorem dX13_feed_59 : decode cX13_feed 59 = .ok (.bipush 16, 2) := by decide +kernel
theorem dX13_feed_61 : decode cX13_feed 61 = .ok (.if_icmp .ge 8, 3) := by decide +kernel
theorem dX13_feed_64 : decode cX13_feed 64 = .ok (.iload 4, 2) := by decide +kernel
theorem dX13_feed_66 : decode cX13_feed 66 = .ok (.goto 5, 3) := by decide +kernel
theorem dX13_feed_69 : decode cX13_feed 69 = .ok (.iload 5, 2) := by decide +kernel
theorem dX13_feed_71 : decode cX13_feed 71 = .ok (.istore 7, 2) := by decide +kernel
theorem dX13_feed_73 : decode cX13_feed 73 = .ok (.aload_n 0, 1) := by decide +kernel
theorem dX13_feed_74 : decode cX13_feed 74 = .ok (.getfield 9, 3) := by decide +kernel
theorem dX13_feed_77 : decode cX13_feed 77 = .ok (.aload_n 0, 1) := by decide +kernel
theorem dX13_feed_78 : decode cX13_feed 78 = .ok (.getfield 153, 3) := by decide +kernel
theorem dX13_feed_81 : decode cX13_feed 81 = .ok (.iload 6, 2) := by decide +kernel
theorem dX13_feed_83 : decode cX13_feed 83 = .ok (.iadd, 1) := by decide +kernel
theorem dX13_feed_84 : decode cX13_feed 84 = .ok (.iload 7, 2) := by decide +kernel
theorem dX13_feed_86 : decode cX13_feed 86 = .ok (.bipush 24, 2) := by decide +kernel
theorem dX13_feed_88 : decode cX13_feed 88 = .ok (.bipush 8, 2) := by decide +kernel
theorem dX13_feed_90 : decode cX13_feed 90 = .ok (.iload 6, 2) := by decide +kernel
theorem dX13_feed_92 : decode cX13_feed 92 = .ok (.iconst 4, 1) := by decide +kernel
theorem dX13_feed_93 : decode cX13_feed 93 = .ok (.irem, 1) := by decide +kernel
theorem dX13_feed_94 : decode cX13_feed 94 = .ok (.imul, 1) := by decide +kernel
theorem dX13_feed_95 : decode cX13_feed 95 = .ok (.isub, 1) := by decide +kernel
theorem dX13_feed_96 : decode cX13_feed 96 = .ok (.ishr, 1) := by decide +kernel
theorem dX13_feed_97 : decode cX13_feed 97 = .ok (.sipush 255, 3) := by decide +kernel
theorem dX13_feed_100 : decode cX13_feed 100 = .ok (.iand, 1) := by decide +kernel
theorem dX13_feed_101 : decode cX13_feed 101 = .ok (.iastore, 1) := by decide +kernel
theorem dX13_feed_102 : decode cX13_feed 102 = .ok (.iinc 6 1, 3) := by decide +kernel
theorem dX13_feed_105 : decode cX13_feed 105 = .ok (.goto (-87), 3) := by decide +kernel
theorem dX13_feed_108 : decode cX13_feed 108 = .ok (.aload_n 0, 1) := by decide +kernel
theorem dX13_feed_109 : decode cX13_feed 109 = .ok (.dup, 1) := by decide +kernel
theorem dX13_feed_110 : decode cX13_feed 110 = .ok (.getfield 153, 3) := by decide +kernel
theorem dX13_feed_113 : decode cX13_feed 113 = .ok (.bipush 20, 2) := by decide +kernel
theorem dX13_feed_115 : decode cX13_feed 115 = .ok (.iadd, 1) := by decide +kernel
theorem dX13_feed_116 : decode cX13_feed 116 = .ok (.putfield 153, 3) := by decide +kernel
theorem dX13_feed_119 : decode cX13_feed 119 = .ok (.aload_n 0, 1) := by decide +kernel
theorem dX13_feed_120 : decode cX13_feed 120 = .ok (.getfield 153, 3) := by decide +kernel
theorem dX13_feed_123 : decode cX13_feed 123 = .ok (.ireturn, 1) := by decide +kernel
theorem dX13_end_0 : decode cX13_end 0 = .ok (.iload_n 1, 1) := by decide +kernel
theorem dX13_end_1 : decode cX13_end 1 = .ok (.ifCond .lt 11, 3) := by decide +kernel
theorem dX13_end_4 : decode cX13_end 4 = .ok (.iload_n 1, 1) := by decide +kernel
theorem dX13_end_5 : decode cX13_end 5 = .ok (.aload_n 0, 1) := by decide +kernel
theorem dX13_end_6 : decode cX13_end 6 = .ok (.getfield 153, 3) := by decide +kernel
theorem dX13_end_9 : decode cX13_end 9 = .ok (.if_icmp .le 5, 3) := by decide +kernel
theorem dX13_end_12 : decode cX13_end 12 = .ok (.iconst (-1), 1) := by decide +kernel
theorem dX13_end_13 : decode cX13_end 13 = .ok (.ireturn, 1) := by decide +kernel
theorem dX13_end_14 : decode cX13_end 14 = .ok (.aload_n 0, 1) := by decide +kernel
theorem dX13_end_15 : decode cX13_end 15 = .ok (.iload_n 1, 1) := by decide +kernel
theorem dX13_end_16 : decode cX13_end 16 = .ok (.putfield 153, 3) := by decide +kernel
theorem dX13_end_19 : decode cX13_end 19 = .ok (.iload_n 1, 1) := by decide +kernel
theorem dX13_end_20 : decode cX13_end 20 = .ok (.ireturn, 1) := by decide +kernel
theorem dX13_read_0 : decode cX13_read 0 = .ok (.aload_n 0, 1) := by decide +kernel
theorem dX13_read_1 : decode cX13_read 1 = .ok (.aload_n 0, 1) := by decide +kernel
theorem dX13_read_2 : decode cX13_read 2 = .ok (.getfield 153, 3) := by decide +kernel
theorem dX13_read_5 : decode cX13_read 5 = .ok (.putfield 157, 3) := by decide +kernel
theorem dX13_read_8 : decode cX13_read 8 = .ok (.iconst 0, 1) := by decide +kernel
theorem dX13_read_9 : decode cX13_read 9 = .ok (.istore_n 1, 1) := by decide +kernel
theorem dX13_read_10 : decode cX13_read 10 = .ok (.iload_n 1, 1) := by decide +kernel
theorem dX13_read_11 : decode cX13_read 11 = .ok (.aload_n 0, 1) := by decide +kernel
theorem dX13_read_12 : decode cX13_read 12 = .ok (.getfield 157, 3) := by decide +kernel
theorem dX13_read_15 : decode cX13_read 15 = .ok (.if_icmp .ge 21, 3) := by decide +kernel
theorem dX13_read_18 : decode cX13_read 18 = .ok (.aload_n 0, 1) := by decide +kernel
theorem dX13_read_19 : decode cX13_read 19 = .ok (.getfield 13, 3) := by decide +kernel
theorem dX13_read_22 : decode cX13_read 22 = .ok (.iload_n 1, 1) := by decide +kernel
theorem dX13_read_23 : decode cX13_read 23 = .ok (.aload_n 0, 1) := by decide +kernel
theorem dX13_read_24 : decode cX13_read 24 = .ok (.getfield 9, 3) := by decide +kernel
theorem dX13_read_27 : decode cX13_read 27 = .ok (.iload_n 1, 1) := by decide +kernel
theorem dX13_read_28 : decode cX13_read 28 = .ok (.iaload, 1) := by decide +kernel
theorem dX13_read_29 : decode cX13_read 29 = .ok (.iastore, 1) := by decide +kernel
theorem dX13_read_30 : decode cX13_read 30 = .ok (.iinc 1 1, 3) := by decide +kernel
theorem dX13_read_33 : decode cX13_read 33 = .ok (.goto (-23), 3) := by decide +kernel
theorem dX13_read_36 : decode cX13_read 36 = .ok (.aload_n 0, 1) := by decide +kernel
theorem dX13_read_37 : decode cX13_read 37 = .ok (.iconst 0, 1) := by decide +kernel
theorem dX13_read_38 : decode cX13_read 38 = .ok (.putfield 153, 3) := by decide +kernel
theorem dX13_read_41 : decode cX13_read 41 = .ok (.aload_n 0, 1) := by decide +kernel
theorem dX13_read_42 : decode cX13_read 42 = .ok (.iconst 0, 1) := by decide +kernel
theorem dX13_read_43 : decode cX13_read 43 = .ok (.putfield 509, 3) := by decide +kernel
theorem dX13_read_46 : decode cX13_read 46 = .ok (.aload_n 0, 1) := by decide +kernel
theorem dX13_read_47 : decode cX13_read 47 = .ok (.iconst 0, 1) := by decide +kernel
theorem dX13_read_48 : decode cX13_read 48 = .ok (.putfield 512, 3) := by decide +kernel
theorem dX13_read_51 : decode cX13_read 51 = .ok (.aload_n 0, 1) := by decide +kernel
theorem dX13_read_52 : decode cX13_read 52 = .ok (.iconst 0, 1) := by decide +kernel
theorem dX13_read_53 : decode cX13_read 53 = .ok (.putfield 515, 3) := by decide +kernel
theorem dX13_read_56 : decode cX13_read 56 = .ok (.aload_n 0, 1) := by decide +kernel
theorem dX13_read_57 : decode cX13_read 57 = .ok (.iconst 0, 1) := by decide +kernel
theorem dX13_read_58 : decode cX13_read 58 = .ok (.putfield 518, 3) := by decide +kernel
theorem dX13_read_61 : decode cX13_read 61 = .ok (.aload_n 0, 1) := by decide +kernel
theorem dX13_read_62 : decode cX13_read 62 = .ok (.iconst 0, 1) := by decide +kernel
theorem dX13_read_63 : decode cX13_read 63 = .ok (.putfield 230, 3) := by decide +kernel
theorem dX13_read_66 : decode cX13_read 66 = .ok (.aload_n 0, 1) := by decide +kernel
theorem dX13_read_67 : decode cX13_read 67 = .ok (.iconst 0, 1) := by decide +kernel
theorem dX13_read_68 : decode cX13_read 68 = .ok (.putfield 248, 3) := by decide +kernel
theorem dX13_read_71 : decode cX13_read 71 = .ok (.aload_n 0, 1) := by decide +kernel
theorem dX13_read_72 : decode cX13_read 72 = .ok (.iconst 0, 1) := by decide +kernel
theorem dX13_read_73 : decode cX13_read 73 = .ok (.putfield 365, 3) := by decide +kernel
theorem dX13_read_76 : decode cX13_read 76 = .ok (.aload_n 0, 1) := by decide +kernel
theorem dX13_read_77 : decode cX13_read 77 = .ok (.invokevirtual 521, 3) := by decide +kernel
theorem dX13_read_80 : decode cX13_read 80 = .ok (.aload_n 0, 1) := by decide +kernel
theorem dX13_read_81 : decode cX13_read 81 = .ok (.iconst 0, 1) := by decide +kernel
theorem dX13_read_82 : decode cX13_read 82 = .ok (.putfield 245, 3) := by decide +kernel
theorem dX13_read_85 : decode cX13_read 85 = .ok (.aload_n 0, 1) := by decide +kernel
theorem dX13_read_86 : decode cX13_read 86 = .ok (.invokevirtual 524, 3) := by decide +kernel
theorem dX13_read_89 : decode cX13_read 89 = .ok (.ifCond .ne 16, 3) := by decide +kernel
theorem dX13_read_92 : decode cX13_read 92 = .ok (.bipush 16, 2) := by decide +kernel
theorem dX13_read_94 : decode cX13_read 94 = .ok (.aload_n 0, 1) := by decide +kernel
theorem dX13_read_95 : decode cX13_read 95 = .ok (.getfield 236, 3) := by decide +kernel
theorem dX13_read_98 : decode cX13_read 98 = .ok (.imul, 1) := by decide +kernel
theorem dX13_read_99 : decode cX13_read 99 = .ok (.aload_n 0, 1) := by decide +kernel
theorem dX13_read_100 : decode cX13_read 100 = .ok (.getfield 230, 3) := by decide +kernel
theorem dX13_read_103 : decode cX13_read 103 = .ok (.iadd, 1) := by decide +kernel
theorem dX13_read_104 : decode cX13_read 104 = .ok (.ireturn, 1) := by decide +kernel
theorem dX13_read_105 : decode cX13_read 105 = .ok (.aload_n 0, 1) := by decide +kernel
theorem dX13_read_106 : decode cX13_read 106 = .ok (.iconst 1, 1) := by decide +kernel
theorem dX13_read_107 : decode cX13_read 107 = .ok (.putfield 245, 3) := by decide +kernel
theorem dX13_read_110 : decode cX13_read 110 = .ok (.aload_n 0, 1) := by decide +kernel
theorem dX13_read_111 : decode cX13_read 111 = .ok (.invokevirtual 524, 3) := by decide +kernel
theorem dX13_read_114 : decode cX13_read 114 = .ok (.pop, 1) := by decide +kernel
theorem dX13_read_115 : decode cX13_read 115 = .ok (.aload_n 0, 1) := by decide +kernel
theorem dX13_read_116 : decode cX13_read 116 = .ok (.iconst (-1), 1) := by decide +kernel
theorem dX13_read_117 : decode cX13_read 117 = .ok (.putfield 527, 3) := by decide +kernel
theorem dX13_read_120 : decode cX13_read 120 = .ok (.aload_n 0, 1) := by decide +kernel
theorem dX13_read_121 : decode cX13_read 121 = .ok (.getfield 297, 3) := by decide +kernel
theorem dX13_read_124 : decode cX13_read 124 = .ok (.iconst 1, 1) := by decide +kernel
theorem dX13_read_125 : decode cX13_read 125 = .ok (.isub, 1) := by decide +kernel
theorem dX13_read_126 : decode cX13_read 126 = .ok (.istore_n 1, 1) := by decide +kernel
theorem dX13_read_127 : decode cX13_read 127 = .ok (.iload_n 1, 1) := by decide +kernel
theorem dX13_read_128 : decode cX13_read 128 = .ok (.ifCond .lt 112, 3) := by decide +kernel
theorem dX13_read_131 : decode cX13_read 131 = .ok (.aload_n 0, 1) := by decide +kernel
theorem dX13_read_132 : decode cX13_read 132 = .ok (.getfield 65, 3) := by decide +kernel
theorem dX13_read_135 : decode cX13_read 135 = .ok (.iload_n 1, 1) := by decide +kernel
theorem dX13_read_136 : decode cX13_read 136 = .ok (.iaload, 1) := by decide +kernel
theorem dX13_read_137 : decode cX13_read 137 = .ok (.istore_n 2, 1) := by decide +kernel
theorem dX13_read_138 : decode cX13_read 138 = .ok (.aload_n 0, 1) := by decide +kernel
theorem dX13_read_139 : decode cX13_read 139 = .ok (.getfield 28, 3) := by decide +kernel
theorem dX13_read_142 : decode cX13_read 142 = .ok (.aload_n 0, 1) := by decide +kernel
theorem dX13_read_143 : decode cX13_read 143 = .ok (.getfield 62, 3) := by decide +kernel
theorem dX13_read_146 : decode cX13_read 146 = .ok (.iload_n 1, 1) := by decide +kernel
theorem dX13_read_147 : decode cX13_read 147 = .ok (.iaload, 1) := by decide +kernel
theorem dX13_read_148 : decode cX13_read 148 = .ok (.iaload, 1) := by decide +kernel
theorem dX13_read_149 : decode cX13_read 149 = .ok (.iconst 4, 1) := by decide +kernel
theorem dX13_read_150 : decode cX13_read 150 = .ok (.if_icmp .ne 84, 3) := by decide +kernel
theorem dX13_read_153 : decode cX13_read 153 = .ok (.aload_n 0, 1) := by decide +kernel
theorem dX13_read_154 : decode cX13_read 154 = .ok (.iload_n 2, 1) := by decide +kernel
theorem dX13_read_155 : decode cX13_read 155 = .ok (.invokevirtual 177, 3) := by decide +kernel
theorem dX13_read_158 : decode cX13_read 158 = .ok (.bipush 109, 2) := by decide +kernel
theorem dX13_read_160 : decode cX13_read 160 = .ok (.if_icmp .ne 74, 3) := by decide +kernel
theorem dX13_read_163 : decode cX13_read 163 = .ok (.aload_n 0, 1) := by decide +kernel
theorem dX13_read_164 : decode cX13_read 164 = .ok (.iload_n 2, 1) := by decide +kernel
theorem dX13_read_165 : decode cX13_read 165 = .ok (.iconst 1, 1) := by decide +kernel
theorem dX13_read_166 : decode cX13_read 166 = .ok (.iadd, 1) := by decide +kernel
theorem dX13_read_167 : decode cX13_read 167 = .ok (.invokevirtual 177, 3) := by decide +kernel
theorem dX13_read_170 : decode cX13_read 170 = .ok (.bipush 97, 2) := by decide +kernel
theorem dX13_read_172 : decode cX13_read 172 = .ok (.if_icmp .ne 62, 3) := by decide +kernel
theorem dX13_read_175 : decode cX13_read 175 = .ok (.aload_n 0, 1) := by decide +kernel
theorem dX13_read_176 : decode cX13_read 176 = .ok (.iload_n 2, 1) := by decide +kernel
theorem dX13_read_177 : decode cX13_read 177 = .ok (.iconst 2, 1) := by decide +kernel
theorem dX13_read_178 : decode cX13_read 178 = .ok (.iadd, 1) := by decide +kernel
theorem dX13_read_179 : decode cX13_read 179 = .ok (.invokevirtual 177, 3) := by decide +kernel
theorem dX13_read_182 : decode cX13_read 182 = .ok (.bipush 105, 2) := by decide +kernel
theorem dX13_read_184 : decode cX13_read 184 = .ok (.if_icmp .ne 50, 3) := by decide +kernel
theorem dX13_read_187 : decode cX13_read 187 = .ok (.aload_n 0, 1) := by decide +kernel
theorem dX13_read_188 : decode cX13_read 188 = .ok (.iload_n 2, 1) := by decide +kernel
theorem dX13_read_189 : decode cX13_read 189 = .ok (.iconst 3, 1) := by decide +kernel
theorem dX13_read_190 : decode cX13_read 190 = .ok (.iadd, 1) := by decide +kernel
theorem dX13_read_191 : decode cX13_read 191 = .ok (.invokevirtual 177, 3) := by decide +kernel
theorem dX13_read_194 : decode cX13_read 194 = .ok (.bipush 110, 2) := by decide +kernel
theorem dX13_read_196 : decode cX13_read 196 = .ok (.if_icmp .eq 6, 3) := by decide +kernel
theorem dX13_read_199 : decode cX13_read 199 = .ok (.goto 35, 3) := by decide +kernel
theorem dX13_read_202 : decode cX13_read 202 = .ok (.aload_n 0, 1) := by decide +kernel
theorem dX13_read_203 : decode cX13_read 203 = .ok (.iload_n 1, 1) := by decide +kernel
theorem dX13_read_204 : decode cX13_read 204 = .ok (.putfield 527, 3) := by decide +kernel
theorem dX13_read_207 : decode cX13_read 207 = .ok (.aload_n 0, 1) := by decide +kernel
theorem dX13_read_208 : decode cX13_read 208 = .ok (.getfield 83, 3) := by decide +kernel
theorem dX13_read_211 : decode cX13_read 211 = .ok (.iload_n 1, 1) := by decide +kernel
theorem dX13_read_212 : decode cX13_read 212 = .ok (.iaload, 1) := by decide +kernel
theorem dX13_read_213 : decode cX13_read 213 = .ok (.iconst (-1), 1) := by decide +kernel
theorem dX13_read_214 : decode cX13_read 214 = .ok (.if_icmp .eq 20, 3) := by decide +kernel
theorem dX13_read_217 : decode cX13_read 217 = .ok (.aload_n 0, 1) := by decide +kernel
theorem dX13_read_218 : decode cX13_read 218 = .ok (.bipush 12, 2) := by decide +kernel
theorem dX13_read_220 : decode cX13_read 220 = .ok (.aload_n 0, 1) := by decide +kernel
theorem dX13_read_221 : decode cX13_read 221 = .ok (.getfield 22, 3) := by decide +kernel
theorem dX13_read_224 : decode cX13_read 224 = .ok (.aload_n 0, 1) := by decide +kernel
theorem dX13_read_225 : decode cX13_read 225 = .ok (.getfield 83, 3) := by decide +kernel
theorem dX13_read_228 : decode cX13_read 228 = .ok (.iload_n 1, 1) := by decide +kernel
theorem dX13_read_229 : decode cX13_read 229 = .ok (.iaload, 1) := by decide +kernel
theorem dX13_read_230 : decode cX13_read 230 = .ok (.iaload, 1) := by decide +kernel
theorem dX13_read_231 : decode cX13_read 231 = .ok (.invokevirtual 352, 3) := by decide +kernel
theorem dX13_read_234 : decode cX13_read 234 = .ok (.iinc 1 (-1), 3) := by decide +kernel
theorem dX13_read_237 : decode cX13_read 237 = .ok (.goto (-110), 3) := by decide +kernel
theorem dX13_read_240 : decode cX13_read 240 = .ok (.aload_n 0, 1) := by decide +kernel
theorem dX13_read_241 : decode cX13_read 241 = .ok (.getfield 527, 3) := by decide +kernel
theorem dX13_read_244 : decode cX13_read 244 = .ok (.iconst (-1), 1) := by decide +kernel
theorem dX13_read_245 : decode cX13_read 245 = .ok (.if_icmp .ne 13, 3) := by decide +kernel
theorem dX13_read_248 : decode cX13_read 248 = .ok (.aload_n 0, 1) := by decide +kernel
theorem dX13_read_249 : decode cX13_read 249 = .ok (.bipush 12, 2) := by decide +kernel
theorem dX13_read_251 : decode cX13_read 251 = .ok (.aload_n 0, 1) := by decide +kernel
theorem dX13_read_252 : decode cX13_read 252 = .ok (.getfield 157, 3) := by decide +kernel
theorem dX13_read_255 : decode cX13_read 255 = .ok (.invokevirtual 352, 3) := by decide +kernel
theorem dX13_read_258 : decode cX13_read 258 = .ok (.aload_n 0, 1) := by decide +kernel
theorem dX13_read_259 : decode cX13_read 259 = .ok (.getfield 248, 3) := by decide +kernel
theorem dX13_read_262 : decode cX13_read 262 = .ok (.ifCond .le 16, 3) := by decide +kernel
theorem dX13_read_265 : decode cX13_read 265 = .ok (.bipush 16, 2) := by decide +kernel
theorem dX13_read_267 : decode cX13_read 267 = .ok (.aload_n 0, 1) := by decide +kernel
theorem dX13_read_268 : decode cX13_read 268 = .ok (.getfield 251, 3) := by decide +kernel
theorem dX13_read_271 : decode cX13_read 271 = .ok (.imul, 1) := by decide +kernel
theorem dX13_read_272 : decode cX13_read 272 = .ok (.aload_n 0, 1) := by decide +kernel
theorem dX13_read_273 : decode cX13_read 273 = .ok (.getfield 248, 3) := by decide +kernel
theorem dX13_read_276 : decode cX13_read 276 = .ok (.iadd, 1) := by decide +kernel
theorem dX13_read_277 : decode cX13_read 277 = .ok (.ireturn, 1) := by decide +kernel
theorem dX13_read_278 : decode cX13_read 278 = .ok (.aload_n 0, 1) := by decide +kernel
theorem dX13_read_279 : decode cX13_read 279 = .ok (.iconst 1, 1) := by decide +kernel
theorem dX13_read_280 : decode cX13_read 280 = .ok (.putfield 509, 3) := by decide +kernel
theorem dX13_read_283 : decode cX13_read 283 = .ok (.iconst 0, 1) := by decide +kernel
theorem dX13_read_284 : decode cX13_read 284 = .ok (.ireturn, 1) := by decide +kernel
theorem dX13_cut_0 : decode cX13_cut 0 = .ok (.aload_n 0, 1) := by decide +kernel
theorem dX13_cut_1 : decode cX13_cut 1 = .ok (.iconst 0, 1) := by decide +kernel
theorem dX13_cut_2 : decode cX13_cut 2 = .ok (.putfield 187, 3) := by decide +kernel
theorem dX13_cut_5 : decode cX13_cut 5 = .ok (.aload_n 0, 1) := by decide +kernel
theorem dX13_cut_6 : decode cX13_cut 6 = .ok (.iconst 0, 1) := by decide +kernel
theorem dX13_cut_7 : decode cX13_cut 7 = .ok (.putfield 181, 3) := by decide +kernel
theorem dX13_cut_10 : decode cX13_cut 10 = .ok (.aload_n 0, 1) := by decide +kernel
theorem dX13_cut_11 : decode cX13_cut 11 = .ok (.iconst (-1), 1) := by decide +kernel
theorem dX13_cut_12 : decode cX13_cut 12 = .ok (.putfield 184, 3) := by decide +kernel
theorem dX13_cut_15 : decode cX13_cut 15 = .ok (.iconst 0, 1) := by decide +kernel
theorem dX13_cut_16 : decode cX13_cut 16 = .ok (.istore_n 1, 1) := by decide +kernel
theorem dX13_cut_17 : decode cX13_cut 17 = .ok (.iload_n 1, 1) := by decide +kernel
theorem dX13_cut_18 : decode cX13_cut 18 = .ok (.bipush 64, 2) := by decide +kernel
theorem dX13_cut_20 : decode cX13_cut 20 = .ok (.if_icmp .ge 16, 3) := by decide +kernel
theorem dX13_cut_23 : decode cX13_cut 23 = .ok (.aload_n 0, 1) := by decide +kernel
theorem dX13_cut_24 : decode cX13_cut 24 = .ok (.getfield 34, 3) := by decide +kernel
theorem dX13_cut_27 : decode cX13_cut 27 = .ok (.iload_n 1, 1) := by decide +kernel
theorem dX13_cut_28 : decode cX13_cut 28 = .ok (.iconst (-1), 1) := by decide +kernel
theorem dX13_cut_29 : decode cX13_cut 29 = .ok (.iastore, 1) := by decide +kernel
theorem dX13_cut_30 : decode cX13_cut 30 = .ok (.iinc 1 1, 3) := by decide +kernel
theorem dX13_cut_33 : decode cX13_cut 33 = .ok (.goto (-16), 3) := by decide +kernel
theorem dX13_cut_36 : decode cX13_cut 36 = .ok (.aload_n 0, 1) := by decide +kernel
theorem dX13_cut_37 : decode cX13_cut 37 = .ok (.iconst 0, 1) := by decide +kernel
theorem dX13_cut_38 : decode cX13_cut 38 = .ok (.invokevirtual 190, 3) := by decide +kernel
theorem dX13_cut_41 : decode cX13_cut 41 = .ok (.istore_n 1, 1) := by decide +kernel
theorem dX13_cut_42 : decode cX13_cut 42 = .ok (.iload_n 1, 1) := by decide +kernel
theorem dX13_cut_43 : decode cX13_cut 43 = .ok (.iconst (-1), 1) := by decide +kernel
theorem dX13_cut_44 : decode cX13_cut 44 = .ok (.if_icmp .eq 45, 3) := by decide +kernel
theorem dX13_cut_47 : decode cX13_cut 47 = .ok (.iload_n 1, 1) := by decide +kernel
theorem dX13_cut_48 : decode cX13_cut 48 = .ok (.aload_n 0, 1) := by decide +kernel
theorem dX13_cut_49 : decode cX13_cut 49 = .ok (.getfield 157, 3) := by decide +kernel
theorem dX13_cut_52 : decode cX13_cut 52 = .ok (.if_icmp .ge 37, 3) := by decide +kernel
theorem dX13_cut_55 : decode cX13_cut 55 = .ok (.aload_n 0, 1) := by decide +kernel
theorem dX13_cut_56 : decode cX13_cut 56 = .ok (.iload_n 1, 1) := by decide +kernel
theorem dX13_cut_57 : decode cX13_cut 57 = .ok (.invokevirtual 193, 3) := by decide +kernel
theorem dX13_cut_60 : decode cX13_cut 60 = .ok (.istore_n 2, 1) := by decide +kernel
theorem dX13_cut_61 : decode cX13_cut 61 = .ok (.iload_n 2, 1) := by decide +kernel
theorem dX13_cut_62 : decode cX13_cut 62 = .ok (.iconst (-1), 1) := by decide +kernel
theorem dX13_cut_63 : decode cX13_cut 63 = .ok (.if_icmp .ne 8, 3) := by decide +kernel
theorem dX13_cut_66 : decode cX13_cut 66 = .ok (.aload_n 0, 1) := by decide +kernel
theorem dX13_cut_67 : decode cX13_cut 67 = .ok (.iload_n 1, 1) := by decide +kernel
theorem dX13_cut_68 : decode cX13_cut 68 = .ok (.putfield 184, 3) := by decide +kernel
theorem dX13_cut_71 : decode cX13_cut 71 = .ok (.iload_n 2, 1) := by decide +kernel
theorem dX13_cut_72 : decode cX13_cut 72 = .ok (.iconst (-1), 1) := by decide +kernel
theorem dX13_cut_73 : decode cX13_cut 73 = .ok (.if_icmp .ne 7, 3) := by decide +kernel
theorem dX13_cut_76 : decode cX13_cut 76 = .ok (.iconst (-1), 1) := by decide +kernel
theorem dX13_cut_77 : decode cX13_cut 77 = .ok (.goto 8, 3) := by decide +kernel
theorem dX13_cut_80 : decode cX13_cut 80 = .ok (.aload_n 0, 1) := by decide +kernel
theorem dX13_cut_81 : decode cX13_cut 81 = .ok (.iload_n 2, 1) := by decide +kernel
theorem dX13_cut_82 : decode cX13_cut 82 = .ok (.invokevirtual 190, 3) := by decide +kernel
theorem dX13_cut_85 : decode cX13_cut 85 = .ok (.istore_n 1, 1) := by decide +kernel
theorem dX13_cut_86 : decode cX13_cut 86 = .ok (.goto (-44), 3) := by decide +kernel
theorem dX13_cut_89 : decode cX13_cut 89 = .ok (.aload_n 0, 1) := by decide +kernel
theorem dX13_cut_90 : decode cX13_cut 90 = .ok (.getfield 16, 3) := by decide +kernel
theorem dX13_cut_93 : decode cX13_cut 93 = .ok (.aload_n 0, 1) := by decide +kernel
theorem dX13_cut_94 : decode cX13_cut 94 = .ok (.getfield 187, 3) := by decide +kernel
theorem dX13_cut_97 : decode cX13_cut 97 = .ok (.iconst 0, 1) := by decide +kernel
theorem dX13_cut_98 : decode cX13_cut 98 = .ok (.iastore, 1) := by decide +kernel
theorem dX13_cut_99 : decode cX13_cut 99 = .ok (.aload_n 0, 1) := by decide +kernel
theorem dX13_cut_100 : decode cX13_cut 100 = .ok (.getfield 22, 3) := by decide +kernel
theorem dX13_cut_103 : decode cX13_cut 103 = .ok (.aload_n 0, 1) := by decide +kernel
theorem dX13_cut_104 : decode cX13_cut 104 = .ok (.getfield 187, 3) := by decide +kernel
theorem dX13_cut_107 : decode cX13_cut 107 = .ok (.aload_n 0, 1) := by decide +kernel
theorem dX13_cut_108 : decode cX13_cut 108 = .ok (.getfield 157, 3) := by decide +kernel
theorem dX13_cut_111 : decode cX13_cut 111 = .ok (.iastore, 1) := by decide +kernel
theorem dX13_cut_112 : decode cX13_cut 112 = .ok (.return_, 1) := by decide +kernel
theorem dX13_skip_0 : decode cX13_skip 0 = .ok (.iload_n 1, 1) := by decide +kernel
theorem dX13_skip_1 : decode cX13_skip 1 = .ok (.istore_n 2, 1) := by decide +kernel
theorem dX13_skip_2 : decode cX13_skip 2 = .ok (.iload_n 2, 1) := by decide +kernel
theorem dX13_skip_3 : decode cX13_skip 3 = .ok (.aload_n 0, 1) := by decide +kernel
theorem dX13_skip_4 : decode cX13_skip 4 = .ok (.getfield 157, 3) := by decide +kernel
theorem dX13_skip_7 : decode cX13_skip 7 = .ok (.if_icmp .ge 161, 3) := by decide +kernel
theorem dX13_skip_10 : decode cX13_skip 10 = .ok (.aload_n 0, 1) := by decide +kernel
theorem dX13_skip_11 : decode cX13_skip 11 = .ok (.iload_n 2, 1) := by decide +kernel
theorem dX13_skip_12 : decode cX13_skip 12 = .ok (.invokevirtual 177, 3) := by decide +kernel
theorem dX13_skip_15 : decode cX13_skip 15 = .ok (.bipush 10, 2) := by decide +kernel
theorem dX13_skip_17 : decode cX13_skip 17 = .ok (.if_icmp .eq 13, 3) := by decide +kernel
theorem dX13_skip_20 : decode cX13_skip 20 = .ok (.aload_n 0, 1) := by decide +kernel
theorem dX13_skip_21 : decode cX13_skip 21 = .ok (.iload_n 2, 1) := by decide +kernel
theorem dX13_skip_22 : decode cX13_skip 22 = .ok (.invokevirtual 177, 3) := by decide +kernel
theorem dX13_skip_25 : decode cX13_skip 25 = .ok (.bipush 32, 2) := by decide +kernel
theorem dX13_skip_27 : decode cX13_skip 27 = .ok (.if_icmp .ne 9, 3) := by decide +kernel
theorem dX13_skip_30 : decode cX13_skip 30 = .ok (.iinc 2 1, 3) := by decide +kernel
theorem dX13_skip_33 : decode cX13_skip 33 = .ok (.goto (-31), 3) := by decide +kernel
theorem dX13_skip_36 : decode cX13_skip 36 = .ok (.aload_n 0, 1) := by decide +kernel
theorem dX13_skip_37 : decode cX13_skip 37 = .ok (.iload_n 2, 1) := by decide +kernel
theorem dX13_skip_38 : decode cX13_skip 38 = .ok (.invokevirtual 177, 3) := by decide +kernel
theorem dX13_skip_41 : decode cX13_skip 41 = .ok (.bipush 47, 2) := by decide +kernel
theorem dX13_skip_43 : decode cX13_skip 43 = .ok (.if_icmp .ne 39, 3) := by decide +kernel
theorem dX13_skip_46 : decode cX13_skip 46 = .ok (.aload_n 0, 1) := by decide +kernel
theorem dX13_skip_47 : decode cX13_skip 47 = .ok (.iload_n 2, 1) := by decide +kernel
theorem dX13_skip_48 : decode cX13_skip 48 = .ok (.iconst 1, 1) := by decide +kernel
theorem dX13_skip_49 : decode cX13_skip 49 = .ok (.iadd, 1) := by decide +kernel
theorem dX13_skip_50 : decode cX13_skip 50 = .ok (.invokevirtual 177, 3) := by decide +kernel
theorem dX13_skip_53 : decode cX13_skip 53 = .ok (.bipush 47, 2) := by decide +kernel
theorem dX13_skip_55 : decode cX13_skip 55 = .ok (.if_icmp .ne 27, 3) := by decide +kernel
theorem dX13_skip_58 : decode cX13_skip 58 = .ok (.iload_n 2, 1) := by decide +kernel
theorem dX13_skip_59 : decode cX13_skip 59 = .ok (.aload_n 0, 1) := by decide +kernel
theorem dX13_skip_60 : decode cX13_skip 60 = .ok (.getfield 157, 3) := by decide +kernel
theorem dX13_skip_63 : decode cX13_skip 63 = .ok (.if_icmp .ge (-61), 3) := by decide +kernel
theorem dX13_skip_66 : decode cX13_skip 66 = .ok (.aload_n 0, 1) := by decide +kernel
theorem dX13_skip_67 : decode cX13_skip 67 = .ok (.iload_n 2, 1) := by decide +kernel
theorem dX13_skip_68 : decode cX13_skip 68 = .ok (.invokevirtual 177, 3) := by decide +kernel
theorem dX13_skip_71 : decode cX13_skip 71 = .ok (.bipush 10, 2) := by decide +kernel
theorem dX13_skip_73 : decode cX13_skip 73 = .ok (.if_icmp .eq (-71), 3) := by decide +kernel
theorem dX13_skip_76 : decode cX13_skip 76 = .ok (.iinc 2 1, 3) := by decide +kernel
theorem dX13_skip_79 : decode cX13_skip 79 = .ok (.goto (-21), 3) := by decide +kernel
theorem dX13_skip_82 : decode cX13_skip 82 = .ok (.aload_n 0, 1) := by decide +kernel
theorem dX13_skip_83 : decode cX13_skip 83 = .ok (.iload_n 2, 1) := by decide +kernel
theorem dX13_skip_84 : decode cX13_skip 84 = .ok (.invokevirtual 177, 3) := by decide +kernel
theorem dX13_skip_87 : decode cX13_skip 87 = .ok (.bipush 47, 2) := by decide +kernel
theorem dX13_skip_89 : decode cX13_skip 89 = .ok (.if_icmp .ne 77, 3) := by decide +kernel
theorem dX13_skip_92 : decode cX13_skip 92 = .ok (.aload_n 0, 1) := by decide +kernel
theorem dX13_skip_93 : decode cX13_skip 93 = .ok (.iload_n 2, 1) := by decide +kernel
theorem dX13_skip_94 : decode cX13_skip 94 = .ok (.iconst 1, 1) := by decide +kernel
theorem dX13_skip_95 : decode cX13_skip 95 = .ok (.iadd, 1) := by decide +kernel
theorem dX13_skip_96 : decode cX13_skip 96 = .ok (.invokevirtual 177, 3) := by decide +kernel
theorem dX13_skip_99 : decode cX13_skip 99 = .ok (.bipush 42, 2) := by decide +kernel
theorem dX13_skip_101 : decode cX13_skip 101 = .ok (.if_icmp .ne 65, 3) := by decide +kernel
theorem dX13_skip_104 : decode cX13_skip 104 = .ok (.iload_n 2, 1) := by decide +kernel
theorem dX13_skip_105 : decode cX13_skip 105 = .ok (.iconst 2, 1) := by decide +kernel
theorem dX13_skip_106 : decode cX13_skip 106 = .ok (.iadd, 1) := by decide +kernel
theorem dX13_skip_107 : decode cX13_skip 107 = .ok (.istore_n 3, 1) := by decide +kernel
theorem dX13_skip_108 : decode cX13_skip 108 = .ok (.iload_n 3, 1) := by decide +kernel
theorem dX13_skip_109 : decode cX13_skip 109 = .ok (.aload_n 0, 1) := by decide +kernel
theorem dX13_skip_110 : decode cX13_skip 110 = .ok (.getfield 157, 3) := by decide +kernel
theorem dX13_skip_113 : decode cX13_skip 113 = .ok (.if_icmp .ge 31, 3) := by decide +kernel
theorem dX13_skip_116 : decode cX13_skip 116 = .ok (.aload_n 0, 1) := by decide +kernel
theorem dX13_skip_117 : decode cX13_skip 117 = .ok (.iload_n 3, 1) := by decide +kernel
theorem dX13_skip_118 : decode cX13_skip 118 = .ok (.invokevirtual 177, 3) := by decide +kernel
theorem dX13_skip_121 : decode cX13_skip 121 = .ok (.bipush 42, 2) := by decide +kernel
theorem dX13_skip_123 : decode cX13_skip 123 = .ok (.if_icmp .ne 15, 3) := by decide +kernel
theorem dX13_skip_126 : decode cX13_skip 126 = .ok (.aload_n 0, 1) := by decide +kernel
theorem dX13_skip_127 : decode cX13_skip 127 = .ok (.iload_n 3, 1) := by decide +kernel
theorem dX13_skip_128 : decode cX13_skip 128 = .ok (.iconst 1, 1) := by decide +kernel
theorem dX13_skip_129 : decode cX13_skip 129 = .ok (.iadd, 1) := by decide +kernel
theorem dX13_skip_130 : decode cX13_skip 130 = .ok (.invokevirtual 177, 3) := by decide +kernel
theorem dX13_skip_133 : decode cX13_skip 133 = .ok (.bipush 47, 2) := by decide +kernel
theorem dX13_skip_135 : decode cX13_skip 135 = .ok (.if_icmp .eq 9, 3) := by decide +kernel
theorem dX13_skip_138 : decode cX13_skip 138 = .ok (.iinc 3 1, 3) := by decide +kernel
theorem dX13_skip_141 : decode cX13_skip 141 = .ok (.goto (-33), 3) := by decide +kernel
theorem dX13_skip_144 : decode cX13_skip 144 = .ok (.iload_n 3, 1) := by decide +kernel
theorem dX13_skip_145 : decode cX13_skip 145 = .ok (.aload_n 0, 1) := by decide +kernel
theorem dX13_skip_146 : decode cX13_skip 146 = .ok (.getfield 157, 3) := by decide +kernel
theorem dX13_skip_149 : decode cX13_skip 149 = .ok (.if_icmp .lt 10, 3) := by decide +kernel
theorem dX13_skip_152 : decode cX13_skip 152 = .ok (.aload_n 0, 1) := by decide +kernel
theorem dX13_skip_153 : decode cX13_skip 153 = .ok (.iload_n 2, 1) := by decide +kernel
theorem dX13_skip_154 : decode cX13_skip 154 = .ok (.putfield 184, 3) := by decide +kernel
theorem dX13_skip_157 : decode cX13_skip 157 = .ok (.iconst (-1), 1) := by decide +kernel
theorem dX13_skip_158 : decode cX13_skip 158 = .ok (.ireturn, 1) := by decide +kernel
theorem dX13_skip_159 : decode cX13_skip 159 = .ok (.iload_n 3, 1) := by decide +kernel
theorem dX13_skip_160 : decode cX13_skip 160 = .ok (.iconst 2, 1) := by decide +kernel
theorem dX13_skip_161 : decode cX13_skip 161 = .ok (.iadd, 1) := by decide +kernel
theorem dX13_skip_162 : decode cX13_skip 162 = .ok (.istore_n 2, 1) := by decide +kernel
theorem dX13_skip_163 : decode cX13_skip 163 = .ok (.goto (-161), 3) := by decide +kernel
theorem dX13_skip_166 : decode cX13_skip 166 = .ok (.iload_n 2, 1) := by decide +kernel
theorem dX13_skip_167 : decode cX13_skip 167 = .ok (.ireturn, 1) := by decide +kernel
theorem dX13_skip_168 : decode cX13_skip 168 = .ok (.iload_n 2, 1) := by decide +kernel
theorem dX13_skip_169 : decode cX13_skip 169 = .ok (.ireturn, 1) := by decide +kernel
theorem dX13_at_0 : decode cX13_at 0 = .ok (.iload_n 1, 1) := by decide +kernel
theorem dX13_at_1 : decode cX13_at 1 = .ok (.aload_n 0, 1) := by decide +kernel
theorem dX13_at_2 : decode cX13_at 2 = .ok (.getfield 157, 3) := by decide +kernel
theorem dX13_at_5 : decode cX13_at 5 = .ok (.if_icmp .ge 12, 3) := by decide +kernel
theorem dX13_at_8 : decode cX13_at 8 = .ok (.aload_n 0, 1) := by decide +kernel
theorem dX13_at_9 : decode cX13_at 9 = .ok (.getfield 13, 3) := by decide +kernel
theorem dX13_at_12 : decode cX13_at 12 = .ok (.iload_n 1, 1) := by decide +kernel
theorem dX13_at_13 : decode cX13_at 13 = .ok (.iaload, 1) := by decide +kernel
theorem dX13_at_14 : decode cX13_at 14 = .ok (.goto 4, 3) := by decide +kernel
theorem dX13_at_17 : decode cX13_at 17 = .ok (.iconst 0, 1) := by decide +kernel
theorem dX13_at_18 : decode cX13_at 18 = .ok (.ireturn, 1) := by decide +kernel
theorem dX13_tokenAt_0 : decode cX13_tokenAt 0 = .ok (.aload_n 0, 1) := by decide +kernel
theorem dX13_tokenAt_1 : decode cX13_tokenAt 1 = .ok (.iload_n 1, 1) := by decide +kernel
theorem dX13_tokenAt_2 : decode cX13_tokenAt 2 = .ok (.invokevirtual 177, 3) := by decide +kernel
theorem dX13_tokenAt_5 : decode cX13_tokenAt 5 = .ok (.istore_n 2, 1) := by decide +kernel
theorem dX13_tokenAt_6 : decode cX13_tokenAt 6 = .ok (.iload_n 2, 1) := by decide +kernel
theorem dX13_tokenAt_7 : decode cX13_tokenAt 7 = .ok (.invokestatic 160, 3) := by decide +kernel
theorem dX13_tokenAt_10 : decode cX13_tokenAt 10 = .ok (.ifCond .eq 9, 3) := by decide +kernel
theorem dX13_tokenAt_13 : decode cX13_tokenAt 13 = .ok (.aload_n 0, 1) := by decide +kernel
theorem dX13_tokenAt_14 : decode cX13_tokenAt 14 = .ok (.iload_n 1, 1) := by decide +kernel
theorem dX13_tokenAt_15 : decode cX13_tokenAt 15 = .ok (.invokevirtual 196, 3) := by decide +kernel
theorem dX13_tokenAt_18 : decode cX13_tokenAt 18 = .ok (.ireturn, 1) := by decide +kernel
theorem dX13_tokenAt_19 : decode cX13_tokenAt 19 = .ok (.iload_n 2, 1) := by decide +kernel
theorem dX13_tokenAt_20 : decode cX13_tokenAt 20 = .ok (.invokestatic 164, 3) := by decide +kernel
theorem dX13_tokenAt_23 : decode cX13_tokenAt 23 = .ok (.ifCond .eq 9, 3) := by decide +kernel
theorem dX13_tokenAt_26 : decode cX13_tokenAt 26 = .ok (.aload_n 0, 1) := by decide +kernel
theorem dX13_tokenAt_27 : decode cX13_tokenAt 27 = .ok (.iload_n 1, 1) := by decide +kernel
theorem dX13_tokenAt_28 : decode cX13_tokenAt 28 = .ok (.invokevirtual 199, 3) := by decide +kernel
theorem dX13_tokenAt_31 : decode cX13_tokenAt 31 = .ok (.ireturn, 1) := by decide +kernel
theorem dX13_tokenAt_32 : decode cX13_tokenAt 32 = .ok (.iconst 4, 1) := by decide +kernel
theorem dX13_tokenAt_33 : decode cX13_tokenAt 33 = .ok (.istore_n 3, 1) := by decide +kernel
theorem dX13_tokenAt_34 : decode cX13_tokenAt 34 = .ok (.iload_n 3, 1) := by decide +kernel
theorem dX13_tokenAt_35 : decode cX13_tokenAt 35 = .ok (.ifCond .le 54, 3) := by decide +kernel
theorem dX13_tokenAt_38 : decode cX13_tokenAt 38 = .ok (.iload_n 1, 1) := by decide +kernel
theorem dX13_tokenAt_39 : decode cX13_tokenAt 39 = .ok (.iload_n 3, 1) := by decide +kernel
theorem dX13_tokenAt_40 : decode cX13_tokenAt 40 = .ok (.iadd, 1) := by decide +kernel
theorem dX13_tokenAt_41 : decode cX13_tokenAt 41 = .ok (.aload_n 0, 1) := by decide +kernel
theorem dX13_tokenAt_42 : decode cX13_tokenAt 42 = .ok (.getfield 157, 3) := by decide +kernel
theorem dX13_tokenAt_45 : decode cX13_tokenAt 45 = .ok (.if_icmp .gt 14, 3) := by decide +kernel
theorem dX13_tokenAt_48 : decode cX13_tokenAt 48 = .ok (.aload_n 0, 1) := by decide +kernel
theorem dX13_tokenAt_49 : decode cX13_tokenAt 49 = .ok (.ldc 202, 2) := by decide +kernel
theorem dX13_tokenAt_51 : decode cX13_tokenAt 51 = .ok (.iload_n 1, 1) := by decide +kernel
theorem dX13_tokenAt_52 : decode cX13_tokenAt 52 = .ok (.iload_n 3, 1) := by decide +kernel
theorem dX13_tokenAt_53 : decode cX13_tokenAt 53 = .ok (.invokevirtual 204, 3) := by decide +kernel
theorem dX13_tokenAt_56 : decode cX13_tokenAt 56 = .ok (.goto 4, 3) := by decide +kernel
theorem dX13_tokenAt_59 : decode cX13_tokenAt 59 = .ok (.iconst (-1), 1) := by decide +kernel
theorem dX13_tokenAt_60 : decode cX13_tokenAt 60 = .ok (.istore 4, 2) := by decide +kernel
theorem dX13_tokenAt_62 : decode cX13_tokenAt 62 = .ok (.iload 4, 2) := by decide +kernel
theorem dX13_tokenAt_64 : decode cX13_tokenAt 64 = .ok (.iconst (-1), 1) := by decide +kernel
theorem dX13_tokenAt_65 : decode cX13_tokenAt 65 = .ok (.if_icmp .ne 6, 3) := by decide +kernel
theorem dX13_tokenAt_68 : decode cX13_tokenAt 68 = .ok (.goto 15, 3) := by decide +kernel
theorem dX13_tokenAt_71 : decode cX13_tokenAt 71 = .ok (.aload_n 0, 1) := by decide +kernel
theorem dX13_tokenAt_72 : decode cX13_tokenAt 72 = .ok (.iconst 4, 1) := by decide +kernel
theorem dX13_tokenAt_73 : decode cX13_tokenAt 73 = .ok (.iload 4, 2) := by decide +kernel
theorem dX13_tokenAt_75 : decode cX13_tokenAt 75 = .ok (.iload_n 1, 1) := by decide +kernel
theorem dX13_tokenAt_76 : decode cX13_tokenAt 76 = .ok (.invokevirtual 208, 3) := by decide +kernel
theorem dX13_tokenAt_79 : decode cX13_tokenAt 79 = .ok (.iload_n 1, 1) := by decide +kernel
theorem dX13_tokenAt_80 : decode cX13_tokenAt 80 = .ok (.iload_n 3, 1) := by decide +kernel
theorem dX13_tokenAt_81 : decode cX13_tokenAt 81 = .ok (.iadd, 1) := by decide +kernel
theorem dX13_tokenAt_82 : decode cX13_tokenAt 82 = .ok (.ireturn, 1) := by decide +kernel
theorem dX13_tokenAt_83 : decode cX13_tokenAt 83 = .ok (.iinc 3 (-1), 3) := by decide +kernel
theorem dX13_tokenAt_86 : decode cX13_tokenAt 86 = .ok (.goto (-52), 3) := by decide +kernel
theorem dX13_tokenAt_89 : decode cX13_tokenAt 89 = .ok (.iconst (-1), 1) := by decide +kernel
theorem dX13_tokenAt_90 : decode cX13_tokenAt 90 = .ok (.ireturn, 1) := by decide +kernel
theorem dX13_isLetter_0 : decode cX13_isLetter 0 = .ok (.iload_n 0, 1) := by decide +kernel
theorem dX13_isLetter_1 : decode cX13_isLetter 1 = .ok (.bipush 97, 2) := by decide +kernel
theorem dX13_isLetter_3 : decode cX13_isLetter 3 = .ok (.if_icmp .lt 9, 3) := by decide +kernel
theorem dX13_isLetter_6 : decode cX13_isLetter 6 = .ok (.iload_n 0, 1) := by decide +kernel
theorem dX13_isLetter_7 : decode cX13_isLetter 7 = .ok (.bipush 122, 2) := by decide +kernel
theorem dX13_isLetter_9 : decode cX13_isLetter 9 = .ok (.if_icmp .le 21, 3) := by decide +kernel
theorem dX13_isLetter_12 : decode cX13_isLetter 12 = .ok (.iload_n 0, 1) := by decide +kernel
theorem dX13_isLetter_13 : decode cX13_isLetter 13 = .ok (.bipush 65, 2) := by decide +kernel
theorem dX13_isLetter_15 : decode cX13_isLetter 15 = .ok (.if_icmp .lt 9, 3) := by decide +kernel
theorem dX13_isLetter_18 : decode cX13_isLetter 18 = .ok (.iload_n 0, 1) := by decide +kernel
theorem dX13_isLetter_19 : decode cX13_isLetter 19 = .ok (.bipush 90, 2) := by decide +kernel
theorem dX13_isLetter_21 : decode cX13_isLetter 21 = .ok (.if_icmp .le 9, 3) := by decide +kernel
theorem dX13_isLetter_24 : decode cX13_isLetter 24 = .ok (.iload_n 0, 1) := by decide +kernel
theorem dX13_isLetter_25 : decode cX13_isLetter 25 = .ok (.bipush 95, 2) := by decide +kernel
theorem dX13_isLetter_27 : decode cX13_isLetter 27 = .ok (.if_icmp .ne 7, 3) := by decide +kernel
theorem dX13_isLetter_30 : decode cX13_isLetter 30 = .ok (.iconst 1, 1) := by decide +kernel
theorem dX13_isLetter_31 : decode cX13_isLetter 31 = .ok (.goto 4, 3) := by decide +kernel
theorem dX13_isLetter_34 : decode cX13_isLetter 34 = .ok (.iconst 0, 1) := by decide +kernel
theorem dX13_isLetter_35 : decode cX13_isLetter 35 = .ok (.ireturn, 1) := by decide +kernel
theorem dX13_wordToken_0 : decode cX13_wordToken 0 = .ok (.iload_n 1, 1) := by decide +kernel
theorem dX13_wordToken_1 : decode cX13_wordToken 1 = .ok (.istore_n 2, 1) := by decide +kernel
theorem dX13_wordToken_2 : decode cX13_wordToken 2 = .ok (.aload_n 0, 1) := by decide +kernel
theorem dX13_wordToken_3 : decode cX13_wordToken 3 = .ok (.iload_n 2, 1) := by decide +kernel
theorem dX13_wordToken_4 : decode cX13_wordToken 4 = .ok (.invokevirtual 177, 3) := by decide +kernel
theorem dX13_wordToken_7 : decode cX13_wordToken 7 = .ok (.invokestatic 212, 3) := by decide +kernel
theorem dX13_wordToken_10 : decode cX13_wordToken 10 = .ok (.ifCond .eq 9, 3) := by decide +kernel
theorem dX13_wordToken_13 : decode cX13_wordToken 13 = .ok (.iinc 2 1, 3) := by decide +kernel
theorem dX13_wordToken_16 : decode cX13_wordToken 16 = .ok (.goto (-14), 3) := by decide +kernel
theorem dX13_wordToken_19 : decode cX13_wordToken 19 = .ok (.iload_n 2, 1) := by decide +kernel
theorem dX13_wordToken_20 : decode cX13_wordToken 20 = .ok (.iload_n 1, 1) := by decide +kernel
theorem dX13_wordToken_21 : decode cX13_wordToken 21 = .ok (.isub, 1) := by decide +kernel
theorem dX13_wordToken_22 : decode cX13_wordToken 22 = .ok (.bipush 16, 2) := by decide +kernel
theorem dX13_wordToken_24 : decode cX13_wordToken 24 = .ok (.if_icmp .le 5, 3) := by decide +kernel
theorem dX13_wordToken_27 : decode cX13_wordToken 27 = .ok (.iconst (-1), 1) := by decide +kernel
theorem dX13_wordToken_28 : decode cX13_wordToken 28 = .ok (.ireturn, 1) := by decide +kernel
theorem dX13_wordToken_29 : decode cX13_wordToken 29 = .ok (.aload_n 0, 1) := by decide +kernel
theorem dX13_wordToken_30 : decode cX13_wordToken 30 = .ok (.ldc 215, 2) := by decide +kernel
theorem dX13_wordToken_32 : decode cX13_wordToken 32 = .ok (.iload_n 1, 1) := by decide +kernel
theorem dX13_wordToken_33 : decode cX13_wordToken 33 = .ok (.iload_n 2, 1) := by decide +kernel
theorem dX13_wordToken_34 : decode cX13_wordToken 34 = .ok (.iload_n 1, 1) := by decide +kernel
theorem dX13_wordToken_35 : decode cX13_wordToken 35 = .ok (.isub, 1) := by decide +kernel
theorem dX13_wordToken_36 : decode cX13_wordToken 36 = .ok (.invokevirtual 204, 3) := by decide +kernel
theorem dX13_wordToken_39 : decode cX13_wordToken 39 = .ok (.istore_n 3, 1) := by decide +kernel
theorem dX13_wordToken_40 : decode cX13_wordToken 40 = .ok (.aload_n 0, 1) := by decide +kernel
theorem dX13_wordToken_41 : decode cX13_wordToken 41 = .ok (.iload_n 3, 1) := by decide +kernel
theorem dX13_wordToken_42 : decode cX13_wordToken 42 = .ok (.iconst (-1), 1) := by decide +kernel
theorem dX13_wordToken_43 : decode cX13_wordToken 43 = .ok (.if_icmp .ne 7, 3) := by decide +kernel
theorem dX13_wordToken_46 : decode cX13_wordToken 46 = .ok (.iconst 1, 1) := by decide +kernel
theorem dX13_wordToken_47 : decode cX13_wordToken 47 = .ok (.goto 4, 3) := by decide +kernel
theorem dX13_wordToken_50 : decode cX13_wordToken 50 = .ok (.iconst 2, 1) := by decide +kernel
theorem dX13_wordToken_51 : decode cX13_wordToken 51 = .ok (.iload_n 3, 1) := by decide +kernel
theorem dX13_wordToken_52 : decode cX13_wordToken 52 = .ok (.iconst (-1), 1) := by decide +kernel
theorem dX13_wordToken_53 : decode cX13_wordToken 53 = .ok (.if_icmp .ne 14, 3) := by decide +kernel
theorem dX13_wordToken_56 : decode cX13_wordToken 56 = .ok (.aload_n 0, 1) := by decide +kernel
theorem dX13_wordToken_57 : decode cX13_wordToken 57 = .ok (.iload_n 1, 1) := by decide +kernel
theorem dX13_wordToken_58 : decode cX13_wordToken 58 = .ok (.iload_n 2, 1) := by decide +kernel
theorem dX13_wordToken_59 : decode cX13_wordToken 59 = .ok (.iload_n 1, 1) := by decide +kernel
theorem dX13_wordToken_60 : decode cX13_wordToken 60 = .ok (.isub, 1) := by decide +kernel
theorem dX13_wordToken_61 : decode cX13_wordToken 61 = .ok (.invokevirtual 217, 3) := by decide +kernel
theorem dX13_wordToken_64 : decode cX13_wordToken 64 = .ok (.goto 4, 3) := by decide +kernel
theorem dX13_wordToken_67 : decode cX13_wordToken 67 = .ok (.iload_n 3, 1) := by decide +kernel
theorem dX13_wordToken_68 : decode cX13_wordToken 68 = .ok (.iload_n 1, 1) := by decide +kernel
theorem dX13_wordToken_69 : decode cX13_wordToken 69 = .ok (.invokevirtual 208, 3) := by decide +kernel
theorem dX13_wordToken_72 : decode cX13_wordToken 72 = .ok (.iload_n 2, 1) := by decide +kernel
theorem dX13_wordToken_73 : decode cX13_wordToken 73 = .ok (.ireturn, 1) := by decide +kernel
theorem dX13_isInner_0 : decode cX13_isInner 0 = .ok (.iload_n 0, 1) := by decide +kernel
theorem dX13_isInner_1 : decode cX13_isInner 1 = .ok (.invokestatic 160, 3) := by decide +kernel
theorem dX13_isInner_4 : decode cX13_isInner 4 = .ok (.ifCond .ne 10, 3) := by decide +kernel
theorem dX13_isInner_7 : decode cX13_isInner 7 = .ok (.iload_n 0, 1) := by decide +kernel
theorem dX13_isInner_8 : decode cX13_isInner 8 = .ok (.invokestatic 164, 3) := by decide +kernel
theorem dX13_isInner_11 : decode cX13_isInner 11 = .ok (.ifCond .eq 7, 3) := by decide +kernel
theorem dX13_isInner_14 : decode cX13_isInner 14 = .ok (.iconst 1, 1) := by decide +kernel
theorem dX13_isInner_15 : decode cX13_isInner 15 = .ok (.goto 4, 3) := by decide +kernel
theorem dX13_isInner_18 : decode cX13_isInner 18 = .ok (.iconst 0, 1) := by decide +kernel
theorem dX13_isInner_19 : decode cX13_isInner 19 = .ok (.ireturn, 1) := by decide +kernel
theorem dX13_isDigit_0 : decode cX13_isDigit 0 = .ok (.iload_n 0, 1) := by decide +kernel
theorem dX13_isDigit_1 : decode cX13_isDigit 1 = .ok (.bipush 48, 2) := by decide +kernel
theorem dX13_isDigit_3 : decode cX13_isDigit 3 = .ok (.if_icmp .lt 13, 3) := by decide +kernel
theorem dX13_isDigit_6 : decode cX13_isDigit 6 = .ok (.iload_n 0, 1) := by decide +kernel
theorem dX13_isDigit_7 : decode cX13_isDigit 7 = .ok (.bipush 57, 2) := by decide +kernel
theorem dX13_isDigit_9 : decode cX13_isDigit 9 = .ok (.if_icmp .gt 7, 3) := by decide +kernel
theorem dX13_isDigit_12 : decode cX13_isDigit 12 = .ok (.iconst 1, 1) := by decide +kernel
theorem dX13_isDigit_13 : decode cX13_isDigit 13 = .ok (.goto 4, 3) := by decide +kernel
theorem dX13_isDigit_16 : decode cX13_isDigit 16 = .ok (.iconst 0, 1) := by decide +kernel
theorem dX13_isDigit_17 : decode cX13_isDigit 17 = .ok (.ireturn, 1) := by decide +kernel
theorem dX13_placeIn_0 : decode cX13_placeIn 0 = .ok (.iconst 1, 1) := by decide +kernel
theorem dX13_placeIn_1 : decode cX13_placeIn 1 = .ok (.istore 4, 2) := by decide +kernel
theorem dX13_placeIn_3 : decode cX13_placeIn 3 = .ok (.iconst 0, 1) := by decide +kernel
theorem dX13_placeIn_4 : decode cX13_placeIn 4 = .ok (.istore 5, 2) := by decide +kernel
theorem dX13_placeIn_6 : decode cX13_placeIn 6 = .ok (.iload 4, 2) := by decide +kernel
theorem dX13_placeIn_8 : decode cX13_placeIn 8 = .ok (.aload_n 1, 1) := by decide +kernel
theorem dX13_placeIn_9 : decode cX13_placeIn 9 = .ok (.invokevirtual 167, 3) := by decide +kernel
theorem dX13_placeIn_12 : decode cX13_placeIn 12 = .ok (.if_icmp .ge 101, 3) := by decide +kernel
theorem dX13_placeIn_15 : decode cX13_placeIn 15 = .ok (.iconst 0, 1) := by decide +kernel
theorem dX13_placeIn_16 : decode cX13_placeIn 16 = .ok (.istore 6, 2) := by decide +kernel
theorem dX13_placeIn_18 : decode cX13_placeIn 18 = .ok (.aload_n 1, 1) := by decide +kernel
theorem dX13_placeIn_19 : decode cX13_placeIn 19 = .ok (.iload 4, 2) := by decide +kernel
theorem dX13_placeIn_21 : decode cX13_placeIn 21 = .ok (.iload 6, 2) := by decide +kernel
theorem dX13_placeIn_23 : decode cX13_placeIn 23 = .ok (.iadd, 1) := by decide +kernel
theorem dX13_placeIn_24 : decode cX13_placeIn 24 = .ok (.invokevirtual 173, 3) := by decide +kernel
theorem dX13_placeIn_27 : decode cX13_placeIn 27 = .ok (.bipush 32, 2) := by decide +kernel
theorem dX13_placeIn_29 : decode cX13_placeIn 29 = .ok (.if_icmp .eq 35, 3) := by decide +kernel
theorem dX13_placeIn_32 : decode cX13_placeIn 32 = .ok (.iload 6, 2) := by decide +kernel
theorem dX13_placeIn_34 : decode cX13_placeIn 34 = .ok (.iload_n 3, 1) := by decide +kernel
theorem dX13_placeIn_35 : decode cX13_placeIn 35 = .ok (.if_icmp .ge 29, 3) := by decide +kernel
theorem dX13_placeIn_38 : decode cX13_placeIn 38 = .ok (.aload_n 1, 1) := by decide +kernel
theorem dX13_placeIn_39 : decode cX13_placeIn 39 = .ok (.iload 4, 2) := by decide +kernel
theorem dX13_placeIn_41 : decode cX13_placeIn 41 = .ok (.iload 6, 2) := by decide +kernel
theorem dX13_placeIn_43 : decode cX13_placeIn 43 = .ok (.iadd, 1) := by decide +kernel
theorem dX13_placeIn_44 : decode cX13_placeIn 44 = .ok (.invokevirtual 173, 3) := by decide +kernel
theorem dX13_placeIn_47 : decode cX13_placeIn 47 = .ok (.aload_n 0, 1) := by decide +kernel
theorem dX13_placeIn_48 : decode cX13_placeIn 48 = .ok (.iload_n 2, 1) := by decide +kernel
theorem dX13_placeIn_49 : decode cX13_placeIn 49 = .ok (.iload 6, 2) := by decide +kernel
theorem dX13_placeIn_51 : decode cX13_placeIn 51 = .ok (.iadd, 1) := by decide +kernel
theorem dX13_placeIn_52 : decode cX13_placeIn 52 = .ok (.invokevirtual 177, 3) := by decide +kernel
theorem dX13_placeIn_55 : decode cX13_placeIn 55 = .ok (.if_icmp .ne 9, 3) := by decide +kernel
theorem dX13_placeIn_58 : decode cX13_placeIn 58 = .ok (.iinc 6 1, 3) := by decide +kernel
theorem dX13_placeIn_61 : decode cX13_placeIn 61 = .ok (.goto (-43), 3) := by decide +kernel
theorem dX13_placeIn_64 : decode cX13_placeIn 64 = .ok (.iload 6, 2) := by decide +kernel
theorem dX13_placeIn_66 : decode cX13_placeIn 66 = .ok (.iload_n 3, 1) := by decide +kernel
theorem dX13_placeIn_67 : decode cX13_placeIn 67 = .ok (.if_icmp .ne 20, 3) := by decide +kernel
theorem dX13_placeIn_70 : decode cX13_placeIn 70 = .ok (.aload_n 1, 1) := by decide +kernel
theorem dX13_placeIn_71 : decode cX13_placeIn 71 = .ok (.iload 4, 2) := by decide +kernel
theorem dX13_placeIn_73 : decode cX13_placeIn 73 = .ok (.iload 6, 2) := by decide +kernel
theorem dX13_placeIn_75 : decode cX13_placeIn 75 = .ok (.iadd, 1) := by decide +kernel
theorem dX13_placeIn_76 : decode cX13_placeIn 76 = .ok (.invokevirtual 173, 3) := by decide +kernel
theorem dX13_placeIn_79 : decode cX13_placeIn 79 = .ok (.bipush 32, 2) := by decide +kernel
theorem dX13_placeIn_81 : decode cX13_placeIn 81 = .ok (.if_icmp .ne 6, 3) := by decide +kernel
theorem dX13_placeIn_84 : decode cX13_placeIn 84 = .ok (.iload 5, 2) := by decide +kernel
theorem dX13_placeIn_86 : decode cX13_placeIn 86 = .ok (.ireturn, 1) := by decide +kernel
theorem dX13_placeIn_87 : decode cX13_placeIn 87 = .ok (.aload_n 1, 1) := by decide +kernel
theorem dX13_placeIn_88 : decode cX13_placeIn 88 = .ok (.iload 4, 2) := by decide +kernel
theorem dX13_placeIn_90 : decode cX13_placeIn 90 = .ok (.invokevirtual 173, 3) := by decide +kernel
theorem dX13_placeIn_93 : decode cX13_placeIn 93 = .ok (.bipush 32, 2) := by decide +kernel
theorem dX13_placeIn_95 : decode cX13_placeIn 95 = .ok (.if_icmp .eq 9, 3) := by decide +kernel
theorem dX13_placeIn_98 : decode cX13_placeIn 98 = .ok (.iinc 4 1, 3) := by decide +kernel
theorem dX13_placeIn_101 : decode cX13_placeIn 101 = .ok (.goto (-14), 3) := by decide +kernel
theorem dX13_placeIn_104 : decode cX13_placeIn 104 = .ok (.iinc 4 1, 3) := by decide +kernel
theorem dX13_placeIn_107 : decode cX13_placeIn 107 = .ok (.iinc 5 1, 3) := by decide +kernel
theorem dX13_placeIn_110 : decode cX13_placeIn 110 = .ok (.goto (-104), 3) := by decide +kernel
theorem dX13_placeIn_113 : decode cX13_placeIn 113 = .ok (.iconst (-1), 1) := by decide +kernel
theorem dX13_placeIn_114 : decode cX13_placeIn 114 = .ok (.ireturn, 1) := by decide +kernel
