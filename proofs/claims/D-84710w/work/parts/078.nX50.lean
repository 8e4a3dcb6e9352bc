/-! names: X5_init X5_lowerAll X5_lower X25_init X25_lower X26_init X26_lower X27_init X27_lower X28_init X28_lower X28_loop X29_init X29_lower X30_init X30_lower X31_init X31_lower X32_init X32_lower X33_init X33_lower (tools/chunk.py) -/
set_option maxRecDepth 100000
theorem q449 : (Jvm.Cond.methodLinkNest "CompiledHouse$Block0" (1 : Nat) ({ cls := "CompiledHouse$Statement", name := "<init>", desc := "()V" } : Jvm.MethodName) "CompiledHouse") ∈ lw_tbl := lw_at lw_m2 13 rfl
abbrev cX4_init : ByteArray := prog_30_method_1_code
def yX4_init : MethodName := ⟨RX4, "<init>", "()V"⟩
theorem q451 : (Jvm.Cond.code ({ cls := "CompiledHouse$Statement", name := "<init>", desc := "()V" } : Jvm.MethodName) prog_30_method_1_code (1 : Nat) (Option.none : Option Jvm.ClassFile.FieldType)) ∈ lw_all := lw_g (lw_at lw_m2 15 rfl) rfl
theorem q204 : (Jvm.Cond.initialized "CompiledHouse$Statement") ∈ lw_all := lw_g (lw_at lw_m1 8 rfl) rfl
def kX4_init : xK := (yX4_init, cX4_init, 1, none, [])
theorem me_X4_init : xMe kX4_init 0 := ⟨q451, q204, by decide, by decide, by decide +kernel⟩
theorem q450 : (Jvm.Cond.instanceMethod ({ cls := "CompiledHouse$Statement", name := "<init>", desc := "()V" } : Jvm.MethodName)) ∈ lw_all := lw_g (lw_at lw_m2 14 rfl) rfl
theorem is_X4_init : Cond.instanceMethod kX4_init.y ∈ lw_all := q450
theorem lk_X5_1 : xLk RX5 1 yX4_init := Or.inr ⟨_, q449⟩
theorem q453 : (Jvm.Cond.classLink "CompiledHouse$Block0" (7 : Nat) "java/util/ArrayList") ∈ lw_all := lw_g (lw_at lw_m2 17 rfl) rfl
theorem q455 : (Jvm.Cond.methodLink "CompiledHouse$Block0" (9 : Nat) ({ cls := "java/util/ArrayList", name := "<init>", desc := "()V" } : Jvm.MethodName)) ∈ lw_all := lw_g (lw_at lw_m2 19 rfl) rfl
theorem lk_X5_9 : xLk RX5 9 yJ5_init := Or.inl q455
theorem q479 : (Jvm.Cond.fieldLink "CompiledHouse$Block0" (10 : Nat) "CompiledHouse$Block0" "parts" "Ljava/util/ArrayList;") ∈ lw_all := lw_g (lw_at lw_m2 43 rfl) rfl
theorem f_X5_10_4 : xF RX5 10 4 0 := ⟨_, "CompiledHouse$Block0", rfl, by decide, Or.inl q479, Or.inl rfl⟩
theorem q1977 : (Jvm.Cond.methodLink "CompiledHouse$Block0" (30 : Nat) ({ cls := "java/util/ArrayList", name := "size", desc := "()I" } : Jvm.MethodName)) ∈ lw_all := lw_g (lw_at lw_m8 101 rfl) rfl
theorem lk_X5_30 : xLk RX5 30 yJ5_size := Or.inl q1977
theorem q1978 : (Jvm.Cond.methodLink "CompiledHouse$Block0" (33 : Nat) ({ cls := "java/util/ArrayList", name := "get", desc := "(I)Ljava/lang/Object;" } : Jvm.MethodName)) ∈ lw_all := lw_g (lw_at lw_m8 102 rfl) rfl
theorem lk_X5_33 : xLk RX5 33 yJ5_get := Or.inl q1978
theorem q1979 : (Jvm.Cond.classLink "CompiledHouse$Block0" (2 : Nat) "CompiledHouse$Statement") ∈ lw_all := lw_g (lw_at lw_m8 103 rfl) rfl
theorem q1980 : (Jvm.Cond.methodLink "CompiledHouse$Block0" (37 : Nat) ({ cls := "CompiledHouse$Statement", name := "lower", desc := "(LCompiledHouse$Maker;)V" } : Jvm.MethodName)) ∈ lw_all := lw_g (lw_at lw_m8 104 rfl) rfl
abbrev cX5_lower : ByteArray := prog_6_method_2_code
def yX5_lower : MethodName := ⟨RX5, "lower", "(LCompiledHouse$Maker;)V"⟩
theorem q2218 : (Jvm.Cond.code ({ cls := "CompiledHouse$Block0", name := "lower", desc := "(LCompiledHouse$Maker;)V" } : Jvm.MethodName) prog_6_method_2_code (3 : Nat) (Option.none : Option Jvm.ClassFile.FieldType)) ∈ lw_all := lw_g (lw_at lw_m9 102 rfl) rfl
def kX5_lower : xK := (yX5_lower, cX5_lower, 3, none, [])
theorem me_X5_lower : xMe kX5_lower 1 := ⟨q2218, q205, by decide, by decide, by decide +kernel⟩
theorem q2217 : (Jvm.Cond.instanceMethod ({ cls := "CompiledHouse$Block0", name := "lower", desc := "(LCompiledHouse$Maker;)V" } : Jvm.MethodName)) ∈ lw_all := lw_g (lw_at lw_m9 101 rfl) rfl
theorem is_X5_lower : Cond.instanceMethod kX5_lower.y ∈ lw_all := q2217
theorem q2219 : (Jvm.Cond.methodLink "CompiledHouse$Block0" (16 : Nat) ({ cls := "CompiledHouse$Maker", name := "open", desc := "()I" } : Jvm.MethodName)) ∈ lw_all := lw_g (lw_at lw_m9 103 rfl) rfl
theorem lk_X5_16 : xLk RX5 16 yX6_open := Or.inl q2219
theorem q2220 : (Jvm.Cond.methodLink "CompiledHouse$Block0" (22 : Nat) ({ cls := "CompiledHouse$Block0", name := "lowerAll", desc := "(LCompiledHouse$Maker;)V" } : Jvm.MethodName)) ∈ lw_all := lw_g (lw_at lw_m9 104 rfl) rfl
theorem lk_X5_22 : xLk RX5 22 yX5_lowerAll := Or.inl q2220
theorem q2221 : (Jvm.Cond.methodLink "CompiledHouse$Block0" (26 : Nat) ({ cls := "CompiledHouse$Maker", name := "close", desc := "(I)V" } : Jvm.MethodName)) ∈ lw_all := lw_g (lw_at lw_m9 105 rfl) rfl
theorem lk_X5_26 : xLk RX5 26 yX6_close := Or.inl q2221
theorem q1523 : (Jvm.Cond.methodLinkNest "CompiledHouse$TellArray" (3 : Nat) ({ cls := "CompiledHouse$Statement", name := "<init>", desc := "()V" } : Jvm.MethodName) "CompiledHouse") ∈ lw_tbl := lw_at lw_m6 127 rfl
theorem lk_X25_3 : xLk RX25 3 yX4_init := Or.inr ⟨_, q1523⟩
theorem q1525 : (Jvm.Cond.fieldLink "CompiledHouse$TellArray" (9 : Nat) "CompiledHouse$TellArray" "place" "I") ∈ lw_all := lw_g (lw_at lw_m6 129 rfl) rfl
theorem f_X25_9_23 : xF RX25 9 23 1 := ⟨_, "CompiledHouse$TellArray", rfl, by decide, Or.inl q1525, Or.inl rfl⟩
theorem q1524 : (Jvm.Cond.fieldLink "CompiledHouse$TellArray" (15 : Nat) "CompiledHouse$TellArray" "name" "I") ∈ lw_all := lw_g (lw_at lw_m6 128 rfl) rfl
theorem f_X25_15_23 : xF RX25 15 23 0 := ⟨_, "CompiledHouse$TellArray", rfl, by decide, Or.inl q1524, Or.inl rfl⟩
theorem q1526 : (Jvm.Cond.fieldLink "CompiledHouse$TellArray" (18 : Nat) "CompiledHouse$TellArray" "isByte" "Z") ∈ lw_all := lw_g (lw_at lw_m6 130 rfl) rfl
theorem f_X25_18_23 : xF RX25 18 23 2 := ⟨_, "CompiledHouse$TellArray", rfl, by decide, Or.inl q1526, Or.inl rfl⟩
theorem q1527 : (Jvm.Cond.fieldLink "CompiledHouse$TellArray" (22 : Nat) "CompiledHouse$TellArray" "size" "LCompiledHouse$Expr;") ∈ lw_all := lw_g (lw_at lw_m6 131 rfl) rfl
theorem f_X25_22_23 : xF RX25 22 23 3 := ⟨_, "CompiledHouse$TellArray", rfl, by decide, Or.inl q1527, Or.inl rfl⟩
abbrev cX25_lower : ByteArray := prog_34_method_2_code
def yX25_lower : MethodName := ⟨RX25, "lower", "(LCompiledHouse$Maker;)V"⟩
theorem q2300 : (Jvm.Cond.code ({ cls := "CompiledHouse$TellArray", name := "lower", desc := "(LCompiledHouse$Maker;)V" } : Jvm.MethodName) prog_34_method_2_code (5 : Nat) (Option.none : Option Jvm.ClassFile.FieldType)) ∈ lw_all := lw_g (lw_at lw_m9 184 rfl) rfl
def kX25_lower : xK := (yX25_lower, cX25_lower, 5, none, [])
theorem me_X25_lower : xMe kX25_lower 1 := ⟨q2300, q237, by decide, by decide, by decide +kernel⟩
theorem q2299 : (Jvm.Cond.instanceMethod ({ cls := "CompiledHouse$TellArray", name := "lower", desc := "(LCompiledHouse$Maker;)V" } : Jvm.MethodName)) ∈ lw_all := lw_g (lw_at lw_m9 183 rfl) rfl
theorem is_X25_lower : Cond.instanceMethod kX25_lower.y ∈ lw_all := q2299
theorem q2301 : (Jvm.Cond.methodLink "CompiledHouse$TellArray" (26 : Nat) ({ cls := "CompiledHouse$Maker", name := "unused", desc := "(II)V" } : Jvm.MethodName)) ∈ lw_all := lw_g (lw_at lw_m9 185 rfl) rfl
theorem lk_X25_26 : xLk RX25 26 yX6_unused := Or.inl q2301
theorem q2302 : (Jvm.Cond.methodLink "CompiledHouse$TellArray" (32 : Nat) ({ cls := "CompiledHouse$Maker", name := "size", desc := "(LCompiledHouse$Expr;)I" } : Jvm.MethodName)) ∈ lw_all := lw_g (lw_at lw_m9 186 rfl) rfl
theorem lk_X25_32 : xLk RX25 32 yX6_size := Or.inl q2302
theorem q2339 : (Jvm.Cond.methodLinkNest "CompiledHouse$TellArray" (35 : Nat) ({ cls := "CompiledHouse", name := "wordsOf", desc := "(ZI)I" } : Jvm.MethodName) "CompiledHouse") ∈ lw_tbl := lw_at lw_m9 223 rfl
theorem lk_X25_35 : xLk RX25 35 yX0_wordsOf := Or.inr ⟨_, q2339⟩
theorem q2342 : (Jvm.Cond.methodLink "CompiledHouse$TellArray" (39 : Nat) ({ cls := "CompiledHouse$Maker", name := "words", desc := "(II)V" } : Jvm.MethodName)) ∈ lw_all := lw_g (lw_at lw_m9 226 rfl) rfl
theorem lk_X25_39 : xLk RX25 39 yX6_words := Or.inl q2342
theorem q2343 : (Jvm.Cond.classLink "CompiledHouse$TellArray" (42 : Nat) "CompiledHouse$Symbol") ∈ lw_all := lw_g (lw_at lw_m9 227 rfl) rfl
theorem q2344 : (Jvm.Cond.methodLink "CompiledHouse$TellArray" (44 : Nat) ({ cls := "CompiledHouse$Maker", name := "own", desc := "(I)I" } : Jvm.MethodName)) ∈ lw_all := lw_g (lw_at lw_m9 228 rfl) rfl
theorem lk_X25_44 : xLk RX25 44 yX6_own := Or.inl q2344
theorem q2348 : (Jvm.Cond.methodLink "CompiledHouse$TellArray" (48 : Nat) ({ cls := "CompiledHouse$Symbol", name := "<init>", desc := "(III)V" } : Jvm.MethodName)) ∈ lw_all := lw_g (lw_at lw_m9 232 rfl) rfl
theorem lk_X25_48 : xLk RX25 48 yX34_init := Or.inl q2348
theorem q1707 : (Jvm.Cond.fieldLinkNest "CompiledHouse$TellArray" (51 : Nat) "CompiledHouse$Symbol" "isByte" "Z" "CompiledHouse") ∈ lw_tbl := lw_at lw_m7 71 rfl
theorem f_X25_51_32 : xF RX25 51 32 3 := ⟨_, "CompiledHouse$Symbol", rfl, by decide, Or.inr ⟨_, q1707⟩, Or.inl rfl⟩
theorem q1712 : (Jvm.Cond.fieldLinkNest "CompiledHouse$TellArray" (52 : Nat) "CompiledHouse$Symbol" "size" "I" "CompiledHouse") ∈ lw_tbl := lw_at lw_m7 76 rfl
theorem f_X25_52_32 : xF RX25 52 32 4 := ⟨_, "CompiledHouse$Symbol", rfl, by decide, Or.inr ⟨_, q1712⟩, Or.inl rfl⟩
theorem q2349 : (Jvm.Cond.methodLink "CompiledHouse$TellArray" (54 : Nat) ({ cls := "CompiledHouse$Maker", name := "zero", desc := "(LCompiledHouse$Symbol;)V" } : Jvm.MethodName)) ∈ lw_all := lw_g (lw_at lw_m9 233 rfl) rfl
theorem lk_X25_54 : xLk RX25 54 yX6_zero := Or.inl q2349
theorem q2353 : (Jvm.Cond.methodLink "CompiledHouse$TellArray" (58 : Nat) ({ cls := "CompiledHouse$Maker", name := "know", desc := "(LCompiledHouse$Symbol;)V" } : Jvm.MethodName)) ∈ lw_all := lw_g (lw_at lw_m9 237 rfl) rfl
theorem lk_X25_58 : xLk RX25 58 yX6_know := Or.inl q2353
theorem q1542 : (Jvm.Cond.methodLinkNest "CompiledHouse$Tell" (3 : Nat) ({ cls := "CompiledHouse$Statement", name := "<init>", desc := "()V" } : Jvm.MethodName) "CompiledHouse") ∈ lw_tbl := lw_at lw_m6 146 rfl
theorem lk_X26_3 : xLk RX26 3 yX4_init := Or.inr ⟨_, q1542⟩
theorem q1544 : (Jvm.Cond.fieldLink "CompiledHouse$Tell" (9 : Nat) "CompiledHouse$Tell" "place" "I") ∈ lw_all := lw_g (lw_at lw_m6 148 rfl) rfl
theorem f_X26_9_24 : xF RX26 9 24 1 := ⟨_, "CompiledHouse$Tell", rfl, by decide, Or.inl q1544, Or.inl rfl⟩
theorem q1543 : (Jvm.Cond.fieldLink "CompiledHouse$Tell" (15 : Nat) "CompiledHouse$Tell" "name" "I") ∈ lw_all := lw_g (lw_at lw_m6 147 rfl) rfl
theorem f_X26_15_24 : xF RX26 15 24 0 := ⟨_, "CompiledHouse$Tell", rfl, by decide, Or.inl q1543, Or.inl rfl⟩
theorem q1545 : (Jvm.Cond.fieldLink "CompiledHouse$Tell" (18 : Nat) "CompiledHouse$Tell" "first" "LCompiledHouse$Expr;") ∈ lw_all := lw_g (lw_at lw_m6 149 rfl) rfl
theorem f_X26_18_24 : xF RX26 18 24 2 := ⟨_, "CompiledHouse$Tell", rfl, by decide, Or.inl q1545, Or.inl rfl⟩
abbrev cX26_lower : ByteArray := prog_33_method_2_code
def yX26_lower : MethodName := ⟨RX26, "lower", "(LCompiledHouse$Maker;)V"⟩
theorem q2286 : (Jvm.Cond.code ({ cls := "CompiledHouse$Tell", name := "lower", desc := "(LCompiledHouse$Maker;)V" } : Jvm.MethodName) prog_33_method_2_code (5 : Nat) (Option.none : Option Jvm.ClassFile.FieldType)) ∈ lw_all := lw_g (lw_at lw_m9 170 rfl) rfl
def kX26_lower : xK := (yX26_lower, cX26_lower, 5, none, [])
theorem me_X26_lower : xMe kX26_lower 1 := ⟨q2286, q238, by decide, by decide, by decide +kernel⟩
theorem q2285 : (Jvm.Cond.instanceMethod ({ cls := "CompiledHouse$Tell", name := "lower", desc := "(LCompiledHouse$Maker;)V" } : Jvm.MethodName)) ∈ lw_all := lw_g (lw_at lw_m9 169 rfl) rfl
theorem is_X26_lower : Cond.instanceMethod kX26_lower.y ∈ lw_all := q2285
theorem q2287 : (Jvm.Cond.methodLink "CompiledHouse$Tell" (22 : Nat) ({ cls := "CompiledHouse$Maker", name := "unused", desc := "(II)V" } : Jvm.MethodName)) ∈ lw_all := lw_g (lw_at lw_m9 171 rfl) rfl
theorem lk_X26_22 : xLk RX26 22 yX6_unused := Or.inl q2287
theorem q2288 : (Jvm.Cond.methodLink "CompiledHouse$Tell" (28 : Nat) ({ cls := "CompiledHouse$Maker", name := "words", desc := "(II)V" } : Jvm.MethodName)) ∈ lw_all := lw_g (lw_at lw_m9 172 rfl) rfl
theorem lk_X26_28 : xLk RX26 28 yX6_words := Or.inl q2288
theorem q2292 : (Jvm.Cond.methodLink "CompiledHouse$Tell" (31 : Nat) ({ cls := "CompiledHouse$Maker", name := "constant", desc := "(I)J" } : Jvm.MethodName)) ∈ lw_all := lw_g (lw_at lw_m9 176 rfl) rfl
theorem lk_X26_31 : xLk RX26 31 yX6_constant := Or.inl q2292
theorem q2293 : (Jvm.Cond.methodLink "CompiledHouse$Tell" (35 : Nat) ({ cls := "CompiledHouse$Expr", name := "value", desc := "(LCompiledHouse$Maker;)J" } : Jvm.MethodName)) ∈ lw_all := lw_g (lw_at lw_m9 177 rfl) rfl
theorem q2294 : (Jvm.Cond.methodLink "CompiledHouse$Tell" (41 : Nat) ({ cls := "CompiledHouse$Maker", name := "variable", desc := "()I" } : Jvm.MethodName)) ∈ lw_all := lw_g (lw_at lw_m9 178 rfl) rfl
theorem lk_X26_41 : xLk RX26 41 yX6_variable := Or.inl q2294
theorem q2295 : (Jvm.Cond.methodLink "CompiledHouse$Tell" (45 : Nat) ({ cls := "CompiledHouse$Maker", name := "move", desc := "(IJ)V" } : Jvm.MethodName)) ∈ lw_all := lw_g (lw_at lw_m9 179 rfl) rfl
theorem lk_X26_45 : xLk RX26 45 yX6_move := Or.inl q2295
theorem q2296 : (Jvm.Cond.classLink "CompiledHouse$Tell" (49 : Nat) "CompiledHouse$Symbol") ∈ lw_all := lw_g (lw_at lw_m9 180 rfl) rfl
theorem q2297 : (Jvm.Cond.methodLink "CompiledHouse$Tell" (51 : Nat) ({ cls := "CompiledHouse$Symbol", name := "<init>", desc := "(III)V" } : Jvm.MethodName)) ∈ lw_all := lw_g (lw_at lw_m9 181 rfl) rfl
theorem lk_X26_51 : xLk RX26 51 yX34_init := Or.inl q2297
theorem q2298 : (Jvm.Cond.methodLink "CompiledHouse$Tell" (54 : Nat) ({ cls := "CompiledHouse$Maker", name := "know", desc := "(LCompiledHouse$Symbol;)V" } : Jvm.MethodName)) ∈ lw_all := lw_g (lw_at lw_m9 182 rfl) rfl
theorem lk_X26_54 : xLk RX26 54 yX6_know := Or.inl q2298
theorem q1562 : (Jvm.Cond.methodLinkNest "CompiledHouse$If" (1 : Nat) ({ cls := "CompiledHouse$Statement", name := "<init>", desc := "()V" } : Jvm.MethodName) "CompiledHouse") ∈ lw_tbl := lw_at lw_m6 166 rfl
theorem lk_X27_1 : xLk RX27 1 yX4_init := Or.inr ⟨_, q1562⟩
theorem q1563 : (Jvm.Cond.fieldLink "CompiledHouse$If" (7 : Nat) "CompiledHouse$If" "asked" "LCompiledHouse$Expr;") ∈ lw_all := lw_g (lw_at lw_m6 167 rfl) rfl
theorem f_X27_7_25 : xF RX27 7 25 0 := ⟨_, "CompiledHouse$If", rfl, by decide, Or.inl q1563, Or.inl rfl⟩
theorem q1564 : (Jvm.Cond.fieldLink "CompiledHouse$If" (13 : Nat) "CompiledHouse$If" "yes" "LCompiledHouse$Statement;") ∈ lw_all := lw_g (lw_at lw_m6 168 rfl) rfl
theorem f_X27_13_25 : xF RX27 13 25 1 := ⟨_, "CompiledHouse$If", rfl, by decide, Or.inl q1564, Or.inl rfl⟩
theorem q1565 : (Jvm.Cond.fieldLink "CompiledHouse$If" (17 : Nat) "CompiledHouse$If" "no" "LCompiledHouse$Statement;") ∈ lw_all := lw_g (lw_at lw_m6 169 rfl) rfl
theorem f_X27_17_25 : xF RX27 17 25 2 := ⟨_, "CompiledHouse$If", rfl, by decide, Or.inl q1565, Or.inl rfl⟩
abbrev cX27_lower : ByteArray := prog_16_method_2_code
def yX27_lower : MethodName := ⟨RX27, "lower", "(LCompiledHouse$Maker;)V"⟩
theorem q2240 : (Jvm.Cond.code ({ cls := "CompiledHouse$If", name := "lower", desc := "(LCompiledHouse$Maker;)V" } : Jvm.MethodName) prog_16_method_2_code (5 : Nat) (Option.none : Option Jvm.ClassFile.FieldType)) ∈ lw_all := lw_g (lw_at lw_m9 124 rfl) rfl
def kX27_lower : xK := (yX27_lower, cX27_lower, 5, none, [])
theorem me_X27_lower : xMe kX27_lower 1 := ⟨q2240, q239, by decide, by decide, by decide +kernel⟩
theorem q2239 : (Jvm.Cond.instanceMethod ({ cls := "CompiledHouse$If", name := "lower", desc := "(LCompiledHouse$Maker;)V" } : Jvm.MethodName)) ∈ lw_all := lw_g (lw_at lw_m9 123 rfl) rfl
theorem is_X27_lower : Cond.instanceMethod kX27_lower.y ∈ lw_all := q2239
theorem q2241 : (Jvm.Cond.methodLink "CompiledHouse$If" (20 : Nat) ({ cls := "CompiledHouse$Maker", name := "block", desc := "()LCompiledHouse$Block;" } : Jvm.MethodName)) ∈ lw_all := lw_g (lw_at lw_m9 125 rfl) rfl
theorem lk_X27_20 : xLk RX27 20 yX6_block := Or.inl q2241
theorem q2242 : (Jvm.Cond.methodLink "CompiledHouse$If" (26 : Nat) ({ cls := "CompiledHouse$Expr", name := "branch", desc := "(LCompiledHouse$Maker;LCompiledHouse$Block;LCompiledHouse$Block;)V" } : Jvm.MethodName)) ∈ lw_all := lw_g (lw_at lw_m9 126 rfl) rfl
theorem lk_X27_26 : xLk RX27 26 yX15_branch := Or.inl q2242
theorem q2243 : (Jvm.Cond.methodLink "CompiledHouse$If" (32 : Nat) ({ cls := "CompiledHouse$Maker", name := "at", desc := "(LCompiledHouse$Block;)V" } : Jvm.MethodName)) ∈ lw_all := lw_g (lw_at lw_m9 127 rfl) rfl
theorem lk_X27_32 : xLk RX27 32 yX6_at := Or.inl q2243
theorem q2244 : (Jvm.Cond.methodLink "CompiledHouse$If" (36 : Nat) ({ cls := "CompiledHouse$Maker", name := "scoped", desc := "(LCompiledHouse$Statement;)V" } : Jvm.MethodName)) ∈ lw_all := lw_g (lw_at lw_m9 128 rfl) rfl
theorem lk_X27_36 : xLk RX27 36 yX6_scoped := Or.inl q2244
theorem q2369 : (Jvm.Cond.methodLink "CompiledHouse$If" (40 : Nat) ({ cls := "CompiledHouse$Maker", name := "jump", desc := "(LCompiledHouse$Block;)V" } : Jvm.MethodName)) ∈ lw_all := lw_g (lw_at lw_m10 13 rfl) rfl
theorem lk_X27_40 : xLk RX27 40 yX6_jump := Or.inl q2369
theorem q1582 : (Jvm.Cond.methodLinkNest "CompiledHouse$Loop" (1 : Nat) ({ cls := "CompiledHouse$Statement", name := "<init>", desc := "()V" } : Jvm.MethodName) "CompiledHouse") ∈ lw_tbl := lw_at lw_m6 186 rfl
theorem lk_X28_1 : xLk RX28 1 yX4_init := Or.inr ⟨_, q1582⟩
theorem q1583 : (Jvm.Cond.fieldLink "CompiledHouse$Loop" (7 : Nat) "CompiledHouse$Loop" "start" "LCompiledHouse$Statement;") ∈ lw_all := lw_g (lw_at lw_m6 187 rfl) rfl
theorem f_X28_7_26 : xF RX28 7 26 0 := ⟨_, "CompiledHouse$Loop", rfl, by decide, Or.inl q1583, Or.inl rfl⟩
theorem q1585 : (Jvm.Cond.fieldLink "CompiledHouse$Loop" (13 : Nat) "CompiledHouse$Loop" "asked" "LCompiledHouse$Expr;") ∈ lw_all := lw_g (lw_at lw_m6 189 rfl) rfl
theorem f_X28_13_26 : xF RX28 13 26 2 := ⟨_, "CompiledHouse$Loop", rfl, by decide, Or.inl q1585, Or.inl rfl⟩
theorem q1584 : (Jvm.Cond.fieldLink "CompiledHouse$Loop" (17 : Nat) "CompiledHouse$Loop" "step" "LCompiledHouse$Statement;") ∈ lw_all := lw_g (lw_at lw_m6 188 rfl) rfl
theorem f_X28_17_26 : xF RX28 17 26 1 := ⟨_, "CompiledHouse$Loop", rfl, by decide, Or.inl q1584, Or.inl rfl⟩
theorem q1586 : (Jvm.Cond.fieldLink "CompiledHouse$Loop" (20 : Nat) "CompiledHouse$Loop" "body" "LCompiledHouse$Statement;") ∈ lw_all := lw_g (lw_at lw_m6 190 rfl) rfl
theorem f_X28_20_26 : xF RX28 20 26 3 := ⟨_, "CompiledHouse$Loop", rfl, by decide, Or.inl q1586, Or.inl rfl⟩
theorem q1587 : (Jvm.Cond.fieldLink "CompiledHouse$Loop" (23 : Nat) "CompiledHouse$Loop" "isDo" "Z") ∈ lw_all := lw_g (lw_at lw_m6 191 rfl) rfl
theorem f_X28_23_26 : xF RX28 23 26 4 := ⟨_, "CompiledHouse$Loop", rfl, by decide, Or.inl q1587, Or.inl rfl⟩
abbrev cX28_lower : ByteArray := prog_21_method_2_code
def yX28_lower : MethodName := ⟨RX28, "lower", "(LCompiledHouse$Maker;)V"⟩
theorem q2256 : (Jvm.Cond.code ({ cls := "CompiledHouse$Loop", name := "lower", desc := "(LCompiledHouse$Maker;)V" } : Jvm.MethodName) prog_21_method_2_code (7 : Nat) (Option.none : Option Jvm.ClassFile.FieldType)) ∈ lw_all := lw_g (lw_at lw_m9 140 rfl) rfl
def kX28_lower : xK := (yX28_lower, cX28_lower, 7, none, [])
theorem me_X28_lower : xMe kX28_lower 1 := ⟨q2256, q240, by decide, by decide, by decide +kernel⟩
theorem q2255 : (Jvm.Cond.instanceMethod ({ cls := "CompiledHouse$Loop", name := "lower", desc := "(LCompiledHouse$Maker;)V" } : Jvm.MethodName)) ∈ lw_all := lw_g (lw_at lw_m9 139 rfl) rfl
theorem is_X28_lower : Cond.instanceMethod kX28_lower.y ∈ lw_all := q2255
theorem q2257 : (Jvm.Cond.methodLink "CompiledHouse$Loop" (27 : Nat) ({ cls := "CompiledHouse$Maker", name := "open", desc := "()I" } : Jvm.MethodName)) ∈ lw_all := lw_g (lw_at lw_m9 141 rfl) rfl
theorem lk_X28_27 : xLk RX28 27 yX6_open := Or.inl q2257
theorem q2258 : (Jvm.Cond.methodLink "CompiledHouse$Loop" (33 : Nat) ({ cls := "CompiledHouse$Statement", name := "lower", desc := "(LCompiledHouse$Maker;)V" } : Jvm.MethodName)) ∈ lw_all := lw_g (lw_at lw_m9 142 rfl) rfl
theorem q2354 : (Jvm.Cond.methodLink "CompiledHouse$Loop" (37 : Nat) ({ cls := "CompiledHouse$Maker", name := "block", desc := "()LCompiledHouse$Block;" } : Jvm.MethodName)) ∈ lw_all := lw_g (lw_at lw_m9 238 rfl) rfl
theorem lk_X28_37 : xLk RX28 37 yX6_block := Or.inl q2354
theorem q2355 : (Jvm.Cond.methodLink "CompiledHouse$Loop" (41 : Nat) ({ cls := "CompiledHouse$Maker", name := "jump", desc := "(LCompiledHouse$Block;)V" } : Jvm.MethodName)) ∈ lw_all := lw_g (lw_at lw_m9 239 rfl) rfl
theorem lk_X28_41 : xLk RX28 41 yX6_jump := Or.inl q2355
theorem q2356 : (Jvm.Cond.methodLink "CompiledHouse$Loop" (45 : Nat) ({ cls := "CompiledHouse$Loop", name := "loop", desc := "(LCompiledHouse$Maker;LCompiledHouse$Block;LCompiledHouse$Block;LCompiledHouse$Block;)V" } : Jvm.MethodName)) ∈ lw_all := lw_g (lw_at lw_m10 0 rfl) rfl
abbrev cX28_loop : ByteArray := prog_21_method_3_code
def yX28_loop : MethodName := ⟨RX28, "loop", "(LCompiledHouse$Maker;LCompiledHouse$Block;LCompiledHouse$Block;LCompiledHouse$Block;)V"⟩
theorem q2359 : (Jvm.Cond.code ({ cls := "CompiledHouse$Loop", name := "loop", desc := "(LCompiledHouse$Maker;LCompiledHouse$Block;LCompiledHouse$Block;LCompiledHouse$Block;)V" } : Jvm.MethodName) prog_21_method_3_code (7 : Nat) (Option.none : Option Jvm.ClassFile.FieldType)) ∈ lw_all := lw_g (lw_at lw_m10 3 rfl) rfl
def kX28_loop : xK := (yX28_loop, cX28_loop, 7, none, [])
theorem me_X28_loop : xMe kX28_loop 4 := ⟨q2359, q240, by decide, by decide, by decide +kernel⟩
theorem q2358 : (Jvm.Cond.instanceMethod ({ cls := "CompiledHouse$Loop", name := "loop", desc := "(LCompiledHouse$Maker;LCompiledHouse$Block;LCompiledHouse$Block;LCompiledHouse$Block;)V" } : Jvm.MethodName)) ∈ lw_all := lw_g (lw_at lw_m10 2 rfl) rfl
theorem is_X28_loop : Cond.instanceMethod kX28_loop.y ∈ lw_all := q2358
theorem se_X28_loop : Cond.selects RX28 kX28_loop.y kX28_loop.y ∈ lw_all := qs48
theorem lk_X28_45 : xLk RX28 45 yX28_loop := Or.inl q2356
theorem q2360 : (Jvm.Cond.methodLink "CompiledHouse$Loop" (49 : Nat) ({ cls := "CompiledHouse$Maker", name := "at", desc := "(LCompiledHouse$Block;)V" } : Jvm.MethodName)) ∈ lw_all := lw_g (lw_at lw_m10 4 rfl) rfl
theorem lk_X28_49 : xLk RX28 49 yX6_at := Or.inl q2360
theorem q2366 : (Jvm.Cond.methodLink "CompiledHouse$Loop" (52 : Nat) ({ cls := "CompiledHouse$Expr", name := "branch", desc := "(LCompiledHouse$Maker;LCompiledHouse$Block;LCompiledHouse$Block;)V" } : Jvm.MethodName)) ∈ lw_all := lw_g (lw_at lw_m10 10 rfl) rfl
theorem lk_X28_52 : xLk RX28 52 yX15_branch := Or.inl q2366
theorem q2367 : (Jvm.Cond.methodLink "CompiledHouse$Loop" (58 : Nat) ({ cls := "CompiledHouse$Maker", name := "close", desc := "(I)V" } : Jvm.MethodName)) ∈ lw_all := lw_g (lw_at lw_m10 11 rfl) rfl
theorem lk_X28_58 : xLk RX28 58 yX6_close := Or.inl q2367
theorem q2361 : (Jvm.Cond.methodLink "CompiledHouse$Loop" (62 : Nat) ({ cls := "CompiledHouse$Maker", name := "turn", desc := "()V" } : Jvm.MethodName)) ∈ lw_all := lw_g (lw_at lw_m10 5 rfl) rfl
theorem lk_X28_62 : xLk RX28 62 yX6_turn := Or.inl q2361
theorem q535 : (Jvm.Cond.fieldLinkNest "CompiledHouse$Loop" (65 : Nat) "CompiledHouse$Maker" "breaks" "LCompiledHouse$Block;" "CompiledHouse") ∈ lw_tbl := lw_at lw_m2 99 rfl
theorem f_X28_65_5 : xF RX28 65 5 11 := ⟨_, "CompiledHouse$Maker", rfl, by decide, Or.inr ⟨_, q535⟩, Or.inl rfl⟩
theorem q538 : (Jvm.Cond.fieldLinkNest "CompiledHouse$Loop" (69 : Nat) "CompiledHouse$Maker" "continues" "LCompiledHouse$Block;" "CompiledHouse") ∈ lw_tbl := lw_at lw_m2 102 rfl
theorem f_X28_69_5 : xF RX28 69 5 12 := ⟨_, "CompiledHouse$Maker", rfl, by decide, Or.inr ⟨_, q538⟩, Or.inl rfl⟩
theorem q2365 : (Jvm.Cond.methodLink "CompiledHouse$Loop" (72 : Nat) ({ cls := "CompiledHouse$Maker", name := "scoped", desc := "(LCompiledHouse$Statement;)V" } : Jvm.MethodName)) ∈ lw_all := lw_g (lw_at lw_m10 9 rfl) rfl
theorem lk_X28_72 : xLk RX28 72 yX6_scoped := Or.inl q2365
theorem q1612 : (Jvm.Cond.methodLinkNest "CompiledHouse$Do" (1 : Nat) ({ cls := "CompiledHouse$Statement", name := "<init>", desc := "()V" } : Jvm.MethodName) "CompiledHouse") ∈ lw_tbl := lw_at lw_m6 216 rfl
theorem lk_X29_1 : xLk RX29 1 yX4_init := Or.inr ⟨_, q1612⟩
theorem q1613 : (Jvm.Cond.fieldLink "CompiledHouse$Do" (7 : Nat) "CompiledHouse$Do" "call" "LCompiledHouse$Call;") ∈ lw_all := lw_g (lw_at lw_m6 217 rfl) rfl
theorem f_X29_7_27 : xF RX29 7 27 0 := ⟨_, "CompiledHouse$Do", rfl, by decide, Or.inl q1613, Or.inl rfl⟩
abbrev cX29_lower : ByteArray := prog_12_method_2_code
def yX29_lower : MethodName := ⟨RX29, "lower", "(LCompiledHouse$Maker;)V"⟩
theorem q2236 : (Jvm.Cond.code ({ cls := "CompiledHouse$Do", name := "lower", desc := "(LCompiledHouse$Maker;)V" } : Jvm.MethodName) prog_12_method_2_code (4 : Nat) (Option.none : Option Jvm.ClassFile.FieldType)) ∈ lw_all := lw_g (lw_at lw_m9 120 rfl) rfl
def kX29_lower : xK := (yX29_lower, cX29_lower, 4, none, [])
theorem me_X29_lower : xMe kX29_lower 1 := ⟨q2236, q241, by decide, by decide, by decide +kernel⟩
theorem q2235 : (Jvm.Cond.instanceMethod ({ cls := "CompiledHouse$Do", name := "lower", desc := "(LCompiledHouse$Maker;)V" } : Jvm.MethodName)) ∈ lw_all := lw_g (lw_at lw_m9 119 rfl) rfl
theorem is_X29_lower : Cond.instanceMethod kX29_lower.y ∈ lw_all := q2235
theorem q2237 : (Jvm.Cond.methodLink "CompiledHouse$Do" (13 : Nat) ({ cls := "CompiledHouse$Call", name := "call", desc := "(LCompiledHouse$Maker;Z)J" } : Jvm.MethodName)) ∈ lw_all := lw_g (lw_at lw_m9 121 rfl) rfl
theorem lk_X29_13 : xLk RX29 13 yX17_call := Or.inl q2237
theorem q1622 : (Jvm.Cond.methodLinkNest "CompiledHouse$Assign" (1 : Nat) ({ cls := "CompiledHouse$Statement", name := "<init>", desc := "()V" } : Jvm.MethodName) "CompiledHouse") ∈ lw_tbl := lw_at lw_m6 226 rfl
theorem lk_X30_1 : xLk RX30 1 yX4_init := Or.inr ⟨_, q1622⟩
theorem q1623 : (Jvm.Cond.fieldLink "CompiledHouse$Assign" (7 : Nat) "CompiledHouse$Assign" "place" "LCompiledHouse$Name;") ∈ lw_all := lw_g (lw_at lw_m6 227 rfl) rfl
theorem f_X30_7_28 : xF RX30 7 28 0 := ⟨_, "CompiledHouse$Assign", rfl, by decide, Or.inl q1623, Or.inl rfl⟩
theorem q1624 : (Jvm.Cond.fieldLink "CompiledHouse$Assign" (13 : Nat) "CompiledHouse$Assign" "act" "I") ∈ lw_all := lw_g (lw_at lw_m6 228 rfl) rfl
theorem f_X30_13_28 : xF RX30 13 28 1 := ⟨_, "CompiledHouse$Assign", rfl, by decide, Or.inl q1624, Or.inl rfl⟩
theorem q1625 : (Jvm.Cond.fieldLink "CompiledHouse$Assign" (17 : Nat) "CompiledHouse$Assign" "of" "LCompiledHouse$Expr;") ∈ lw_all := lw_g (lw_at lw_m6 229 rfl) rfl
theorem f_X30_17_28 : xF RX30 17 28 2 := ⟨_, "CompiledHouse$Assign", rfl, by decide, Or.inl q1625, Or.inl rfl⟩
abbrev cX30_lower : ByteArray := prog_4_method_2_code
def yX30_lower : MethodName := ⟨RX30, "lower", "(LCompiledHouse$Maker;)V"⟩
theorem q1985 : (Jvm.Cond.code ({ cls := "CompiledHouse$Assign", name := "lower", desc := "(LCompiledHouse$Maker;)V" } : Jvm.MethodName) prog_4_method_2_code (9 : Nat) (Option.none : Option Jvm.ClassFile.FieldType)) ∈ lw_all := lw_g (lw_at lw_m8 109 rfl) rfl
def kX30_lower : xK := (yX30_lower, cX30_lower, 9, none, [])
theorem me_X30_lower : xMe kX30_lower 1 := ⟨q1985, q242, by decide, by decide, by decide +kernel⟩
theorem q1984 : (Jvm.Cond.instanceMethod ({ cls := "CompiledHouse$Assign", name := "lower", desc := "(LCompiledHouse$Maker;)V" } : Jvm.MethodName)) ∈ lw_all := lw_g (lw_at lw_m8 108 rfl) rfl
theorem is_X30_lower : Cond.instanceMethod kX30_lower.y ∈ lw_all := q1984
theorem q1986 : (Jvm.Cond.methodLink "CompiledHouse$Assign" (21 : Nat) ({ cls := "CompiledHouse$Name", name := "target", desc := "(LCompiledHouse$Maker;)LCompiledHouse$Symbol;" } : Jvm.MethodName)) ∈ lw_all := lw_g (lw_at lw_m8 110 rfl) rfl
theorem lk_X30_21 : xLk RX30 21 yX18_target := Or.inl q1986
theorem q1353 : (Jvm.Cond.fieldLinkNest "CompiledHouse$Assign" (27 : Nat) "CompiledHouse$Name" "index" "LCompiledHouse$Expr;" "CompiledHouse") ∈ lw_tbl := lw_at lw_m5 197 rfl
theorem f_X30_27_16 : xF RX30 27 16 4 := ⟨_, "CompiledHouse$Name", rfl, by decide, Or.inr ⟨_, q1353⟩, Or.inl rfl⟩
theorem q2003 : (Jvm.Cond.methodLink "CompiledHouse$Assign" (30 : Nat) ({ cls := "CompiledHouse$Maker", name := "constant", desc := "(I)J" } : Jvm.MethodName)) ∈ lw_all := lw_g (lw_at lw_m8 127 rfl) rfl
theorem lk_X30_30 : xLk RX30 30 yX6_constant := Or.inl q2003
theorem q1351 : (Jvm.Cond.fieldLinkNest "CompiledHouse$Assign" (36 : Nat) "CompiledHouse$Name" "row" "I" "CompiledHouse") ∈ lw_tbl := lw_at lw_m5 195 rfl
theorem f_X30_36_16 : xF RX30 36 16 3 := ⟨_, "CompiledHouse$Name", rfl, by decide, Or.inr ⟨_, q1351⟩, Or.inl rfl⟩
theorem q2008 : (Jvm.Cond.methodLink "CompiledHouse$Assign" (39 : Nat) ({ cls := "CompiledHouse$Maker", name := "index", desc := "(LCompiledHouse$Symbol;LCompiledHouse$Expr;I)J" } : Jvm.MethodName)) ∈ lw_all := lw_g (lw_at lw_m8 132 rfl) rfl
theorem lk_X30_39 : xLk RX30 39 yX6_index := Or.inl q2008
theorem q2202 : (Jvm.Cond.methodLink "CompiledHouse$Assign" (42 : Nat) ({ cls := "CompiledHouse$Maker", name := "load", desc := "(LCompiledHouse$Symbol;)J" } : Jvm.MethodName)) ∈ lw_all := lw_g (lw_at lw_m9 86 rfl) rfl
theorem lk_X30_42 : xLk RX30 42 yX6_load := Or.inl q2202
theorem q2203 : (Jvm.Cond.methodLink "CompiledHouse$Assign" (46 : Nat) ({ cls := "CompiledHouse$Maker", name := "element", desc := "(LCompiledHouse$Symbol;J)J" } : Jvm.MethodName)) ∈ lw_all := lw_g (lw_at lw_m9 87 rfl) rfl
theorem lk_X30_46 : xLk RX30 46 yX6_element := Or.inl q2203
theorem q2204 : (Jvm.Cond.methodLink "CompiledHouse$Assign" (50 : Nat) ({ cls := "CompiledHouse$Expr", name := "value", desc := "(LCompiledHouse$Maker;)J" } : Jvm.MethodName)) ∈ lw_all := lw_g (lw_at lw_m9 88 rfl) rfl
theorem q2205 : (Jvm.Cond.methodLink "CompiledHouse$Assign" (56 : Nat) ({ cls := "CompiledHouse$Maker", name := "act", desc := "(IJJ)J" } : Jvm.MethodName)) ∈ lw_all := lw_g (lw_at lw_m9 89 rfl) rfl
theorem lk_X30_56 : xLk RX30 56 yX6_act := Or.inl q2205
theorem q2206 : (Jvm.Cond.methodLink "CompiledHouse$Assign" (59 : Nat) ({ cls := "CompiledHouse$Maker", name := "store", desc := "(LCompiledHouse$Symbol;J)V" } : Jvm.MethodName)) ∈ lw_all := lw_g (lw_at lw_m9 90 rfl) rfl
theorem lk_X30_59 : xLk RX30 59 yX6_store := Or.inl q2206
theorem q2215 : (Jvm.Cond.methodLink "CompiledHouse$Assign" (63 : Nat) ({ cls := "CompiledHouse$Maker", name := "storeElement", desc := "(LCompiledHouse$Symbol;JJ)V" } : Jvm.MethodName)) ∈ lw_all := lw_g (lw_at lw_m9 99 rfl) rfl
theorem lk_X30_63 : xLk RX30 63 yX6_storeElement := Or.inl q2215
theorem q1640 : (Jvm.Cond.methodLinkNest "CompiledHouse$Leave" (1 : Nat) ({ cls := "CompiledHouse$Statement", name := "<init>", desc := "()V" } : Jvm.MethodName) "CompiledHouse") ∈ lw_tbl := lw_at lw_m7 4 rfl
theorem lk_X31_1 : xLk RX31 1 yX4_init := Or.inr ⟨_, q1640⟩
theorem q1641 : (Jvm.Cond.fieldLink "CompiledHouse$Leave" (7 : Nat) "CompiledHouse$Leave" "place" "I") ∈ lw_all := lw_g (lw_at lw_m7 5 rfl) rfl
theorem f_X31_7_29 : xF RX31 7 29 0 := ⟨_, "CompiledHouse$Leave", rfl, by decide, Or.inl q1641, Or.inl rfl⟩
theorem q1642 : (Jvm.Cond.fieldLink "CompiledHouse$Leave" (13 : Nat) "CompiledHouse$Leave" "isBreak" "Z") ∈ lw_all := lw_g (lw_at lw_m7 6 rfl) rfl
theorem f_X31_13_29 : xF RX31 13 29 1 := ⟨_, "CompiledHouse$Leave", rfl, by decide, Or.inl q1642, Or.inl rfl⟩
abbrev cX31_lower : ByteArray := prog_18_method_2_code
def yX31_lower : MethodName := ⟨RX31, "lower", "(LCompiledHouse$Maker;)V"⟩
theorem q2250 : (Jvm.Cond.code ({ cls := "CompiledHouse$Leave", name := "lower", desc := "(LCompiledHouse$Maker;)V" } : Jvm.MethodName) prog_18_method_2_code (2 : Nat) (Option.none : Option Jvm.ClassFile.FieldType)) ∈ lw_all := lw_g (lw_at lw_m9 134 rfl) rfl
def kX31_lower : xK := (yX31_lower, cX31_lower, 2, none, [])
theorem me_X31_lower : xMe kX31_lower 1 := ⟨q2250, q243, by decide, by decide, by decide +kernel⟩
theorem q2249 : (Jvm.Cond.instanceMethod ({ cls := "CompiledHouse$Leave", name := "lower", desc := "(LCompiledHouse$Maker;)V" } : Jvm.MethodName)) ∈ lw_all := lw_g (lw_at lw_m9 133 rfl) rfl
theorem is_X31_lower : Cond.instanceMethod kX31_lower.y ∈ lw_all := q2249
theorem q534 : (Jvm.Cond.fieldLinkNest "CompiledHouse$Leave" (17 : Nat) "CompiledHouse$Maker" "breaks" "LCompiledHouse$Block;" "CompiledHouse") ∈ lw_tbl := lw_at lw_m2 98 rfl
theorem f_X31_17_5 : xF RX31 17 5 11 := ⟨_, "CompiledHouse$Maker", rfl, by decide, Or.inr ⟨_, q534⟩, Or.inl rfl⟩
theorem q2251 : (Jvm.Cond.methodLink "CompiledHouse$Leave" (23 : Nat) ({ cls := "CompiledHouse$Maker", name := "fault", desc := "(II)LCompiledHouse$Stop;" } : Jvm.MethodName)) ∈ lw_all := lw_g (lw_at lw_m9 135 rfl) rfl
theorem lk_X31_23 : xLk RX31 23 yX6_fault := Or.inl q2251
theorem q537 : (Jvm.Cond.fieldLinkNest "CompiledHouse$Leave" (27 : Nat) "CompiledHouse$Maker" "continues" "LCompiledHouse$Block;" "CompiledHouse") ∈ lw_tbl := lw_at lw_m2 101 rfl
theorem f_X31_27_5 : xF RX31 27 5 12 := ⟨_, "CompiledHouse$Maker", rfl, by decide, Or.inr ⟨_, q537⟩, Or.inl rfl⟩
theorem q2252 : (Jvm.Cond.methodLink "CompiledHouse$Leave" (30 : Nat) ({ cls := "CompiledHouse$Maker", name := "jump", desc := "(LCompiledHouse$Block;)V" } : Jvm.MethodName)) ∈ lw_all := lw_g (lw_at lw_m9 136 rfl) rfl
theorem lk_X31_30 : xLk RX31 30 yX6_jump := Or.inl q2252
theorem q2253 : (Jvm.Cond.methodLink "CompiledHouse$Leave" (34 : Nat) ({ cls := "CompiledHouse$Maker", name := "block", desc := "()LCompiledHouse$Block;" } : Jvm.MethodName)) ∈ lw_all := lw_g (lw_at lw_m9 137 rfl) rfl
theorem lk_X31_34 : xLk RX31 34 yX6_block := Or.inl q2253
theorem q2254 : (Jvm.Cond.methodLink "CompiledHouse$Leave" (38 : Nat) ({ cls := "CompiledHouse$Maker", name := "at", desc := "(LCompiledHouse$Block;)V" } : Jvm.MethodName)) ∈ lw_all := lw_g (lw_at lw_m9 138 rfl) rfl
theorem lk_X31_38 : xLk RX31 38 yX6_at := Or.inl q2254
theorem q1653 : (Jvm.Cond.methodLinkNest "CompiledHouse$Return" (1 : Nat) ({ cls := "CompiledHouse$Statement", name := "<init>", desc := "()V" } : Jvm.MethodName) "CompiledHouse") ∈ lw_tbl := lw_at lw_m7 17 rfl
theorem lk_X32_1 : xLk RX32 1 yX4_init := Or.inr ⟨_, q1653⟩
theorem q1654 : (Jvm.Cond.fieldLink "CompiledHouse$Return" (7 : Nat) "CompiledHouse$Return" "behind" "I") ∈ lw_all := lw_g (lw_at lw_m7 18 rfl) rfl
theorem f_X32_7_30 : xF RX32 7 30 0 := ⟨_, "CompiledHouse$Return", rfl, by decide, Or.inl q1654, Or.inl rfl⟩
theorem q1655 : (Jvm.Cond.fieldLink "CompiledHouse$Return" (13 : Nat) "CompiledHouse$Return" "of" "LCompiledHouse$Expr;") ∈ lw_all := lw_g (lw_at lw_m7 19 rfl) rfl
theorem f_X32_13_30 : xF RX32 13 30 1 := ⟨_, "CompiledHouse$Return", rfl, by decide, Or.inl q1655, Or.inl rfl⟩
abbrev cX32_lower : ByteArray := prog_29_method_2_code
def yX32_lower : MethodName := ⟨RX32, "lower", "(LCompiledHouse$Maker;)V"⟩
theorem q2273 : (Jvm.Cond.code ({ cls := "CompiledHouse$Return", name := "lower", desc := "(LCompiledHouse$Maker;)V" } : Jvm.MethodName) prog_29_method_2_code (2 : Nat) (Option.none : Option Jvm.ClassFile.FieldType)) ∈ lw_all := lw_g (lw_at lw_m9 157 rfl) rfl
def kX32_lower : xK := (yX32_lower, cX32_lower, 2, none, [])
theorem me_X32_lower : xMe kX32_lower 1 := ⟨q2273, q244, by decide, by decide, by decide +kernel⟩
theorem q2272 : (Jvm.Cond.instanceMethod ({ cls := "CompiledHouse$Return", name := "lower", desc := "(LCompiledHouse$Maker;)V" } : Jvm.MethodName)) ∈ lw_all := lw_g (lw_at lw_m9 156 rfl) rfl
theorem is_X32_lower : Cond.instanceMethod kX32_lower.y ∈ lw_all := q2272
theorem q530 : (Jvm.Cond.fieldLinkNest "CompiledHouse$Return" (17 : Nat) "CompiledHouse$Maker" "told" "LCompiledHouse$Told;" "CompiledHouse") ∈ lw_tbl := lw_at lw_m2 94 rfl
theorem f_X32_17_5 : xF RX32 17 5 8 := ⟨_, "CompiledHouse$Maker", rfl, by decide, Or.inr ⟨_, q530⟩, Or.inl rfl⟩
theorem q1117 : (Jvm.Cond.fieldLinkNest "CompiledHouse$Return" (23 : Nat) "CompiledHouse$Told" "isVoid" "Z" "CompiledHouse") ∈ lw_tbl := lw_at lw_m4 201 rfl
theorem f_X32_23_13 : xF RX32 23 13 4 := ⟨_, "CompiledHouse$Told", rfl, by decide, Or.inr ⟨_, q1117⟩, Or.inl rfl⟩
theorem q2274 : (Jvm.Cond.methodLink "CompiledHouse$Return" (29 : Nat) ({ cls := "CompiledHouse$Expr", name := "leading", desc := "()I" } : Jvm.MethodName)) ∈ lw_all := lw_g (lw_at lw_m9 158 rfl) rfl
theorem lk_X32_29 : xLk RX32 29 yX15_leading := Or.inl q2274
theorem q1203 : (Jvm.Cond.fieldLink "CompiledHouse$Return" (35 : Nat) "CompiledHouse$Expr" "first" "I") ∈ lw_all := lw_g (lw_at lw_m5 47 rfl) rfl
theorem f_X32_35_14 : xF RX32 35 14 0 := ⟨_, "CompiledHouse$Expr", rfl, by decide, Or.inl q1203, Or.inl rfl⟩
theorem f_X32_35_15 : xF RX32 35 15 0 := ⟨_, "CompiledHouse$Expr", rfl, by decide, Or.inl q1203, Or.inl rfl⟩
theorem f_X32_35_16 : xF RX32 35 16 0 := ⟨_, "CompiledHouse$Expr", rfl, by decide, Or.inl q1203, Or.inl rfl⟩
theorem f_X32_35_17 : xF RX32 35 17 0 := ⟨_, "CompiledHouse$Expr", rfl, by decide, Or.inl q1203, Or.inl rfl⟩
theorem f_X32_35_18 : xF RX32 35 18 0 := ⟨_, "CompiledHouse$Expr", rfl, by decide, Or.inl q1203, Or.inl rfl⟩
theorem f_X32_35_19 : xF RX32 35 19 0 := ⟨_, "CompiledHouse$Expr", rfl, by decide, Or.inl q1203, Or.inl rfl⟩
theorem f_X32_35_20 : xF RX32 35 20 0 := ⟨_, "CompiledHouse$Expr", rfl, by decide, Or.inl q1203, Or.inl rfl⟩
theorem f_X32_35_21 : xF RX32 35 21 0 := ⟨_, "CompiledHouse$Expr", rfl, by decide, Or.inl q1203, Or.inl rfl⟩
theorem q2275 : (Jvm.Cond.methodLink "CompiledHouse$Return" (38 : Nat) ({ cls := "CompiledHouse$Maker", name := "known", desc := "(II)LCompiledHouse$Symbol;" } : Jvm.MethodName)) ∈ lw_all := lw_g (lw_at lw_m9 159 rfl) rfl
theorem lk_X32_38 : xLk RX32 38 yX6_known := Or.inl q2275
theorem q2276 : (Jvm.Cond.methodLink "CompiledHouse$Return" (42 : Nat) ({ cls := "CompiledHouse$Maker", name := "fault", desc := "(II)LCompiledHouse$Stop;" } : Jvm.MethodName)) ∈ lw_all := lw_g (lw_at lw_m9 160 rfl) rfl
theorem lk_X32_42 : xLk RX32 42 yX6_fault := Or.inl q2276
theorem q2277 : (Jvm.Cond.methodLink "CompiledHouse$Return" (46 : Nat) ({ cls := "CompiledHouse$Maker", name := "constant", desc := "(I)J" } : Jvm.MethodName)) ∈ lw_all := lw_g (lw_at lw_m9 161 rfl) rfl
theorem lk_X32_46 : xLk RX32 46 yX6_constant := Or.inl q2277
theorem q2278 : (Jvm.Cond.methodLink "CompiledHouse$Return" (50 : Nat) ({ cls := "CompiledHouse$Expr", name := "value", desc := "(LCompiledHouse$Maker;)J" } : Jvm.MethodName)) ∈ lw_all := lw_g (lw_at lw_m9 162 rfl) rfl
theorem q2279 : (Jvm.Cond.methodLink "CompiledHouse$Return" (54 : Nat) ({ cls := "CompiledHouse$Maker", name := "result", desc := "(J)V" } : Jvm.MethodName)) ∈ lw_all := lw_g (lw_at lw_m9 163 rfl) rfl
theorem lk_X32_54 : xLk RX32 54 yX6_result := Or.inl q2279
theorem q2283 : (Jvm.Cond.methodLink "CompiledHouse$Return" (58 : Nat) ({ cls := "CompiledHouse$Maker", name := "block", desc := "()LCompiledHouse$Block;" } : Jvm.MethodName)) ∈ lw_all := lw_g (lw_at lw_m9 167 rfl) rfl
theorem lk_X32_58 : xLk RX32 58 yX6_block := Or.inl q2283
theorem q2284 : (Jvm.Cond.methodLink "CompiledHouse$Return" (62 : Nat) ({ cls := "CompiledHouse$Maker", name := "at", desc := "(LCompiledHouse$Block;)V" } : Jvm.MethodName)) ∈ lw_all := lw_g (lw_at lw_m9 168 rfl) rfl
theorem lk_X32_62 : xLk RX32 62 yX6_at := Or.inl q2284
theorem q1666 : (Jvm.Cond.methodLinkNest "CompiledHouse$Out" (1 : Nat) ({ cls := "CompiledHouse$Statement", name := "<init>", desc := "()V" } : Jvm.MethodName) "CompiledHouse") ∈ lw_tbl := lw_at lw_m7 30 rfl
theorem lk_X33_1 : xLk RX33 1 yX4_init := Or.inr ⟨_, q1666⟩
theorem q1667 : (Jvm.Cond.fieldLink "CompiledHouse$Out" (7 : Nat) "CompiledHouse$Out" "of" "LCompiledHouse$Expr;") ∈ lw_all := lw_g (lw_at lw_m7 31 rfl) rfl
theorem f_X33_7_31 : xF RX33 7 31 0 := ⟨_, "CompiledHouse$Out", rfl, by decide, Or.inl q1667, Or.inl rfl⟩
theorem q1668 : (Jvm.Cond.fieldLink "CompiledHouse$Out" (13 : Nat) "CompiledHouse$Out" "isPut" "Z") ∈ lw_all := lw_g (lw_at lw_m7 32 rfl) rfl
theorem f_X33_13_31 : xF RX33 13 31 1 := ⟨_, "CompiledHouse$Out", rfl, by decide, Or.inl q1668, Or.inl rfl⟩
abbrev cX33_lower : ByteArray := prog_25_method_2_code
def yX33_lower : MethodName := ⟨RX33, "lower", "(LCompiledHouse$Maker;)V"⟩
theorem q2260 : (Jvm.Cond.code ({ cls := "CompiledHouse$Out", name := "lower", desc := "(LCompiledHouse$Maker;)V" } : Jvm.MethodName) prog_25_method_2_code (4 : Nat) (Option.none : Option Jvm.ClassFile.FieldType)) ∈ lw_all := lw_g (lw_at lw_m9 144 rfl) rfl
def kX33_lower : xK := (yX33_lower, cX33_lower, 4, none, [])
theorem me_X33_lower : xMe kX33_lower 1 := ⟨q2260, q245, by decide, by decide, by decide +kernel⟩
theorem q2259 : (Jvm.Cond.instanceMethod ({ cls := "CompiledHouse$Out", name := "lower", desc := "(LCompiledHouse$Maker;)V" } : Jvm.MethodName)) ∈ lw_all := lw_g (lw_at lw_m9 143 rfl) rfl
theorem is_X33_lower : Cond.instanceMethod kX33_lower.y ∈ lw_all := q2259
theorem q2261 : (Jvm.Cond.methodLink "CompiledHouse$Out" (17 : Nat) ({ cls := "CompiledHouse$Expr", name := "value", desc := "(LCompiledHouse$Maker;)J" } : Jvm.MethodName)) ∈ lw_all := lw_g (lw_at lw_m9 145 rfl) rfl
theorem q2262 : (Jvm.Cond.methodLink "CompiledHouse$Out" (23 : Nat) ({ cls := "CompiledHouse$Maker", name := "put", desc := "(J)V" } : Jvm.MethodName)) ∈ lw_all := lw_g (lw_at lw_m9 146 rfl) rfl
theorem lk_X33_23 : xLk RX33 23 yX6_put := Or.inl q2262
theorem q2266 : (Jvm.Cond.methodLink "CompiledHouse$Out" (29 : Nat) ({ cls := "CompiledHouse$Maker", name := "halt", desc := "(J)V" } : Jvm.MethodName)) ∈ lw_all := lw_g (lw_at lw_m9 150 rfl) rfl
theorem lk_X33_29 : xLk RX33 29 yX6_halt := Or.inl q2266
theorem q2270 : (Jvm.Cond.methodLink "CompiledHouse$Out" (32 : Nat) ({ cls := "CompiledHouse$Maker", name := "block", desc := "()LCompiledHouse$Block;" } : Jvm.MethodName)) ∈ lw_all := lw_g (lw_at lw_m9 154 rfl) rfl
theorem lk_X33_32 : xLk RX33 32 yX6_block := Or.inl q2270
theorem q2271 : (Jvm.Cond.methodLink "CompiledHouse$Out" (36 : Nat) ({ cls := "CompiledHouse$Maker", name := "at", desc := "(LCompiledHouse$Block;)V" } : Jvm.MethodName)) ∈ lw_all := lw_g (lw_at lw_m9 155 rfl) rfl
theorem lk_X33_36 : xLk RX33 36 yX6_at := Or.inl q2271
theorem dX5_init_0 : decode cX5_init 0 = .ok (.aload_n 0, 1) := by decide +kernel
theorem dX5_init_1 : decode cX5_init 1 = .ok (.invokespecial 1, 3) := by decide +kernel
theorem dX5_init_4 : decode cX5_init 4 = .ok (.aload_n 0, 1) := by decide +kernel
theorem dX5_init_5 : decode cX5_init 5 = .ok (.new 7, 3) := by decide +kernel
theorem dX5_init_8 : decode cX5_init 8 = .ok (.dup, 1) := by decide +kernel
theorem dX5_init_9 : decode cX5_init 9 = .ok (.invokespecial 9, 3) := by decide +kernel
theorem dX5_init_12 : decode cX5_init 12 = .ok (.putfield 10, 3) := by decide +kernel
theorem dX5_init_15 : decode cX5_init 15 = .ok (.return_, 1) := by decide +kernel
theorem dX5_lowerAll_0 : decode cX5_lowerAll 0 = .ok (.iconst 0, 1) := by decide +kernel
theorem dX5_lowerAll_1 : decode cX5_lowerAll 1 = .ok (.istore_n 2, 1) := by decide +kernel
theorem dX5_lowerAll_2 : decode cX5_lowerAll 2 = .ok (.iload_n 2, 1) := by decide +kernel
theorem dX5_lowerAll_3 : decode cX5_lowerAll 3 = .ok (.aload_n 0, 1) := by decide +kernel
theorem dX5_lowerAll_4 : decode cX5_lowerAll 4 = .ok (.getfield 10, 3) := by decide +kernel
theorem dX5_lowerAll_7 : decode cX5_lowerAll 7 = .ok (.invokevirtual 30, 3) := by decide +kernel
theorem dX5_lowerAll_10 : decode cX5_lowerAll 10 = .ok (.if_icmp .ge 24, 3) := by decide +kernel
theorem dX5_lowerAll_13 : decode cX5_lowerAll 13 = .ok (.aload_n 0, 1) := by decide +kernel
theorem dX5_lowerAll_14 : decode cX5_lowerAll 14 = .ok (.getfield 10, 3) := by decide +kernel
theorem dX5_lowerAll_17 : decode cX5_lowerAll 17 = .ok (.iload_n 2, 1) := by decide +kernel
theorem dX5_lowerAll_18 : decode cX5_lowerAll 18 = .ok (.invokevirtual 33, 3) := by decide +kernel
theorem dX5_lowerAll_21 : decode cX5_lowerAll 21 = .ok (.checkcast 2, 3) := by decide +kernel
theorem dX5_lowerAll_24 : decode cX5_lowerAll 24 = .ok (.aload_n 1, 1) := by decide +kernel
theorem dX5_lowerAll_25 : decode cX5_lowerAll 25 = .ok (.invokevirtual 37, 3) := by decide +kernel
theorem dX5_lowerAll_28 : decode cX5_lowerAll 28 = .ok (.iinc 2 1, 3) := by decide +kernel
theorem dX5_lowerAll_31 : decode cX5_lowerAll 31 = .ok (.goto (-29), 3) := by decide +kernel
theorem dX5_lowerAll_34 : decode cX5_lowerAll 34 = .ok (.return_, 1) := by decide +kernel
theorem dX5_lower_0 : decode cX5_lower 0 = .ok (.aload_n 1, 1) := by decide +kernel
theorem dX5_lower_1 : decode cX5_lower 1 = .ok (.invokevirtual 16, 3) := by decide +kernel
theorem dX5_lower_4 : decode cX5_lower 4 = .ok (.istore_n 2, 1) := by decide +kernel
theorem dX5_lower_5 : decode cX5_lower 5 = .ok (.aload_n 0, 1) := by decide +kernel
theorem dX5_lower_6 : decode cX5_lower 6 = .ok (.aload_n 1, 1) := by decide +kernel
theorem dX5_lower_7 : decode cX5_lower 7 = .ok (.invokevirtual 22, 3) := by decide +kernel
theorem dX5_lower_10 : decode cX5_lower 10 = .ok (.aload_n 1, 1) := by decide +kernel
theorem dX5_lower_11 : decode cX5_lower 11 = .ok (.iload_n 2, 1) := by decide +kernel
theorem dX5_lower_12 : decode cX5_lower 12 = .ok (.invokevirtual 26, 3) := by decide +kernel
theorem dX5_lower_15 : decode cX5_lower 15 = .ok (.return_, 1) := by decide +kernel
theorem dX25_init_0 : decode cX25_init 0 = .ok (.aload_n 0, 1) := by decide +kernel
theorem dX25_init_1 : decode cX25_init 1 = .ok (.invokespecial 3, 3) := by decide +kernel
theorem dX25_init_4 : decode cX25_init 4 = .ok (.aload_n 0, 1) := by decide +kernel
theorem dX25_init_5 : decode cX25_init 5 = .ok (.iload_n 1, 1) := by decide +kernel
theorem dX25_init_6 : decode cX25_init 6 = .ok (.putfield 9, 3) := by decide +kernel
theorem dX25_init_9 : decode cX25_init 9 = .ok (.aload_n 0, 1) := by decide +kernel
theorem dX25_init_10 : decode cX25_init 10 = .ok (.iload_n 2, 1) := by decide +kernel
theorem dX25_init_11 : decode cX25_init 11 = .ok (.putfield 15, 3) := by decide +kernel
theorem dX25_init_14 : decode cX25_init 14 = .ok (.aload_n 0, 1) := by decide +kernel
theorem dX25_init_15 : decode cX25_init 15 = .ok (.iload_n 3, 1) := by decide +kernel
theorem dX25_init_16 : decode cX25_init 16 = .ok (.putfield 18, 3) := by decide +kernel
theorem dX25_init_19 : decode cX25_init 19 = .ok (.aload_n 0, 1) := by decide +kernel
theorem dX25_init_20 : decode cX25_init 20 = .ok (.aload 4, 2) := by decide +kernel
theorem dX25_init_22 : decode cX25_init 22 = .ok (.putfield 22, 3) := by decide +kernel
theorem dX25_init_25 : decode cX25_init 25 = .ok (.return_, 1) := by decide +kernel
theorem dX25_lower_0 : decode cX25_lower 0 = .ok (.aload_n 1, 1) := by decide +kernel
theorem dX25_lower_1 : decode cX25_lower 1 = .ok (.aload_n 0, 1) := by decide +kernel
theorem dX25_lower_2 : decode cX25_lower 2 = .ok (.getfield 15, 3) := by decide +kernel
theorem dX25_lower_5 : decode cX25_lower 5 = .ok (.aload_n 0, 1) := by decide +kernel
theorem dX25_lower_6 : decode cX25_lower 6 = .ok (.getfield 9, 3) := by decide +kernel
theorem dX25_lower_9 : decode cX25_lower 9 = .ok (.invokevirtual 26, 3) := by decide +kernel
theorem dX25_lower_12 : decode cX25_lower 12 = .ok (.aload_n 1, 1) := by decide +kernel
theorem dX25_lower_13 : decode cX25_lower 13 = .ok (.aload_n 0, 1) := by decide +kernel
theorem dX25_lower_14 : decode cX25_lower 14 = .ok (.getfield 22, 3) := by decide +kernel
theorem dX25_lower_17 : decode cX25_lower 17 = .ok (.invokevirtual 32, 3) := by decide +kernel
theorem dX25_lower_20 : decode cX25_lower 20 = .ok (.istore_n 2, 1) := by decide +kernel
theorem dX25_lower_21 : decode cX25_lower 21 = .ok (.aload_n 0, 1) := by decide +kernel
theorem dX25_lower_22 : decode cX25_lower 22 = .ok (.getfield 18, 3) := by decide +kernel
theorem dX25_lower_25 : decode cX25_lower 25 = .ok (.iload_n 2, 1) := by decide +kernel
theorem dX25_lower_26 : decode cX25_lower 26 = .ok (.invokestatic 35, 3) := by decide +kernel
theorem dX25_lower_29 : decode cX25_lower 29 = .ok (.istore_n 3, 1) := by decide +kernel
theorem dX25_lower_30 : decode cX25_lower 30 = .ok (.aload_n 1, 1) := by decide +kernel
theorem dX25_lower_31 : decode cX25_lower 31 = .ok (.iload_n 3, 1) := by decide +kernel
theorem dX25_lower_32 : decode cX25_lower 32 = .ok (.aload_n 0, 1) := by decide +kernel
theorem dX25_lower_33 : decode cX25_lower 33 = .ok (.getfield 9, 3) := by decide +kernel
theorem dX25_lower_36 : decode cX25_lower 36 = .ok (.invokevirtual 39, 3) := by decide +kernel
theorem dX25_lower_39 : decode cX25_lower 39 = .ok (.new 42, 3) := by decide +kernel
theorem dX25_lower_42 : decode cX25_lower 42 = .ok (.dup, 1) := by decide +kernel
theorem dX25_lower_43 : decode cX25_lower 43 = .ok (.aload_n 0, 1) := by decide +kernel
theorem dX25_lower_44 : decode cX25_lower 44 = .ok (.getfield 15, 3) := by decide +kernel
theorem dX25_lower_47 : decode cX25_lower 47 = .ok (.iconst 4, 1) := by decide +kernel
theorem dX25_lower_48 : decode cX25_lower 48 = .ok (.aload_n 1, 1) := by decide +kernel
theorem dX25_lower_49 : decode cX25_lower 49 = .ok (.iload_n 3, 1) := by decide +kernel
theorem dX25_lower_50 : decode cX25_lower 50 = .ok (.invokevirtual 44, 3) := by decide +kernel
theorem dX25_lower_53 : decode cX25_lower 53 = .ok (.invokespecial 48, 3) := by decide +kernel
theorem dX25_lower_56 : decode cX25_lower 56 = .ok (.astore 4, 2) := by decide +kernel
theorem dX25_lower_58 : decode cX25_lower 58 = .ok (.aload 4, 2) := by decide +kernel
theorem dX25_lower_60 : decode cX25_lower 60 = .ok (.aload_n 0, 1) := by decide +kernel
theorem dX25_lower_61 : decode cX25_lower 61 = .ok (.getfield 18, 3) := by decide +kernel
theorem dX25_lower_64 : decode cX25_lower 64 = .ok (.putfield 51, 3) := by decide +kernel
theorem dX25_lower_67 : decode cX25_lower 67 = .ok (.aload 4, 2) := by decide +kernel
theorem dX25_lower_69 : decode cX25_lower 69 = .ok (.iload_n 2, 1) := by decide +kernel
theorem dX25_lower_70 : decode cX25_lower 70 = .ok (.putfield 52, 3) := by decide +kernel
theorem dX25_lower_73 : decode cX25_lower 73 = .ok (.aload_n 1, 1) := by decide +kernel
theorem dX25_lower_74 : decode cX25_lower 74 = .ok (.aload 4, 2) := by decide +kernel
theorem dX25_lower_76 : decode cX25_lower 76 = .ok (.invokevirtual 54, 3) := by decide +kernel
theorem dX25_lower_79 : decode cX25_lower 79 = .ok (.aload_n 1, 1) := by decide +kernel
theorem dX25_lower_80 : decode cX25_lower 80 = .ok (.aload 4, 2) := by decide +kernel
theorem dX25_lower_82 : decode cX25_lower 82 = .ok (.invokevirtual 58, 3) := by decide +kernel
theorem dX25_lower_85 : decode cX25_lower 85 = .ok (.return_, 1) := by decide +kernel
theorem dX26_init_0 : decode cX26_init 0 = .ok (.aload_n 0, 1) := by decide +kernel
theorem dX26_init_1 : decode cX26_init 1 = .ok (.invokespecial 3, 3) := by decide +kernel
theorem dX26_init_4 : decode cX26_init 4 = .ok (.aload_n 0, 1) := by decide +kernel
theorem dX26_init_5 : decode cX26_init 5 = .ok (.iload_n 1, 1) := by decide +kernel
theorem dX26_init_6 : decode cX26_init 6 = .ok (.putfield 9, 3) := by decide +kernel
theorem dX26_init_9 : decode cX26_init 9 = .ok (.aload_n 0, 1) := by decide +kernel
theorem dX26_init_10 : decode cX26_init 10 = .ok (.iload_n 2, 1) := by decide +kernel
theorem dX26_init_11 : decode cX26_init 11 = .ok (.putfield 15, 3) := by decide +kernel
theorem dX26_init_14 : decode cX26_init 14 = .ok (.aload_n 0, 1) := by decide +kernel
theorem dX26_init_15 : decode cX26_init 15 = .ok (.aload_n 3, 1) := by decide +kernel
theorem dX26_init_16 : decode cX26_init 16 = .ok (.putfield 18, 3) := by decide +kernel
theorem dX26_init_19 : decode cX26_init 19 = .ok (.return_, 1) := by decide +kernel
theorem dX26_lower_0 : decode cX26_lower 0 = .ok (.aload_n 1, 1) := by decide +kernel
theorem dX26_lower_1 : decode cX26_lower 1 = .ok (.aload_n 0, 1) := by decide +kernel
theorem dX26_lower_2 : decode cX26_lower 2 = .ok (.getfield 15, 3) := by decide +kernel
theorem dX26_lower_5 : decode cX26_lower 5 = .ok (.aload_n 0, 1) := by decide +kernel
theorem dX26_lower_6 : decode cX26_lower 6 = .ok (.getfield 9, 3) := by decide +kernel
theorem dX26_lower_9 : decode cX26_lower 9 = .ok (.invokevirtual 22, 3) := by decide +kernel
theorem dX26_lower_12 : decode cX26_lower 12 = .ok (.aload_n 1, 1) := by decide +kernel
theorem dX26_lower_13 : decode cX26_lower 13 = .ok (.iconst 1, 1) := by decide +kernel
theorem dX26_lower_14 : decode cX26_lower 14 = .ok (.aload_n 0, 1) := by decide +kernel
theorem dX26_lower_15 : decode cX26_lower 15 = .ok (.getfield 9, 3) := by decide +kernel
theorem dX26_lower_18 : decode cX26_lower 18 = .ok (.invokevirtual 28, 3) := by decide +kernel
theorem dX26_lower_21 : decode cX26_lower 21 = .ok (.aload_n 0, 1) := by decide +kernel
theorem dX26_lower_22 : decode cX26_lower 22 = .ok (.getfield 18, 3) := by decide +kernel
theorem dX26_lower_25 : decode cX26_lower 25 = .ok (.ifnonnull 10, 3) := by decide +kernel
theorem dX26_lower_28 : decode cX26_lower 28 = .ok (.iconst 0, 1) := by decide +kernel
theorem dX26_lower_29 : decode cX26_lower 29 = .ok (.invokestatic 31, 3) := by decide +kernel
theorem dX26_lower_32 : decode cX26_lower 32 = .ok (.goto 11, 3) := by decide +kernel
theorem dX26_lower_35 : decode cX26_lower 35 = .ok (.aload_n 0, 1) := by decide +kernel
theorem dX26_lower_36 : decode cX26_lower 36 = .ok (.getfield 18, 3) := by decide +kernel
theorem dX26_lower_39 : decode cX26_lower 39 = .ok (.aload_n 1, 1) := by decide +kernel
theorem dX26_lower_40 : decode cX26_lower 40 = .ok (.invokevirtual 35, 3) := by decide +kernel
theorem dX26_lower_43 : decode cX26_lower 43 = .ok (.lstore_n 2, 1) := by decide +kernel
theorem dX26_lower_44 : decode cX26_lower 44 = .ok (.aload_n 1, 1) := by decide +kernel
theorem dX26_lower_45 : decode cX26_lower 45 = .ok (.invokevirtual 41, 3) := by decide +kernel
theorem dX26_lower_48 : decode cX26_lower 48 = .ok (.istore 4, 2) := by decide +kernel
theorem dX26_lower_50 : decode cX26_lower 50 = .ok (.aload_n 1, 1) := by decide +kernel
theorem dX26_lower_51 : decode cX26_lower 51 = .ok (.iload 4, 2) := by decide +kernel
theorem dX26_lower_53 : decode cX26_lower 53 = .ok (.lload_n 2, 1) := by decide +kernel
theorem dX26_lower_54 : decode cX26_lower 54 = .ok (.invokevirtual 45, 3) := by decide +kernel
theorem dX26_lower_57 : decode cX26_lower 57 = .ok (.aload_n 1, 1) := by decide +kernel
theorem dX26_lower_58 : decode cX26_lower 58 = .ok (.new 49, 3) := by decide +kernel
theorem dX26_lower_61 : decode cX26_lower 61 = .ok (.dup, 1) := by decide +kernel
theorem dX26_lower_62 : decode cX26_lower 62 = .ok (.aload_n 0, 1) := by decide +kernel
theorem dX26_lower_63 : decode cX26_lower 63 = .ok (.getfield 15, 3) := by decide +kernel
theorem dX26_lower_66 : decode cX26_lower 66 = .ok (.iconst 3, 1) := by decide +kernel
theorem dX26_lower_67 : decode cX26_lower 67 = .ok (.iload 4, 2) := by decide +kernel
theorem dX26_lower_69 : decode cX26_lower 69 = .ok (.invokespecial 51, 3) := by decide +kernel
theorem dX26_lower_72 : decode cX26_lower 72 = .ok (.invokevirtual 54, 3) := by decide +kernel
theorem dX26_lower_75 : decode cX26_lower 75 = .ok (.return_, 1) := by decide +kernel
theorem dX27_init_0 : decode cX27_init 0 = .ok (.aload_n 0, 1) := by decide +kernel
theorem dX27_init_1 : decode cX27_init 1 = .ok (.invokespecial 1, 3) := by decide +kernel
theorem dX27_init_4 : decode cX27_init 4 = .ok (.aload_n 0, 1) := by decide +kernel
theorem dX27_init_5 : decode cX27_init 5 = .ok (.aload_n 1, 1) := by decide +kernel
theorem dX27_init_6 : decode cX27_init 6 = .ok (.putfield 7, 3) := by decide +kernel
theorem dX27_init_9 : decode cX27_init 9 = .ok (.aload_n 0, 1) := by decide +kernel
theorem dX27_init_10 : decode cX27_init 10 = .ok (.aload_n 2, 1) := by decide +kernel
theorem dX27_init_11 : decode cX27_init 11 = .ok (.putfield 13, 3) := by decide +kernel
theorem dX27_init_14 : decode cX27_init 14 = .ok (.aload_n 0, 1) := by decide +kernel
theorem dX27_init_15 : decode cX27_init 15 = .ok (.aload_n 3, 1) := by decide +kernel
theorem dX27_init_16 : decode cX27_init 16 = .ok (.putfield 17, 3) := by decide +kernel
theorem dX27_init_19 : decode cX27_init 19 = .ok (.return_, 1) := by decide +kernel
theorem dX27_lower_0 : decode cX27_lower 0 = .ok (.aload_n 1, 1) := by decide +kernel
theorem dX27_lower_1 : decode cX27_lower 1 = .ok (.invokevirtual 20, 3) := by decide +kernel
theorem dX27_lower_4 : decode cX27_lower 4 = .ok (.astore_n 2, 1) := by decide +kernel
theorem dX27_lower_5 : decode cX27_lower 5 = .ok (.aload_n 1, 1) := by decide +kernel
theorem dX27_lower_6 : decode cX27_lower 6 = .ok (.invokevirtual 20, 3) := by decide +kernel
theorem dX27_lower_9 : decode cX27_lower 9 = .ok (.astore_n 3, 1) := by decide +kernel
theorem dX27_lower_10 : decode cX27_lower 10 = .ok (.aload_n 0, 1) := by decide +kernel
theorem dX27_lower_11 : decode cX27_lower 11 = .ok (.getfield 17, 3) := by decide +kernel
theorem dX27_lower_14 : decode cX27_lower 14 = .ok (.ifnonnull 7, 3) := by decide +kernel
theorem dX27_lower_17 : decode cX27_lower 17 = .ok (.aload_n 3, 1) := by decide +kernel
theorem dX27_lower_18 : decode cX27_lower 18 = .ok (.goto 7, 3) := by decide +kernel
theorem dX27_lower_21 : decode cX27_lower 21 = .ok (.aload_n 1, 1) := by decide +kernel
theorem dX27_lower_22 : decode cX27_lower 22 = .ok (.invokevirtual 20, 3) := by decide +kernel
theorem dX27_lower_25 : decode cX27_lower 25 = .ok (.astore 4, 2) := by decide +kernel
theorem dX27_lower_27 : decode cX27_lower 27 = .ok (.aload_n 0, 1) := by decide +kernel
theorem dX27_lower_28 : decode cX27_lower 28 = .ok (.getfield 7, 3) := by decide +kernel
theorem dX27_lower_31 : decode cX27_lower 31 = .ok (.aload_n 1, 1) := by decide +kernel
theorem dX27_lower_32 : decode cX27_lower 32 = .ok (.aload_n 2, 1) := by decide +kernel
theorem dX27_lower_33 : decode cX27_lower 33 = .ok (.aload_n 3, 1) := by decide +kernel
theorem dX27_lower_34 : decode cX27_lower 34 = .ok (.invokevirtual 26, 3) := by decide +kernel
theorem dX27_lower_37 : decode cX27_lower 37 = .ok (.aload_n 1, 1) := by decide +kernel
theorem dX27_lower_38 : decode cX27_lower 38 = .ok (.aload_n 2, 1) := by decide +kernel
theorem dX27_lower_39 : decode cX27_lower 39 = .ok (.invokevirtual 32, 3) := by decide +kernel
theorem dX27_lower_42 : decode cX27_lower 42 = .ok (.aload_n 1, 1) := by decide +kernel
theorem dX27_lower_43 : decode cX27_lower 43 = .ok (.aload_n 0, 1) := by decide +kernel
theorem dX27_lower_44 : decode cX27_lower 44 = .ok (.getfield 13, 3) := by decide +kernel
theorem dX27_lower_47 : decode cX27_lower 47 = .ok (.invokevirtual 36, 3) := by decide +kernel
theorem dX27_lower_50 : decode cX27_lower 50 = .ok (.aload_n 1, 1) := by decide +kernel
theorem dX27_lower_51 : decode cX27_lower 51 = .ok (.aload 4, 2) := by decide +kernel
theorem dX27_lower_53 : decode cX27_lower 53 = .ok (.invokevirtual 40, 3) := by decide +kernel
theorem dX27_lower_56 : decode cX27_lower 56 = .ok (.aload_n 0, 1) := by decide +kernel
theorem dX27_lower_57 : decode cX27_lower 57 = .ok (.getfield 17, 3) := by decide +kernel
theorem dX27_lower_60 : decode cX27_lower 60 = .ok (.ifnull 22, 3) := by decide +kernel
theorem dX27_lower_63 : decode cX27_lower 63 = .ok (.aload_n 1, 1) := by decide +kernel
theorem dX27_lower_64 : decode cX27_lower 64 = .ok (.aload_n 3, 1) := by decide +kernel
theorem dX27_lower_65 : decode cX27_lower 65 = .ok (.invokevirtual 32, 3) := by decide +kernel
theorem dX27_lower_68 : decode cX27_lower 68 = .ok (.aload_n 1, 1) := by decide +kernel
theorem dX27_lower_69 : decode cX27_lower 69 = .ok (.aload_n 0, 1) := by decide +kernel
theorem dX27_lower_70 : decode cX27_lower 70 = .ok (.getfield 17, 3) := by decide +kernel
theorem dX27_lower_73 : decode cX27_lower 73 = .ok (.invokevirtual 36, 3) := by decide +kernel
theorem dX27_lower_76 : decode cX27_lower 76 = .ok (.aload_n 1, 1) := by decide +kernel
theorem dX27_lower_77 : decode cX27_lower 77 = .ok (.aload 4, 2) := by decide +kernel
theorem dX27_lower_79 : decode cX27_lower 79 = .ok (.invokevirtual 40, 3) := by decide +kernel
theorem dX27_lower_82 : decode cX27_lower 82 = .ok (.aload_n 1, 1) := by decide +kernel
theorem dX27_lower_83 : decode cX27_lower 83 = .ok (.aload 4, 2) := by decide +kernel
theorem dX27_lower_85 : decode cX27_lower 85 = .ok (.invokevirtual 32, 3) := by decide +kernel
theorem dX27_lower_88 : decode cX27_lower 88 = .ok (.return_, 1) := by decide +kernel
theorem dX28_init_0 : decode cX28_init 0 = .ok (.aload_n 0, 1) := by decide +kernel
theorem dX28_init_1 : decode cX28_init 1 = .ok (.invokespecial 1, 3) := by decide +kernel
theorem dX28_init_4 : decode cX28_init 4 = .ok (.aload_n 0, 1) := by decide +kernel
theorem dX28_init_5 : decode cX28_init 5 = .ok (.aload_n 1, 1) := by decide +kernel
theorem dX28_init_6 : decode cX28_init 6 = .ok (.putfield 7, 3) := by decide +kernel
theorem dX28_init_9 : decode cX28_init 9 = .ok (.aload_n 0, 1) := by decide +kernel
theorem dX28_init_10 : decode cX28_init 10 = .ok (.aload_n 2, 1) := by decide +kernel
theorem dX28_init_11 : decode cX28_init 11 = .ok (.putfield 13, 3) := by decide +kernel
theorem dX28_init_14 : decode cX28_init 14 = .ok (.aload_n 0, 1) := by decide +kernel
theorem dX28_init_15 : decode cX28_init 15 = .ok (.aload_n 3, 1) := by decide +kernel
theorem dX28_init_16 : decode cX28_init 16 = .ok (.putfield 17, 3) := by decide +kernel
theorem dX28_init_19 : decode cX28_init 19 = .ok (.aload_n 0, 1) := by decide +kernel
theorem dX28_init_20 : decode cX28_init 20 = .ok (.aload 4, 2) := by decide +kernel
theorem dX28_init_22 : decode cX28_init 22 = .ok (.putfield 20, 3) := by decide +kernel
theorem dX28_init_25 : decode cX28_init 25 = .ok (.aload_n 0, 1) := by decide +kernel
theorem dX28_init_26 : decode cX28_init 26 = .ok (.iload 5, 2) := by decide +kernel
theorem dX28_init_28 : decode cX28_init 28 = .ok (.putfield 23, 3) := by decide +kernel
theorem dX28_init_31 : decode cX28_init 31 = .ok (.return_, 1) := by decide +kernel
theorem dX28_lower_0 : decode cX28_lower 0 = .ok (.aload_n 1, 1) := by decide +kernel
theorem dX28_lower_1 : decode cX28_lower 1 = .ok (.invokevirtual 27, 3) := by decide +kernel
theorem dX28_lower_4 : decode cX28_lower 4 = .ok (.istore_n 2, 1) := by decide +kernel
theorem dX28_lower_5 : decode cX28_lower 5 = .ok (.aload_n 0, 1) := by decide +kernel
theorem dX28_lower_6 : decode cX28_lower 6 = .ok (.getfield 7, 3) := by decide +kernel
theorem dX28_lower_9 : decode cX28_lower 9 = .ok (.ifnull 11, 3) := by decide +kernel
theorem dX28_lower_12 : decode cX28_lower 12 = .ok (.aload_n 0, 1) := by decide +kernel
theorem dX28_lower_13 : decode cX28_lower 13 = .ok (.getfield 7, 3) := by decide +kernel
theorem dX28_lower_16 : decode cX28_lower 16 = .ok (.aload_n 1, 1) := by decide +kernel
theorem dX28_lower_17 : decode cX28_lower 17 = .ok (.invokevirtual 33, 3) := by decide +kernel
theorem dX28_lower_20 : decode cX28_lower 20 = .ok (.aload_n 1, 1) := by decide +kernel
theorem dX28_lower_21 : decode cX28_lower 21 = .ok (.invokevirtual 37, 3) := by decide +kernel
theorem dX28_lower_24 : decode cX28_lower 24 = .ok (.astore_n 3, 1) := by decide +kernel
theorem dX28_lower_25 : decode cX28_lower 25 = .ok (.aload_n 1, 1) := by decide +kernel
theorem dX28_lower_26 : decode cX28_lower 26 = .ok (.invokevirtual 37, 3) := by decide +kernel
theorem dX28_lower_29 : decode cX28_lower 29 = .ok (.astore 4, 2) := by decide +kernel
theorem dX28_lower_31 : decode cX28_lower 31 = .ok (.aload_n 1, 1) := by decide +kernel
theorem dX28_lower_32 : decode cX28_lower 32 = .ok (.invokevirtual 37, 3) := by decide +kernel
theorem dX28_lower_35 : decode cX28_lower 35 = .ok (.astore 5, 2) := by decide +kernel
theorem dX28_lower_37 : decode cX28_lower 37 = .ok (.aload_n 1, 1) := by decide +kernel
theorem dX28_lower_38 : decode cX28_lower 38 = .ok (.invokevirtual 37, 3) := by decide +kernel
theorem dX28_lower_41 : decode cX28_lower 41 = .ok (.astore 6, 2) := by decide +kernel
theorem dX28_lower_43 : decode cX28_lower 43 = .ok (.aload_n 0, 1) := by decide +kernel
theorem dX28_lower_44 : decode cX28_lower 44 = .ok (.getfield 23, 3) := by decide +kernel
theorem dX28_lower_47 : decode cX28_lower 47 = .ok (.ifCond .eq 39, 3) := by decide +kernel
theorem dX28_lower_50 : decode cX28_lower 50 = .ok (.aload_n 1, 1) := by decide +kernel
theorem dX28_lower_51 : decode cX28_lower 51 = .ok (.aload 4, 2) := by decide +kernel
theorem dX28_lower_53 : decode cX28_lower 53 = .ok (.invokevirtual 41, 3) := by decide +kernel
theorem dX28_lower_56 : decode cX28_lower 56 = .ok (.aload_n 0, 1) := by decide +kernel
theorem dX28_lower_57 : decode cX28_lower 57 = .ok (.aload_n 1, 1) := by decide +kernel
theorem dX28_lower_58 : decode cX28_lower 58 = .ok (.aload 4, 2) := by decide +kernel
theorem dX28_lower_60 : decode cX28_lower 60 = .ok (.aload_n 3, 1) := by decide +kernel
theorem dX28_lower_61 : decode cX28_lower 61 = .ok (.aload 6, 2) := by decide +kernel
theorem dX28_lower_63 : decode cX28_lower 63 = .ok (.invokevirtual 45, 3) := by decide +kernel
theorem dX28_lower_66 : decode cX28_lower 66 = .ok (.aload_n 1, 1) := by decide +kernel
theorem dX28_lower_67 : decode cX28_lower 67 = .ok (.aload_n 3, 1) := by decide +kernel
theorem dX28_lower_68 : decode cX28_lower 68 = .ok (.invokevirtual 49, 3) := by decide +kernel
theorem dX28_lower_71 : decode cX28_lower 71 = .ok (.aload_n 0, 1) := by decide +kernel
theorem dX28_lower_72 : decode cX28_lower 72 = .ok (.getfield 13, 3) := by decide +kernel
theorem dX28_lower_75 : decode cX28_lower 75 = .ok (.aload_n 1, 1) := by decide +kernel
theorem dX28_lower_76 : decode cX28_lower 76 = .ok (.aload 4, 2) := by decide +kernel
theorem dX28_lower_78 : decode cX28_lower 78 = .ok (.aload 6, 2) := by decide +kernel
theorem dX28_lower_80 : decode cX28_lower 80 = .ok (.invokevirtual 52, 3) := by decide +kernel
theorem dX28_lower_83 : decode cX28_lower 83 = .ok (.goto 89, 3) := by decide +kernel
theorem dX28_lower_86 : decode cX28_lower 86 = .ok (.aload_n 1, 1) := by decide +kernel
theorem dX28_lower_87 : decode cX28_lower 87 = .ok (.aload_n 3, 1) := by decide +kernel
theorem dX28_lower_88 : decode cX28_lower 88 = .ok (.invokevirtual 41, 3) := by decide +kernel
theorem dX28_lower_91 : decode cX28_lower 91 = .ok (.aload_n 1, 1) := by decide +kernel
theorem dX28_lower_92 : decode cX28_lower 92 = .ok (.aload_n 3, 1) := by decide +kernel
theorem dX28_lower_93 : decode cX28_lower 93 = .ok (.invokevirtual 49, 3) := by decide +kernel
theorem dX28_lower_96 : decode cX28_lower 96 = .ok (.aload_n 0, 1) := by decide +kernel
theorem dX28_lower_97 : decode cX28_lower 97 = .ok (.getfield 13, 3) := by decide +kernel
theorem dX28_lower_100 : decode cX28_lower 100 = .ok (.ifnull 18, 3) := by decide +kernel
theorem dX28_lower_103 : decode cX28_lower 103 = .ok (.aload_n 0, 1) := by decide +kernel
theorem dX28_lower_104 : decode cX28_lower 104 = .ok (.getfield 13, 3) := by decide +kernel
theorem dX28_lower_107 : decode cX28_lower 107 = .ok (.aload_n 1, 1) := by decide +kernel
theorem dX28_lower_108 : decode cX28_lower 108 = .ok (.aload 4, 2) := by decide +kernel
theorem dX28_lower_110 : decode cX28_lower 110 = .ok (.aload 6, 2) := by decide +kernel
theorem dX28_lower_112 : decode cX28_lower 112 = .ok (.invokevirtual 52, 3) := by decide +kernel
theorem dX28_lower_115 : decode cX28_lower 115 = .ok (.goto 9, 3) := by decide +kernel
theorem dX28_lower_118 : decode cX28_lower 118 = .ok (.aload_n 1, 1) := by decide +kernel
theorem dX28_lower_119 : decode cX28_lower 119 = .ok (.aload 4, 2) := by decide +kernel
theorem dX28_lower_121 : decode cX28_lower 121 = .ok (.invokevirtual 41, 3) := by decide +kernel
theorem dX28_lower_124 : decode cX28_lower 124 = .ok (.aload_n 0, 1) := by decide +kernel
theorem dX28_lower_125 : decode cX28_lower 125 = .ok (.getfield 17, 3) := by decide +kernel
theorem dX28_lower_128 : decode cX28_lower 128 = .ok (.ifnull 22, 3) := by decide +kernel
theorem dX28_lower_131 : decode cX28_lower 131 = .ok (.aload_n 1, 1) := by decide +kernel
theorem dX28_lower_132 : decode cX28_lower 132 = .ok (.aload 5, 2) := by decide +kernel
theorem dX28_lower_134 : decode cX28_lower 134 = .ok (.invokevirtual 49, 3) := by decide +kernel
theorem dX28_lower_137 : decode cX28_lower 137 = .ok (.aload_n 0, 1) := by decide +kernel
theorem dX28_lower_138 : decode cX28_lower 138 = .ok (.getfield 17, 3) := by decide +kernel
theorem dX28_lower_141 : decode cX28_lower 141 = .ok (.aload_n 1, 1) := by decide +kernel
theorem dX28_lower_142 : decode cX28_lower 142 = .ok (.invokevirtual 33, 3) := by decide +kernel
theorem dX28_lower_145 : decode cX28_lower 145 = .ok (.aload_n 1, 1) := by decide +kernel
theorem dX28_lower_146 : decode cX28_lower 146 = .ok (.aload_n 3, 1) := by decide +kernel
theorem dX28_lower_147 : decode cX28_lower 147 = .ok (.invokevirtual 41, 3) := by decide +kernel
theorem dX28_lower_150 : decode cX28_lower 150 = .ok (.aload_n 0, 1) := by decide +kernel
theorem dX28_lower_151 : decode cX28_lower 151 = .ok (.aload_n 1, 1) := by decide +kernel
theorem dX28_lower_152 : decode cX28_lower 152 = .ok (.aload 4, 2) := by decide +kernel
theorem dX28_lower_154 : decode cX28_lower 154 = .ok (.aload_n 0, 1) := by decide +kernel
theorem dX28_lower_155 : decode cX28_lower 155 = .ok (.getfield 17, 3) := by decide +kernel
theorem dX28_lower_158 : decode cX28_lower 158 = .ok (.ifnonnull 7, 3) := by decide +kernel
theorem dX28_lower_161 : decode cX28_lower 161 = .ok (.aload_n 3, 1) := by decide +kernel
theorem dX28_lower_162 : decode cX28_lower 162 = .ok (.goto 5, 3) := by decide +kernel
theorem dX28_lower_165 : decode cX28_lower 165 = .ok (.aload 5, 2) := by decide +kernel
theorem dX28_lower_167 : decode cX28_lower 167 = .ok (.aload 6, 2) := by decide +kernel
theorem dX28_lower_169 : decode cX28_lower 169 = .ok (.invokevirtual 45, 3) := by decide +kernel
theorem dX28_lower_172 : decode cX28_lower 172 = .ok (.aload_n 1, 1) := by decide +kernel
theorem dX28_lower_173 : decode cX28_lower 173 = .ok (.aload 6, 2) := by decide +kernel
theorem dX28_lower_175 : decode cX28_lower 175 = .ok (.invokevirtual 49, 3) := by decide +kernel
theorem dX28_lower_178 : decode cX28_lower 178 = .ok (.aload_n 1, 1) := by decide +kernel
theorem dX28_lower_179 : decode cX28_lower 179 = .ok (.iload_n 2, 1) := by decide +kernel
theorem dX28_lower_180 : decode cX28_lower 180 = .ok (.invokevirtual 58, 3) := by decide +kernel
theorem dX28_lower_183 : decode cX28_lower 183 = .ok (.return_, 1) := by decide +kernel
theorem dX28_loop_0 : decode cX28_loop 0 = .ok (.aload_n 1, 1) := by decide +kernel
theorem dX28_loop_1 : decode cX28_loop 1 = .ok (.aload_n 2, 1) := by decide +kernel
theorem dX28_loop_2 : decode cX28_loop 2 = .ok (.invokevirtual 49, 3) := by decide +kernel
theorem dX28_loop_5 : decode cX28_loop 5 = .ok (.aload_n 1, 1) := by decide +kernel
theorem dX28_loop_6 : decode cX28_loop 6 = .ok (.invokevirtual 62, 3) := by decide +kernel
theorem dX28_loop_9 : decode cX28_loop 9 = .ok (.aload_n 1, 1) := by decide +kernel
theorem dX28_loop_10 : decode cX28_loop 10 = .ok (.getfield 65, 3) := by decide +kernel
theorem dX28_loop_13 : decode cX28_loop 13 = .ok (.astore 5, 2) := by decide +kernel
theorem dX28_loop_15 : decode cX28_loop 15 = .ok (.aload_n 1, 1) := by decide +kernel
theorem dX28_loop_16 : decode cX28_loop 16 = .ok (.getfield 69, 3) := by decide +kernel
theorem dX28_loop_19 : decode cX28_loop 19 = .ok (.astore 6, 2) := by decide +kernel
theorem dX28_loop_21 : decode cX28_loop 21 = .ok (.aload_n 1, 1) := by decide +kernel
theorem dX28_loop_22 : decode cX28_loop 22 = .ok (.aload 4, 2) := by decide +kernel
theorem dX28_loop_24 : decode cX28_loop 24 = .ok (.putfield 65, 3) := by decide +kernel
theorem dX28_loop_27 : decode cX28_loop 27 = .ok (.aload_n 1, 1) := by decide +kernel
theorem dX28_loop_28 : decode cX28_loop 28 = .ok (.aload_n 3, 1) := by decide +kernel
theorem dX28_loop_29 : decode cX28_loop 29 = .ok (.putfield 69, 3) := by decide +kernel
theorem dX28_loop_32 : decode cX28_loop 32 = .ok (.aload_n 1, 1) := by decide +kernel
theorem dX28_loop_33 : decode cX28_loop 33 = .ok (.aload_n 0, 1) := by decide +kernel
theorem dX28_loop_34 : decode cX28_loop 34 = .ok (.getfield 20, 3) := by decide +kernel
theorem dX28_loop_37 : decode cX28_loop 37 = .ok (.invokevirtual 72, 3) := by decide +kernel
theorem dX28_loop_40 : decode cX28_loop 40 = .ok (.aload_n 1, 1) := by decide +kernel
theorem dX28_loop_41 : decode cX28_loop 41 = .ok (.aload 5, 2) := by decide +kernel
theorem dX28_loop_43 : decode cX28_loop 43 = .ok (.putfield 65, 3) := by decide +kernel
theorem dX28_loop_46 : decode cX28_loop 46 = .ok (.aload_n 1, 1) := by decide +kernel
theorem dX28_loop_47 : decode cX28_loop 47 = .ok (.aload 6, 2) := by decide +kernel
theorem dX28_loop_49 : decode cX28_loop 49 = .ok (.putfield 69, 3) := by decide +kernel
theorem dX28_loop_52 : decode cX28_loop 52 = .ok (.aload_n 1, 1) := by decide +kernel
theorem dX28_loop_53 : decode cX28_loop 53 = .ok (.aload_n 3, 1) := by decide +kernel
theorem dX28_loop_54 : decode cX28_loop 54 = .ok (.invokevirtual 41, 3) := by decide +kernel
theorem dX28_loop_57 : decode cX28_loop 57 = .ok (.return_, 1) := by decide +kernel
theorem dX29_init_0 : decode cX29_init 0 = .ok (.aload_n 0, 1) := by decide +kernel
theorem dX29_init_1 : decode cX29_init 1 = .ok (.invokespecial 1, 3) := by decide +kernel
theorem dX29_init_4 : decode cX29_init 4 = .ok (.aload_n 0, 1) := by decide +kernel
theorem dX29_init_5 : decode cX29_init 5 = .ok (.aload_n 1, 1) := by decide +kernel
theorem dX29_init_6 : decode cX29_init 6 = .ok (.putfield 7, 3) := by decide +kernel
theorem dX29_init_9 : decode cX29_init 9 = .ok (.return_, 1) := by decide +kernel
theorem dX29_lower_0 : decode cX29_lower 0 = .ok (.aload_n 0, 1) := by decide +kernel
theorem dX29_lower_1 : decode cX29_lower 1 = .ok (.getfield 7, 3) := by decide +kernel
theorem dX29_lower_4 : decode cX29_lower 4 = .ok (.aload_n 1, 1) := by decide +kernel
theorem dX29_lower_5 : decode cX29_lower 5 = .ok (.iconst 0, 1) := by decide +kernel
theorem dX29_lower_6 : decode cX29_lower 6 = .ok (.invokevirtual 13, 3) := by decide +kernel
theorem dX29_lower_9 : decode cX29_lower 9 = .ok (.lstore_n 2, 1) := by decide +kernel
theorem dX29_lower_10 : decode cX29_lower 10 = .ok (.return_, 1) := by decide +kernel
theorem dX30_init_0 : decode cX30_init 0 = .ok (.aload_n 0, 1) := by decide +kernel
theorem dX30_init_1 : decode cX30_init 1 = .ok (.invokespecial 1, 3) := by decide +kernel
theorem dX30_init_4 : decode cX30_init 4 = .ok (.aload_n 0, 1) := by decide +kernel
theorem dX30_init_5 : decode cX30_init 5 = .ok (.aload_n 1, 1) := by decide +kernel
theorem dX30_init_6 : decode cX30_init 6 = .ok (.putfield 7, 3) := by decide +kernel
theorem dX30_init_9 : decode cX30_init 9 = .ok (.aload_n 0, 1) := by decide +kernel
theorem dX30_init_10 : decode cX30_init 10 = .ok (.iload_n 2, 1) := by decide +kernel
theorem dX30_init_11 : decode cX30_init 11 = .ok (.putfield 13, 3) := by decide +kernel
theorem dX30_init_14 : decode cX30_init 14 = .ok (.aload_n 0, 1) := by decide +kernel
theorem dX30_init_15 : decode cX30_init 15 = .ok (.aload_n 3, 1) := by decide +kernel
theorem dX30_init_16 : decode cX30_init 16 = .ok (.putfield 17, 3) := by decide +kernel
theorem dX30_init_19 : decode cX30_init 19 = .ok (.return_, 1) := by decide +kernel
theorem dX30_lower_0 : decode cX30_lower 0 = .ok (.aload_n 0, 1) := by decide +kernel
theorem dX30_lower_1 : decode cX30_lower 1 = .ok (.getfield 7, 3) := by decide +kernel
theorem dX30_lower_4 : decode cX30_lower 4 = .ok (.aload_n 1, 1) := by decide +kernel
theorem dX30_lower_5 : decode cX30_lower 5 = .ok (.invokevirtual 21, 3) := by decide +kernel
theorem dX30_lower_8 : decode cX30_lower 8 = .ok (.astore_n 2, 1) := by decide +kernel
theorem dX30_lower_9 : decode cX30_lower 9 = .ok (.aload_n 0, 1) := by decide +kernel
theorem dX30_lower_10 : decode cX30_lower 10 = .ok (.getfield 7, 3) := by decide +kernel
theorem dX30_lower_13 : decode cX30_lower 13 = .ok (.getfield 27, 3) := by decide +kernel
theorem dX30_lower_16 : decode cX30_lower 16 = .ok (.ifnonnull 10, 3) := by decide +kernel
theorem dX30_lower_19 : decode cX30_lower 19 = .ok (.iconst 0, 1) := by decide +kernel
theorem dX30_lower_20 : decode cX30_lower 20 = .ok (.invokestatic 30, 3) := by decide +kernel
theorem dX30_lower_23 : decode cX30_lower 23 = .ok (.goto 22, 3) := by decide +kernel
theorem dX30_lower_26 : decode cX30_lower 26 = .ok (.aload_n 1, 1) := by decide +kernel
theorem dX30_lower_27 : decode cX30_lower 27 = .ok (.aload_n 2, 1) := by decide +kernel
theorem dX30_lower_28 : decode cX30_lower 28 = .ok (.aload_n 0, 1) := by decide +kernel
theorem dX30_lower_29 : decode cX30_lower 29 = .ok (.getfield 7, 3) := by decide +kernel
theorem dX30_lower_32 : decode cX30_lower 32 = .ok (.getfield 27, 3) := by decide +kernel
theorem dX30_lower_35 : decode cX30_lower 35 = .ok (.aload_n 0, 1) := by decide +kernel
theorem dX30_lower_36 : decode cX30_lower 36 = .ok (.getfield 7, 3) := by decide +kernel
theorem dX30_lower_39 : decode cX30_lower 39 = .ok (.getfield 36, 3) := by decide +kernel
theorem dX30_lower_42 : decode cX30_lower 42 = .ok (.invokevirtual 39, 3) := by decide +kernel
theorem dX30_lower_45 : decode cX30_lower 45 = .ok (.lstore_n 3, 1) := by decide +kernel
theorem dX30_lower_46 : decode cX30_lower 46 = .ok (.aload_n 0, 1) := by decide +kernel
theorem dX30_lower_47 : decode cX30_lower 47 = .ok (.getfield 13, 3) := by decide +kernel
theorem dX30_lower_50 : decode cX30_lower 50 = .ok (.ifCond .ge 7, 3) := by decide +kernel
theorem dX30_lower_53 : decode cX30_lower 53 = .ok (.lconst 0, 1) := by decide +kernel
theorem dX30_lower_54 : decode cX30_lower 54 = .ok (.goto 27, 3) := by decide +kernel
theorem dX30_lower_57 : decode cX30_lower 57 = .ok (.aload_n 0, 1) := by decide +kernel
theorem dX30_lower_58 : decode cX30_lower 58 = .ok (.getfield 7, 3) := by decide +kernel
theorem dX30_lower_61 : decode cX30_lower 61 = .ok (.getfield 27, 3) := by decide +kernel
theorem dX30_lower_64 : decode cX30_lower 64 = .ok (.ifnonnull 11, 3) := by decide +kernel
theorem dX30_lower_67 : decode cX30_lower 67 = .ok (.aload_n 1, 1) := by decide +kernel
theorem dX30_lower_68 : decode cX30_lower 68 = .ok (.aload_n 2, 1) := by decide +kernel
theorem dX30_lower_69 : decode cX30_lower 69 = .ok (.invokevirtual 42, 3) := by decide +kernel
theorem dX30_lower_72 : decode cX30_lower 72 = .ok (.goto 9, 3) := by decide +kernel
theorem dX30_lower_75 : decode cX30_lower 75 = .ok (.aload_n 1, 1) := by decide +kernel
theorem dX30_lower_76 : decode cX30_lower 76 = .ok (.aload_n 2, 1) := by decide +kernel
theorem dX30_lower_77 : decode cX30_lower 77 = .ok (.lload_n 3, 1) := by decide +kernel
theorem dX30_lower_78 : decode cX30_lower 78 = .ok (.invokevirtual 46, 3) := by decide +kernel
theorem dX30_lower_81 : decode cX30_lower 81 = .ok (.lstore 5, 2) := by decide +kernel
theorem dX30_lower_83 : decode cX30_lower 83 = .ok (.aload_n 0, 1) := by decide +kernel
theorem dX30_lower_84 : decode cX30_lower 84 = .ok (.getfield 17, 3) := by decide +kernel
theorem dX30_lower_87 : decode cX30_lower 87 = .ok (.ifnonnull 10, 3) := by decide +kernel
theorem dX30_lower_90 : decode cX30_lower 90 = .ok (.iconst 1, 1) := by decide +kernel
theorem dX30_lower_91 : decode cX30_lower 91 = .ok (.invokestatic 30, 3) := by decide +kernel
theorem dX30_lower_94 : decode cX30_lower 94 = .ok (.goto 11, 3) := by decide +kernel
theorem dX30_lower_97 : decode cX30_lower 97 = .ok (.aload_n 0, 1) := by decide +kernel
theorem dX30_lower_98 : decode cX30_lower 98 = .ok (.getfield 17, 3) := by decide +kernel
theorem dX30_lower_101 : decode cX30_lower 101 = .ok (.aload_n 1, 1) := by decide +kernel
theorem dX30_lower_102 : decode cX30_lower 102 = .ok (.invokevirtual 50, 3) := by decide +kernel
theorem dX30_lower_105 : decode cX30_lower 105 = .ok (.lstore 7, 2) := by decide +kernel
theorem dX30_lower_107 : decode cX30_lower 107 = .ok (.aload_n 0, 1) := by decide +kernel
theorem dX30_lower_108 : decode cX30_lower 108 = .ok (.getfield 13, 3) := by decide +kernel
theorem dX30_lower_111 : decode cX30_lower 111 = .ok (.ifCond .lt 17, 3) := by decide +kernel
theorem dX30_lower_114 : decode cX30_lower 114 = .ok (.aload_n 1, 1) := by decide +kernel
theorem dX30_lower_115 : decode cX30_lower 115 = .ok (.aload_n 0, 1) := by decide +kernel
theorem dX30_lower_116 : decode cX30_lower 116 = .ok (.getfield 13, 3) := by decide +kernel
theorem dX30_lower_119 : decode cX30_lower 119 = .ok (.lload 5, 2) := by decide +kernel
theorem dX30_lower_121 : decode cX30_lower 121 = .ok (.lload 7, 2) := by decide +kernel
theorem dX30_lower_123 : decode cX30_lower 123 = .ok (.invokevirtual 56, 3) := by decide +kernel
theorem dX30_lower_126 : decode cX30_lower 126 = .ok (.lstore 7, 2) := by decide +kernel
theorem dX30_lower_128 : decode cX30_lower 128 = .ok (.aload_n 0, 1) := by decide +kernel
theorem dX30_lower_129 : decode cX30_lower 129 = .ok (.getfield 7, 3) := by decide +kernel
theorem dX30_lower_132 : decode cX30_lower 132 = .ok (.getfield 27, 3) := by decide +kernel
theorem dX30_lower_135 : decode cX30_lower 135 = .ok (.ifnonnull 13, 3) := by decide +kernel
theorem dX30_lower_138 : decode cX30_lower 138 = .ok (.aload_n 1, 1) := by decide +kernel
theorem dX30_lower_139 : decode cX30_lower 139 = .ok (.aload_n 2, 1) := by decide +kernel
theorem dX30_lower_140 : decode cX30_lower 140 = .ok (.lload 7, 2) := by decide +kernel
theorem dX30_lower_142 : decode cX30_lower 142 = .ok (.invokevirtual 59, 3) := by decide +kernel
theorem dX30_lower_145 : decode cX30_lower 145 = .ok (.goto 11, 3) := by decide +kernel
theorem dX30_lower_148 : decode cX30_lower 148 = .ok (.aload_n 1, 1) := by decide +kernel
theorem dX30_lower_149 : decode cX30_lower 149 = .ok (.aload_n 2, 1) := by decide +kernel
theorem dX30_lower_150 : decode cX30_lower 150 = .ok (.lload_n 3, 1) := by decide +kernel
theorem dX30_lower_151 : decode cX30_lower 151 = .ok (.lload 7, 2) := by decide +kernel
theorem dX30_lower_153 : decode cX30_lower 153 = .ok (.invokevirtual 63, 3) := by decide +kernel
theorem dX30_lower_156 : decode cX30_lower 156 = .ok (.return_, 1) := by decide +kernel
theorem dX31_init_0 : decode cX31_init 0 = .ok (.aload_n 0, 1) := by decide +kernel
theorem dX31_init_1 : decode cX31_init 1 = .ok (.invokespecial 1, 3) := by decide +kernel
theorem dX31_init_4 : decode cX31_init 4 = .ok (.aload_n 0, 1) := by decide +kernel
theorem dX31_init_5 : decode cX31_init 5 = .ok (.iload_n 1, 1) := by decide +kernel
theorem dX31_init_6 : decode cX31_init 6 = .ok (.putfield 7, 3) := by decide +kernel
theorem dX31_init_9 : decode cX31_init 9 = .ok (.aload_n 0, 1) := by decide +kernel
theorem dX31_init_10 : decode cX31_init 10 = .ok (.iload_n 2, 1) := by decide +kernel
theorem dX31_init_11 : decode cX31_init 11 = .ok (.putfield 13, 3) := by decide +kernel
theorem dX31_init_14 : decode cX31_init 14 = .ok (.return_, 1) := by decide +kernel
theorem dX31_lower_0 : decode cX31_lower 0 = .ok (.aload_n 1, 1) := by decide +kernel
theorem dX31_lower_1 : decode cX31_lower 1 = .ok (.getfield 17, 3) := by decide +kernel
theorem dX31_lower_4 : decode cX31_lower 4 = .ok (.ifnonnull 14, 3) := by decide +kernel
theorem dX31_lower_7 : decode cX31_lower 7 = .ok (.aload_n 1, 1) := by decide +kernel
theorem dX31_lower_8 : decode cX31_lower 8 = .ok (.bipush 9, 2) := by decide +kernel
theorem dX31_lower_10 : decode cX31_lower 10 = .ok (.aload_n 0, 1) := by decide +kernel
theorem dX31_lower_11 : decode cX31_lower 11 = .ok (.getfield 7, 3) := by decide +kernel
theorem dX31_lower_14 : decode cX31_lower 14 = .ok (.invokevirtual 23, 3) := by decide +kernel
theorem dX31_lower_17 : decode cX31_lower 17 = .ok (.athrow, 1) := by decide +kernel
theorem dX31_lower_18 : decode cX31_lower 18 = .ok (.aload_n 1, 1) := by decide +kernel
theorem dX31_lower_19 : decode cX31_lower 19 = .ok (.aload_n 0, 1) := by decide +kernel
theorem dX31_lower_20 : decode cX31_lower 20 = .ok (.getfield 13, 3) := by decide +kernel
theorem dX31_lower_23 : decode cX31_lower 23 = .ok (.ifCond .eq 10, 3) := by decide +kernel
theorem dX31_lower_26 : decode cX31_lower 26 = .ok (.aload_n 1, 1) := by decide +kernel
theorem dX31_lower_27 : decode cX31_lower 27 = .ok (.getfield 17, 3) := by decide +kernel
theorem dX31_lower_30 : decode cX31_lower 30 = .ok (.goto 7, 3) := by decide +kernel
theorem dX31_lower_33 : decode cX31_lower 33 = .ok (.aload_n 1, 1) := by decide +kernel
theorem dX31_lower_34 : decode cX31_lower 34 = .ok (.getfield 27, 3) := by decide +kernel
theorem dX31_lower_37 : decode cX31_lower 37 = .ok (.invokevirtual 30, 3) := by decide +kernel
theorem dX31_lower_40 : decode cX31_lower 40 = .ok (.aload_n 1, 1) := by decide +kernel
theorem dX31_lower_41 : decode cX31_lower 41 = .ok (.aload_n 1, 1) := by decide +kernel
theorem dX31_lower_42 : decode cX31_lower 42 = .ok (.invokevirtual 34, 3) := by decide +kernel
theorem dX31_lower_45 : decode cX31_lower 45 = .ok (.invokevirtual 38, 3) := by decide +kernel
theorem dX31_lower_48 : decode cX31_lower 48 = .ok (.return_, 1) := by decide +kernel
theorem dX32_init_0 : decode cX32_init 0 = .ok (.aload_n 0, 1) := by decide +kernel
theorem dX32_init_1 : decode cX32_init 1 = .ok (.invokespecial 1, 3) := by decide +kernel
theorem dX32_init_4 : decode cX32_init 4 = .ok (.aload_n 0, 1) := by decide +kernel
theorem dX32_init_5 : decode cX32_init 5 = .ok (.iload_n 1, 1) := by decide +kernel
theorem dX32_init_6 : decode cX32_init 6 = .ok (.putfield 7, 3) := by decide +kernel
theorem dX32_init_9 : decode cX32_init 9 = .ok (.aload_n 0, 1) := by decide +kernel
theorem dX32_init_10 : decode cX32_init 10 = .ok (.aload_n 2, 1) := by decide +kernel
theorem dX32_init_11 : decode cX32_init 11 = .ok (.putfield 13, 3) := by decide +kernel
theorem dX32_init_14 : decode cX32_init 14 = .ok (.return_, 1) := by decide +kernel
theorem dX32_lower_0 : decode cX32_lower 0 = .ok (.aload_n 1, 1) := by decide +kernel
theorem dX32_lower_1 : decode cX32_lower 1 = .ok (.getfield 17, 3) := by decide +kernel
theorem dX32_lower_4 : decode cX32_lower 4 = .ok (.getfield 23, 3) := by decide +kernel
theorem dX32_lower_7 : decode cX32_lower 7 = .ok (.aload_n 0, 1) := by decide +kernel
theorem dX32_lower_8 : decode cX32_lower 8 = .ok (.getfield 13, 3) := by decide +kernel
theorem dX32_lower_11 : decode cX32_lower 11 = .ok (.ifnonnull 7, 3) := by decide +kernel
theorem dX32_lower_14 : decode cX32_lower 14 = .ok (.iconst 1, 1) := by decide +kernel
theorem dX32_lower_15 : decode cX32_lower 15 = .ok (.goto 4, 3) := by decide +kernel
theorem dX32_lower_18 : decode cX32_lower 18 = .ok (.iconst 0, 1) := by decide +kernel
theorem dX32_lower_19 : decode cX32_lower 19 = .ok (.if_icmp .eq 50, 3) := by decide +kernel
theorem dX32_lower_22 : decode cX32_lower 22 = .ok (.aload_n 0, 1) := by decide +kernel
theorem dX32_lower_23 : decode cX32_lower 23 = .ok (.getfield 13, 3) := by decide +kernel
theorem dX32_lower_26 : decode cX32_lower 26 = .ok (.ifnull 32, 3) := by decide +kernel
theorem dX32_lower_29 : decode cX32_lower 29 = .ok (.aload_n 0, 1) := by decide +kernel
theorem dX32_lower_30 : decode cX32_lower 30 = .ok (.getfield 13, 3) := by decide +kernel
theorem dX32_lower_33 : decode cX32_lower 33 = .ok (.invokevirtual 29, 3) := by decide +kernel
theorem dX32_lower_36 : decode cX32_lower 36 = .ok (.ifCond .lt 22, 3) := by decide +kernel
theorem dX32_lower_39 : decode cX32_lower 39 = .ok (.aload_n 1, 1) := by decide +kernel
theorem dX32_lower_40 : decode cX32_lower 40 = .ok (.aload_n 0, 1) := by decide +kernel
theorem dX32_lower_41 : decode cX32_lower 41 = .ok (.getfield 13, 3) := by decide +kernel
theorem dX32_lower_44 : decode cX32_lower 44 = .ok (.invokevirtual 29, 3) := by decide +kernel
theorem dX32_lower_47 : decode cX32_lower 47 = .ok (.aload_n 0, 1) := by decide +kernel
theorem dX32_lower_48 : decode cX32_lower 48 = .ok (.getfield 13, 3) := by decide +kernel
theorem dX32_lower_51 : decode cX32_lower 51 = .ok (.getfield 35, 3) := by decide +kernel
theorem dX32_lower_54 : decode cX32_lower 54 = .ok (.invokevirtual 38, 3) := by decide +kernel
theorem dX32_lower_57 : decode cX32_lower 57 = .ok (.pop, 1) := by decide +kernel
theorem dX32_lower_58 : decode cX32_lower 58 = .ok (.aload_n 1, 1) := by decide +kernel
theorem dX32_lower_59 : decode cX32_lower 59 = .ok (.bipush 8, 2) := by decide +kernel
theorem dX32_lower_61 : decode cX32_lower 61 = .ok (.aload_n 0, 1) := by decide +kernel
theorem dX32_lower_62 : decode cX32_lower 62 = .ok (.getfield 7, 3) := by decide +kernel
theorem dX32_lower_65 : decode cX32_lower 65 = .ok (.invokevirtual 42, 3) := by decide +kernel
theorem dX32_lower_68 : decode cX32_lower 68 = .ok (.athrow, 1) := by decide +kernel
theorem dX32_lower_69 : decode cX32_lower 69 = .ok (.aload_n 1, 1) := by decide +kernel
theorem dX32_lower_70 : decode cX32_lower 70 = .ok (.aload_n 0, 1) := by decide +kernel
theorem dX32_lower_71 : decode cX32_lower 71 = .ok (.getfield 13, 3) := by decide +kernel
theorem dX32_lower_74 : decode cX32_lower 74 = .ok (.ifnonnull 10, 3) := by decide +kernel
theorem dX32_lower_77 : decode cX32_lower 77 = .ok (.iconst 0, 1) := by decide +kernel
theorem dX32_lower_78 : decode cX32_lower 78 = .ok (.invokestatic 46, 3) := by decide +kernel
theorem dX32_lower_81 : decode cX32_lower 81 = .ok (.goto 11, 3) := by decide +kernel
theorem dX32_lower_84 : decode cX32_lower 84 = .ok (.aload_n 0, 1) := by decide +kernel
theorem dX32_lower_85 : decode cX32_lower 85 = .ok (.getfield 13, 3) := by decide +kernel
theorem dX32_lower_88 : decode cX32_lower 88 = .ok (.aload_n 1, 1) := by decide +kernel
theorem dX32_lower_89 : decode cX32_lower 89 = .ok (.invokevirtual 50, 3) := by decide +kernel
theorem dX32_lower_92 : decode cX32_lower 92 = .ok (.invokevirtual 54, 3) := by decide +kernel
theorem dX32_lower_95 : decode cX32_lower 95 = .ok (.aload_n 1, 1) := by decide +kernel
theorem dX32_lower_96 : decode cX32_lower 96 = .ok (.aload_n 1, 1) := by decide +kernel
theorem dX32_lower_97 : decode cX32_lower 97 = .ok (.invokevirtual 58, 3) := by decide +kernel
theorem dX32_lower_100 : decode cX32_lower 100 = .ok (.invokevirtual 62, 3) := by decide +kernel
theorem dX32_lower_103 : decode cX32_lower 103 = .ok (.return_, 1) := by decide +kernel
theorem dX33_init_0 : decode cX33_init 0 = .ok (.aload_n 0, 1) := by decide +kernel
theorem dX33_init_1 : decode cX33_init 1 = .ok (.invokespecial 1, 3) := by decide +kernel
theorem dX33_init_4 : decode cX33_init 4 = .ok (.aload_n 0, 1) := by decide +kernel
theorem dX33_init_5 : decode cX33_init 5 = .ok (.aload_n 1, 1) := by decide +kernel
theorem dX33_init_6 : decode cX33_init 6 = .ok (.putfield 7, 3) := by decide +kernel
theorem dX33_init_9 : decode cX33_init 9 = .ok (.aload_n 0, 1) := by decide +kernel
theorem dX33_init_10 : decode cX33_init 10 = .ok (.iload_n 2, 1) := by decide +kernel
theorem dX33_init_11 : decode cX33_init 11 = .ok (.putfield 13, 3) := by decide +kernel
theorem dX33_init_14 : decode cX33_init 14 = .ok (.return_, 1) := by decide +kernel
theorem dX33_lower_0 : decode cX33_lower 0 = .ok (.aload_n 0, 1) := by decide +kernel
theorem dX33_lower_1 : decode cX33_lower 1 = .ok (.getfield 7, 3) := by decide +kernel
theorem dX33_lower_4 : decode cX33_lower 4 = .ok (.aload_n 1, 1) := by decide +kernel
theorem dX33_lower_5 : decode cX33_lower 5 = .ok (.invokevirtual 17, 3) := by decide +kernel
theorem dX33_lower_8 : decode cX33_lower 8 = .ok (.lstore_n 2, 1) := by decide +kernel
theorem dX33_lower_9 : decode cX33_lower 9 = .ok (.aload_n 0, 1) := by decide +kernel
theorem dX33_lower_10 : decode cX33_lower 10 = .ok (.getfield 13, 3) := by decide +kernel
theorem dX33_lower_13 : decode cX33_lower 13 = .ok (.ifCond .eq 9, 3) := by decide +kernel
theorem dX33_lower_16 : decode cX33_lower 16 = .ok (.aload_n 1, 1) := by decide +kernel
theorem dX33_lower_17 : decode cX33_lower 17 = .ok (.lload_n 2, 1) := by decide +kernel
theorem dX33_lower_18 : decode cX33_lower 18 = .ok (.invokevirtual 23, 3) := by decide +kernel
theorem dX33_lower_21 : decode cX33_lower 21 = .ok (.return_, 1) := by decide +kernel
theorem dX33_lower_22 : decode cX33_lower 22 = .ok (.aload_n 1, 1) := by decide +kernel
theorem dX33_lower_23 : decode cX33_lower 23 = .ok (.lload_n 2, 1) := by decide +kernel
theorem dX33_lower_24 : decode cX33_lower 24 = .ok (.invokevirtual 29, 3) := by decide +kernel
theorem dX33_lower_27 : decode cX33_lower 27 = .ok (.aload_n 1, 1) := by decide +kernel
theorem dX33_lower_28 : decode cX33_lower 28 = .ok (.aload_n 1, 1) := by decide +kernel
theorem dX33_lower_29 : decode cX33_lower 29 = .ok (.invokevirtual 32, 3) := by decide +kernel
theorem dX33_lower_32 : decode cX33_lower 32 = .ok (.invokevirtual 36, 3) := by decide +kernel
theorem dX33_lower_35 : decode cX33_lower 35 = .ok (.return_, 1) := by decide +kernel
