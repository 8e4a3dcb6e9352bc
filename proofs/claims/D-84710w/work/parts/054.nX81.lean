/-! names: X8_flow X8_judge X8_how X8_what X8_numberAll X8_begin X8_ofConstant (tools/chunk.py) -/
set_option maxRecDepth 100000
theorem q1918 : (Jvm.Cond.fieldLinkNest "CompiledHouse$Cleaner" (209 : Nat) "CompiledHouse$Act" "d" "I" "CompiledHouse") ∈ lw_tbl := lw_at lw_m8 42 rfl
theorem f_X8_209_35 : xF RX8 209 35 1 := ⟨_, "CompiledHouse$Act", rfl, by decide, Or.inr ⟨_, q1918⟩, Or.inl rfl⟩
theorem q1914 : (Jvm.Cond.fieldLinkNest "CompiledHouse$Cleaner" (212 : Nat) "CompiledHouse$Act" "act" "I" "CompiledHouse") ∈ lw_tbl := lw_at lw_m8 38 rfl
theorem f_X8_212_35 : xF RX8 212 35 0 := ⟨_, "CompiledHouse$Act", rfl, by decide, Or.inr ⟨_, q1914⟩, Or.inl rfl⟩
theorem q1924 : (Jvm.Cond.fieldLinkNest "CompiledHouse$Cleaner" (213 : Nat) "CompiledHouse$Act" "a" "J" "CompiledHouse") ∈ lw_tbl := lw_at lw_m8 48 rfl
theorem f_X8_213_35 : xF RX8 213 35 2 := ⟨_, "CompiledHouse$Act", rfl, by decide, Or.inr ⟨_, q1924⟩, Or.inl rfl⟩
theorem q2501 : (Jvm.Cond.methodLinkNest "CompiledHouse$Cleaner" (214 : Nat) ({ cls := "CompiledHouse", name := "below", desc := "(I)Z" } : Jvm.MethodName) "CompiledHouse") ∈ lw_tbl := lw_at lw_m10 145 rfl
theorem lk_X8_214 : xLk RX8 214 yX0_below := Or.inr ⟨_, q2501⟩
theorem q1928 : (Jvm.Cond.fieldLinkNest "CompiledHouse$Cleaner" (218 : Nat) "CompiledHouse$Act" "b" "J" "CompiledHouse") ∈ lw_tbl := lw_at lw_m8 52 rfl
theorem f_X8_218_35 : xF RX8 218 35 3 := ⟨_, "CompiledHouse$Act", rfl, by decide, Or.inr ⟨_, q1928⟩, Or.inl rfl⟩
theorem q2496 : (Jvm.Cond.methodLinkNest "CompiledHouse$Cleaner" (205 : Nat) ({ cls := "CompiledHouse", name := "isConstant", desc := "(J)Z" } : Jvm.MethodName) "CompiledHouse") ∈ lw_tbl := lw_at lw_m10 140 rfl
theorem lk_X8_205 : xLk RX8 205 yX0_isConstant := Or.inr ⟨_, q2496⟩
theorem q622 : (Jvm.Cond.fieldLink "CompiledHouse$Cleaner" (219 : Nat) "CompiledHouse$Cleaner" "time" "I") ∈ lw_all := lw_g (lw_at lw_m2 186 rfl) rfl
theorem f_X8_219_7 : xF RX8 219 7 14 := ⟨_, "CompiledHouse$Cleaner", rfl, by decide, Or.inl q622, Or.inl rfl⟩
theorem q1945 : (Jvm.Cond.fieldLinkNest "CompiledHouse$Cleaner" (222 : Nat) "CompiledHouse$Act" "args" "[J" "CompiledHouse") ∈ lw_tbl := lw_at lw_m8 69 rfl
theorem f_X8_222_35 : xF RX8 222 35 9 := ⟨_, "CompiledHouse$Act", rfl, by decide, Or.inr ⟨_, q1945⟩, Or.inl rfl⟩
theorem q2509 : (Jvm.Cond.methodLink "CompiledHouse$Cleaner" (226 : Nat) ({ cls := "CompiledHouse$Cleaner", name := "begin", desc := "(I)V" } : Jvm.MethodName)) ∈ lw_all := lw_g (lw_at lw_m10 153 rfl) rfl
abbrev cX8_begin : ByteArray := prog_10_method_14_code
def yX8_begin : MethodName := ⟨RX8, "begin", "(I)V"⟩
theorem q2512 : (Jvm.Cond.code ({ cls := "CompiledHouse$Cleaner", name := "begin", desc := "(I)V" } : Jvm.MethodName) prog_10_method_14_code (3 : Nat) (Option.none : Option Jvm.ClassFile.FieldType)) ∈ lw_all := lw_g (lw_at lw_m10 156 rfl) rfl
def kX8_begin : xK := (yX8_begin, cX8_begin, 3, none, [])
theorem me_X8_begin : xMe kX8_begin 1 := ⟨q2512, q211, by decide, by decide, by decide +kernel⟩
theorem q2511 : (Jvm.Cond.instanceMethod ({ cls := "CompiledHouse$Cleaner", name := "begin", desc := "(I)V" } : Jvm.MethodName)) ∈ lw_all := lw_g (lw_at lw_m10 155 rfl) rfl
theorem is_X8_begin : Cond.instanceMethod kX8_begin.y ∈ lw_all := q2511
theorem se_X8_begin : Cond.selects RX8 kX8_begin.y kX8_begin.y ∈ lw_all := qs60
theorem lk_X8_226 : xLk RX8 226 yX8_begin := Or.inl q2509
theorem q2516 : (Jvm.Cond.methodLink "CompiledHouse$Cleaner" (230 : Nat) ({ cls := "CompiledHouse$Cleaner", name := "ofConstant", desc := "(I)I" } : Jvm.MethodName)) ∈ lw_all := lw_g (lw_at lw_m10 160 rfl) rfl
abbrev cX8_ofConstant : ByteArray := prog_10_method_16_code
def yX8_ofConstant : MethodName := ⟨RX8, "ofConstant", "(I)I"⟩
theorem q2519 : (Jvm.Cond.code ({ cls := "CompiledHouse$Cleaner", name := "ofConstant", desc := "(I)I" } : Jvm.MethodName) prog_10_method_16_code (3 : Nat) (Option.some Jvm.ClassFile.FieldType.int)) ∈ lw_all := lw_g (lw_at lw_m10 163 rfl) rfl
def kX8_ofConstant : xK := (yX8_ofConstant, cX8_ofConstant, 3, some .int, [])
theorem me_X8_ofConstant : xMe kX8_ofConstant 1 := ⟨q2519, q211, by decide, by decide, by decide +kernel⟩
theorem q2518 : (Jvm.Cond.instanceMethod ({ cls := "CompiledHouse$Cleaner", name := "ofConstant", desc := "(I)I" } : Jvm.MethodName)) ∈ lw_all := lw_g (lw_at lw_m10 162 rfl) rfl
theorem is_X8_ofConstant : Cond.instanceMethod kX8_ofConstant.y ∈ lw_all := q2518
theorem se_X8_ofConstant : Cond.selects RX8 kX8_ofConstant.y kX8_ofConstant.y ∈ lw_all := qs61
theorem lk_X8_230 : xLk RX8 230 yX8_ofConstant := Or.inl q2516
theorem q2524 : (Jvm.Cond.methodLink "CompiledHouse$Cleaner" (234 : Nat) ({ cls := "CompiledHouse$Cleaner", name := "define", desc := "(II)V" } : Jvm.MethodName)) ∈ lw_all := lw_g (lw_at lw_m10 168 rfl) rfl
abbrev cX8_define : ByteArray := prog_10_method_19_code
def yX8_define : MethodName := ⟨RX8, "define", "(II)V"⟩
theorem q2527 : (Jvm.Cond.code ({ cls := "CompiledHouse$Cleaner", name := "define", desc := "(II)V" } : Jvm.MethodName) prog_10_method_19_code (3 : Nat) (Option.none : Option Jvm.ClassFile.FieldType)) ∈ lw_all := lw_g (lw_at lw_m10 171 rfl) rfl
def kX8_define : xK := (yX8_define, cX8_define, 3, none, [])
theorem me_X8_define : xMe kX8_define 2 := ⟨q2527, q211, by decide, by decide, by decide +kernel⟩
theorem q2526 : (Jvm.Cond.instanceMethod ({ cls := "CompiledHouse$Cleaner", name := "define", desc := "(II)V" } : Jvm.MethodName)) ∈ lw_all := lw_g (lw_at lw_m10 170 rfl) rfl
theorem is_X8_define : Cond.instanceMethod kX8_define.y ∈ lw_all := q2526
theorem se_X8_define : Cond.selects RX8 kX8_define.y kX8_define.y ∈ lw_all := qs63
theorem lk_X8_234 : xLk RX8 234 yX8_define := Or.inl q2524
theorem q644 : (Jvm.Cond.fieldLink "CompiledHouse$Cleaner" (238 : Nat) "CompiledHouse$Cleaner" "all" "Ljava/util/ArrayList;") ∈ lw_all := lw_g (lw_at lw_m2 208 rfl) rfl
theorem f_X8_238_7 : xF RX8 238 7 36 := ⟨_, "CompiledHouse$Cleaner", rfl, by decide, Or.inl q644, Or.inl rfl⟩
theorem q645 : (Jvm.Cond.fieldLink "CompiledHouse$Cleaner" (241 : Nat) "CompiledHouse$Cleaner" "stay" "I") ∈ lw_all := lw_g (lw_at lw_m2 209 rfl) rfl
theorem f_X8_241_7 : xF RX8 241 7 37 := ⟨_, "CompiledHouse$Cleaner", rfl, by decide, Or.inl q645, Or.inl rfl⟩
theorem q2532 : (Jvm.Cond.methodLink "CompiledHouse$Cleaner" (244 : Nat) ({ cls := "CompiledHouse$Cleaner", name := "act", desc := "(LCompiledHouse$Act;)V" } : Jvm.MethodName)) ∈ lw_all := lw_g (lw_at lw_m10 176 rfl) rfl
abbrev cX8_act : ByteArray := prog_10_method_22_code
def yX8_act : MethodName := ⟨RX8, "act", "(LCompiledHouse$Act;)V"⟩
theorem q2535 : (Jvm.Cond.code ({ cls := "CompiledHouse$Cleaner", name := "act", desc := "(LCompiledHouse$Act;)V" } : Jvm.MethodName) prog_10_method_22_code (3 : Nat) (Option.none : Option Jvm.ClassFile.FieldType)) ∈ lw_all := lw_g (lw_at lw_m10 179 rfl) rfl
def kX8_act : xK := (yX8_act, cX8_act, 3, none, [])
theorem me_X8_act : xMe kX8_act 1 := ⟨q2535, q211, by decide, by decide, by decide +kernel⟩
theorem q2534 : (Jvm.Cond.instanceMethod ({ cls := "CompiledHouse$Cleaner", name := "act", desc := "(LCompiledHouse$Act;)V" } : Jvm.MethodName)) ∈ lw_all := lw_g (lw_at lw_m10 178 rfl) rfl
theorem is_X8_act : Cond.instanceMethod kX8_act.y ∈ lw_all := q2534
theorem se_X8_act : Cond.selects RX8 kX8_act.y kX8_act.y ∈ lw_all := qs65
theorem lk_X8_244 : xLk RX8 244 yX8_act := Or.inl q2532
theorem q2597 : (Jvm.Cond.methodLink "CompiledHouse$Cleaner" (246 : Nat) ({ cls := "CompiledHouse$Cleaner", name := "end", desc := "(LCompiledHouse$Block;)V" } : Jvm.MethodName)) ∈ lw_all := lw_g (lw_at lw_m11 1 rfl) rfl
abbrev cX8_end : ByteArray := prog_10_method_32_code
def yX8_end : MethodName := ⟨RX8, "end", "(LCompiledHouse$Block;)V"⟩
theorem q2600 : (Jvm.Cond.code ({ cls := "CompiledHouse$Cleaner", name := "end", desc := "(LCompiledHouse$Block;)V" } : Jvm.MethodName) prog_10_method_32_code (2 : Nat) (Option.none : Option Jvm.ClassFile.FieldType)) ∈ lw_all := lw_g (lw_at lw_m11 4 rfl) rfl
def kX8_end : xK := (yX8_end, cX8_end, 2, none, [])
theorem me_X8_end : xMe kX8_end 1 := ⟨q2600, q211, by decide, by decide, by decide +kernel⟩
theorem q2599 : (Jvm.Cond.instanceMethod ({ cls := "CompiledHouse$Cleaner", name := "end", desc := "(LCompiledHouse$Block;)V" } : Jvm.MethodName)) ∈ lw_all := lw_g (lw_at lw_m11 3 rfl) rfl
theorem is_X8_end : Cond.instanceMethod kX8_end.y ∈ lw_all := q2599
theorem se_X8_end : Cond.selects RX8 kX8_end.y kX8_end.y ∈ lw_all := qs77
theorem lk_X8_246 : xLk RX8 246 yX8_end := Or.inl q2597
theorem q621 : (Jvm.Cond.fieldLink "CompiledHouse$Cleaner" (248 : Nat) "CompiledHouse$Cleaner" "numbers" "I") ∈ lw_all := lw_g (lw_at lw_m2 185 rfl) rfl
theorem f_X8_248_7 : xF RX8 248 7 13 := ⟨_, "CompiledHouse$Cleaner", rfl, by decide, Or.inl q621, Or.inl rfl⟩
theorem q623 : (Jvm.Cond.fieldLink "CompiledHouse$Cleaner" (251 : Nat) "CompiledHouse$Cleaner" "sums" "I") ∈ lw_all := lw_g (lw_at lw_m2 187 rfl) rfl
theorem f_X8_251_7 : xF RX8 251 7 15 := ⟨_, "CompiledHouse$Cleaner", rfl, by decide, Or.inl q623, Or.inl rfl⟩
theorem q624 : (Jvm.Cond.fieldLink "CompiledHouse$Cleaner" (254 : Nat) "CompiledHouse$Cleaner" "loads" "I") ∈ lw_all := lw_g (lw_at lw_m2 188 rfl) rfl
theorem f_X8_254_7 : xF RX8 254 7 16 := ⟨_, "CompiledHouse$Cleaner", rfl, by decide, Or.inl q624, Or.inl rfl⟩
theorem q625 : (Jvm.Cond.fieldLink "CompiledHouse$Cleaner" (257 : Nat) "CompiledHouse$Cleaner" "checks" "I") ∈ lw_all := lw_g (lw_at lw_m2 189 rfl) rfl
theorem f_X8_257_7 : xF RX8 257 7 17 := ⟨_, "CompiledHouse$Cleaner", rfl, by decide, Or.inl q625, Or.inl rfl⟩
theorem q626 : (Jvm.Cond.fieldLink "CompiledHouse$Cleaner" (260 : Nat) "CompiledHouse$Cleaner" "constants" "I") ∈ lw_all := lw_g (lw_at lw_m2 190 rfl) rfl
theorem f_X8_260_7 : xF RX8 260 7 18 := ⟨_, "CompiledHouse$Cleaner", rfl, by decide, Or.inl q626, Or.inl rfl⟩
theorem q2513 : (Jvm.Cond.methodLink "CompiledHouse$Cleaner" (263 : Nat) ({ cls := "java/lang/Math", name := "max", desc := "(II)I" } : Jvm.MethodName)) ∈ lw_all := lw_g (lw_at lw_m10 157 rfl) rfl
theorem lk_X8_263 : xLk RX8 263 yJ11_max := Or.inl q2513
theorem q630 : (Jvm.Cond.fieldLink "CompiledHouse$Cleaner" (269 : Nat) "CompiledHouse$Cleaner" "value" "[I") ∈ lw_all := lw_g (lw_at lw_m2 194 rfl) rfl
theorem f_X8_269_7 : xF RX8 269 7 22 := ⟨_, "CompiledHouse$Cleaner", rfl, by decide, Or.inl q630, Or.inl rfl⟩
theorem q642 : (Jvm.Cond.fieldLink "CompiledHouse$Cleaner" (272 : Nat) "CompiledHouse$Cleaner" "isValue" "[Z") ∈ lw_all := lw_g (lw_at lw_m2 206 rfl) rfl
theorem f_X8_272_7 : xF RX8 272 7 34 := ⟨_, "CompiledHouse$Cleaner", rfl, by decide, Or.inl q642, Or.inl rfl⟩
theorem q631 : (Jvm.Cond.fieldLink "CompiledHouse$Cleaner" (276 : Nat) "CompiledHouse$Cleaner" "sumAct" "[I") ∈ lw_all := lw_g (lw_at lw_m2 195 rfl) rfl
theorem f_X8_276_7 : xF RX8 276 7 23 := ⟨_, "CompiledHouse$Cleaner", rfl, by decide, Or.inl q631, Or.inl rfl⟩
theorem q632 : (Jvm.Cond.fieldLink "CompiledHouse$Cleaner" (279 : Nat) "CompiledHouse$Cleaner" "sumA" "[I") ∈ lw_all := lw_g (lw_at lw_m2 196 rfl) rfl
theorem f_X8_279_7 : xF RX8 279 7 24 := ⟨_, "CompiledHouse$Cleaner", rfl, by decide, Or.inl q632, Or.inl rfl⟩
theorem q633 : (Jvm.Cond.fieldLink "CompiledHouse$Cleaner" (282 : Nat) "CompiledHouse$Cleaner" "sumB" "[I") ∈ lw_all := lw_g (lw_at lw_m2 197 rfl) rfl
theorem f_X8_282_7 : xF RX8 282 7 25 := ⟨_, "CompiledHouse$Cleaner", rfl, by decide, Or.inl q633, Or.inl rfl⟩
theorem q634 : (Jvm.Cond.fieldLink "CompiledHouse$Cleaner" (285 : Nat) "CompiledHouse$Cleaner" "sumIs" "[I") ∈ lw_all := lw_g (lw_at lw_m2 198 rfl) rfl
theorem f_X8_285_7 : xF RX8 285 7 26 := ⟨_, "CompiledHouse$Cleaner", rfl, by decide, Or.inl q634, Or.inl rfl⟩
theorem q635 : (Jvm.Cond.fieldLink "CompiledHouse$Cleaner" (288 : Nat) "CompiledHouse$Cleaner" "loadAct" "[I") ∈ lw_all := lw_g (lw_at lw_m2 199 rfl) rfl
theorem f_X8_288_7 : xF RX8 288 7 27 := ⟨_, "CompiledHouse$Cleaner", rfl, by decide, Or.inl q635, Or.inl rfl⟩
theorem q636 : (Jvm.Cond.fieldLink "CompiledHouse$Cleaner" (291 : Nat) "CompiledHouse$Cleaner" "loadA" "[I") ∈ lw_all := lw_g (lw_at lw_m2 200 rfl) rfl
theorem f_X8_291_7 : xF RX8 291 7 28 := ⟨_, "CompiledHouse$Cleaner", rfl, by decide, Or.inl q636, Or.inl rfl⟩
theorem q637 : (Jvm.Cond.fieldLink "CompiledHouse$Cleaner" (294 : Nat) "CompiledHouse$Cleaner" "loadB" "[I") ∈ lw_all := lw_g (lw_at lw_m2 201 rfl) rfl
theorem f_X8_294_7 : xF RX8 294 7 29 := ⟨_, "CompiledHouse$Cleaner", rfl, by decide, Or.inl q637, Or.inl rfl⟩
theorem q638 : (Jvm.Cond.fieldLink "CompiledHouse$Cleaner" (297 : Nat) "CompiledHouse$Cleaner" "loadIs" "[I") ∈ lw_all := lw_g (lw_at lw_m2 202 rfl) rfl
theorem f_X8_297_7 : xF RX8 297 7 30 := ⟨_, "CompiledHouse$Cleaner", rfl, by decide, Or.inl q638, Or.inl rfl⟩
theorem q2514 : (Jvm.Cond.classLink "CompiledHouse$Cleaner" (300 : Nat) "CompiledHouse$Symbol") ∈ lw_all := lw_g (lw_at lw_m10 158 rfl) rfl
theorem q643 : (Jvm.Cond.fieldLink "CompiledHouse$Cleaner" (302 : Nat) "CompiledHouse$Cleaner" "loadOf" "[LCompiledHouse$Symbol;") ∈ lw_all := lw_g (lw_at lw_m2 207 rfl) rfl
theorem f_X8_302_7 : xF RX8 302 7 35 := ⟨_, "CompiledHouse$Cleaner", rfl, by decide, Or.inl q643, Or.inl rfl⟩
theorem q639 : (Jvm.Cond.fieldLink "CompiledHouse$Cleaner" (306 : Nat) "CompiledHouse$Cleaner" "checkA" "[I") ∈ lw_all := lw_g (lw_at lw_m2 203 rfl) rfl
theorem f_X8_306_7 : xF RX8 306 7 31 := ⟨_, "CompiledHouse$Cleaner", rfl, by decide, Or.inl q639, Or.inl rfl⟩
theorem q640 : (Jvm.Cond.fieldLink "CompiledHouse$Cleaner" (309 : Nat) "CompiledHouse$Cleaner" "checkB" "[I") ∈ lw_all := lw_g (lw_at lw_m2 204 rfl) rfl
theorem f_X8_309_7 : xF RX8 309 7 32 := ⟨_, "CompiledHouse$Cleaner", rfl, by decide, Or.inl q640, Or.inl rfl⟩
theorem q641 : (Jvm.Cond.fieldLink "CompiledHouse$Cleaner" (312 : Nat) "CompiledHouse$Cleaner" "constantIs" "[I") ∈ lw_all := lw_g (lw_at lw_m2 205 rfl) rfl
theorem f_X8_312_7 : xF RX8 312 7 33 := ⟨_, "CompiledHouse$Cleaner", rfl, by decide, Or.inl q641, Or.inl rfl⟩
theorem q2520 : (Jvm.Cond.methodLink "CompiledHouse$Cleaner" (315 : Nat) ({ cls := "CompiledHouse$Cleaner", name := "fresh", desc := "()I" } : Jvm.MethodName)) ∈ lw_all := lw_g (lw_at lw_m10 164 rfl) rfl
abbrev cX8_fresh : ByteArray := prog_10_method_15_code
def yX8_fresh : MethodName := ⟨RX8, "fresh", "()I"⟩
theorem q2523 : (Jvm.Cond.code ({ cls := "CompiledHouse$Cleaner", name := "fresh", desc := "()I" } : Jvm.MethodName) prog_10_method_15_code (1 : Nat) (Option.some Jvm.ClassFile.FieldType.int)) ∈ lw_all := lw_g (lw_at lw_m10 167 rfl) rfl
def kX8_fresh : xK := (yX8_fresh, cX8_fresh, 1, some .int, [])
theorem me_X8_fresh : xMe kX8_fresh 0 := ⟨q2523, q211, by decide, by decide, by decide +kernel⟩
theorem q2522 : (Jvm.Cond.instanceMethod ({ cls := "CompiledHouse$Cleaner", name := "fresh", desc := "()I" } : Jvm.MethodName)) ∈ lw_all := lw_g (lw_at lw_m10 166 rfl) rfl
theorem is_X8_fresh : Cond.instanceMethod kX8_fresh.y ∈ lw_all := q2522
theorem se_X8_fresh : Cond.selects RX8 kX8_fresh.y kX8_fresh.y ∈ lw_all := qs62
theorem lk_X8_315 : xLk RX8 315 yX8_fresh := Or.inl q2520
theorem dX8_flow_0 : decode cX8_flow 0 = .ok (.aload_n 0, 1) := by decide +kernel
theorem dX8_flow_1 : decode cX8_flow 1 = .ok (.getfield 179, 3) := by decide +kernel
theorem dX8_flow_4 : decode cX8_flow 4 = .ok (.aload_n 1, 1) := by decide +kernel
theorem dX8_flow_5 : decode cX8_flow 5 = .ok (.getfield 142, 3) := by decide +kernel
theorem dX8_flow_8 : decode cX8_flow 8 = .ok (.imul, 1) := by decide +kernel
theorem dX8_flow_9 : decode cX8_flow 9 = .ok (.istore_n 2, 1) := by decide +kernel
theorem dX8_flow_10 : decode cX8_flow 10 = .ok (.aload_n 1, 1) := by decide +kernel
theorem dX8_flow_11 : decode cX8_flow 11 = .ok (.getfield 181, 3) := by decide +kernel
theorem dX8_flow_14 : decode cX8_flow 14 = .ok (.ifCond .ne 7, 3) := by decide +kernel
theorem dX8_flow_17 : decode cX8_flow 17 = .ok (.iconst 1, 1) := by decide +kernel
theorem dX8_flow_18 : decode cX8_flow 18 = .ok (.goto 4, 3) := by decide +kernel
theorem dX8_flow_21 : decode cX8_flow 21 = .ok (.iconst 0, 1) := by decide +kernel
theorem dX8_flow_22 : decode cX8_flow 22 = .ok (.istore_n 3, 1) := by decide +kernel
theorem dX8_flow_23 : decode cX8_flow 23 = .ok (.iload_n 3, 1) := by decide +kernel
theorem dX8_flow_24 : decode cX8_flow 24 = .ok (.ifCond .eq 31, 3) := by decide +kernel
theorem dX8_flow_27 : decode cX8_flow 27 = .ok (.iconst 0, 1) := by decide +kernel
theorem dX8_flow_28 : decode cX8_flow 28 = .ok (.istore 4, 2) := by decide +kernel
theorem dX8_flow_30 : decode cX8_flow 30 = .ok (.iload 4, 2) := by decide +kernel
theorem dX8_flow_32 : decode cX8_flow 32 = .ok (.aload_n 0, 1) := by decide +kernel
theorem dX8_flow_33 : decode cX8_flow 33 = .ok (.getfield 179, 3) := by decide +kernel
theorem dX8_flow_36 : decode cX8_flow 36 = .ok (.if_icmp .ge 19, 3) := by decide +kernel
theorem dX8_flow_39 : decode cX8_flow 39 = .ok (.aload_n 0, 1) := by decide +kernel
theorem dX8_flow_40 : decode cX8_flow 40 = .ok (.getfield 22, 3) := by decide +kernel
theorem dX8_flow_43 : decode cX8_flow 43 = .ok (.iload_n 2, 1) := by decide +kernel
theorem dX8_flow_44 : decode cX8_flow 44 = .ok (.iload 4, 2) := by decide +kernel
theorem dX8_flow_46 : decode cX8_flow 46 = .ok (.iadd, 1) := by decide +kernel
theorem dX8_flow_47 : decode cX8_flow 47 = .ok (.iconst 0, 1) := by decide +kernel
theorem dX8_flow_48 : decode cX8_flow 48 = .ok (.iastore, 1) := by decide +kernel
theorem dX8_flow_49 : decode cX8_flow 49 = .ok (.iinc 4 1, 3) := by decide +kernel
theorem dX8_flow_52 : decode cX8_flow 52 = .ok (.goto (-22), 3) := by decide +kernel
theorem dX8_flow_55 : decode cX8_flow 55 = .ok (.aload_n 1, 1) := by decide +kernel
theorem dX8_flow_56 : decode cX8_flow 56 = .ok (.iconst 1, 1) := by decide +kernel
theorem dX8_flow_57 : decode cX8_flow 57 = .ok (.putfield 181, 3) := by decide +kernel
theorem dX8_flow_60 : decode cX8_flow 60 = .ok (.iconst 0, 1) := by decide +kernel
theorem dX8_flow_61 : decode cX8_flow 61 = .ok (.istore 4, 2) := by decide +kernel
theorem dX8_flow_63 : decode cX8_flow 63 = .ok (.iload 4, 2) := by decide +kernel
theorem dX8_flow_65 : decode cX8_flow 65 = .ok (.aload_n 0, 1) := by decide +kernel
theorem dX8_flow_66 : decode cX8_flow 66 = .ok (.getfield 179, 3) := by decide +kernel
theorem dX8_flow_69 : decode cX8_flow 69 = .ok (.if_icmp .ge 133, 3) := by decide +kernel
theorem dX8_flow_72 : decode cX8_flow 72 = .ok (.aload_n 0, 1) := by decide +kernel
theorem dX8_flow_73 : decode cX8_flow 73 = .ok (.getfield 22, 3) := by decide +kernel
theorem dX8_flow_76 : decode cX8_flow 76 = .ok (.iload_n 2, 1) := by decide +kernel
theorem dX8_flow_77 : decode cX8_flow 77 = .ok (.iload 4, 2) := by decide +kernel
theorem dX8_flow_79 : decode cX8_flow 79 = .ok (.iadd, 1) := by decide +kernel
theorem dX8_flow_80 : decode cX8_flow 80 = .ok (.iaload, 1) := by decide +kernel
theorem dX8_flow_81 : decode cX8_flow 81 = .ok (.istore 5, 2) := by decide +kernel
theorem dX8_flow_83 : decode cX8_flow 83 = .ok (.aload_n 0, 1) := by decide +kernel
theorem dX8_flow_84 : decode cX8_flow 84 = .ok (.getfield 28, 3) := by decide +kernel
theorem dX8_flow_87 : decode cX8_flow 87 = .ok (.iload 4, 2) := by decide +kernel
theorem dX8_flow_89 : decode cX8_flow 89 = .ok (.iaload, 1) := by decide +kernel
theorem dX8_flow_90 : decode cX8_flow 90 = .ok (.ifCond .eq 106, 3) := by decide +kernel
theorem dX8_flow_93 : decode cX8_flow 93 = .ok (.iload 5, 2) := by decide +kernel
theorem dX8_flow_95 : decode cX8_flow 95 = .ok (.iconst 2, 1) := by decide +kernel
theorem dX8_flow_96 : decode cX8_flow 96 = .ok (.if_icmp .ne 6, 3) := by decide +kernel
theorem dX8_flow_99 : decode cX8_flow 99 = .ok (.goto 97, 3) := by decide +kernel
theorem dX8_flow_102 : decode cX8_flow 102 = .ok (.iload 5, 2) := by decide +kernel
theorem dX8_flow_104 : decode cX8_flow 104 = .ok (.iconst 1, 1) := by decide +kernel
theorem dX8_flow_105 : decode cX8_flow 105 = .ok (.if_icmp .ne 37, 3) := by decide +kernel
theorem dX8_flow_108 : decode cX8_flow 108 = .ok (.aload_n 0, 1) := by decide +kernel
theorem dX8_flow_109 : decode cX8_flow 109 = .ok (.getfield 28, 3) := by decide +kernel
theorem dX8_flow_112 : decode cX8_flow 112 = .ok (.iload 4, 2) := by decide +kernel
theorem dX8_flow_114 : decode cX8_flow 114 = .ok (.iaload, 1) := by decide +kernel
theorem dX8_flow_115 : decode cX8_flow 115 = .ok (.iconst 1, 1) := by decide +kernel
theorem dX8_flow_116 : decode cX8_flow 116 = .ok (.if_icmp .ne 26, 3) := by decide +kernel
theorem dX8_flow_119 : decode cX8_flow 119 = .ok (.aload_n 0, 1) := by decide +kernel
theorem dX8_flow_120 : decode cX8_flow 120 = .ok (.getfield 31, 3) := by decide +kernel
theorem dX8_flow_123 : decode cX8_flow 123 = .ok (.iload 4, 2) := by decide +kernel
theorem dX8_flow_125 : decode cX8_flow 125 = .ok (.iaload, 1) := by decide +kernel
theorem dX8_flow_126 : decode cX8_flow 126 = .ok (.aload_n 0, 1) := by decide +kernel
theorem dX8_flow_127 : decode cX8_flow 127 = .ok (.getfield 25, 3) := by decide +kernel
theorem dX8_flow_130 : decode cX8_flow 130 = .ok (.iload_n 2, 1) := by decide +kernel
theorem dX8_flow_131 : decode cX8_flow 131 = .ok (.iload 4, 2) := by decide +kernel
theorem dX8_flow_133 : decode cX8_flow 133 = .ok (.iadd, 1) := by decide +kernel
theorem dX8_flow_134 : decode cX8_flow 134 = .ok (.iaload, 1) := by decide +kernel
theorem dX8_flow_135 : decode cX8_flow 135 = .ok (.if_icmp .ne 7, 3) := by decide +kernel
theorem dX8_flow_138 : decode cX8_flow 138 = .ok (.iconst 1, 1) := by decide +kernel
theorem dX8_flow_139 : decode cX8_flow 139 = .ok (.goto 4, 3) := by decide +kernel
theorem dX8_flow_142 : decode cX8_flow 142 = .ok (.iconst 0, 1) := by decide +kernel
theorem dX8_flow_143 : decode cX8_flow 143 = .ok (.istore 6, 2) := by decide +kernel
theorem dX8_flow_145 : decode cX8_flow 145 = .ok (.iload 6, 2) := by decide +kernel
theorem dX8_flow_147 : decode cX8_flow 147 = .ok (.ifCond .eq 6, 3) := by decide +kernel
theorem dX8_flow_150 : decode cX8_flow 150 = .ok (.goto 46, 3) := by decide +kernel
theorem dX8_flow_153 : decode cX8_flow 153 = .ok (.aload_n 0, 1) := by decide +kernel
theorem dX8_flow_154 : decode cX8_flow 154 = .ok (.getfield 22, 3) := by decide +kernel
theorem dX8_flow_157 : decode cX8_flow 157 = .ok (.iload_n 2, 1) := by decide +kernel
theorem dX8_flow_158 : decode cX8_flow 158 = .ok (.iload 4, 2) := by decide +kernel
theorem dX8_flow_160 : decode cX8_flow 160 = .ok (.iadd, 1) := by decide +kernel
theorem dX8_flow_161 : decode cX8_flow 161 = .ok (.iload 5, 2) := by decide +kernel
theorem dX8_flow_163 : decode cX8_flow 163 = .ok (.ifCond .ne 13, 3) := by decide +kernel
theorem dX8_flow_166 : decode cX8_flow 166 = .ok (.aload_n 0, 1) := by decide +kernel
theorem dX8_flow_167 : decode cX8_flow 167 = .ok (.getfield 28, 3) := by decide +kernel
theorem dX8_flow_170 : decode cX8_flow 170 = .ok (.iload 4, 2) := by decide +kernel
theorem dX8_flow_172 : decode cX8_flow 172 = .ok (.iaload, 1) := by decide +kernel
theorem dX8_flow_173 : decode cX8_flow 173 = .ok (.goto 4, 3) := by decide +kernel
theorem dX8_flow_176 : decode cX8_flow 176 = .ok (.iconst 2, 1) := by decide +kernel
theorem dX8_flow_177 : decode cX8_flow 177 = .ok (.iastore, 1) := by decide +kernel
theorem dX8_flow_178 : decode cX8_flow 178 = .ok (.aload_n 0, 1) := by decide +kernel
theorem dX8_flow_179 : decode cX8_flow 179 = .ok (.getfield 25, 3) := by decide +kernel
theorem dX8_flow_182 : decode cX8_flow 182 = .ok (.iload_n 2, 1) := by decide +kernel
theorem dX8_flow_183 : decode cX8_flow 183 = .ok (.iload 4, 2) := by decide +kernel
theorem dX8_flow_185 : decode cX8_flow 185 = .ok (.iadd, 1) := by decide +kernel
theorem dX8_flow_186 : decode cX8_flow 186 = .ok (.aload_n 0, 1) := by decide +kernel
theorem dX8_flow_187 : decode cX8_flow 187 = .ok (.getfield 31, 3) := by decide +kernel
theorem dX8_flow_190 : decode cX8_flow 190 = .ok (.iload 4, 2) := by decide +kernel
theorem dX8_flow_192 : decode cX8_flow 192 = .ok (.iaload, 1) := by decide +kernel
theorem dX8_flow_193 : decode cX8_flow 193 = .ok (.iastore, 1) := by decide +kernel
theorem dX8_flow_194 : decode cX8_flow 194 = .ok (.iconst 1, 1) := by decide +kernel
theorem dX8_flow_195 : decode cX8_flow 195 = .ok (.istore_n 3, 1) := by decide +kernel
theorem dX8_flow_196 : decode cX8_flow 196 = .ok (.iinc 4 1, 3) := by decide +kernel
theorem dX8_flow_199 : decode cX8_flow 199 = .ok (.goto (-136), 3) := by decide +kernel
theorem dX8_flow_202 : decode cX8_flow 202 = .ok (.iload_n 3, 1) := by decide +kernel
theorem dX8_flow_203 : decode cX8_flow 203 = .ok (.ifCond .eq 10, 3) := by decide +kernel
theorem dX8_flow_206 : decode cX8_flow 206 = .ok (.aload_n 1, 1) := by decide +kernel
theorem dX8_flow_207 : decode cX8_flow 207 = .ok (.getfield 106, 3) := by decide +kernel
theorem dX8_flow_210 : decode cX8_flow 210 = .ok (.ifCond .eq 4, 3) := by decide +kernel
theorem dX8_flow_213 : decode cX8_flow 213 = .ok (.return_, 1) := by decide +kernel
theorem dX8_flow_214 : decode cX8_flow 214 = .ok (.aload_n 1, 1) := by decide +kernel
theorem dX8_flow_215 : decode cX8_flow 215 = .ok (.iconst 1, 1) := by decide +kernel
theorem dX8_flow_216 : decode cX8_flow 216 = .ok (.putfield 106, 3) := by decide +kernel
theorem dX8_flow_219 : decode cX8_flow 219 = .ok (.aload_n 0, 1) := by decide +kernel
theorem dX8_flow_220 : decode cX8_flow 220 = .ok (.getfield 18, 3) := by decide +kernel
theorem dX8_flow_223 : decode cX8_flow 223 = .ok (.aload_n 1, 1) := by decide +kernel
theorem dX8_flow_224 : decode cX8_flow 224 = .ok (.invokevirtual 156, 3) := by decide +kernel
theorem dX8_flow_227 : decode cX8_flow 227 = .ok (.pop, 1) := by decide +kernel
theorem dX8_flow_228 : decode cX8_flow 228 = .ok (.return_, 1) := by decide +kernel
theorem dX8_judge_0 : decode cX8_judge 0 = .ok (.aload_n 1, 1) := by decide +kernel
theorem dX8_judge_1 : decode cX8_judge 1 = .ok (.getfield 209, 3) := by decide +kernel
theorem dX8_judge_4 : decode cX8_judge 4 = .ok (.ifCond .ge 4, 3) := by decide +kernel
theorem dX8_judge_7 : decode cX8_judge 7 = .ok (.return_, 1) := by decide +kernel
theorem dX8_judge_8 : decode cX8_judge 8 = .ok (.iconst 2, 1) := by decide +kernel
theorem dX8_judge_9 : decode cX8_judge 9 = .ok (.istore_n 2, 1) := by decide +kernel
theorem dX8_judge_10 : decode cX8_judge 10 = .ok (.iconst 0, 1) := by decide +kernel
theorem dX8_judge_11 : decode cX8_judge 11 = .ok (.istore_n 3, 1) := by decide +kernel
theorem dX8_judge_12 : decode cX8_judge 12 = .ok (.aload_n 1, 1) := by decide +kernel
theorem dX8_judge_13 : decode cX8_judge 13 = .ok (.getfield 212, 3) := by decide +kernel
theorem dX8_judge_16 : decode cX8_judge 16 = .ok (.bipush 20, 2) := by decide +kernel
theorem dX8_judge_18 : decode cX8_judge 18 = .ok (.if_icmp .ne 33, 3) := by decide +kernel
theorem dX8_judge_21 : decode cX8_judge 21 = .ok (.aload_n 0, 1) := by decide +kernel
theorem dX8_judge_22 : decode cX8_judge 22 = .ok (.aload_n 1, 1) := by decide +kernel
theorem dX8_judge_23 : decode cX8_judge 23 = .ok (.getfield 213, 3) := by decide +kernel
theorem dX8_judge_26 : decode cX8_judge 26 = .ok (.invokevirtual 194, 3) := by decide +kernel
theorem dX8_judge_29 : decode cX8_judge 29 = .ok (.istore_n 2, 1) := by decide +kernel
theorem dX8_judge_30 : decode cX8_judge 30 = .ok (.iload_n 2, 1) := by decide +kernel
theorem dX8_judge_31 : decode cX8_judge 31 = .ok (.iconst 1, 1) := by decide +kernel
theorem dX8_judge_32 : decode cX8_judge 32 = .ok (.if_icmp .ne 14, 3) := by decide +kernel
theorem dX8_judge_35 : decode cX8_judge 35 = .ok (.aload_n 0, 1) := by decide +kernel
theorem dX8_judge_36 : decode cX8_judge 36 = .ok (.aload_n 1, 1) := by decide +kernel
theorem dX8_judge_37 : decode cX8_judge 37 = .ok (.getfield 213, 3) := by decide +kernel
theorem dX8_judge_40 : decode cX8_judge 40 = .ok (.invokevirtual 198, 3) := by decide +kernel
theorem dX8_judge_43 : decode cX8_judge 43 = .ok (.goto 4, 3) := by decide +kernel
theorem dX8_judge_46 : decode cX8_judge 46 = .ok (.iconst 0, 1) := by decide +kernel
theorem dX8_judge_47 : decode cX8_judge 47 = .ok (.istore_n 3, 1) := by decide +kernel
theorem dX8_judge_48 : decode cX8_judge 48 = .ok (.goto 88, 3) := by decide +kernel
theorem dX8_judge_51 : decode cX8_judge 51 = .ok (.aload_n 1, 1) := by decide +kernel
theorem dX8_judge_52 : decode cX8_judge 52 = .ok (.getfield 212, 3) := by decide +kernel
theorem dX8_judge_55 : decode cX8_judge 55 = .ok (.invokestatic 214, 3) := by decide +kernel
theorem dX8_judge_58 : decode cX8_judge 58 = .ok (.ifCond .eq 78, 3) := by decide +kernel
theorem dX8_judge_61 : decode cX8_judge 61 = .ok (.aload_n 0, 1) := by decide +kernel
theorem dX8_judge_62 : decode cX8_judge 62 = .ok (.aload_n 1, 1) := by decide +kernel
theorem dX8_judge_63 : decode cX8_judge 63 = .ok (.getfield 213, 3) := by decide +kernel
theorem dX8_judge_66 : decode cX8_judge 66 = .ok (.invokevirtual 194, 3) := by decide +kernel
theorem dX8_judge_69 : decode cX8_judge 69 = .ok (.iconst 1, 1) := by decide +kernel
theorem dX8_judge_70 : decode cX8_judge 70 = .ok (.if_icmp .ne 19, 3) := by decide +kernel
theorem dX8_judge_73 : decode cX8_judge 73 = .ok (.aload_n 0, 1) := by decide +kernel
theorem dX8_judge_74 : decode cX8_judge 74 = .ok (.aload_n 1, 1) := by decide +kernel
theorem dX8_judge_75 : decode cX8_judge 75 = .ok (.getfield 218, 3) := by decide +kernel
theorem dX8_judge_78 : decode cX8_judge 78 = .ok (.invokevirtual 194, 3) := by decide +kernel
theorem dX8_judge_81 : decode cX8_judge 81 = .ok (.iconst 1, 1) := by decide +kernel
theorem dX8_judge_82 : decode cX8_judge 82 = .ok (.if_icmp .ne 7, 3) := by decide +kernel
theorem dX8_judge_85 : decode cX8_judge 85 = .ok (.iconst 1, 1) := by decide +kernel
theorem dX8_judge_86 : decode cX8_judge 86 = .ok (.goto 4, 3) := by decide +kernel
theorem dX8_judge_89 : decode cX8_judge 89 = .ok (.iconst 0, 1) := by decide +kernel
theorem dX8_judge_90 : decode cX8_judge 90 = .ok (.istore 4, 2) := by decide +kernel
theorem dX8_judge_92 : decode cX8_judge 92 = .ok (.iload 4, 2) := by decide +kernel
theorem dX8_judge_94 : decode cX8_judge 94 = .ok (.ifCond .eq 7, 3) := by decide +kernel
theorem dX8_judge_97 : decode cX8_judge 97 = .ok (.iconst 1, 1) := by decide +kernel
theorem dX8_judge_98 : decode cX8_judge 98 = .ok (.goto 4, 3) := by decide +kernel
theorem dX8_judge_101 : decode cX8_judge 101 = .ok (.iconst 2, 1) := by decide +kernel
theorem dX8_judge_102 : decode cX8_judge 102 = .ok (.istore_n 2, 1) := by decide +kernel
theorem dX8_judge_103 : decode cX8_judge 103 = .ok (.iload 4, 2) := by decide +kernel
theorem dX8_judge_105 : decode cX8_judge 105 = .ok (.ifCond .eq 29, 3) := by decide +kernel
theorem dX8_judge_108 : decode cX8_judge 108 = .ok (.aload_n 1, 1) := by decide +kernel
theorem dX8_judge_109 : decode cX8_judge 109 = .ok (.getfield 212, 3) := by decide +kernel
theorem dX8_judge_112 : decode cX8_judge 112 = .ok (.aload_n 0, 1) := by decide +kernel
theorem dX8_judge_113 : decode cX8_judge 113 = .ok (.aload_n 1, 1) := by decide +kernel
theorem dX8_judge_114 : decode cX8_judge 114 = .ok (.getfield 213, 3) := by decide +kernel
theorem dX8_judge_117 : decode cX8_judge 117 = .ok (.invokevirtual 198, 3) := by decide +kernel
theorem dX8_judge_120 : decode cX8_judge 120 = .ok (.aload_n 0, 1) := by decide +kernel
theorem dX8_judge_121 : decode cX8_judge 121 = .ok (.aload_n 1, 1) := by decide +kernel
theorem dX8_judge_122 : decode cX8_judge 122 = .ok (.getfield 218, 3) := by decide +kernel
theorem dX8_judge_125 : decode cX8_judge 125 = .ok (.invokevirtual 198, 3) := by decide +kernel
theorem dX8_judge_128 : decode cX8_judge 128 = .ok (.invokestatic 201, 3) := by decide +kernel
theorem dX8_judge_131 : decode cX8_judge 131 = .ok (.goto 4, 3) := by decide +kernel
theorem dX8_judge_134 : decode cX8_judge 134 = .ok (.iconst 0, 1) := by decide +kernel
theorem dX8_judge_135 : decode cX8_judge 135 = .ok (.istore_n 3, 1) := by decide +kernel
theorem dX8_judge_136 : decode cX8_judge 136 = .ok (.aload_n 0, 1) := by decide +kernel
theorem dX8_judge_137 : decode cX8_judge 137 = .ok (.getfield 9, 3) := by decide +kernel
theorem dX8_judge_140 : decode cX8_judge 140 = .ok (.aload_n 1, 1) := by decide +kernel
theorem dX8_judge_141 : decode cX8_judge 141 = .ok (.getfield 209, 3) := by decide +kernel
theorem dX8_judge_144 : decode cX8_judge 144 = .ok (.iaload, 1) := by decide +kernel
theorem dX8_judge_145 : decode cX8_judge 145 = .ok (.ifCond .lt 36, 3) := by decide +kernel
theorem dX8_judge_148 : decode cX8_judge 148 = .ok (.aload_n 0, 1) := by decide +kernel
theorem dX8_judge_149 : decode cX8_judge 149 = .ok (.getfield 28, 3) := by decide +kernel
theorem dX8_judge_152 : decode cX8_judge 152 = .ok (.aload_n 0, 1) := by decide +kernel
theorem dX8_judge_153 : decode cX8_judge 153 = .ok (.getfield 9, 3) := by decide +kernel
theorem dX8_judge_156 : decode cX8_judge 156 = .ok (.aload_n 1, 1) := by decide +kernel
theorem dX8_judge_157 : decode cX8_judge 157 = .ok (.getfield 209, 3) := by decide +kernel
theorem dX8_judge_160 : decode cX8_judge 160 = .ok (.iaload, 1) := by decide +kernel
theorem dX8_judge_161 : decode cX8_judge 161 = .ok (.iload_n 2, 1) := by decide +kernel
theorem dX8_judge_162 : decode cX8_judge 162 = .ok (.iastore, 1) := by decide +kernel
theorem dX8_judge_163 : decode cX8_judge 163 = .ok (.aload_n 0, 1) := by decide +kernel
theorem dX8_judge_164 : decode cX8_judge 164 = .ok (.getfield 31, 3) := by decide +kernel
theorem dX8_judge_167 : decode cX8_judge 167 = .ok (.aload_n 0, 1) := by decide +kernel
theorem dX8_judge_168 : decode cX8_judge 168 = .ok (.getfield 9, 3) := by decide +kernel
theorem dX8_judge_171 : decode cX8_judge 171 = .ok (.aload_n 1, 1) := by decide +kernel
theorem dX8_judge_172 : decode cX8_judge 172 = .ok (.getfield 209, 3) := by decide +kernel
theorem dX8_judge_175 : decode cX8_judge 175 = .ok (.iaload, 1) := by decide +kernel
theorem dX8_judge_176 : decode cX8_judge 176 = .ok (.iload_n 3, 1) := by decide +kernel
theorem dX8_judge_177 : decode cX8_judge 177 = .ok (.iastore, 1) := by decide +kernel
theorem dX8_judge_178 : decode cX8_judge 178 = .ok (.goto 36, 3) := by decide +kernel
theorem dX8_judge_181 : decode cX8_judge 181 = .ok (.aload_n 0, 1) := by decide +kernel
theorem dX8_judge_182 : decode cX8_judge 182 = .ok (.getfield 34, 3) := by decide +kernel
theorem dX8_judge_185 : decode cX8_judge 185 = .ok (.aload_n 1, 1) := by decide +kernel
theorem dX8_judge_186 : decode cX8_judge 186 = .ok (.getfield 209, 3) := by decide +kernel
theorem dX8_judge_189 : decode cX8_judge 189 = .ok (.aload_n 0, 1) := by decide +kernel
theorem dX8_judge_190 : decode cX8_judge 190 = .ok (.getfield 187, 3) := by decide +kernel
theorem dX8_judge_193 : decode cX8_judge 193 = .ok (.iastore, 1) := by decide +kernel
theorem dX8_judge_194 : decode cX8_judge 194 = .ok (.aload_n 0, 1) := by decide +kernel
theorem dX8_judge_195 : decode cX8_judge 195 = .ok (.getfield 37, 3) := by decide +kernel
theorem dX8_judge_198 : decode cX8_judge 198 = .ok (.aload_n 1, 1) := by decide +kernel
theorem dX8_judge_199 : decode cX8_judge 199 = .ok (.getfield 209, 3) := by decide +kernel
theorem dX8_judge_202 : decode cX8_judge 202 = .ok (.iload_n 2, 1) := by decide +kernel
theorem dX8_judge_203 : decode cX8_judge 203 = .ok (.iastore, 1) := by decide +kernel
theorem dX8_judge_204 : decode cX8_judge 204 = .ok (.aload_n 0, 1) := by decide +kernel
theorem dX8_judge_205 : decode cX8_judge 205 = .ok (.getfield 40, 3) := by decide +kernel
theorem dX8_judge_208 : decode cX8_judge 208 = .ok (.aload_n 1, 1) := by decide +kernel
theorem dX8_judge_209 : decode cX8_judge 209 = .ok (.getfield 209, 3) := by decide +kernel
theorem dX8_judge_212 : decode cX8_judge 212 = .ok (.iload_n 3, 1) := by decide +kernel
theorem dX8_judge_213 : decode cX8_judge 213 = .ok (.iastore, 1) := by decide +kernel
theorem dX8_judge_214 : decode cX8_judge 214 = .ok (.return_, 1) := by decide +kernel
theorem dX8_how_0 : decode cX8_how 0 = .ok (.lload_n 1, 1) := by decide +kernel
theorem dX8_how_1 : decode cX8_how 1 = .ok (.invokestatic 205, 3) := by decide +kernel
theorem dX8_how_4 : decode cX8_how 4 = .ok (.ifCond .eq 5, 3) := by decide +kernel
theorem dX8_how_7 : decode cX8_how 7 = .ok (.iconst 1, 1) := by decide +kernel
theorem dX8_how_8 : decode cX8_how 8 = .ok (.ireturn, 1) := by decide +kernel
theorem dX8_how_9 : decode cX8_how 9 = .ok (.lload_n 1, 1) := by decide +kernel
theorem dX8_how_10 : decode cX8_how 10 = .ok (.l2i, 1) := by decide +kernel
theorem dX8_how_11 : decode cX8_how 11 = .ok (.istore_n 3, 1) := by decide +kernel
theorem dX8_how_12 : decode cX8_how 12 = .ok (.aload_n 0, 1) := by decide +kernel
theorem dX8_how_13 : decode cX8_how 13 = .ok (.getfield 9, 3) := by decide +kernel
theorem dX8_how_16 : decode cX8_how 16 = .ok (.iload_n 3, 1) := by decide +kernel
theorem dX8_how_17 : decode cX8_how 17 = .ok (.iaload, 1) := by decide +kernel
theorem dX8_how_18 : decode cX8_how 18 = .ok (.ifCond .lt 17, 3) := by decide +kernel
theorem dX8_how_21 : decode cX8_how 21 = .ok (.aload_n 0, 1) := by decide +kernel
theorem dX8_how_22 : decode cX8_how 22 = .ok (.getfield 28, 3) := by decide +kernel
theorem dX8_how_25 : decode cX8_how 25 = .ok (.aload_n 0, 1) := by decide +kernel
theorem dX8_how_26 : decode cX8_how 26 = .ok (.getfield 9, 3) := by decide +kernel
theorem dX8_how_29 : decode cX8_how 29 = .ok (.iload_n 3, 1) := by decide +kernel
theorem dX8_how_30 : decode cX8_how 30 = .ok (.iaload, 1) := by decide +kernel
theorem dX8_how_31 : decode cX8_how 31 = .ok (.iaload, 1) := by decide +kernel
theorem dX8_how_32 : decode cX8_how 32 = .ok (.goto 26, 3) := by decide +kernel
theorem dX8_how_35 : decode cX8_how 35 = .ok (.aload_n 0, 1) := by decide +kernel
theorem dX8_how_36 : decode cX8_how 36 = .ok (.getfield 34, 3) := by decide +kernel
theorem dX8_how_39 : decode cX8_how 39 = .ok (.iload_n 3, 1) := by decide +kernel
theorem dX8_how_40 : decode cX8_how 40 = .ok (.iaload, 1) := by decide +kernel
theorem dX8_how_41 : decode cX8_how 41 = .ok (.aload_n 0, 1) := by decide +kernel
theorem dX8_how_42 : decode cX8_how 42 = .ok (.getfield 187, 3) := by decide +kernel
theorem dX8_how_45 : decode cX8_how 45 = .ok (.if_icmp .ne 12, 3) := by decide +kernel
theorem dX8_how_48 : decode cX8_how 48 = .ok (.aload_n 0, 1) := by decide +kernel
theorem dX8_how_49 : decode cX8_how 49 = .ok (.getfield 37, 3) := by decide +kernel
theorem dX8_how_52 : decode cX8_how 52 = .ok (.iload_n 3, 1) := by decide +kernel
theorem dX8_how_53 : decode cX8_how 53 = .ok (.iaload, 1) := by decide +kernel
theorem dX8_how_54 : decode cX8_how 54 = .ok (.goto 4, 3) := by decide +kernel
theorem dX8_how_57 : decode cX8_how 57 = .ok (.iconst 2, 1) := by decide +kernel
theorem dX8_how_58 : decode cX8_how 58 = .ok (.ireturn, 1) := by decide +kernel
theorem dX8_what_0 : decode cX8_what 0 = .ok (.lload_n 1, 1) := by decide +kernel
theorem dX8_what_1 : decode cX8_what 1 = .ok (.invokestatic 205, 3) := by decide +kernel
theorem dX8_what_4 : decode cX8_what 4 = .ok (.ifCond .eq 6, 3) := by decide +kernel
theorem dX8_what_7 : decode cX8_what 7 = .ok (.lload_n 1, 1) := by decide +kernel
theorem dX8_what_8 : decode cX8_what 8 = .ok (.l2i, 1) := by decide +kernel
theorem dX8_what_9 : decode cX8_what 9 = .ok (.ireturn, 1) := by decide +kernel
theorem dX8_what_10 : decode cX8_what 10 = .ok (.lload_n 1, 1) := by decide +kernel
theorem dX8_what_11 : decode cX8_what 11 = .ok (.l2i, 1) := by decide +kernel
theorem dX8_what_12 : decode cX8_what 12 = .ok (.istore_n 3, 1) := by decide +kernel
theorem dX8_what_13 : decode cX8_what 13 = .ok (.aload_n 0, 1) := by decide +kernel
theorem dX8_what_14 : decode cX8_what 14 = .ok (.getfield 9, 3) := by decide +kernel
theorem dX8_what_17 : decode cX8_what 17 = .ok (.iload_n 3, 1) := by decide +kernel
theorem dX8_what_18 : decode cX8_what 18 = .ok (.iaload, 1) := by decide +kernel
theorem dX8_what_19 : decode cX8_what 19 = .ok (.ifCond .lt 17, 3) := by decide +kernel
theorem dX8_what_22 : decode cX8_what 22 = .ok (.aload_n 0, 1) := by decide +kernel
theorem dX8_what_23 : decode cX8_what 23 = .ok (.getfield 31, 3) := by decide +kernel
theorem dX8_what_26 : decode cX8_what 26 = .ok (.aload_n 0, 1) := by decide +kernel
theorem dX8_what_27 : decode cX8_what 27 = .ok (.getfield 9, 3) := by decide +kernel
theorem dX8_what_30 : decode cX8_what 30 = .ok (.iload_n 3, 1) := by decide +kernel
theorem dX8_what_31 : decode cX8_what 31 = .ok (.iaload, 1) := by decide +kernel
theorem dX8_what_32 : decode cX8_what 32 = .ok (.iaload, 1) := by decide +kernel
theorem dX8_what_33 : decode cX8_what 33 = .ok (.goto 9, 3) := by decide +kernel
theorem dX8_what_36 : decode cX8_what 36 = .ok (.aload_n 0, 1) := by decide +kernel
theorem dX8_what_37 : decode cX8_what 37 = .ok (.getfield 40, 3) := by decide +kernel
theorem dX8_what_40 : decode cX8_what 40 = .ok (.iload_n 3, 1) := by decide +kernel
theorem dX8_what_41 : decode cX8_what 41 = .ok (.iaload, 1) := by decide +kernel
theorem dX8_what_42 : decode cX8_what 42 = .ok (.ireturn, 1) := by decide +kernel
theorem dX8_numberAll_0 : decode cX8_numberAll 0 = .ok (.aload_n 0, 1) := by decide +kernel
theorem dX8_numberAll_1 : decode cX8_numberAll 1 = .ok (.getfield 56, 3) := by decide +kernel
theorem dX8_numberAll_4 : decode cX8_numberAll 4 = .ok (.getfield 60, 3) := by decide +kernel
theorem dX8_numberAll_7 : decode cX8_numberAll 7 = .ok (.istore_n 1, 1) := by decide +kernel
theorem dX8_numberAll_8 : decode cX8_numberAll 8 = .ok (.aload_n 0, 1) := by decide +kernel
theorem dX8_numberAll_9 : decode cX8_numberAll 9 = .ok (.aload_n 0, 1) := by decide +kernel
theorem dX8_numberAll_10 : decode cX8_numberAll 10 = .ok (.getfield 43, 3) := by decide +kernel
theorem dX8_numberAll_13 : decode cX8_numberAll 13 = .ok (.iload_n 1, 1) := by decide +kernel
theorem dX8_numberAll_14 : decode cX8_numberAll 14 = .ok (.invokestatic 66, 3) := by decide +kernel
theorem dX8_numberAll_17 : decode cX8_numberAll 17 = .ok (.putfield 43, 3) := by decide +kernel
theorem dX8_numberAll_20 : decode cX8_numberAll 20 = .ok (.aload_n 0, 1) := by decide +kernel
theorem dX8_numberAll_21 : decode cX8_numberAll 21 = .ok (.getfield 46, 3) := by decide +kernel
theorem dX8_numberAll_24 : decode cX8_numberAll 24 = .ok (.arraylength, 1) := by decide +kernel
theorem dX8_numberAll_25 : decode cX8_numberAll 25 = .ok (.iload_n 1, 1) := by decide +kernel
theorem dX8_numberAll_26 : decode cX8_numberAll 26 = .ok (.if_icmp .ge 20, 3) := by decide +kernel
theorem dX8_numberAll_29 : decode cX8_numberAll 29 = .ok (.aload_n 0, 1) := by decide +kernel
theorem dX8_numberAll_30 : decode cX8_numberAll 30 = .ok (.aload_n 0, 1) := by decide +kernel
theorem dX8_numberAll_31 : decode cX8_numberAll 31 = .ok (.getfield 46, 3) := by decide +kernel
theorem dX8_numberAll_34 : decode cX8_numberAll 34 = .ok (.iload_n 1, 1) := by decide +kernel
theorem dX8_numberAll_35 : decode cX8_numberAll 35 = .ok (.invokestatic 66, 3) := by decide +kernel
theorem dX8_numberAll_38 : decode cX8_numberAll 38 = .ok (.putfield 46, 3) := by decide +kernel
theorem dX8_numberAll_41 : decode cX8_numberAll 41 = .ok (.aload_n 0, 1) := by decide +kernel
theorem dX8_numberAll_42 : decode cX8_numberAll 42 = .ok (.iconst 0, 1) := by decide +kernel
theorem dX8_numberAll_43 : decode cX8_numberAll 43 = .ok (.putfield 219, 3) := by decide +kernel
theorem dX8_numberAll_46 : decode cX8_numberAll 46 = .ok (.iconst 0, 1) := by decide +kernel
theorem dX8_numberAll_47 : decode cX8_numberAll 47 = .ok (.istore_n 2, 1) := by decide +kernel
theorem dX8_numberAll_48 : decode cX8_numberAll 48 = .ok (.iload_n 2, 1) := by decide +kernel
theorem dX8_numberAll_49 : decode cX8_numberAll 49 = .ok (.aload_n 0, 1) := by decide +kernel
theorem dX8_numberAll_50 : decode cX8_numberAll 50 = .ok (.getfield 56, 3) := by decide +kernel
theorem dX8_numberAll_53 : decode cX8_numberAll 53 = .ok (.getfield 101, 3) := by decide +kernel
theorem dX8_numberAll_56 : decode cX8_numberAll 56 = .ok (.invokevirtual 73, 3) := by decide +kernel
theorem dX8_numberAll_59 : decode cX8_numberAll 59 = .ok (.if_icmp .ge 271, 3) := by decide +kernel
theorem dX8_numberAll_62 : decode cX8_numberAll 62 = .ok (.aload_n 0, 1) := by decide +kernel
theorem dX8_numberAll_63 : decode cX8_numberAll 63 = .ok (.getfield 56, 3) := by decide +kernel
theorem dX8_numberAll_66 : decode cX8_numberAll 66 = .ok (.getfield 101, 3) := by decide +kernel
theorem dX8_numberAll_69 : decode cX8_numberAll 69 = .ok (.iload_n 2, 1) := by decide +kernel
theorem dX8_numberAll_70 : decode cX8_numberAll 70 = .ok (.invokevirtual 77, 3) := by decide +kernel
theorem dX8_numberAll_73 : decode cX8_numberAll 73 = .ok (.checkcast 104, 3) := by decide +kernel
theorem dX8_numberAll_76 : decode cX8_numberAll 76 = .ok (.astore_n 3, 1) := by decide +kernel
theorem dX8_numberAll_77 : decode cX8_numberAll 77 = .ok (.aload_n 3, 1) := by decide +kernel
theorem dX8_numberAll_78 : decode cX8_numberAll 78 = .ok (.getfield 181, 3) := by decide +kernel
theorem dX8_numberAll_81 : decode cX8_numberAll 81 = .ok (.ifCond .ne 6, 3) := by decide +kernel
theorem dX8_numberAll_84 : decode cX8_numberAll 84 = .ok (.goto 240, 3) := by decide +kernel
theorem dX8_numberAll_87 : decode cX8_numberAll 87 = .ok (.iconst 5, 1) := by decide +kernel
theorem dX8_numberAll_88 : decode cX8_numberAll 88 = .ok (.aload_n 3, 1) := by decide +kernel
theorem dX8_numberAll_89 : decode cX8_numberAll 89 = .ok (.getfield 153, 3) := by decide +kernel
theorem dX8_numberAll_92 : decode cX8_numberAll 92 = .ok (.invokevirtual 73, 3) := by decide +kernel
theorem dX8_numberAll_95 : decode cX8_numberAll 95 = .ok (.imul, 1) := by decide +kernel
theorem dX8_numberAll_96 : decode cX8_numberAll 96 = .ok (.iconst 2, 1) := by decide +kernel
theorem dX8_numberAll_97 : decode cX8_numberAll 97 = .ok (.aload_n 0, 1) := by decide +kernel
theorem dX8_numberAll_98 : decode cX8_numberAll 98 = .ok (.getfield 179, 3) := by decide +kernel
theorem dX8_numberAll_101 : decode cX8_numberAll 101 = .ok (.imul, 1) := by decide +kernel
theorem dX8_numberAll_102 : decode cX8_numberAll 102 = .ok (.iadd, 1) := by decide +kernel
theorem dX8_numberAll_103 : decode cX8_numberAll 103 = .ok (.bipush 20, 2) := by decide +kernel
theorem dX8_numberAll_105 : decode cX8_numberAll 105 = .ok (.iadd, 1) := by decide +kernel
theorem dX8_numberAll_106 : decode cX8_numberAll 106 = .ok (.istore 4, 2) := by decide +kernel
theorem dX8_numberAll_108 : decode cX8_numberAll 108 = .ok (.iconst 0, 1) := by decide +kernel
theorem dX8_numberAll_109 : decode cX8_numberAll 109 = .ok (.istore 5, 2) := by decide +kernel
theorem dX8_numberAll_111 : decode cX8_numberAll 111 = .ok (.iload 5, 2) := by decide +kernel
theorem dX8_numberAll_113 : decode cX8_numberAll 113 = .ok (.aload_n 3, 1) := by decide +kernel
theorem dX8_numberAll_114 : decode cX8_numberAll 114 = .ok (.getfield 153, 3) := by decide +kernel
theorem dX8_numberAll_117 : decode cX8_numberAll 117 = .ok (.invokevirtual 73, 3) := by decide +kernel
theorem dX8_numberAll_120 : decode cX8_numberAll 120 = .ok (.if_icmp .ge 50, 3) := by decide +kernel
theorem dX8_numberAll_123 : decode cX8_numberAll 123 = .ok (.aload_n 3, 1) := by decide +kernel
theorem dX8_numberAll_124 : decode cX8_numberAll 124 = .ok (.getfield 153, 3) := by decide +kernel
theorem dX8_numberAll_127 : decode cX8_numberAll 127 = .ok (.iload 5, 2) := by decide +kernel
theorem dX8_numberAll_129 : decode cX8_numberAll 129 = .ok (.invokevirtual 77, 3) := by decide +kernel
theorem dX8_numberAll_132 : decode cX8_numberAll 132 = .ok (.checkcast 160, 3) := by decide +kernel
theorem dX8_numberAll_135 : decode cX8_numberAll 135 = .ok (.getfield 222, 3) := by decide +kernel
theorem dX8_numberAll_138 : decode cX8_numberAll 138 = .ok (.ifnull 26, 3) := by decide +kernel
theorem dX8_numberAll_141 : decode cX8_numberAll 141 = .ok (.iload 4, 2) := by decide +kernel
theorem dX8_numberAll_143 : decode cX8_numberAll 143 = .ok (.iconst 2, 1) := by decide +kernel
theorem dX8_numberAll_144 : decode cX8_numberAll 144 = .ok (.aload_n 3, 1) := by decide +kernel
theorem dX8_numberAll_145 : decode cX8_numberAll 145 = .ok (.getfield 153, 3) := by decide +kernel
theorem dX8_numberAll_148 : decode cX8_numberAll 148 = .ok (.iload 5, 2) := by decide +kernel
theorem dX8_numberAll_150 : decode cX8_numberAll 150 = .ok (.invokevirtual 77, 3) := by decide +kernel
theorem dX8_numberAll_153 : decode cX8_numberAll 153 = .ok (.checkcast 160, 3) := by decide +kernel
theorem dX8_numberAll_156 : decode cX8_numberAll 156 = .ok (.getfield 222, 3) := by decide +kernel
theorem dX8_numberAll_159 : decode cX8_numberAll 159 = .ok (.arraylength, 1) := by decide +kernel
theorem dX8_numberAll_160 : decode cX8_numberAll 160 = .ok (.imul, 1) := by decide +kernel
theorem dX8_numberAll_161 : decode cX8_numberAll 161 = .ok (.iadd, 1) := by decide +kernel
theorem dX8_numberAll_162 : decode cX8_numberAll 162 = .ok (.istore 4, 2) := by decide +kernel
theorem dX8_numberAll_164 : decode cX8_numberAll 164 = .ok (.iinc 5 1, 3) := by decide +kernel
theorem dX8_numberAll_167 : decode cX8_numberAll 167 = .ok (.goto (-56), 3) := by decide +kernel
theorem dX8_numberAll_170 : decode cX8_numberAll 170 = .ok (.aload_n 0, 1) := by decide +kernel
theorem dX8_numberAll_171 : decode cX8_numberAll 171 = .ok (.iload 4, 2) := by decide +kernel
theorem dX8_numberAll_173 : decode cX8_numberAll 173 = .ok (.invokevirtual 226, 3) := by decide +kernel
theorem dX8_numberAll_176 : decode cX8_numberAll 176 = .ok (.iconst 0, 1) := by decide +kernel
theorem dX8_numberAll_177 : decode cX8_numberAll 177 = .ok (.istore 5, 2) := by decide +kernel
theorem dX8_numberAll_179 : decode cX8_numberAll 179 = .ok (.iload 5, 2) := by decide +kernel
theorem dX8_numberAll_181 : decode cX8_numberAll 181 = .ok (.aload_n 0, 1) := by decide +kernel
theorem dX8_numberAll_182 : decode cX8_numberAll 182 = .ok (.getfield 179, 3) := by decide +kernel
theorem dX8_numberAll_185 : decode cX8_numberAll 185 = .ok (.if_icmp .ge 73, 3) := by decide +kernel
theorem dX8_numberAll_188 : decode cX8_numberAll 188 = .ok (.aload_n 0, 1) := by decide +kernel
theorem dX8_numberAll_189 : decode cX8_numberAll 189 = .ok (.getfield 22, 3) := by decide +kernel
theorem dX8_numberAll_192 : decode cX8_numberAll 192 = .ok (.aload_n 0, 1) := by decide +kernel
theorem dX8_numberAll_193 : decode cX8_numberAll 193 = .ok (.getfield 179, 3) := by decide +kernel
theorem dX8_numberAll_196 : decode cX8_numberAll 196 = .ok (.aload_n 3, 1) := by decide +kernel
theorem dX8_numberAll_197 : decode cX8_numberAll 197 = .ok (.getfield 142, 3) := by decide +kernel
theorem dX8_numberAll_200 : decode cX8_numberAll 200 = .ok (.imul, 1) := by decide +kernel
theorem dX8_numberAll_201 : decode cX8_numberAll 201 = .ok (.iload 5, 2) := by decide +kernel
theorem dX8_numberAll_203 : decode cX8_numberAll 203 = .ok (.iadd, 1) := by decide +kernel
theorem dX8_numberAll_204 : decode cX8_numberAll 204 = .ok (.iaload, 1) := by decide +kernel
theorem dX8_numberAll_205 : decode cX8_numberAll 205 = .ok (.iconst 1, 1) := by decide +kernel
theorem dX8_numberAll_206 : decode cX8_numberAll 206 = .ok (.if_icmp .ne 46, 3) := by decide +kernel
theorem dX8_numberAll_209 : decode cX8_numberAll 209 = .ok (.aload_n 0, 1) := by decide +kernel
theorem dX8_numberAll_210 : decode cX8_numberAll 210 = .ok (.aload_n 0, 1) := by decide +kernel
theorem dX8_numberAll_211 : decode cX8_numberAll 211 = .ok (.getfield 56, 3) := by decide +kernel
theorem dX8_numberAll_214 : decode cX8_numberAll 214 = .ok (.getfield 70, 3) := by decide +kernel
theorem dX8_numberAll_217 : decode cX8_numberAll 217 = .ok (.iload 5, 2) := by decide +kernel
theorem dX8_numberAll_219 : decode cX8_numberAll 219 = .ok (.invokevirtual 77, 3) := by decide +kernel
theorem dX8_numberAll_222 : decode cX8_numberAll 222 = .ok (.checkcast 81, 3) := by decide +kernel
theorem dX8_numberAll_225 : decode cX8_numberAll 225 = .ok (.invokevirtual 83, 3) := by decide +kernel
theorem dX8_numberAll_228 : decode cX8_numberAll 228 = .ok (.aload_n 0, 1) := by decide +kernel
theorem dX8_numberAll_229 : decode cX8_numberAll 229 = .ok (.aload_n 0, 1) := by decide +kernel
theorem dX8_numberAll_230 : decode cX8_numberAll 230 = .ok (.getfield 25, 3) := by decide +kernel
theorem dX8_numberAll_233 : decode cX8_numberAll 233 = .ok (.aload_n 0, 1) := by decide +kernel
theorem dX8_numberAll_234 : decode cX8_numberAll 234 = .ok (.getfield 179, 3) := by decide +kernel
theorem dX8_numberAll_237 : decode cX8_numberAll 237 = .ok (.aload_n 3, 1) := by decide +kernel
theorem dX8_numberAll_238 : decode cX8_numberAll 238 = .ok (.getfield 142, 3) := by decide +kernel
theorem dX8_numberAll_241 : decode cX8_numberAll 241 = .ok (.imul, 1) := by decide +kernel
theorem dX8_numberAll_242 : decode cX8_numberAll 242 = .ok (.iload 5, 2) := by decide +kernel
theorem dX8_numberAll_244 : decode cX8_numberAll 244 = .ok (.iadd, 1) := by decide +kernel
theorem dX8_numberAll_245 : decode cX8_numberAll 245 = .ok (.iaload, 1) := by decide +kernel
theorem dX8_numberAll_246 : decode cX8_numberAll 246 = .ok (.invokevirtual 230, 3) := by decide +kernel
theorem dX8_numberAll_249 : decode cX8_numberAll 249 = .ok (.invokevirtual 234, 3) := by decide +kernel
theorem dX8_numberAll_252 : decode cX8_numberAll 252 = .ok (.iinc 5 1, 3) := by decide +kernel
theorem dX8_numberAll_255 : decode cX8_numberAll 255 = .ok (.goto (-76), 3) := by decide +kernel
theorem dX8_numberAll_258 : decode cX8_numberAll 258 = .ok (.aload_n 0, 1) := by decide +kernel
theorem dX8_numberAll_259 : decode cX8_numberAll 259 = .ok (.aload_n 3, 1) := by decide +kernel
theorem dX8_numberAll_260 : decode cX8_numberAll 260 = .ok (.getfield 153, 3) := by decide +kernel
theorem dX8_numberAll_263 : decode cX8_numberAll 263 = .ok (.putfield 238, 3) := by decide +kernel
theorem dX8_numberAll_266 : decode cX8_numberAll 266 = .ok (.aload_n 0, 1) := by decide +kernel
theorem dX8_numberAll_267 : decode cX8_numberAll 267 = .ok (.iconst 0, 1) := by decide +kernel
theorem dX8_numberAll_268 : decode cX8_numberAll 268 = .ok (.putfield 241, 3) := by decide +kernel
theorem dX8_numberAll_271 : decode cX8_numberAll 271 = .ok (.iconst 0, 1) := by decide +kernel
theorem dX8_numberAll_272 : decode cX8_numberAll 272 = .ok (.istore 5, 2) := by decide +kernel
theorem dX8_numberAll_274 : decode cX8_numberAll 274 = .ok (.iload 5, 2) := by decide +kernel
theorem dX8_numberAll_276 : decode cX8_numberAll 276 = .ok (.aload_n 0, 1) := by decide +kernel
theorem dX8_numberAll_277 : decode cX8_numberAll 277 = .ok (.getfield 238, 3) := by decide +kernel
theorem dX8_numberAll_280 : decode cX8_numberAll 280 = .ok (.invokevirtual 73, 3) := by decide +kernel
theorem dX8_numberAll_283 : decode cX8_numberAll 283 = .ok (.if_icmp .ge 25, 3) := by decide +kernel
theorem dX8_numberAll_286 : decode cX8_numberAll 286 = .ok (.aload_n 0, 1) := by decide +kernel
theorem dX8_numberAll_287 : decode cX8_numberAll 287 = .ok (.aload_n 0, 1) := by decide +kernel
theorem dX8_numberAll_288 : decode cX8_numberAll 288 = .ok (.getfield 238, 3) := by decide +kernel
theorem dX8_numberAll_291 : decode cX8_numberAll 291 = .ok (.iload 5, 2) := by decide +kernel
theorem dX8_numberAll_293 : decode cX8_numberAll 293 = .ok (.invokevirtual 77, 3) := by decide +kernel
theorem dX8_numberAll_296 : decode cX8_numberAll 296 = .ok (.checkcast 160, 3) := by decide +kernel
theorem dX8_numberAll_299 : decode cX8_numberAll 299 = .ok (.invokevirtual 244, 3) := by decide +kernel
theorem dX8_numberAll_302 : decode cX8_numberAll 302 = .ok (.iinc 5 1, 3) := by decide +kernel
theorem dX8_numberAll_305 : decode cX8_numberAll 305 = .ok (.goto (-31), 3) := by decide +kernel
theorem dX8_numberAll_308 : decode cX8_numberAll 308 = .ok (.aload_n 0, 1) := by decide +kernel
theorem dX8_numberAll_309 : decode cX8_numberAll 309 = .ok (.getfield 238, 3) := by decide +kernel
theorem dX8_numberAll_312 : decode cX8_numberAll 312 = .ok (.aload_n 0, 1) := by decide +kernel
theorem dX8_numberAll_313 : decode cX8_numberAll 313 = .ok (.getfield 241, 3) := by decide +kernel
theorem dX8_numberAll_316 : decode cX8_numberAll 316 = .ok (.invokestatic 149, 3) := by decide +kernel
theorem dX8_numberAll_319 : decode cX8_numberAll 319 = .ok (.aload_n 0, 1) := by decide +kernel
theorem dX8_numberAll_320 : decode cX8_numberAll 320 = .ok (.aload_n 3, 1) := by decide +kernel
theorem dX8_numberAll_321 : decode cX8_numberAll 321 = .ok (.invokevirtual 246, 3) := by decide +kernel
theorem dX8_numberAll_324 : decode cX8_numberAll 324 = .ok (.iinc 2 1, 3) := by decide +kernel
theorem dX8_numberAll_327 : decode cX8_numberAll 327 = .ok (.goto (-279), 3) := by decide +kernel
theorem dX8_numberAll_330 : decode cX8_numberAll 330 = .ok (.return_, 1) := by decide +kernel
theorem dX8_begin_0 : decode cX8_begin 0 = .ok (.aload_n 0, 1) := by decide +kernel
theorem dX8_begin_1 : decode cX8_begin 1 = .ok (.dup, 1) := by decide +kernel
theorem dX8_begin_2 : decode cX8_begin 2 = .ok (.getfield 219, 3) := by decide +kernel
theorem dX8_begin_5 : decode cX8_begin 5 = .ok (.iconst 1, 1) := by decide +kernel
theorem dX8_begin_6 : decode cX8_begin 6 = .ok (.iadd, 1) := by decide +kernel
theorem dX8_begin_7 : decode cX8_begin 7 = .ok (.putfield 219, 3) := by decide +kernel
theorem dX8_begin_10 : decode cX8_begin 10 = .ok (.aload_n 0, 1) := by decide +kernel
theorem dX8_begin_11 : decode cX8_begin 11 = .ok (.iconst 0, 1) := by decide +kernel
theorem dX8_begin_12 : decode cX8_begin 12 = .ok (.putfield 248, 3) := by decide +kernel
theorem dX8_begin_15 : decode cX8_begin 15 = .ok (.aload_n 0, 1) := by decide +kernel
theorem dX8_begin_16 : decode cX8_begin 16 = .ok (.iconst 0, 1) := by decide +kernel
theorem dX8_begin_17 : decode cX8_begin 17 = .ok (.putfield 251, 3) := by decide +kernel
theorem dX8_begin_20 : decode cX8_begin 20 = .ok (.aload_n 0, 1) := by decide +kernel
theorem dX8_begin_21 : decode cX8_begin 21 = .ok (.iconst 0, 1) := by decide +kernel
theorem dX8_begin_22 : decode cX8_begin 22 = .ok (.putfield 254, 3) := by decide +kernel
theorem dX8_begin_25 : decode cX8_begin 25 = .ok (.aload_n 0, 1) := by decide +kernel
theorem dX8_begin_26 : decode cX8_begin 26 = .ok (.iconst 0, 1) := by decide +kernel
theorem dX8_begin_27 : decode cX8_begin 27 = .ok (.putfield 257, 3) := by decide +kernel
theorem dX8_begin_30 : decode cX8_begin 30 = .ok (.aload_n 0, 1) := by decide +kernel
theorem dX8_begin_31 : decode cX8_begin 31 = .ok (.iconst 0, 1) := by decide +kernel
theorem dX8_begin_32 : decode cX8_begin 32 = .ok (.putfield 260, 3) := by decide +kernel
theorem dX8_begin_35 : decode cX8_begin 35 = .ok (.aload_n 0, 1) := by decide +kernel
theorem dX8_begin_36 : decode cX8_begin 36 = .ok (.getfield 49, 3) := by decide +kernel
theorem dX8_begin_39 : decode cX8_begin 39 = .ok (.arraylength, 1) := by decide +kernel
theorem dX8_begin_40 : decode cX8_begin 40 = .ok (.iload_n 1, 1) := by decide +kernel
theorem dX8_begin_41 : decode cX8_begin 41 = .ok (.if_icmp .lt 4, 3) := by decide +kernel
theorem dX8_begin_44 : decode cX8_begin 44 = .ok (.return_, 1) := by decide +kernel
theorem dX8_begin_45 : decode cX8_begin 45 = .ok (.iload_n 1, 1) := by decide +kernel
theorem dX8_begin_46 : decode cX8_begin 46 = .ok (.iconst 2, 1) := by decide +kernel
theorem dX8_begin_47 : decode cX8_begin 47 = .ok (.aload_n 0, 1) := by decide +kernel
theorem dX8_begin_48 : decode cX8_begin 48 = .ok (.getfield 49, 3) := by decide +kernel
theorem dX8_begin_51 : decode cX8_begin 51 = .ok (.arraylength, 1) := by decide +kernel
theorem dX8_begin_52 : decode cX8_begin 52 = .ok (.imul, 1) := by decide +kernel
theorem dX8_begin_53 : decode cX8_begin 53 = .ok (.invokestatic 263, 3) := by decide +kernel
theorem dX8_begin_56 : decode cX8_begin 56 = .ok (.istore_n 2, 1) := by decide +kernel
theorem dX8_begin_57 : decode cX8_begin 57 = .ok (.aload_n 0, 1) := by decide +kernel
theorem dX8_begin_58 : decode cX8_begin 58 = .ok (.iload_n 2, 1) := by decide +kernel
theorem dX8_begin_59 : decode cX8_begin 59 = .ok (.newarray .int, 2) := by decide +kernel
theorem dX8_begin_61 : decode cX8_begin 61 = .ok (.putfield 49, 3) := by decide +kernel
theorem dX8_begin_64 : decode cX8_begin 64 = .ok (.aload_n 0, 1) := by decide +kernel
theorem dX8_begin_65 : decode cX8_begin 65 = .ok (.iload_n 2, 1) := by decide +kernel
theorem dX8_begin_66 : decode cX8_begin 66 = .ok (.newarray .int, 2) := by decide +kernel
theorem dX8_begin_68 : decode cX8_begin 68 = .ok (.putfield 269, 3) := by decide +kernel
theorem dX8_begin_71 : decode cX8_begin 71 = .ok (.aload_n 0, 1) := by decide +kernel
theorem dX8_begin_72 : decode cX8_begin 72 = .ok (.iload_n 2, 1) := by decide +kernel
theorem dX8_begin_73 : decode cX8_begin 73 = .ok (.newarray .boolean, 2) := by decide +kernel
theorem dX8_begin_75 : decode cX8_begin 75 = .ok (.putfield 272, 3) := by decide +kernel
theorem dX8_begin_78 : decode cX8_begin 78 = .ok (.aload_n 0, 1) := by decide +kernel
theorem dX8_begin_79 : decode cX8_begin 79 = .ok (.iload_n 2, 1) := by decide +kernel
theorem dX8_begin_80 : decode cX8_begin 80 = .ok (.newarray .int, 2) := by decide +kernel
theorem dX8_begin_82 : decode cX8_begin 82 = .ok (.putfield 276, 3) := by decide +kernel
theorem dX8_begin_85 : decode cX8_begin 85 = .ok (.aload_n 0, 1) := by decide +kernel
theorem dX8_begin_86 : decode cX8_begin 86 = .ok (.iload_n 2, 1) := by decide +kernel
theorem dX8_begin_87 : decode cX8_begin 87 = .ok (.newarray .int, 2) := by decide +kernel
theorem dX8_begin_89 : decode cX8_begin 89 = .ok (.putfield 279, 3) := by decide +kernel
theorem dX8_begin_92 : decode cX8_begin 92 = .ok (.aload_n 0, 1) := by decide +kernel
theorem dX8_begin_93 : decode cX8_begin 93 = .ok (.iload_n 2, 1) := by decide +kernel
theorem dX8_begin_94 : decode cX8_begin 94 = .ok (.newarray .int, 2) := by decide +kernel
theorem dX8_begin_96 : decode cX8_begin 96 = .ok (.putfield 282, 3) := by decide +kernel
theorem dX8_begin_99 : decode cX8_begin 99 = .ok (.aload_n 0, 1) := by decide +kernel
theorem dX8_begin_100 : decode cX8_begin 100 = .ok (.iload_n 2, 1) := by decide +kernel
theorem dX8_begin_101 : decode cX8_begin 101 = .ok (.newarray .int, 2) := by decide +kernel
theorem dX8_begin_103 : decode cX8_begin 103 = .ok (.putfield 285, 3) := by decide +kernel
theorem dX8_begin_106 : decode cX8_begin 106 = .ok (.aload_n 0, 1) := by decide +kernel
theorem dX8_begin_107 : decode cX8_begin 107 = .ok (.iload_n 2, 1) := by decide +kernel
theorem dX8_begin_108 : decode cX8_begin 108 = .ok (.newarray .int, 2) := by decide +kernel
theorem dX8_begin_110 : decode cX8_begin 110 = .ok (.putfield 288, 3) := by decide +kernel
theorem dX8_begin_113 : decode cX8_begin 113 = .ok (.aload_n 0, 1) := by decide +kernel
theorem dX8_begin_114 : decode cX8_begin 114 = .ok (.iload_n 2, 1) := by decide +kernel
theorem dX8_begin_115 : decode cX8_begin 115 = .ok (.newarray .int, 2) := by decide +kernel
theorem dX8_begin_117 : decode cX8_begin 117 = .ok (.putfield 291, 3) := by decide +kernel
theorem dX8_begin_120 : decode cX8_begin 120 = .ok (.aload_n 0, 1) := by decide +kernel
theorem dX8_begin_121 : decode cX8_begin 121 = .ok (.iload_n 2, 1) := by decide +kernel
theorem dX8_begin_122 : decode cX8_begin 122 = .ok (.newarray .int, 2) := by decide +kernel
theorem dX8_begin_124 : decode cX8_begin 124 = .ok (.putfield 294, 3) := by decide +kernel
theorem dX8_begin_127 : decode cX8_begin 127 = .ok (.aload_n 0, 1) := by decide +kernel
theorem dX8_begin_128 : decode cX8_begin 128 = .ok (.iload_n 2, 1) := by decide +kernel
theorem dX8_begin_129 : decode cX8_begin 129 = .ok (.newarray .int, 2) := by decide +kernel
theorem dX8_begin_131 : decode cX8_begin 131 = .ok (.putfield 297, 3) := by decide +kernel
theorem dX8_begin_134 : decode cX8_begin 134 = .ok (.aload_n 0, 1) := by decide +kernel
theorem dX8_begin_135 : decode cX8_begin 135 = .ok (.iload_n 2, 1) := by decide +kernel
theorem dX8_begin_136 : decode cX8_begin 136 = .ok (.anewarray 300, 3) := by decide +kernel
theorem dX8_begin_139 : decode cX8_begin 139 = .ok (.putfield 302, 3) := by decide +kernel
theorem dX8_begin_142 : decode cX8_begin 142 = .ok (.aload_n 0, 1) := by decide +kernel
theorem dX8_begin_143 : decode cX8_begin 143 = .ok (.iload_n 2, 1) := by decide +kernel
theorem dX8_begin_144 : decode cX8_begin 144 = .ok (.newarray .int, 2) := by decide +kernel
theorem dX8_begin_146 : decode cX8_begin 146 = .ok (.putfield 306, 3) := by decide +kernel
theorem dX8_begin_149 : decode cX8_begin 149 = .ok (.aload_n 0, 1) := by decide +kernel
theorem dX8_begin_150 : decode cX8_begin 150 = .ok (.iload_n 2, 1) := by decide +kernel
theorem dX8_begin_151 : decode cX8_begin 151 = .ok (.newarray .int, 2) := by decide +kernel
theorem dX8_begin_153 : decode cX8_begin 153 = .ok (.putfield 309, 3) := by decide +kernel
theorem dX8_begin_156 : decode cX8_begin 156 = .ok (.aload_n 0, 1) := by decide +kernel
theorem dX8_begin_157 : decode cX8_begin 157 = .ok (.iload_n 2, 1) := by decide +kernel
theorem dX8_begin_158 : decode cX8_begin 158 = .ok (.newarray .int, 2) := by decide +kernel
theorem dX8_begin_160 : decode cX8_begin 160 = .ok (.putfield 312, 3) := by decide +kernel
theorem dX8_begin_163 : decode cX8_begin 163 = .ok (.return_, 1) := by decide +kernel
theorem dX8_ofConstant_0 : decode cX8_ofConstant 0 = .ok (.iconst 0, 1) := by decide +kernel
theorem dX8_ofConstant_1 : decode cX8_ofConstant 1 = .ok (.istore_n 2, 1) := by decide +kernel
theorem dX8_ofConstant_2 : decode cX8_ofConstant 2 = .ok (.iload_n 2, 1) := by decide +kernel
theorem dX8_ofConstant_3 : decode cX8_ofConstant 3 = .ok (.aload_n 0, 1) := by decide +kernel
theorem dX8_ofConstant_4 : decode cX8_ofConstant 4 = .ok (.getfield 260, 3) := by decide +kernel
theorem dX8_ofConstant_7 : decode cX8_ofConstant 7 = .ok (.if_icmp .ge 31, 3) := by decide +kernel
theorem dX8_ofConstant_10 : decode cX8_ofConstant 10 = .ok (.aload_n 0, 1) := by decide +kernel
theorem dX8_ofConstant_11 : decode cX8_ofConstant 11 = .ok (.getfield 269, 3) := by decide +kernel
theorem dX8_ofConstant_14 : decode cX8_ofConstant 14 = .ok (.aload_n 0, 1) := by decide +kernel
theorem dX8_ofConstant_15 : decode cX8_ofConstant 15 = .ok (.getfield 312, 3) := by decide +kernel
theorem dX8_ofConstant_18 : decode cX8_ofConstant 18 = .ok (.iload_n 2, 1) := by decide +kernel
theorem dX8_ofConstant_19 : decode cX8_ofConstant 19 = .ok (.iaload, 1) := by decide +kernel
theorem dX8_ofConstant_20 : decode cX8_ofConstant 20 = .ok (.iaload, 1) := by decide +kernel
theorem dX8_ofConstant_21 : decode cX8_ofConstant 21 = .ok (.iload_n 1, 1) := by decide +kernel
theorem dX8_ofConstant_22 : decode cX8_ofConstant 22 = .ok (.if_icmp .ne 10, 3) := by decide +kernel
theorem dX8_ofConstant_25 : decode cX8_ofConstant 25 = .ok (.aload_n 0, 1) := by decide +kernel
theorem dX8_ofConstant_26 : decode cX8_ofConstant 26 = .ok (.getfield 312, 3) := by decide +kernel
theorem dX8_ofConstant_29 : decode cX8_ofConstant 29 = .ok (.iload_n 2, 1) := by decide +kernel
theorem dX8_ofConstant_30 : decode cX8_ofConstant 30 = .ok (.iaload, 1) := by decide +kernel
theorem dX8_ofConstant_31 : decode cX8_ofConstant 31 = .ok (.ireturn, 1) := by decide +kernel
theorem dX8_ofConstant_32 : decode cX8_ofConstant 32 = .ok (.iinc 2 1, 3) := by decide +kernel
theorem dX8_ofConstant_35 : decode cX8_ofConstant 35 = .ok (.goto (-33), 3) := by decide +kernel
theorem dX8_ofConstant_38 : decode cX8_ofConstant 38 = .ok (.aload_n 0, 1) := by decide +kernel
theorem dX8_ofConstant_39 : decode cX8_ofConstant 39 = .ok (.invokevirtual 315, 3) := by decide +kernel
theorem dX8_ofConstant_42 : decode cX8_ofConstant 42 = .ok (.istore_n 2, 1) := by decide +kernel
theorem dX8_ofConstant_43 : decode cX8_ofConstant 43 = .ok (.aload_n 0, 1) := by decide +kernel
theorem dX8_ofConstant_44 : decode cX8_ofConstant 44 = .ok (.getfield 272, 3) := by decide +kernel
theorem dX8_ofConstant_47 : decode cX8_ofConstant 47 = .ok (.iload_n 2, 1) := by decide +kernel
theorem dX8_ofConstant_48 : decode cX8_ofConstant 48 = .ok (.iconst 1, 1) := by decide +kernel
theorem dX8_ofConstant_49 : decode cX8_ofConstant 49 = .ok (.bastore, 1) := by decide +kernel
theorem dX8_ofConstant_50 : decode cX8_ofConstant 50 = .ok (.aload_n 0, 1) := by decide +kernel
theorem dX8_ofConstant_51 : decode cX8_ofConstant 51 = .ok (.getfield 269, 3) := by decide +kernel
theorem dX8_ofConstant_54 : decode cX8_ofConstant 54 = .ok (.iload_n 2, 1) := by decide +kernel
theorem dX8_ofConstant_55 : decode cX8_ofConstant 55 = .ok (.iload_n 1, 1) := by decide +kernel
theorem dX8_ofConstant_56 : decode cX8_ofConstant 56 = .ok (.iastore, 1) := by decide +kernel
theorem dX8_ofConstant_57 : decode cX8_ofConstant 57 = .ok (.aload_n 0, 1) := by decide +kernel
theorem dX8_ofConstant_58 : decode cX8_ofConstant 58 = .ok (.getfield 312, 3) := by decide +kernel
theorem dX8_ofConstant_61 : decode cX8_ofConstant 61 = .ok (.aload_n 0, 1) := by decide +kernel
theorem dX8_ofConstant_62 : decode cX8_ofConstant 62 = .ok (.getfield 260, 3) := by decide +kernel
theorem dX8_ofConstant_65 : decode cX8_ofConstant 65 = .ok (.iload_n 2, 1) := by decide +kernel
theorem dX8_ofConstant_66 : decode cX8_ofConstant 66 = .ok (.iastore, 1) := by decide +kernel
theorem dX8_ofConstant_67 : decode cX8_ofConstant 67 = .ok (.aload_n 0, 1) := by decide +kernel
theorem dX8_ofConstant_68 : decode cX8_ofConstant 68 = .ok (.dup, 1) := by decide +kernel
theorem dX8_ofConstant_69 : decode cX8_ofConstant 69 = .ok (.getfield 260, 3) := by decide +kernel
theorem dX8_ofConstant_72 : decode cX8_ofConstant 72 = .ok (.iconst 1, 1) := by decide +kernel
theorem dX8_ofConstant_73 : decode cX8_ofConstant 73 = .ok (.iadd, 1) := by decide +kernel
theorem dX8_ofConstant_74 : decode cX8_ofConstant 74 = .ok (.putfield 260, 3) := by decide +kernel
theorem dX8_ofConstant_77 : decode cX8_ofConstant 77 = .ok (.iload_n 2, 1) := by decide +kernel
theorem dX8_ofConstant_78 : decode cX8_ofConstant 78 = .ok (.ireturn, 1) := by decide +kernel
