/-! names: X6_get X6_move X6_jump X6_load X6_element X6_base X6_act X6_branch X6_address X6_length X6_call X6_store X6_storeElement X6_close X6_scoped X6_put X6_halt X6_result X6_words X6_size X6_own X6_zero X6_turn X6_list X6_main X6_isMain (tools/chunk.py) -/
set_option maxRecDepth 100000
abbrev cX6_get : ByteArray := prog_22_method_40_code
def yX6_get : MethodName := ⟨RX6, "get", "()J"⟩
theorem q2060 : (Jvm.Cond.code ({ cls := "CompiledHouse$Maker", name := "get", desc := "()J" } : Jvm.MethodName) prog_22_method_40_code (1 : Nat) (Option.some Jvm.ClassFile.FieldType.long)) ∈ lw_all := lw_g (lw_at lw_m8 184 rfl) rfl
def kX6_get : xK := (yX6_get, cX6_get, 1, some .long, [])
theorem me_X6_get : xMe kX6_get 0 := ⟨q2060, q209, by decide, by decide, by decide +kernel⟩
theorem q2058 : (Jvm.Cond.instanceMethod ({ cls := "CompiledHouse$Maker", name := "get", desc := "()J" } : Jvm.MethodName)) ∈ lw_all := lw_g (lw_at lw_m8 182 rfl) rfl
theorem is_X6_get : Cond.instanceMethod kX6_get.y ∈ lw_all := q2058
theorem se_X6_get : Cond.selects RX6 kX6_get.y kX6_get.y ∈ lw_all := q2059
theorem q1920 : (Jvm.Cond.fieldLinkNest "CompiledHouse$Maker" (311 : Nat) "CompiledHouse$Act" "d" "I" "CompiledHouse") ∈ lw_tbl := lw_at lw_m8 44 rfl
theorem f_X6_311_35 : xF RX6 311 35 1 := ⟨_, "CompiledHouse$Act", rfl, by decide, Or.inr ⟨_, q1920⟩, Or.inl rfl⟩
abbrev cX6_move : ByteArray := prog_22_method_27_code
def yX6_move : MethodName := ⟨RX6, "move", "(IJ)V"⟩
theorem q2076 : (Jvm.Cond.code ({ cls := "CompiledHouse$Maker", name := "move", desc := "(IJ)V" } : Jvm.MethodName) prog_22_method_27_code (4 : Nat) (Option.none : Option Jvm.ClassFile.FieldType)) ∈ lw_all := lw_g (lw_at lw_m8 200 rfl) rfl
def kX6_move : xK := (yX6_move, cX6_move, 4, none, [])
theorem me_X6_move : xMe kX6_move 2 := ⟨q2076, q209, by decide, by decide, by decide +kernel⟩
theorem q2074 : (Jvm.Cond.instanceMethod ({ cls := "CompiledHouse$Maker", name := "move", desc := "(IJ)V" } : Jvm.MethodName)) ∈ lw_all := lw_g (lw_at lw_m8 198 rfl) rfl
theorem is_X6_move : Cond.instanceMethod kX6_move.y ∈ lw_all := q2074
theorem se_X6_move : Cond.selects RX6 kX6_move.y kX6_move.y ∈ lw_all := q2075
abbrev cX6_jump : ByteArray := prog_22_method_43_code
def yX6_jump : MethodName := ⟨RX6, "jump", "(LCompiledHouse$Block;)V"⟩
theorem q2080 : (Jvm.Cond.code ({ cls := "CompiledHouse$Maker", name := "jump", desc := "(LCompiledHouse$Block;)V" } : Jvm.MethodName) prog_22_method_43_code (2 : Nat) (Option.none : Option Jvm.ClassFile.FieldType)) ∈ lw_all := lw_g (lw_at lw_m8 204 rfl) rfl
def kX6_jump : xK := (yX6_jump, cX6_jump, 2, none, [])
theorem me_X6_jump : xMe kX6_jump 1 := ⟨q2080, q209, by decide, by decide, by decide +kernel⟩
theorem q2078 : (Jvm.Cond.instanceMethod ({ cls := "CompiledHouse$Maker", name := "jump", desc := "(LCompiledHouse$Block;)V" } : Jvm.MethodName)) ∈ lw_all := lw_g (lw_at lw_m8 202 rfl) rfl
theorem is_X6_jump : Cond.instanceMethod kX6_jump.y ∈ lw_all := q2078
theorem se_X6_jump : Cond.selects RX6 kX6_jump.y kX6_jump.y ∈ lw_all := q2079
abbrev cX6_load : ByteArray := prog_22_method_28_code
def yX6_load : MethodName := ⟨RX6, "load", "(LCompiledHouse$Symbol;)J"⟩
theorem q2090 : (Jvm.Cond.code ({ cls := "CompiledHouse$Maker", name := "load", desc := "(LCompiledHouse$Symbol;)J" } : Jvm.MethodName) prog_22_method_28_code (2 : Nat) (Option.some Jvm.ClassFile.FieldType.long)) ∈ lw_all := lw_g (lw_at lw_m8 214 rfl) rfl
def kX6_load : xK := (yX6_load, cX6_load, 2, some .long, [])
theorem me_X6_load : xMe kX6_load 1 := ⟨q2090, q209, by decide, by decide, by decide +kernel⟩
theorem q2088 : (Jvm.Cond.instanceMethod ({ cls := "CompiledHouse$Maker", name := "load", desc := "(LCompiledHouse$Symbol;)J" } : Jvm.MethodName)) ∈ lw_all := lw_g (lw_at lw_m8 212 rfl) rfl
theorem is_X6_load : Cond.instanceMethod kX6_load.y ∈ lw_all := q2088
theorem se_X6_load : Cond.selects RX6 kX6_load.y kX6_load.y ∈ lw_all := q2089
theorem q1701 : (Jvm.Cond.fieldLinkNest "CompiledHouse$Maker" (314 : Nat) "CompiledHouse$Symbol" "kind" "I" "CompiledHouse") ∈ lw_tbl := lw_at lw_m7 65 rfl
theorem f_X6_314_32 : xF RX6 314 32 1 := ⟨_, "CompiledHouse$Symbol", rfl, by decide, Or.inr ⟨_, q1701⟩, Or.inl rfl⟩
theorem q2092 : (Jvm.Cond.methodLink "CompiledHouse$Maker" (315 : Nat) ({ cls := "CompiledHouse$Maker", name := "element", desc := "(LCompiledHouse$Symbol;J)J" } : Jvm.MethodName)) ∈ lw_all := lw_g (lw_at lw_m8 216 rfl) rfl
abbrev cX6_element : ByteArray := prog_22_method_29_code
def yX6_element : MethodName := ⟨RX6, "element", "(LCompiledHouse$Symbol;J)J"⟩
theorem q2095 : (Jvm.Cond.code ({ cls := "CompiledHouse$Maker", name := "element", desc := "(LCompiledHouse$Symbol;J)J" } : Jvm.MethodName) prog_22_method_29_code (5 : Nat) (Option.some Jvm.ClassFile.FieldType.long)) ∈ lw_all := lw_g (lw_at lw_m8 219 rfl) rfl
def kX6_element : xK := (yX6_element, cX6_element, 5, some .long, [])
theorem me_X6_element : xMe kX6_element 2 := ⟨q2095, q209, by decide, by decide, by decide +kernel⟩
theorem q2093 : (Jvm.Cond.instanceMethod ({ cls := "CompiledHouse$Maker", name := "element", desc := "(LCompiledHouse$Symbol;J)J" } : Jvm.MethodName)) ∈ lw_all := lw_g (lw_at lw_m8 217 rfl) rfl
theorem is_X6_element : Cond.instanceMethod kX6_element.y ∈ lw_all := q2093
theorem se_X6_element : Cond.selects RX6 kX6_element.y kX6_element.y ∈ lw_all := q2094
theorem lk_X6_315 : xLk RX6 315 yX6_element := Or.inl q2092
theorem q2096 : (Jvm.Cond.methodLink "CompiledHouse$Maker" (319 : Nat) ({ cls := "CompiledHouse$Maker", name := "base", desc := "(LCompiledHouse$Symbol;)J" } : Jvm.MethodName)) ∈ lw_all := lw_g (lw_at lw_m8 220 rfl) rfl
abbrev cX6_base : ByteArray := prog_22_method_30_code
def yX6_base : MethodName := ⟨RX6, "base", "(LCompiledHouse$Symbol;)J"⟩
theorem q2098 : (Jvm.Cond.code ({ cls := "CompiledHouse$Maker", name := "base", desc := "(LCompiledHouse$Symbol;)J" } : Jvm.MethodName) prog_22_method_30_code (1 : Nat) (Option.some Jvm.ClassFile.FieldType.long)) ∈ lw_all := lw_g (lw_at lw_m8 222 rfl) rfl
def kX6_base : xK := (yX6_base, cX6_base, 1, some .long, [])
theorem me_X6_base : xMe kX6_base 1 := ⟨q2098, q209, by decide, by decide, by decide +kernel⟩
theorem q2097 : (Jvm.Cond.static ({ cls := "CompiledHouse$Maker", name := "base", desc := "(LCompiledHouse$Symbol;)J" } : Jvm.MethodName)) ∈ lw_all := lw_g (lw_at lw_m8 221 rfl) rfl
theorem st_X6_base : Cond.static kX6_base.y ∈ lw_all := q2097
theorem lk_X6_319 : xLk RX6 319 yX6_base := Or.inl q2096
theorem q1940 : (Jvm.Cond.fieldLinkNest "CompiledHouse$Maker" (323 : Nat) "CompiledHouse$Act" "of" "LCompiledHouse$Symbol;" "CompiledHouse") ∈ lw_tbl := lw_at lw_m8 64 rfl
theorem f_X6_323_35 : xF RX6 323 35 7 := ⟨_, "CompiledHouse$Act", rfl, by decide, Or.inr ⟨_, q1940⟩, Or.inl rfl⟩
theorem q2109 : (Jvm.Cond.methodLinkNest "CompiledHouse$Maker" (303 : Nat) ({ cls := "CompiledHouse", name := "isConstant", desc := "(J)Z" } : Jvm.MethodName) "CompiledHouse") ∈ lw_tbl := lw_at lw_m8 233 rfl
theorem lk_X6_303 : xLk RX6 303 yX0_isConstant := Or.inr ⟨_, q2109⟩
theorem q2113 : (Jvm.Cond.methodLinkNest "CompiledHouse$Maker" (307 : Nat) ({ cls := "CompiledHouse", name := "done", desc := "(III)I" } : Jvm.MethodName) "CompiledHouse") ∈ lw_tbl := lw_at lw_m8 237 rfl
theorem lk_X6_307 : xLk RX6 307 yX0_done := Or.inr ⟨_, q2113⟩
abbrev cX6_branch : ByteArray := prog_22_method_44_code
def yX6_branch : MethodName := ⟨RX6, "branch", "(IJJLCompiledHouse$Block;LCompiledHouse$Block;)V"⟩
theorem q2119 : (Jvm.Cond.code ({ cls := "CompiledHouse$Maker", name := "branch", desc := "(IJJLCompiledHouse$Block;LCompiledHouse$Block;)V" } : Jvm.MethodName) prog_22_method_44_code (8 : Nat) (Option.none : Option Jvm.ClassFile.FieldType)) ∈ lw_all := lw_g (lw_at lw_m9 3 rfl) rfl
def kX6_branch : xK := (yX6_branch, cX6_branch, 8, none, [])
theorem me_X6_branch : xMe kX6_branch 5 := ⟨q2119, q209, by decide, by decide, by decide +kernel⟩
theorem q2117 : (Jvm.Cond.instanceMethod ({ cls := "CompiledHouse$Maker", name := "branch", desc := "(IJJLCompiledHouse$Block;LCompiledHouse$Block;)V" } : Jvm.MethodName)) ∈ lw_all := lw_g (lw_at lw_m9 1 rfl) rfl
theorem is_X6_branch : Cond.instanceMethod kX6_branch.y ∈ lw_all := q2117
theorem se_X6_branch : Cond.selects RX6 kX6_branch.y kX6_branch.y ∈ lw_all := q2118
theorem q2120 : (Jvm.Cond.methodLink "CompiledHouse$Maker" (349 : Nat) ({ cls := "CompiledHouse$Maker", name := "branch", desc := "(IJJLCompiledHouse$Block;LCompiledHouse$Block;)V" } : Jvm.MethodName)) ∈ lw_all := lw_g (lw_at lw_m9 4 rfl) rfl
theorem lk_X6_349 : xLk RX6 349 yX6_branch := Or.inl q2120
theorem q1805 : (Jvm.Cond.fieldLinkNest "CompiledHouse$Maker" (353 : Nat) "CompiledHouse$Block" "act" "I" "CompiledHouse") ∈ lw_tbl := lw_at lw_m7 169 rfl
theorem f_X6_353_34 : xF RX6 353 34 2 := ⟨_, "CompiledHouse$Block", rfl, by decide, Or.inr ⟨_, q1805⟩, Or.inl rfl⟩
theorem q1813 : (Jvm.Cond.fieldLinkNest "CompiledHouse$Maker" (355 : Nat) "CompiledHouse$Block" "b" "J" "CompiledHouse") ∈ lw_tbl := lw_at lw_m7 177 rfl
theorem f_X6_355_34 : xF RX6 355 34 4 := ⟨_, "CompiledHouse$Block", rfl, by decide, Or.inr ⟨_, q1813⟩, Or.inl rfl⟩
theorem q1822 : (Jvm.Cond.fieldLinkNest "CompiledHouse$Maker" (358 : Nat) "CompiledHouse$Block" "no" "LCompiledHouse$Block;" "CompiledHouse") ∈ lw_tbl := lw_at lw_m7 186 rfl
theorem f_X6_358_34 : xF RX6 358 34 6 := ⟨_, "CompiledHouse$Block", rfl, by decide, Or.inr ⟨_, q1822⟩, Or.inl rfl⟩
abbrev cX6_address : ByteArray := prog_22_method_33_code
def yX6_address : MethodName := ⟨RX6, "address", "(LCompiledHouse$Symbol;)J"⟩
theorem q2180 : (Jvm.Cond.code ({ cls := "CompiledHouse$Maker", name := "address", desc := "(LCompiledHouse$Symbol;)J" } : Jvm.MethodName) prog_22_method_33_code (3 : Nat) (Option.some Jvm.ClassFile.FieldType.long)) ∈ lw_all := lw_g (lw_at lw_m9 64 rfl) rfl
def kX6_address : xK := (yX6_address, cX6_address, 3, some .long, [])
theorem me_X6_address : xMe kX6_address 1 := ⟨q2180, q209, by decide, by decide, by decide +kernel⟩
theorem q2178 : (Jvm.Cond.instanceMethod ({ cls := "CompiledHouse$Maker", name := "address", desc := "(LCompiledHouse$Symbol;)J" } : Jvm.MethodName)) ∈ lw_all := lw_g (lw_at lw_m9 62 rfl) rfl
theorem is_X6_address : Cond.instanceMethod kX6_address.y ∈ lw_all := q2178
theorem se_X6_address : Cond.selects RX6 kX6_address.y kX6_address.y ∈ lw_all := q2179
abbrev cX6_call : ByteArray := prog_22_method_37_code
def yX6_call : MethodName := ⟨RX6, "call", "(LCompiledHouse$Told;[JI)J"⟩
theorem q2188 : (Jvm.Cond.code ({ cls := "CompiledHouse$Maker", name := "call", desc := "(LCompiledHouse$Told;[JI)J" } : Jvm.MethodName) prog_22_method_37_code (5 : Nat) (Option.some Jvm.ClassFile.FieldType.long)) ∈ lw_all := lw_g (lw_at lw_m9 72 rfl) rfl
def kX6_call : xK := (yX6_call, cX6_call, 5, some .long, [])
theorem me_X6_call : xMe kX6_call 3 := ⟨q2188, q209, by decide, by decide, by decide +kernel⟩
theorem q2186 : (Jvm.Cond.instanceMethod ({ cls := "CompiledHouse$Maker", name := "call", desc := "(LCompiledHouse$Told;[JI)J" } : Jvm.MethodName)) ∈ lw_all := lw_g (lw_at lw_m9 70 rfl) rfl
theorem is_X6_call : Cond.instanceMethod kX6_call.y ∈ lw_all := q2186
theorem se_X6_call : Cond.selects RX6 kX6_call.y kX6_call.y ∈ lw_all := q2187
theorem q1943 : (Jvm.Cond.fieldLinkNest "CompiledHouse$Maker" (344 : Nat) "CompiledHouse$Act" "told" "LCompiledHouse$Told;" "CompiledHouse") ∈ lw_tbl := lw_at lw_m8 67 rfl
theorem f_X6_344_35 : xF RX6 344 35 8 := ⟨_, "CompiledHouse$Act", rfl, by decide, Or.inr ⟨_, q1943⟩, Or.inl rfl⟩
theorem q1947 : (Jvm.Cond.fieldLinkNest "CompiledHouse$Maker" (345 : Nat) "CompiledHouse$Act" "args" "[J" "CompiledHouse") ∈ lw_tbl := lw_at lw_m8 71 rfl
theorem f_X6_345_35 : xF RX6 345 35 9 := ⟨_, "CompiledHouse$Act", rfl, by decide, Or.inr ⟨_, q1947⟩, Or.inl rfl⟩
abbrev cX6_store : ByteArray := prog_22_method_34_code
def yX6_store : MethodName := ⟨RX6, "store", "(LCompiledHouse$Symbol;J)V"⟩
theorem q2209 : (Jvm.Cond.code ({ cls := "CompiledHouse$Maker", name := "store", desc := "(LCompiledHouse$Symbol;J)V" } : Jvm.MethodName) prog_22_method_34_code (4 : Nat) (Option.none : Option Jvm.ClassFile.FieldType)) ∈ lw_all := lw_g (lw_at lw_m9 93 rfl) rfl
def kX6_store : xK := (yX6_store, cX6_store, 4, none, [])
theorem me_X6_store : xMe kX6_store 2 := ⟨q2209, q209, by decide, by decide, by decide +kernel⟩
theorem q2207 : (Jvm.Cond.instanceMethod ({ cls := "CompiledHouse$Maker", name := "store", desc := "(LCompiledHouse$Symbol;J)V" } : Jvm.MethodName)) ∈ lw_all := lw_g (lw_at lw_m9 91 rfl) rfl
theorem is_X6_store : Cond.instanceMethod kX6_store.y ∈ lw_all := q2207
theorem se_X6_store : Cond.selects RX6 kX6_store.y kX6_store.y ∈ lw_all := q2208
theorem q2210 : (Jvm.Cond.methodLink "CompiledHouse$Maker" (332 : Nat) ({ cls := "CompiledHouse$Maker", name := "move", desc := "(IJ)V" } : Jvm.MethodName)) ∈ lw_all := lw_g (lw_at lw_m9 94 rfl) rfl
theorem lk_X6_332 : xLk RX6 332 yX6_move := Or.inl q2210
theorem q2211 : (Jvm.Cond.methodLink "CompiledHouse$Maker" (336 : Nat) ({ cls := "CompiledHouse$Maker", name := "storeElement", desc := "(LCompiledHouse$Symbol;JJ)V" } : Jvm.MethodName)) ∈ lw_all := lw_g (lw_at lw_m9 95 rfl) rfl
abbrev cX6_storeElement : ByteArray := prog_22_method_35_code
def yX6_storeElement : MethodName := ⟨RX6, "storeElement", "(LCompiledHouse$Symbol;JJ)V"⟩
theorem q2214 : (Jvm.Cond.code ({ cls := "CompiledHouse$Maker", name := "storeElement", desc := "(LCompiledHouse$Symbol;JJ)V" } : Jvm.MethodName) prog_22_method_35_code (7 : Nat) (Option.none : Option Jvm.ClassFile.FieldType)) ∈ lw_all := lw_g (lw_at lw_m9 98 rfl) rfl
def kX6_storeElement : xK := (yX6_storeElement, cX6_storeElement, 7, none, [])
theorem me_X6_storeElement : xMe kX6_storeElement 3 := ⟨q2214, q209, by decide, by decide, by decide +kernel⟩
theorem q2212 : (Jvm.Cond.instanceMethod ({ cls := "CompiledHouse$Maker", name := "storeElement", desc := "(LCompiledHouse$Symbol;JJ)V" } : Jvm.MethodName)) ∈ lw_all := lw_g (lw_at lw_m9 96 rfl) rfl
theorem is_X6_storeElement : Cond.instanceMethod kX6_storeElement.y ∈ lw_all := q2212
theorem se_X6_storeElement : Cond.selects RX6 kX6_storeElement.y kX6_storeElement.y ∈ lw_all := q2213
theorem lk_X6_336 : xLk RX6 336 yX6_storeElement := Or.inl q2211
theorem q1933 : (Jvm.Cond.fieldLinkNest "CompiledHouse$Maker" (340 : Nat) "CompiledHouse$Act" "c" "J" "CompiledHouse") ∈ lw_tbl := lw_at lw_m8 57 rfl
theorem f_X6_340_35 : xF RX6 340 35 4 := ⟨_, "CompiledHouse$Act", rfl, by decide, Or.inr ⟨_, q1933⟩, Or.inl rfl⟩
theorem q2225 : (Jvm.Cond.methodLink "CompiledHouse$Maker" (114 : Nat) ({ cls := "java/util/ArrayList", name := "remove", desc := "(I)Ljava/lang/Object;" } : Jvm.MethodName)) ∈ lw_all := lw_g (lw_at lw_m9 109 rfl) rfl
theorem lk_X6_114 : xLk RX6 114 yJ5_remove := Or.inl q2225
abbrev cX6_scoped : ByteArray := prog_22_method_13_code
def yX6_scoped : MethodName := ⟨RX6, "scoped", "(LCompiledHouse$Statement;)V"⟩
theorem q2247 : (Jvm.Cond.code ({ cls := "CompiledHouse$Maker", name := "scoped", desc := "(LCompiledHouse$Statement;)V" } : Jvm.MethodName) prog_22_method_13_code (3 : Nat) (Option.none : Option Jvm.ClassFile.FieldType)) ∈ lw_all := lw_g (lw_at lw_m9 131 rfl) rfl
def kX6_scoped : xK := (yX6_scoped, cX6_scoped, 3, none, [])
theorem me_X6_scoped : xMe kX6_scoped 1 := ⟨q2247, q209, by decide, by decide, by decide +kernel⟩
theorem q2245 : (Jvm.Cond.instanceMethod ({ cls := "CompiledHouse$Maker", name := "scoped", desc := "(LCompiledHouse$Statement;)V" } : Jvm.MethodName)) ∈ lw_all := lw_g (lw_at lw_m9 129 rfl) rfl
theorem is_X6_scoped : Cond.instanceMethod kX6_scoped.y ∈ lw_all := q2245
theorem se_X6_scoped : Cond.selects RX6 kX6_scoped.y kX6_scoped.y ∈ lw_all := q2246
theorem q2248 : (Jvm.Cond.methodLink "CompiledHouse$Maker" (120 : Nat) ({ cls := "CompiledHouse$Statement", name := "lower", desc := "(LCompiledHouse$Maker;)V" } : Jvm.MethodName)) ∈ lw_all := lw_g (lw_at lw_m9 132 rfl) rfl
abbrev cX6_put : ByteArray := prog_22_method_39_code
def yX6_put : MethodName := ⟨RX6, "put", "(J)V"⟩
theorem q2265 : (Jvm.Cond.code ({ cls := "CompiledHouse$Maker", name := "put", desc := "(J)V" } : Jvm.MethodName) prog_22_method_39_code (3 : Nat) (Option.none : Option Jvm.ClassFile.FieldType)) ∈ lw_all := lw_g (lw_at lw_m9 149 rfl) rfl
def kX6_put : xK := (yX6_put, cX6_put, 3, none, [])
theorem me_X6_put : xMe kX6_put 1 := ⟨q2265, q209, by decide, by decide, by decide +kernel⟩
theorem q2263 : (Jvm.Cond.instanceMethod ({ cls := "CompiledHouse$Maker", name := "put", desc := "(J)V" } : Jvm.MethodName)) ∈ lw_all := lw_g (lw_at lw_m9 147 rfl) rfl
theorem is_X6_put : Cond.instanceMethod kX6_put.y ∈ lw_all := q2263
theorem se_X6_put : Cond.selects RX6 kX6_put.y kX6_put.y ∈ lw_all := q2264
abbrev cX6_halt : ByteArray := prog_22_method_41_code
def yX6_halt : MethodName := ⟨RX6, "halt", "(J)V"⟩
theorem q2269 : (Jvm.Cond.code ({ cls := "CompiledHouse$Maker", name := "halt", desc := "(J)V" } : Jvm.MethodName) prog_22_method_41_code (3 : Nat) (Option.none : Option Jvm.ClassFile.FieldType)) ∈ lw_all := lw_g (lw_at lw_m9 153 rfl) rfl
def kX6_halt : xK := (yX6_halt, cX6_halt, 3, none, [])
theorem me_X6_halt : xMe kX6_halt 1 := ⟨q2269, q209, by decide, by decide, by decide +kernel⟩
theorem q2267 : (Jvm.Cond.instanceMethod ({ cls := "CompiledHouse$Maker", name := "halt", desc := "(J)V" } : Jvm.MethodName)) ∈ lw_all := lw_g (lw_at lw_m9 151 rfl) rfl
theorem is_X6_halt : Cond.instanceMethod kX6_halt.y ∈ lw_all := q2267
theorem se_X6_halt : Cond.selects RX6 kX6_halt.y kX6_halt.y ∈ lw_all := q2268
abbrev cX6_result : ByteArray := prog_22_method_42_code
def yX6_result : MethodName := ⟨RX6, "result", "(J)V"⟩
theorem q2282 : (Jvm.Cond.code ({ cls := "CompiledHouse$Maker", name := "result", desc := "(J)V" } : Jvm.MethodName) prog_22_method_42_code (3 : Nat) (Option.none : Option Jvm.ClassFile.FieldType)) ∈ lw_all := lw_g (lw_at lw_m9 166 rfl) rfl
def kX6_result : xK := (yX6_result, cX6_result, 3, none, [])
theorem me_X6_result : xMe kX6_result 1 := ⟨q2282, q209, by decide, by decide, by decide +kernel⟩
theorem q2280 : (Jvm.Cond.instanceMethod ({ cls := "CompiledHouse$Maker", name := "result", desc := "(J)V" } : Jvm.MethodName)) ∈ lw_all := lw_g (lw_at lw_m9 164 rfl) rfl
theorem is_X6_result : Cond.instanceMethod kX6_result.y ∈ lw_all := q2280
theorem se_X6_result : Cond.selects RX6 kX6_result.y kX6_result.y ∈ lw_all := q2281
abbrev cX6_words : ByteArray := prog_22_method_19_code
def yX6_words : MethodName := ⟨RX6, "words", "(II)V"⟩
theorem q2291 : (Jvm.Cond.code ({ cls := "CompiledHouse$Maker", name := "words", desc := "(II)V" } : Jvm.MethodName) prog_22_method_19_code (3 : Nat) (Option.none : Option Jvm.ClassFile.FieldType)) ∈ lw_all := lw_g (lw_at lw_m9 175 rfl) rfl
def kX6_words : xK := (yX6_words, cX6_words, 3, none, [])
theorem me_X6_words : xMe kX6_words 2 := ⟨q2291, q209, by decide, by decide, by decide +kernel⟩
theorem q2289 : (Jvm.Cond.instanceMethod ({ cls := "CompiledHouse$Maker", name := "words", desc := "(II)V" } : Jvm.MethodName)) ∈ lw_all := lw_g (lw_at lw_m9 173 rfl) rfl
theorem is_X6_words : Cond.instanceMethod kX6_words.y ∈ lw_all := q2289
theorem se_X6_words : Cond.selects RX6 kX6_words.y kX6_words.y ∈ lw_all := q2290
theorem q1206 : (Jvm.Cond.fieldLink "CompiledHouse$Maker" (169 : Nat) "CompiledHouse$Expr" "first" "I") ∈ lw_all := lw_g (lw_at lw_m5 50 rfl) rfl
theorem f_X6_169_14 : xF RX6 169 14 0 := ⟨_, "CompiledHouse$Expr", rfl, by decide, Or.inl q1206, Or.inl rfl⟩
theorem f_X6_169_15 : xF RX6 169 15 0 := ⟨_, "CompiledHouse$Expr", rfl, by decide, Or.inl q1206, Or.inl rfl⟩
theorem f_X6_169_16 : xF RX6 169 16 0 := ⟨_, "CompiledHouse$Expr", rfl, by decide, Or.inl q1206, Or.inl rfl⟩
theorem f_X6_169_17 : xF RX6 169 17 0 := ⟨_, "CompiledHouse$Expr", rfl, by decide, Or.inl q1206, Or.inl rfl⟩
theorem f_X6_169_18 : xF RX6 169 18 0 := ⟨_, "CompiledHouse$Expr", rfl, by decide, Or.inl q1206, Or.inl rfl⟩
theorem f_X6_169_19 : xF RX6 169 19 0 := ⟨_, "CompiledHouse$Expr", rfl, by decide, Or.inl q1206, Or.inl rfl⟩
theorem f_X6_169_20 : xF RX6 169 20 0 := ⟨_, "CompiledHouse$Expr", rfl, by decide, Or.inl q1206, Or.inl rfl⟩
theorem f_X6_169_21 : xF RX6 169 21 0 := ⟨_, "CompiledHouse$Expr", rfl, by decide, Or.inl q1206, Or.inl rfl⟩
abbrev cX6_own : ByteArray := prog_22_method_20_code
def yX6_own : MethodName := ⟨RX6, "own", "(I)I"⟩
theorem q2347 : (Jvm.Cond.code ({ cls := "CompiledHouse$Maker", name := "own", desc := "(I)I" } : Jvm.MethodName) prog_22_method_20_code (2 : Nat) (Option.some Jvm.ClassFile.FieldType.int)) ∈ lw_all := lw_g (lw_at lw_m9 231 rfl) rfl
def kX6_own : xK := (yX6_own, cX6_own, 2, some .int, [])
theorem me_X6_own : xMe kX6_own 1 := ⟨q2347, q209, by decide, by decide, by decide +kernel⟩
theorem q2345 : (Jvm.Cond.instanceMethod ({ cls := "CompiledHouse$Maker", name := "own", desc := "(I)I" } : Jvm.MethodName)) ∈ lw_all := lw_g (lw_at lw_m9 229 rfl) rfl
theorem is_X6_own : Cond.instanceMethod kX6_own.y ∈ lw_all := q2345
theorem se_X6_own : Cond.selects RX6 kX6_own.y kX6_own.y ∈ lw_all := q2346
theorem q1765 : (Jvm.Cond.fieldLinkNest "CompiledHouse$Maker" (274 : Nat) "CompiledHouse$Code" "own" "I" "CompiledHouse") ∈ lw_tbl := lw_at lw_m7 129 rfl
theorem f_X6_274_33 : xF RX6 274 33 3 := ⟨_, "CompiledHouse$Code", rfl, by decide, Or.inr ⟨_, q1765⟩, Or.inl rfl⟩
abbrev cX6_zero : ByteArray := prog_22_method_36_code
def yX6_zero : MethodName := ⟨RX6, "zero", "(LCompiledHouse$Symbol;)V"⟩
theorem q2352 : (Jvm.Cond.code ({ cls := "CompiledHouse$Maker", name := "zero", desc := "(LCompiledHouse$Symbol;)V" } : Jvm.MethodName) prog_22_method_36_code (2 : Nat) (Option.none : Option Jvm.ClassFile.FieldType)) ∈ lw_all := lw_g (lw_at lw_m9 236 rfl) rfl
def kX6_zero : xK := (yX6_zero, cX6_zero, 2, none, [])
theorem me_X6_zero : xMe kX6_zero 1 := ⟨q2352, q209, by decide, by decide, by decide +kernel⟩
theorem q2350 : (Jvm.Cond.instanceMethod ({ cls := "CompiledHouse$Maker", name := "zero", desc := "(LCompiledHouse$Symbol;)V" } : Jvm.MethodName)) ∈ lw_all := lw_g (lw_at lw_m9 234 rfl) rfl
theorem is_X6_zero : Cond.instanceMethod kX6_zero.y ∈ lw_all := q2350
theorem se_X6_zero : Cond.selects RX6 kX6_zero.y kX6_zero.y ∈ lw_all := q2351
abbrev cX6_turn : ByteArray := prog_22_method_38_code
def yX6_turn : MethodName := ⟨RX6, "turn", "()V"⟩
theorem q2364 : (Jvm.Cond.code ({ cls := "CompiledHouse$Maker", name := "turn", desc := "()V" } : Jvm.MethodName) prog_22_method_38_code (1 : Nat) (Option.none : Option Jvm.ClassFile.FieldType)) ∈ lw_all := lw_g (lw_at lw_m10 8 rfl) rfl
def kX6_turn : xK := (yX6_turn, cX6_turn, 1, none, [])
theorem me_X6_turn : xMe kX6_turn 0 := ⟨q2364, q209, by decide, by decide, by decide +kernel⟩
theorem q2362 : (Jvm.Cond.instanceMethod ({ cls := "CompiledHouse$Maker", name := "turn", desc := "()V" } : Jvm.MethodName)) ∈ lw_all := lw_g (lw_at lw_m10 6 rfl) rfl
theorem is_X6_turn : Cond.instanceMethod kX6_turn.y ∈ lw_all := q2362
theorem se_X6_turn : Cond.selects RX6 kX6_turn.y kX6_turn.y ∈ lw_all := q2363
theorem q1125 : (Jvm.Cond.fieldLinkNest "CompiledHouse$Maker" (163 : Nat) "CompiledHouse$Told" "values" "Ljava/util/ArrayList;" "CompiledHouse") ∈ lw_tbl := lw_at lw_m4 209 rfl
theorem f_X6_163_13 : xF RX6 163 13 7 := ⟨_, "CompiledHouse$Told", rfl, by decide, Or.inr ⟨_, q1125⟩, Or.inl rfl⟩
theorem q2383 : (Jvm.Cond.classLink "CompiledHouse$Maker" (139 : Nat) "CompiledHouse$Expr") ∈ lw_all := lw_g (lw_at lw_m10 27 rfl) rfl
theorem q2384 : (Jvm.Cond.methodLink "CompiledHouse$Maker" (166 : Nat) ({ cls := "CompiledHouse$Expr", name := "leading", desc := "()I" } : Jvm.MethodName)) ∈ lw_all := lw_g (lw_at lw_m10 28 rfl) rfl
abbrev cX15_leading : ByteArray := prog_13_method_6_code
def yX15_leading : MethodName := ⟨RX15, "leading", "()I"⟩
theorem q2175 : (Jvm.Cond.code ({ cls := "CompiledHouse$Expr", name := "leading", desc := "()I" } : Jvm.MethodName) prog_13_method_6_code (1 : Nat) (Option.some Jvm.ClassFile.FieldType.int)) ∈ lw_all := lw_g (lw_at lw_m9 59 rfl) rfl
theorem q222 : (Jvm.Cond.initialized "CompiledHouse$Expr") ∈ lw_all := lw_g (lw_at lw_m1 26 rfl) rfl
def kX15_leading : xK := (yX15_leading, cX15_leading, 1, some .int, [])
theorem me_X15_leading : xMe kX15_leading 0 := ⟨q2175, q222, by decide, by decide, by decide +kernel⟩
theorem q2152 : (Jvm.Cond.instanceMethod ({ cls := "CompiledHouse$Expr", name := "leading", desc := "()I" } : Jvm.MethodName)) ∈ lw_all := lw_g (lw_at lw_m9 36 rfl) rfl
theorem is_X15_leading : Cond.instanceMethod kX15_leading.y ∈ lw_all := q2152
theorem lk_X6_166 : xLk RX6 166 yX15_leading := Or.inl q2384
theorem q2385 : (Jvm.Cond.methodLink "CompiledHouse$Maker" (171 : Nat) ({ cls := "CompiledHouse$Maker", name := "known", desc := "(II)LCompiledHouse$Symbol;" } : Jvm.MethodName)) ∈ lw_all := lw_g (lw_at lw_m10 29 rfl) rfl
theorem lk_X6_171 : xLk RX6 171 yX6_known := Or.inl q2385
theorem q2390 : (Jvm.Cond.methodLink "CompiledHouse$Maker" (102 : Nat) ({ cls := "CompiledHouse$Maker", name := "isMain", desc := "(LCompiledHouse$Told;)Z" } : Jvm.MethodName)) ∈ lw_all := lw_g (lw_at lw_m10 34 rfl) rfl
abbrev cX6_isMain : ByteArray := prog_22_method_5_code
def yX6_isMain : MethodName := ⟨RX6, "isMain", "(LCompiledHouse$Told;)Z"⟩
theorem q2393 : (Jvm.Cond.code ({ cls := "CompiledHouse$Maker", name := "isMain", desc := "(LCompiledHouse$Told;)Z" } : Jvm.MethodName) prog_22_method_5_code (2 : Nat) (Option.some Jvm.ClassFile.FieldType.boolean)) ∈ lw_all := lw_g (lw_at lw_m10 37 rfl) rfl
def kX6_isMain : xK := (yX6_isMain, cX6_isMain, 2, some .boolean, [])
theorem me_X6_isMain : xMe kX6_isMain 1 := ⟨q2393, q209, by decide, by decide, by decide +kernel⟩
theorem q2392 : (Jvm.Cond.instanceMethod ({ cls := "CompiledHouse$Maker", name := "isMain", desc := "(LCompiledHouse$Told;)Z" } : Jvm.MethodName)) ∈ lw_all := lw_g (lw_at lw_m10 36 rfl) rfl
theorem is_X6_isMain : Cond.instanceMethod kX6_isMain.y ∈ lw_all := q2392
theorem se_X6_isMain : Cond.selects RX6 kX6_isMain.y kX6_isMain.y ∈ lw_all := qs50
theorem lk_X6_102 : xLk RX6 102 yX6_isMain := Or.inl q2390
theorem dX6_get_0 : decode cX6_get 0 = .ok (.aload_n 0, 1) := by decide +kernel
theorem dX6_get_1 : decode cX6_get 1 = .ok (.bipush 29, 2) := by decide +kernel
theorem dX6_get_3 : decode cX6_get 3 = .ok (.aload_n 0, 1) := by decide +kernel
theorem dX6_get_4 : decode cX6_get 4 = .ok (.invokevirtual 254, 3) := by decide +kernel
theorem dX6_get_7 : decode cX6_get 7 = .ok (.lconst 0, 1) := by decide +kernel
theorem dX6_get_8 : decode cX6_get 8 = .ok (.lconst 0, 1) := by decide +kernel
theorem dX6_get_9 : decode cX6_get 9 = .ok (.invokevirtual 260, 3) := by decide +kernel
theorem dX6_get_12 : decode cX6_get 12 = .ok (.getfield 311, 3) := by decide +kernel
theorem dX6_get_15 : decode cX6_get 15 = .ok (.i2l, 1) := by decide +kernel
theorem dX6_get_16 : decode cX6_get 16 = .ok (.lreturn, 1) := by decide +kernel
theorem dX6_move_0 : decode cX6_move 0 = .ok (.aload_n 0, 1) := by decide +kernel
theorem dX6_move_1 : decode cX6_move 1 = .ok (.getfield 224, 3) := by decide +kernel
theorem dX6_move_4 : decode cX6_move 4 = .ok (.getfield 296, 3) := by decide +kernel
theorem dX6_move_7 : decode cX6_move 7 = .ok (.new 265, 3) := by decide +kernel
theorem dX6_move_10 : decode cX6_move 10 = .ok (.dup, 1) := by decide +kernel
theorem dX6_move_11 : decode cX6_move 11 = .ok (.bipush 20, 2) := by decide +kernel
theorem dX6_move_13 : decode cX6_move 13 = .ok (.iload_n 1, 1) := by decide +kernel
theorem dX6_move_14 : decode cX6_move 14 = .ok (.lload_n 2, 1) := by decide +kernel
theorem dX6_move_15 : decode cX6_move 15 = .ok (.lconst 0, 1) := by decide +kernel
theorem dX6_move_16 : decode cX6_move 16 = .ok (.invokespecial 293, 3) := by decide +kernel
theorem dX6_move_19 : decode cX6_move 19 = .ok (.invokevirtual 110, 3) := by decide +kernel
theorem dX6_move_22 : decode cX6_move 22 = .ok (.pop, 1) := by decide +kernel
theorem dX6_move_23 : decode cX6_move 23 = .ok (.return_, 1) := by decide +kernel
theorem dX6_jump_0 : decode cX6_jump 0 = .ok (.aload_n 0, 1) := by decide +kernel
theorem dX6_jump_1 : decode cX6_jump 1 = .ok (.getfield 224, 3) := by decide +kernel
theorem dX6_jump_4 : decode cX6_jump 4 = .ok (.getfield 227, 3) := by decide +kernel
theorem dX6_jump_7 : decode cX6_jump 7 = .ok (.ifCond .ne 13, 3) := by decide +kernel
theorem dX6_jump_10 : decode cX6_jump 10 = .ok (.aload_n 0, 1) := by decide +kernel
theorem dX6_jump_11 : decode cX6_jump 11 = .ok (.getfield 224, 3) := by decide +kernel
theorem dX6_jump_14 : decode cX6_jump 14 = .ok (.iconst 1, 1) := by decide +kernel
theorem dX6_jump_15 : decode cX6_jump 15 = .ok (.lconst 0, 1) := by decide +kernel
theorem dX6_jump_16 : decode cX6_jump 16 = .ok (.aload_n 1, 1) := by decide +kernel
theorem dX6_jump_17 : decode cX6_jump 17 = .ok (.invokevirtual 235, 3) := by decide +kernel
theorem dX6_jump_20 : decode cX6_jump 20 = .ok (.return_, 1) := by decide +kernel
theorem dX6_load_0 : decode cX6_load 0 = .ok (.aload_n 1, 1) := by decide +kernel
theorem dX6_load_1 : decode cX6_load 1 = .ok (.getfield 314, 3) := by decide +kernel
theorem dX6_load_4 : decode cX6_load 4 = .ok (.ifCond .ne 13, 3) := by decide +kernel
theorem dX6_load_7 : decode cX6_load 7 = .ok (.aload_n 1, 1) := by decide +kernel
theorem dX6_load_8 : decode cX6_load 8 = .ok (.getfield 161, 3) := by decide +kernel
theorem dX6_load_11 : decode cX6_load 11 = .ok (.invokestatic 232, 3) := by decide +kernel
theorem dX6_load_14 : decode cX6_load 14 = .ok (.goto 28, 3) := by decide +kernel
theorem dX6_load_17 : decode cX6_load 17 = .ok (.aload_n 1, 1) := by decide +kernel
theorem dX6_load_18 : decode cX6_load 18 = .ok (.getfield 314, 3) := by decide +kernel
theorem dX6_load_21 : decode cX6_load 21 = .ok (.iconst 3, 1) := by decide +kernel
theorem dX6_load_22 : decode cX6_load 22 = .ok (.if_icmp .ne 11, 3) := by decide +kernel
theorem dX6_load_25 : decode cX6_load 25 = .ok (.aload_n 1, 1) := by decide +kernel
theorem dX6_load_26 : decode cX6_load 26 = .ok (.getfield 161, 3) := by decide +kernel
theorem dX6_load_29 : decode cX6_load 29 = .ok (.i2l, 1) := by decide +kernel
theorem dX6_load_30 : decode cX6_load 30 = .ok (.goto 12, 3) := by decide +kernel
theorem dX6_load_33 : decode cX6_load 33 = .ok (.aload_n 0, 1) := by decide +kernel
theorem dX6_load_34 : decode cX6_load 34 = .ok (.aload_n 1, 1) := by decide +kernel
theorem dX6_load_35 : decode cX6_load 35 = .ok (.iconst 0, 1) := by decide +kernel
theorem dX6_load_36 : decode cX6_load 36 = .ok (.invokestatic 232, 3) := by decide +kernel
theorem dX6_load_39 : decode cX6_load 39 = .ok (.invokevirtual 315, 3) := by decide +kernel
theorem dX6_load_42 : decode cX6_load 42 = .ok (.lreturn, 1) := by decide +kernel
theorem dX6_element_0 : decode cX6_element 0 = .ok (.aload_n 0, 1) := by decide +kernel
theorem dX6_element_1 : decode cX6_element 1 = .ok (.aload_n 1, 1) := by decide +kernel
theorem dX6_element_2 : decode cX6_element 2 = .ok (.getfield 154, 3) := by decide +kernel
theorem dX6_element_5 : decode cX6_element 5 = .ok (.ifCond .eq 8, 3) := by decide +kernel
theorem dX6_element_8 : decode cX6_element 8 = .ok (.bipush 22, 2) := by decide +kernel
theorem dX6_element_10 : decode cX6_element 10 = .ok (.goto 5, 3) := by decide +kernel
theorem dX6_element_13 : decode cX6_element 13 = .ok (.bipush 21, 2) := by decide +kernel
theorem dX6_element_15 : decode cX6_element 15 = .ok (.aload_n 0, 1) := by decide +kernel
theorem dX6_element_16 : decode cX6_element 16 = .ok (.invokevirtual 254, 3) := by decide +kernel
theorem dX6_element_19 : decode cX6_element 19 = .ok (.aload_n 1, 1) := by decide +kernel
theorem dX6_element_20 : decode cX6_element 20 = .ok (.invokestatic 319, 3) := by decide +kernel
theorem dX6_element_23 : decode cX6_element 23 = .ok (.lload_n 2, 1) := by decide +kernel
theorem dX6_element_24 : decode cX6_element 24 = .ok (.invokevirtual 260, 3) := by decide +kernel
theorem dX6_element_27 : decode cX6_element 27 = .ok (.astore 4, 2) := by decide +kernel
theorem dX6_element_29 : decode cX6_element 29 = .ok (.aload 4, 2) := by decide +kernel
theorem dX6_element_31 : decode cX6_element 31 = .ok (.aload_n 1, 1) := by decide +kernel
theorem dX6_element_32 : decode cX6_element 32 = .ok (.putfield 323, 3) := by decide +kernel
theorem dX6_element_35 : decode cX6_element 35 = .ok (.aload 4, 2) := by decide +kernel
theorem dX6_element_37 : decode cX6_element 37 = .ok (.getfield 311, 3) := by decide +kernel
theorem dX6_element_40 : decode cX6_element 40 = .ok (.i2l, 1) := by decide +kernel
theorem dX6_element_41 : decode cX6_element 41 = .ok (.lreturn, 1) := by decide +kernel
theorem dX6_base_0 : decode cX6_base 0 = .ok (.aload_n 0, 1) := by decide +kernel
theorem dX6_base_1 : decode cX6_base 1 = .ok (.getfield 314, 3) := by decide +kernel
theorem dX6_base_4 : decode cX6_base 4 = .ok (.iconst 5, 1) := by decide +kernel
theorem dX6_base_5 : decode cX6_base 5 = .ok (.if_icmp .ne 11, 3) := by decide +kernel
theorem dX6_base_8 : decode cX6_base 8 = .ok (.aload_n 0, 1) := by decide +kernel
theorem dX6_base_9 : decode cX6_base 9 = .ok (.getfield 161, 3) := by decide +kernel
theorem dX6_base_12 : decode cX6_base 12 = .ok (.i2l, 1) := by decide +kernel
theorem dX6_base_13 : decode cX6_base 13 = .ok (.goto 7, 3) := by decide +kernel
theorem dX6_base_16 : decode cX6_base 16 = .ok (.iconst 0, 1) := by decide +kernel
theorem dX6_base_17 : decode cX6_base 17 = .ok (.invokestatic 232, 3) := by decide +kernel
theorem dX6_base_20 : decode cX6_base 20 = .ok (.lreturn, 1) := by decide +kernel
theorem dX6_act_0 : decode cX6_act 0 = .ok (.iload_n 1, 1) := by decide +kernel
theorem dX6_act_1 : decode cX6_act 1 = .ok (.bipush 14, 2) := by decide +kernel
theorem dX6_act_3 : decode cX6_act 3 = .ok (.if_icmp .eq 9, 3) := by decide +kernel
theorem dX6_act_6 : decode cX6_act 6 = .ok (.iload_n 1, 1) := by decide +kernel
theorem dX6_act_7 : decode cX6_act 7 = .ok (.bipush 15, 2) := by decide +kernel
theorem dX6_act_9 : decode cX6_act 9 = .ok (.if_icmp .ne 24, 3) := by decide +kernel
theorem dX6_act_12 : decode cX6_act 12 = .ok (.aload_n 0, 1) := by decide +kernel
theorem dX6_act_13 : decode cX6_act 13 = .ok (.iload_n 1, 1) := by decide +kernel
theorem dX6_act_14 : decode cX6_act 14 = .ok (.bipush 14, 2) := by decide +kernel
theorem dX6_act_16 : decode cX6_act 16 = .ok (.if_icmp .ne 8, 3) := by decide +kernel
theorem dX6_act_19 : decode cX6_act 19 = .ok (.bipush 13, 2) := by decide +kernel
theorem dX6_act_21 : decode cX6_act 21 = .ok (.goto 5, 3) := by decide +kernel
theorem dX6_act_24 : decode cX6_act 24 = .ok (.bipush 16, 2) := by decide +kernel
theorem dX6_act_26 : decode cX6_act 26 = .ok (.lload 4, 2) := by decide +kernel
theorem dX6_act_28 : decode cX6_act 28 = .ok (.lload_n 2, 1) := by decide +kernel
theorem dX6_act_29 : decode cX6_act 29 = .ok (.invokevirtual 299, 3) := by decide +kernel
theorem dX6_act_32 : decode cX6_act 32 = .ok (.lreturn, 1) := by decide +kernel
theorem dX6_act_33 : decode cX6_act 33 = .ok (.lload_n 2, 1) := by decide +kernel
theorem dX6_act_34 : decode cX6_act 34 = .ok (.invokestatic 303, 3) := by decide +kernel
theorem dX6_act_37 : decode cX6_act 37 = .ok (.ifCond .eq 24, 3) := by decide +kernel
theorem dX6_act_40 : decode cX6_act 40 = .ok (.lload 4, 2) := by decide +kernel
theorem dX6_act_42 : decode cX6_act 42 = .ok (.invokestatic 303, 3) := by decide +kernel
theorem dX6_act_45 : decode cX6_act 45 = .ok (.ifCond .eq 16, 3) := by decide +kernel
theorem dX6_act_48 : decode cX6_act 48 = .ok (.iload_n 1, 1) := by decide +kernel
theorem dX6_act_49 : decode cX6_act 49 = .ok (.lload_n 2, 1) := by decide +kernel
theorem dX6_act_50 : decode cX6_act 50 = .ok (.l2i, 1) := by decide +kernel
theorem dX6_act_51 : decode cX6_act 51 = .ok (.lload 4, 2) := by decide +kernel
theorem dX6_act_53 : decode cX6_act 53 = .ok (.l2i, 1) := by decide +kernel
theorem dX6_act_54 : decode cX6_act 54 = .ok (.invokestatic 307, 3) := by decide +kernel
theorem dX6_act_57 : decode cX6_act 57 = .ok (.invokestatic 232, 3) := by decide +kernel
theorem dX6_act_60 : decode cX6_act 60 = .ok (.lreturn, 1) := by decide +kernel
theorem dX6_act_61 : decode cX6_act 61 = .ok (.aload_n 0, 1) := by decide +kernel
theorem dX6_act_62 : decode cX6_act 62 = .ok (.iload_n 1, 1) := by decide +kernel
theorem dX6_act_63 : decode cX6_act 63 = .ok (.aload_n 0, 1) := by decide +kernel
theorem dX6_act_64 : decode cX6_act 64 = .ok (.invokevirtual 254, 3) := by decide +kernel
theorem dX6_act_67 : decode cX6_act 67 = .ok (.lload_n 2, 1) := by decide +kernel
theorem dX6_act_68 : decode cX6_act 68 = .ok (.lload 4, 2) := by decide +kernel
theorem dX6_act_70 : decode cX6_act 70 = .ok (.invokevirtual 260, 3) := by decide +kernel
theorem dX6_act_73 : decode cX6_act 73 = .ok (.getfield 311, 3) := by decide +kernel
theorem dX6_act_76 : decode cX6_act 76 = .ok (.i2l, 1) := by decide +kernel
theorem dX6_act_77 : decode cX6_act 77 = .ok (.lreturn, 1) := by decide +kernel
theorem dX6_branch_0 : decode cX6_branch 0 = .ok (.iload_n 1, 1) := by decide +kernel
theorem dX6_branch_1 : decode cX6_branch 1 = .ok (.bipush 14, 2) := by decide +kernel
theorem dX6_branch_3 : decode cX6_branch 3 = .ok (.if_icmp .eq 9, 3) := by decide +kernel
theorem dX6_branch_6 : decode cX6_branch 6 = .ok (.iload_n 1, 1) := by decide +kernel
theorem dX6_branch_7 : decode cX6_branch 7 = .ok (.bipush 15, 2) := by decide +kernel
theorem dX6_branch_9 : decode cX6_branch 9 = .ok (.if_icmp .ne 28, 3) := by decide +kernel
theorem dX6_branch_12 : decode cX6_branch 12 = .ok (.aload_n 0, 1) := by decide +kernel
theorem dX6_branch_13 : decode cX6_branch 13 = .ok (.iload_n 1, 1) := by decide +kernel
theorem dX6_branch_14 : decode cX6_branch 14 = .ok (.bipush 14, 2) := by decide +kernel
theorem dX6_branch_16 : decode cX6_branch 16 = .ok (.if_icmp .ne 8, 3) := by decide +kernel
theorem dX6_branch_19 : decode cX6_branch 19 = .ok (.bipush 13, 2) := by decide +kernel
theorem dX6_branch_21 : decode cX6_branch 21 = .ok (.goto 5, 3) := by decide +kernel
theorem dX6_branch_24 : decode cX6_branch 24 = .ok (.bipush 16, 2) := by decide +kernel
theorem dX6_branch_26 : decode cX6_branch 26 = .ok (.lload 4, 2) := by decide +kernel
theorem dX6_branch_28 : decode cX6_branch 28 = .ok (.lload_n 2, 1) := by decide +kernel
theorem dX6_branch_29 : decode cX6_branch 29 = .ok (.aload 6, 2) := by decide +kernel
theorem dX6_branch_31 : decode cX6_branch 31 = .ok (.aload 7, 2) := by decide +kernel
theorem dX6_branch_33 : decode cX6_branch 33 = .ok (.invokevirtual 349, 3) := by decide +kernel
theorem dX6_branch_36 : decode cX6_branch 36 = .ok (.return_, 1) := by decide +kernel
theorem dX6_branch_37 : decode cX6_branch 37 = .ok (.aload_n 0, 1) := by decide +kernel
theorem dX6_branch_38 : decode cX6_branch 38 = .ok (.getfield 224, 3) := by decide +kernel
theorem dX6_branch_41 : decode cX6_branch 41 = .ok (.getfield 227, 3) := by decide +kernel
theorem dX6_branch_44 : decode cX6_branch 44 = .ok (.ifCond .eq 4, 3) := by decide +kernel
theorem dX6_branch_47 : decode cX6_branch 47 = .ok (.return_, 1) := by decide +kernel
theorem dX6_branch_48 : decode cX6_branch 48 = .ok (.aload_n 0, 1) := by decide +kernel
theorem dX6_branch_49 : decode cX6_branch 49 = .ok (.getfield 224, 3) := by decide +kernel
theorem dX6_branch_52 : decode cX6_branch 52 = .ok (.iconst 2, 1) := by decide +kernel
theorem dX6_branch_53 : decode cX6_branch 53 = .ok (.lload_n 2, 1) := by decide +kernel
theorem dX6_branch_54 : decode cX6_branch 54 = .ok (.aload 6, 2) := by decide +kernel
theorem dX6_branch_56 : decode cX6_branch 56 = .ok (.invokevirtual 235, 3) := by decide +kernel
theorem dX6_branch_59 : decode cX6_branch 59 = .ok (.aload_n 0, 1) := by decide +kernel
theorem dX6_branch_60 : decode cX6_branch 60 = .ok (.getfield 224, 3) := by decide +kernel
theorem dX6_branch_63 : decode cX6_branch 63 = .ok (.iload_n 1, 1) := by decide +kernel
theorem dX6_branch_64 : decode cX6_branch 64 = .ok (.putfield 353, 3) := by decide +kernel
theorem dX6_branch_67 : decode cX6_branch 67 = .ok (.aload_n 0, 1) := by decide +kernel
theorem dX6_branch_68 : decode cX6_branch 68 = .ok (.getfield 224, 3) := by decide +kernel
theorem dX6_branch_71 : decode cX6_branch 71 = .ok (.lload 4, 2) := by decide +kernel
theorem dX6_branch_73 : decode cX6_branch 73 = .ok (.putfield 355, 3) := by decide +kernel
theorem dX6_branch_76 : decode cX6_branch 76 = .ok (.aload_n 0, 1) := by decide +kernel
theorem dX6_branch_77 : decode cX6_branch 77 = .ok (.getfield 224, 3) := by decide +kernel
theorem dX6_branch_80 : decode cX6_branch 80 = .ok (.aload 7, 2) := by decide +kernel
theorem dX6_branch_82 : decode cX6_branch 82 = .ok (.putfield 358, 3) := by decide +kernel
theorem dX6_branch_85 : decode cX6_branch 85 = .ok (.return_, 1) := by decide +kernel
theorem dX6_address_0 : decode cX6_address 0 = .ok (.aload_n 1, 1) := by decide +kernel
theorem dX6_address_1 : decode cX6_address 1 = .ok (.getfield 314, 3) := by decide +kernel
theorem dX6_address_4 : decode cX6_address 4 = .ok (.iconst 2, 1) := by decide +kernel
theorem dX6_address_5 : decode cX6_address 5 = .ok (.if_icmp .ne 13, 3) := by decide +kernel
theorem dX6_address_8 : decode cX6_address 8 = .ok (.iconst 4, 1) := by decide +kernel
theorem dX6_address_9 : decode cX6_address 9 = .ok (.aload_n 1, 1) := by decide +kernel
theorem dX6_address_10 : decode cX6_address 10 = .ok (.getfield 161, 3) := by decide +kernel
theorem dX6_address_13 : decode cX6_address 13 = .ok (.imul, 1) := by decide +kernel
theorem dX6_address_14 : decode cX6_address 14 = .ok (.invokestatic 232, 3) := by decide +kernel
theorem dX6_address_17 : decode cX6_address 17 = .ok (.lreturn, 1) := by decide +kernel
theorem dX6_address_18 : decode cX6_address 18 = .ok (.aload_n 1, 1) := by decide +kernel
theorem dX6_address_19 : decode cX6_address 19 = .ok (.getfield 314, 3) := by decide +kernel
theorem dX6_address_22 : decode cX6_address 22 = .ok (.iconst 5, 1) := by decide +kernel
theorem dX6_address_23 : decode cX6_address 23 = .ok (.if_icmp .ne 9, 3) := by decide +kernel
theorem dX6_address_26 : decode cX6_address 26 = .ok (.aload_n 1, 1) := by decide +kernel
theorem dX6_address_27 : decode cX6_address 27 = .ok (.getfield 161, 3) := by decide +kernel
theorem dX6_address_30 : decode cX6_address 30 = .ok (.i2l, 1) := by decide +kernel
theorem dX6_address_31 : decode cX6_address 31 = .ok (.lreturn, 1) := by decide +kernel
theorem dX6_address_32 : decode cX6_address 32 = .ok (.aload_n 0, 1) := by decide +kernel
theorem dX6_address_33 : decode cX6_address 33 = .ok (.bipush 32, 2) := by decide +kernel
theorem dX6_address_35 : decode cX6_address 35 = .ok (.aload_n 0, 1) := by decide +kernel
theorem dX6_address_36 : decode cX6_address 36 = .ok (.invokevirtual 254, 3) := by decide +kernel
theorem dX6_address_39 : decode cX6_address 39 = .ok (.lconst 0, 1) := by decide +kernel
theorem dX6_address_40 : decode cX6_address 40 = .ok (.lconst 0, 1) := by decide +kernel
theorem dX6_address_41 : decode cX6_address 41 = .ok (.invokevirtual 260, 3) := by decide +kernel
theorem dX6_address_44 : decode cX6_address 44 = .ok (.astore_n 2, 1) := by decide +kernel
theorem dX6_address_45 : decode cX6_address 45 = .ok (.aload_n 2, 1) := by decide +kernel
theorem dX6_address_46 : decode cX6_address 46 = .ok (.iconst 4, 1) := by decide +kernel
theorem dX6_address_47 : decode cX6_address 47 = .ok (.aload_n 1, 1) := by decide +kernel
theorem dX6_address_48 : decode cX6_address 48 = .ok (.getfield 161, 3) := by decide +kernel
theorem dX6_address_51 : decode cX6_address 51 = .ok (.imul, 1) := by decide +kernel
theorem dX6_address_52 : decode cX6_address 52 = .ok (.putfield 264, 3) := by decide +kernel
theorem dX6_address_55 : decode cX6_address 55 = .ok (.aload_n 2, 1) := by decide +kernel
theorem dX6_address_56 : decode cX6_address 56 = .ok (.getfield 311, 3) := by decide +kernel
theorem dX6_address_59 : decode cX6_address 59 = .ok (.i2l, 1) := by decide +kernel
theorem dX6_address_60 : decode cX6_address 60 = .ok (.lreturn, 1) := by decide +kernel
theorem dX6_length_0 : decode cX6_length 0 = .ok (.aload_n 1, 1) := by decide +kernel
theorem dX6_length_1 : decode cX6_length 1 = .ok (.getfield 314, 3) := by decide +kernel
theorem dX6_length_4 : decode cX6_length 4 = .ok (.iconst 5, 1) := by decide +kernel
theorem dX6_length_5 : decode cX6_length 5 = .ok (.if_icmp .ne 13, 3) := by decide +kernel
theorem dX6_length_8 : decode cX6_length 8 = .ok (.aload_n 1, 1) := by decide +kernel
theorem dX6_length_9 : decode cX6_length 9 = .ok (.getfield 161, 3) := by decide +kernel
theorem dX6_length_12 : decode cX6_length 12 = .ok (.i2l, 1) := by decide +kernel
theorem dX6_length_13 : decode cX6_length 13 = .ok (.lconst 1, 1) := by decide +kernel
theorem dX6_length_14 : decode cX6_length 14 = .ok (.ladd, 1) := by decide +kernel
theorem dX6_length_15 : decode cX6_length 15 = .ok (.goto 10, 3) := by decide +kernel
theorem dX6_length_18 : decode cX6_length 18 = .ok (.aload_n 1, 1) := by decide +kernel
theorem dX6_length_19 : decode cX6_length 19 = .ok (.getfield 155, 3) := by decide +kernel
theorem dX6_length_22 : decode cX6_length 22 = .ok (.invokestatic 232, 3) := by decide +kernel
theorem dX6_length_25 : decode cX6_length 25 = .ok (.lreturn, 1) := by decide +kernel
theorem dX6_call_0 : decode cX6_call 0 = .ok (.aload_n 0, 1) := by decide +kernel
theorem dX6_call_1 : decode cX6_call 1 = .ok (.bipush 26, 2) := by decide +kernel
theorem dX6_call_3 : decode cX6_call 3 = .ok (.aload_n 0, 1) := by decide +kernel
theorem dX6_call_4 : decode cX6_call 4 = .ok (.invokevirtual 254, 3) := by decide +kernel
theorem dX6_call_7 : decode cX6_call 7 = .ok (.lconst 0, 1) := by decide +kernel
theorem dX6_call_8 : decode cX6_call 8 = .ok (.lconst 0, 1) := by decide +kernel
theorem dX6_call_9 : decode cX6_call 9 = .ok (.invokevirtual 260, 3) := by decide +kernel
theorem dX6_call_12 : decode cX6_call 12 = .ok (.astore 4, 2) := by decide +kernel
theorem dX6_call_14 : decode cX6_call 14 = .ok (.aload 4, 2) := by decide +kernel
theorem dX6_call_16 : decode cX6_call 16 = .ok (.aload_n 1, 1) := by decide +kernel
theorem dX6_call_17 : decode cX6_call 17 = .ok (.putfield 344, 3) := by decide +kernel
theorem dX6_call_20 : decode cX6_call 20 = .ok (.aload 4, 2) := by decide +kernel
theorem dX6_call_22 : decode cX6_call 22 = .ok (.aload_n 2, 1) := by decide +kernel
theorem dX6_call_23 : decode cX6_call 23 = .ok (.putfield 345, 3) := by decide +kernel
theorem dX6_call_26 : decode cX6_call 26 = .ok (.aload 4, 2) := by decide +kernel
theorem dX6_call_28 : decode cX6_call 28 = .ok (.iload_n 3, 1) := by decide +kernel
theorem dX6_call_29 : decode cX6_call 29 = .ok (.putfield 264, 3) := by decide +kernel
theorem dX6_call_32 : decode cX6_call 32 = .ok (.aload 4, 2) := by decide +kernel
theorem dX6_call_34 : decode cX6_call 34 = .ok (.getfield 311, 3) := by decide +kernel
theorem dX6_call_37 : decode cX6_call 37 = .ok (.i2l, 1) := by decide +kernel
theorem dX6_call_38 : decode cX6_call 38 = .ok (.lreturn, 1) := by decide +kernel
theorem dX6_store_0 : decode cX6_store 0 = .ok (.aload_n 1, 1) := by decide +kernel
theorem dX6_store_1 : decode cX6_store 1 = .ok (.getfield 314, 3) := by decide +kernel
theorem dX6_store_4 : decode cX6_store 4 = .ok (.iconst 3, 1) := by decide +kernel
theorem dX6_store_5 : decode cX6_store 5 = .ok (.if_icmp .ne 15, 3) := by decide +kernel
theorem dX6_store_8 : decode cX6_store 8 = .ok (.aload_n 0, 1) := by decide +kernel
theorem dX6_store_9 : decode cX6_store 9 = .ok (.aload_n 1, 1) := by decide +kernel
theorem dX6_store_10 : decode cX6_store 10 = .ok (.getfield 161, 3) := by decide +kernel
theorem dX6_store_13 : decode cX6_store 13 = .ok (.lload_n 2, 1) := by decide +kernel
theorem dX6_store_14 : decode cX6_store 14 = .ok (.invokevirtual 332, 3) := by decide +kernel
theorem dX6_store_17 : decode cX6_store 17 = .ok (.goto 13, 3) := by decide +kernel
theorem dX6_store_20 : decode cX6_store 20 = .ok (.aload_n 0, 1) := by decide +kernel
theorem dX6_store_21 : decode cX6_store 21 = .ok (.aload_n 1, 1) := by decide +kernel
theorem dX6_store_22 : decode cX6_store 22 = .ok (.iconst 0, 1) := by decide +kernel
theorem dX6_store_23 : decode cX6_store 23 = .ok (.invokestatic 232, 3) := by decide +kernel
theorem dX6_store_26 : decode cX6_store 26 = .ok (.lload_n 2, 1) := by decide +kernel
theorem dX6_store_27 : decode cX6_store 27 = .ok (.invokevirtual 336, 3) := by decide +kernel
theorem dX6_store_30 : decode cX6_store 30 = .ok (.return_, 1) := by decide +kernel
theorem dX6_storeElement_0 : decode cX6_storeElement 0 = .ok (.aload_n 0, 1) := by decide +kernel
theorem dX6_storeElement_1 : decode cX6_storeElement 1 = .ok (.aload_n 1, 1) := by decide +kernel
theorem dX6_storeElement_2 : decode cX6_storeElement 2 = .ok (.getfield 154, 3) := by decide +kernel
theorem dX6_storeElement_5 : decode cX6_storeElement 5 = .ok (.ifCond .eq 8, 3) := by decide +kernel
theorem dX6_storeElement_8 : decode cX6_storeElement 8 = .ok (.bipush 24, 2) := by decide +kernel
theorem dX6_storeElement_10 : decode cX6_storeElement 10 = .ok (.goto 5, 3) := by decide +kernel
theorem dX6_storeElement_13 : decode cX6_storeElement 13 = .ok (.bipush 23, 2) := by decide +kernel
theorem dX6_storeElement_15 : decode cX6_storeElement 15 = .ok (.iconst (-1), 1) := by decide +kernel
theorem dX6_storeElement_16 : decode cX6_storeElement 16 = .ok (.aload_n 1, 1) := by decide +kernel
theorem dX6_storeElement_17 : decode cX6_storeElement 17 = .ok (.invokestatic 319, 3) := by decide +kernel
theorem dX6_storeElement_20 : decode cX6_storeElement 20 = .ok (.lload_n 2, 1) := by decide +kernel
theorem dX6_storeElement_21 : decode cX6_storeElement 21 = .ok (.invokevirtual 260, 3) := by decide +kernel
theorem dX6_storeElement_24 : decode cX6_storeElement 24 = .ok (.astore 6, 2) := by decide +kernel
theorem dX6_storeElement_26 : decode cX6_storeElement 26 = .ok (.aload 6, 2) := by decide +kernel
theorem dX6_storeElement_28 : decode cX6_storeElement 28 = .ok (.aload_n 1, 1) := by decide +kernel
theorem dX6_storeElement_29 : decode cX6_storeElement 29 = .ok (.putfield 323, 3) := by decide +kernel
theorem dX6_storeElement_32 : decode cX6_storeElement 32 = .ok (.aload 6, 2) := by decide +kernel
theorem dX6_storeElement_34 : decode cX6_storeElement 34 = .ok (.lload 4, 2) := by decide +kernel
theorem dX6_storeElement_36 : decode cX6_storeElement 36 = .ok (.putfield 340, 3) := by decide +kernel
theorem dX6_storeElement_39 : decode cX6_storeElement 39 = .ok (.return_, 1) := by decide +kernel
theorem dX6_close_0 : decode cX6_close 0 = .ok (.aload_n 0, 1) := by decide +kernel
theorem dX6_close_1 : decode cX6_close 1 = .ok (.getfield 21, 3) := by decide +kernel
theorem dX6_close_4 : decode cX6_close 4 = .ok (.invokevirtual 55, 3) := by decide +kernel
theorem dX6_close_7 : decode cX6_close 7 = .ok (.aload_n 0, 1) := by decide +kernel
theorem dX6_close_8 : decode cX6_close 8 = .ok (.getfield 49, 3) := by decide +kernel
theorem dX6_close_11 : decode cX6_close 11 = .ok (.if_icmp .le 23, 3) := by decide +kernel
theorem dX6_close_14 : decode cX6_close 14 = .ok (.aload_n 0, 1) := by decide +kernel
theorem dX6_close_15 : decode cX6_close 15 = .ok (.getfield 21, 3) := by decide +kernel
theorem dX6_close_18 : decode cX6_close 18 = .ok (.aload_n 0, 1) := by decide +kernel
theorem dX6_close_19 : decode cX6_close 19 = .ok (.getfield 21, 3) := by decide +kernel
theorem dX6_close_22 : decode cX6_close 22 = .ok (.invokevirtual 55, 3) := by decide +kernel
theorem dX6_close_25 : decode cX6_close 25 = .ok (.iconst 1, 1) := by decide +kernel
theorem dX6_close_26 : decode cX6_close 26 = .ok (.isub, 1) := by decide +kernel
theorem dX6_close_27 : decode cX6_close 27 = .ok (.invokevirtual 114, 3) := by decide +kernel
theorem dX6_close_30 : decode cX6_close 30 = .ok (.pop, 1) := by decide +kernel
theorem dX6_close_31 : decode cX6_close 31 = .ok (.goto (-31), 3) := by decide +kernel
theorem dX6_close_34 : decode cX6_close 34 = .ok (.aload_n 0, 1) := by decide +kernel
theorem dX6_close_35 : decode cX6_close 35 = .ok (.iload_n 1, 1) := by decide +kernel
theorem dX6_close_36 : decode cX6_close 36 = .ok (.putfield 49, 3) := by decide +kernel
theorem dX6_close_39 : decode cX6_close 39 = .ok (.return_, 1) := by decide +kernel
theorem dX6_scoped_0 : decode cX6_scoped 0 = .ok (.aload_n 0, 1) := by decide +kernel
theorem dX6_scoped_1 : decode cX6_scoped 1 = .ok (.invokevirtual 117, 3) := by decide +kernel
theorem dX6_scoped_4 : decode cX6_scoped 4 = .ok (.istore_n 2, 1) := by decide +kernel
theorem dX6_scoped_5 : decode cX6_scoped 5 = .ok (.aload_n 1, 1) := by decide +kernel
theorem dX6_scoped_6 : decode cX6_scoped 6 = .ok (.aload_n 0, 1) := by decide +kernel
theorem dX6_scoped_7 : decode cX6_scoped 7 = .ok (.invokevirtual 120, 3) := by decide +kernel
theorem dX6_scoped_10 : decode cX6_scoped 10 = .ok (.aload_n 0, 1) := by decide +kernel
theorem dX6_scoped_11 : decode cX6_scoped 11 = .ok (.iload_n 2, 1) := by decide +kernel
theorem dX6_scoped_12 : decode cX6_scoped 12 = .ok (.invokevirtual 126, 3) := by decide +kernel
theorem dX6_scoped_15 : decode cX6_scoped 15 = .ok (.return_, 1) := by decide +kernel
theorem dX6_put_0 : decode cX6_put 0 = .ok (.aload_n 0, 1) := by decide +kernel
theorem dX6_put_1 : decode cX6_put 1 = .ok (.getfield 224, 3) := by decide +kernel
theorem dX6_put_4 : decode cX6_put 4 = .ok (.getfield 296, 3) := by decide +kernel
theorem dX6_put_7 : decode cX6_put 7 = .ok (.new 265, 3) := by decide +kernel
theorem dX6_put_10 : decode cX6_put 10 = .ok (.dup, 1) := by decide +kernel
theorem dX6_put_11 : decode cX6_put 11 = .ok (.bipush 28, 2) := by decide +kernel
theorem dX6_put_13 : decode cX6_put 13 = .ok (.iconst (-1), 1) := by decide +kernel
theorem dX6_put_14 : decode cX6_put 14 = .ok (.lload_n 1, 1) := by decide +kernel
theorem dX6_put_15 : decode cX6_put 15 = .ok (.lconst 0, 1) := by decide +kernel
theorem dX6_put_16 : decode cX6_put 16 = .ok (.invokespecial 293, 3) := by decide +kernel
theorem dX6_put_19 : decode cX6_put 19 = .ok (.invokevirtual 110, 3) := by decide +kernel
theorem dX6_put_22 : decode cX6_put 22 = .ok (.pop, 1) := by decide +kernel
theorem dX6_put_23 : decode cX6_put 23 = .ok (.return_, 1) := by decide +kernel
theorem dX6_halt_0 : decode cX6_halt 0 = .ok (.aload_n 0, 1) := by decide +kernel
theorem dX6_halt_1 : decode cX6_halt 1 = .ok (.getfield 224, 3) := by decide +kernel
theorem dX6_halt_4 : decode cX6_halt 4 = .ok (.getfield 296, 3) := by decide +kernel
theorem dX6_halt_7 : decode cX6_halt 7 = .ok (.new 265, 3) := by decide +kernel
theorem dX6_halt_10 : decode cX6_halt 10 = .ok (.dup, 1) := by decide +kernel
theorem dX6_halt_11 : decode cX6_halt 11 = .ok (.bipush 30, 2) := by decide +kernel
theorem dX6_halt_13 : decode cX6_halt 13 = .ok (.iconst (-1), 1) := by decide +kernel
theorem dX6_halt_14 : decode cX6_halt 14 = .ok (.lload_n 1, 1) := by decide +kernel
theorem dX6_halt_15 : decode cX6_halt 15 = .ok (.lconst 0, 1) := by decide +kernel
theorem dX6_halt_16 : decode cX6_halt 16 = .ok (.invokespecial 293, 3) := by decide +kernel
theorem dX6_halt_19 : decode cX6_halt 19 = .ok (.invokevirtual 110, 3) := by decide +kernel
theorem dX6_halt_22 : decode cX6_halt 22 = .ok (.pop, 1) := by decide +kernel
theorem dX6_halt_23 : decode cX6_halt 23 = .ok (.aload_n 0, 1) := by decide +kernel
theorem dX6_halt_24 : decode cX6_halt 24 = .ok (.getfield 224, 3) := by decide +kernel
theorem dX6_halt_27 : decode cX6_halt 27 = .ok (.iconst 4, 1) := by decide +kernel
theorem dX6_halt_28 : decode cX6_halt 28 = .ok (.lconst 0, 1) := by decide +kernel
theorem dX6_halt_29 : decode cX6_halt 29 = .ok (.aconst_null, 1) := by decide +kernel
theorem dX6_halt_30 : decode cX6_halt 30 = .ok (.invokevirtual 235, 3) := by decide +kernel
theorem dX6_halt_33 : decode cX6_halt 33 = .ok (.return_, 1) := by decide +kernel
theorem dX6_result_0 : decode cX6_result 0 = .ok (.aload_n 0, 1) := by decide +kernel
theorem dX6_result_1 : decode cX6_result 1 = .ok (.getfield 224, 3) := by decide +kernel
theorem dX6_result_4 : decode cX6_result 4 = .ok (.iconst 3, 1) := by decide +kernel
theorem dX6_result_5 : decode cX6_result 5 = .ok (.lload_n 1, 1) := by decide +kernel
theorem dX6_result_6 : decode cX6_result 6 = .ok (.aconst_null, 1) := by decide +kernel
theorem dX6_result_7 : decode cX6_result 7 = .ok (.invokevirtual 235, 3) := by decide +kernel
theorem dX6_result_10 : decode cX6_result 10 = .ok (.return_, 1) := by decide +kernel
theorem dX6_words_0 : decode cX6_words 0 = .ok (.aload_n 0, 1) := by decide +kernel
theorem dX6_words_1 : decode cX6_words 1 = .ok (.getfield 188, 3) := by decide +kernel
theorem dX6_words_4 : decode cX6_words 4 = .ok (.iload_n 1, 1) := by decide +kernel
theorem dX6_words_5 : decode cX6_words 5 = .ok (.iadd, 1) := by decide +kernel
theorem dX6_words_6 : decode cX6_words 6 = .ok (.sipush 200, 3) := by decide +kernel
theorem dX6_words_9 : decode cX6_words 9 = .ok (.if_icmp .le 11, 3) := by decide +kernel
theorem dX6_words_12 : decode cX6_words 12 = .ok (.aload_n 0, 1) := by decide +kernel
theorem dX6_words_13 : decode cX6_words 13 = .ok (.bipush 11, 2) := by decide +kernel
theorem dX6_words_15 : decode cX6_words 15 = .ok (.iload_n 2, 1) := by decide +kernel
theorem dX6_words_16 : decode cX6_words 16 = .ok (.invokevirtual 95, 3) := by decide +kernel
theorem dX6_words_19 : decode cX6_words 19 = .ok (.athrow, 1) := by decide +kernel
theorem dX6_words_20 : decode cX6_words 20 = .ok (.aload_n 0, 1) := by decide +kernel
theorem dX6_words_21 : decode cX6_words 21 = .ok (.dup, 1) := by decide +kernel
theorem dX6_words_22 : decode cX6_words 22 = .ok (.getfield 188, 3) := by decide +kernel
theorem dX6_words_25 : decode cX6_words 25 = .ok (.iload_n 1, 1) := by decide +kernel
theorem dX6_words_26 : decode cX6_words 26 = .ok (.iadd, 1) := by decide +kernel
theorem dX6_words_27 : decode cX6_words 27 = .ok (.putfield 188, 3) := by decide +kernel
theorem dX6_words_30 : decode cX6_words 30 = .ok (.return_, 1) := by decide +kernel
theorem dX6_size_0 : decode cX6_size 0 = .ok (.aload_n 1, 1) := by decide +kernel
theorem dX6_size_1 : decode cX6_size 1 = .ok (.aload_n 0, 1) := by decide +kernel
theorem dX6_size_2 : decode cX6_size 2 = .ok (.invokevirtual 138, 3) := by decide +kernel
theorem dX6_size_5 : decode cX6_size 5 = .ok (.istore_n 2, 1) := by decide +kernel
theorem dX6_size_6 : decode cX6_size 6 = .ok (.iload_n 2, 1) := by decide +kernel
theorem dX6_size_7 : decode cX6_size 7 = .ok (.iconst 1, 1) := by decide +kernel
theorem dX6_size_8 : decode cX6_size 8 = .ok (.if_icmp .lt 10, 3) := by decide +kernel
theorem dX6_size_11 : decode cX6_size 11 = .ok (.iload_n 2, 1) := by decide +kernel
theorem dX6_size_12 : decode cX6_size 12 = .ok (.sipush 500, 3) := by decide +kernel
theorem dX6_size_15 : decode cX6_size 15 = .ok (.if_icmp .le 14, 3) := by decide +kernel
theorem dX6_size_18 : decode cX6_size 18 = .ok (.aload_n 0, 1) := by decide +kernel
theorem dX6_size_19 : decode cX6_size 19 = .ok (.bipush 10, 2) := by decide +kernel
theorem dX6_size_21 : decode cX6_size 21 = .ok (.aload_n 1, 1) := by decide +kernel
theorem dX6_size_22 : decode cX6_size 22 = .ok (.getfield 169, 3) := by decide +kernel
theorem dX6_size_25 : decode cX6_size 25 = .ok (.invokevirtual 95, 3) := by decide +kernel
theorem dX6_size_28 : decode cX6_size 28 = .ok (.athrow, 1) := by decide +kernel
theorem dX6_size_29 : decode cX6_size 29 = .ok (.iload_n 2, 1) := by decide +kernel
theorem dX6_size_30 : decode cX6_size 30 = .ok (.ireturn, 1) := by decide +kernel
theorem dX6_own_0 : decode cX6_own 0 = .ok (.aload_n 0, 1) := by decide +kernel
theorem dX6_own_1 : decode cX6_own 1 = .ok (.getfield 183, 3) := by decide +kernel
theorem dX6_own_4 : decode cX6_own 4 = .ok (.dup, 1) := by decide +kernel
theorem dX6_own_5 : decode cX6_own 5 = .ok (.getfield 274, 3) := by decide +kernel
theorem dX6_own_8 : decode cX6_own 8 = .ok (.iload_n 1, 1) := by decide +kernel
theorem dX6_own_9 : decode cX6_own 9 = .ok (.iadd, 1) := by decide +kernel
theorem dX6_own_10 : decode cX6_own 10 = .ok (.putfield 274, 3) := by decide +kernel
theorem dX6_own_13 : decode cX6_own 13 = .ok (.aload_n 0, 1) := by decide +kernel
theorem dX6_own_14 : decode cX6_own 14 = .ok (.getfield 183, 3) := by decide +kernel
theorem dX6_own_17 : decode cX6_own 17 = .ok (.getfield 274, 3) := by decide +kernel
theorem dX6_own_20 : decode cX6_own 20 = .ok (.iload_n 1, 1) := by decide +kernel
theorem dX6_own_21 : decode cX6_own 21 = .ok (.isub, 1) := by decide +kernel
theorem dX6_own_22 : decode cX6_own 22 = .ok (.ireturn, 1) := by decide +kernel
theorem dX6_zero_0 : decode cX6_zero 0 = .ok (.aload_n 0, 1) := by decide +kernel
theorem dX6_zero_1 : decode cX6_zero 1 = .ok (.bipush 31, 2) := by decide +kernel
theorem dX6_zero_3 : decode cX6_zero 3 = .ok (.iconst (-1), 1) := by decide +kernel
theorem dX6_zero_4 : decode cX6_zero 4 = .ok (.lconst 0, 1) := by decide +kernel
theorem dX6_zero_5 : decode cX6_zero 5 = .ok (.lconst 0, 1) := by decide +kernel
theorem dX6_zero_6 : decode cX6_zero 6 = .ok (.invokevirtual 260, 3) := by decide +kernel
theorem dX6_zero_9 : decode cX6_zero 9 = .ok (.aload_n 1, 1) := by decide +kernel
theorem dX6_zero_10 : decode cX6_zero 10 = .ok (.putfield 323, 3) := by decide +kernel
theorem dX6_zero_13 : decode cX6_zero 13 = .ok (.return_, 1) := by decide +kernel
theorem dX6_turn_0 : decode cX6_turn 0 = .ok (.aload_n 0, 1) := by decide +kernel
theorem dX6_turn_1 : decode cX6_turn 1 = .ok (.getfield 224, 3) := by decide +kernel
theorem dX6_turn_4 : decode cX6_turn 4 = .ok (.getfield 296, 3) := by decide +kernel
theorem dX6_turn_7 : decode cX6_turn 7 = .ok (.new 265, 3) := by decide +kernel
theorem dX6_turn_10 : decode cX6_turn 10 = .ok (.dup, 1) := by decide +kernel
theorem dX6_turn_11 : decode cX6_turn 11 = .ok (.bipush 27, 2) := by decide +kernel
theorem dX6_turn_13 : decode cX6_turn 13 = .ok (.iconst (-1), 1) := by decide +kernel
theorem dX6_turn_14 : decode cX6_turn 14 = .ok (.lconst 0, 1) := by decide +kernel
theorem dX6_turn_15 : decode cX6_turn 15 = .ok (.lconst 0, 1) := by decide +kernel
theorem dX6_turn_16 : decode cX6_turn 16 = .ok (.invokespecial 293, 3) := by decide +kernel
theorem dX6_turn_19 : decode cX6_turn 19 = .ok (.invokevirtual 110, 3) := by decide +kernel
theorem dX6_turn_22 : decode cX6_turn 22 = .ok (.pop, 1) := by decide +kernel
theorem dX6_turn_23 : decode cX6_turn 23 = .ok (.return_, 1) := by decide +kernel
theorem dX6_list_0 : decode cX6_list 0 = .ok (.iconst 0, 1) := by decide +kernel
theorem dX6_list_1 : decode cX6_list 1 = .ok (.istore_n 3, 1) := by decide +kernel
theorem dX6_list_2 : decode cX6_list 2 = .ok (.iload_n 3, 1) := by decide +kernel
theorem dX6_list_3 : decode cX6_list 3 = .ok (.aload_n 1, 1) := by decide +kernel
theorem dX6_list_4 : decode cX6_list 4 = .ok (.getfield 163, 3) := by decide +kernel
theorem dX6_list_7 : decode cX6_list 7 = .ok (.invokevirtual 55, 3) := by decide +kernel
theorem dX6_list_10 : decode cX6_list 10 = .ok (.if_icmp .ge 125, 3) := by decide +kernel
theorem dX6_list_13 : decode cX6_list 13 = .ok (.aload_n 1, 1) := by decide +kernel
theorem dX6_list_14 : decode cX6_list 14 = .ok (.getfield 163, 3) := by decide +kernel
theorem dX6_list_17 : decode cX6_list 17 = .ok (.iload_n 3, 1) := by decide +kernel
theorem dX6_list_18 : decode cX6_list 18 = .ok (.invokevirtual 59, 3) := by decide +kernel
theorem dX6_list_21 : decode cX6_list 21 = .ok (.checkcast 139, 3) := by decide +kernel
theorem dX6_list_24 : decode cX6_list 24 = .ok (.astore 4, 2) := by decide +kernel
theorem dX6_list_26 : decode cX6_list 26 = .ok (.iload_n 3, 1) := by decide +kernel
theorem dX6_list_27 : decode cX6_list 27 = .ok (.aload_n 2, 1) := by decide +kernel
theorem dX6_list_28 : decode cX6_list 28 = .ok (.getfield 155, 3) := by decide +kernel
theorem dX6_list_31 : decode cX6_list 31 = .ok (.if_icmp .ne 38, 3) := by decide +kernel
theorem dX6_list_34 : decode cX6_list 34 = .ok (.aload 4, 2) := by decide +kernel
theorem dX6_list_36 : decode cX6_list 36 = .ok (.invokevirtual 166, 3) := by decide +kernel
theorem dX6_list_39 : decode cX6_list 39 = .ok (.ifCond .lt 18, 3) := by decide +kernel
theorem dX6_list_42 : decode cX6_list 42 = .ok (.aload_n 0, 1) := by decide +kernel
theorem dX6_list_43 : decode cX6_list 43 = .ok (.aload 4, 2) := by decide +kernel
theorem dX6_list_45 : decode cX6_list 45 = .ok (.invokevirtual 166, 3) := by decide +kernel
theorem dX6_list_48 : decode cX6_list 48 = .ok (.aload 4, 2) := by decide +kernel
theorem dX6_list_50 : decode cX6_list 50 = .ok (.getfield 169, 3) := by decide +kernel
theorem dX6_list_53 : decode cX6_list 53 = .ok (.invokevirtual 171, 3) := by decide +kernel
theorem dX6_list_56 : decode cX6_list 56 = .ok (.pop, 1) := by decide +kernel
theorem dX6_list_57 : decode cX6_list 57 = .ok (.aload_n 0, 1) := by decide +kernel
theorem dX6_list_58 : decode cX6_list 58 = .ok (.bipush 10, 2) := by decide +kernel
theorem dX6_list_60 : decode cX6_list 60 = .ok (.aload 4, 2) := by decide +kernel
theorem dX6_list_62 : decode cX6_list 62 = .ok (.getfield 169, 3) := by decide +kernel
theorem dX6_list_65 : decode cX6_list 65 = .ok (.invokevirtual 95, 3) := by decide +kernel
theorem dX6_list_68 : decode cX6_list 68 = .ok (.athrow, 1) := by decide +kernel
theorem dX6_list_69 : decode cX6_list 69 = .ok (.aload 4, 2) := by decide +kernel
theorem dX6_list_71 : decode cX6_list 71 = .ok (.aload_n 0, 1) := by decide +kernel
theorem dX6_list_72 : decode cX6_list 72 = .ok (.invokevirtual 138, 3) := by decide +kernel
theorem dX6_list_75 : decode cX6_list 75 = .ok (.istore 5, 2) := by decide +kernel
theorem dX6_list_77 : decode cX6_list 77 = .ok (.aload_n 2, 1) := by decide +kernel
theorem dX6_list_78 : decode cX6_list 78 = .ok (.getfield 154, 3) := by decide +kernel
theorem dX6_list_81 : decode cX6_list 81 = .ok (.ifCond .eq 35, 3) := by decide +kernel
theorem dX6_list_84 : decode cX6_list 84 = .ok (.aload_n 0, 1) := by decide +kernel
theorem dX6_list_85 : decode cX6_list 85 = .ok (.getfield 25, 3) := by decide +kernel
theorem dX6_list_88 : decode cX6_list 88 = .ok (.aload_n 2, 1) := by decide +kernel
theorem dX6_list_89 : decode cX6_list 89 = .ok (.getfield 161, 3) := by decide +kernel
theorem dX6_list_92 : decode cX6_list 92 = .ok (.iload_n 3, 1) := by decide +kernel
theorem dX6_list_93 : decode cX6_list 93 = .ok (.iconst 4, 1) := by decide +kernel
theorem dX6_list_94 : decode cX6_list 94 = .ok (.idiv, 1) := by decide +kernel
theorem dX6_list_95 : decode cX6_list 95 = .ok (.iadd, 1) := by decide +kernel
theorem dX6_list_96 : decode cX6_list 96 = .ok (.dup2, 1) := by decide +kernel
theorem dX6_list_97 : decode cX6_list 97 = .ok (.iaload, 1) := by decide +kernel
theorem dX6_list_98 : decode cX6_list 98 = .ok (.iload 5, 2) := by decide +kernel
theorem dX6_list_100 : decode cX6_list 100 = .ok (.sipush 255, 3) := by decide +kernel
theorem dX6_list_103 : decode cX6_list 103 = .ok (.iand, 1) := by decide +kernel
theorem dX6_list_104 : decode cX6_list 104 = .ok (.bipush 8, 2) := by decide +kernel
theorem dX6_list_106 : decode cX6_list 106 = .ok (.iload_n 3, 1) := by decide +kernel
theorem dX6_list_107 : decode cX6_list 107 = .ok (.iconst 4, 1) := by decide +kernel
theorem dX6_list_108 : decode cX6_list 108 = .ok (.irem, 1) := by decide +kernel
theorem dX6_list_109 : decode cX6_list 109 = .ok (.imul, 1) := by decide +kernel
theorem dX6_list_110 : decode cX6_list 110 = .ok (.ishl, 1) := by decide +kernel
theorem dX6_list_111 : decode cX6_list 111 = .ok (.ior, 1) := by decide +kernel
theorem dX6_list_112 : decode cX6_list 112 = .ok (.iastore, 1) := by decide +kernel
theorem dX6_list_113 : decode cX6_list 113 = .ok (.goto 16, 3) := by decide +kernel
theorem dX6_list_116 : decode cX6_list 116 = .ok (.aload_n 0, 1) := by decide +kernel
theorem dX6_list_117 : decode cX6_list 117 = .ok (.getfield 25, 3) := by decide +kernel
theorem dX6_list_120 : decode cX6_list 120 = .ok (.aload_n 2, 1) := by decide +kernel
theorem dX6_list_121 : decode cX6_list 121 = .ok (.getfield 161, 3) := by decide +kernel
theorem dX6_list_124 : decode cX6_list 124 = .ok (.iload_n 3, 1) := by decide +kernel
theorem dX6_list_125 : decode cX6_list 125 = .ok (.iadd, 1) := by decide +kernel
theorem dX6_list_126 : decode cX6_list 126 = .ok (.iload 5, 2) := by decide +kernel
theorem dX6_list_128 : decode cX6_list 128 = .ok (.iastore, 1) := by decide +kernel
theorem dX6_list_129 : decode cX6_list 129 = .ok (.iinc 3 1, 3) := by decide +kernel
theorem dX6_list_132 : decode cX6_list 132 = .ok (.goto (-130), 3) := by decide +kernel
theorem dX6_list_135 : decode cX6_list 135 = .ok (.return_, 1) := by decide +kernel
theorem dX6_main_0 : decode cX6_main 0 = .ok (.iconst 0, 1) := by decide +kernel
theorem dX6_main_1 : decode cX6_main 1 = .ok (.istore_n 1, 1) := by decide +kernel
theorem dX6_main_2 : decode cX6_main 2 = .ok (.iload_n 1, 1) := by decide +kernel
theorem dX6_main_3 : decode cX6_main 3 = .ok (.aload_n 0, 1) := by decide +kernel
theorem dX6_main_4 : decode cX6_main 4 = .ok (.getfield 40, 3) := by decide +kernel
theorem dX6_main_7 : decode cX6_main 7 = .ok (.invokevirtual 55, 3) := by decide +kernel
theorem dX6_main_10 : decode cX6_main 10 = .ok (.if_icmp .ge 39, 3) := by decide +kernel
theorem dX6_main_13 : decode cX6_main 13 = .ok (.aload_n 0, 1) := by decide +kernel
theorem dX6_main_14 : decode cX6_main 14 = .ok (.aload_n 0, 1) := by decide +kernel
theorem dX6_main_15 : decode cX6_main 15 = .ok (.getfield 40, 3) := by decide +kernel
theorem dX6_main_18 : decode cX6_main 18 = .ok (.iload_n 1, 1) := by decide +kernel
theorem dX6_main_19 : decode cX6_main 19 = .ok (.invokevirtual 59, 3) := by decide +kernel
theorem dX6_main_22 : decode cX6_main 22 = .ok (.checkcast 63, 3) := by decide +kernel
theorem dX6_main_25 : decode cX6_main 25 = .ok (.invokevirtual 102, 3) := by decide +kernel
theorem dX6_main_28 : decode cX6_main 28 = .ok (.ifCond .eq 15, 3) := by decide +kernel
theorem dX6_main_31 : decode cX6_main 31 = .ok (.aload_n 0, 1) := by decide +kernel
theorem dX6_main_32 : decode cX6_main 32 = .ok (.getfield 40, 3) := by decide +kernel
theorem dX6_main_35 : decode cX6_main 35 = .ok (.iload_n 1, 1) := by decide +kernel
theorem dX6_main_36 : decode cX6_main 36 = .ok (.invokevirtual 59, 3) := by decide +kernel
theorem dX6_main_39 : decode cX6_main 39 = .ok (.checkcast 63, 3) := by decide +kernel
theorem dX6_main_42 : decode cX6_main 42 = .ok (.areturn, 1) := by decide +kernel
theorem dX6_main_43 : decode cX6_main 43 = .ok (.iinc 1 1, 3) := by decide +kernel
theorem dX6_main_46 : decode cX6_main 46 = .ok (.goto (-44), 3) := by decide +kernel
theorem dX6_main_49 : decode cX6_main 49 = .ok (.aconst_null, 1) := by decide +kernel
theorem dX6_main_50 : decode cX6_main 50 = .ok (.areturn, 1) := by decide +kernel
theorem dX6_isMain_0 : decode cX6_isMain 0 = .ok (.aload_n 1, 1) := by decide +kernel
theorem dX6_isMain_1 : decode cX6_isMain 1 = .ok (.getfield 65, 3) := by decide +kernel
theorem dX6_isMain_4 : decode cX6_isMain 4 = .ok (.bipush 6, 2) := by decide +kernel
theorem dX6_isMain_6 : decode cX6_isMain 6 = .ok (.if_icmp .ne 14, 3) := by decide +kernel
theorem dX6_isMain_9 : decode cX6_isMain 9 = .ok (.aload_n 1, 1) := by decide +kernel
theorem dX6_isMain_10 : decode cX6_isMain 10 = .ok (.getfield 98, 3) := by decide +kernel
theorem dX6_isMain_13 : decode cX6_isMain 13 = .ok (.ifCond .eq 7, 3) := by decide +kernel
theorem dX6_isMain_16 : decode cX6_isMain 16 = .ok (.iconst 1, 1) := by decide +kernel
theorem dX6_isMain_17 : decode cX6_isMain 17 = .ok (.goto 4, 3) := by decide +kernel
theorem dX6_isMain_20 : decode cX6_isMain 20 = .ok (.iconst 0, 1) := by decide +kernel
theorem dX6_isMain_21 : decode cX6_isMain 21 = .ok (.ireturn, 1) := by decide +kernel
